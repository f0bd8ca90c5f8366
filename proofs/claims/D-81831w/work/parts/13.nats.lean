/-! ROWS in naturals -/
set_option maxRecDepth 100000
theorem nI_sub {a b : Nat} (h : b ≤ a) : nI a - nI b = nI (a - b) := pk_sub h
theorem nI_eq0 {a : Nat} (h : a < 2147483648) : nI a = 0 ↔ a = 0 := by
  rw [← nI_0]; exact nI_eq h (by omega)
theorem nI_or (a b : Nat) : nI a ||| nI b = nI (a ||| b) := by
  apply Int32.toBitVec_inj.mp
  simp [nI]
theorem nI_shl1 {k : Nat} (h : k < 31) : nI 1 <<< (nI k &&& 31) = nI (2 ^ k) := by
  have h2 : ∀ j, j < 31 → nI 1 <<< (nI j &&& 31) = nI (2 ^ j) := by decide +kernel
  exact h2 k h
section ZN
variable {p : Program} {l : Launch} {e : Env} {R : Room} {s : State} {m : MethodId} {args : Array Value} {below : List Frame} {meth : Method} {c : Code} {H : Heap} {locs : List Loc} {cells slots : Nat} {Q : State → Prop}
variable {cc : ByteArray} {pc : Nat} {ls : Array Slot} {rest : List Value}
theorem zi_eq {a b : Nat} (hx : p.tables.exec = Jvm.exec) (hb : c.code = cc) (ha : a < 2147483648) (hb' : b < 2147483648) {off : Int} {tgt : Nat} (hdg : decode cc pc = .ok (.if_icmp .eq off, 3)) (ht : (pc : Int) + off = (tgt : Int)) (kt : a = b → W p l e R s m args below meth c H locs cells slots Q (F0 m tgt ls rest)) (kf : a ≠ b → W p l e R s m args below meth c H locs cells slots Q (F0 m (pc + 3) ls rest)) : W p l e R s m args below meth c H locs cells slots Q (F0 m pc ls (.int (nI b) :: .int (nI a) :: rest)) :=
  lv_icmp_eq hx hb hdg ht (fun h => kt ((nI_eq ha hb').mp h)) (fun h => kf (fun q => h ((nI_eq ha hb').mpr q)))
theorem zi_ne {a b : Nat} (hx : p.tables.exec = Jvm.exec) (hb : c.code = cc) (ha : a < 2147483648) (hb' : b < 2147483648) {off : Int} {tgt : Nat} (hdg : decode cc pc = .ok (.if_icmp .ne off, 3)) (ht : (pc : Int) + off = (tgt : Int)) (kt : a ≠ b → W p l e R s m args below meth c H locs cells slots Q (F0 m tgt ls rest)) (kf : a = b → W p l e R s m args below meth c H locs cells slots Q (F0 m (pc + 3) ls rest)) : W p l e R s m args below meth c H locs cells slots Q (F0 m pc ls (.int (nI b) :: .int (nI a) :: rest)) :=
  lv_icmp_ne hx hb hdg ht (fun h => kt (fun q => h ((nI_eq ha hb').mpr q))) (fun h => kf ((nI_eq ha hb').mp h))
theorem zi_lt {a b : Nat} (hx : p.tables.exec = Jvm.exec) (hb : c.code = cc) (ha : a < 2147483648) (hb' : b < 2147483648) {off : Int} {tgt : Nat} (hdg : decode cc pc = .ok (.if_icmp .lt off, 3)) (ht : (pc : Int) + off = (tgt : Int)) (kt : a < b → W p l e R s m args below meth c H locs cells slots Q (F0 m tgt ls rest)) (kf : b ≤ a → W p l e R s m args below meth c H locs cells slots Q (F0 m (pc + 3) ls rest)) : W p l e R s m args below meth c H locs cells slots Q (F0 m pc ls (.int (nI b) :: .int (nI a) :: rest)) :=
  lv_icmp_lt hx hb hdg ht (fun h => kt ((nI_ltI ha hb').mp h)) (fun h => kf (Nat.not_lt.mp (fun q => h ((nI_ltI ha hb').mpr q))))
theorem zi_ge {a b : Nat} (hx : p.tables.exec = Jvm.exec) (hb : c.code = cc) (ha : a < 2147483648) (hb' : b < 2147483648) {off : Int} {tgt : Nat} (hdg : decode cc pc = .ok (.if_icmp .ge off, 3)) (ht : (pc : Int) + off = (tgt : Int)) (kt : b ≤ a → W p l e R s m args below meth c H locs cells slots Q (F0 m tgt ls rest)) (kf : a < b → W p l e R s m args below meth c H locs cells slots Q (F0 m (pc + 3) ls rest)) : W p l e R s m args below meth c H locs cells slots Q (F0 m pc ls (.int (nI b) :: .int (nI a) :: rest)) :=
  lv_icmp_ge hx hb hdg ht (fun h => kt ((nI_leI hb' ha).mp h)) (fun h => kf (Nat.not_le.mp (fun q => h ((nI_leI hb' ha).mpr q))))
theorem zi_gt {a b : Nat} (hx : p.tables.exec = Jvm.exec) (hb : c.code = cc) (ha : a < 2147483648) (hb' : b < 2147483648) {off : Int} {tgt : Nat} (hdg : decode cc pc = .ok (.if_icmp .gt off, 3)) (ht : (pc : Int) + off = (tgt : Int)) (kt : b < a → W p l e R s m args below meth c H locs cells slots Q (F0 m tgt ls rest)) (kf : a ≤ b → W p l e R s m args below meth c H locs cells slots Q (F0 m (pc + 3) ls rest)) : W p l e R s m args below meth c H locs cells slots Q (F0 m pc ls (.int (nI b) :: .int (nI a) :: rest)) :=
  lv_icmp_gt hx hb hdg ht (fun h => kt ((nI_ltI hb' ha).mp h)) (fun h => kf (Nat.not_lt.mp (fun q => h ((nI_ltI hb' ha).mpr q))))
theorem zi_le {a b : Nat} (hx : p.tables.exec = Jvm.exec) (hb : c.code = cc) (ha : a < 2147483648) (hb' : b < 2147483648) {off : Int} {tgt : Nat} (hdg : decode cc pc = .ok (.if_icmp .le off, 3)) (ht : (pc : Int) + off = (tgt : Int)) (kt : a ≤ b → W p l e R s m args below meth c H locs cells slots Q (F0 m tgt ls rest)) (kf : b < a → W p l e R s m args below meth c H locs cells slots Q (F0 m (pc + 3) ls rest)) : W p l e R s m args below meth c H locs cells slots Q (F0 m pc ls (.int (nI b) :: .int (nI a) :: rest)) :=
  lv_icmp_le hx hb hdg ht (fun h => kt ((nI_leI ha hb').mp h)) (fun h => kf (Nat.not_le.mp (fun q => h ((nI_leI ha hb').mpr q))))
theorem zj_eq {a : Nat} (hx : p.tables.exec = Jvm.exec) (hb : c.code = cc) (ha : a < 2147483648) {off : Int} {tgt : Nat} (hdg : decode cc pc = .ok (.ifCond .eq off, 3)) (ht : (pc : Int) + off = (tgt : Int)) (kt : a = 0 → W p l e R s m args below meth c H locs cells slots Q (F0 m tgt ls rest)) (kf : a ≠ 0 → W p l e R s m args below meth c H locs cells slots Q (F0 m (pc + 3) ls rest)) : W p l e R s m args below meth c H locs cells slots Q (F0 m pc ls (.int (nI a) :: rest)) :=
  lv_if_eq hx hb hdg ht (fun h => kt ((nI_eq0 ha).mp h)) (fun h => kf (fun q => h ((nI_eq0 ha).mpr q)))
theorem zj_ne {a : Nat} (hx : p.tables.exec = Jvm.exec) (hb : c.code = cc) (ha : a < 2147483648) {off : Int} {tgt : Nat} (hdg : decode cc pc = .ok (.ifCond .ne off, 3)) (ht : (pc : Int) + off = (tgt : Int)) (kt : a ≠ 0 → W p l e R s m args below meth c H locs cells slots Q (F0 m tgt ls rest)) (kf : a = 0 → W p l e R s m args below meth c H locs cells slots Q (F0 m (pc + 3) ls rest)) : W p l e R s m args below meth c H locs cells slots Q (F0 m pc ls (.int (nI a) :: rest)) :=
  lv_if_ne hx hb hdg ht (fun h => kt (fun q => h ((nI_eq0 ha).mpr q))) (fun h => kf ((nI_eq0 ha).mp h))
theorem zj_gt {a : Nat} (hx : p.tables.exec = Jvm.exec) (hb : c.code = cc) (ha : a < 2147483648) {off : Int} {tgt : Nat} (hdg : decode cc pc = .ok (.ifCond .gt off, 3)) (ht : (pc : Int) + off = (tgt : Int)) (kt : 0 < a → W p l e R s m args below meth c H locs cells slots Q (F0 m tgt ls rest)) (kf : a = 0 → W p l e R s m args below meth c H locs cells slots Q (F0 m (pc + 3) ls rest)) : W p l e R s m args below meth c H locs cells slots Q (F0 m pc ls (.int (nI a) :: rest)) :=
  lv_if_gt hx hb hdg ht (fun h => kt (Nat.pos_of_ne_zero (fun q => absurd h (by rw [q]; decide)))) (fun h => kf (Decidable.byContradiction (fun q => h (by rw [← nI_0]; exact nI_lt (Nat.pos_of_ne_zero q) ha))))
theorem zj_le {a : Nat} (hx : p.tables.exec = Jvm.exec) (hb : c.code = cc) (ha : a < 2147483648) {off : Int} {tgt : Nat} (hdg : decode cc pc = .ok (.ifCond .le off, 3)) (ht : (pc : Int) + off = (tgt : Int)) (kt : a = 0 → W p l e R s m args below meth c H locs cells slots Q (F0 m tgt ls rest)) (kf : 0 < a → W p l e R s m args below meth c H locs cells slots Q (F0 m (pc + 3) ls rest)) : W p l e R s m args below meth c H locs cells slots Q (F0 m pc ls (.int (nI a) :: rest)) :=
  lv_if_le hx hb hdg ht (fun h => kt (Decidable.byContradiction (fun q => nI_nle (Nat.pos_of_ne_zero q) ha h))) (fun h => kf (Nat.pos_of_ne_zero (fun q => h (by rw [q]; decide))))
theorem zj_ge {a : Nat} (hx : p.tables.exec = Jvm.exec) (hb : c.code = cc) (ha : a < 2147483648) {off : Int} {tgt : Nat} (hdg : decode cc pc = .ok (.ifCond .ge off, 3)) (ht : (pc : Int) + off = (tgt : Int)) (kt : W p l e R s m args below meth c H locs cells slots Q (F0 m tgt ls rest)) : W p l e R s m args below meth c H locs cells slots Q (F0 m pc ls (.int (nI a) :: rest)) :=
  lv_if_ge hx hb hdg ht (fun _ => kt) (fun h => absurd (nI_pos' ha) h)
theorem zj_lt {a : Nat} (hx : p.tables.exec = Jvm.exec) (hb : c.code = cc) (ha : a < 2147483648) {off : Int} {tgt : Nat} (hdg : decode cc pc = .ok (.ifCond .lt off, 3)) (ht : (pc : Int) + off = (tgt : Int)) (kf : W p l e R s m args below meth c H locs cells slots Q (F0 m (pc + 3) ls rest)) : W p l e R s m args below meth c H locs cells slots Q (F0 m pc ls (.int (nI a) :: rest)) :=
  lv_if_lt hx hb hdg ht (fun h => absurd h (nI_pos ha)) (fun _ => kf)
theorem zn_iadd {a b : Nat} (hx : p.tables.exec = Jvm.exec) (hb : c.code = cc) (hdg : decode cc pc = .ok (.iadd, 1)) (k : W p l e R s m args below meth c H locs cells slots Q (F0 m (pc + 1) ls (.int (nI (a + b)) :: rest))) : W p l e R s m args below meth c H locs cells slots Q (F0 m pc ls (.int (nI b) :: .int (nI a) :: rest)) :=
  lv_iadd hx hb hdg (by rw [nI_add]; exact k)
theorem zn_imul {a b : Nat} (hx : p.tables.exec = Jvm.exec) (hb : c.code = cc) (hdg : decode cc pc = .ok (.imul, 1)) (k : W p l e R s m args below meth c H locs cells slots Q (F0 m (pc + 1) ls (.int (nI (a * b)) :: rest))) : W p l e R s m args below meth c H locs cells slots Q (F0 m pc ls (.int (nI b) :: .int (nI a) :: rest)) :=
  lv_imul hx hb hdg (by rw [pk_mul]; exact k)
theorem zn_isub {a b : Nat} (hx : p.tables.exec = Jvm.exec) (hb : c.code = cc) (h : b ≤ a) (hdg : decode cc pc = .ok (.isub, 1)) (k : W p l e R s m args below meth c H locs cells slots Q (F0 m (pc + 1) ls (.int (nI (a - b)) :: rest))) : W p l e R s m args below meth c H locs cells slots Q (F0 m pc ls (.int (nI b) :: .int (nI a) :: rest)) :=
  lv_isub hx hb hdg (by rw [nI_sub h]; exact k)
theorem zv_iadd {x y v : Int32} (hx : p.tables.exec = Jvm.exec) (hb : c.code = cc) (hv : x + y = v) (hdg : decode cc pc = .ok (.iadd, 1)) (k : W p l e R s m args below meth c H locs cells slots Q (F0 m (pc + 1) ls (.int v :: rest))) : W p l e R s m args below meth c H locs cells slots Q (F0 m pc ls (.int y :: .int x :: rest)) :=
  lv_iadd hx hb hdg (by rw [hv]; exact k)
theorem zv_isub {x y v : Int32} (hx : p.tables.exec = Jvm.exec) (hb : c.code = cc) (hv : x - y = v) (hdg : decode cc pc = .ok (.isub, 1)) (k : W p l e R s m args below meth c H locs cells slots Q (F0 m (pc + 1) ls (.int v :: rest))) : W p l e R s m args below meth c H locs cells slots Q (F0 m pc ls (.int y :: .int x :: rest)) :=
  lv_isub hx hb hdg (by rw [hv]; exact k)
theorem zv_imul {x y v : Int32} (hx : p.tables.exec = Jvm.exec) (hb : c.code = cc) (hv : x * y = v) (hdg : decode cc pc = .ok (.imul, 1)) (k : W p l e R s m args below meth c H locs cells slots Q (F0 m (pc + 1) ls (.int v :: rest))) : W p l e R s m args below meth c H locs cells slots Q (F0 m pc ls (.int y :: .int x :: rest)) :=
  lv_imul hx hb hdg (by rw [hv]; exact k)
theorem zv_iand {x y v : Int32} (hx : p.tables.exec = Jvm.exec) (hb : c.code = cc) (hv : x &&& y = v) (hdg : decode cc pc = .ok (.iand, 1)) (k : W p l e R s m args below meth c H locs cells slots Q (F0 m (pc + 1) ls (.int v :: rest))) : W p l e R s m args below meth c H locs cells slots Q (F0 m pc ls (.int y :: .int x :: rest)) :=
  lv_iand hx hb hdg (by rw [hv]; exact k)
theorem zv_ior {x y v : Int32} (hx : p.tables.exec = Jvm.exec) (hb : c.code = cc) (hv : x ||| y = v) (hdg : decode cc pc = .ok (.ior, 1)) (k : W p l e R s m args below meth c H locs cells slots Q (F0 m (pc + 1) ls (.int v :: rest))) : W p l e R s m args below meth c H locs cells slots Q (F0 m pc ls (.int y :: .int x :: rest)) :=
  lv_ior hx hb hdg (by rw [hv]; exact k)
theorem zv_ixor {x y v : Int32} (hx : p.tables.exec = Jvm.exec) (hb : c.code = cc) (hv : x ^^^ y = v) (hdg : decode cc pc = .ok (.ixor, 1)) (k : W p l e R s m args below meth c H locs cells slots Q (F0 m (pc + 1) ls (.int v :: rest))) : W p l e R s m args below meth c H locs cells slots Q (F0 m pc ls (.int y :: .int x :: rest)) :=
  lv_ixor hx hb hdg (by rw [hv]; exact k)
theorem zv_ishl {x y v : Int32} (hx : p.tables.exec = Jvm.exec) (hb : c.code = cc) (hv : x <<< (y &&& 31) = v) (hdg : decode cc pc = .ok (.ishl, 1)) (k : W p l e R s m args below meth c H locs cells slots Q (F0 m (pc + 1) ls (.int v :: rest))) : W p l e R s m args below meth c H locs cells slots Q (F0 m pc ls (.int y :: .int x :: rest)) :=
  lv_ishl hx hb hdg (by rw [hv]; exact k)
theorem zv_ishr {x y v : Int32} (hx : p.tables.exec = Jvm.exec) (hb : c.code = cc) (hv : x >>> (y &&& 31) = v) (hdg : decode cc pc = .ok (.ishr, 1)) (k : W p l e R s m args below meth c H locs cells slots Q (F0 m (pc + 1) ls (.int v :: rest))) : W p l e R s m args below meth c H locs cells slots Q (F0 m pc ls (.int y :: .int x :: rest)) :=
  lv_ishr hx hb hdg (by rw [hv]; exact k)
theorem zn_idiv {a b : Nat} (hx : p.tables.exec = Jvm.exec) (hb : c.code = cc) (ha : a < 2147483648) (h0 : 0 < b) (hb2 : b < 2147483648) (hdg : decode cc pc = .ok (.idiv, 1)) (k : W p l e R s m args below meth c H locs cells slots Q (F0 m (pc + 1) ls (.int (nI (a / b)) :: rest))) : W p l e R s m args below meth c H locs cells slots Q (F0 m pc ls (.int (nI b) :: .int (nI a) :: rest)) :=
  lv_idiv hx hb hdg (nI_ne0 h0 hb2) (by rw [pk_div ha h0 hb2]; exact k)
theorem zn_irem {a b : Nat} (hx : p.tables.exec = Jvm.exec) (hb : c.code = cc) (ha : a < 2147483648) (h0 : 0 < b) (hb2 : b < 2147483648) (hdg : decode cc pc = .ok (.irem, 1)) (k : W p l e R s m args below meth c H locs cells slots Q (F0 m (pc + 1) ls (.int (nI (a % b)) :: rest))) : W p l e R s m args below meth c H locs cells slots Q (F0 m pc ls (.int (nI b) :: .int (nI a) :: rest)) :=
  lv_irem hx hb hdg (nI_ne0 h0 hb2) (by rw [pk_rem ha h0 hb2]; exact k)
theorem zn_ineg {x v : Int32} (hx : p.tables.exec = Jvm.exec) (hb : c.code = cc) (hv : -x = v) (hdg : decode cc pc = .ok (.ineg, 1)) (k : W p l e R s m args below meth c H locs cells slots Q (F0 m (pc + 1) ls (.int v :: rest))) : W p l e R s m args below meth c H locs cells slots Q (F0 m pc ls (.int x :: rest)) :=
  lv_ineg hx hb hdg (by rw [hv]; exact k)
end ZN
theorem zk_m1 : Int32.ofInt (-1) = -1 := by decide +kernel
theorem zk_0 : Int32.ofInt (0) = nI 0 := by decide +kernel
theorem zk_1 : Int32.ofInt (1) = nI 1 := by decide +kernel
theorem zk_2 : Int32.ofInt (2) = nI 2 := by decide +kernel
theorem zk_3 : Int32.ofInt (3) = nI 3 := by decide +kernel
theorem zk_4 : Int32.ofInt (4) = nI 4 := by decide +kernel
theorem zk_5 : Int32.ofInt (5) = nI 5 := by decide +kernel
theorem zb_9 : (Int8.ofInt 9).toInt32 = nI 9 := by decide +kernel
theorem zb_10 : (Int8.ofInt 10).toInt32 = nI 10 := by decide +kernel
theorem zb_12 : (Int8.ofInt 12).toInt32 = nI 12 := by decide +kernel
theorem zb_20 : (Int8.ofInt 20).toInt32 = nI 20 := by decide +kernel
theorem zb_46 : (Int8.ofInt 46).toInt32 = nI 46 := by decide +kernel
theorem zb_60 : (Int8.ofInt 60).toInt32 = nI 60 := by decide +kernel
theorem zb_61 : (Int8.ofInt 61).toInt32 = nI 61 := by decide +kernel
theorem zb_92 : (Int8.ofInt 92).toInt32 = nI 92 := by decide +kernel
theorem zb_99 : (Int8.ofInt 99).toInt32 = nI 99 := by decide +kernel
theorem zb_100 : (Int8.ofInt 100).toInt32 = nI 100 := by decide +kernel
theorem zb_127 : (Int8.ofInt 127).toInt32 = nI 127 := by decide +kernel
theorem zb_6 : (Int8.ofInt 6).toInt32 = nI 6 := by decide +kernel
theorem zb_7 : (Int8.ofInt 7).toInt32 = nI 7 := by decide +kernel
theorem zb_8 : (Int8.ofInt 8).toInt32 = nI 8 := by decide +kernel
theorem zb_11 : (Int8.ofInt 11).toInt32 = nI 11 := by decide +kernel
theorem zb_13 : (Int8.ofInt 13).toInt32 = nI 13 := by decide +kernel
theorem zb_14 : (Int8.ofInt 14).toInt32 = nI 14 := by decide +kernel
theorem zb_15 : (Int8.ofInt 15).toInt32 = nI 15 := by decide +kernel
theorem zb_16 : (Int8.ofInt 16).toInt32 = nI 16 := by decide +kernel
theorem zb_17 : (Int8.ofInt 17).toInt32 = nI 17 := by decide +kernel
theorem zb_18 : (Int8.ofInt 18).toInt32 = nI 18 := by decide +kernel
theorem zb_19 : (Int8.ofInt 19).toInt32 = nI 19 := by decide +kernel
theorem zb_21 : (Int8.ofInt 21).toInt32 = nI 21 := by decide +kernel
theorem zb_22 : (Int8.ofInt 22).toInt32 = nI 22 := by decide +kernel
theorem zb_23 : (Int8.ofInt 23).toInt32 = nI 23 := by decide +kernel
theorem zb_24 : (Int8.ofInt 24).toInt32 = nI 24 := by decide +kernel
theorem zb_25 : (Int8.ofInt 25).toInt32 = nI 25 := by decide +kernel
theorem zb_26 : (Int8.ofInt 26).toInt32 = nI 26 := by decide +kernel
theorem zb_27 : (Int8.ofInt 27).toInt32 = nI 27 := by decide +kernel
theorem zb_30 : (Int8.ofInt 30).toInt32 = nI 30 := by decide +kernel
theorem zb_32 : (Int8.ofInt 32).toInt32 = nI 32 := by decide +kernel
theorem zb_36 : (Int8.ofInt 36).toInt32 = nI 36 := by decide +kernel
theorem zb_40 : (Int8.ofInt 40).toInt32 = nI 40 := by decide +kernel
theorem zb_48 : (Int8.ofInt 48).toInt32 = nI 48 := by decide +kernel
theorem zb_50 : (Int8.ofInt 50).toInt32 = nI 50 := by decide +kernel
theorem zb_57 : (Int8.ofInt 57).toInt32 = nI 57 := by decide +kernel
theorem zb_59 : (Int8.ofInt 59).toInt32 = nI 59 := by decide +kernel
theorem zb_63 : (Int8.ofInt 63).toInt32 = nI 63 := by decide +kernel
theorem zb_95 : (Int8.ofInt 95).toInt32 = nI 95 := by decide +kernel
theorem zb_96 : (Int8.ofInt 96).toInt32 = nI 96 := by decide +kernel
theorem zb_97 : (Int8.ofInt 97).toInt32 = nI 97 := by decide +kernel
theorem zb_98 : (Int8.ofInt 98).toInt32 = nI 98 := by decide +kernel
theorem zb_90 : (Int8.ofInt 90).toInt32 = nI 90 := by decide +kernel
theorem zb_101 : (Int8.ofInt 101).toInt32 = nI 101 := by decide +kernel
theorem zb_102 : (Int8.ofInt 102).toInt32 = nI 102 := by decide +kernel
theorem zb_103 : (Int8.ofInt 103).toInt32 = nI 103 := by decide +kernel
theorem zb_104 : (Int8.ofInt 104).toInt32 = nI 104 := by decide +kernel
theorem zb_105 : (Int8.ofInt 105).toInt32 = nI 105 := by decide +kernel
theorem zb_106 : (Int8.ofInt 106).toInt32 = nI 106 := by decide +kernel
theorem zb_107 : (Int8.ofInt 107).toInt32 = nI 107 := by decide +kernel
theorem zb_108 : (Int8.ofInt 108).toInt32 = nI 108 := by decide +kernel
theorem zb_109 : (Int8.ofInt 109).toInt32 = nI 109 := by decide +kernel
theorem zb_110 : (Int8.ofInt 110).toInt32 = nI 110 := by decide +kernel
theorem zb_111 : (Int8.ofInt 111).toInt32 = nI 111 := by decide +kernel
theorem zb_112 : (Int8.ofInt 112).toInt32 = nI 112 := by decide +kernel
theorem zb_113 : (Int8.ofInt 113).toInt32 = nI 113 := by decide +kernel
theorem zb_114 : (Int8.ofInt 114).toInt32 = nI 114 := by decide +kernel
theorem zb_115 : (Int8.ofInt 115).toInt32 = nI 115 := by decide +kernel
theorem zb_116 : (Int8.ofInt 116).toInt32 = nI 116 := by decide +kernel
theorem zb_117 : (Int8.ofInt 117).toInt32 = nI 117 := by decide +kernel
theorem zb_118 : (Int8.ofInt 118).toInt32 = nI 118 := by decide +kernel
theorem zb_119 : (Int8.ofInt 119).toInt32 = nI 119 := by decide +kernel
theorem zb_120 : (Int8.ofInt 120).toInt32 = nI 120 := by decide +kernel
theorem zb_121 : (Int8.ofInt 121).toInt32 = nI 121 := by decide +kernel
theorem zb_122 : (Int8.ofInt 122).toInt32 = nI 122 := by decide +kernel
theorem zb_m2 : (Int8.ofInt (-2)).toInt32 = -2 := by decide +kernel
theorem zb_m3 : (Int8.ofInt (-3)).toInt32 = -3 := by decide +kernel
theorem zb_m4 : (Int8.ofInt (-4)).toInt32 = -4 := by decide +kernel
theorem zb_m5 : (Int8.ofInt (-5)).toInt32 = -5 := by decide +kernel
theorem zb_m11 : (Int8.ofInt (-11)).toInt32 = -11 := by decide +kernel
theorem zb_m12 : (Int8.ofInt (-12)).toInt32 = -12 := by decide +kernel
theorem zb_m13 : (Int8.ofInt (-13)).toInt32 = -13 := by decide +kernel
theorem zb_m14 : (Int8.ofInt (-14)).toInt32 = -14 := by decide +kernel
theorem zb_m15 : (Int8.ofInt (-15)).toInt32 = -15 := by decide +kernel
theorem zs_200 : (Int16.ofInt 200).toInt32 = nI 200 := by decide +kernel
theorem zs_255 : (Int16.ofInt 255).toInt32 = nI 255 := by decide +kernel
theorem zs_999 : (Int16.ofInt 999).toInt32 = nI 999 := by decide +kernel
theorem zs_368 : (Int16.ofInt 368).toInt32 = nI 368 := by decide +kernel
theorem zs_300 : (Int16.ofInt 300).toInt32 = nI 300 := by decide +kernel
theorem zs_322 : (Int16.ofInt 322).toInt32 = nI 322 := by decide +kernel
theorem zs_9999 : (Int16.ofInt 9999).toInt32 = nI 9999 := by decide +kernel
theorem zs_10000 : (Int16.ofInt 10000).toInt32 = nI 10000 := by decide +kernel
theorem zs_m9999 : (Int16.ofInt (-9999)).toInt32 = -9999 := by decide +kernel
