/-! TRAILS: things made and taken -/
set_option maxRecDepth 100000
/-- classes that the things of a trail are not of -/
def cNt : List (String × String) := [("java/lang/Integer", "NutCaches$Squirrel"), ("java/lang/Integer", "java/lang/Byte"), ("java/lang/Byte", "java/lang/Integer"), ("java/lang/Byte", "NutCaches$Squirrel"), ("NutCaches$Plain", "java/lang/Integer"), ("NutCaches$Greedy", "java/lang/Integer"), ("NutCaches$Neat", "java/lang/Integer"), ("NutCaches$Dozy", "java/lang/Integer"), ("NutCaches$Spy", "java/lang/Integer"), ("NutCaches$Plain", "java/lang/Byte"), ("NutCaches$Greedy", "java/lang/Byte"), ("NutCaches$Neat", "java/lang/Byte"), ("NutCaches$Dozy", "java/lang/Byte"), ("NutCaches$Spy", "java/lang/Byte")]
def zN9 (G : zE) : Prop := ∀ U : State, G.2.2.2 U → ∀ q ∈ cNt, va_Nc q.1 q.2 U
theorem zb_m128 : (Int8.ofInt (-128)).toInt32 = -128 := by decide +kernel
theorem zs_128 : (Int16.ofInt 128).toInt32 = nI 128 := by decide +kernel
section ZK
variable {p : Program} {l : Launch} {e : Env} {R : Room} {s : State} {m : MethodId} {args : Array Value} {below : List Frame} {meth : Method} {c : Code} {H : Heap} {locs : List Loc} {cells slots : Nat} {Q : State → Prop}
variable {cc : ByteArray} {pc : Nat} {ls : Array Slot} {rest st0 : List Value} {G : zE} {ws wc : va_W} {own : String} {nL : Nat} {y : MethodName} {bytes : ByteArray} {maxL : Nat} {ret : Option FieldType} {index b n : Nat} {As : List Value} {k mc ms : Nat} {Qc : Array Value → State → Outcome → State → Prop}
theorem z_hrK {C : String} {q : Nat} (h : va_O C q (zA G) s s.heap) (hw : zS G ws s H locs) : ∃ cell : Cell, H[q]? = some cell ∧ cell.vm.isStatics = false ∧ s.vm.findClass C = some cell.cls := by
  obtain ⟨cell, a1, a2, a3, -⟩ := h.kept hw.2.2.2.1
  exact ⟨cell, a1, a2, a3⟩
theorem z_runVK {C : String} (hC : zCx G own cc nL p s m args meth c) (hv : zVs own index y bytes maxL ret n) (hM : Met l y (ws_ y bytes maxL ret) (zR k mc ms) (va_Pc (.ref b :: As) (zU G wc)) Qc mc ms (zA G)) (hwc : zS G wc s H locs) (hr : ∃ cell : Cell, H[b]? = some cell ∧ cell.vm.isStatics = false ∧ s.vm.findClass C = some cell.cls) (hqc : C = y.cls) (hlen : As.length = n) (hst : st0 = As.reverse ++ .ref b :: rest) (hcat : (rest.map fun v => v.category).sum ≤ 8) (hls : ls.size = nL)
    (hR : k + 1 ≤ R.frames ∧ 8 + (maxL + 11) + 40 * k ≤ R.locals) (hf : cells + mc ≤ R.cells ∧ slots + ms ≤ R.slots) (hdg : decode cc pc = .ok (.invokevirtual index, 3)) :
    va_Run p l e R s m args below meth c H locs cells slots mc ms (F0 m pc ls st0) rest (Qc (Value.ref b :: As).toArray) (zA G) := by
  subst hst
  obtain ⟨h1, h2, h3⟩ := hv
  exact va_runV (As := As) (rest := rest) hC.fix hM (cwV n hC.hts h1 rfl rfl rfl ⟨rfl, h2.1, h2.2, h3⟩ hR) ⟨zU_blind, by rw [← hqc]; exact hr, fun U hU hW => ⟨rfl, zU_of hwc hC.hK hC.hN hU hW⟩⟩ rfl hlen hls rfl (lv_room hcat) hdg hf
end ZK
theorem vi_lo {j : Nat} (h : j < 256) : ¬ (nI j - nI 128 < -128) := by
  rw [Int32.not_lt, Int32.le_iff_toInt_le, Int32.toInt_sub, nI_toInt (by omega), nI_toInt (by omega)]
  rw [Int.bmod_eq_of_le (by omega) (by omega)]
  show (-128 : Int) ≤ _
  omega
theorem vi_hi {j : Nat} (h : j < 256) : ¬ (nI 127 < nI j - nI 128) := by
  rw [Int32.not_lt, Int32.le_iff_toInt_le, Int32.toInt_sub, nI_toInt (by omega), nI_toInt (by omega), nI_toInt (by omega)]
  rw [Int.bmod_eq_of_le (by omega) (by omega)]
  omega
theorem vi_add {j : Nat} : nI j - nI 128 + nI 128 = nI j := Int32.sub_add_cancel _ _
theorem vi_in {v : Int32} (h1 : ¬ v < -128) (h2 : ¬ nI 127 < v) : ∃ j, j < 256 ∧ v = nI j - nI 128 := by
  rw [Int32.not_lt, Int32.le_iff_toInt_le] at h1 h2
  rw [nI_toInt (by omega)] at h2
  have h1 : (-128 : Int) ≤ v.toInt := h1
  refine ⟨(v.toInt + 128).toNat, by omega, ?_⟩
  apply Int32.toInt_inj.mp
  rw [Int32.toInt_sub, nI_toInt (by omega), nI_toInt (by omega), Int.bmod_eq_of_le (by omega) (by omega)]
  omega
theorem vb_byte {k : Nat} (h : k < 128) : vb_c (128 + k) = nI k := by
  show nI (128 + k) - nI 128 = nI k
  rw [nI_sub (by omega)]; congr 1; omega
theorem nar_byte {k : Nat} (h : k < 128) : narrow .byte (.int (nI k)) = .int (nI k) := by
  show Value.int (nI k).toInt8.toInt32 = _
  rw [nI_inj8 k h]
theorem z_byO {kA : Nat → Nat} {C : String} {j : Nat} {A : Nat → Prop} {U : State} {H : Heap} (h : va_O C (kA (400 + (128 + j))) A U H) : va_O C (kA (528 + j)) A U H := by rw [show 400 + (128 + j) = 528 + j by omega] at h; exact h
theorem z_byt {kA : Nat → Nat} {o n d : String} {j : Nat} {A : Nat → Prop} {U : State} {H : Heap} (hj : j < 10) (h : va_OF o n d (.int (vb_c (128 + j))) (kA (400 + (128 + j))) A U H) : va_OF o n d (.int (nI j)) (kA (528 + j)) A U H := by rw [show 400 + (128 + j) = 528 + j by omega, vb_byte (by omega)] at h; exact h
set_option maxHeartbeats 4000000 in
theorem m_J18_intValue_k (G : zE) (l : Launch) (kA : Nat → Nat) (hG : zG G kA) (hV : zV G kA) (j : Nat) (hj : j < 256) (rest : va_W) : zMi G l yJ18_intValue cJ18_intValue 1 (some .int) 0 0 0 [.ref (kA (100 + j))] (rest) (fun (r : Int32) (_ : Unit) => r = nI j - nI 128) (fun (_ : Unit) => rest) := by
  refine z_begI (by decide) (Nat.le_of_ble_eq_true rfl) (fun p e s m args below meth c ls Q hC hl hw hend => ?_)
  have hx := hC.hx
  have hb := hC.hb
  have hl : lv_has ls 1 [(0, .ref (kA (100 + j)))] := hl
  have hz := hG s hC.hZ.1
  have hzv := hV s hC.hZ.1
  refine lv_aload_n hx hb dJ18_intValue_0 rfl (lv_at hl 0 rfl) ?_
  refine z_getfK (v := .int (nI j - nI 128)) hC (hzv.2.1.2.2.2 j hj).2 hw q1582 dJ18_intValue_1 ?_
  exact hend _ _ _ _ _ _ _ () hw (by first | rfl | simp_all) (Nat.le_of_ble_eq_true rfl) (Nat.le_of_ble_eq_true rfl) dJ18_intValue_4
theorem zf_J18_205_13 : zFl 13 0 RJ18 205 true .int := ⟨RJ18, TJ18, 1, tyJ18, rfl, by decide, in_J18, q1582, rfl, by decide +kernel, tyJ18_ok, nmJ18⟩
set_option maxHeartbeats 4000000 in
theorem m_J18_intValue_o (G : zE) (l : Launch) (q9 : Nat) (v : Int32) (rest : va_W) : zMi G l yJ18_intValue cJ18_intValue 1 (some .int) 0 0 0 [.ref q9] ((q9, zo 13 [.int v]) :: rest) (fun (r : Int32) (_ : Unit) => r = v) (fun (_ : Unit) => (q9, zo 13 [.int v]) :: rest) := by
  refine z_begI (by decide) (Nat.le_of_ble_eq_true rfl) (fun p e s m args below meth c ls Q hC hl hw hend => ?_)
  have hx := hC.hx
  have hb := hC.hb
  have hl : lv_has ls 1 [(0, .ref q9)] := hl
  have hw : zS G ((q9, zo 13 [.int v]) :: rest) s s.heap [] := hw
  refine lv_aload_n hx hb dJ18_intValue_0 rfl (lv_at hl 0 rfl) ?_
  refine z_get (v := .int v) hC zf_J18_205_13 hw 0 rfl rfl dJ18_intValue_1 ?_
  exact hend _ _ _ _ _ _ _ () hw (by first | rfl | simp_all) (Nat.le_of_ble_eq_true rfl) (Nat.le_of_ble_eq_true rfl) dJ18_intValue_4
set_option maxHeartbeats 4000000 in
theorem m_J29_byteValue (G : zE) (l : Launch) (kA : Nat → Nat) (hG : zG G kA) (hV : zV G kA) (j : Nat) (hj : j < 10) (rest : va_W) : zMi G l yJ29_byteValue cJ29_byteValue 1 (some .byte) 0 0 0 [.ref (kA (528 + j))] (rest) (fun (r : Int32) (_ : Unit) => r = nI j) (fun (_ : Unit) => rest) := by
  refine z_begZ (by decide) (Nat.le_of_ble_eq_true rfl) (fun p e s m args below meth c ls Q hC hl hw hend => ?_)
  have hx := hC.hx
  have hb := hC.hb
  have hl : lv_has ls 1 [(0, .ref (kA (528 + j)))] := hl
  have hz := hG s hC.hZ.1
  have hzv := hV s hC.hZ.1
  refine lv_aload_n hx hb dJ29_byteValue_0 rfl (lv_at hl 0 rfl) ?_
  refine z_getfK (v := .int (nI j)) hC (z_byt hj ((hzv.2.2.1.2.2 (128 + j) (by omega)).2)) hw q2242 dJ29_byteValue_1 ?_
  exact hend _ _ _ _ _ _ _ () (nar_byte (by omega)) hw rfl (Nat.le_of_ble_eq_true rfl) (Nat.le_of_ble_eq_true rfl) dJ29_byteValue_4
set_option maxHeartbeats 4000000 in
theorem m_J17_init (G : zE) (l : Launch) (q9 : Nat) (rest : va_W) : zMv G l yJ17_init cJ17_init 1 1 0 0 [.ref q9] (rest) (fun (_ : Unit) => True) (fun (_ : Unit) => rest) := by
  refine z_begV (by decide) (Nat.le_of_ble_eq_true rfl) (fun p e s m args below meth c ls Q hC hnm hl hw hend => ?_)
  have hx := hC.hx
  have hb := hC.hb
  have hl : lv_has ls 1 [(0, .ref q9)] := hl
  refine lv_aload_n hx hb dJ17_init_0 rfl (lv_at hl 0 rfl) ?_
  refine W.objInit hx hb hC.hown (hC.hts _ q1581) (hC.hts _ q102) (hC.hts _ q103) rfl (by rw [hC.hml]; exact hl.1) rfl dJ17_init_1 (Nat.le_of_ble_eq_true rfl) (Nat.le_of_ble_eq_true rfl) ?_
  refine W.eq (g2 := F0 m 4 ls []) rfl ?_
  exact hend _ _ _ _ _ _ () hw trivial (Nat.le_of_ble_eq_true rfl) (Nat.le_of_ble_eq_true rfl) dJ17_init_4
theorem zx_J18_202 : zIs RJ18 202 yJ17_init cJ17_init 1 0 := ⟨⟨q1580, q72, q1578, q1579, rfl⟩, ⟨by decide +kernel, by decide +kernel⟩, by decide +kernel⟩
set_option maxHeartbeats 4000000 in
theorem m_J18_init (G : zE) (l : Launch) (q9 : Nat) (v : Int32) (rest : va_W) : zMv G l yJ18_init cJ18_init 2 2 0 0 [.ref q9, .int v] ((q9, zo 13 [.int 0]) :: rest) (fun (_ : Unit) => True) (fun (_ : Unit) => (q9, zo 13 [.int v]) :: rest) := by
  refine z_begV (by decide) (Nat.le_of_ble_eq_true rfl) (fun p e s m args below meth c ls Q hC hnm hl hw hend => ?_)
  have hx := hC.hx
  have hb := hC.hb
  have hl : lv_has ls 2 [(0, .ref q9), (1, .int v)] := hl
  have hw : zS G ((q9, zo 13 [.int 0]) :: rest) s s.heap [] := hw
  refine lv_aload_n hx hb dJ18_init_0 rfl (lv_at hl 0 rfl) ?_
  refine z_cv (z_runI (As := []) (rest := []) hC zx_J18_202 (m_J17_init G l q9 _) hw rfl rfl (Nat.le_of_ble_eq_true rfl) hl.1 ⟨Nat.le_of_ble_eq_true rfl, Nat.le_of_ble_eq_true rfl⟩ ⟨(Nat.le_of_ble_eq_true rfl), (Nat.le_of_ble_eq_true rfl)⟩ dJ18_init_1) hw (fun _ => List.Perm.refl _) (fun u H locs hp hw => ?_)
  refine lv_aload_n hx hb dJ18_init_4 rfl (lv_at hl 0 rfl) ?_
  refine lv_iload_n hx hb dJ18_init_5 rfl (lv_at hl 1 rfl) ?_
  refine z_putF hC zf_J18_205_13 ⟨_, rfl, rfl⟩ hnm hw 0 rfl rfl rfl (Nat.le_of_ble_eq_true rfl) dJ18_init_6 (fun H locs hw => ?_)
  have hw : zS G ((q9, zo 13 [.int v]) :: rest) s H locs := hw
  exact hend _ _ _ _ _ _ () hw trivial (Nat.le_of_ble_eq_true rfl) (Nat.le_of_ble_eq_true rfl) dJ18_init_9
theorem zx_J18_199 : zIs RJ18 199 yJ18_init cJ18_init 2 1 := ⟨⟨q1577, q73, q1575, q1576, rfl⟩, ⟨by decide +kernel, by decide +kernel⟩, by decide +kernel⟩
set_option maxHeartbeats 4000000 in
theorem m_J18_valueOf_o (G : zE) (l : Launch) (kA : Nat → Nat) (hG : zG G kA) (hV : zV G kA) (v : Int32) (hnv : ∀ j, j < 256 → v ≠ nI j - nI 128) (rest : va_W) : zMq G l yJ18_valueOf cJ18_valueOf 1 (some (.object "java/lang/Integer")) 3 1 1 [.int v] (rest) (fun (r : Option Nat) u => r = some u) (fun (u : Nat) => (u, zo 13 [.int v]) :: rest) := by
  refine z_begQ (by first | exact Or.inl ⟨_, rfl⟩ | exact Or.inr ⟨_, rfl⟩) (by decide) (Nat.le_of_ble_eq_true rfl) (fun p e s m args below meth c ls Q hC hl hw hend => ?_)
  have hx := hC.hx
  have hb := hC.hb
  have hl : lv_has ls 1 [(0, .int v)] := hl
  have hz := hG s hC.hZ.1
  have hzv := hV s hC.hZ.1
  refine lv_iload_n hx hb dJ18_valueOf_0 rfl (lv_at hl 0 rfl) ?_
  refine lv_bipush (v := (-128)) hx hb dJ18_valueOf_1 zb_m128 ?_
  refine lv_icmp_lt (tgt := 23) hx hb dJ18_valueOf_3 (by decide) (fun c_3 => ?_) (fun c_3 => ?_)
  · skip
    refine z_new (ci := 13) (fs := [.int 0]) hC rfl in_J18 tyJ18_ok q626 q1574 q73 hw (fun j hj => by revert hj; revert j; decide) (Nat.le_of_ble_eq_true rfl) (Nat.le_of_ble_eq_true rfl) dJ18_valueOf_23 (fun q_23 H hw => ?_)
    have hw : zS G ((q_23, zo 13 [.int 0]) :: rest) s H [] := hw
    refine lv_dup hx hb dJ18_valueOf_26 rfl ?_
    refine lv_iload_n hx hb dJ18_valueOf_27 rfl (lv_at hl 0 rfl) ?_
    refine z_cv (z_runI (As := [.int v]) (rest := [.ref q_23]) hC zx_J18_199 (m_J18_init G l q_23 v (zrem [0] _)) (hw.perm (z_cut (is := [0]) (cells := [(q_23, zo 13 [.int 0])]) rfl rfl)) rfl rfl (Nat.le_of_ble_eq_true rfl) hl.1 ⟨Nat.le_of_ble_eq_true rfl, Nat.le_of_ble_eq_true rfl⟩ ⟨(Nat.le_of_ble_eq_true rfl), (Nat.le_of_ble_eq_true rfl)⟩ dJ18_valueOf_28) hw (fun _ => z_pput (is := [0]) (cells := [(q_23, zo 13 [.int 0])]) (cells' := [(q_23, zo 13 [.int v])]) rfl rfl rfl) (fun u H locs hp hw => ?_)
    have hw : zS G ((q_23, zo 13 [.int v]) :: rest) s H locs := hw
    exact hend _ _ _ _ _ _ (some q_23) q_23 hw rfl (Nat.le_of_ble_eq_true rfl) (Nat.le_of_ble_eq_true rfl) dJ18_valueOf_31
  · skip
    refine lv_iload_n hx hb dJ18_valueOf_6 rfl (lv_at hl 0 rfl) ?_
    refine z_gets (v := .int (nI 127)) hC hzv.2.1.1 hw q1570 dJ18_valueOf_7 ?_
    refine lv_icmp_gt (tgt := 23) hx hb dJ18_valueOf_10 (by decide) (fun c_10 => ?_) (fun c_10 => ?_)
    · skip
      refine z_new (ci := 13) (fs := [.int 0]) hC rfl in_J18 tyJ18_ok q626 q1574 q73 hw (fun j hj => by revert hj; revert j; decide) (Nat.le_of_ble_eq_true rfl) (Nat.le_of_ble_eq_true rfl) dJ18_valueOf_23 (fun q_23 H hw => ?_)
      have hw : zS G ((q_23, zo 13 [.int 0]) :: rest) s H [] := hw
      refine lv_dup hx hb dJ18_valueOf_26 rfl ?_
      refine lv_iload_n hx hb dJ18_valueOf_27 rfl (lv_at hl 0 rfl) ?_
      refine z_cv (z_runI (As := [.int v]) (rest := [.ref q_23]) hC zx_J18_199 (m_J18_init G l q_23 v (zrem [0] _)) (hw.perm (z_cut (is := [0]) (cells := [(q_23, zo 13 [.int 0])]) rfl rfl)) rfl rfl (Nat.le_of_ble_eq_true rfl) hl.1 ⟨Nat.le_of_ble_eq_true rfl, Nat.le_of_ble_eq_true rfl⟩ ⟨(Nat.le_of_ble_eq_true rfl), (Nat.le_of_ble_eq_true rfl)⟩ dJ18_valueOf_28) hw (fun _ => z_pput (is := [0]) (cells := [(q_23, zo 13 [.int 0])]) (cells' := [(q_23, zo 13 [.int v])]) rfl rfl rfl) (fun u H locs hp hw => ?_)
      have hw : zS G ((q_23, zo 13 [.int v]) :: rest) s H locs := hw
      exact hend _ _ _ _ _ _ (some q_23) q_23 hw rfl (Nat.le_of_ble_eq_true rfl) (Nat.le_of_ble_eq_true rfl) dJ18_valueOf_31
    · skip
      exfalso
      obtain ⟨j, hj1, hj2⟩ := vi_in c_3 c_10
      exact hnv j hj1 hj2
set_option maxHeartbeats 4000000 in
theorem m_J18_valueOf_k (G : zE) (l : Launch) (kA : Nat → Nat) (hG : zG G kA) (hV : zV G kA) (j : Nat) (hj : j < 256) (rest : va_W) : zMq G l yJ18_valueOf cJ18_valueOf 1 (some (.object "java/lang/Integer")) 3 0 0 [.int (nI j - nI 128)] (rest) (fun (r : Option Nat) (_ : Unit) => r = some (kA (100 + j))) (fun (_ : Unit) => rest) := by
  refine z_begQ (by first | exact Or.inl ⟨_, rfl⟩ | exact Or.inr ⟨_, rfl⟩) (by decide) (Nat.le_of_ble_eq_true rfl) (fun p e s m args below meth c ls Q hC hl hw hend => ?_)
  have hx := hC.hx
  have hb := hC.hb
  have hl : lv_has ls 1 [(0, .int (nI j - nI 128))] := hl
  have hz := hG s hC.hZ.1
  have hzv := hV s hC.hZ.1
  refine lv_iload_n hx hb dJ18_valueOf_0 rfl (lv_at hl 0 rfl) ?_
  refine lv_bipush (v := (-128)) hx hb dJ18_valueOf_1 zb_m128 ?_
  refine lv_icmp_lt (tgt := 23) hx hb dJ18_valueOf_3 (by decide) (fun h => absurd h (vi_lo hj)) (fun _ => ?_)
  refine lv_iload_n hx hb dJ18_valueOf_6 rfl (lv_at hl 0 rfl) ?_
  refine z_gets (v := .int (nI 127)) hC hzv.2.1.1 hw q1570 dJ18_valueOf_7 ?_
  refine lv_icmp_gt (tgt := 23) hx hb dJ18_valueOf_10 (by decide) (fun h => absurd h (vi_hi hj)) (fun _ => ?_)
  refine z_gets (v := .ref (kA 1)) hC hzv.2.1.2.1 hw q1572 dJ18_valueOf_13 ?_
  refine lv_iload_n hx hb dJ18_valueOf_16 rfl (lv_at hl 0 rfl) ?_
  refine lv_sipush (v := (nI 128)) hx hb dJ18_valueOf_17 zs_128 ?_
  refine zv_iadd (v := (nI j)) hx hb vi_add dJ18_valueOf_20 ?_
  refine z_aaldK (x := .ref (kA (100 + j))) hC hzv.2.1.2.2.1 hw (by omega) (by decide) rfl dJ18_valueOf_21 ?_
  exact hend _ _ _ _ _ _ (some (kA (100 + j))) () hw rfl (Nat.le_of_ble_eq_true rfl) (Nat.le_of_ble_eq_true rfl) dJ18_valueOf_22
set_option maxHeartbeats 4000000 in
theorem m_J29_valueOf (G : zE) (l : Launch) (kA : Nat → Nat) (hG : zG G kA) (hV : zV G kA) (j : Nat) (hj : j < 10) (rest : va_W) : zMq G l yJ29_valueOf cJ29_valueOf 2 (some (.object "java/lang/Byte")) 0 0 0 [.int (nI j)] (rest) (fun (r : Option Nat) (_ : Unit) => r = some (kA (528 + j))) (fun (_ : Unit) => rest) := by
  refine z_begQ (by first | exact Or.inl ⟨_, rfl⟩ | exact Or.inr ⟨_, rfl⟩) (by decide) (Nat.le_of_ble_eq_true rfl) (fun p e s m args below meth c ls Q hC hl hw hend => ?_)
  have hx := hC.hx
  have hb := hC.hb
  have hl : lv_has ls 2 [(0, .int (nI j))] := hl
  have hz := hG s hC.hZ.1
  have hzv := hV s hC.hZ.1
  refine lv_sipush (v := (nI 128)) hx hb dJ29_valueOf_0 zs_128 ?_
  refine lv_istore_n (lv' := [(1, .int (nI 128)), (0, .int (nI j))]) hx hb dJ29_valueOf_3 rfl hl (by decide) rfl (fun ls hl => ?_)
  refine z_gets (v := .ref (kA 2)) hC hzv.2.2.1.1 hw q1589 dJ29_valueOf_4 ?_
  refine lv_iload_n hx hb dJ29_valueOf_7 rfl (lv_at hl 1 rfl) ?_
  refine lv_sipush (v := (nI 128)) hx hb dJ29_valueOf_8 zs_128 ?_
  refine zn_iadd hx hb dJ29_valueOf_11 ?_
  refine z_aaldK (x := .ref (kA (400 + (j + 128)))) hC hzv.2.2.1.2.1 hw (by omega) (by decide) rfl dJ29_valueOf_12 ?_
  exact hend _ _ _ _ _ _ (some (kA (400 + (j + 128)))) () hw (by exact congrArg (fun z => some (kA z)) (by omega)) (Nat.le_of_ble_eq_true rfl) (Nat.le_of_ble_eq_true rfl) dJ29_valueOf_13
