/-! COMPONENT: letters, what is kept -/
set_option maxRecDepth 100000
section ZR
variable {p : Program} {l : Launch} {e : Env} {R : Room} {s : State} {m : MethodId} {args : Array Value} {below : List Frame} {meth : Method} {c : Code} {H : Heap} {locs : List Loc} {cells slots : Nat} {Q : State → Prop}
variable {cc : ByteArray} {pc : Nat} {ls : Array Slot} {rest st0 : List Value} {G : zE} {ws wc : va_W} {own : String} {nL : Nat} {a : Nat}
/-! arrays of arrays of ints -/
theorem z_aaldA {n i : Nat} {f : Nat → Option Nat} {x : Value} (hC : zCx G own cc nL p s m args meth c) (hw : zS G ws s H locs) (q0 : Nat) (ha : ws[q0]? = some (a, zc G 7 (zO n f))) (hi : i < n) (hn : n < 2147483648) (hx : va_rf (f i) = x) (hdg : decode cc pc = .ok (.aaload, 1))
    (kk : W p l e R s m args below meth c H locs cells slots Q (F0 m (pc + 1) ls (x :: rest))) : W p l e R s m args below meth c H locs cells slots Q (F0 m pc ls (.int (nI i) :: .ref a :: rest)) := by
  subst hx
  have e1 : (nI i).toNatClampNeg = i := nI_clamp (by omega)
  exact W.aald (v := va_rf (f i)) (ty := .array .int) hC.hx hC.hb (hw.1 q0 _ ha) ((hC.hK.2 7 _ rfl).1 n (fun j => va_rf (f j))) rfl (fun q => by cases q) (by show ¬ (_ ∨ (arrV _ _ _).slots.size ≤ _); rw [arrV_size]; exact z_cl hi hn) (by show (arrV _ _ _).slots[_]? = _; rw [e1, arrV_read _ _ hi]) rfl rfl hdg kk
theorem z_anewA {n idx : Nat} (hC : zCx G own cc nL p s m args meth c) (hl : Cond.classLink own idx "[I" ∈ lw_all) (ho : va_Nw (.arrayOver (.array .int)) s) (hw : zS G ws s H locs) (hn : n < 65536) (hcells : cells + 1 ≤ R.cells) (hslots : slots + n ≤ R.slots) (hdg : decode cc pc = .ok (.anewarray idx, 3))
    (kk : ∀ (q : Nat) (H1 : Heap), zS G ((q, zc G 7 (zO n (fun _ => none))) :: ws) s H1 locs → W p l e R s m args below meth c H1 locs (cells + 1) (slots + n) Q (F0 m (pc + 3) ls (.ref q :: rest))) : W p l e R s m args below meth c H locs cells slots Q (F0 m pc ls (.int (nI n) :: rest)) := by
  have e1 : (nI n).toNatClampNeg = n := nI_clamp (by omega)
  refine W.anewA (t := .int) hC.hx hC.hb hC.hown (hC.hts _ hl) ho rfl hdg rfl (nI_pos (by omega)) (by rw [e1]; omega) hcells (by rw [e1]; exact hslots) (fun cA kA comp f1 f2 f3 f4 => ?_)
  obtain rfl : G.2.1 7 = cA := Option.some.inj ((hC.hK.2 7 _ rfl).2.symm.trans f1)
  rw [e1]
  obtain ⟨hP, hD, hS⟩ := hw
  generalize hH1 : H.push ({ cls := G.2.1 7, slots := Array.replicate n .null, vm := .none } : Cell) = H1
  have z1 : H1.size = H.size + 1 := by rw [← hH1, Array.size_push]
  have g1 : H1[H.size]? = some (arrV (G.2.1 7) n (fun _ => .null)) := by rw [← hH1, Array.getElem?_push_size, ← arrV_new]
  have o1 : ∀ q : Nat, q < H.size → H1[q]? = H[q]? := fun q hq => by rw [← hH1, Array.getElem?_push, if_neg (Nat.ne_of_lt hq)]
  have hk : ∀ (k : Nat) (x : Nat × va_E), ws[k]? = some x → H1[x.1]? = H[x.1]? := fun k x hx => o1 x.1 ((hP k x hx).lt)
  refine kk H.size H1 (z_push ((hP.kept hk).app (fun k x hx => ?_)) (hD.push hP rfl (zA_ge hC.hN.1 _ hS.1)) ⟨Nat.le_trans hS.1 (by omega), fun x h1 h2 => (o1 x (Nat.lt_of_lt_of_le h1 hS.1)).trans (hS.2.1 x h1 h2), hS.2.2⟩)
  have hz : k < 1 := (List.getElem?_eq_some_iff.mp hx).1
  rw [show k = 0 by omega] at hx
  cases hx
  show H1[H.size]? = some (vp_cell _ _)
  rw [vp_cell_q]
  exact g1
theorem z_aastA {n n2 i v : Nat} {f f' : Nat → Option Nat} {g : Nat → Int32} (hC : zCx G own cc nL p s m args meth c) (ho : va_Nw (.arrayOver (.array .int)) s) (hw : zS G ws s H locs) (q0 : Nat) (ha : ws[q0]? = some (a, zc G 7 (zO n f))) (q1 : Nat) (hv : ws[q1]? = some (v, zc G 0 (zI n2 g))) (hi : i < n) (hn : n < 2147483648) (hx : va_up f i (some v) = f') (hdg : decode cc pc = .ok (.aastore, 1))
    (kk : ∀ (H1 : Heap) (locs1 : List Loc), zS G (ws.set q0 (a, zc G 7 (zO n f'))) s H1 locs1 → W p l e R s m args below meth c H1 locs1 cells slots Q (F0 m (pc + 1) ls rest)) : W p l e R s m args below meth c H locs cells slots Q (F0 m pc ls (.ref v :: .int (nI i) :: .ref a :: rest)) := by
  subst hx
  have e1 : (nI i).toNatClampNeg = i := nI_clamp (by omega)
  obtain ⟨hP, hD, hS⟩ := hw
  obtain ⟨comp, cA, kA, g1, -, g3, g4, g5⟩ := arrayOverA_spec (show (Cond.arrayOver (.array .int)).before args s = true from ho)
  obtain rfl : G.2.1 7 = cA := Option.some.inj ((hC.hK.2 7 _ rfl).2.symm.trans g5)
  obtain rfl : G.2.1 0 = comp := Option.some.inj ((hC.hK.2 0 _ rfl).2.symm.trans g1)
  obtain ⟨kE, hkE, -⟩ := Vm.findClass_spec g1
  refine W.aast hC.hx hC.hb (hP q0 _ ha) (fun q h => by cases h) (fun h => by cases h) g3 g4 rfl hkE ⟨nI_pos (by omega), by show _ < (arrV _ _ _).slots.size; rw [arrV_size, e1]; exact hi⟩ (hP q1 _ hv) (fun q h => by cases h) hkE (va_asg _ _) rfl rfl hdg fun H1 e z oq => ?_
  refine kk H1 _ ⟨hP.set hD ha ?_ oq, hD.set ha, hS.put z oq (hD.2 q0 _ ha)⟩
  show H1[a]? = some (vp_cell _ _)
  rw [e, e1]
  rw [vp_cell_q, vp_cell_q, arrV_store]
  congr 2
  funext q
  by_cases hq : q = i
  · subst hq
    simp [updV, va_up, va_rf]
  · simp [updV, va_up, hq]
end ZR
theorem nar_btL (c : Nat) : vp_nar .byte (btL c) = btL c := by
  rw [vp_nar_byte]; unfold btL; rw [Int8.toInt8_toInt32]
/-- what was seen -/
def sgR (G : zE) (A : AS) (sm : Nat) (gf : Nat → Option Nat) (gs : Nat → va_W) : Prop := sm = aS A ∧ ∀ j, j < 6 → slG G (gf j) (if j < sm then some (fun k => nI (aSg A (4 * j + k))) else none) (gs j)
/-- what was kept -/
def kpR (G : zE) (co : Nat) (A : AS) (kf : Nat → Option Nat) (ks : Nat → va_W) : Prop := ∀ j, j < 2 → slS G co (kf j) (aK A j) (ks j) ∧ (aK A j = none → kf j = none)
/-- the text -/
def txR (A : AS) (lt : Nat) (tx : Nat → Int32) : Prop := lt = aL A ∧ ∀ k, k < lt → tx k = btL (aT A k)
theorem txR_add {A : AS} {lt : Nat} {tx : Nat → Int32} (h : txR A lt tx) (c : Nat) : ∀ k, k < lt + 1 → upd tx lt (btL c) k = btL (updN (aT A) (aL A) c k) := by
  intro k hk
  unfold upd updN
  rw [← h.1]
  by_cases q : k = lt
  · rw [if_pos q, if_pos q]
  · rw [if_neg q, if_neg q]; exact h.2 k (by omega)
theorem zf_X0_132_0 : zFl 0 12 RX0 132 false .int := ⟨RX0, TX0, 13, tyX0, rfl, by decide, in_X0, q187, rfl, by decide +kernel, tyX0_ok, nmX0⟩
theorem zf_X0_120_0 : zFl 0 11 RX0 120 true (.array .byte) := ⟨RX0, TX0, 13, tyX0, rfl, by decide, in_X0, q185, rfl, by decide +kernel, tyX0_ok, nmX0⟩
set_option maxHeartbeats 4000000 in
theorem m_X0_write (G : zE) (l : Launch) (co : Nat) (w : Nat → Nat) (mn : Int32) (bm : Int32) (sm : Int32) (A : AS) (lt : Nat) (tx : Nat → Int32) (hA : AOk A) (hT : txR A lt tx) (x : Int32) (rest : va_W) : zMi G l yX0_write cX0_write 2 (some .int) 1 0 0 [.ref co, .int x] ((co, zo 0 (cF w mn bm sm (nI lt))) :: (w 8, zc G 1 (zI 200 tx)) :: rest) (fun (r : Int32) u => r = (F_write A x).1 ∧ txR (F_write A x).2 u.1 u.2) (fun (u : Nat × (Nat → Int32)) => (co, zo 0 (cF w mn bm sm (nI u.1))) :: (w 8, zc G 1 (zI 200 u.2)) :: rest) := by
  refine z_begI (by decide) (Nat.le_of_ble_eq_true rfl) (fun p e s m args below meth c ls Q hC hl hw hend => ?_)
  have hx := hC.hx
  have hb := hC.hb
  have hl : lv_has ls 2 [(0, .ref co), (1, .int x)] := hl
  have hw : zS G ((co, zo 0 (cF w mn bm sm (nI lt))) :: (w 8, zc G 1 (zI 200 tx)) :: rest) s s.heap [] := hw
  have hT1 := hT.1
  have hl2 : lt ≤ 200 := by rw [hT.1]; exact hA.1.1
  refine lv_iload_n hx hb dX0_write_0 rfl (lv_at hl 1 rfl) ?_
  refine lv_i2l (v := (iL x)) hx hb dX0_write_1 rfl ?_
  refine lv_lconst (v := lN 0) hx hb dX0_write_2 rfl ?_
  refine lv_ldc2 (v := (lN 255)) hx hb hC.hown (hC.hts _ q219) dX0_write_3 ?_
  refine z_ci (z_runS (As := [.long (iL x), .long (lN 0), .long (lN 255)]) (rest := []) hC zs_X0_126 (m_X0_in G l x 0 255 (by decide) (by decide) _) hw rfl rfl (Nat.le_of_ble_eq_true rfl) hl.1 ⟨Nat.le_of_ble_eq_true rfl, Nat.le_of_ble_eq_true rfl⟩ ⟨(Nat.le_of_ble_eq_true rfl), (Nat.le_of_ble_eq_true rfl)⟩ dX0_write_6) hw (fun _ => List.Perm.refl _) (fun r u H locs hp hw => ?_)
  obtain rfl : r = bI (inR x 0 255) := hp
  refine zb_ne (tgt := 15) hx hb dX0_write_9 (by decide) (fun c_9 => ?_) (fun c_9 => ?_)
  · skip
    obtain ⟨k, hk1, hk2, rfl⟩ := c_9
    have hl : lv_has ls 2 [(0, .ref co), (1, .int (nI k))] := hl
    refine lv_aload_n hx hb dX0_write_15 rfl (lv_at hl 0 rfl) ?_
    refine z_get (v := .int (nI lt)) hC zf_X0_132_0 hw 0 rfl rfl dX0_write_16 ?_
    refine lv_aload_n hx hb dX0_write_19 rfl (lv_at hl 0 rfl) ?_
    refine z_get (v := .ref (w 8)) hC zf_X0_120_0 hw 0 rfl rfl dX0_write_20 ?_
    refine z_alen (t := 1) hC hw 1 rfl (fun _ => rfl) dX0_write_23 ?_
    show W p l e (zR 1 0 0) s m args below meth c H locs 0 0 Q (F0 m 24 ls [.int (nI 200), .int (nI lt)])
    refine zi_ne (tgt := 30) hx hb (by omega) (by decide) dX0_write_24 (by decide) (fun c_24 => ?_) (fun c_24 => ?_)
    · skip
      refine lv_aload_n hx hb dX0_write_30 rfl (lv_at hl 0 rfl) ?_
      refine z_get (v := .ref (w 8)) hC zf_X0_120_0 hw 0 rfl rfl dX0_write_31 ?_
      refine lv_aload_n hx hb dX0_write_34 rfl (lv_at hl 0 rfl) ?_
      refine lv_dup hx hb dX0_write_35 rfl ?_
      refine z_get (v := .int (nI lt)) hC zf_X0_132_0 hw 0 rfl rfl dX0_write_36 ?_
      refine lv_dup_x1 hx hb dX0_write_39 rfl rfl ?_
      refine lv_iconst (v := (nI 1)) hx hb dX0_write_40 zk_1 ?_
      refine zn_iadd hx hb dX0_write_41 ?_
      refine z_puti hC zf_X0_132_0 hw 0 rfl (Nat.le_of_ble_eq_true rfl) dX0_write_42 (fun H locs hw => ?_)
      have hw : zS G ((co, zo 0 (cF w mn bm sm (nI (lt + 1)))) :: (w 8, zc G 1 (zI 200 tx)) :: rest) s H locs := hw
      refine lv_iload_n hx hb dX0_write_45 rfl (lv_at hl 1 rfl) ?_
      refine lv_i2b (v := (btL k)) hx hb dX0_write_46 rfl ?_
      refine z_bast (f' := upd tx lt (btL k)) hC hw 1 rfl (by omega) (by decide) (congrArg _ (nar_btL k)) dX0_write_47 (fun H locs hw => ?_)
      have hw : zS G ((co, zo 0 (cF w mn bm sm (nI (lt + 1)))) :: (w 8, zc G 1 (zI 200 (upd tx lt (btL k)))) :: rest) s H locs := hw
      refine lv_aload_n hx hb dX0_write_48 rfl (lv_at hl 0 rfl) ?_
      refine z_get (v := .int (nI (lt + 1))) hC zf_X0_132_0 hw 0 rfl rfl dX0_write_49 ?_
      have hF : F_write A (nI k) = (nI (lt + 1), mkA (updN (aT A) (aL A) k) (aL A + 1) (aV0 A) (aV A) (aU A) (aUs A) (aK A) (aS A) (aSg A) (aTr A)) := by unfold F_write; rw [ifP_t ⟨k, hk1, hk2, rfl⟩, if_neg (by omega), cl_nI (by omega), hT.1]
      exact hend _ _ _ _ _ _ _ (lt + 1, (upd tx lt (btL k))) hw (by rw [hF]; exact ⟨rfl, ⟨by rw [hT.1]; rfl, txR_add hT k⟩⟩) (Nat.le_of_ble_eq_true rfl) (Nat.le_of_ble_eq_true rfl) dX0_write_52
    · skip
      refine lv_bipush (v := (-5)) hx hb dX0_write_27 zb_m5 ?_
      have hF : F_write A (nI k) = (-5, A) := by unfold F_write; rw [ifP_t ⟨k, hk1, hk2, rfl⟩, if_pos (by omega)]
      exact hend _ _ _ _ _ _ _ (lt, tx) hw (by rw [hF]; exact ⟨rfl, hT⟩) (Nat.le_of_ble_eq_true rfl) (Nat.le_of_ble_eq_true rfl) dX0_write_29
  · skip
    refine lv_bipush (v := (-3)) hx hb dX0_write_12 zb_m3 ?_
    have hF : F_write A x = (-3, A) := by exact ifP_f c_9
    exact hend _ _ _ _ _ _ _ (lt, tx) hw (by rw [hF]; exact ⟨rfl, hT⟩) (Nat.le_of_ble_eq_true rfl) (Nat.le_of_ble_eq_true rfl) dX0_write_14
set_option maxHeartbeats 4000000 in
theorem m_X0_erase (G : zE) (l : Launch) (co : Nat) (w : Nat → Nat) (mn : Int32) (bm : Int32) (sm : Int32) (lt : Int32) (rest : va_W) : zMi G l yX0_erase cX0_erase 2 (some .int) 0 0 0 [.ref co] ((co, zo 0 (cF w mn bm sm lt)) :: rest) (fun (r : Int32) (_ : Unit) => r = lt) (fun (_ : Unit) => (co, zo 0 (cF w mn bm sm (nI 0))) :: rest) := by
  refine z_begI (by decide) (Nat.le_of_ble_eq_true rfl) (fun p e s m args below meth c ls Q hC hl hw hend => ?_)
  have hx := hC.hx
  have hb := hC.hb
  have hl : lv_has ls 2 [(0, .ref co)] := hl
  have hw : zS G ((co, zo 0 (cF w mn bm sm lt)) :: rest) s s.heap [] := hw
  refine lv_aload_n hx hb dX0_erase_0 rfl (lv_at hl 0 rfl) ?_
  refine z_get (v := .int lt) hC zf_X0_132_0 hw 0 rfl rfl dX0_erase_1 ?_
  refine lv_istore_n (lv' := [(1, .int lt), (0, .ref co)]) hx hb dX0_erase_4 rfl hl (by decide) rfl (fun ls hl => ?_)
  refine lv_aload_n hx hb dX0_erase_5 rfl (lv_at hl 1 rfl) ?_
  refine lv_iconst (v := (nI 0)) hx hb dX0_erase_6 zk_0 ?_
  refine z_puti hC zf_X0_132_0 hw 0 rfl (Nat.le_of_ble_eq_true rfl) dX0_erase_7 (fun H locs hw => ?_)
  have hw : zS G ((co, zo 0 (cF w mn bm sm (nI 0))) :: rest) s H locs := hw
  refine lv_iload_n hx hb dX0_erase_10 rfl (lv_at hl 0 rfl) ?_
  exact hend _ _ _ _ _ _ _ () hw (by first | rfl | simp_all) (Nat.le_of_ble_eq_true rfl) (Nat.le_of_ble_eq_true rfl) dX0_erase_11
theorem zf_X0_44_0 : zFl 0 9 RX0 44 false .int := ⟨RX0, TX0, 13, tyX0, rfl, by decide, in_X0, q182, rfl, by decide +kernel, tyX0_ok, nmX0⟩
set_option maxHeartbeats 4000000 in
theorem m_X0_forget (G : zE) (l : Launch) (co : Nat) (w : Nat → Nat) (mn : Int32) (bm : Int32) (sm : Int32) (lt : Int32) (rest : va_W) : zMi G l yX0_forget cX0_forget 2 (some .int) 0 0 0 [.ref co] ((co, zo 0 (cF w mn bm sm lt)) :: rest) (fun (r : Int32) (_ : Unit) => r = sm) (fun (_ : Unit) => (co, zo 0 (cF w mn bm (nI 0) lt)) :: rest) := by
  refine z_begI (by decide) (Nat.le_of_ble_eq_true rfl) (fun p e s m args below meth c ls Q hC hl hw hend => ?_)
  have hx := hC.hx
  have hb := hC.hb
  have hl : lv_has ls 2 [(0, .ref co)] := hl
  have hw : zS G ((co, zo 0 (cF w mn bm sm lt)) :: rest) s s.heap [] := hw
  refine lv_aload_n hx hb dX0_forget_0 rfl (lv_at hl 0 rfl) ?_
  refine z_get (v := .int sm) hC zf_X0_44_0 hw 0 rfl rfl dX0_forget_1 ?_
  refine lv_istore_n (lv' := [(1, .int sm), (0, .ref co)]) hx hb dX0_forget_4 rfl hl (by decide) rfl (fun ls hl => ?_)
  refine lv_aload_n hx hb dX0_forget_5 rfl (lv_at hl 1 rfl) ?_
  refine lv_iconst (v := (nI 0)) hx hb dX0_forget_6 zk_0 ?_
  refine z_puti hC zf_X0_44_0 hw 0 rfl (Nat.le_of_ble_eq_true rfl) dX0_forget_7 (fun H locs hw => ?_)
  have hw : zS G ((co, zo 0 (cF w mn bm (nI 0) lt)) :: rest) s H locs := hw
  refine lv_iload_n hx hb dX0_forget_10 rfl (lv_at hl 0 rfl) ?_
  exact hend _ _ _ _ _ _ _ () hw (by first | rfl | simp_all) (Nat.le_of_ble_eq_true rfl) (Nat.le_of_ble_eq_true rfl) dX0_forget_11
theorem kpR_up {G : zE} {co q k : Nat} {A : AS} {kf : Nat → Option Nat} {ks : Nat → va_W} {x : va_W} (h : kpR G co A kf ks) (hx : slS G co (some q) (some (aV A)) x) : kpR G co (mkA (aT A) (aL A) (aV0 A) (aV A) (aU A) (aUs A) (va_up (aK A) k (some (aV A))) (aS A) (aSg A) (aTr A)) (va_up kf k (some q)) (va_up ks k x) := by
  intro j hj
  show slS G co _ (va_up (aK A) k (some (aV A)) j) _ ∧ (va_up (aK A) k (some (aV A)) j = none → _)
  by_cases e : j = k
  · subst e; rw [va_up_self, va_up_self, va_up_self]; exact ⟨hx, fun q => nomatch q⟩
  · rw [va_up_ne _ _ e, va_up_ne _ _ e, va_up_ne _ _ e]; exact h j hj
theorem zf_X0_47_0 : zFl 0 5 RX0 47 true (.array (.object "NutCaches$State")) := ⟨RX0, TX0, 13, tyX0, rfl, by decide, in_X0, q178, rfl, by decide +kernel, tyX0_ok, nmX0⟩
set_option maxHeartbeats 4000000 in
theorem m_X0_keep (G : zE) (l : Launch) (kA : Nat → Nat) (hG : zG G kA) (co : Nat) (w : Nat → Nat) (zn : Nat → Nat) (A : AS) (ps : Nat) (mn : Nat) (dy : Nat) (bm : Int32) (sm : Int32) (lt : Int32) (gg : Int32) (pl : Nat → Nat) (nu : Nat → Nat) (ax : Nat → Nat) (le : Nat → Nat) (kn : Nat → Nat) (hA : AOk A) (hps : ps = aV A 0) (hmn : mn = aV A 1) (hdy : dy = aV A 2) (hR : sRel (aV A) pl nu ax le kn) (kf : Nat → Option Nat) (ks : Nat → va_W) (hK : kpR G co A kf ks) (x : Int32) (rest : va_W) : zMi G l yX0_keep cX0_keep 2 (some .int) 2 6 42 [.ref co, .int x] ((co, zo 0 (cF w (nI mn) bm sm lt)) :: (w 2, zo 1 (stF zn co (nI ps) (nI dy) (gg))) :: (zn 0, zc G 1 (zI 9 (vI pl))) :: (zn 1, zc G 1 (zI 9 (vI nu))) :: (zn 2, zc G 1 (zI 5 (vI ax))) :: (zn 3, zc G 1 (zI 5 (vI le))) :: (zn 4, zc G 2 (zI 5 (vI kn))) :: (w 4, zc G 5 (zO 2 kf)) :: (pw 2 ks ++ rest)) (fun (r : Int32) u => r = (F_keep A x).1 ∧ kpR G co (F_keep A x).2 u.1 u.2) (fun (u : (Nat → Option Nat) × (Nat → va_W)) => (co, zo 0 (cF w (nI mn) bm sm lt)) :: (w 2, zo 1 (stF zn co (nI ps) (nI dy) (gg))) :: (zn 0, zc G 1 (zI 9 (vI pl))) :: (zn 1, zc G 1 (zI 9 (vI nu))) :: (zn 2, zc G 1 (zI 5 (vI ax))) :: (zn 3, zc G 1 (zI 5 (vI le))) :: (zn 4, zc G 2 (zI 5 (vI kn))) :: (w 4, zc G 5 (zO 2 u.1)) :: (pw 2 u.2 ++ rest)) := by
  refine z_begI (by decide) (Nat.le_of_ble_eq_true rfl) (fun p e s m args below meth c ls Q hC hl hw hend => ?_)
  have hx := hC.hx
  have hb := hC.hb
  have hl : lv_has ls 2 [(0, .ref co), (1, .int x)] := hl
  have hw : zS G ((co, zo 0 (cF w (nI mn) bm sm lt)) :: (w 2, zo 1 (stF zn co (nI ps) (nI dy) (gg))) :: (zn 0, zc G 1 (zI 9 (vI pl))) :: (zn 1, zc G 1 (zI 9 (vI nu))) :: (zn 2, zc G 1 (zI 5 (vI ax))) :: (zn 3, zc G 1 (zI 5 (vI le))) :: (zn 4, zc G 2 (zI 5 (vI kn))) :: (w 4, zc G 5 (zO 2 kf)) :: (pw 2 ks ++ rest)) s s.heap [] := hw
  have hz := hG s hC.hZ.1
  have hgv := hA.2.2.1.1
  have hH : Hw (aV A) := hgv.1
  have hpl := fun j => (hR.2.2.2 j).1
  have hnu := fun j => (hR.2.2.2 j).2.1
  have hax := fun j => (hR.2.2.2 j).2.2.1
  have hle := fun j => (hR.2.2.2 j).2.2.2.1
  have hkn := fun j => (hR.2.2.2 j).2.2.2.2
  have hp9 : ps ≤ 9 := by rw [hps]; exact hH.1
  have hm5 : mn ≤ 5 := by rw [hmn]; exact hH.2.1
  have hd999 : dy ≤ 999 := by rw [hdy]; exact hA.2.2.1.2.2
  refine lv_iload_n hx hb dX0_keep_0 rfl (lv_at hl 1 rfl) ?_
  refine lv_i2l (v := (iL x)) hx hb dX0_keep_1 rfl ?_
  refine lv_lconst (v := lN 0) hx hb dX0_keep_2 rfl ?_
  refine lv_lconst (v := lN 1) hx hb dX0_keep_3 rfl ?_
  refine z_ci (z_runS (As := [.long (iL x), .long (lN 0), .long (lN 1)]) (rest := []) hC zs_X0_126 (m_X0_in G l x 0 1 (by decide) (by decide) _) hw rfl rfl (Nat.le_of_ble_eq_true rfl) hl.1 ⟨Nat.le_of_ble_eq_true rfl, Nat.le_of_ble_eq_true rfl⟩ ⟨(Nat.le_of_ble_eq_true rfl), (Nat.le_of_ble_eq_true rfl)⟩ dX0_keep_4) hw (fun _ => List.Perm.refl _) (fun r u H locs hp hw => ?_)
  obtain rfl : r = bI (inR x 0 1) := hp
  refine zb_ne (tgt := 13) hx hb dX0_keep_7 (by decide) (fun c_7 => ?_) (fun c_7 => ?_)
  · skip
    obtain ⟨k, hk1, hk2, rfl⟩ := c_7
    have hl : lv_has ls 2 [(0, .ref co), (1, .int (nI k))] := hl
    refine lv_aload_n hx hb dX0_keep_13 rfl (lv_at hl 0 rfl) ?_
    refine z_get (v := .ref (w 4)) hC zf_X0_47_0 hw 0 rfl rfl dX0_keep_14 ?_
    refine lv_iload_n hx hb dX0_keep_17 rfl (lv_at hl 1 rfl) ?_
    refine z_new (ci := 1) (fs := [.null, .null, .int 0, .null, .null, .null, .int 0, .int 0, .null]) hC rfl in_X1 tyX1_ok q106 q107 q50 hw (fun j hj => by revert hj; revert j; decide) (Nat.le_of_ble_eq_true rfl) (Nat.le_of_ble_eq_true rfl) dX0_keep_18 (fun q_18 H hw => ?_)
    have hw : zS G ((q_18, zo 1 [.null, .null, .int 0, .null, .null, .null, .int 0, .int 0, .null]) :: (co, zo 0 (cF w (nI mn) bm sm lt)) :: (w 2, zo 1 (stF zn co (nI ps) (nI dy) (gg))) :: (zn 0, zc G 1 (zI 9 (vI pl))) :: (zn 1, zc G 1 (zI 9 (vI nu))) :: (zn 2, zc G 1 (zI 5 (vI ax))) :: (zn 3, zc G 1 (zI 5 (vI le))) :: (zn 4, zc G 2 (zI 5 (vI kn))) :: (w 4, zc G 5 (zO 2 kf)) :: (pw 2 ks ++ rest)) s H locs := hw
    refine lv_dup hx hb dX0_keep_21 rfl ?_
    refine lv_aload_n hx hb dX0_keep_22 rfl (lv_at hl 0 rfl) ?_
    refine z_cv (z_runIN (n := 1) (As := [.ref co]) (rest := [.ref q_18, .int (nI k), .ref (w 4)]) hC ⟨zn_X1_init, q109, rfl⟩ (hz.1 _ (cw_t q108 rfl)) (m_X1_init G l kA (by first | assumption | (omega)) q_18 co (zrem [0] _)) (hw.perm (z_cut (is := [0]) (cells := [(q_18, zo 1 [.null, .null, .int 0, .null, .null, .null, .int 0, .int 0, .null])]) rfl rfl)) rfl rfl (Nat.le_of_ble_eq_true rfl) hl.1 ⟨Nat.le_of_ble_eq_true rfl, Nat.le_of_ble_eq_true rfl⟩ ⟨(Nat.le_of_ble_eq_true rfl), (Nat.le_of_ble_eq_true rfl)⟩ dX0_keep_23) hw (fun u => z_new1 (is := [0]) (cs := [(q_18, zo 1 [.null, .null, .int 0, .null, .null, .null, .int 0, .int 0, .null])]) (cs' := [(q_18, zo 1 (stF u co (nI 0) (nI 0) (nI 0)))]) (nw := [(u 0, zc G 1 (zI 9 (vI (fun _ => 0)))), (u 1, zc G 1 (zI 9 (vI (fun _ => 0)))), (u 2, zc G 1 (zI 5 (vI (fun _ => 0)))), (u 3, zc G 1 (zI 5 (vI (fun _ => 0)))), (u 4, zc G 2 (zI 5 (vI (fun _ => 0))))]) rfl rfl rfl) (fun u H locs hp hw => ?_)
    obtain ⟨zb, rfl⟩ : ∃ z, z = u := ⟨_, rfl⟩
    have hw : zS G ((zb 0, zc G 1 (zI 9 (vI (fun _ => 0)))) :: (zb 1, zc G 1 (zI 9 (vI (fun _ => 0)))) :: (zb 2, zc G 1 (zI 5 (vI (fun _ => 0)))) :: (zb 3, zc G 1 (zI 5 (vI (fun _ => 0)))) :: (zb 4, zc G 2 (zI 5 (vI (fun _ => 0)))) :: (q_18, zo 1 (stF zb co (nI 0) (nI 0) (nI 0))) :: (co, zo 0 (cF w (nI mn) bm sm lt)) :: (w 2, zo 1 (stF zn co (nI ps) (nI dy) (gg))) :: (zn 0, zc G 1 (zI 9 (vI pl))) :: (zn 1, zc G 1 (zI 9 (vI nu))) :: (zn 2, zc G 1 (zI 5 (vI ax))) :: (zn 3, zc G 1 (zI 5 (vI le))) :: (zn 4, zc G 2 (zI 5 (vI kn))) :: (w 4, zc G 5 (zO 2 kf)) :: (pw 2 ks ++ rest)) s H locs := hw
    refine lv_aload_n hx hb dX0_keep_26 rfl (lv_at hl 0 rfl) ?_
    refine z_get (v := .ref (w 2)) hC zf_X0_27_0 hw 6 rfl rfl dX0_keep_27 ?_
    refine z_cq (z_runV (As := [.ref (w 2)]) (rest := [.int (nI k), .ref (w 4)]) hC zv_X0_34 (m_X1_set G l q_18 (w 2) co zb zn 0 0 ps dy (nI 0) gg (fun _ => 0) (fun _ => 0) (fun _ => 0) (fun _ => 0) (fun _ => 0) pl nu ax le kn hpl hnu hax hle hkn (zrem [5, 0, 1, 2, 3, 4, 7, 8, 9, 10, 11, 12] _)) hw (hw.perm (z_cut (is := [5, 0, 1, 2, 3, 4, 7, 8, 9, 10, 11, 12]) (cells := [(q_18, zo 1 (stF zb co (nI 0) (nI 0) ((nI 0)))), (zb 0, zc G 1 (zI 9 (vI (fun _ => 0)))), (zb 1, zc G 1 (zI 9 (vI (fun _ => 0)))), (zb 2, zc G 1 (zI 5 (vI (fun _ => 0)))), (zb 3, zc G 1 (zI 5 (vI (fun _ => 0)))), (zb 4, zc G 2 (zI 5 (vI (fun _ => 0)))), (w 2, zo 1 (stF zn co (nI ps) (nI dy) (gg))), (zn 0, zc G 1 (zI 9 (vI pl))), (zn 1, zc G 1 (zI 9 (vI nu))), (zn 2, zc G 1 (zI 5 (vI ax))), (zn 3, zc G 1 (zI 5 (vI le))), (zn 4, zc G 2 (zI 5 (vI kn)))]) rfl rfl)) 5 rfl rfl rfl rfl rfl (Nat.le_of_ble_eq_true rfl) hl.1 ⟨Nat.le_of_ble_eq_true rfl, Nat.le_of_ble_eq_true rfl⟩ ⟨(Nat.le_of_ble_eq_true rfl), (Nat.le_of_ble_eq_true rfl)⟩ dX0_keep_30) hw (fun _ => z_pput (is := [5, 0, 1, 2, 3, 4, 7, 8, 9, 10, 11, 12]) (cells := [(q_18, zo 1 (stF zb co (nI 0) (nI 0) ((nI 0)))), (zb 0, zc G 1 (zI 9 (vI (fun _ => 0)))), (zb 1, zc G 1 (zI 9 (vI (fun _ => 0)))), (zb 2, zc G 1 (zI 5 (vI (fun _ => 0)))), (zb 3, zc G 1 (zI 5 (vI (fun _ => 0)))), (zb 4, zc G 2 (zI 5 (vI (fun _ => 0)))), (w 2, zo 1 (stF zn co (nI ps) (nI dy) (gg))), (zn 0, zc G 1 (zI 9 (vI pl))), (zn 1, zc G 1 (zI 9 (vI nu))), (zn 2, zc G 1 (zI 5 (vI ax))), (zn 3, zc G 1 (zI 5 (vI le))), (zn 4, zc G 2 (zI 5 (vI kn)))]) (cells' := [(q_18, zo 1 (stF zb co (nI ps) (nI dy) ((nI 0)))), (zb 0, zc G 1 (zI 9 (vI (cpN pl (fun _ => 0) 9)))), (zb 1, zc G 1 (zI 9 (vI (cpN nu (fun _ => 0) 9)))), (zb 2, zc G 1 (zI 5 (vI (cpN ax (fun _ => 0) 5)))), (zb 3, zc G 1 (zI 5 (vI (cpN le (fun _ => 0) 5)))), (zb 4, zc G 2 (zI 5 (vI (cpN kn (fun _ => 0) 5)))), (w 2, zo 1 (stF zn co (nI ps) (nI dy) (gg))), (zn 0, zc G 1 (zI 9 (vI pl))), (zn 1, zc G 1 (zI 9 (vI nu))), (zn 2, zc G 1 (zI 5 (vI ax))), (zn 3, zc G 1 (zI 5 (vI le))), (zn 4, zc G 2 (zI 5 (vI kn)))]) rfl rfl rfl) (fun r u H locs hp hw => ?_)
    have hw : zS G ((zb 0, zc G 1 (zI 9 (vI (cpN pl (fun _ => 0) 9)))) :: (zb 1, zc G 1 (zI 9 (vI (cpN nu (fun _ => 0) 9)))) :: (zb 2, zc G 1 (zI 5 (vI (cpN ax (fun _ => 0) 5)))) :: (zb 3, zc G 1 (zI 5 (vI (cpN le (fun _ => 0) 5)))) :: (zb 4, zc G 2 (zI 5 (vI (cpN kn (fun _ => 0) 5)))) :: (q_18, zo 1 (stF zb co (nI ps) (nI dy) ((nI 0)))) :: (co, zo 0 (cF w (nI mn) bm sm lt)) :: (w 2, zo 1 (stF zn co (nI ps) (nI dy) (gg))) :: (zn 0, zc G 1 (zI 9 (vI pl))) :: (zn 1, zc G 1 (zI 9 (vI nu))) :: (zn 2, zc G 1 (zI 5 (vI ax))) :: (zn 3, zc G 1 (zI 5 (vI le))) :: (zn 4, zc G 2 (zI 5 (vI kn))) :: (w 4, zc G 5 (zO 2 kf)) :: (pw 2 ks ++ rest)) s H locs := hw
    obtain rfl : r = some q_18 := hp
    refine z_aast (t := 5) (f' := va_up kf k (some q_18)) hC hw 13 rfl (fun _ => rfl) (by omega) (by decide) (z_anyE hC hw 5 rfl rfl) rfl dX0_keep_33 (fun H locs hw => ?_)
    have hw : zS G ((zb 0, zc G 1 (zI 9 (vI (cpN pl (fun _ => 0) 9)))) :: (zb 1, zc G 1 (zI 9 (vI (cpN nu (fun _ => 0) 9)))) :: (zb 2, zc G 1 (zI 5 (vI (cpN ax (fun _ => 0) 5)))) :: (zb 3, zc G 1 (zI 5 (vI (cpN le (fun _ => 0) 5)))) :: (zb 4, zc G 2 (zI 5 (vI (cpN kn (fun _ => 0) 5)))) :: (q_18, zo 1 (stF zb co (nI ps) (nI dy) ((nI 0)))) :: (co, zo 0 (cF w (nI mn) bm sm lt)) :: (w 2, zo 1 (stF zn co (nI ps) (nI dy) (gg))) :: (zn 0, zc G 1 (zI 9 (vI pl))) :: (zn 1, zc G 1 (zI 9 (vI nu))) :: (zn 2, zc G 1 (zI 5 (vI ax))) :: (zn 3, zc G 1 (zI 5 (vI le))) :: (zn 4, zc G 2 (zI 5 (vI kn))) :: (w 4, zc G 5 (zO 2 (va_up kf k (some q_18)))) :: (pw 2 ks ++ rest)) s H locs := hw
    refine lv_aload_n hx hb dX0_keep_34 rfl (lv_at hl 0 rfl) ?_
    refine z_get (v := .ref (w 2)) hC zf_X0_27_0 hw 6 rfl rfl dX0_keep_35 ?_
    refine z_get (v := .int (nI dy)) hC zf_X0_201_1 hw 7 rfl rfl dX0_keep_38 ?_
    have hw : zS G ((zb 0, zc G 1 (zI 9 (vI (cpN pl (fun _ => 0) 9)))) :: (zb 1, zc G 1 (zI 9 (vI (cpN nu (fun _ => 0) 9)))) :: (zb 2, zc G 1 (zI 5 (vI (cpN ax (fun _ => 0) 5)))) :: (zb 3, zc G 1 (zI 5 (vI (cpN le (fun _ => 0) 5)))) :: (zb 4, zc G 2 (zI 5 (vI (cpN kn (fun _ => 0) 5)))) :: (q_18, zo 1 (stF zb co (nI ps) (nI dy) ((nI 0)))) :: (co, zo 0 (cF w (nI mn) bm sm lt)) :: (w 2, zo 1 (stF zn co (nI ps) (nI dy) (gg))) :: (zn 0, zc G 1 (zI 9 (vI pl))) :: (zn 1, zc G 1 (zI 9 (vI nu))) :: (zn 2, zc G 1 (zI 5 (vI ax))) :: (zn 3, zc G 1 (zI 5 (vI le))) :: (zn 4, zc G 2 (zI 5 (vI kn))) :: (w 4, zc G 5 (zO 2 (va_up kf k (some q_18)))) :: (pwX 2 ks k ++ rest)) s H locs := (hw.perm (pl_get (E := [(zb 0, zc G 1 (zI 9 (vI (cpN pl (fun _ => 0) 9)))), (zb 1, zc G 1 (zI 9 (vI (cpN nu (fun _ => 0) 9)))), (zb 2, zc G 1 (zI 5 (vI (cpN ax (fun _ => 0) 5)))), (zb 3, zc G 1 (zI 5 (vI (cpN le (fun _ => 0) 5)))), (zb 4, zc G 2 (zI 5 (vI (cpN kn (fun _ => 0) 5)))), (q_18, zo 1 (stF zb co (nI ps) (nI dy) ((nI 0)))), (co, zo 0 (cF w (nI mn) bm sm lt)), (w 2, zo 1 (stF zn co (nI ps) (nI dy) (gg))), (zn 0, zc G 1 (zI 9 (vI pl))), (zn 1, zc G 1 (zI 9 (vI nu))), (zn 2, zc G 1 (zI 5 (vI ax))), (zn 3, zc G 1 (zI 5 (vI le))), (zn 4, zc G 2 (zI 5 (vI kn))), (w 4, zc G 5 (zO 2 (va_up kf k (some q_18))))]) (sl := ks) (show k < 2 by omega))).dropP _
    have hw : zS G ((q_18, zo 1 (stF zb co (nI ps) (nI dy) ((nI 0)))) :: (zb 0, zc G 1 (zI 9 (vI (cpN pl (fun _ => 0) 9)))) :: (zb 1, zc G 1 (zI 9 (vI (cpN nu (fun _ => 0) 9)))) :: (zb 2, zc G 1 (zI 5 (vI (cpN ax (fun _ => 0) 5)))) :: (zb 3, zc G 1 (zI 5 (vI (cpN le (fun _ => 0) 5)))) :: (zb 4, zc G 2 (zI 5 (vI (cpN kn (fun _ => 0) 5)))) :: (co, zo 0 (cF w (nI mn) bm sm lt)) :: (w 2, zo 1 (stF zn co (nI ps) (nI dy) (gg))) :: (zn 0, zc G 1 (zI 9 (vI pl))) :: (zn 1, zc G 1 (zI 9 (vI nu))) :: (zn 2, zc G 1 (zI 5 (vI ax))) :: (zn 3, zc G 1 (zI 5 (vI le))) :: (zn 4, zc G 2 (zI 5 (vI kn))) :: (w 4, zc G 5 (zO 2 (va_up kf k (some q_18)))) :: (pwX 2 ks k ++ rest)) s H locs := hw.perm (((z_cut (is := [5, 0, 1, 2, 3, 4, 6, 7, 8, 9, 10, 11, 12, 13]) (ws := [(zb 0, zc G 1 (zI 9 (vI (cpN pl (fun _ => 0) 9)))), (zb 1, zc G 1 (zI 9 (vI (cpN nu (fun _ => 0) 9)))), (zb 2, zc G 1 (zI 5 (vI (cpN ax (fun _ => 0) 5)))), (zb 3, zc G 1 (zI 5 (vI (cpN le (fun _ => 0) 5)))), (zb 4, zc G 2 (zI 5 (vI (cpN kn (fun _ => 0) 5)))), (q_18, zo 1 (stF zb co (nI ps) (nI dy) ((nI 0)))), (co, zo 0 (cF w (nI mn) bm sm lt)), (w 2, zo 1 (stF zn co (nI ps) (nI dy) (gg))), (zn 0, zc G 1 (zI 9 (vI pl))), (zn 1, zc G 1 (zI 9 (vI nu))), (zn 2, zc G 1 (zI 5 (vI ax))), (zn 3, zc G 1 (zI 5 (vI le))), (zn 4, zc G 2 (zI 5 (vI kn))), (w 4, zc G 5 (zO 2 (va_up kf k (some q_18))))]) (cells := [(q_18, zo 1 (stF zb co (nI ps) (nI dy) ((nI 0)))), (zb 0, zc G 1 (zI 9 (vI (cpN pl (fun _ => 0) 9)))), (zb 1, zc G 1 (zI 9 (vI (cpN nu (fun _ => 0) 9)))), (zb 2, zc G 1 (zI 5 (vI (cpN ax (fun _ => 0) 5)))), (zb 3, zc G 1 (zI 5 (vI (cpN le (fun _ => 0) 5)))), (zb 4, zc G 2 (zI 5 (vI (cpN kn (fun _ => 0) 5)))), (co, zo 0 (cF w (nI mn) bm sm lt)), (w 2, zo 1 (stF zn co (nI ps) (nI dy) (gg))), (zn 0, zc G 1 (zI 9 (vI pl))), (zn 1, zc G 1 (zI 9 (vI nu))), (zn 2, zc G 1 (zI 5 (vI ax))), (zn 3, zc G 1 (zI 5 (vI le))), (zn 4, zc G 2 (zI 5 (vI kn))), (w 4, zc G 5 (zO 2 (va_up kf k (some q_18))))]) rfl rfl).append_right (pwX 2 ks k ++ rest)).trans (by rw [List.append_assoc]; exact List.Perm.refl _))
    have hw : zS G ((co, zo 0 (cF w (nI mn) bm sm lt)) :: (w 2, zo 1 (stF zn co (nI ps) (nI dy) (gg))) :: (zn 0, zc G 1 (zI 9 (vI pl))) :: (zn 1, zc G 1 (zI 9 (vI nu))) :: (zn 2, zc G 1 (zI 5 (vI ax))) :: (zn 3, zc G 1 (zI 5 (vI le))) :: (zn 4, zc G 2 (zI 5 (vI kn))) :: (w 4, zc G 5 (zO 2 (va_up kf k (some q_18)))) :: (pw 2 (va_up ks k (stW G co q_18 zb ps dy 0 (cpN pl (fun _ => 0) 9) (cpN nu (fun _ => 0) 9) (cpN ax (fun _ => 0) 5) (cpN le (fun _ => 0) 5) (cpN kn (fun _ => 0) 5))) ++ rest)) s H locs := hw.perm (pl_put (x := stW G co q_18 zb ps dy 0 (cpN pl (fun _ => 0) 9) (cpN nu (fun _ => 0) 9) (cpN ax (fun _ => 0) 5) (cpN le (fun _ => 0) 5) (cpN kn (fun _ => 0) 5)) (E := [(co, zo 0 (cF w (nI mn) bm sm lt)), (w 2, zo 1 (stF zn co (nI ps) (nI dy) (gg))), (zn 0, zc G 1 (zI 9 (vI pl))), (zn 1, zc G 1 (zI 9 (vI nu))), (zn 2, zc G 1 (zI 5 (vI ax))), (zn 3, zc G 1 (zI 5 (vI le))), (zn 4, zc G 2 (zI 5 (vI kn))), (w 4, zc G 5 (zO 2 (va_up kf k (some q_18))))]) (sl := ks) (show k < 2 by omega))
    have hcp := sRel_cp hH hR sBd_0
    have hF : F_keep A (nI k) = (nI dy, mkA (aT A) (aL A) (aV0 A) (aV A) (aU A) (aUs A) (va_up (aK A) k (some (aV A))) (aS A) (aSg A) (aTr A)) := by unfold F_keep; rw [ifP_t ⟨k, hk1, hk2, rfl⟩, cl_nI (by omega), hdy]
    exact hend _ _ _ _ _ _ _ ((va_up kf k (some q_18)), (va_up ks k (stW G co q_18 zb ps dy 0 (cpN pl (fun _ => 0) 9) (cpN nu (fun _ => 0) 9) (cpN ax (fun _ => 0) 5) (cpN le (fun _ => 0) 5) (cpN kn (fun _ => 0) 5)))) hw (by rw [hF]; exact ⟨rfl, (kpR_up hK ⟨_, _, _, _, _, _, _, _, _, rfl, hcp.2.2.2, fun w hw => by cases hw; exact ⟨hps, hdy, hcp⟩⟩)⟩) (Nat.le_of_ble_eq_true rfl) (Nat.le_of_ble_eq_true rfl) dX0_keep_41
  · skip
    refine lv_bipush (v := (-2)) hx hb dX0_keep_10 zb_m2 ?_
    have hF : F_keep A x = (-2, A) := by exact ifP_f c_7
    exact hend _ _ _ _ _ _ _ (kf, ks) hw (by rw [hF]; exact ⟨rfl, hK⟩) (Nat.le_of_ble_eq_true rfl) (Nat.le_of_ble_eq_true rfl) dX0_keep_12
