/-! MODEL: trails -/
set_option maxRecDepth 100000
set_option maxHeartbeats 4000000 in
theorem m_X2_isTrail (G : zE) (l : Launch) (x : Int32) (rest : va_W) : zMi G l yX2_isTrail cX2_isTrail 1 (some .boolean) 1 0 0 [.int x] (rest) (fun (r : Int32) (_ : Unit) => r = bI (inR x 0 2)) (fun (_ : Unit) => rest) := by
  refine z_begZ (by decide) (Nat.le_of_ble_eq_true rfl) (fun p e s m args below meth c ls Q hC hl hw hend => ?_)
  have hx := hC.hx
  have hb := hC.hb
  have hl : lv_has ls 1 [(0, .int x)] := hl
  refine lv_iload_n hx hb dX2_isTrail_0 rfl (lv_at hl 0 rfl) ?_
  refine lv_iconst (v := (nI 0)) hx hb dX2_isTrail_1 zk_0 ?_
  refine lv_iconst (v := (nI 2)) hx hb dX2_isTrail_2 zk_2 ?_
  refine z_ci (z_runS (As := [.int x, .int (nI 0), .int (nI 2)]) (rest := []) hC zs_X2_59 (m_X2_in_n G l x 0 2 (by decide) (by decide) _) hw rfl rfl (Nat.le_of_ble_eq_true rfl) hl.1 ⟨Nat.le_of_ble_eq_true rfl, Nat.le_of_ble_eq_true rfl⟩ ⟨(Nat.le_of_ble_eq_true rfl), (Nat.le_of_ble_eq_true rfl)⟩ dX2_isTrail_3) hw (fun _ => List.Perm.refl _) (fun r u H locs hp hw => ?_)
  obtain rfl : r = bI (inR x 0 2) := hp
  exact hend _ _ _ _ _ _ _ () (bI_nar _) hw rfl (Nat.le_of_ble_eq_true rfl) (Nat.le_of_ble_eq_true rfl) dX2_isTrail_6
theorem wellP_0 {k v : Int32} (h : k = 0) : (-9999 ≤ v ∧ v ≤ nI 9999) ↔ wellP k v := by
  constructor
  · exact fun q => Or.inl ⟨h, q⟩
  · rintro (q | q | q)
    · exact q.2
    · exact absurd (h.symm.trans q.1) (by decide)
    · exact absurd (h.symm.trans q) (by decide)
theorem wellP_2 {k v : Int32} (h : k = nI 2) : inR v 0 9 ↔ wellP k v := by
  constructor
  · exact fun q => Or.inr (Or.inl ⟨h, q⟩)
  · rintro (q | q | q)
    · exact absurd (h.symm.trans q.1) (by decide)
    · exact q.2
    · exact absurd (h.symm.trans q) (by decide)
theorem wellP_no {k v : Int32} (h0 : ¬ k = 0) (h2 : ¬ k = nI 2) (h1 : ¬ k = nI 1) : ¬ wellP k v := by
  rintro (q | q | q)
  · exact h0 q.1
  · exact h2 q.1
  · exact h1 q
theorem step_p {h w p : Nat} (hw : w ≤ 1) (hh : h ≤ 12) (hp : p < 12) (e : nI h - nI w = nI p) : w ≤ h ∧ p = h - w := by
  by_cases hle : w ≤ h
  · rw [nI_sub hle, nI_eq (by omega) (by omega)] at e
    exact ⟨hle, e.symm⟩
  · have h1 : w = 1 := by omega
    have h2 : h = 0 := by omega
    subst h1; subst h2
    exact absurd e.symm (nI_nm1 (by omega))
theorem nI_dec {h : Nat} (h0 : 0 < h) : nI h + (-1) = nI (h - 1) := by
  obtain ⟨k, rfl⟩ : ∃ k, h = k + 1 := ⟨h - 1, by omega⟩
  exact pk_m1 k
theorem okItem_le {n : Nat} {x : Nat × Int32} (h : okItem n x) : x.1 ≤ 2 := by
  rcases h with h | h | h <;> omega
theorem getD_mem {l : List (Nat × Int32)} {p : Nat} (h : p < l.length) : l.getD p (0, 0) ∈ l := by
  rw [List.getD_eq_getElem?_getD, List.getElem?_eq_getElem h]
  exact List.getElem_mem h
theorem F_step_none {A : AS} {t w k : Nat} (ht : t ≤ 2) (hw : w ≤ 1) (hk : k ≤ 2) (htr : aTr A t = none) : F_step A (nI t) (nI w) (nI k) = (-11, A) := by
  unfold F_step
  rw [ifP_t ⟨t, Nat.zero_le _, ht, rfl⟩, ifP_t ⟨⟨w, Nat.zero_le _, hw, rfl⟩, ⟨k, Nat.zero_le _, hk, rfl⟩⟩, cl_nI (by omega), htr]
theorem F_step_end {A : AS} {t w k : Nat} {r : TR} (ht : t ≤ 2) (hw : w ≤ 1) (hk : k ≤ 2) (htr : aTr A t = some r) (h : ¬ stepOk r w) : F_step A (nI t) (nI w) (nI k) = (-12, A) := by
  unfold F_step
  rw [ifP_t ⟨t, Nat.zero_le _, ht, rfl⟩, ifP_t ⟨⟨w, Nat.zero_le _, hw, rfl⟩, ⟨k, Nat.zero_le _, hk, rfl⟩⟩, cl_nI (by omega), htr]
  show ifP (stepOk r (cl (nI w))) _ _ = _
  rw [cl_nI (by omega), ifP_f h]
theorem F_step_cast {A : AS} {t w k : Nat} {r : TR} (ht : t ≤ 2) (hw : w ≤ 1) (hk : k ≤ 2) (htr : aTr A t = some r) (h : stepOk r w) (hc : (r.1.getD (stepAt r w) (0, 0)).1 ≠ k) : F_step A (nI t) (nI w) (nI k) = (-14, A) := by
  unfold F_step
  rw [ifP_t ⟨t, Nat.zero_le _, ht, rfl⟩, ifP_t ⟨⟨w, Nat.zero_le _, hw, rfl⟩, ⟨k, Nat.zero_le _, hk, rfl⟩⟩, cl_nI (by omega), htr]
  show ifP (stepOk r (cl (nI w))) (if (r.1.getD (stepAt r (cl (nI w))) (0, 0)).1 = cl (nI k) then _ else _) _ = _
  rw [cl_nI (by omega), cl_nI (by omega), ifP_t h, if_neg hc]
theorem F_step_ok {A : AS} {t w k : Nat} {r : TR} (ht : t ≤ 2) (hw : w ≤ 1) (hk : k ≤ 2) (htr : aTr A t = some r) (h : stepOk r w) (hc : (r.1.getD (stepAt r w) (0, 0)).1 = k) : F_step A (nI t) (nI w) (nI k) = (itemV (r.1.getD (stepAt r w) (0, 0)), sT A t (some (r.1, (if w = 0 then r.2.1 + 1 else r.2.1 - 1), some (stepAt r w)))) := by
  unfold F_step
  rw [ifP_t ⟨t, Nat.zero_le _, ht, rfl⟩, ifP_t ⟨⟨w, Nat.zero_le _, hw, rfl⟩, ⟨k, Nat.zero_le _, hk, rfl⟩⟩, cl_nI (by omega), htr]
  show ifP (stepOk r (cl (nI w))) (if (r.1.getD (stepAt r (cl (nI w))) (0, 0)).1 = cl (nI k) then (itemV (r.1.getD (stepAt r (cl (nI w))) (0, 0)), sT A t (some (r.1, (if cl (nI w) = 0 then r.2.1 + 1 else r.2.1 - 1), some (stepAt r (cl (nI w)))))) else _) _ = _
  rw [cl_nI (by omega), cl_nI (by omega), ifP_t h, if_pos hc]
set_option maxHeartbeats 4000000 in
theorem m_X2_isWell (G : zE) (l : Launch) (k : Int32) (v : Int32) (rest : va_W) : zMi G l yX2_isWell cX2_isWell 2 (some .boolean) 1 0 0 [.int k, .int v] (rest) (fun (r : Int32) (_ : Unit) => r = bI (wellP k v)) (fun (_ : Unit) => rest) := by
  refine z_begZ (by decide) (Nat.le_of_ble_eq_true rfl) (fun p e s m args below meth c ls Q hC hl hw hend => ?_)
  have hx := hC.hx
  have hb := hC.hb
  have hl : lv_has ls 2 [(0, .int k), (1, .int v)] := hl
  refine lv_iload_n hx hb dX2_isWell_0 rfl (lv_at hl 0 rfl) ?_
  refine lv_if_ne (tgt := 17) hx hb dX2_isWell_1 (by decide) (fun c_1 => ?_) (fun c_1 => ?_)
  · skip
    refine lv_iload_n hx hb dX2_isWell_17 rfl (lv_at hl 0 rfl) ?_
    refine lv_iconst (v := (nI 2)) hx hb dX2_isWell_18 zk_2 ?_
    refine lv_icmp_ne (tgt := 32) hx hb dX2_isWell_19 (by decide) (fun c_19 => ?_) (fun c_19 => ?_)
    · skip
      refine lv_iload_n hx hb dX2_isWell_32 rfl (lv_at hl 0 rfl) ?_
      refine lv_iconst (v := (nI 1)) hx hb dX2_isWell_33 zk_1 ?_
      refine lv_icmp_ne (tgt := 41) hx hb dX2_isWell_34 (by decide) (fun c_34 => ?_) (fun c_34 => ?_)
      · skip
        refine lv_iconst (v := (nI 0)) hx hb dX2_isWell_41 zk_0 ?_
        exact hend _ _ _ _ _ _ _ () rfl hw (by first | exact bI_iff (wellP_0 c_1) | exact bI_iff (wellP_2 c_19) | exact (bI_t (Or.inr (Or.inr c_34))).symm | exact (bI_f (wellP_no c_1 c_19 c_34)).symm) (Nat.le_of_ble_eq_true rfl) (Nat.le_of_ble_eq_true rfl) dX2_isWell_42
      · skip
        refine lv_iconst (v := (nI 1)) hx hb dX2_isWell_37 zk_1 ?_
        refine lv_goto (tgt := 42) hx hb dX2_isWell_38 (by decide) ?_
        exact hend _ _ _ _ _ _ _ () rfl hw (by first | exact bI_iff (wellP_0 c_1) | exact bI_iff (wellP_2 c_19) | exact (bI_t (Or.inr (Or.inr c_34))).symm | exact (bI_f (wellP_no c_1 c_19 c_34)).symm) (Nat.le_of_ble_eq_true rfl) (Nat.le_of_ble_eq_true rfl) dX2_isWell_42
    · skip
      refine lv_iload_n hx hb dX2_isWell_22 rfl (lv_at hl 1 rfl) ?_
      refine lv_iconst (v := (nI 0)) hx hb dX2_isWell_23 zk_0 ?_
      refine lv_bipush (v := (nI 9)) hx hb dX2_isWell_24 zb_9 ?_
      refine z_ci (z_runS (As := [.int v, .int (nI 0), .int (nI 9)]) (rest := []) hC zs_X2_59 (m_X2_in_n G l v 0 9 (by decide) (by decide) _) hw rfl rfl (Nat.le_of_ble_eq_true rfl) hl.1 ⟨Nat.le_of_ble_eq_true rfl, Nat.le_of_ble_eq_true rfl⟩ ⟨(Nat.le_of_ble_eq_true rfl), (Nat.le_of_ble_eq_true rfl)⟩ dX2_isWell_26) hw (fun _ => List.Perm.refl _) (fun r u H locs hp hw => ?_)
      obtain rfl : r = bI (inR v 0 9) := hp
      refine lv_goto (tgt := 42) hx hb dX2_isWell_29 (by decide) ?_
      exact hend _ _ _ _ _ _ _ () (bI_nar _) hw (by first | exact bI_iff (wellP_0 c_1) | exact bI_iff (wellP_2 c_19) | exact (bI_t (Or.inr (Or.inr c_34))).symm | exact (bI_f (wellP_no c_1 c_19 c_34)).symm) (Nat.le_of_ble_eq_true rfl) (Nat.le_of_ble_eq_true rfl) dX2_isWell_42
  · skip
    refine lv_iload_n hx hb dX2_isWell_4 rfl (lv_at hl 1 rfl) ?_
    refine lv_sipush (v := (-9999)) hx hb dX2_isWell_5 zs_m9999 ?_
    refine lv_sipush (v := (nI 9999)) hx hb dX2_isWell_8 zs_9999 ?_
    refine z_ci (z_runS (As := [.int v, .int (-9999), .int (nI 9999)]) (rest := []) hC zs_X2_59 (m_X2_in G l v (-9999) (nI 9999) _) hw rfl rfl (Nat.le_of_ble_eq_true rfl) hl.1 ⟨Nat.le_of_ble_eq_true rfl, Nat.le_of_ble_eq_true rfl⟩ ⟨(Nat.le_of_ble_eq_true rfl), (Nat.le_of_ble_eq_true rfl)⟩ dX2_isWell_11) hw (fun _ => List.Perm.refl _) (fun r u H locs hp hw => ?_)
    obtain rfl : r = bI ((-9999) ≤ v ∧ v ≤ (nI 9999)) := hp
    refine lv_goto (tgt := 42) hx hb dX2_isWell_14 (by decide) ?_
    exact hend _ _ _ _ _ _ _ () (bI_nar _) hw (by first | exact bI_iff (wellP_0 c_1) | exact bI_iff (wellP_2 c_19) | exact (bI_t (Or.inr (Or.inr c_34))).symm | exact (bI_f (wellP_no c_1 c_19 c_34)).symm) (Nat.le_of_ble_eq_true rfl) (Nat.le_of_ble_eq_true rfl) dX2_isWell_42
theorem zf_X2_50_2 : zFl 2 23 RX2 50 true (.array .int) := ⟨RX2, TX2, 25, tyX2, rfl, by decide, in_X2, q1821, rfl, by decide +kernel, tyX2_ok, nmX2⟩
theorem zf_X2_53_2 : zFl 2 24 RX2 53 true (.array .int) := ⟨RX2, TX2, 25, tyX2, rfl, by decide, in_X2, q1822, rfl, by decide +kernel, tyX2_ok, nmX2⟩
set_option maxHeartbeats 4000000 in
theorem m_X2_lays (G : zE) (l : Launch) (mo : Nat) (q : Nat → Nat) (le : Int32) (at1 : Int32) (st : Int32) (tk : Int32) (ln : Int32) (va : Int32) (wr : Int32) (cl : Int32) (un : Int32) (si : Int32) (t : Nat) (p9 : Nat) (k : Int32) (v : Int32) (g : Nat → Int32) (g2 : Nat → Int32) (hi : 12 * t + p9 < 36) (rest : va_W) : zMv G l yX2_lays cX2_lays 5 0 0 0 [.ref mo, .int (nI t), .int (nI p9), .int k, .int v] ((mo, zo 2 (mF q le at1 st tk ln va wr cl un si)) :: (q 23, zc G 0 (zI 36 g)) :: (q 24, zc G 0 (zI 36 g2)) :: rest) (fun (_ : Unit) => True) (fun (_ : Unit) => (mo, zo 2 (mF q le at1 st tk ln va wr cl un si)) :: (q 23, zc G 0 (zI 36 (upd g (12 * t + p9) k))) :: (q 24, zc G 0 (zI 36 (upd g2 (12 * t + p9) v))) :: rest) := by
  refine z_begV (by decide) (Nat.le_of_ble_eq_true rfl) (fun p e s m args below meth c ls Q hC hnm hl hw hend => ?_)
  have hx := hC.hx
  have hb := hC.hb
  have hl : lv_has ls 5 [(0, .ref mo), (1, .int (nI t)), (2, .int (nI p9)), (3, .int k), (4, .int v)] := hl
  have hw : zS G ((mo, zo 2 (mF q le at1 st tk ln va wr cl un si)) :: (q 23, zc G 0 (zI 36 g)) :: (q 24, zc G 0 (zI 36 g2)) :: rest) s s.heap [] := hw
  refine lv_aload_n hx hb dX2_lays_0 rfl (lv_at hl 0 rfl) ?_
  refine z_get (v := .ref (q 23)) hC zf_X2_50_2 hw 0 rfl rfl dX2_lays_1 ?_
  refine lv_bipush (v := (nI 12)) hx hb dX2_lays_4 zb_12 ?_
  refine lv_iload_n hx hb dX2_lays_6 rfl (lv_at hl 1 rfl) ?_
  refine zn_imul hx hb dX2_lays_7 ?_
  refine lv_iload_n hx hb dX2_lays_8 rfl (lv_at hl 2 rfl) ?_
  refine zn_iadd hx hb dX2_lays_9 ?_
  refine lv_iload_n hx hb dX2_lays_10 rfl (lv_at hl 3 rfl) ?_
  refine z_iast (f' := upd g (12 * t + p9) k) hC hw 1 rfl (by omega) (by decide) rfl dX2_lays_11 (fun H locs hw => ?_)
  have hw : zS G ((mo, zo 2 (mF q le at1 st tk ln va wr cl un si)) :: (q 23, zc G 0 (zI 36 (upd g (12 * t + p9) k))) :: (q 24, zc G 0 (zI 36 g2)) :: rest) s H locs := hw
  refine lv_aload_n hx hb dX2_lays_12 rfl (lv_at hl 0 rfl) ?_
  refine z_get (v := .ref (q 24)) hC zf_X2_53_2 hw 0 rfl rfl dX2_lays_13 ?_
  refine lv_bipush (v := (nI 12)) hx hb dX2_lays_16 zb_12 ?_
  refine lv_iload_n hx hb dX2_lays_18 rfl (lv_at hl 1 rfl) ?_
  refine zn_imul hx hb dX2_lays_19 ?_
  refine lv_iload_n hx hb dX2_lays_20 rfl (lv_at hl 2 rfl) ?_
  refine zn_iadd hx hb dX2_lays_21 ?_
  refine lv_iload hx hb dX2_lays_22 (lv_at hl 4 rfl) ?_
  refine z_iast (f' := upd g2 (12 * t + p9) v) hC hw 2 rfl (by omega) (by decide) rfl dX2_lays_24 (fun H locs hw => ?_)
  have hw : zS G ((mo, zo 2 (mF q le at1 st tk ln va wr cl un si)) :: (q 23, zc G 0 (zI 36 (upd g (12 * t + p9) k))) :: (q 24, zc G 0 (zI 36 (upd g2 (12 * t + p9) v))) :: rest) s H locs := hw
  exact hend _ _ _ _ _ _ () hw trivial (Nat.le_of_ble_eq_true rfl) (Nat.le_of_ble_eq_true rfl) dX2_lays_25
theorem zs_X2_229 : zSs RX2 229 yX2_isTrail cX2_isTrail 1 (some .boolean) 1 := ⟨lw_S q2125 q2126 q53 q2127, ⟨by decide +kernel, by decide +kernel⟩, by decide +kernel⟩
theorem zf_X2_44_2 : zFl 2 21 RX2 44 true (.array .int) := ⟨RX2, TX2, 25, tyX2, rfl, by decide, in_X2, q1819, rfl, by decide +kernel, tyX2_ok, nmX2⟩
theorem zf_X2_47_2 : zFl 2 22 RX2 47 true (.array .int) := ⟨RX2, TX2, 25, tyX2, rfl, by decide, in_X2, q1820, rfl, by decide +kernel, tyX2_ok, nmX2⟩
set_option maxHeartbeats 4000000 in
theorem m_X2_trail (G : zE) (l : Launch) (mo : Nat) (q : Nat → Nat) (A : AS) (b : Nat → Nat → Int32) (f : Nat → Int32) (hA : AOk A) (hM : MRel A b f) (x : Int32) (rest : va_W) : zMi G l yX2_trail cX2_trail 2 (some .int) 2 0 0 [.ref mo, .int x] ((mo, zo 2 (mF q (f 1) (f 2) (f 3) (f 4) (f 5) (f 6) (f 7) (f 8) (f 14) (f 19))) :: (q 0, zc G 0 (zI 200 (b 0))) :: (q 9, zc G 0 (zI 46 (b 9))) :: (q 10, zc G 0 (zI 46 (b 10))) :: (q 11, zc G 0 (zI 46 (b 11))) :: (q 12, zc G 0 (zI 46 (b 12))) :: (q 13, zc G 0 (zI 368 (b 13))) :: (q 15, zc G 0 (zI 92 (b 15))) :: (q 16, zc G 3 (zI 2 (b 16))) :: (q 17, zc G 0 (zI 5 (b 17))) :: (q 18, zc G 0 (zI 24 (b 18))) :: (q 20, zc G 0 (zI 3 (b 20))) :: (q 21, zc G 0 (zI 3 (b 21))) :: (q 22, zc G 0 (zI 3 (b 22))) :: (q 23, zc G 0 (zI 36 (b 23))) :: (q 24, zc G 0 (zI 36 (b 24))) :: rest) (fun (r : Int32) (u : MB) => r = (F_trail A x).1 ∧ MRel (F_trail A x).2 u.1 u.2) (fun (u : MB) => (mo, zo 2 (mF q (u.2 1) (u.2 2) (u.2 3) (u.2 4) (u.2 5) (u.2 6) (u.2 7) (u.2 8) (u.2 14) (u.2 19))) :: (q 0, zc G 0 (zI 200 (u.1 0))) :: (q 9, zc G 0 (zI 46 (u.1 9))) :: (q 10, zc G 0 (zI 46 (u.1 10))) :: (q 11, zc G 0 (zI 46 (u.1 11))) :: (q 12, zc G 0 (zI 46 (u.1 12))) :: (q 13, zc G 0 (zI 368 (u.1 13))) :: (q 15, zc G 0 (zI 92 (u.1 15))) :: (q 16, zc G 3 (zI 2 (u.1 16))) :: (q 17, zc G 0 (zI 5 (u.1 17))) :: (q 18, zc G 0 (zI 24 (u.1 18))) :: (q 20, zc G 0 (zI 3 (u.1 20))) :: (q 21, zc G 0 (zI 3 (u.1 21))) :: (q 22, zc G 0 (zI 3 (u.1 22))) :: (q 23, zc G 0 (zI 36 (u.1 23))) :: (q 24, zc G 0 (zI 36 (u.1 24))) :: rest) := by
  refine z_begI (by decide) (Nat.le_of_ble_eq_true rfl) (fun p e s m args below meth c ls Q hC hl hw hend => ?_)
  have hx := hC.hx
  have hb := hC.hb
  have hl : lv_has ls 2 [(0, .ref mo), (1, .int x)] := hl
  have hw : zS G ((mo, zo 2 (mF q (f 1) (f 2) (f 3) (f 4) (f 5) (f 6) (f 7) (f 8) (f 14) (f 19))) :: (q 0, zc G 0 (zI 200 (b 0))) :: (q 9, zc G 0 (zI 46 (b 9))) :: (q 10, zc G 0 (zI 46 (b 10))) :: (q 11, zc G 0 (zI 46 (b 11))) :: (q 12, zc G 0 (zI 46 (b 12))) :: (q 13, zc G 0 (zI 368 (b 13))) :: (q 15, zc G 0 (zI 92 (b 15))) :: (q 16, zc G 3 (zI 2 (b 16))) :: (q 17, zc G 0 (zI 5 (b 17))) :: (q 18, zc G 0 (zI 24 (b 18))) :: (q 20, zc G 0 (zI 3 (b 20))) :: (q 21, zc G 0 (zI 3 (b 21))) :: (q 22, zc G 0 (zI 3 (b 22))) :: (q 23, zc G 0 (zI 36 (b 23))) :: (q 24, zc G 0 (zI 36 (b 24))) :: rest) s s.heap [] := hw
  have hA9 := hA
  obtain ⟨⟨hT, hL⟩, hV0, hV, ⟨hU, hUs⟩, hKp, ⟨hSi, hSg⟩, hTr⟩ := hM
  obtain ⟨⟨hL2, hT2⟩, hB0, hBv, ⟨hU8, hUb⟩, hKb, ⟨hS6, hSb⟩, hTb⟩ := hA
  have hH : Hw (aV A) := hBv.1.1
  have hday := hBv.2.2
  have hw : zS G ((mo, zo 2 (mF q (f 1) (f 2) (f 3) (f 4) (f 5) (f 6) (f 7) (f 8) (f 14) (f 19))) :: (q 0, zc G 0 (zI 200 (b 0))) :: (q 9, zc G 0 (zI 46 (b 9))) :: (q 10, zc G 0 (zI 46 (b 10))) :: (q 11, zc G 0 (zI 46 (b 11))) :: (q 12, zc G 0 (zI 46 (b 12))) :: (q 13, zc G 0 (zI 368 (b 13))) :: (q 15, zc G 0 (zI 92 (b 15))) :: (q 16, zc G 3 (zI 2 (b 16))) :: (q 17, zc G 0 (zI 5 (b 17))) :: (q 18, zc G 0 (zI 24 (b 18))) :: (q 20, zc G 0 (zI 3 (b 20))) :: (q 21, zc G 0 (zI 3 (b 21))) :: (q 22, zc G 0 (zI 3 (b 22))) :: (q 23, zc G 0 (zI 36 (b 23))) :: (q 24, zc G 0 (zI 36 (b 24))) :: rest) s s.heap [] := hw
  refine lv_iload_n hx hb dX2_trail_0 rfl (lv_at hl 1 rfl) ?_
  refine z_ci (z_runS (As := [.int x]) (rest := []) hC zs_X2_229 (m_X2_isTrail G l x _) hw rfl rfl (Nat.le_of_ble_eq_true rfl) hl.1 ⟨Nat.le_of_ble_eq_true rfl, Nat.le_of_ble_eq_true rfl⟩ ⟨(Nat.le_of_ble_eq_true rfl), (Nat.le_of_ble_eq_true rfl)⟩ dX2_trail_1) hw (fun _ => List.Perm.refl _) (fun r u H locs hp hw => ?_)
  obtain rfl : r = bI (inR x 0 2) := hp
  refine zb_ne (tgt := 10) hx hb dX2_trail_4 (by decide) (fun c_4 => ?_) (fun c_4 => ?_)
  · skip
    obtain ⟨t, ht1, ht2, rfl⟩ := c_4
    have hl : lv_has ls 2 [(0, .ref mo), (1, .int (nI t))] := hl
    refine lv_aload_n hx hb dX2_trail_10 rfl (lv_at hl 0 rfl) ?_
    refine z_get (v := .ref (q 20)) hC zf_X2_41_2 hw 0 rfl rfl dX2_trail_11 ?_
    refine lv_iload_n hx hb dX2_trail_14 rfl (lv_at hl 1 rfl) ?_
    refine lv_iconst (v := (nI 0)) hx hb dX2_trail_15 zk_0 ?_
    refine z_iast (f' := upd (b 20) t (nI 0)) hC hw 11 rfl (by omega) (by decide) rfl dX2_trail_16 (fun H locs hw => ?_)
    have hw : zS G ((mo, zo 2 (mF q (f 1) (f 2) (f 3) (f 4) (f 5) (f 6) (f 7) (f 8) (f 14) (f 19))) :: (q 0, zc G 0 (zI 200 (b 0))) :: (q 9, zc G 0 (zI 46 (b 9))) :: (q 10, zc G 0 (zI 46 (b 10))) :: (q 11, zc G 0 (zI 46 (b 11))) :: (q 12, zc G 0 (zI 46 (b 12))) :: (q 13, zc G 0 (zI 368 (b 13))) :: (q 15, zc G 0 (zI 92 (b 15))) :: (q 16, zc G 3 (zI 2 (b 16))) :: (q 17, zc G 0 (zI 5 (b 17))) :: (q 18, zc G 0 (zI 24 (b 18))) :: (q 20, zc G 0 (zI 3 (upd (b 20) t (nI 0)))) :: (q 21, zc G 0 (zI 3 (b 21))) :: (q 22, zc G 0 (zI 3 (b 22))) :: (q 23, zc G 0 (zI 36 (b 23))) :: (q 24, zc G 0 (zI 36 (b 24))) :: rest) s H locs := hw
    refine lv_aload_n hx hb dX2_trail_17 rfl (lv_at hl 0 rfl) ?_
    refine z_get (v := .ref (q 21)) hC zf_X2_44_2 hw 0 rfl rfl dX2_trail_18 ?_
    refine lv_iload_n hx hb dX2_trail_21 rfl (lv_at hl 1 rfl) ?_
    refine lv_iconst (v := (nI 0)) hx hb dX2_trail_22 zk_0 ?_
    refine z_iast (f' := upd (b 21) t (nI 0)) hC hw 12 rfl (by omega) (by decide) rfl dX2_trail_23 (fun H locs hw => ?_)
    have hw : zS G ((mo, zo 2 (mF q (f 1) (f 2) (f 3) (f 4) (f 5) (f 6) (f 7) (f 8) (f 14) (f 19))) :: (q 0, zc G 0 (zI 200 (b 0))) :: (q 9, zc G 0 (zI 46 (b 9))) :: (q 10, zc G 0 (zI 46 (b 10))) :: (q 11, zc G 0 (zI 46 (b 11))) :: (q 12, zc G 0 (zI 46 (b 12))) :: (q 13, zc G 0 (zI 368 (b 13))) :: (q 15, zc G 0 (zI 92 (b 15))) :: (q 16, zc G 3 (zI 2 (b 16))) :: (q 17, zc G 0 (zI 5 (b 17))) :: (q 18, zc G 0 (zI 24 (b 18))) :: (q 20, zc G 0 (zI 3 (upd (b 20) t (nI 0)))) :: (q 21, zc G 0 (zI 3 (upd (b 21) t (nI 0)))) :: (q 22, zc G 0 (zI 3 (b 22))) :: (q 23, zc G 0 (zI 36 (b 23))) :: (q 24, zc G 0 (zI 36 (b 24))) :: rest) s H locs := hw
    refine lv_aload_n hx hb dX2_trail_24 rfl (lv_at hl 0 rfl) ?_
    refine z_get (v := .ref (q 22)) hC zf_X2_47_2 hw 0 rfl rfl dX2_trail_25 ?_
    refine lv_iload_n hx hb dX2_trail_28 rfl (lv_at hl 1 rfl) ?_
    refine lv_iconst (v := -1) hx hb dX2_trail_29 zk_m1 ?_
    refine z_iast (f' := upd (b 22) t (-1)) hC hw 13 rfl (by omega) (by decide) rfl dX2_trail_30 (fun H locs hw => ?_)
    have hw : zS G ((mo, zo 2 (mF q (f 1) (f 2) (f 3) (f 4) (f 5) (f 6) (f 7) (f 8) (f 14) (f 19))) :: (q 0, zc G 0 (zI 200 (b 0))) :: (q 9, zc G 0 (zI 46 (b 9))) :: (q 10, zc G 0 (zI 46 (b 10))) :: (q 11, zc G 0 (zI 46 (b 11))) :: (q 12, zc G 0 (zI 46 (b 12))) :: (q 13, zc G 0 (zI 368 (b 13))) :: (q 15, zc G 0 (zI 92 (b 15))) :: (q 16, zc G 3 (zI 2 (b 16))) :: (q 17, zc G 0 (zI 5 (b 17))) :: (q 18, zc G 0 (zI 24 (b 18))) :: (q 20, zc G 0 (zI 3 (upd (b 20) t (nI 0)))) :: (q 21, zc G 0 (zI 3 (upd (b 21) t (nI 0)))) :: (q 22, zc G 0 (zI 3 (upd (b 22) t (-1)))) :: (q 23, zc G 0 (zI 36 (b 23))) :: (q 24, zc G 0 (zI 36 (b 24))) :: rest) s H locs := hw
    refine lv_iconst (v := (nI 0)) hx hb dX2_trail_31 zk_0 ?_
    exact hend _ _ _ _ _ _ _ ((bU (bU (bU b 20 (upd (b 20) t (nI 0))) 21 (upd (b 21) t (nI 0))) 22 (upd (b 22) t (-1))), mf (f 1) (f 2) (f 3) (f 4) (f 5) (f 6) (f 7) (f 8) (f 14) (f 19)) hw (by rw [show F_trail A (nI t) = (nI 0, sT A t (some ([], 0, none))) from (ifP_t ⟨t, ht1, ht2, rfl⟩).trans (by rw [cl_nI (by omega)])]; exact ⟨rfl, ⟨⟨hT, hL⟩, hV0, hV, ⟨hU, hUs⟩, hKp, ⟨hSi, hSg⟩, (Tr_up hA9 hTr (fun t' _ hne => ⟨upd_ne' hne, upd_ne' hne, upd_ne' hne, fun _ _ => ⟨rfl, rfl⟩⟩) ⟨upd_s, upd_s, upd_s, fun k hk => absurd hk (Nat.not_lt_zero k)⟩)⟩⟩) (by omega) (by omega) dX2_trail_32
  · skip
    refine lv_bipush (v := (-2)) hx hb dX2_trail_7 zb_m2 ?_
    exact hend _ _ _ _ _ _ _ (b, mf (f 1) (f 2) (f 3) (f 4) (f 5) (f 6) (f 7) (f 8) (f 14) (f 19)) hw (by rw [show F_trail A x = _ from ifP_f c_4]; exact ⟨rfl, ⟨⟨hT, hL⟩, hV0, hV, ⟨hU, hUs⟩, hKp, ⟨hSi, hSg⟩, (fun t ht => tRel_of rfl rfl rfl rfl rfl (hTr t ht))⟩⟩) (by omega) (by omega) dX2_trail_9
theorem step_isP {l : List (Nat × Int32)} {h w : Nat} {c : Option Nat} (hw : w ≤ 1) (hh : h ≤ l.length) (hs : stepOk (l, h, c) w) : isP l.length (nI h - nI w) := by
  unfold stepOk at hs
  dsimp only at hs
  by_cases e : w = 0
  · subst e
    rw [if_pos rfl] at hs
    exact ⟨h, hs, by rw [nI_sub (Nat.zero_le _)]; rfl⟩
  · rw [if_neg e] at hs
    exact ⟨h - 1, by omega, by rw [show w = 1 by omega, nI_sub (by omega)]⟩
set_option maxHeartbeats 4000000 in
theorem m_X2_step (G : zE) (l : Launch) (mo : Nat) (q : Nat → Nat) (A : AS) (b : Nat → Nat → Int32) (f : Nat → Int32) (hA : AOk A) (hM : MRel A b f) (x : Int32) (y : Int32) (z : Int32) (rest : va_W) : zMi G l yX2_step cX2_step 6 (some .int) 2 0 0 [.ref mo, .int x, .int y, .int z] ((mo, zo 2 (mF q (f 1) (f 2) (f 3) (f 4) (f 5) (f 6) (f 7) (f 8) (f 14) (f 19))) :: (q 0, zc G 0 (zI 200 (b 0))) :: (q 9, zc G 0 (zI 46 (b 9))) :: (q 10, zc G 0 (zI 46 (b 10))) :: (q 11, zc G 0 (zI 46 (b 11))) :: (q 12, zc G 0 (zI 46 (b 12))) :: (q 13, zc G 0 (zI 368 (b 13))) :: (q 15, zc G 0 (zI 92 (b 15))) :: (q 16, zc G 3 (zI 2 (b 16))) :: (q 17, zc G 0 (zI 5 (b 17))) :: (q 18, zc G 0 (zI 24 (b 18))) :: (q 20, zc G 0 (zI 3 (b 20))) :: (q 21, zc G 0 (zI 3 (b 21))) :: (q 22, zc G 0 (zI 3 (b 22))) :: (q 23, zc G 0 (zI 36 (b 23))) :: (q 24, zc G 0 (zI 36 (b 24))) :: rest) (fun (r : Int32) (u : MB) => r = (F_step A x y z).1 ∧ MRel (F_step A x y z).2 u.1 u.2) (fun (u : MB) => (mo, zo 2 (mF q (u.2 1) (u.2 2) (u.2 3) (u.2 4) (u.2 5) (u.2 6) (u.2 7) (u.2 8) (u.2 14) (u.2 19))) :: (q 0, zc G 0 (zI 200 (u.1 0))) :: (q 9, zc G 0 (zI 46 (u.1 9))) :: (q 10, zc G 0 (zI 46 (u.1 10))) :: (q 11, zc G 0 (zI 46 (u.1 11))) :: (q 12, zc G 0 (zI 46 (u.1 12))) :: (q 13, zc G 0 (zI 368 (u.1 13))) :: (q 15, zc G 0 (zI 92 (u.1 15))) :: (q 16, zc G 3 (zI 2 (u.1 16))) :: (q 17, zc G 0 (zI 5 (u.1 17))) :: (q 18, zc G 0 (zI 24 (u.1 18))) :: (q 20, zc G 0 (zI 3 (u.1 20))) :: (q 21, zc G 0 (zI 3 (u.1 21))) :: (q 22, zc G 0 (zI 3 (u.1 22))) :: (q 23, zc G 0 (zI 36 (u.1 23))) :: (q 24, zc G 0 (zI 36 (u.1 24))) :: rest) := by
  refine z_begI (by decide) (Nat.le_of_ble_eq_true rfl) (fun p e s m args below meth c ls Q hC hl hw hend => ?_)
  have hx := hC.hx
  have hb := hC.hb
  have hl : lv_has ls 6 [(0, .ref mo), (1, .int x), (2, .int y), (3, .int z)] := hl
  have hw : zS G ((mo, zo 2 (mF q (f 1) (f 2) (f 3) (f 4) (f 5) (f 6) (f 7) (f 8) (f 14) (f 19))) :: (q 0, zc G 0 (zI 200 (b 0))) :: (q 9, zc G 0 (zI 46 (b 9))) :: (q 10, zc G 0 (zI 46 (b 10))) :: (q 11, zc G 0 (zI 46 (b 11))) :: (q 12, zc G 0 (zI 46 (b 12))) :: (q 13, zc G 0 (zI 368 (b 13))) :: (q 15, zc G 0 (zI 92 (b 15))) :: (q 16, zc G 3 (zI 2 (b 16))) :: (q 17, zc G 0 (zI 5 (b 17))) :: (q 18, zc G 0 (zI 24 (b 18))) :: (q 20, zc G 0 (zI 3 (b 20))) :: (q 21, zc G 0 (zI 3 (b 21))) :: (q 22, zc G 0 (zI 3 (b 22))) :: (q 23, zc G 0 (zI 36 (b 23))) :: (q 24, zc G 0 (zI 36 (b 24))) :: rest) s s.heap [] := hw
  have hA9 := hA
  obtain ⟨⟨hT, hL⟩, hV0, hV, ⟨hU, hUs⟩, hKp, ⟨hSi, hSg⟩, hTr⟩ := hM
  obtain ⟨⟨hL2, hT2⟩, hB0, hBv, ⟨hU8, hUb⟩, hKb, ⟨hS6, hSb⟩, hTb⟩ := hA
  have hH : Hw (aV A) := hBv.1.1
  have hday := hBv.2.2
  have hw : zS G ((mo, zo 2 (mF q (f 1) (f 2) (f 3) (f 4) (f 5) (f 6) (f 7) (f 8) (f 14) (f 19))) :: (q 0, zc G 0 (zI 200 (b 0))) :: (q 9, zc G 0 (zI 46 (b 9))) :: (q 10, zc G 0 (zI 46 (b 10))) :: (q 11, zc G 0 (zI 46 (b 11))) :: (q 12, zc G 0 (zI 46 (b 12))) :: (q 13, zc G 0 (zI 368 (b 13))) :: (q 15, zc G 0 (zI 92 (b 15))) :: (q 16, zc G 3 (zI 2 (b 16))) :: (q 17, zc G 0 (zI 5 (b 17))) :: (q 18, zc G 0 (zI 24 (b 18))) :: (q 20, zc G 0 (zI 3 (b 20))) :: (q 21, zc G 0 (zI 3 (b 21))) :: (q 22, zc G 0 (zI 3 (b 22))) :: (q 23, zc G 0 (zI 36 (b 23))) :: (q 24, zc G 0 (zI 36 (b 24))) :: rest) s s.heap [] := hw
  refine lv_iload_n hx hb dX2_step_0 rfl (lv_at hl 1 rfl) ?_
  refine z_ci (z_runS (As := [.int x]) (rest := []) hC zs_X2_229 (m_X2_isTrail G l x _) hw rfl rfl (Nat.le_of_ble_eq_true rfl) hl.1 ⟨Nat.le_of_ble_eq_true rfl, Nat.le_of_ble_eq_true rfl⟩ ⟨(Nat.le_of_ble_eq_true rfl), (Nat.le_of_ble_eq_true rfl)⟩ dX2_step_1) hw (fun _ => List.Perm.refl _) (fun r u H locs hp hw => ?_)
  obtain rfl : r = bI (inR x 0 2) := hp
  refine zb_ne (tgt := 10) hx hb dX2_step_4 (by decide) (fun c_4 => ?_) (fun c_4 => ?_)
  · skip
    obtain ⟨t, ht1, ht2, rfl⟩ := c_4
    have hl : lv_has ls 6 [(0, .ref mo), (1, .int (nI t)), (2, .int y), (3, .int z)] := hl
    refine lv_iload_n hx hb dX2_step_10 rfl (lv_at hl 2 rfl) ?_
    refine lv_iconst (v := (nI 0)) hx hb dX2_step_11 zk_0 ?_
    refine lv_iconst (v := (nI 1)) hx hb dX2_step_12 zk_1 ?_
    refine z_ci (z_runS (As := [.int y, .int (nI 0), .int (nI 1)]) (rest := []) hC zs_X2_59 (m_X2_in_n G l y 0 1 (by decide) (by decide) _) hw rfl rfl (Nat.le_of_ble_eq_true rfl) hl.1 ⟨Nat.le_of_ble_eq_true rfl, Nat.le_of_ble_eq_true rfl⟩ ⟨(Nat.le_of_ble_eq_true rfl), (Nat.le_of_ble_eq_true rfl)⟩ dX2_step_13) hw (fun _ => List.Perm.refl _) (fun r u H locs hp hw => ?_)
    obtain rfl : r = bI (inR y 0 1) := hp
    refine zb_eq (tgt := 28) hx hb dX2_step_16 (by decide) (fun c_16 => ?_) (fun c_16 => ?_)
    · skip
      refine lv_bipush (v := (-3)) hx hb dX2_step_28 zb_m3 ?_
      exact hend _ _ _ _ _ _ _ (b, mf (f 1) (f 2) (f 3) (f 4) (f 5) (f 6) (f 7) (f 8) (f 14) (f 19)) hw (by (first | rw [show F_step A (nI t) y z = (-3, A) from (ifP_t ⟨t, ht1, ht2, rfl⟩).trans (ifP_f (fun h => c_16 h.1))] | rw [show F_step A (nI t) (nI w9) z = (-3, A) from (ifP_t ⟨t, ht1, ht2, rfl⟩).trans (ifP_f (fun h => c_25 h.2))]); exact ⟨rfl, ⟨⟨hT, hL⟩, hV0, hV, ⟨hU, hUs⟩, hKp, ⟨hSi, hSg⟩, (fun t ht => tRel_of rfl rfl rfl rfl rfl (hTr t ht))⟩⟩) (by omega) (by omega) dX2_step_30
    · skip
      obtain ⟨w9, hw91, hw92, rfl⟩ := c_16
      have hl : lv_has ls 6 [(0, .ref mo), (1, .int (nI t)), (2, .int (nI w9)), (3, .int z)] := hl
      refine lv_iload_n hx hb dX2_step_19 rfl (lv_at hl 3 rfl) ?_
      refine lv_iconst (v := (nI 0)) hx hb dX2_step_20 zk_0 ?_
      refine lv_iconst (v := (nI 2)) hx hb dX2_step_21 zk_2 ?_
      refine z_ci (z_runS (As := [.int z, .int (nI 0), .int (nI 2)]) (rest := []) hC zs_X2_59 (m_X2_in_n G l z 0 2 (by decide) (by decide) _) hw rfl rfl (Nat.le_of_ble_eq_true rfl) hl.1 ⟨Nat.le_of_ble_eq_true rfl, Nat.le_of_ble_eq_true rfl⟩ ⟨(Nat.le_of_ble_eq_true rfl), (Nat.le_of_ble_eq_true rfl)⟩ dX2_step_22) hw (fun _ => List.Perm.refl _) (fun r u H locs hp hw => ?_)
      obtain rfl : r = bI (inR z 0 2) := hp
      refine zb_ne (tgt := 31) hx hb dX2_step_25 (by decide) (fun c_25 => ?_) (fun c_25 => ?_)
      · skip
        obtain ⟨k9, hk91, hk92, rfl⟩ := c_25
        have hl : lv_has ls 6 [(0, .ref mo), (1, .int (nI t)), (2, .int (nI w9)), (3, .int (nI k9))] := hl
        have hT9 := hTr t (by omega)
        refine lv_aload_n hx hb dX2_step_31 rfl (lv_at hl 0 rfl) ?_
        refine z_get (v := .ref (q 20)) hC zf_X2_41_2 hw 0 rfl rfl dX2_step_32 ?_
        refine lv_iload_n hx hb dX2_step_35 rfl (lv_at hl 1 rfl) ?_
        refine z_iald (x := ((b 20) t)) hC hw 11 rfl (by omega) (by decide) rfl dX2_step_36 ?_
        rcases htr : aTr A t with _ | ⟨l9, h9, c9⟩
        · skip
          rw [htr] at hT9
          rw [show (b 20) t = -1 from hT9]
          have hl : lv_has ls 6 [(0, .ref mo), (1, .int (nI t)), (2, .int (nI w9)), (3, .int (nI k9))] := hl
          have hw : zS G ((mo, zo 2 (mF q (f 1) (f 2) (f 3) (f 4) (f 5) (f 6) (f 7) (f 8) (f 14) (f 19))) :: (q 0, zc G 0 (zI 200 (b 0))) :: (q 9, zc G 0 (zI 46 (b 9))) :: (q 10, zc G 0 (zI 46 (b 10))) :: (q 11, zc G 0 (zI 46 (b 11))) :: (q 12, zc G 0 (zI 46 (b 12))) :: (q 13, zc G 0 (zI 368 (b 13))) :: (q 15, zc G 0 (zI 92 (b 15))) :: (q 16, zc G 3 (zI 2 (b 16))) :: (q 17, zc G 0 (zI 5 (b 17))) :: (q 18, zc G 0 (zI 24 (b 18))) :: (q 20, zc G 0 (zI 3 (b 20))) :: (q 21, zc G 0 (zI 3 (b 21))) :: (q 22, zc G 0 (zI 3 (b 22))) :: (q 23, zc G 0 (zI 36 (b 23))) :: (q 24, zc G 0 (zI 36 (b 24))) :: rest) s H locs := hw
          refine lv_iconst (v := -1) hx hb dX2_step_37 zk_m1 ?_
          refine lv_icmp_ne (tgt := 44) hx hb dX2_step_38 (by decide) (fun h => absurd h (by decide)) (fun _ => ?_)
          refine lv_bipush (v := (-11)) hx hb dX2_step_41 zb_m11 ?_
          exact hend _ _ _ _ _ _ _ (b, mf (f 1) (f 2) (f 3) (f 4) (f 5) (f 6) (f 7) (f 8) (f 14) (f 19)) hw (by rw [F_step_none ht2 hw92 hk92 htr]; exact ⟨rfl, ⟨⟨hT, hL⟩, hV0, hV, ⟨hU, hUs⟩, hKp, ⟨hSi, hSg⟩, (fun t ht => tRel_of rfl rfl rfl rfl rfl (hTr t ht))⟩⟩) (by omega) (by omega) dX2_step_43
        · skip
          rw [htr] at hT9
          obtain ⟨hm, hh, hc, hit⟩ := hT9
          obtain ⟨hlen, hhl, hcl, hok⟩ := hTb t (by omega) l9 h9 c9 htr
          rw [show (b 20) t = nI (l9.length) from hm]
          have hl : lv_has ls 6 [(0, .ref mo), (1, .int (nI t)), (2, .int (nI w9)), (3, .int (nI k9))] := hl
          have hw : zS G ((mo, zo 2 (mF q (f 1) (f 2) (f 3) (f 4) (f 5) (f 6) (f 7) (f 8) (f 14) (f 19))) :: (q 0, zc G 0 (zI 200 (b 0))) :: (q 9, zc G 0 (zI 46 (b 9))) :: (q 10, zc G 0 (zI 46 (b 10))) :: (q 11, zc G 0 (zI 46 (b 11))) :: (q 12, zc G 0 (zI 46 (b 12))) :: (q 13, zc G 0 (zI 368 (b 13))) :: (q 15, zc G 0 (zI 92 (b 15))) :: (q 16, zc G 3 (zI 2 (b 16))) :: (q 17, zc G 0 (zI 5 (b 17))) :: (q 18, zc G 0 (zI 24 (b 18))) :: (q 20, zc G 0 (zI 3 (b 20))) :: (q 21, zc G 0 (zI 3 (b 21))) :: (q 22, zc G 0 (zI 3 (b 22))) :: (q 23, zc G 0 (zI 36 (b 23))) :: (q 24, zc G 0 (zI 36 (b 24))) :: rest) s H locs := hw
          refine lv_iconst (v := -1) hx hb dX2_step_37 zk_m1 ?_
          refine lv_icmp_ne (tgt := 44) hx hb dX2_step_38 (by decide) (fun _ => ?_) (fun h => absurd h (nI_nm1 (by omega)))
          refine lv_aload_n hx hb dX2_step_44 rfl (lv_at hl 0 rfl) ?_
          refine z_get (v := .ref (q 21)) hC zf_X2_44_2 hw 0 rfl rfl dX2_step_45 ?_
          refine lv_iload_n hx hb dX2_step_48 rfl (lv_at hl 1 rfl) ?_
          refine z_iald (x := (nI h9)) hC hw 12 rfl (by omega) (by decide) hh dX2_step_49 ?_
          refine lv_iload_n hx hb dX2_step_50 rfl (lv_at hl 2 rfl) ?_
          refine zv_isub (v := (nI h9 - nI w9)) hx hb rfl dX2_step_51 ?_
          refine lv_istore (lv' := [(4, .int (nI h9 - nI w9)), (0, .ref mo), (1, .int (nI t)), (2, .int (nI w9)), (3, .int (nI k9))]) hx hb dX2_step_52 hl (by decide) rfl (fun ls hl => ?_)
          refine lv_iload hx hb dX2_step_54 (lv_at hl 0 rfl) ?_
          refine lv_iconst (v := (nI 0)) hx hb dX2_step_56 zk_0 ?_
          refine lv_aload_n hx hb dX2_step_57 rfl (lv_at hl 1 rfl) ?_
          refine z_get (v := .ref (q 20)) hC zf_X2_41_2 hw 0 rfl rfl dX2_step_58 ?_
          refine lv_iload_n hx hb dX2_step_61 rfl (lv_at hl 2 rfl) ?_
          refine z_iald (x := (nI (l9.length))) hC hw 11 rfl (by omega) (by decide) hm dX2_step_62 ?_
          refine lv_iconst (v := (nI 1)) hx hb dX2_step_63 zk_1 ?_
          refine zv_isub (v := (nI (l9.length) - nI 1)) hx hb rfl dX2_step_64 ?_
          refine z_ci (z_runS (As := [.int (nI h9 - nI w9), .int (nI 0), .int (nI (l9.length) - nI 1)]) (rest := []) hC zs_X2_59 (m_X2_in G l (nI h9 - nI w9) (nI 0) (nI l9.length - nI 1) _) hw rfl rfl (Nat.le_of_ble_eq_true rfl) hl.1 ⟨Nat.le_of_ble_eq_true rfl, Nat.le_of_ble_eq_true rfl⟩ ⟨(Nat.le_of_ble_eq_true rfl), (Nat.le_of_ble_eq_true rfl)⟩ dX2_step_65) hw (fun _ => List.Perm.refl _) (fun r u H locs hp hw => ?_)
          obtain rfl : r = bI ((nI 0) ≤ (nI h9 - nI w9) ∧ (nI h9 - nI w9) ≤ (nI l9.length - nI 1)) := hp
          refine zb_ne (tgt := 74) hx hb dX2_step_68 (by decide) (fun c_68 => ?_) (fun c_68 => ?_)
          · skip
            obtain ⟨p9, hp9, hpe⟩ := (isP_iff (by omega)).mp c_68
            have hl : lv_has ls 6 [(4, .int (nI p9)), (0, .ref mo), (1, .int (nI t)), (2, .int (nI w9)), (3, .int (nI k9))] := by rw [← hpe]; exact hl
            obtain ⟨hwh, hpw⟩ := step_p hw92 (by omega) (by omega) hpe
            have hsa : stepAt (l9, h9, c9) w9 = p9 := by unfold stepAt; dsimp only; split <;> omega
            have hso : stepOk (l9, h9, c9) w9 := by unfold stepOk; dsimp only; split <;> omega
            have hi2 := okItem_le (hok _ (getD_mem hp9))
            refine lv_aload_n hx hb dX2_step_74 rfl (lv_at hl 1 rfl) ?_
            refine z_get (v := .ref (q 23)) hC zf_X2_50_2 hw 0 rfl rfl dX2_step_75 ?_
            refine lv_bipush (v := (nI 12)) hx hb dX2_step_78 zb_12 ?_
            refine lv_iload_n hx hb dX2_step_80 rfl (lv_at hl 2 rfl) ?_
            refine zn_imul hx hb dX2_step_81 ?_
            refine lv_iload hx hb dX2_step_82 (lv_at hl 0 rfl) ?_
            refine zn_iadd hx hb dX2_step_84 ?_
            refine z_iald (x := (nI ((l9.getD p9 (0, 0)).1))) hC hw 14 rfl (by omega) (by decide) (hit p9 hp9).1 dX2_step_85 ?_
            refine lv_iload_n hx hb dX2_step_86 rfl (lv_at hl 4 rfl) ?_
            refine zi_eq (tgt := 93) hx hb (by omega) (by omega) dX2_step_87 (by decide) (fun c_87 => ?_) (fun c_87 => ?_)
            · skip
              refine lv_aload_n hx hb dX2_step_93 rfl (lv_at hl 1 rfl) ?_
              refine z_get (v := .ref (q 21)) hC zf_X2_44_2 hw 0 rfl rfl dX2_step_94 ?_
              refine lv_iload_n hx hb dX2_step_97 rfl (lv_at hl 2 rfl) ?_
              refine lv_dup2_11 hx hb dX2_step_98 rfl rfl ?_
              refine z_iald (x := (nI h9)) hC hw 12 rfl (by omega) (by decide) hh dX2_step_99 ?_
              have join_109 : ∀ (z9 : Int32), (nI h9 + z9 = nI (if w9 = 0 then h9 + 1 else h9 - 1)) → ∀ (H : Heap) (locs : List Loc) (ls : Array Slot), zS G ((mo, zo 2 (mF q (f 1) (f 2) (f 3) (f 4) (f 5) (f 6) (f 7) (f 8) (f 14) (f 19))) :: (q 0, zc G 0 (zI 200 (b 0))) :: (q 9, zc G 0 (zI 46 (b 9))) :: (q 10, zc G 0 (zI 46 (b 10))) :: (q 11, zc G 0 (zI 46 (b 11))) :: (q 12, zc G 0 (zI 46 (b 12))) :: (q 13, zc G 0 (zI 368 (b 13))) :: (q 15, zc G 0 (zI 92 (b 15))) :: (q 16, zc G 3 (zI 2 (b 16))) :: (q 17, zc G 0 (zI 5 (b 17))) :: (q 18, zc G 0 (zI 24 (b 18))) :: (q 20, zc G 0 (zI 3 (b 20))) :: (q 21, zc G 0 (zI 3 (b 21))) :: (q 22, zc G 0 (zI 3 (b 22))) :: (q 23, zc G 0 (zI 36 (b 23))) :: (q 24, zc G 0 (zI 36 (b 24))) :: rest) s H locs → lv_has ls 6 [(0, .ref mo), (1, .int (nI t)), (2, .int (nI w9)), (3, .int (nI k9)), (4, .int (nI p9))] → W p l e (zR 2 0 0) s m args below meth c H locs 0 0 Q (F0 m 109 ls [.int z9, .int (nI h9), .int (nI t), .ref (q 21)]) := by
                intro z9 hz H locs ls hw hl
                refine zv_iadd (v := (nI (if w9 = 0 then h9 + 1 else h9 - 1))) hx hb hz dX2_step_109 ?_
                refine z_iast (f' := upd (b 21) t (nI (if w9 = 0 then h9 + 1 else h9 - 1))) hC hw 12 rfl (by omega) (by decide) rfl dX2_step_110 (fun H locs hw => ?_)
                have hw : zS G ((mo, zo 2 (mF q (f 1) (f 2) (f 3) (f 4) (f 5) (f 6) (f 7) (f 8) (f 14) (f 19))) :: (q 0, zc G 0 (zI 200 (b 0))) :: (q 9, zc G 0 (zI 46 (b 9))) :: (q 10, zc G 0 (zI 46 (b 10))) :: (q 11, zc G 0 (zI 46 (b 11))) :: (q 12, zc G 0 (zI 46 (b 12))) :: (q 13, zc G 0 (zI 368 (b 13))) :: (q 15, zc G 0 (zI 92 (b 15))) :: (q 16, zc G 3 (zI 2 (b 16))) :: (q 17, zc G 0 (zI 5 (b 17))) :: (q 18, zc G 0 (zI 24 (b 18))) :: (q 20, zc G 0 (zI 3 (b 20))) :: (q 21, zc G 0 (zI 3 (upd (b 21) t (nI (if w9 = 0 then h9 + 1 else h9 - 1))))) :: (q 22, zc G 0 (zI 3 (b 22))) :: (q 23, zc G 0 (zI 36 (b 23))) :: (q 24, zc G 0 (zI 36 (b 24))) :: rest) s H locs := hw
                refine lv_aload_n hx hb dX2_step_111 rfl (lv_at hl 0 rfl) ?_
                refine z_get (v := .ref (q 22)) hC zf_X2_47_2 hw 0 rfl rfl dX2_step_112 ?_
                refine lv_iload_n hx hb dX2_step_115 rfl (lv_at hl 1 rfl) ?_
                refine lv_iload hx hb dX2_step_116 (lv_at hl 4 rfl) ?_
                refine z_iast (f' := upd (b 22) t (nI p9)) hC hw 13 rfl (by omega) (by decide) rfl dX2_step_118 (fun H locs hw => ?_)
                have hw : zS G ((mo, zo 2 (mF q (f 1) (f 2) (f 3) (f 4) (f 5) (f 6) (f 7) (f 8) (f 14) (f 19))) :: (q 0, zc G 0 (zI 200 (b 0))) :: (q 9, zc G 0 (zI 46 (b 9))) :: (q 10, zc G 0 (zI 46 (b 10))) :: (q 11, zc G 0 (zI 46 (b 11))) :: (q 12, zc G 0 (zI 46 (b 12))) :: (q 13, zc G 0 (zI 368 (b 13))) :: (q 15, zc G 0 (zI 92 (b 15))) :: (q 16, zc G 3 (zI 2 (b 16))) :: (q 17, zc G 0 (zI 5 (b 17))) :: (q 18, zc G 0 (zI 24 (b 18))) :: (q 20, zc G 0 (zI 3 (b 20))) :: (q 21, zc G 0 (zI 3 (upd (b 21) t (nI (if w9 = 0 then h9 + 1 else h9 - 1))))) :: (q 22, zc G 0 (zI 3 (upd (b 22) t (nI p9)))) :: (q 23, zc G 0 (zI 36 (b 23))) :: (q 24, zc G 0 (zI 36 (b 24))) :: rest) s H locs := hw
                refine lv_aload_n hx hb dX2_step_119 rfl (lv_at hl 0 rfl) ?_
                refine z_get (v := .ref (q 24)) hC zf_X2_53_2 hw 0 rfl rfl dX2_step_120 ?_
                refine lv_bipush (v := (nI 12)) hx hb dX2_step_123 zb_12 ?_
                refine lv_iload_n hx hb dX2_step_125 rfl (lv_at hl 1 rfl) ?_
                refine zn_imul hx hb dX2_step_126 ?_
                refine lv_iload hx hb dX2_step_127 (lv_at hl 4 rfl) ?_
                refine zn_iadd hx hb dX2_step_129 ?_
                refine z_iald (x := ((l9.getD p9 (0, 0)).2)) hC hw 15 rfl (by omega) (by decide) (hit p9 hp9).2 dX2_step_130 ?_
                refine lv_istore (lv' := [(5, .int ((l9.getD p9 (0, 0)).2)), (0, .ref mo), (1, .int (nI t)), (2, .int (nI w9)), (3, .int (nI k9)), (4, .int (nI p9))]) hx hb dX2_step_131 hl (by decide) rfl (fun ls hl => ?_)
                refine lv_iload_n hx hb dX2_step_133 rfl (lv_at hl 4 rfl) ?_
                refine zj_ne (tgt := 145) hx hb (by omega) dX2_step_134 (by decide) (fun c_134 => ?_) (fun c_134 => ?_)
                · skip
                  refine lv_iload hx hb dX2_step_145 (lv_at hl 0 rfl) ?_
                  exact hend _ _ _ _ _ _ _ ((bU (bU b 21 (upd (b 21) t (nI (if w9 = 0 then h9 + 1 else h9 - 1)))) 22 (upd (b 22) t (nI p9))), mf (f 1) (f 2) (f 3) (f 4) (f 5) (f 6) (f 7) (f 8) (f 14) (f 19)) hw (by rw [F_step_ok ht2 hw92 hk92 htr hso (by rw [hsa]; exact c_87), hsa]; exact ⟨(by unfold itemV; first | exact (if_pos (c_87.trans c_134)).symm | exact (if_neg (fun h => c_134 (c_87.symm.trans h))).symm), ⟨⟨hT, hL⟩, hV0, hV, ⟨hU, hUs⟩, hKp, ⟨hSi, hSg⟩, (Tr_up hA9 hTr (fun t' _ hne => ⟨rfl, upd_ne' hne, upd_ne' hne, fun _ _ => ⟨rfl, rfl⟩⟩) ⟨hm, upd_s, upd_s, hit⟩)⟩⟩) (by omega) (by omega) dX2_step_147
                · skip
                  refine lv_iload hx hb dX2_step_137 (lv_at hl 0 rfl) ?_
                  refine lv_ldc (v := (nI 50000)) hx hb hC.hown (hC.hts _ q2132) dX2_step_139 ?_
                  refine lv_iadd hx hb dX2_step_141 ?_
                  refine lv_goto (tgt := 147) hx hb dX2_step_142 (by decide) ?_
                  exact hend _ _ _ _ _ _ _ ((bU (bU b 21 (upd (b 21) t (nI (if w9 = 0 then h9 + 1 else h9 - 1)))) 22 (upd (b 22) t (nI p9))), mf (f 1) (f 2) (f 3) (f 4) (f 5) (f 6) (f 7) (f 8) (f 14) (f 19)) hw (by rw [F_step_ok ht2 hw92 hk92 htr hso (by rw [hsa]; exact c_87), hsa]; exact ⟨(by unfold itemV; first | exact (if_pos (c_87.trans c_134)).symm | exact (if_neg (fun h => c_134 (c_87.symm.trans h))).symm), ⟨⟨hT, hL⟩, hV0, hV, ⟨hU, hUs⟩, hKp, ⟨hSi, hSg⟩, (Tr_up hA9 hTr (fun t' _ hne => ⟨rfl, upd_ne' hne, upd_ne' hne, fun _ _ => ⟨rfl, rfl⟩⟩) ⟨hm, upd_s, upd_s, hit⟩)⟩⟩) (by omega) (by omega) dX2_step_147
              refine lv_iload_n hx hb dX2_step_100 rfl (lv_at hl 3 rfl) ?_
              refine zj_ne (tgt := 108) hx hb (by omega) dX2_step_101 (by decide) (fun c_101 => ?_) (fun c_101 => ?_)
              · skip
                refine lv_iconst (v := -1) hx hb dX2_step_108 zk_m1 ?_
                exact join_109 (-1) (by first | (rw [if_pos c_101]; exact nI_add _ _) | (rw [if_neg c_101]; exact nI_dec (by omega))) H locs ls hw (lv_sub hl [1, 2, 3, 4, 0] rfl)
              · skip
                refine lv_iconst (v := (nI 1)) hx hb dX2_step_104 zk_1 ?_
                refine lv_goto (tgt := 109) hx hb dX2_step_105 (by decide) ?_
                exact join_109 (nI 1) (by first | (rw [if_pos c_101]; exact nI_add _ _) | (rw [if_neg c_101]; exact nI_dec (by omega))) H locs ls hw (lv_sub hl [1, 2, 3, 4, 0] rfl)
            · skip
              refine lv_bipush (v := (-14)) hx hb dX2_step_90 zb_m14 ?_
              exact hend _ _ _ _ _ _ _ (b, mf (f 1) (f 2) (f 3) (f 4) (f 5) (f 6) (f 7) (f 8) (f 14) (f 19)) hw (by rw [F_step_cast ht2 hw92 hk92 htr hso (by rw [hsa]; exact c_87)]; exact ⟨rfl, ⟨⟨hT, hL⟩, hV0, hV, ⟨hU, hUs⟩, hKp, ⟨hSi, hSg⟩, (fun t ht => tRel_of rfl rfl rfl rfl rfl (hTr t ht))⟩⟩) (by omega) (by omega) dX2_step_92
          · skip
            have hno : ¬ stepOk (l9, h9, c9) w9 := fun h => c_68 ((isP_iff (by omega)).mpr (step_isP hw92 hhl h))
            refine lv_bipush (v := (-12)) hx hb dX2_step_71 zb_m12 ?_
            exact hend _ _ _ _ _ _ _ (b, mf (f 1) (f 2) (f 3) (f 4) (f 5) (f 6) (f 7) (f 8) (f 14) (f 19)) hw (by rw [F_step_end ht2 hw92 hk92 htr hno]; exact ⟨rfl, ⟨⟨hT, hL⟩, hV0, hV, ⟨hU, hUs⟩, hKp, ⟨hSi, hSg⟩, (fun t ht => tRel_of rfl rfl rfl rfl rfl (hTr t ht))⟩⟩) (by omega) (by omega) dX2_step_73
      · skip
        refine lv_bipush (v := (-3)) hx hb dX2_step_28 zb_m3 ?_
        exact hend _ _ _ _ _ _ _ (b, mf (f 1) (f 2) (f 3) (f 4) (f 5) (f 6) (f 7) (f 8) (f 14) (f 19)) hw (by (first | rw [show F_step A (nI t) y z = (-3, A) from (ifP_t ⟨t, ht1, ht2, rfl⟩).trans (ifP_f (fun h => c_16 h.1))] | rw [show F_step A (nI t) (nI w9) z = (-3, A) from (ifP_t ⟨t, ht1, ht2, rfl⟩).trans (ifP_f (fun h => c_25 h.2))]); exact ⟨rfl, ⟨⟨hT, hL⟩, hV0, hV, ⟨hU, hUs⟩, hKp, ⟨hSi, hSg⟩, (fun t ht => tRel_of rfl rfl rfl rfl rfl (hTr t ht))⟩⟩) (by omega) (by omega) dX2_step_30
  · skip
    refine lv_bipush (v := (-2)) hx hb dX2_step_7 zb_m2 ?_
    exact hend _ _ _ _ _ _ _ (b, mf (f 1) (f 2) (f 3) (f 4) (f 5) (f 6) (f 7) (f 8) (f 14) (f 19)) hw (by rw [show F_step A x y z = _ from ifP_f c_4]; exact ⟨rfl, ⟨⟨hT, hL⟩, hV0, hV, ⟨hU, hUs⟩, hKp, ⟨hSi, hSg⟩, (fun t ht => tRel_of rfl rfl rfl rfl rfl (hTr t ht))⟩⟩) (by omega) (by omega) dX2_step_9
theorem F_bad {α : Type} {A : AS} {x k v : Int32} {a c : α} (h : badP A x k v) : ifP (badP A x k v) a c = a := ifP_t h
theorem bad_no {A : AS} {t : Nat} {k v : Int32} (ht : t ≤ 2) (h : k = nI 1 → isP (aV A 1) v) : ¬ badP A (nI t) k v := by
  rintro (q | ⟨q1, q2⟩)
  · exact q ⟨t, Nat.zero_le _, ht, rfl⟩
  · exact q2 (h q1)
theorem F_add_ill {A : AS} {x k v : Int32} (h : ¬ badP A x k v) (hw : ¬ wellP k v) : F_add A x k v = (-3, A) := by unfold F_add; rw [ifP_f h, ifP_f hw]
theorem F_add_none {A : AS} {t : Nat} {k v : Int32} (ht : t ≤ 2) (h : ¬ badP A (nI t) k v) (hw : wellP k v) (htr : aTr A t = none) : F_add A (nI t) k v = (-11, A) := by unfold F_add; rw [ifP_f h, ifP_t hw, cl_nI (by omega), htr]
theorem F_add_full {A : AS} {t : Nat} {k v : Int32} {r : TR} (ht : t ≤ 2) (h : ¬ badP A (nI t) k v) (hw : wellP k v) (htr : aTr A t = some r) (hl : r.1.length = 12) : F_add A (nI t) k v = (-15, A) := by
  unfold F_add; rw [ifP_f h, ifP_t hw, cl_nI (by omega), htr]; exact if_pos hl
theorem F_add_ok {A : AS} {t : Nat} {k v : Int32} {r : TR} (ht : t ≤ 2) (h : ¬ badP A (nI t) k v) (hw : wellP k v) (htr : aTr A t = some r) (hl : ¬ r.1.length = 12) : F_add A (nI t) k v = (nI (r.1.length + 1), sT A t (some (r.1.take r.2.1 ++ (cl k, v) :: r.1.drop r.2.1, r.2.1 + 1, none))) := by
  unfold F_add; rw [ifP_f h, ifP_t hw, cl_nI (by omega), htr]; exact if_neg hl
theorem F_set_ill {A : AS} {x k v : Int32} (h : ¬ badP A x k v) (hw : ¬ wellP k v) : F_set A x k v = (-3, A) := by unfold F_set; rw [ifP_f h, ifP_f hw]
theorem F_set_none {A : AS} {t : Nat} {k v : Int32} (ht : t ≤ 2) (h : ¬ badP A (nI t) k v) (hw : wellP k v) (htr : aTr A t = none) : F_set A (nI t) k v = (-11, A) := by unfold F_set; rw [ifP_f h, ifP_t hw, cl_nI (by omega), htr]
theorem F_set_st {A : AS} {t : Nat} {k v : Int32} {l : List (Nat × Int32)} {hd : Nat} (ht : t ≤ 2) (h : ¬ badP A (nI t) k v) (hw : wellP k v) (htr : aTr A t = some (l, hd, none)) : F_set A (nI t) k v = (-13, A) := by unfold F_set; rw [ifP_f h, ifP_t hw, cl_nI (by omega), htr]
theorem F_set_ok {A : AS} {t : Nat} {k v : Int32} {l : List (Nat × Int32)} {hd p : Nat} (ht : t ≤ 2) (h : ¬ badP A (nI t) k v) (hw : wellP k v) (htr : aTr A t = some (l, hd, some p)) : F_set A (nI t) k v = (nI p, sT A t (some (l.set p (cl k, v), hd, some p))) := by unfold F_set; rw [ifP_f h, ifP_t hw, cl_nI (by omega), htr]
theorem F_cut_none {A : AS} {t : Nat} (ht : t ≤ 2) (htr : aTr A t = none) : F_cut A (nI t) = (-11, A) := by unfold F_cut; rw [ifP_t ⟨t, Nat.zero_le _, ht, rfl⟩, cl_nI (by omega), htr]
theorem F_cut_st {A : AS} {t : Nat} {l : List (Nat × Int32)} {hd : Nat} (ht : t ≤ 2) (htr : aTr A t = some (l, hd, none)) : F_cut A (nI t) = (-13, A) := by unfold F_cut; rw [ifP_t ⟨t, Nat.zero_le _, ht, rfl⟩, cl_nI (by omega), htr]
theorem F_cut_ok {A : AS} {t : Nat} {l : List (Nat × Int32)} {hd p : Nat} (ht : t ≤ 2) (htr : aTr A t = some (l, hd, some p)) : F_cut A (nI t) = (nI (l.length - 1), sT A t (some (l.take p ++ l.drop (p + 1), (if p < hd then hd - 1 else hd), none))) := by unfold F_cut; rw [ifP_t ⟨t, Nat.zero_le _, ht, rfl⟩, cl_nI (by omega), htr]
theorem F_rewind_none {A : AS} {t : Nat} (ht : t ≤ 2) (htr : aTr A t = none) : F_rewind A (nI t) = (-11, A) := by unfold F_rewind; rw [ifP_t ⟨t, Nat.zero_le _, ht, rfl⟩, cl_nI (by omega), htr]
theorem F_rewind_ok {A : AS} {t : Nat} {r : TR} (ht : t ≤ 2) (htr : aTr A t = some r) : F_rewind A (nI t) = (nI r.2.1, sT A t (some (r.1, 0, none))) := by unfold F_rewind; rw [ifP_t ⟨t, Nat.zero_le _, ht, rfl⟩, cl_nI (by omega), htr]
theorem F_drop_none {A : AS} {t : Nat} (ht : t ≤ 2) (htr : aTr A t = none) : F_drop A (nI t) = (-11, A) := by unfold F_drop; rw [ifP_t ⟨t, Nat.zero_le _, ht, rfl⟩, cl_nI (by omega), htr]
theorem F_drop_ok {A : AS} {t : Nat} {r : TR} (ht : t ≤ 2) (htr : aTr A t = some r) : F_drop A (nI t) = (nI r.1.length, sT A t none) := by unfold F_drop; rw [ifP_t ⟨t, Nat.zero_le _, ht, rfl⟩, cl_nI (by omega), htr]
theorem sT_same {A : AS} {t : Nat} {r : TR} (htr : aTr A t = some r) {b b' : Nat → Nat → Int32} (h1 : b' 20 = b 20) (h2 : b' 21 = b 21) (h3 : b' 22 = b 22) (h4 : b' 23 = b 23) (h5 : b' 24 = b 24) (hTr : ∀ t, t < 3 → tRel b t (aTr A t)) : ∀ t', t' < 3 → tRel b' t' (aTr A t') := fun t' ht' => tRel_of h1 h2 h3 h4 h5 (hTr t' ht')
theorem upF_lo {g : Nat → Int32} {a k n j : Nat} (h : j ≤ a + k) : upF g a k n j = g j := if_neg (by omega)
theorem upF_hi {g : Nat → Int32} {a k n j : Nat} (h : a + k < j) (h2 : j ≤ a + n) : upF g a k n j = g (j - 1) := if_pos ⟨h, h2⟩
theorem dnF_lo {g : Nat → Int32} {a p k j : Nat} (h : j < a + p) : dnF g a p k j = g j := if_neg (by omega)
theorem dnF_hi {g : Nat → Int32} {a p k j : Nat} (h : a + p ≤ j) (h2 : j < a + k) : dnF g a p k j = g (j + 1) := if_pos ⟨h, h2⟩
theorem tRel_add {b : Nat → Nat → Int32} {t hd : Nat} {k v : Int32} {l : List (Nat × Int32)} (h12 : l.length < 12) (hh : hd ≤ l.length) (hk : k = nI (cl k)) (hit : ∀ j, j < l.length → b 23 (12 * t + j) = nI (l.getD j (0, 0)).1 ∧ b 24 (12 * t + j) = (l.getD j (0, 0)).2) : ∀ j, j < (l.take hd ++ (cl k, v) :: l.drop hd).length → upd (upF (b 23) (12 * t) hd l.length) (12 * t + hd) k (12 * t + j) = nI ((l.take hd ++ (cl k, v) :: l.drop hd).getD j (0, 0)).1 ∧ upd (upF (b 24) (12 * t) hd l.length) (12 * t + hd) v (12 * t + j) = ((l.take hd ++ (cl k, v) :: l.drop hd).getD j (0, 0)).2 := by
  intro j hj
  have hj2 : j < l.length + 1 := by
    rw [List.length_append, List.length_cons, List.length_take, List.length_drop] at hj; omega
  rw [ins_at hh hj2]
  by_cases e : j = hd
  · subst e
    rw [upd_s, upd_s, if_neg (Nat.lt_irrefl _), if_pos rfl]
    exact ⟨hk, rfl⟩
  · rw [upd_ne' (by omega), upd_ne' (by omega)]
    by_cases e2 : j < hd
    · rw [upF_lo (by omega), upF_lo (by omega), if_pos e2]; exact hit j (by omega)
    · rw [upF_hi (by omega) (by omega), upF_hi (by omega) (by omega), if_neg e2, if_neg e, show 12 * t + j - 1 = 12 * t + (j - 1) by omega]
      exact hit (j - 1) (by omega)
theorem tRel_set {b : Nat → Nat → Int32} {t p : Nat} {k v : Int32} {l : List (Nat × Int32)} (hp : p < l.length) (hk : k = nI (cl k)) (hit : ∀ j, j < l.length → b 23 (12 * t + j) = nI (l.getD j (0, 0)).1 ∧ b 24 (12 * t + j) = (l.getD j (0, 0)).2) : ∀ j, j < (l.set p (cl k, v)).length → upd (b 23) (12 * t + p) k (12 * t + j) = nI ((l.set p (cl k, v)).getD j (0, 0)).1 ∧ upd (b 24) (12 * t + p) v (12 * t + j) = ((l.set p (cl k, v)).getD j (0, 0)).2 := by
  intro j hj
  rw [List.length_set] at hj
  rw [List.getD_eq_getElem?_getD]
  by_cases e : j = p
  · subst e
    rw [upd_s, upd_s, List.getElem?_set_self hj]
    exact ⟨hk, rfl⟩
  · rw [upd_ne' (by omega), upd_ne' (by omega), List.getElem?_set_ne (Ne.symm e), ← List.getD_eq_getElem?_getD]; exact hit j hj
theorem tRel_cut {b : Nat → Nat → Int32} {t p : Nat} {l : List (Nat × Int32)} (hp : p < l.length) (hit : ∀ j, j < l.length → b 23 (12 * t + j) = nI (l.getD j (0, 0)).1 ∧ b 24 (12 * t + j) = (l.getD j (0, 0)).2) : ∀ j, j < (l.take p ++ l.drop (p + 1)).length → dnF (b 23) (12 * t) p (l.length - 1) (12 * t + j) = nI ((l.take p ++ l.drop (p + 1)).getD j (0, 0)).1 ∧ dnF (b 24) (12 * t) p (l.length - 1) (12 * t + j) = ((l.take p ++ l.drop (p + 1)).getD j (0, 0)).2 := by
  intro j hj
  have hj2 : j < l.length - 1 := by
    rw [List.length_append, List.length_take, List.length_drop] at hj; omega
  rw [cut_at hp hj2]
  by_cases e2 : j < p
  · rw [dnF_lo (by omega), dnF_lo (by omega), if_pos e2]; exact hit j (by omega)
  · rw [dnF_hi (by omega) (by omega), dnF_hi (by omega) (by omega), if_neg e2]
    exact hit (j + 1) (by omega)
theorem up_out {g : Nat → Int32} {t t' h n k : Nat} {x : Int32} (ht : t' ≠ t) (hn : n < 12) (hh : h ≤ n) (hk : k < 12) : upd (upF g (12 * t) h n) (12 * t + h) x (12 * t' + k) = g (12 * t' + k) := by
  rw [upd_ne' (by omega)]; unfold upF; rw [if_neg (by omega)]
theorem dn_out {g : Nat → Int32} {t t' p n k : Nat} (ht : t' ≠ t) (hn : n < 12) (hk : k < 12) : dnF g (12 * t) p n (12 * t' + k) = g (12 * t' + k) := by
  unfold dnF; rw [if_neg (by omega)]
theorem well_cl {k v : Int32} (h : wellP k v) : k = nI (cl k) ∧ cl k ≤ 2 := by
  rcases h with ⟨h, -⟩ | ⟨h, -⟩ | h <;> rw [h] <;> exact ⟨by decide, by decide⟩
theorem upF_rd {g : Nat → Int32} {a k n : Nat} (h : 0 < k) : upF g a k n (a + k - 1) = g (a + k - 1) := by
  unfold upF; rw [if_neg (by omega)]
theorem upF_st {g : Nat → Int32} {a k n : Nat} (h0 : 0 < k) (h : k ≤ n) : upd (upF g a k n) (a + k) (g (a + k - 1)) = upF g a (k - 1) n := by
  obtain ⟨j, rfl⟩ : ∃ j, k = j + 1 := ⟨k - 1, by omega⟩
  exact upF_upd g h
theorem zs_X2_233 : zSs RX2 233 yX2_isWell cX2_isWell 2 (some .boolean) 2 := ⟨lw_S q2137 q2138 q53 q2139, ⟨by decide +kernel, by decide +kernel⟩, by decide +kernel⟩
theorem zv_X2_236 : zVs RX2 236 yX2_lays cX2_lays 5 none 4 := ⟨lw_V q2140 q2142 qs45 q53 q2143, ⟨by decide +kernel, by decide +kernel⟩, by decide +kernel⟩
set_option maxHeartbeats 4000000 in
theorem m_X2_add (G : zE) (l : Launch) (mo : Nat) (q : Nat → Nat) (A : AS) (b : Nat → Nat → Int32) (f : Nat → Int32) (hA : AOk A) (hM : MRel A b f) (x : Int32) (y : Int32) (z : Int32) (rest : va_W) : zMi G l yX2_add cX2_add 5 (some .int) 2 0 0 [.ref mo, .int x, .int y, .int z] ((mo, zo 2 (mF q (f 1) (f 2) (f 3) (f 4) (f 5) (f 6) (f 7) (f 8) (f 14) (f 19))) :: (q 0, zc G 0 (zI 200 (b 0))) :: (q 9, zc G 0 (zI 46 (b 9))) :: (q 10, zc G 0 (zI 46 (b 10))) :: (q 11, zc G 0 (zI 46 (b 11))) :: (q 12, zc G 0 (zI 46 (b 12))) :: (q 13, zc G 0 (zI 368 (b 13))) :: (q 15, zc G 0 (zI 92 (b 15))) :: (q 16, zc G 3 (zI 2 (b 16))) :: (q 17, zc G 0 (zI 5 (b 17))) :: (q 18, zc G 0 (zI 24 (b 18))) :: (q 20, zc G 0 (zI 3 (b 20))) :: (q 21, zc G 0 (zI 3 (b 21))) :: (q 22, zc G 0 (zI 3 (b 22))) :: (q 23, zc G 0 (zI 36 (b 23))) :: (q 24, zc G 0 (zI 36 (b 24))) :: rest) (fun (r : Int32) (u : MB) => r = (F_add A x y z).1 ∧ MRel (F_add A x y z).2 u.1 u.2) (fun (u : MB) => (mo, zo 2 (mF q (u.2 1) (u.2 2) (u.2 3) (u.2 4) (u.2 5) (u.2 6) (u.2 7) (u.2 8) (u.2 14) (u.2 19))) :: (q 0, zc G 0 (zI 200 (u.1 0))) :: (q 9, zc G 0 (zI 46 (u.1 9))) :: (q 10, zc G 0 (zI 46 (u.1 10))) :: (q 11, zc G 0 (zI 46 (u.1 11))) :: (q 12, zc G 0 (zI 46 (u.1 12))) :: (q 13, zc G 0 (zI 368 (u.1 13))) :: (q 15, zc G 0 (zI 92 (u.1 15))) :: (q 16, zc G 3 (zI 2 (u.1 16))) :: (q 17, zc G 0 (zI 5 (u.1 17))) :: (q 18, zc G 0 (zI 24 (u.1 18))) :: (q 20, zc G 0 (zI 3 (u.1 20))) :: (q 21, zc G 0 (zI 3 (u.1 21))) :: (q 22, zc G 0 (zI 3 (u.1 22))) :: (q 23, zc G 0 (zI 36 (u.1 23))) :: (q 24, zc G 0 (zI 36 (u.1 24))) :: rest) := by
  refine z_begI (by decide) (Nat.le_of_ble_eq_true rfl) (fun p e s m args below meth c ls Q hC hl hw hend => ?_)
  have hx := hC.hx
  have hb := hC.hb
  have hl : lv_has ls 5 [(0, .ref mo), (1, .int x), (2, .int y), (3, .int z)] := hl
  have hw : zS G ((mo, zo 2 (mF q (f 1) (f 2) (f 3) (f 4) (f 5) (f 6) (f 7) (f 8) (f 14) (f 19))) :: (q 0, zc G 0 (zI 200 (b 0))) :: (q 9, zc G 0 (zI 46 (b 9))) :: (q 10, zc G 0 (zI 46 (b 10))) :: (q 11, zc G 0 (zI 46 (b 11))) :: (q 12, zc G 0 (zI 46 (b 12))) :: (q 13, zc G 0 (zI 368 (b 13))) :: (q 15, zc G 0 (zI 92 (b 15))) :: (q 16, zc G 3 (zI 2 (b 16))) :: (q 17, zc G 0 (zI 5 (b 17))) :: (q 18, zc G 0 (zI 24 (b 18))) :: (q 20, zc G 0 (zI 3 (b 20))) :: (q 21, zc G 0 (zI 3 (b 21))) :: (q 22, zc G 0 (zI 3 (b 22))) :: (q 23, zc G 0 (zI 36 (b 23))) :: (q 24, zc G 0 (zI 36 (b 24))) :: rest) s s.heap [] := hw
  have hA9 := hA
  obtain ⟨⟨hT, hL⟩, hV0, hV, ⟨hU, hUs⟩, hKp, ⟨hSi, hSg⟩, hTr⟩ := hM
  obtain ⟨⟨hL2, hT2⟩, hB0, hBv, ⟨hU8, hUb⟩, hKb, ⟨hS6, hSb⟩, hTb⟩ := hA
  have hH : Hw (aV A) := hBv.1.1
  have hday := hBv.2.2
  have hw := hw.cellI 4 rfl (g := vI (aV A)) (fun j hj => by have := hV j hj; rwa [Nat.zero_add] at this)
  have hw : zS G ((mo, zo 2 (mF q (f 1) (f 2) (f 3) (f 4) (f 5) (f 6) (f 7) (f 8) (f 14) (f 19))) :: (q 0, zc G 0 (zI 200 (b 0))) :: (q 9, zc G 0 (zI 46 (b 9))) :: (q 10, zc G 0 (zI 46 (b 10))) :: (q 11, zc G 0 (zI 46 (vI (aV A)))) :: (q 12, zc G 0 (zI 46 (b 12))) :: (q 13, zc G 0 (zI 368 (b 13))) :: (q 15, zc G 0 (zI 92 (b 15))) :: (q 16, zc G 3 (zI 2 (b 16))) :: (q 17, zc G 0 (zI 5 (b 17))) :: (q 18, zc G 0 (zI 24 (b 18))) :: (q 20, zc G 0 (zI 3 (b 20))) :: (q 21, zc G 0 (zI 3 (b 21))) :: (q 22, zc G 0 (zI 3 (b 22))) :: (q 23, zc G 0 (zI 36 (b 23))) :: (q 24, zc G 0 (zI 36 (b 24))) :: rest) s s.heap [] := hw
  refine lv_iload_n hx hb dX2_add_0 rfl (lv_at hl 1 rfl) ?_
  refine z_ci (z_runS (As := [.int x]) (rest := []) hC zs_X2_229 (m_X2_isTrail G l x _) hw rfl rfl (Nat.le_of_ble_eq_true rfl) hl.1 ⟨Nat.le_of_ble_eq_true rfl, Nat.le_of_ble_eq_true rfl⟩ ⟨(Nat.le_of_ble_eq_true rfl), (Nat.le_of_ble_eq_true rfl)⟩ dX2_add_1) hw (fun _ => List.Perm.refl _) (fun r u H locs hp hw => ?_)
  obtain rfl : r = bI (inR x 0 2) := hp
  refine zb_eq (tgt := 20) hx hb dX2_add_4 (by decide) (fun c_4 => ?_) (fun c_4 => ?_)
  · skip
    refine lv_bipush (v := (-2)) hx hb dX2_add_20 zb_m2 ?_
    exact hend _ _ _ _ _ _ _ ((bU b 11 (vI (aV A))), mf (f 1) (f 2) (f 3) (f 4) (f 5) (f 6) (f 7) (f 8) (f 14) (f 19)) hw (by (first | rw [show F_add A x y z = (-2, A) from F_bad (Or.inl c_4)] | rw [show F_add A (nI t) y z = (-2, A) from F_bad (Or.inr ⟨c_9, c_17⟩)]); exact ⟨rfl, ⟨⟨hT, hL⟩, hV0, rH_vI, ⟨hU, hUs⟩, hKp, ⟨hSi, hSg⟩, (fun t ht => tRel_of rfl rfl rfl rfl rfl (hTr t ht))⟩⟩) (by omega) (by omega) dX2_add_22
  · skip
    have hcx := c_4
    obtain ⟨t, ht1, ht2, rfl⟩ := c_4
    have hl : lv_has ls 5 [(0, .ref mo), (1, .int (nI t)), (2, .int y), (3, .int z)] := hl
    refine lv_iload_n hx hb dX2_add_7 rfl (lv_at hl 2 rfl) ?_
    refine lv_iconst (v := (nI 1)) hx hb dX2_add_8 zk_1 ?_
    refine lv_icmp_ne (tgt := 23) hx hb dX2_add_9 (by decide) (fun c_9 => ?_) (fun c_9 => ?_)
    · skip
      have hT9 := hTr t (by omega)
      have hnb : ¬ badP A (nI t) y z := bad_no ht2 (fun h => by first | exact c_17 | exact absurd h c_9)
      refine lv_iload_n hx hb dX2_add_23 rfl (lv_at hl 2 rfl) ?_
      refine lv_iload_n hx hb dX2_add_24 rfl (lv_at hl 3 rfl) ?_
      refine z_ci (z_runS (As := [.int y, .int z]) (rest := []) hC zs_X2_233 (m_X2_isWell G l y z _) hw rfl rfl (Nat.le_of_ble_eq_true rfl) hl.1 ⟨Nat.le_of_ble_eq_true rfl, Nat.le_of_ble_eq_true rfl⟩ ⟨(Nat.le_of_ble_eq_true rfl), (Nat.le_of_ble_eq_true rfl)⟩ dX2_add_25) hw (fun _ => List.Perm.refl _) (fun r u H locs hp hw => ?_)
      obtain rfl : r = bI (wellP y z) := hp
      refine zb_ne (tgt := 34) hx hb dX2_add_28 (by decide) (fun c_28 => ?_) (fun c_28 => ?_)
      · skip
        have hwc := well_cl c_28
        refine lv_aload_n hx hb dX2_add_34 rfl (lv_at hl 0 rfl) ?_
        refine z_get (v := .ref (q 20)) hC zf_X2_41_2 hw 0 rfl rfl dX2_add_35 ?_
        refine lv_iload_n hx hb dX2_add_38 rfl (lv_at hl 1 rfl) ?_
        refine z_iald (x := ((b 20) t)) hC hw 11 rfl (by omega) (by decide) rfl dX2_add_39 ?_
        rcases htr : aTr A t with _ | ⟨l9, h9, c9⟩
        · skip
          rw [htr] at hT9
          rw [show (b 20) t = -1 from hT9]
          have hl : lv_has ls 5 [(0, .ref mo), (1, .int (nI t)), (2, .int y), (3, .int z)] := hl
          have hw : zS G ((mo, zo 2 (mF q (f 1) (f 2) (f 3) (f 4) (f 5) (f 6) (f 7) (f 8) (f 14) (f 19))) :: (q 0, zc G 0 (zI 200 (b 0))) :: (q 9, zc G 0 (zI 46 (b 9))) :: (q 10, zc G 0 (zI 46 (b 10))) :: (q 11, zc G 0 (zI 46 (vI (aV A)))) :: (q 12, zc G 0 (zI 46 (b 12))) :: (q 13, zc G 0 (zI 368 (b 13))) :: (q 15, zc G 0 (zI 92 (b 15))) :: (q 16, zc G 3 (zI 2 (b 16))) :: (q 17, zc G 0 (zI 5 (b 17))) :: (q 18, zc G 0 (zI 24 (b 18))) :: (q 20, zc G 0 (zI 3 (b 20))) :: (q 21, zc G 0 (zI 3 (b 21))) :: (q 22, zc G 0 (zI 3 (b 22))) :: (q 23, zc G 0 (zI 36 (b 23))) :: (q 24, zc G 0 (zI 36 (b 24))) :: rest) s H locs := hw
          refine lv_iconst (v := -1) hx hb dX2_add_40 zk_m1 ?_
          refine lv_icmp_ne (tgt := 47) hx hb dX2_add_41 (by decide) (fun h => absurd h (by decide)) (fun _ => ?_)
          refine lv_bipush (v := (-11)) hx hb dX2_add_44 zb_m11 ?_
          exact hend _ _ _ _ _ _ _ ((bU b 11 (vI (aV A))), mf (f 1) (f 2) (f 3) (f 4) (f 5) (f 6) (f 7) (f 8) (f 14) (f 19)) hw (by rw [F_add_none ht2 hnb c_28 htr]; exact ⟨rfl, ⟨⟨hT, hL⟩, hV0, rH_vI, ⟨hU, hUs⟩, hKp, ⟨hSi, hSg⟩, (fun t ht => tRel_of rfl rfl rfl rfl rfl (hTr t ht))⟩⟩) (by omega) (by omega) dX2_add_46
        · skip
          rw [htr] at hT9
          obtain ⟨hm, hh, hc, hit⟩ := hT9
          obtain ⟨hlen, hhl, hcl, hok⟩ := hTb t (by omega) l9 h9 c9 htr
          rw [show (b 20) t = nI (l9.length) from hm]
          have hl : lv_has ls 5 [(0, .ref mo), (1, .int (nI t)), (2, .int y), (3, .int z)] := hl
          have hw : zS G ((mo, zo 2 (mF q (f 1) (f 2) (f 3) (f 4) (f 5) (f 6) (f 7) (f 8) (f 14) (f 19))) :: (q 0, zc G 0 (zI 200 (b 0))) :: (q 9, zc G 0 (zI 46 (b 9))) :: (q 10, zc G 0 (zI 46 (b 10))) :: (q 11, zc G 0 (zI 46 (vI (aV A)))) :: (q 12, zc G 0 (zI 46 (b 12))) :: (q 13, zc G 0 (zI 368 (b 13))) :: (q 15, zc G 0 (zI 92 (b 15))) :: (q 16, zc G 3 (zI 2 (b 16))) :: (q 17, zc G 0 (zI 5 (b 17))) :: (q 18, zc G 0 (zI 24 (b 18))) :: (q 20, zc G 0 (zI 3 (b 20))) :: (q 21, zc G 0 (zI 3 (b 21))) :: (q 22, zc G 0 (zI 3 (b 22))) :: (q 23, zc G 0 (zI 36 (b 23))) :: (q 24, zc G 0 (zI 36 (b 24))) :: rest) s H locs := hw
          refine lv_iconst (v := -1) hx hb dX2_add_40 zk_m1 ?_
          refine lv_icmp_ne (tgt := 47) hx hb dX2_add_41 (by decide) (fun _ => ?_) (fun h => absurd h (nI_nm1 (by omega)))
          refine lv_aload_n hx hb dX2_add_47 rfl (lv_at hl 0 rfl) ?_
          refine z_get (v := .ref (q 20)) hC zf_X2_41_2 hw 0 rfl rfl dX2_add_48 ?_
          refine lv_iload_n hx hb dX2_add_51 rfl (lv_at hl 1 rfl) ?_
          refine z_iald (x := (nI (l9.length))) hC hw 11 rfl (by omega) (by decide) hm dX2_add_52 ?_
          refine lv_bipush (v := (nI 12)) hx hb dX2_add_53 zb_12 ?_
          refine zi_ne (tgt := 61) hx hb (by omega) (by decide) dX2_add_55 (by decide) (fun c_55 => ?_) (fun c_55 => ?_)
          · skip
            have hlt12 : l9.length < 12 := by omega
            have hlA : (l9.take h9 ++ (cl y, z) :: l9.drop h9).length = l9.length + 1 := by rw [List.length_append, List.length_cons, List.length_take, List.length_drop]; omega
            have hnt := tRel_add (v := z) hlt12 hhl hwc.1 hit
            have hw : zS G ((mo, zo 2 (mF q (f 1) (f 2) (f 3) (f 4) (f 5) (f 6) (f 7) (f 8) (f 14) (f 19))) :: (q 0, zc G 0 (zI 200 (b 0))) :: (q 9, zc G 0 (zI 46 (b 9))) :: (q 10, zc G 0 (zI 46 (b 10))) :: (q 11, zc G 0 (zI 46 (vI (aV A)))) :: (q 12, zc G 0 (zI 46 (b 12))) :: (q 13, zc G 0 (zI 368 (b 13))) :: (q 15, zc G 0 (zI 92 (b 15))) :: (q 16, zc G 3 (zI 2 (b 16))) :: (q 17, zc G 0 (zI 5 (b 17))) :: (q 18, zc G 0 (zI 24 (b 18))) :: (q 20, zc G 0 (zI 3 (b 20))) :: (q 21, zc G 0 (zI 3 (b 21))) :: (q 22, zc G 0 (zI 3 (b 22))) :: (q 23, zc G 0 (zI 36 (upF (b 23) (12 * t) (l9.length) (l9.length)))) :: (q 24, zc G 0 (zI 36 (upF (b 24) (12 * t) (l9.length) (l9.length)))) :: rest) s H locs := by rw [upF_0, upF_0]; exact hw
            refine lv_aload_n hx hb dX2_add_61 rfl (lv_at hl 0 rfl) ?_
            refine z_get (v := .ref (q 20)) hC zf_X2_41_2 hw 0 rfl rfl dX2_add_62 ?_
            refine lv_iload_n hx hb dX2_add_65 rfl (lv_at hl 1 rfl) ?_
            refine z_iald (x := (nI (l9.length))) hC hw 11 rfl (by omega) (by decide) hm dX2_add_66 ?_
            refine lv_istore (lv' := [(4, .int (nI (l9.length))), (0, .ref mo), (1, .int (nI t)), (2, .int y), (3, .int z)]) hx hb dX2_add_67 hl (by decide) rfl (fun ls hl => ?_)
            have loop_69 : ∀ (fuel : Nat) (k : Nat), (h9 ≤ k) → (k ≤ l9.length) → (k - h9) < fuel → ∀ (H : Heap) (locs : List Loc) (ls : Array Slot), zS G ((mo, zo 2 (mF q (f 1) (f 2) (f 3) (f 4) (f 5) (f 6) (f 7) (f 8) (f 14) (f 19))) :: (q 0, zc G 0 (zI 200 (b 0))) :: (q 9, zc G 0 (zI 46 (b 9))) :: (q 10, zc G 0 (zI 46 (b 10))) :: (q 11, zc G 0 (zI 46 (vI (aV A)))) :: (q 12, zc G 0 (zI 46 (b 12))) :: (q 13, zc G 0 (zI 368 (b 13))) :: (q 15, zc G 0 (zI 92 (b 15))) :: (q 16, zc G 3 (zI 2 (b 16))) :: (q 17, zc G 0 (zI 5 (b 17))) :: (q 18, zc G 0 (zI 24 (b 18))) :: (q 20, zc G 0 (zI 3 (b 20))) :: (q 21, zc G 0 (zI 3 (b 21))) :: (q 22, zc G 0 (zI 3 (b 22))) :: (q 23, zc G 0 (zI 36 (upF (b 23) (12 * t) k (l9.length)))) :: (q 24, zc G 0 (zI 36 (upF (b 24) (12 * t) k (l9.length)))) :: rest) s H locs → lv_has ls 5 [(0, .ref mo), (1, .int (nI t)), (2, .int y), (3, .int z), (4, .int (nI k))] → W p l e (zR 2 0 0) s m args below meth c H locs 0 0 Q (F0 m 69 ls []) := by
              intro fuel
              induction fuel with
              | zero => intro k hk1 hk2 hfuel; exact absurd hfuel (Nat.not_lt_zero _)
              | succ fuel_69 ih_69 =>
                intro k hk1 hk2 hfuel_69 H locs ls hw hl
                refine lv_iload hx hb dX2_add_69 (lv_at hl 4 rfl) ?_
                refine lv_aload_n hx hb dX2_add_71 rfl (lv_at hl 0 rfl) ?_
                refine z_get (v := .ref (q 21)) hC zf_X2_44_2 hw 0 rfl rfl dX2_add_72 ?_
                refine lv_iload_n hx hb dX2_add_75 rfl (lv_at hl 1 rfl) ?_
                refine z_iald (x := (nI h9)) hC hw 12 rfl (by omega) (by decide) hh dX2_add_76 ?_
                refine zi_le (tgt := 121) hx hb (by omega) (by omega) dX2_add_77 (by decide) (fun c_77 => ?_) (fun c_77 => ?_)
                · skip
                  have hkh : k = h9 := by omega
                  have hw : zS G ((mo, zo 2 (mF q (f 1) (f 2) (f 3) (f 4) (f 5) (f 6) (f 7) (f 8) (f 14) (f 19))) :: (q 0, zc G 0 (zI 200 (b 0))) :: (q 9, zc G 0 (zI 46 (b 9))) :: (q 10, zc G 0 (zI 46 (b 10))) :: (q 11, zc G 0 (zI 46 (vI (aV A)))) :: (q 12, zc G 0 (zI 46 (b 12))) :: (q 13, zc G 0 (zI 368 (b 13))) :: (q 15, zc G 0 (zI 92 (b 15))) :: (q 16, zc G 3 (zI 2 (b 16))) :: (q 17, zc G 0 (zI 5 (b 17))) :: (q 18, zc G 0 (zI 24 (b 18))) :: (q 20, zc G 0 (zI 3 (b 20))) :: (q 21, zc G 0 (zI 3 (b 21))) :: (q 22, zc G 0 (zI 3 (b 22))) :: (q 23, zc G 0 (zI 36 (upF (b 23) (12 * t) h9 (l9.length)))) :: (q 24, zc G 0 (zI 36 (upF (b 24) (12 * t) h9 (l9.length)))) :: rest) s H locs := by rw [← hkh]; exact hw
                  refine lv_aload_n hx hb dX2_add_121 rfl (lv_at hl 0 rfl) ?_
                  refine lv_iload_n hx hb dX2_add_122 rfl (lv_at hl 1 rfl) ?_
                  refine lv_aload_n hx hb dX2_add_123 rfl (lv_at hl 0 rfl) ?_
                  refine z_get (v := .ref (q 21)) hC zf_X2_44_2 hw 0 rfl rfl dX2_add_124 ?_
                  refine lv_iload_n hx hb dX2_add_127 rfl (lv_at hl 1 rfl) ?_
                  refine z_iald (x := (nI h9)) hC hw 12 rfl (by omega) (by decide) hh dX2_add_128 ?_
                  refine lv_iload_n hx hb dX2_add_129 rfl (lv_at hl 2 rfl) ?_
                  refine lv_iload_n hx hb dX2_add_130 rfl (lv_at hl 3 rfl) ?_
                  refine z_cv (z_runV (As := [.int (nI t), .int (nI h9), .int y, .int z]) (rest := []) hC zv_X2_236 (m_X2_lays G l mo q (f 1) (f 2) (f 3) (f 4) (f 5) (f 6) (f 7) (f 8) (f 14) (f 19) t h9 y z (upF (b 23) (12 * t) h9 l9.length) (upF (b 24) (12 * t) h9 l9.length) (by omega) (zrem [0, 14, 15] _)) hw (hw.perm (z_cut (is := [0, 14, 15]) (cells := [(mo, zo 2 (mF q (f 1) (f 2) (f 3) (f 4) (f 5) (f 6) (f 7) (f 8) (f 14) (f 19))), (q 23, zc G 0 (zI 36 (upF (b 23) (12 * t) h9 l9.length))), (q 24, zc G 0 (zI 36 (upF (b 24) (12 * t) h9 l9.length)))]) rfl rfl)) 0 rfl rfl rfl rfl rfl (Nat.le_of_ble_eq_true rfl) hl.1 ⟨Nat.le_of_ble_eq_true rfl, Nat.le_of_ble_eq_true rfl⟩ ⟨(Nat.le_of_ble_eq_true rfl), (Nat.le_of_ble_eq_true rfl)⟩ dX2_add_131) hw (fun _ => z_pput (is := [0, 14, 15]) (cells := [(mo, zo 2 (mF q (f 1) (f 2) (f 3) (f 4) (f 5) (f 6) (f 7) (f 8) (f 14) (f 19))), (q 23, zc G 0 (zI 36 (upF (b 23) (12 * t) h9 l9.length))), (q 24, zc G 0 (zI 36 (upF (b 24) (12 * t) h9 l9.length)))]) (cells' := [(mo, zo 2 (mF q (f 1) (f 2) (f 3) (f 4) (f 5) (f 6) (f 7) (f 8) (f 14) (f 19))), (q 23, zc G 0 (zI 36 (upd (upF (b 23) (12 * t) h9 l9.length) (12 * t + h9) y))), (q 24, zc G 0 (zI 36 (upd (upF (b 24) (12 * t) h9 l9.length) (12 * t + h9) z)))]) rfl rfl rfl) (fun u H locs hp hw => ?_)
                  have hw : zS G ((mo, zo 2 (mF q (f 1) (f 2) (f 3) (f 4) (f 5) (f 6) (f 7) (f 8) (f 14) (f 19))) :: (q 0, zc G 0 (zI 200 (b 0))) :: (q 9, zc G 0 (zI 46 (b 9))) :: (q 10, zc G 0 (zI 46 (b 10))) :: (q 11, zc G 0 (zI 46 (vI (aV A)))) :: (q 12, zc G 0 (zI 46 (b 12))) :: (q 13, zc G 0 (zI 368 (b 13))) :: (q 15, zc G 0 (zI 92 (b 15))) :: (q 16, zc G 3 (zI 2 (b 16))) :: (q 17, zc G 0 (zI 5 (b 17))) :: (q 18, zc G 0 (zI 24 (b 18))) :: (q 20, zc G 0 (zI 3 (b 20))) :: (q 21, zc G 0 (zI 3 (b 21))) :: (q 22, zc G 0 (zI 3 (b 22))) :: (q 23, zc G 0 (zI 36 (upd (upF (b 23) (12 * t) h9 l9.length) (12 * t + h9) y))) :: (q 24, zc G 0 (zI 36 (upd (upF (b 24) (12 * t) h9 l9.length) (12 * t + h9) z))) :: rest) s H locs := hw
                  refine lv_aload_n hx hb dX2_add_134 rfl (lv_at hl 0 rfl) ?_
                  refine z_get (v := .ref (q 21)) hC zf_X2_44_2 hw 0 rfl rfl dX2_add_135 ?_
                  refine lv_iload_n hx hb dX2_add_138 rfl (lv_at hl 1 rfl) ?_
                  refine lv_dup2_11 hx hb dX2_add_139 rfl rfl ?_
                  refine z_iald (x := (nI h9)) hC hw 12 rfl (by omega) (by decide) hh dX2_add_140 ?_
                  refine lv_iconst (v := (nI 1)) hx hb dX2_add_141 zk_1 ?_
                  refine zn_iadd hx hb dX2_add_142 ?_
                  refine z_iast (f' := upd (b 21) t (nI (h9 + 1))) hC hw 12 rfl (by omega) (by decide) rfl dX2_add_143 (fun H locs hw => ?_)
                  have hw : zS G ((mo, zo 2 (mF q (f 1) (f 2) (f 3) (f 4) (f 5) (f 6) (f 7) (f 8) (f 14) (f 19))) :: (q 0, zc G 0 (zI 200 (b 0))) :: (q 9, zc G 0 (zI 46 (b 9))) :: (q 10, zc G 0 (zI 46 (b 10))) :: (q 11, zc G 0 (zI 46 (vI (aV A)))) :: (q 12, zc G 0 (zI 46 (b 12))) :: (q 13, zc G 0 (zI 368 (b 13))) :: (q 15, zc G 0 (zI 92 (b 15))) :: (q 16, zc G 3 (zI 2 (b 16))) :: (q 17, zc G 0 (zI 5 (b 17))) :: (q 18, zc G 0 (zI 24 (b 18))) :: (q 20, zc G 0 (zI 3 (b 20))) :: (q 21, zc G 0 (zI 3 (upd (b 21) t (nI (h9 + 1))))) :: (q 22, zc G 0 (zI 3 (b 22))) :: (q 23, zc G 0 (zI 36 (upd (upF (b 23) (12 * t) h9 l9.length) (12 * t + h9) y))) :: (q 24, zc G 0 (zI 36 (upd (upF (b 24) (12 * t) h9 l9.length) (12 * t + h9) z))) :: rest) s H locs := hw
                  refine lv_aload_n hx hb dX2_add_144 rfl (lv_at hl 0 rfl) ?_
                  refine z_get (v := .ref (q 20)) hC zf_X2_41_2 hw 0 rfl rfl dX2_add_145 ?_
                  refine lv_iload_n hx hb dX2_add_148 rfl (lv_at hl 1 rfl) ?_
                  refine lv_dup2_11 hx hb dX2_add_149 rfl rfl ?_
                  refine z_iald (x := (nI (l9.length))) hC hw 11 rfl (by omega) (by decide) hm dX2_add_150 ?_
                  refine lv_iconst (v := (nI 1)) hx hb dX2_add_151 zk_1 ?_
                  refine zn_iadd hx hb dX2_add_152 ?_
                  refine z_iast (f' := upd (b 20) t (nI (l9.length + 1))) hC hw 11 rfl (by omega) (by decide) rfl dX2_add_153 (fun H locs hw => ?_)
                  have hw : zS G ((mo, zo 2 (mF q (f 1) (f 2) (f 3) (f 4) (f 5) (f 6) (f 7) (f 8) (f 14) (f 19))) :: (q 0, zc G 0 (zI 200 (b 0))) :: (q 9, zc G 0 (zI 46 (b 9))) :: (q 10, zc G 0 (zI 46 (b 10))) :: (q 11, zc G 0 (zI 46 (vI (aV A)))) :: (q 12, zc G 0 (zI 46 (b 12))) :: (q 13, zc G 0 (zI 368 (b 13))) :: (q 15, zc G 0 (zI 92 (b 15))) :: (q 16, zc G 3 (zI 2 (b 16))) :: (q 17, zc G 0 (zI 5 (b 17))) :: (q 18, zc G 0 (zI 24 (b 18))) :: (q 20, zc G 0 (zI 3 (upd (b 20) t (nI (l9.length + 1))))) :: (q 21, zc G 0 (zI 3 (upd (b 21) t (nI (h9 + 1))))) :: (q 22, zc G 0 (zI 3 (b 22))) :: (q 23, zc G 0 (zI 36 (upd (upF (b 23) (12 * t) h9 l9.length) (12 * t + h9) y))) :: (q 24, zc G 0 (zI 36 (upd (upF (b 24) (12 * t) h9 l9.length) (12 * t + h9) z))) :: rest) s H locs := hw
                  refine lv_aload_n hx hb dX2_add_154 rfl (lv_at hl 0 rfl) ?_
                  refine z_get (v := .ref (q 22)) hC zf_X2_47_2 hw 0 rfl rfl dX2_add_155 ?_
                  refine lv_iload_n hx hb dX2_add_158 rfl (lv_at hl 1 rfl) ?_
                  refine lv_iconst (v := -1) hx hb dX2_add_159 zk_m1 ?_
                  refine z_iast (f' := upd (b 22) t (-1)) hC hw 13 rfl (by omega) (by decide) rfl dX2_add_160 (fun H locs hw => ?_)
                  have hw : zS G ((mo, zo 2 (mF q (f 1) (f 2) (f 3) (f 4) (f 5) (f 6) (f 7) (f 8) (f 14) (f 19))) :: (q 0, zc G 0 (zI 200 (b 0))) :: (q 9, zc G 0 (zI 46 (b 9))) :: (q 10, zc G 0 (zI 46 (b 10))) :: (q 11, zc G 0 (zI 46 (vI (aV A)))) :: (q 12, zc G 0 (zI 46 (b 12))) :: (q 13, zc G 0 (zI 368 (b 13))) :: (q 15, zc G 0 (zI 92 (b 15))) :: (q 16, zc G 3 (zI 2 (b 16))) :: (q 17, zc G 0 (zI 5 (b 17))) :: (q 18, zc G 0 (zI 24 (b 18))) :: (q 20, zc G 0 (zI 3 (upd (b 20) t (nI (l9.length + 1))))) :: (q 21, zc G 0 (zI 3 (upd (b 21) t (nI (h9 + 1))))) :: (q 22, zc G 0 (zI 3 (upd (b 22) t (-1)))) :: (q 23, zc G 0 (zI 36 (upd (upF (b 23) (12 * t) h9 l9.length) (12 * t + h9) y))) :: (q 24, zc G 0 (zI 36 (upd (upF (b 24) (12 * t) h9 l9.length) (12 * t + h9) z))) :: rest) s H locs := hw
                  refine lv_aload_n hx hb dX2_add_161 rfl (lv_at hl 0 rfl) ?_
                  refine z_get (v := .ref (q 20)) hC zf_X2_41_2 hw 0 rfl rfl dX2_add_162 ?_
                  refine lv_iload_n hx hb dX2_add_165 rfl (lv_at hl 1 rfl) ?_
                  refine z_iald (x := (nI (l9.length + 1))) hC hw 11 rfl (by omega) (by decide) upd_s dX2_add_166 ?_
                  exact hend _ _ _ _ _ _ _ ((bU (bU (bU (bU (bU (bU b 11 (vI (aV A))) 20 (upd (b 20) t (nI (l9.length + 1)))) 21 (upd (b 21) t (nI (h9 + 1)))) 22 (upd (b 22) t (-1))) 23 (upd (upF (b 23) (12 * t) h9 l9.length) (12 * t + h9) y)) 24 (upd (upF (b 24) (12 * t) h9 l9.length) (12 * t + h9) z)), mf (f 1) (f 2) (f 3) (f 4) (f 5) (f 6) (f 7) (f 8) (f 14) (f 19)) hw (by rw [F_add_ok ht2 hnb c_28 htr c_55]; exact ⟨rfl, ⟨⟨hT, hL⟩, hV0, rH_vI, ⟨hU, hUs⟩, hKp, ⟨hSi, hSg⟩, (Tr_up hA9 hTr (fun t' _ hne => ⟨upd_ne' hne, upd_ne' hne, upd_ne' hne, fun _ h12 => ⟨up_out hne hlt12 hhl h12, up_out hne hlt12 hhl h12⟩⟩) ⟨by rw [hlA]; exact upd_s, upd_s, upd_s, hnt⟩)⟩⟩) (by omega) (by omega) dX2_add_167
                · skip
                  refine lv_aload_n hx hb dX2_add_80 rfl (lv_at hl 0 rfl) ?_
                  refine lv_iload_n hx hb dX2_add_81 rfl (lv_at hl 1 rfl) ?_
                  refine lv_iload hx hb dX2_add_82 (lv_at hl 4 rfl) ?_
                  refine lv_aload_n hx hb dX2_add_84 rfl (lv_at hl 0 rfl) ?_
                  refine z_get (v := .ref (q 23)) hC zf_X2_50_2 hw 0 rfl rfl dX2_add_85 ?_
                  refine lv_bipush (v := (nI 12)) hx hb dX2_add_88 zb_12 ?_
                  refine lv_iload_n hx hb dX2_add_90 rfl (lv_at hl 1 rfl) ?_
                  refine zn_imul hx hb dX2_add_91 ?_
                  refine lv_iload hx hb dX2_add_92 (lv_at hl 4 rfl) ?_
                  refine zn_iadd hx hb dX2_add_94 ?_
                  refine lv_iconst (v := (nI 1)) hx hb dX2_add_95 zk_1 ?_
                  refine zn_isub hx hb (by omega) dX2_add_96 ?_
                  refine z_iald (x := ((b 23) (12 * t + k - 1))) hC hw 14 rfl (by omega) (by decide) (upF_rd (by omega)) dX2_add_97 ?_
                  refine lv_aload_n hx hb dX2_add_98 rfl (lv_at hl 0 rfl) ?_
                  refine z_get (v := .ref (q 24)) hC zf_X2_53_2 hw 0 rfl rfl dX2_add_99 ?_
                  refine lv_bipush (v := (nI 12)) hx hb dX2_add_102 zb_12 ?_
                  refine lv_iload_n hx hb dX2_add_104 rfl (lv_at hl 1 rfl) ?_
                  refine zn_imul hx hb dX2_add_105 ?_
                  refine lv_iload hx hb dX2_add_106 (lv_at hl 4 rfl) ?_
                  refine zn_iadd hx hb dX2_add_108 ?_
                  refine lv_iconst (v := (nI 1)) hx hb dX2_add_109 zk_1 ?_
                  refine zn_isub hx hb (by omega) dX2_add_110 ?_
                  refine z_iald (x := ((b 24) (12 * t + k - 1))) hC hw 15 rfl (by omega) (by decide) (upF_rd (by omega)) dX2_add_111 ?_
                  refine z_cv (z_runV (As := [.int (nI t), .int (nI k), .int ((b 23) (12 * t + k - 1)), .int ((b 24) (12 * t + k - 1))]) (rest := []) hC zv_X2_236 (m_X2_lays G l mo q (f 1) (f 2) (f 3) (f 4) (f 5) (f 6) (f 7) (f 8) (f 14) (f 19) t k ((b 23) (12 * t + k - 1)) ((b 24) (12 * t + k - 1)) (upF (b 23) (12 * t) k l9.length) (upF (b 24) (12 * t) k l9.length) (by omega) (zrem [0, 14, 15] _)) hw (hw.perm (z_cut (is := [0, 14, 15]) (cells := [(mo, zo 2 (mF q (f 1) (f 2) (f 3) (f 4) (f 5) (f 6) (f 7) (f 8) (f 14) (f 19))), (q 23, zc G 0 (zI 36 (upF (b 23) (12 * t) k l9.length))), (q 24, zc G 0 (zI 36 (upF (b 24) (12 * t) k l9.length)))]) rfl rfl)) 0 rfl rfl rfl rfl rfl (Nat.le_of_ble_eq_true rfl) hl.1 ⟨Nat.le_of_ble_eq_true rfl, Nat.le_of_ble_eq_true rfl⟩ ⟨(Nat.le_of_ble_eq_true rfl), (Nat.le_of_ble_eq_true rfl)⟩ dX2_add_112) hw (fun _ => z_pput (is := [0, 14, 15]) (cells := [(mo, zo 2 (mF q (f 1) (f 2) (f 3) (f 4) (f 5) (f 6) (f 7) (f 8) (f 14) (f 19))), (q 23, zc G 0 (zI 36 (upF (b 23) (12 * t) k l9.length))), (q 24, zc G 0 (zI 36 (upF (b 24) (12 * t) k l9.length)))]) (cells' := [(mo, zo 2 (mF q (f 1) (f 2) (f 3) (f 4) (f 5) (f 6) (f 7) (f 8) (f 14) (f 19))), (q 23, zc G 0 (zI 36 (upd (upF (b 23) (12 * t) k l9.length) (12 * t + k) ((b 23) (12 * t + k - 1))))), (q 24, zc G 0 (zI 36 (upd (upF (b 24) (12 * t) k l9.length) (12 * t + k) ((b 24) (12 * t + k - 1)))))]) rfl rfl rfl) (fun u H locs hp hw => ?_)
                  have hw : zS G ((mo, zo 2 (mF q (f 1) (f 2) (f 3) (f 4) (f 5) (f 6) (f 7) (f 8) (f 14) (f 19))) :: (q 0, zc G 0 (zI 200 (b 0))) :: (q 9, zc G 0 (zI 46 (b 9))) :: (q 10, zc G 0 (zI 46 (b 10))) :: (q 11, zc G 0 (zI 46 (vI (aV A)))) :: (q 12, zc G 0 (zI 46 (b 12))) :: (q 13, zc G 0 (zI 368 (b 13))) :: (q 15, zc G 0 (zI 92 (b 15))) :: (q 16, zc G 3 (zI 2 (b 16))) :: (q 17, zc G 0 (zI 5 (b 17))) :: (q 18, zc G 0 (zI 24 (b 18))) :: (q 20, zc G 0 (zI 3 (b 20))) :: (q 21, zc G 0 (zI 3 (b 21))) :: (q 22, zc G 0 (zI 3 (b 22))) :: (q 23, zc G 0 (zI 36 (upd (upF (b 23) (12 * t) k l9.length) (12 * t + k) ((b 23) (12 * t + k - 1))))) :: (q 24, zc G 0 (zI 36 (upd (upF (b 24) (12 * t) k l9.length) (12 * t + k) ((b 24) (12 * t + k - 1))))) :: rest) s H locs := hw
                  have hw : zS G ((mo, zo 2 (mF q (f 1) (f 2) (f 3) (f 4) (f 5) (f 6) (f 7) (f 8) (f 14) (f 19))) :: (q 0, zc G 0 (zI 200 (b 0))) :: (q 9, zc G 0 (zI 46 (b 9))) :: (q 10, zc G 0 (zI 46 (b 10))) :: (q 11, zc G 0 (zI 46 (vI (aV A)))) :: (q 12, zc G 0 (zI 46 (b 12))) :: (q 13, zc G 0 (zI 368 (b 13))) :: (q 15, zc G 0 (zI 92 (b 15))) :: (q 16, zc G 3 (zI 2 (b 16))) :: (q 17, zc G 0 (zI 5 (b 17))) :: (q 18, zc G 0 (zI 24 (b 18))) :: (q 20, zc G 0 (zI 3 (b 20))) :: (q 21, zc G 0 (zI 3 (b 21))) :: (q 22, zc G 0 (zI 3 (b 22))) :: (q 23, zc G 0 (zI 36 (upF (b 23) (12 * t) (k - 1) (l9.length)))) :: (q 24, zc G 0 (zI 36 (upF (b 24) (12 * t) (k - 1) (l9.length)))) :: rest) s H locs := by rw [← upF_st (g := b 23) (show 0 < k by omega) hk2, ← upF_st (g := b 24) (show 0 < k by omega) hk2]; exact hw
                  refine lv_iinc (v := (nI (k - 1))) (lv' := [(4, .int (nI (k - 1))), (0, .ref mo), (1, .int (nI t)), (2, .int y), (3, .int z)]) hx hb dX2_add_115 hl (k := 4) rfl (zdec1 (by omega)) (by decide) rfl (fun ls hl => ?_)
                  refine lv_goto (tgt := 69) hx hb dX2_add_118 (by decide) ?_
                  exact ih_69 (k - 1) (by omega) (by omega) (by omega) H locs ls hw (lv_sub hl [1, 2, 3, 4, 0] rfl)
            exact loop_69 (((l9.length) - h9) + 1) (l9.length) (by omega) (by omega) (Nat.lt_succ_self _) H locs ls hw (lv_sub hl [1, 2, 3, 4, 0] rfl)
          · skip
            refine lv_bipush (v := (-15)) hx hb dX2_add_58 zb_m15 ?_
            exact hend _ _ _ _ _ _ _ ((bU b 11 (vI (aV A))), mf (f 1) (f 2) (f 3) (f 4) (f 5) (f 6) (f 7) (f 8) (f 14) (f 19)) hw (by rw [F_add_full ht2 hnb c_28 htr c_55]; exact ⟨rfl, ⟨⟨hT, hL⟩, hV0, rH_vI, ⟨hU, hUs⟩, hKp, ⟨hSi, hSg⟩, (fun t ht => tRel_of rfl rfl rfl rfl rfl (hTr t ht))⟩⟩) (by omega) (by omega) dX2_add_60
      · skip
        refine lv_bipush (v := (-3)) hx hb dX2_add_31 zb_m3 ?_
        exact hend _ _ _ _ _ _ _ ((bU b 11 (vI (aV A))), mf (f 1) (f 2) (f 3) (f 4) (f 5) (f 6) (f 7) (f 8) (f 14) (f 19)) hw (by rw [F_add_ill hnb c_28]; exact ⟨rfl, ⟨⟨hT, hL⟩, hV0, rH_vI, ⟨hU, hUs⟩, hKp, ⟨hSi, hSg⟩, (fun t ht => tRel_of rfl rfl rfl rfl rfl (hTr t ht))⟩⟩) (by omega) (by omega) dX2_add_33
    · skip
      refine lv_aload_n hx hb dX2_add_12 rfl (lv_at hl 0 rfl) ?_
      refine lv_iload_n hx hb dX2_add_13 rfl (lv_at hl 3 rfl) ?_
      refine z_ci (z_runV (As := [.int z]) (rest := []) hC zv_X2_194 (m_X2_isSquirrel G l mo q (f 1) (f 2) (f 3) (f 4) (f 5) (f 6) (f 7) (f 8) (f 14) (f 19) z (aV A) hH (zrem [0, 4] _)) hw (hw.perm (z_cut (is := [0, 4]) (cells := [(mo, zo 2 (mF q (f 1) (f 2) (f 3) (f 4) (f 5) (f 6) (f 7) (f 8) (f 14) (f 19))), (q 11, zc G 0 (zI 46 (vI (aV A))))]) rfl rfl)) 0 rfl rfl rfl rfl rfl (Nat.le_of_ble_eq_true rfl) hl.1 ⟨Nat.le_of_ble_eq_true rfl, Nat.le_of_ble_eq_true rfl⟩ ⟨(Nat.le_of_ble_eq_true rfl), (Nat.le_of_ble_eq_true rfl)⟩ dX2_add_14) hw (fun _ => z_keep (is := [0, 4]) (cs := [(mo, zo 2 (mF q (f 1) (f 2) (f 3) (f 4) (f 5) (f 6) (f 7) (f 8) (f 14) (f 19))), (q 11, zc G 0 (zI 46 (vI (aV A))))]) rfl rfl) (fun r u H locs hp hw => ?_)
      obtain rfl : r = bI (isP ((aV A) 1) z) := hp
      refine zb_ne (tgt := 23) hx hb dX2_add_17 (by decide) (fun c_17 => ?_) (fun c_17 => ?_)
      · skip
        have hT9 := hTr t (by omega)
        have hnb : ¬ badP A (nI t) y z := bad_no ht2 (fun h => by first | exact c_17 | exact absurd h c_9)
        refine lv_iload_n hx hb dX2_add_23 rfl (lv_at hl 2 rfl) ?_
        refine lv_iload_n hx hb dX2_add_24 rfl (lv_at hl 3 rfl) ?_
        refine z_ci (z_runS (As := [.int y, .int z]) (rest := []) hC zs_X2_233 (m_X2_isWell G l y z _) hw rfl rfl (Nat.le_of_ble_eq_true rfl) hl.1 ⟨Nat.le_of_ble_eq_true rfl, Nat.le_of_ble_eq_true rfl⟩ ⟨(Nat.le_of_ble_eq_true rfl), (Nat.le_of_ble_eq_true rfl)⟩ dX2_add_25) hw (fun _ => List.Perm.refl _) (fun r u H locs hp hw => ?_)
        obtain rfl : r = bI (wellP y z) := hp
        refine zb_ne (tgt := 34) hx hb dX2_add_28 (by decide) (fun c_28 => ?_) (fun c_28 => ?_)
        · skip
          have hwc := well_cl c_28
          refine lv_aload_n hx hb dX2_add_34 rfl (lv_at hl 0 rfl) ?_
          refine z_get (v := .ref (q 20)) hC zf_X2_41_2 hw 0 rfl rfl dX2_add_35 ?_
          refine lv_iload_n hx hb dX2_add_38 rfl (lv_at hl 1 rfl) ?_
          refine z_iald (x := ((b 20) t)) hC hw 11 rfl (by omega) (by decide) rfl dX2_add_39 ?_
          rcases htr : aTr A t with _ | ⟨l9, h9, c9⟩
          · skip
            rw [htr] at hT9
            rw [show (b 20) t = -1 from hT9]
            have hl : lv_has ls 5 [(0, .ref mo), (1, .int (nI t)), (2, .int y), (3, .int z)] := hl
            have hw : zS G ((mo, zo 2 (mF q (f 1) (f 2) (f 3) (f 4) (f 5) (f 6) (f 7) (f 8) (f 14) (f 19))) :: (q 0, zc G 0 (zI 200 (b 0))) :: (q 9, zc G 0 (zI 46 (b 9))) :: (q 10, zc G 0 (zI 46 (b 10))) :: (q 11, zc G 0 (zI 46 (vI (aV A)))) :: (q 12, zc G 0 (zI 46 (b 12))) :: (q 13, zc G 0 (zI 368 (b 13))) :: (q 15, zc G 0 (zI 92 (b 15))) :: (q 16, zc G 3 (zI 2 (b 16))) :: (q 17, zc G 0 (zI 5 (b 17))) :: (q 18, zc G 0 (zI 24 (b 18))) :: (q 20, zc G 0 (zI 3 (b 20))) :: (q 21, zc G 0 (zI 3 (b 21))) :: (q 22, zc G 0 (zI 3 (b 22))) :: (q 23, zc G 0 (zI 36 (b 23))) :: (q 24, zc G 0 (zI 36 (b 24))) :: rest) s H locs := hw
            refine lv_iconst (v := -1) hx hb dX2_add_40 zk_m1 ?_
            refine lv_icmp_ne (tgt := 47) hx hb dX2_add_41 (by decide) (fun h => absurd h (by decide)) (fun _ => ?_)
            refine lv_bipush (v := (-11)) hx hb dX2_add_44 zb_m11 ?_
            exact hend _ _ _ _ _ _ _ ((bU b 11 (vI (aV A))), mf (f 1) (f 2) (f 3) (f 4) (f 5) (f 6) (f 7) (f 8) (f 14) (f 19)) hw (by rw [F_add_none ht2 hnb c_28 htr]; exact ⟨rfl, ⟨⟨hT, hL⟩, hV0, rH_vI, ⟨hU, hUs⟩, hKp, ⟨hSi, hSg⟩, (fun t ht => tRel_of rfl rfl rfl rfl rfl (hTr t ht))⟩⟩) (by omega) (by omega) dX2_add_46
          · skip
            rw [htr] at hT9
            obtain ⟨hm, hh, hc, hit⟩ := hT9
            obtain ⟨hlen, hhl, hcl, hok⟩ := hTb t (by omega) l9 h9 c9 htr
            rw [show (b 20) t = nI (l9.length) from hm]
            have hl : lv_has ls 5 [(0, .ref mo), (1, .int (nI t)), (2, .int y), (3, .int z)] := hl
            have hw : zS G ((mo, zo 2 (mF q (f 1) (f 2) (f 3) (f 4) (f 5) (f 6) (f 7) (f 8) (f 14) (f 19))) :: (q 0, zc G 0 (zI 200 (b 0))) :: (q 9, zc G 0 (zI 46 (b 9))) :: (q 10, zc G 0 (zI 46 (b 10))) :: (q 11, zc G 0 (zI 46 (vI (aV A)))) :: (q 12, zc G 0 (zI 46 (b 12))) :: (q 13, zc G 0 (zI 368 (b 13))) :: (q 15, zc G 0 (zI 92 (b 15))) :: (q 16, zc G 3 (zI 2 (b 16))) :: (q 17, zc G 0 (zI 5 (b 17))) :: (q 18, zc G 0 (zI 24 (b 18))) :: (q 20, zc G 0 (zI 3 (b 20))) :: (q 21, zc G 0 (zI 3 (b 21))) :: (q 22, zc G 0 (zI 3 (b 22))) :: (q 23, zc G 0 (zI 36 (b 23))) :: (q 24, zc G 0 (zI 36 (b 24))) :: rest) s H locs := hw
            refine lv_iconst (v := -1) hx hb dX2_add_40 zk_m1 ?_
            refine lv_icmp_ne (tgt := 47) hx hb dX2_add_41 (by decide) (fun _ => ?_) (fun h => absurd h (nI_nm1 (by omega)))
            refine lv_aload_n hx hb dX2_add_47 rfl (lv_at hl 0 rfl) ?_
            refine z_get (v := .ref (q 20)) hC zf_X2_41_2 hw 0 rfl rfl dX2_add_48 ?_
            refine lv_iload_n hx hb dX2_add_51 rfl (lv_at hl 1 rfl) ?_
            refine z_iald (x := (nI (l9.length))) hC hw 11 rfl (by omega) (by decide) hm dX2_add_52 ?_
            refine lv_bipush (v := (nI 12)) hx hb dX2_add_53 zb_12 ?_
            refine zi_ne (tgt := 61) hx hb (by omega) (by decide) dX2_add_55 (by decide) (fun c_55 => ?_) (fun c_55 => ?_)
            · skip
              have hlt12 : l9.length < 12 := by omega
              have hlA : (l9.take h9 ++ (cl y, z) :: l9.drop h9).length = l9.length + 1 := by rw [List.length_append, List.length_cons, List.length_take, List.length_drop]; omega
              have hnt := tRel_add (v := z) hlt12 hhl hwc.1 hit
              have hw : zS G ((mo, zo 2 (mF q (f 1) (f 2) (f 3) (f 4) (f 5) (f 6) (f 7) (f 8) (f 14) (f 19))) :: (q 0, zc G 0 (zI 200 (b 0))) :: (q 9, zc G 0 (zI 46 (b 9))) :: (q 10, zc G 0 (zI 46 (b 10))) :: (q 11, zc G 0 (zI 46 (vI (aV A)))) :: (q 12, zc G 0 (zI 46 (b 12))) :: (q 13, zc G 0 (zI 368 (b 13))) :: (q 15, zc G 0 (zI 92 (b 15))) :: (q 16, zc G 3 (zI 2 (b 16))) :: (q 17, zc G 0 (zI 5 (b 17))) :: (q 18, zc G 0 (zI 24 (b 18))) :: (q 20, zc G 0 (zI 3 (b 20))) :: (q 21, zc G 0 (zI 3 (b 21))) :: (q 22, zc G 0 (zI 3 (b 22))) :: (q 23, zc G 0 (zI 36 (upF (b 23) (12 * t) (l9.length) (l9.length)))) :: (q 24, zc G 0 (zI 36 (upF (b 24) (12 * t) (l9.length) (l9.length)))) :: rest) s H locs := by rw [upF_0, upF_0]; exact hw
              refine lv_aload_n hx hb dX2_add_61 rfl (lv_at hl 0 rfl) ?_
              refine z_get (v := .ref (q 20)) hC zf_X2_41_2 hw 0 rfl rfl dX2_add_62 ?_
              refine lv_iload_n hx hb dX2_add_65 rfl (lv_at hl 1 rfl) ?_
              refine z_iald (x := (nI (l9.length))) hC hw 11 rfl (by omega) (by decide) hm dX2_add_66 ?_
              refine lv_istore (lv' := [(4, .int (nI (l9.length))), (0, .ref mo), (1, .int (nI t)), (2, .int y), (3, .int z)]) hx hb dX2_add_67 hl (by decide) rfl (fun ls hl => ?_)
              have loop_69 : ∀ (fuel : Nat) (k : Nat), (h9 ≤ k) → (k ≤ l9.length) → (k - h9) < fuel → ∀ (H : Heap) (locs : List Loc) (ls : Array Slot), zS G ((mo, zo 2 (mF q (f 1) (f 2) (f 3) (f 4) (f 5) (f 6) (f 7) (f 8) (f 14) (f 19))) :: (q 0, zc G 0 (zI 200 (b 0))) :: (q 9, zc G 0 (zI 46 (b 9))) :: (q 10, zc G 0 (zI 46 (b 10))) :: (q 11, zc G 0 (zI 46 (vI (aV A)))) :: (q 12, zc G 0 (zI 46 (b 12))) :: (q 13, zc G 0 (zI 368 (b 13))) :: (q 15, zc G 0 (zI 92 (b 15))) :: (q 16, zc G 3 (zI 2 (b 16))) :: (q 17, zc G 0 (zI 5 (b 17))) :: (q 18, zc G 0 (zI 24 (b 18))) :: (q 20, zc G 0 (zI 3 (b 20))) :: (q 21, zc G 0 (zI 3 (b 21))) :: (q 22, zc G 0 (zI 3 (b 22))) :: (q 23, zc G 0 (zI 36 (upF (b 23) (12 * t) k (l9.length)))) :: (q 24, zc G 0 (zI 36 (upF (b 24) (12 * t) k (l9.length)))) :: rest) s H locs → lv_has ls 5 [(0, .ref mo), (1, .int (nI t)), (2, .int y), (3, .int z), (4, .int (nI k))] → W p l e (zR 2 0 0) s m args below meth c H locs 0 0 Q (F0 m 69 ls []) := by
                intro fuel
                induction fuel with
                | zero => intro k hk1 hk2 hfuel; exact absurd hfuel (Nat.not_lt_zero _)
                | succ fuel_69 ih_69 =>
                  intro k hk1 hk2 hfuel_69 H locs ls hw hl
                  refine lv_iload hx hb dX2_add_69 (lv_at hl 4 rfl) ?_
                  refine lv_aload_n hx hb dX2_add_71 rfl (lv_at hl 0 rfl) ?_
                  refine z_get (v := .ref (q 21)) hC zf_X2_44_2 hw 0 rfl rfl dX2_add_72 ?_
                  refine lv_iload_n hx hb dX2_add_75 rfl (lv_at hl 1 rfl) ?_
                  refine z_iald (x := (nI h9)) hC hw 12 rfl (by omega) (by decide) hh dX2_add_76 ?_
                  refine zi_le (tgt := 121) hx hb (by omega) (by omega) dX2_add_77 (by decide) (fun c_77 => ?_) (fun c_77 => ?_)
                  · skip
                    have hkh : k = h9 := by omega
                    have hw : zS G ((mo, zo 2 (mF q (f 1) (f 2) (f 3) (f 4) (f 5) (f 6) (f 7) (f 8) (f 14) (f 19))) :: (q 0, zc G 0 (zI 200 (b 0))) :: (q 9, zc G 0 (zI 46 (b 9))) :: (q 10, zc G 0 (zI 46 (b 10))) :: (q 11, zc G 0 (zI 46 (vI (aV A)))) :: (q 12, zc G 0 (zI 46 (b 12))) :: (q 13, zc G 0 (zI 368 (b 13))) :: (q 15, zc G 0 (zI 92 (b 15))) :: (q 16, zc G 3 (zI 2 (b 16))) :: (q 17, zc G 0 (zI 5 (b 17))) :: (q 18, zc G 0 (zI 24 (b 18))) :: (q 20, zc G 0 (zI 3 (b 20))) :: (q 21, zc G 0 (zI 3 (b 21))) :: (q 22, zc G 0 (zI 3 (b 22))) :: (q 23, zc G 0 (zI 36 (upF (b 23) (12 * t) h9 (l9.length)))) :: (q 24, zc G 0 (zI 36 (upF (b 24) (12 * t) h9 (l9.length)))) :: rest) s H locs := by rw [← hkh]; exact hw
                    refine lv_aload_n hx hb dX2_add_121 rfl (lv_at hl 0 rfl) ?_
                    refine lv_iload_n hx hb dX2_add_122 rfl (lv_at hl 1 rfl) ?_
                    refine lv_aload_n hx hb dX2_add_123 rfl (lv_at hl 0 rfl) ?_
                    refine z_get (v := .ref (q 21)) hC zf_X2_44_2 hw 0 rfl rfl dX2_add_124 ?_
                    refine lv_iload_n hx hb dX2_add_127 rfl (lv_at hl 1 rfl) ?_
                    refine z_iald (x := (nI h9)) hC hw 12 rfl (by omega) (by decide) hh dX2_add_128 ?_
                    refine lv_iload_n hx hb dX2_add_129 rfl (lv_at hl 2 rfl) ?_
                    refine lv_iload_n hx hb dX2_add_130 rfl (lv_at hl 3 rfl) ?_
                    refine z_cv (z_runV (As := [.int (nI t), .int (nI h9), .int y, .int z]) (rest := []) hC zv_X2_236 (m_X2_lays G l mo q (f 1) (f 2) (f 3) (f 4) (f 5) (f 6) (f 7) (f 8) (f 14) (f 19) t h9 y z (upF (b 23) (12 * t) h9 l9.length) (upF (b 24) (12 * t) h9 l9.length) (by omega) (zrem [0, 14, 15] _)) hw (hw.perm (z_cut (is := [0, 14, 15]) (cells := [(mo, zo 2 (mF q (f 1) (f 2) (f 3) (f 4) (f 5) (f 6) (f 7) (f 8) (f 14) (f 19))), (q 23, zc G 0 (zI 36 (upF (b 23) (12 * t) h9 l9.length))), (q 24, zc G 0 (zI 36 (upF (b 24) (12 * t) h9 l9.length)))]) rfl rfl)) 0 rfl rfl rfl rfl rfl (Nat.le_of_ble_eq_true rfl) hl.1 ⟨Nat.le_of_ble_eq_true rfl, Nat.le_of_ble_eq_true rfl⟩ ⟨(Nat.le_of_ble_eq_true rfl), (Nat.le_of_ble_eq_true rfl)⟩ dX2_add_131) hw (fun _ => z_pput (is := [0, 14, 15]) (cells := [(mo, zo 2 (mF q (f 1) (f 2) (f 3) (f 4) (f 5) (f 6) (f 7) (f 8) (f 14) (f 19))), (q 23, zc G 0 (zI 36 (upF (b 23) (12 * t) h9 l9.length))), (q 24, zc G 0 (zI 36 (upF (b 24) (12 * t) h9 l9.length)))]) (cells' := [(mo, zo 2 (mF q (f 1) (f 2) (f 3) (f 4) (f 5) (f 6) (f 7) (f 8) (f 14) (f 19))), (q 23, zc G 0 (zI 36 (upd (upF (b 23) (12 * t) h9 l9.length) (12 * t + h9) y))), (q 24, zc G 0 (zI 36 (upd (upF (b 24) (12 * t) h9 l9.length) (12 * t + h9) z)))]) rfl rfl rfl) (fun u H locs hp hw => ?_)
                    have hw : zS G ((mo, zo 2 (mF q (f 1) (f 2) (f 3) (f 4) (f 5) (f 6) (f 7) (f 8) (f 14) (f 19))) :: (q 0, zc G 0 (zI 200 (b 0))) :: (q 9, zc G 0 (zI 46 (b 9))) :: (q 10, zc G 0 (zI 46 (b 10))) :: (q 11, zc G 0 (zI 46 (vI (aV A)))) :: (q 12, zc G 0 (zI 46 (b 12))) :: (q 13, zc G 0 (zI 368 (b 13))) :: (q 15, zc G 0 (zI 92 (b 15))) :: (q 16, zc G 3 (zI 2 (b 16))) :: (q 17, zc G 0 (zI 5 (b 17))) :: (q 18, zc G 0 (zI 24 (b 18))) :: (q 20, zc G 0 (zI 3 (b 20))) :: (q 21, zc G 0 (zI 3 (b 21))) :: (q 22, zc G 0 (zI 3 (b 22))) :: (q 23, zc G 0 (zI 36 (upd (upF (b 23) (12 * t) h9 l9.length) (12 * t + h9) y))) :: (q 24, zc G 0 (zI 36 (upd (upF (b 24) (12 * t) h9 l9.length) (12 * t + h9) z))) :: rest) s H locs := hw
                    refine lv_aload_n hx hb dX2_add_134 rfl (lv_at hl 0 rfl) ?_
                    refine z_get (v := .ref (q 21)) hC zf_X2_44_2 hw 0 rfl rfl dX2_add_135 ?_
                    refine lv_iload_n hx hb dX2_add_138 rfl (lv_at hl 1 rfl) ?_
                    refine lv_dup2_11 hx hb dX2_add_139 rfl rfl ?_
                    refine z_iald (x := (nI h9)) hC hw 12 rfl (by omega) (by decide) hh dX2_add_140 ?_
                    refine lv_iconst (v := (nI 1)) hx hb dX2_add_141 zk_1 ?_
                    refine zn_iadd hx hb dX2_add_142 ?_
                    refine z_iast (f' := upd (b 21) t (nI (h9 + 1))) hC hw 12 rfl (by omega) (by decide) rfl dX2_add_143 (fun H locs hw => ?_)
                    have hw : zS G ((mo, zo 2 (mF q (f 1) (f 2) (f 3) (f 4) (f 5) (f 6) (f 7) (f 8) (f 14) (f 19))) :: (q 0, zc G 0 (zI 200 (b 0))) :: (q 9, zc G 0 (zI 46 (b 9))) :: (q 10, zc G 0 (zI 46 (b 10))) :: (q 11, zc G 0 (zI 46 (vI (aV A)))) :: (q 12, zc G 0 (zI 46 (b 12))) :: (q 13, zc G 0 (zI 368 (b 13))) :: (q 15, zc G 0 (zI 92 (b 15))) :: (q 16, zc G 3 (zI 2 (b 16))) :: (q 17, zc G 0 (zI 5 (b 17))) :: (q 18, zc G 0 (zI 24 (b 18))) :: (q 20, zc G 0 (zI 3 (b 20))) :: (q 21, zc G 0 (zI 3 (upd (b 21) t (nI (h9 + 1))))) :: (q 22, zc G 0 (zI 3 (b 22))) :: (q 23, zc G 0 (zI 36 (upd (upF (b 23) (12 * t) h9 l9.length) (12 * t + h9) y))) :: (q 24, zc G 0 (zI 36 (upd (upF (b 24) (12 * t) h9 l9.length) (12 * t + h9) z))) :: rest) s H locs := hw
                    refine lv_aload_n hx hb dX2_add_144 rfl (lv_at hl 0 rfl) ?_
                    refine z_get (v := .ref (q 20)) hC zf_X2_41_2 hw 0 rfl rfl dX2_add_145 ?_
                    refine lv_iload_n hx hb dX2_add_148 rfl (lv_at hl 1 rfl) ?_
                    refine lv_dup2_11 hx hb dX2_add_149 rfl rfl ?_
                    refine z_iald (x := (nI (l9.length))) hC hw 11 rfl (by omega) (by decide) hm dX2_add_150 ?_
                    refine lv_iconst (v := (nI 1)) hx hb dX2_add_151 zk_1 ?_
                    refine zn_iadd hx hb dX2_add_152 ?_
                    refine z_iast (f' := upd (b 20) t (nI (l9.length + 1))) hC hw 11 rfl (by omega) (by decide) rfl dX2_add_153 (fun H locs hw => ?_)
                    have hw : zS G ((mo, zo 2 (mF q (f 1) (f 2) (f 3) (f 4) (f 5) (f 6) (f 7) (f 8) (f 14) (f 19))) :: (q 0, zc G 0 (zI 200 (b 0))) :: (q 9, zc G 0 (zI 46 (b 9))) :: (q 10, zc G 0 (zI 46 (b 10))) :: (q 11, zc G 0 (zI 46 (vI (aV A)))) :: (q 12, zc G 0 (zI 46 (b 12))) :: (q 13, zc G 0 (zI 368 (b 13))) :: (q 15, zc G 0 (zI 92 (b 15))) :: (q 16, zc G 3 (zI 2 (b 16))) :: (q 17, zc G 0 (zI 5 (b 17))) :: (q 18, zc G 0 (zI 24 (b 18))) :: (q 20, zc G 0 (zI 3 (upd (b 20) t (nI (l9.length + 1))))) :: (q 21, zc G 0 (zI 3 (upd (b 21) t (nI (h9 + 1))))) :: (q 22, zc G 0 (zI 3 (b 22))) :: (q 23, zc G 0 (zI 36 (upd (upF (b 23) (12 * t) h9 l9.length) (12 * t + h9) y))) :: (q 24, zc G 0 (zI 36 (upd (upF (b 24) (12 * t) h9 l9.length) (12 * t + h9) z))) :: rest) s H locs := hw
                    refine lv_aload_n hx hb dX2_add_154 rfl (lv_at hl 0 rfl) ?_
                    refine z_get (v := .ref (q 22)) hC zf_X2_47_2 hw 0 rfl rfl dX2_add_155 ?_
                    refine lv_iload_n hx hb dX2_add_158 rfl (lv_at hl 1 rfl) ?_
                    refine lv_iconst (v := -1) hx hb dX2_add_159 zk_m1 ?_
                    refine z_iast (f' := upd (b 22) t (-1)) hC hw 13 rfl (by omega) (by decide) rfl dX2_add_160 (fun H locs hw => ?_)
                    have hw : zS G ((mo, zo 2 (mF q (f 1) (f 2) (f 3) (f 4) (f 5) (f 6) (f 7) (f 8) (f 14) (f 19))) :: (q 0, zc G 0 (zI 200 (b 0))) :: (q 9, zc G 0 (zI 46 (b 9))) :: (q 10, zc G 0 (zI 46 (b 10))) :: (q 11, zc G 0 (zI 46 (vI (aV A)))) :: (q 12, zc G 0 (zI 46 (b 12))) :: (q 13, zc G 0 (zI 368 (b 13))) :: (q 15, zc G 0 (zI 92 (b 15))) :: (q 16, zc G 3 (zI 2 (b 16))) :: (q 17, zc G 0 (zI 5 (b 17))) :: (q 18, zc G 0 (zI 24 (b 18))) :: (q 20, zc G 0 (zI 3 (upd (b 20) t (nI (l9.length + 1))))) :: (q 21, zc G 0 (zI 3 (upd (b 21) t (nI (h9 + 1))))) :: (q 22, zc G 0 (zI 3 (upd (b 22) t (-1)))) :: (q 23, zc G 0 (zI 36 (upd (upF (b 23) (12 * t) h9 l9.length) (12 * t + h9) y))) :: (q 24, zc G 0 (zI 36 (upd (upF (b 24) (12 * t) h9 l9.length) (12 * t + h9) z))) :: rest) s H locs := hw
                    refine lv_aload_n hx hb dX2_add_161 rfl (lv_at hl 0 rfl) ?_
                    refine z_get (v := .ref (q 20)) hC zf_X2_41_2 hw 0 rfl rfl dX2_add_162 ?_
                    refine lv_iload_n hx hb dX2_add_165 rfl (lv_at hl 1 rfl) ?_
                    refine z_iald (x := (nI (l9.length + 1))) hC hw 11 rfl (by omega) (by decide) upd_s dX2_add_166 ?_
                    exact hend _ _ _ _ _ _ _ ((bU (bU (bU (bU (bU (bU b 11 (vI (aV A))) 20 (upd (b 20) t (nI (l9.length + 1)))) 21 (upd (b 21) t (nI (h9 + 1)))) 22 (upd (b 22) t (-1))) 23 (upd (upF (b 23) (12 * t) h9 l9.length) (12 * t + h9) y)) 24 (upd (upF (b 24) (12 * t) h9 l9.length) (12 * t + h9) z)), mf (f 1) (f 2) (f 3) (f 4) (f 5) (f 6) (f 7) (f 8) (f 14) (f 19)) hw (by rw [F_add_ok ht2 hnb c_28 htr c_55]; exact ⟨rfl, ⟨⟨hT, hL⟩, hV0, rH_vI, ⟨hU, hUs⟩, hKp, ⟨hSi, hSg⟩, (Tr_up hA9 hTr (fun t' _ hne => ⟨upd_ne' hne, upd_ne' hne, upd_ne' hne, fun _ h12 => ⟨up_out hne hlt12 hhl h12, up_out hne hlt12 hhl h12⟩⟩) ⟨by rw [hlA]; exact upd_s, upd_s, upd_s, hnt⟩)⟩⟩) (by omega) (by omega) dX2_add_167
                  · skip
                    refine lv_aload_n hx hb dX2_add_80 rfl (lv_at hl 0 rfl) ?_
                    refine lv_iload_n hx hb dX2_add_81 rfl (lv_at hl 1 rfl) ?_
                    refine lv_iload hx hb dX2_add_82 (lv_at hl 4 rfl) ?_
                    refine lv_aload_n hx hb dX2_add_84 rfl (lv_at hl 0 rfl) ?_
                    refine z_get (v := .ref (q 23)) hC zf_X2_50_2 hw 0 rfl rfl dX2_add_85 ?_
                    refine lv_bipush (v := (nI 12)) hx hb dX2_add_88 zb_12 ?_
                    refine lv_iload_n hx hb dX2_add_90 rfl (lv_at hl 1 rfl) ?_
                    refine zn_imul hx hb dX2_add_91 ?_
                    refine lv_iload hx hb dX2_add_92 (lv_at hl 4 rfl) ?_
                    refine zn_iadd hx hb dX2_add_94 ?_
                    refine lv_iconst (v := (nI 1)) hx hb dX2_add_95 zk_1 ?_
                    refine zn_isub hx hb (by omega) dX2_add_96 ?_
                    refine z_iald (x := ((b 23) (12 * t + k - 1))) hC hw 14 rfl (by omega) (by decide) (upF_rd (by omega)) dX2_add_97 ?_
                    refine lv_aload_n hx hb dX2_add_98 rfl (lv_at hl 0 rfl) ?_
                    refine z_get (v := .ref (q 24)) hC zf_X2_53_2 hw 0 rfl rfl dX2_add_99 ?_
                    refine lv_bipush (v := (nI 12)) hx hb dX2_add_102 zb_12 ?_
                    refine lv_iload_n hx hb dX2_add_104 rfl (lv_at hl 1 rfl) ?_
                    refine zn_imul hx hb dX2_add_105 ?_
                    refine lv_iload hx hb dX2_add_106 (lv_at hl 4 rfl) ?_
                    refine zn_iadd hx hb dX2_add_108 ?_
                    refine lv_iconst (v := (nI 1)) hx hb dX2_add_109 zk_1 ?_
                    refine zn_isub hx hb (by omega) dX2_add_110 ?_
                    refine z_iald (x := ((b 24) (12 * t + k - 1))) hC hw 15 rfl (by omega) (by decide) (upF_rd (by omega)) dX2_add_111 ?_
                    refine z_cv (z_runV (As := [.int (nI t), .int (nI k), .int ((b 23) (12 * t + k - 1)), .int ((b 24) (12 * t + k - 1))]) (rest := []) hC zv_X2_236 (m_X2_lays G l mo q (f 1) (f 2) (f 3) (f 4) (f 5) (f 6) (f 7) (f 8) (f 14) (f 19) t k ((b 23) (12 * t + k - 1)) ((b 24) (12 * t + k - 1)) (upF (b 23) (12 * t) k l9.length) (upF (b 24) (12 * t) k l9.length) (by omega) (zrem [0, 14, 15] _)) hw (hw.perm (z_cut (is := [0, 14, 15]) (cells := [(mo, zo 2 (mF q (f 1) (f 2) (f 3) (f 4) (f 5) (f 6) (f 7) (f 8) (f 14) (f 19))), (q 23, zc G 0 (zI 36 (upF (b 23) (12 * t) k l9.length))), (q 24, zc G 0 (zI 36 (upF (b 24) (12 * t) k l9.length)))]) rfl rfl)) 0 rfl rfl rfl rfl rfl (Nat.le_of_ble_eq_true rfl) hl.1 ⟨Nat.le_of_ble_eq_true rfl, Nat.le_of_ble_eq_true rfl⟩ ⟨(Nat.le_of_ble_eq_true rfl), (Nat.le_of_ble_eq_true rfl)⟩ dX2_add_112) hw (fun _ => z_pput (is := [0, 14, 15]) (cells := [(mo, zo 2 (mF q (f 1) (f 2) (f 3) (f 4) (f 5) (f 6) (f 7) (f 8) (f 14) (f 19))), (q 23, zc G 0 (zI 36 (upF (b 23) (12 * t) k l9.length))), (q 24, zc G 0 (zI 36 (upF (b 24) (12 * t) k l9.length)))]) (cells' := [(mo, zo 2 (mF q (f 1) (f 2) (f 3) (f 4) (f 5) (f 6) (f 7) (f 8) (f 14) (f 19))), (q 23, zc G 0 (zI 36 (upd (upF (b 23) (12 * t) k l9.length) (12 * t + k) ((b 23) (12 * t + k - 1))))), (q 24, zc G 0 (zI 36 (upd (upF (b 24) (12 * t) k l9.length) (12 * t + k) ((b 24) (12 * t + k - 1)))))]) rfl rfl rfl) (fun u H locs hp hw => ?_)
                    have hw : zS G ((mo, zo 2 (mF q (f 1) (f 2) (f 3) (f 4) (f 5) (f 6) (f 7) (f 8) (f 14) (f 19))) :: (q 0, zc G 0 (zI 200 (b 0))) :: (q 9, zc G 0 (zI 46 (b 9))) :: (q 10, zc G 0 (zI 46 (b 10))) :: (q 11, zc G 0 (zI 46 (vI (aV A)))) :: (q 12, zc G 0 (zI 46 (b 12))) :: (q 13, zc G 0 (zI 368 (b 13))) :: (q 15, zc G 0 (zI 92 (b 15))) :: (q 16, zc G 3 (zI 2 (b 16))) :: (q 17, zc G 0 (zI 5 (b 17))) :: (q 18, zc G 0 (zI 24 (b 18))) :: (q 20, zc G 0 (zI 3 (b 20))) :: (q 21, zc G 0 (zI 3 (b 21))) :: (q 22, zc G 0 (zI 3 (b 22))) :: (q 23, zc G 0 (zI 36 (upd (upF (b 23) (12 * t) k l9.length) (12 * t + k) ((b 23) (12 * t + k - 1))))) :: (q 24, zc G 0 (zI 36 (upd (upF (b 24) (12 * t) k l9.length) (12 * t + k) ((b 24) (12 * t + k - 1))))) :: rest) s H locs := hw
                    have hw : zS G ((mo, zo 2 (mF q (f 1) (f 2) (f 3) (f 4) (f 5) (f 6) (f 7) (f 8) (f 14) (f 19))) :: (q 0, zc G 0 (zI 200 (b 0))) :: (q 9, zc G 0 (zI 46 (b 9))) :: (q 10, zc G 0 (zI 46 (b 10))) :: (q 11, zc G 0 (zI 46 (vI (aV A)))) :: (q 12, zc G 0 (zI 46 (b 12))) :: (q 13, zc G 0 (zI 368 (b 13))) :: (q 15, zc G 0 (zI 92 (b 15))) :: (q 16, zc G 3 (zI 2 (b 16))) :: (q 17, zc G 0 (zI 5 (b 17))) :: (q 18, zc G 0 (zI 24 (b 18))) :: (q 20, zc G 0 (zI 3 (b 20))) :: (q 21, zc G 0 (zI 3 (b 21))) :: (q 22, zc G 0 (zI 3 (b 22))) :: (q 23, zc G 0 (zI 36 (upF (b 23) (12 * t) (k - 1) (l9.length)))) :: (q 24, zc G 0 (zI 36 (upF (b 24) (12 * t) (k - 1) (l9.length)))) :: rest) s H locs := by rw [← upF_st (g := b 23) (show 0 < k by omega) hk2, ← upF_st (g := b 24) (show 0 < k by omega) hk2]; exact hw
                    refine lv_iinc (v := (nI (k - 1))) (lv' := [(4, .int (nI (k - 1))), (0, .ref mo), (1, .int (nI t)), (2, .int y), (3, .int z)]) hx hb dX2_add_115 hl (k := 4) rfl (zdec1 (by omega)) (by decide) rfl (fun ls hl => ?_)
                    refine lv_goto (tgt := 69) hx hb dX2_add_118 (by decide) ?_
                    exact ih_69 (k - 1) (by omega) (by omega) (by omega) H locs ls hw (lv_sub hl [1, 2, 3, 4, 0] rfl)
              exact loop_69 (((l9.length) - h9) + 1) (l9.length) (by omega) (by omega) (Nat.lt_succ_self _) H locs ls hw (lv_sub hl [1, 2, 3, 4, 0] rfl)
            · skip
              refine lv_bipush (v := (-15)) hx hb dX2_add_58 zb_m15 ?_
              exact hend _ _ _ _ _ _ _ ((bU b 11 (vI (aV A))), mf (f 1) (f 2) (f 3) (f 4) (f 5) (f 6) (f 7) (f 8) (f 14) (f 19)) hw (by rw [F_add_full ht2 hnb c_28 htr c_55]; exact ⟨rfl, ⟨⟨hT, hL⟩, hV0, rH_vI, ⟨hU, hUs⟩, hKp, ⟨hSi, hSg⟩, (fun t ht => tRel_of rfl rfl rfl rfl rfl (hTr t ht))⟩⟩) (by omega) (by omega) dX2_add_60
        · skip
          refine lv_bipush (v := (-3)) hx hb dX2_add_31 zb_m3 ?_
          exact hend _ _ _ _ _ _ _ ((bU b 11 (vI (aV A))), mf (f 1) (f 2) (f 3) (f 4) (f 5) (f 6) (f 7) (f 8) (f 14) (f 19)) hw (by rw [F_add_ill hnb c_28]; exact ⟨rfl, ⟨⟨hT, hL⟩, hV0, rH_vI, ⟨hU, hUs⟩, hKp, ⟨hSi, hSg⟩, (fun t ht => tRel_of rfl rfl rfl rfl rfl (hTr t ht))⟩⟩) (by omega) (by omega) dX2_add_33
      · skip
        refine lv_bipush (v := (-2)) hx hb dX2_add_20 zb_m2 ?_
        exact hend _ _ _ _ _ _ _ ((bU b 11 (vI (aV A))), mf (f 1) (f 2) (f 3) (f 4) (f 5) (f 6) (f 7) (f 8) (f 14) (f 19)) hw (by (first | rw [show F_add A x y z = (-2, A) from F_bad (Or.inl c_4)] | rw [show F_add A (nI t) y z = (-2, A) from F_bad (Or.inr ⟨c_9, c_17⟩)]); exact ⟨rfl, ⟨⟨hT, hL⟩, hV0, rH_vI, ⟨hU, hUs⟩, hKp, ⟨hSi, hSg⟩, (fun t ht => tRel_of rfl rfl rfl rfl rfl (hTr t ht))⟩⟩) (by omega) (by omega) dX2_add_22
set_option maxHeartbeats 4000000 in
theorem m_X2_set (G : zE) (l : Launch) (mo : Nat) (q : Nat → Nat) (A : AS) (b : Nat → Nat → Int32) (f : Nat → Int32) (hA : AOk A) (hM : MRel A b f) (x : Int32) (y : Int32) (z : Int32) (rest : va_W) : zMi G l yX2_set cX2_set 4 (some .int) 2 0 0 [.ref mo, .int x, .int y, .int z] ((mo, zo 2 (mF q (f 1) (f 2) (f 3) (f 4) (f 5) (f 6) (f 7) (f 8) (f 14) (f 19))) :: (q 0, zc G 0 (zI 200 (b 0))) :: (q 9, zc G 0 (zI 46 (b 9))) :: (q 10, zc G 0 (zI 46 (b 10))) :: (q 11, zc G 0 (zI 46 (b 11))) :: (q 12, zc G 0 (zI 46 (b 12))) :: (q 13, zc G 0 (zI 368 (b 13))) :: (q 15, zc G 0 (zI 92 (b 15))) :: (q 16, zc G 3 (zI 2 (b 16))) :: (q 17, zc G 0 (zI 5 (b 17))) :: (q 18, zc G 0 (zI 24 (b 18))) :: (q 20, zc G 0 (zI 3 (b 20))) :: (q 21, zc G 0 (zI 3 (b 21))) :: (q 22, zc G 0 (zI 3 (b 22))) :: (q 23, zc G 0 (zI 36 (b 23))) :: (q 24, zc G 0 (zI 36 (b 24))) :: rest) (fun (r : Int32) (u : MB) => r = (F_set A x y z).1 ∧ MRel (F_set A x y z).2 u.1 u.2) (fun (u : MB) => (mo, zo 2 (mF q (u.2 1) (u.2 2) (u.2 3) (u.2 4) (u.2 5) (u.2 6) (u.2 7) (u.2 8) (u.2 14) (u.2 19))) :: (q 0, zc G 0 (zI 200 (u.1 0))) :: (q 9, zc G 0 (zI 46 (u.1 9))) :: (q 10, zc G 0 (zI 46 (u.1 10))) :: (q 11, zc G 0 (zI 46 (u.1 11))) :: (q 12, zc G 0 (zI 46 (u.1 12))) :: (q 13, zc G 0 (zI 368 (u.1 13))) :: (q 15, zc G 0 (zI 92 (u.1 15))) :: (q 16, zc G 3 (zI 2 (u.1 16))) :: (q 17, zc G 0 (zI 5 (u.1 17))) :: (q 18, zc G 0 (zI 24 (u.1 18))) :: (q 20, zc G 0 (zI 3 (u.1 20))) :: (q 21, zc G 0 (zI 3 (u.1 21))) :: (q 22, zc G 0 (zI 3 (u.1 22))) :: (q 23, zc G 0 (zI 36 (u.1 23))) :: (q 24, zc G 0 (zI 36 (u.1 24))) :: rest) := by
  refine z_begI (by decide) (Nat.le_of_ble_eq_true rfl) (fun p e s m args below meth c ls Q hC hl hw hend => ?_)
  have hx := hC.hx
  have hb := hC.hb
  have hl : lv_has ls 4 [(0, .ref mo), (1, .int x), (2, .int y), (3, .int z)] := hl
  have hw : zS G ((mo, zo 2 (mF q (f 1) (f 2) (f 3) (f 4) (f 5) (f 6) (f 7) (f 8) (f 14) (f 19))) :: (q 0, zc G 0 (zI 200 (b 0))) :: (q 9, zc G 0 (zI 46 (b 9))) :: (q 10, zc G 0 (zI 46 (b 10))) :: (q 11, zc G 0 (zI 46 (b 11))) :: (q 12, zc G 0 (zI 46 (b 12))) :: (q 13, zc G 0 (zI 368 (b 13))) :: (q 15, zc G 0 (zI 92 (b 15))) :: (q 16, zc G 3 (zI 2 (b 16))) :: (q 17, zc G 0 (zI 5 (b 17))) :: (q 18, zc G 0 (zI 24 (b 18))) :: (q 20, zc G 0 (zI 3 (b 20))) :: (q 21, zc G 0 (zI 3 (b 21))) :: (q 22, zc G 0 (zI 3 (b 22))) :: (q 23, zc G 0 (zI 36 (b 23))) :: (q 24, zc G 0 (zI 36 (b 24))) :: rest) s s.heap [] := hw
  have hA9 := hA
  obtain ⟨⟨hT, hL⟩, hV0, hV, ⟨hU, hUs⟩, hKp, ⟨hSi, hSg⟩, hTr⟩ := hM
  obtain ⟨⟨hL2, hT2⟩, hB0, hBv, ⟨hU8, hUb⟩, hKb, ⟨hS6, hSb⟩, hTb⟩ := hA
  have hH : Hw (aV A) := hBv.1.1
  have hday := hBv.2.2
  have hw := hw.cellI 4 rfl (g := vI (aV A)) (fun j hj => by have := hV j hj; rwa [Nat.zero_add] at this)
  have hw : zS G ((mo, zo 2 (mF q (f 1) (f 2) (f 3) (f 4) (f 5) (f 6) (f 7) (f 8) (f 14) (f 19))) :: (q 0, zc G 0 (zI 200 (b 0))) :: (q 9, zc G 0 (zI 46 (b 9))) :: (q 10, zc G 0 (zI 46 (b 10))) :: (q 11, zc G 0 (zI 46 (vI (aV A)))) :: (q 12, zc G 0 (zI 46 (b 12))) :: (q 13, zc G 0 (zI 368 (b 13))) :: (q 15, zc G 0 (zI 92 (b 15))) :: (q 16, zc G 3 (zI 2 (b 16))) :: (q 17, zc G 0 (zI 5 (b 17))) :: (q 18, zc G 0 (zI 24 (b 18))) :: (q 20, zc G 0 (zI 3 (b 20))) :: (q 21, zc G 0 (zI 3 (b 21))) :: (q 22, zc G 0 (zI 3 (b 22))) :: (q 23, zc G 0 (zI 36 (b 23))) :: (q 24, zc G 0 (zI 36 (b 24))) :: rest) s s.heap [] := hw
  refine lv_iload_n hx hb dX2_set_0 rfl (lv_at hl 1 rfl) ?_
  refine z_ci (z_runS (As := [.int x]) (rest := []) hC zs_X2_229 (m_X2_isTrail G l x _) hw rfl rfl (Nat.le_of_ble_eq_true rfl) hl.1 ⟨Nat.le_of_ble_eq_true rfl, Nat.le_of_ble_eq_true rfl⟩ ⟨(Nat.le_of_ble_eq_true rfl), (Nat.le_of_ble_eq_true rfl)⟩ dX2_set_1) hw (fun _ => List.Perm.refl _) (fun r u H locs hp hw => ?_)
  obtain rfl : r = bI (inR x 0 2) := hp
  refine zb_eq (tgt := 20) hx hb dX2_set_4 (by decide) (fun c_4 => ?_) (fun c_4 => ?_)
  · skip
    refine lv_bipush (v := (-2)) hx hb dX2_set_20 zb_m2 ?_
    exact hend _ _ _ _ _ _ _ ((bU b 11 (vI (aV A))), mf (f 1) (f 2) (f 3) (f 4) (f 5) (f 6) (f 7) (f 8) (f 14) (f 19)) hw (by (first | rw [show F_set A x y z = (-2, A) from F_bad (Or.inl c_4)] | rw [show F_set A (nI t) y z = (-2, A) from F_bad (Or.inr ⟨c_9, c_17⟩)]); exact ⟨rfl, ⟨⟨hT, hL⟩, hV0, rH_vI, ⟨hU, hUs⟩, hKp, ⟨hSi, hSg⟩, (fun t ht => tRel_of rfl rfl rfl rfl rfl (hTr t ht))⟩⟩) (by omega) (by omega) dX2_set_22
  · skip
    have hcx := c_4
    obtain ⟨t, ht1, ht2, rfl⟩ := c_4
    have hl : lv_has ls 4 [(0, .ref mo), (1, .int (nI t)), (2, .int y), (3, .int z)] := hl
    refine lv_iload_n hx hb dX2_set_7 rfl (lv_at hl 2 rfl) ?_
    refine lv_iconst (v := (nI 1)) hx hb dX2_set_8 zk_1 ?_
    refine lv_icmp_ne (tgt := 23) hx hb dX2_set_9 (by decide) (fun c_9 => ?_) (fun c_9 => ?_)
    · skip
      have hT9 := hTr t (by omega)
      have hnb : ¬ badP A (nI t) y z := bad_no ht2 (fun h => by first | exact c_17 | exact absurd h c_9)
      refine lv_iload_n hx hb dX2_set_23 rfl (lv_at hl 2 rfl) ?_
      refine lv_iload_n hx hb dX2_set_24 rfl (lv_at hl 3 rfl) ?_
      refine z_ci (z_runS (As := [.int y, .int z]) (rest := []) hC zs_X2_233 (m_X2_isWell G l y z _) hw rfl rfl (Nat.le_of_ble_eq_true rfl) hl.1 ⟨Nat.le_of_ble_eq_true rfl, Nat.le_of_ble_eq_true rfl⟩ ⟨(Nat.le_of_ble_eq_true rfl), (Nat.le_of_ble_eq_true rfl)⟩ dX2_set_25) hw (fun _ => List.Perm.refl _) (fun r u H locs hp hw => ?_)
      obtain rfl : r = bI (wellP y z) := hp
      refine zb_ne (tgt := 34) hx hb dX2_set_28 (by decide) (fun c_28 => ?_) (fun c_28 => ?_)
      · skip
        have hwc := well_cl c_28
        refine lv_aload_n hx hb dX2_set_34 rfl (lv_at hl 0 rfl) ?_
        refine z_get (v := .ref (q 20)) hC zf_X2_41_2 hw 0 rfl rfl dX2_set_35 ?_
        refine lv_iload_n hx hb dX2_set_38 rfl (lv_at hl 1 rfl) ?_
        refine z_iald (x := ((b 20) t)) hC hw 11 rfl (by omega) (by decide) rfl dX2_set_39 ?_
        rcases htr : aTr A t with _ | ⟨l9, h9, c9⟩
        · skip
          rw [htr] at hT9
          rw [show (b 20) t = -1 from hT9]
          have hl : lv_has ls 4 [(0, .ref mo), (1, .int (nI t)), (2, .int y), (3, .int z)] := hl
          have hw : zS G ((mo, zo 2 (mF q (f 1) (f 2) (f 3) (f 4) (f 5) (f 6) (f 7) (f 8) (f 14) (f 19))) :: (q 0, zc G 0 (zI 200 (b 0))) :: (q 9, zc G 0 (zI 46 (b 9))) :: (q 10, zc G 0 (zI 46 (b 10))) :: (q 11, zc G 0 (zI 46 (vI (aV A)))) :: (q 12, zc G 0 (zI 46 (b 12))) :: (q 13, zc G 0 (zI 368 (b 13))) :: (q 15, zc G 0 (zI 92 (b 15))) :: (q 16, zc G 3 (zI 2 (b 16))) :: (q 17, zc G 0 (zI 5 (b 17))) :: (q 18, zc G 0 (zI 24 (b 18))) :: (q 20, zc G 0 (zI 3 (b 20))) :: (q 21, zc G 0 (zI 3 (b 21))) :: (q 22, zc G 0 (zI 3 (b 22))) :: (q 23, zc G 0 (zI 36 (b 23))) :: (q 24, zc G 0 (zI 36 (b 24))) :: rest) s H locs := hw
          refine lv_iconst (v := -1) hx hb dX2_set_40 zk_m1 ?_
          refine lv_icmp_ne (tgt := 47) hx hb dX2_set_41 (by decide) (fun h => absurd h (by decide)) (fun _ => ?_)
          refine lv_bipush (v := (-11)) hx hb dX2_set_44 zb_m11 ?_
          exact hend _ _ _ _ _ _ _ ((bU b 11 (vI (aV A))), mf (f 1) (f 2) (f 3) (f 4) (f 5) (f 6) (f 7) (f 8) (f 14) (f 19)) hw (by rw [F_set_none ht2 hnb c_28 htr]; exact ⟨rfl, ⟨⟨hT, hL⟩, hV0, rH_vI, ⟨hU, hUs⟩, hKp, ⟨hSi, hSg⟩, (fun t ht => tRel_of rfl rfl rfl rfl rfl (hTr t ht))⟩⟩) (by omega) (by omega) dX2_set_46
        · skip
          rw [htr] at hT9
          obtain ⟨hm, hh, hc, hit⟩ := hT9
          obtain ⟨hlen, hhl, hcl, hok⟩ := hTb t (by omega) l9 h9 c9 htr
          rw [show (b 20) t = nI (l9.length) from hm]
          have hl : lv_has ls 4 [(0, .ref mo), (1, .int (nI t)), (2, .int y), (3, .int z)] := hl
          have hw : zS G ((mo, zo 2 (mF q (f 1) (f 2) (f 3) (f 4) (f 5) (f 6) (f 7) (f 8) (f 14) (f 19))) :: (q 0, zc G 0 (zI 200 (b 0))) :: (q 9, zc G 0 (zI 46 (b 9))) :: (q 10, zc G 0 (zI 46 (b 10))) :: (q 11, zc G 0 (zI 46 (vI (aV A)))) :: (q 12, zc G 0 (zI 46 (b 12))) :: (q 13, zc G 0 (zI 368 (b 13))) :: (q 15, zc G 0 (zI 92 (b 15))) :: (q 16, zc G 3 (zI 2 (b 16))) :: (q 17, zc G 0 (zI 5 (b 17))) :: (q 18, zc G 0 (zI 24 (b 18))) :: (q 20, zc G 0 (zI 3 (b 20))) :: (q 21, zc G 0 (zI 3 (b 21))) :: (q 22, zc G 0 (zI 3 (b 22))) :: (q 23, zc G 0 (zI 36 (b 23))) :: (q 24, zc G 0 (zI 36 (b 24))) :: rest) s H locs := hw
          refine lv_iconst (v := -1) hx hb dX2_set_40 zk_m1 ?_
          refine lv_icmp_ne (tgt := 47) hx hb dX2_set_41 (by decide) (fun _ => ?_) (fun h => absurd h (nI_nm1 (by omega)))
          refine lv_aload_n hx hb dX2_set_47 rfl (lv_at hl 0 rfl) ?_
          refine z_get (v := .ref (q 22)) hC zf_X2_47_2 hw 0 rfl rfl dX2_set_48 ?_
          refine lv_iload_n hx hb dX2_set_51 rfl (lv_at hl 1 rfl) ?_
          refine z_iald (x := ((b 22) t)) hC hw 13 rfl (by omega) (by decide) rfl dX2_set_52 ?_
          rcases c9 with _ | p9
          · skip
            rw [show (b 22) t = -1 from hc]
            have hl : lv_has ls 4 [(0, .ref mo), (1, .int (nI t)), (2, .int y), (3, .int z)] := hl
            have hw : zS G ((mo, zo 2 (mF q (f 1) (f 2) (f 3) (f 4) (f 5) (f 6) (f 7) (f 8) (f 14) (f 19))) :: (q 0, zc G 0 (zI 200 (b 0))) :: (q 9, zc G 0 (zI 46 (b 9))) :: (q 10, zc G 0 (zI 46 (b 10))) :: (q 11, zc G 0 (zI 46 (vI (aV A)))) :: (q 12, zc G 0 (zI 46 (b 12))) :: (q 13, zc G 0 (zI 368 (b 13))) :: (q 15, zc G 0 (zI 92 (b 15))) :: (q 16, zc G 3 (zI 2 (b 16))) :: (q 17, zc G 0 (zI 5 (b 17))) :: (q 18, zc G 0 (zI 24 (b 18))) :: (q 20, zc G 0 (zI 3 (b 20))) :: (q 21, zc G 0 (zI 3 (b 21))) :: (q 22, zc G 0 (zI 3 (b 22))) :: (q 23, zc G 0 (zI 36 (b 23))) :: (q 24, zc G 0 (zI 36 (b 24))) :: rest) s H locs := hw
            refine lv_iconst (v := -1) hx hb dX2_set_53 zk_m1 ?_
            refine lv_icmp_ne (tgt := 60) hx hb dX2_set_54 (by decide) (fun h => absurd h (by decide)) (fun _ => ?_)
            refine lv_bipush (v := (-13)) hx hb dX2_set_57 zb_m13 ?_
            exact hend _ _ _ _ _ _ _ ((bU b 11 (vI (aV A))), mf (f 1) (f 2) (f 3) (f 4) (f 5) (f 6) (f 7) (f 8) (f 14) (f 19)) hw (by rw [F_set_st ht2 hnb c_28 htr]; exact ⟨rfl, ⟨⟨hT, hL⟩, hV0, rH_vI, ⟨hU, hUs⟩, hKp, ⟨hSi, hSg⟩, (fun t ht => tRel_of rfl rfl rfl rfl rfl (hTr t ht))⟩⟩) (by omega) (by omega) dX2_set_59
          · skip
            have hp9 := hcl p9 rfl
            have hc : b 22 t = nI p9 := hc
            rw [show (b 22) t = nI p9 from hc]
            have hl : lv_has ls 4 [(0, .ref mo), (1, .int (nI t)), (2, .int y), (3, .int z)] := hl
            have hw : zS G ((mo, zo 2 (mF q (f 1) (f 2) (f 3) (f 4) (f 5) (f 6) (f 7) (f 8) (f 14) (f 19))) :: (q 0, zc G 0 (zI 200 (b 0))) :: (q 9, zc G 0 (zI 46 (b 9))) :: (q 10, zc G 0 (zI 46 (b 10))) :: (q 11, zc G 0 (zI 46 (vI (aV A)))) :: (q 12, zc G 0 (zI 46 (b 12))) :: (q 13, zc G 0 (zI 368 (b 13))) :: (q 15, zc G 0 (zI 92 (b 15))) :: (q 16, zc G 3 (zI 2 (b 16))) :: (q 17, zc G 0 (zI 5 (b 17))) :: (q 18, zc G 0 (zI 24 (b 18))) :: (q 20, zc G 0 (zI 3 (b 20))) :: (q 21, zc G 0 (zI 3 (b 21))) :: (q 22, zc G 0 (zI 3 (b 22))) :: (q 23, zc G 0 (zI 36 (b 23))) :: (q 24, zc G 0 (zI 36 (b 24))) :: rest) s H locs := hw
            refine lv_iconst (v := -1) hx hb dX2_set_53 zk_m1 ?_
            refine lv_icmp_ne (tgt := 60) hx hb dX2_set_54 (by decide) (fun _ => ?_) (fun h => absurd h (nI_nm1 (by omega)))
            have hnt := tRel_set (v := z) hp9 hwc.1 hit
            refine lv_aload_n hx hb dX2_set_60 rfl (lv_at hl 0 rfl) ?_
            refine lv_iload_n hx hb dX2_set_61 rfl (lv_at hl 1 rfl) ?_
            refine lv_aload_n hx hb dX2_set_62 rfl (lv_at hl 0 rfl) ?_
            refine z_get (v := .ref (q 22)) hC zf_X2_47_2 hw 0 rfl rfl dX2_set_63 ?_
            refine lv_iload_n hx hb dX2_set_66 rfl (lv_at hl 1 rfl) ?_
            refine z_iald (x := (nI p9)) hC hw 13 rfl (by omega) (by decide) hc dX2_set_67 ?_
            refine lv_iload_n hx hb dX2_set_68 rfl (lv_at hl 2 rfl) ?_
            refine lv_iload_n hx hb dX2_set_69 rfl (lv_at hl 3 rfl) ?_
            refine z_cv (z_runV (As := [.int (nI t), .int (nI p9), .int y, .int z]) (rest := []) hC zv_X2_236 (m_X2_lays G l mo q (f 1) (f 2) (f 3) (f 4) (f 5) (f 6) (f 7) (f 8) (f 14) (f 19) t p9 y z (b 23) (b 24) (by omega) (zrem [0, 14, 15] _)) hw (hw.perm (z_cut (is := [0, 14, 15]) (cells := [(mo, zo 2 (mF q (f 1) (f 2) (f 3) (f 4) (f 5) (f 6) (f 7) (f 8) (f 14) (f 19))), (q 23, zc G 0 (zI 36 (b 23))), (q 24, zc G 0 (zI 36 (b 24)))]) rfl rfl)) 0 rfl rfl rfl rfl rfl (Nat.le_of_ble_eq_true rfl) hl.1 ⟨Nat.le_of_ble_eq_true rfl, Nat.le_of_ble_eq_true rfl⟩ ⟨(Nat.le_of_ble_eq_true rfl), (Nat.le_of_ble_eq_true rfl)⟩ dX2_set_70) hw (fun _ => z_pput (is := [0, 14, 15]) (cells := [(mo, zo 2 (mF q (f 1) (f 2) (f 3) (f 4) (f 5) (f 6) (f 7) (f 8) (f 14) (f 19))), (q 23, zc G 0 (zI 36 (b 23))), (q 24, zc G 0 (zI 36 (b 24)))]) (cells' := [(mo, zo 2 (mF q (f 1) (f 2) (f 3) (f 4) (f 5) (f 6) (f 7) (f 8) (f 14) (f 19))), (q 23, zc G 0 (zI 36 (upd (b 23) (12 * t + p9) y))), (q 24, zc G 0 (zI 36 (upd (b 24) (12 * t + p9) z)))]) rfl rfl rfl) (fun u H locs hp hw => ?_)
            have hw : zS G ((mo, zo 2 (mF q (f 1) (f 2) (f 3) (f 4) (f 5) (f 6) (f 7) (f 8) (f 14) (f 19))) :: (q 0, zc G 0 (zI 200 (b 0))) :: (q 9, zc G 0 (zI 46 (b 9))) :: (q 10, zc G 0 (zI 46 (b 10))) :: (q 11, zc G 0 (zI 46 (vI (aV A)))) :: (q 12, zc G 0 (zI 46 (b 12))) :: (q 13, zc G 0 (zI 368 (b 13))) :: (q 15, zc G 0 (zI 92 (b 15))) :: (q 16, zc G 3 (zI 2 (b 16))) :: (q 17, zc G 0 (zI 5 (b 17))) :: (q 18, zc G 0 (zI 24 (b 18))) :: (q 20, zc G 0 (zI 3 (b 20))) :: (q 21, zc G 0 (zI 3 (b 21))) :: (q 22, zc G 0 (zI 3 (b 22))) :: (q 23, zc G 0 (zI 36 (upd (b 23) (12 * t + p9) y))) :: (q 24, zc G 0 (zI 36 (upd (b 24) (12 * t + p9) z))) :: rest) s H locs := hw
            refine lv_aload_n hx hb dX2_set_73 rfl (lv_at hl 0 rfl) ?_
            refine z_get (v := .ref (q 22)) hC zf_X2_47_2 hw 0 rfl rfl dX2_set_74 ?_
            refine lv_iload_n hx hb dX2_set_77 rfl (lv_at hl 1 rfl) ?_
            refine z_iald (x := (nI p9)) hC hw 13 rfl (by omega) (by decide) hc dX2_set_78 ?_
            exact hend _ _ _ _ _ _ _ ((bU (bU (bU b 11 (vI (aV A))) 23 (upd (b 23) (12 * t + p9) y)) 24 (upd (b 24) (12 * t + p9) z)), mf (f 1) (f 2) (f 3) (f 4) (f 5) (f 6) (f 7) (f 8) (f 14) (f 19)) hw (by rw [F_set_ok ht2 hnb c_28 htr]; exact ⟨rfl, ⟨⟨hT, hL⟩, hV0, rH_vI, ⟨hU, hUs⟩, hKp, ⟨hSi, hSg⟩, (Tr_up hA9 hTr (fun t' _ hne => ⟨rfl, rfl, rfl, fun _ h12 => ⟨upd_ne' (by omega), upd_ne' (by omega)⟩⟩) ⟨by rw [List.length_set]; exact hm, hh, hc, hnt⟩)⟩⟩) (by omega) (by omega) dX2_set_79
      · skip
        refine lv_bipush (v := (-3)) hx hb dX2_set_31 zb_m3 ?_
        exact hend _ _ _ _ _ _ _ ((bU b 11 (vI (aV A))), mf (f 1) (f 2) (f 3) (f 4) (f 5) (f 6) (f 7) (f 8) (f 14) (f 19)) hw (by rw [F_set_ill hnb c_28]; exact ⟨rfl, ⟨⟨hT, hL⟩, hV0, rH_vI, ⟨hU, hUs⟩, hKp, ⟨hSi, hSg⟩, (fun t ht => tRel_of rfl rfl rfl rfl rfl (hTr t ht))⟩⟩) (by omega) (by omega) dX2_set_33
    · skip
      refine lv_aload_n hx hb dX2_set_12 rfl (lv_at hl 0 rfl) ?_
      refine lv_iload_n hx hb dX2_set_13 rfl (lv_at hl 3 rfl) ?_
      refine z_ci (z_runV (As := [.int z]) (rest := []) hC zv_X2_194 (m_X2_isSquirrel G l mo q (f 1) (f 2) (f 3) (f 4) (f 5) (f 6) (f 7) (f 8) (f 14) (f 19) z (aV A) hH (zrem [0, 4] _)) hw (hw.perm (z_cut (is := [0, 4]) (cells := [(mo, zo 2 (mF q (f 1) (f 2) (f 3) (f 4) (f 5) (f 6) (f 7) (f 8) (f 14) (f 19))), (q 11, zc G 0 (zI 46 (vI (aV A))))]) rfl rfl)) 0 rfl rfl rfl rfl rfl (Nat.le_of_ble_eq_true rfl) hl.1 ⟨Nat.le_of_ble_eq_true rfl, Nat.le_of_ble_eq_true rfl⟩ ⟨(Nat.le_of_ble_eq_true rfl), (Nat.le_of_ble_eq_true rfl)⟩ dX2_set_14) hw (fun _ => z_keep (is := [0, 4]) (cs := [(mo, zo 2 (mF q (f 1) (f 2) (f 3) (f 4) (f 5) (f 6) (f 7) (f 8) (f 14) (f 19))), (q 11, zc G 0 (zI 46 (vI (aV A))))]) rfl rfl) (fun r u H locs hp hw => ?_)
      obtain rfl : r = bI (isP ((aV A) 1) z) := hp
      refine zb_ne (tgt := 23) hx hb dX2_set_17 (by decide) (fun c_17 => ?_) (fun c_17 => ?_)
      · skip
        have hT9 := hTr t (by omega)
        have hnb : ¬ badP A (nI t) y z := bad_no ht2 (fun h => by first | exact c_17 | exact absurd h c_9)
        refine lv_iload_n hx hb dX2_set_23 rfl (lv_at hl 2 rfl) ?_
        refine lv_iload_n hx hb dX2_set_24 rfl (lv_at hl 3 rfl) ?_
        refine z_ci (z_runS (As := [.int y, .int z]) (rest := []) hC zs_X2_233 (m_X2_isWell G l y z _) hw rfl rfl (Nat.le_of_ble_eq_true rfl) hl.1 ⟨Nat.le_of_ble_eq_true rfl, Nat.le_of_ble_eq_true rfl⟩ ⟨(Nat.le_of_ble_eq_true rfl), (Nat.le_of_ble_eq_true rfl)⟩ dX2_set_25) hw (fun _ => List.Perm.refl _) (fun r u H locs hp hw => ?_)
        obtain rfl : r = bI (wellP y z) := hp
        refine zb_ne (tgt := 34) hx hb dX2_set_28 (by decide) (fun c_28 => ?_) (fun c_28 => ?_)
        · skip
          have hwc := well_cl c_28
          refine lv_aload_n hx hb dX2_set_34 rfl (lv_at hl 0 rfl) ?_
          refine z_get (v := .ref (q 20)) hC zf_X2_41_2 hw 0 rfl rfl dX2_set_35 ?_
          refine lv_iload_n hx hb dX2_set_38 rfl (lv_at hl 1 rfl) ?_
          refine z_iald (x := ((b 20) t)) hC hw 11 rfl (by omega) (by decide) rfl dX2_set_39 ?_
          rcases htr : aTr A t with _ | ⟨l9, h9, c9⟩
          · skip
            rw [htr] at hT9
            rw [show (b 20) t = -1 from hT9]
            have hl : lv_has ls 4 [(0, .ref mo), (1, .int (nI t)), (2, .int y), (3, .int z)] := hl
            have hw : zS G ((mo, zo 2 (mF q (f 1) (f 2) (f 3) (f 4) (f 5) (f 6) (f 7) (f 8) (f 14) (f 19))) :: (q 0, zc G 0 (zI 200 (b 0))) :: (q 9, zc G 0 (zI 46 (b 9))) :: (q 10, zc G 0 (zI 46 (b 10))) :: (q 11, zc G 0 (zI 46 (vI (aV A)))) :: (q 12, zc G 0 (zI 46 (b 12))) :: (q 13, zc G 0 (zI 368 (b 13))) :: (q 15, zc G 0 (zI 92 (b 15))) :: (q 16, zc G 3 (zI 2 (b 16))) :: (q 17, zc G 0 (zI 5 (b 17))) :: (q 18, zc G 0 (zI 24 (b 18))) :: (q 20, zc G 0 (zI 3 (b 20))) :: (q 21, zc G 0 (zI 3 (b 21))) :: (q 22, zc G 0 (zI 3 (b 22))) :: (q 23, zc G 0 (zI 36 (b 23))) :: (q 24, zc G 0 (zI 36 (b 24))) :: rest) s H locs := hw
            refine lv_iconst (v := -1) hx hb dX2_set_40 zk_m1 ?_
            refine lv_icmp_ne (tgt := 47) hx hb dX2_set_41 (by decide) (fun h => absurd h (by decide)) (fun _ => ?_)
            refine lv_bipush (v := (-11)) hx hb dX2_set_44 zb_m11 ?_
            exact hend _ _ _ _ _ _ _ ((bU b 11 (vI (aV A))), mf (f 1) (f 2) (f 3) (f 4) (f 5) (f 6) (f 7) (f 8) (f 14) (f 19)) hw (by rw [F_set_none ht2 hnb c_28 htr]; exact ⟨rfl, ⟨⟨hT, hL⟩, hV0, rH_vI, ⟨hU, hUs⟩, hKp, ⟨hSi, hSg⟩, (fun t ht => tRel_of rfl rfl rfl rfl rfl (hTr t ht))⟩⟩) (by omega) (by omega) dX2_set_46
          · skip
            rw [htr] at hT9
            obtain ⟨hm, hh, hc, hit⟩ := hT9
            obtain ⟨hlen, hhl, hcl, hok⟩ := hTb t (by omega) l9 h9 c9 htr
            rw [show (b 20) t = nI (l9.length) from hm]
            have hl : lv_has ls 4 [(0, .ref mo), (1, .int (nI t)), (2, .int y), (3, .int z)] := hl
            have hw : zS G ((mo, zo 2 (mF q (f 1) (f 2) (f 3) (f 4) (f 5) (f 6) (f 7) (f 8) (f 14) (f 19))) :: (q 0, zc G 0 (zI 200 (b 0))) :: (q 9, zc G 0 (zI 46 (b 9))) :: (q 10, zc G 0 (zI 46 (b 10))) :: (q 11, zc G 0 (zI 46 (vI (aV A)))) :: (q 12, zc G 0 (zI 46 (b 12))) :: (q 13, zc G 0 (zI 368 (b 13))) :: (q 15, zc G 0 (zI 92 (b 15))) :: (q 16, zc G 3 (zI 2 (b 16))) :: (q 17, zc G 0 (zI 5 (b 17))) :: (q 18, zc G 0 (zI 24 (b 18))) :: (q 20, zc G 0 (zI 3 (b 20))) :: (q 21, zc G 0 (zI 3 (b 21))) :: (q 22, zc G 0 (zI 3 (b 22))) :: (q 23, zc G 0 (zI 36 (b 23))) :: (q 24, zc G 0 (zI 36 (b 24))) :: rest) s H locs := hw
            refine lv_iconst (v := -1) hx hb dX2_set_40 zk_m1 ?_
            refine lv_icmp_ne (tgt := 47) hx hb dX2_set_41 (by decide) (fun _ => ?_) (fun h => absurd h (nI_nm1 (by omega)))
            refine lv_aload_n hx hb dX2_set_47 rfl (lv_at hl 0 rfl) ?_
            refine z_get (v := .ref (q 22)) hC zf_X2_47_2 hw 0 rfl rfl dX2_set_48 ?_
            refine lv_iload_n hx hb dX2_set_51 rfl (lv_at hl 1 rfl) ?_
            refine z_iald (x := ((b 22) t)) hC hw 13 rfl (by omega) (by decide) rfl dX2_set_52 ?_
            rcases c9 with _ | p9
            · skip
              rw [show (b 22) t = -1 from hc]
              have hl : lv_has ls 4 [(0, .ref mo), (1, .int (nI t)), (2, .int y), (3, .int z)] := hl
              have hw : zS G ((mo, zo 2 (mF q (f 1) (f 2) (f 3) (f 4) (f 5) (f 6) (f 7) (f 8) (f 14) (f 19))) :: (q 0, zc G 0 (zI 200 (b 0))) :: (q 9, zc G 0 (zI 46 (b 9))) :: (q 10, zc G 0 (zI 46 (b 10))) :: (q 11, zc G 0 (zI 46 (vI (aV A)))) :: (q 12, zc G 0 (zI 46 (b 12))) :: (q 13, zc G 0 (zI 368 (b 13))) :: (q 15, zc G 0 (zI 92 (b 15))) :: (q 16, zc G 3 (zI 2 (b 16))) :: (q 17, zc G 0 (zI 5 (b 17))) :: (q 18, zc G 0 (zI 24 (b 18))) :: (q 20, zc G 0 (zI 3 (b 20))) :: (q 21, zc G 0 (zI 3 (b 21))) :: (q 22, zc G 0 (zI 3 (b 22))) :: (q 23, zc G 0 (zI 36 (b 23))) :: (q 24, zc G 0 (zI 36 (b 24))) :: rest) s H locs := hw
              refine lv_iconst (v := -1) hx hb dX2_set_53 zk_m1 ?_
              refine lv_icmp_ne (tgt := 60) hx hb dX2_set_54 (by decide) (fun h => absurd h (by decide)) (fun _ => ?_)
              refine lv_bipush (v := (-13)) hx hb dX2_set_57 zb_m13 ?_
              exact hend _ _ _ _ _ _ _ ((bU b 11 (vI (aV A))), mf (f 1) (f 2) (f 3) (f 4) (f 5) (f 6) (f 7) (f 8) (f 14) (f 19)) hw (by rw [F_set_st ht2 hnb c_28 htr]; exact ⟨rfl, ⟨⟨hT, hL⟩, hV0, rH_vI, ⟨hU, hUs⟩, hKp, ⟨hSi, hSg⟩, (fun t ht => tRel_of rfl rfl rfl rfl rfl (hTr t ht))⟩⟩) (by omega) (by omega) dX2_set_59
            · skip
              have hp9 := hcl p9 rfl
              have hc : b 22 t = nI p9 := hc
              rw [show (b 22) t = nI p9 from hc]
              have hl : lv_has ls 4 [(0, .ref mo), (1, .int (nI t)), (2, .int y), (3, .int z)] := hl
              have hw : zS G ((mo, zo 2 (mF q (f 1) (f 2) (f 3) (f 4) (f 5) (f 6) (f 7) (f 8) (f 14) (f 19))) :: (q 0, zc G 0 (zI 200 (b 0))) :: (q 9, zc G 0 (zI 46 (b 9))) :: (q 10, zc G 0 (zI 46 (b 10))) :: (q 11, zc G 0 (zI 46 (vI (aV A)))) :: (q 12, zc G 0 (zI 46 (b 12))) :: (q 13, zc G 0 (zI 368 (b 13))) :: (q 15, zc G 0 (zI 92 (b 15))) :: (q 16, zc G 3 (zI 2 (b 16))) :: (q 17, zc G 0 (zI 5 (b 17))) :: (q 18, zc G 0 (zI 24 (b 18))) :: (q 20, zc G 0 (zI 3 (b 20))) :: (q 21, zc G 0 (zI 3 (b 21))) :: (q 22, zc G 0 (zI 3 (b 22))) :: (q 23, zc G 0 (zI 36 (b 23))) :: (q 24, zc G 0 (zI 36 (b 24))) :: rest) s H locs := hw
              refine lv_iconst (v := -1) hx hb dX2_set_53 zk_m1 ?_
              refine lv_icmp_ne (tgt := 60) hx hb dX2_set_54 (by decide) (fun _ => ?_) (fun h => absurd h (nI_nm1 (by omega)))
              have hnt := tRel_set (v := z) hp9 hwc.1 hit
              refine lv_aload_n hx hb dX2_set_60 rfl (lv_at hl 0 rfl) ?_
              refine lv_iload_n hx hb dX2_set_61 rfl (lv_at hl 1 rfl) ?_
              refine lv_aload_n hx hb dX2_set_62 rfl (lv_at hl 0 rfl) ?_
              refine z_get (v := .ref (q 22)) hC zf_X2_47_2 hw 0 rfl rfl dX2_set_63 ?_
              refine lv_iload_n hx hb dX2_set_66 rfl (lv_at hl 1 rfl) ?_
              refine z_iald (x := (nI p9)) hC hw 13 rfl (by omega) (by decide) hc dX2_set_67 ?_
              refine lv_iload_n hx hb dX2_set_68 rfl (lv_at hl 2 rfl) ?_
              refine lv_iload_n hx hb dX2_set_69 rfl (lv_at hl 3 rfl) ?_
              refine z_cv (z_runV (As := [.int (nI t), .int (nI p9), .int y, .int z]) (rest := []) hC zv_X2_236 (m_X2_lays G l mo q (f 1) (f 2) (f 3) (f 4) (f 5) (f 6) (f 7) (f 8) (f 14) (f 19) t p9 y z (b 23) (b 24) (by omega) (zrem [0, 14, 15] _)) hw (hw.perm (z_cut (is := [0, 14, 15]) (cells := [(mo, zo 2 (mF q (f 1) (f 2) (f 3) (f 4) (f 5) (f 6) (f 7) (f 8) (f 14) (f 19))), (q 23, zc G 0 (zI 36 (b 23))), (q 24, zc G 0 (zI 36 (b 24)))]) rfl rfl)) 0 rfl rfl rfl rfl rfl (Nat.le_of_ble_eq_true rfl) hl.1 ⟨Nat.le_of_ble_eq_true rfl, Nat.le_of_ble_eq_true rfl⟩ ⟨(Nat.le_of_ble_eq_true rfl), (Nat.le_of_ble_eq_true rfl)⟩ dX2_set_70) hw (fun _ => z_pput (is := [0, 14, 15]) (cells := [(mo, zo 2 (mF q (f 1) (f 2) (f 3) (f 4) (f 5) (f 6) (f 7) (f 8) (f 14) (f 19))), (q 23, zc G 0 (zI 36 (b 23))), (q 24, zc G 0 (zI 36 (b 24)))]) (cells' := [(mo, zo 2 (mF q (f 1) (f 2) (f 3) (f 4) (f 5) (f 6) (f 7) (f 8) (f 14) (f 19))), (q 23, zc G 0 (zI 36 (upd (b 23) (12 * t + p9) y))), (q 24, zc G 0 (zI 36 (upd (b 24) (12 * t + p9) z)))]) rfl rfl rfl) (fun u H locs hp hw => ?_)
              have hw : zS G ((mo, zo 2 (mF q (f 1) (f 2) (f 3) (f 4) (f 5) (f 6) (f 7) (f 8) (f 14) (f 19))) :: (q 0, zc G 0 (zI 200 (b 0))) :: (q 9, zc G 0 (zI 46 (b 9))) :: (q 10, zc G 0 (zI 46 (b 10))) :: (q 11, zc G 0 (zI 46 (vI (aV A)))) :: (q 12, zc G 0 (zI 46 (b 12))) :: (q 13, zc G 0 (zI 368 (b 13))) :: (q 15, zc G 0 (zI 92 (b 15))) :: (q 16, zc G 3 (zI 2 (b 16))) :: (q 17, zc G 0 (zI 5 (b 17))) :: (q 18, zc G 0 (zI 24 (b 18))) :: (q 20, zc G 0 (zI 3 (b 20))) :: (q 21, zc G 0 (zI 3 (b 21))) :: (q 22, zc G 0 (zI 3 (b 22))) :: (q 23, zc G 0 (zI 36 (upd (b 23) (12 * t + p9) y))) :: (q 24, zc G 0 (zI 36 (upd (b 24) (12 * t + p9) z))) :: rest) s H locs := hw
              refine lv_aload_n hx hb dX2_set_73 rfl (lv_at hl 0 rfl) ?_
              refine z_get (v := .ref (q 22)) hC zf_X2_47_2 hw 0 rfl rfl dX2_set_74 ?_
              refine lv_iload_n hx hb dX2_set_77 rfl (lv_at hl 1 rfl) ?_
              refine z_iald (x := (nI p9)) hC hw 13 rfl (by omega) (by decide) hc dX2_set_78 ?_
              exact hend _ _ _ _ _ _ _ ((bU (bU (bU b 11 (vI (aV A))) 23 (upd (b 23) (12 * t + p9) y)) 24 (upd (b 24) (12 * t + p9) z)), mf (f 1) (f 2) (f 3) (f 4) (f 5) (f 6) (f 7) (f 8) (f 14) (f 19)) hw (by rw [F_set_ok ht2 hnb c_28 htr]; exact ⟨rfl, ⟨⟨hT, hL⟩, hV0, rH_vI, ⟨hU, hUs⟩, hKp, ⟨hSi, hSg⟩, (Tr_up hA9 hTr (fun t' _ hne => ⟨rfl, rfl, rfl, fun _ h12 => ⟨upd_ne' (by omega), upd_ne' (by omega)⟩⟩) ⟨by rw [List.length_set]; exact hm, hh, hc, hnt⟩)⟩⟩) (by omega) (by omega) dX2_set_79
        · skip
          refine lv_bipush (v := (-3)) hx hb dX2_set_31 zb_m3 ?_
          exact hend _ _ _ _ _ _ _ ((bU b 11 (vI (aV A))), mf (f 1) (f 2) (f 3) (f 4) (f 5) (f 6) (f 7) (f 8) (f 14) (f 19)) hw (by rw [F_set_ill hnb c_28]; exact ⟨rfl, ⟨⟨hT, hL⟩, hV0, rH_vI, ⟨hU, hUs⟩, hKp, ⟨hSi, hSg⟩, (fun t ht => tRel_of rfl rfl rfl rfl rfl (hTr t ht))⟩⟩) (by omega) (by omega) dX2_set_33
      · skip
        refine lv_bipush (v := (-2)) hx hb dX2_set_20 zb_m2 ?_
        exact hend _ _ _ _ _ _ _ ((bU b 11 (vI (aV A))), mf (f 1) (f 2) (f 3) (f 4) (f 5) (f 6) (f 7) (f 8) (f 14) (f 19)) hw (by (first | rw [show F_set A x y z = (-2, A) from F_bad (Or.inl c_4)] | rw [show F_set A (nI t) y z = (-2, A) from F_bad (Or.inr ⟨c_9, c_17⟩)]); exact ⟨rfl, ⟨⟨hT, hL⟩, hV0, rH_vI, ⟨hU, hUs⟩, hKp, ⟨hSi, hSg⟩, (fun t ht => tRel_of rfl rfl rfl rfl rfl (hTr t ht))⟩⟩) (by omega) (by omega) dX2_set_22
theorem dnF_rd {g : Nat → Int32} {a p k : Nat} : dnF g a p k (a + k + 1) = g (a + k + 1) := by
  unfold dnF; rw [if_neg (by omega)]
set_option maxHeartbeats 4000000 in
theorem m_X2_cut (G : zE) (l : Launch) (mo : Nat) (q : Nat → Nat) (A : AS) (b : Nat → Nat → Int32) (f : Nat → Int32) (hA : AOk A) (hM : MRel A b f) (x : Int32) (rest : va_W) : zMi G l yX2_cut cX2_cut 4 (some .int) 2 0 0 [.ref mo, .int x] ((mo, zo 2 (mF q (f 1) (f 2) (f 3) (f 4) (f 5) (f 6) (f 7) (f 8) (f 14) (f 19))) :: (q 0, zc G 0 (zI 200 (b 0))) :: (q 9, zc G 0 (zI 46 (b 9))) :: (q 10, zc G 0 (zI 46 (b 10))) :: (q 11, zc G 0 (zI 46 (b 11))) :: (q 12, zc G 0 (zI 46 (b 12))) :: (q 13, zc G 0 (zI 368 (b 13))) :: (q 15, zc G 0 (zI 92 (b 15))) :: (q 16, zc G 3 (zI 2 (b 16))) :: (q 17, zc G 0 (zI 5 (b 17))) :: (q 18, zc G 0 (zI 24 (b 18))) :: (q 20, zc G 0 (zI 3 (b 20))) :: (q 21, zc G 0 (zI 3 (b 21))) :: (q 22, zc G 0 (zI 3 (b 22))) :: (q 23, zc G 0 (zI 36 (b 23))) :: (q 24, zc G 0 (zI 36 (b 24))) :: rest) (fun (r : Int32) (u : MB) => r = (F_cut A x).1 ∧ MRel (F_cut A x).2 u.1 u.2) (fun (u : MB) => (mo, zo 2 (mF q (u.2 1) (u.2 2) (u.2 3) (u.2 4) (u.2 5) (u.2 6) (u.2 7) (u.2 8) (u.2 14) (u.2 19))) :: (q 0, zc G 0 (zI 200 (u.1 0))) :: (q 9, zc G 0 (zI 46 (u.1 9))) :: (q 10, zc G 0 (zI 46 (u.1 10))) :: (q 11, zc G 0 (zI 46 (u.1 11))) :: (q 12, zc G 0 (zI 46 (u.1 12))) :: (q 13, zc G 0 (zI 368 (u.1 13))) :: (q 15, zc G 0 (zI 92 (u.1 15))) :: (q 16, zc G 3 (zI 2 (u.1 16))) :: (q 17, zc G 0 (zI 5 (u.1 17))) :: (q 18, zc G 0 (zI 24 (u.1 18))) :: (q 20, zc G 0 (zI 3 (u.1 20))) :: (q 21, zc G 0 (zI 3 (u.1 21))) :: (q 22, zc G 0 (zI 3 (u.1 22))) :: (q 23, zc G 0 (zI 36 (u.1 23))) :: (q 24, zc G 0 (zI 36 (u.1 24))) :: rest) := by
  refine z_begI (by decide) (Nat.le_of_ble_eq_true rfl) (fun p e s m args below meth c ls Q hC hl hw hend => ?_)
  have hx := hC.hx
  have hb := hC.hb
  have hl : lv_has ls 4 [(0, .ref mo), (1, .int x)] := hl
  have hw : zS G ((mo, zo 2 (mF q (f 1) (f 2) (f 3) (f 4) (f 5) (f 6) (f 7) (f 8) (f 14) (f 19))) :: (q 0, zc G 0 (zI 200 (b 0))) :: (q 9, zc G 0 (zI 46 (b 9))) :: (q 10, zc G 0 (zI 46 (b 10))) :: (q 11, zc G 0 (zI 46 (b 11))) :: (q 12, zc G 0 (zI 46 (b 12))) :: (q 13, zc G 0 (zI 368 (b 13))) :: (q 15, zc G 0 (zI 92 (b 15))) :: (q 16, zc G 3 (zI 2 (b 16))) :: (q 17, zc G 0 (zI 5 (b 17))) :: (q 18, zc G 0 (zI 24 (b 18))) :: (q 20, zc G 0 (zI 3 (b 20))) :: (q 21, zc G 0 (zI 3 (b 21))) :: (q 22, zc G 0 (zI 3 (b 22))) :: (q 23, zc G 0 (zI 36 (b 23))) :: (q 24, zc G 0 (zI 36 (b 24))) :: rest) s s.heap [] := hw
  have hA9 := hA
  obtain ⟨⟨hT, hL⟩, hV0, hV, ⟨hU, hUs⟩, hKp, ⟨hSi, hSg⟩, hTr⟩ := hM
  obtain ⟨⟨hL2, hT2⟩, hB0, hBv, ⟨hU8, hUb⟩, hKb, ⟨hS6, hSb⟩, hTb⟩ := hA
  have hH : Hw (aV A) := hBv.1.1
  have hday := hBv.2.2
  have hw : zS G ((mo, zo 2 (mF q (f 1) (f 2) (f 3) (f 4) (f 5) (f 6) (f 7) (f 8) (f 14) (f 19))) :: (q 0, zc G 0 (zI 200 (b 0))) :: (q 9, zc G 0 (zI 46 (b 9))) :: (q 10, zc G 0 (zI 46 (b 10))) :: (q 11, zc G 0 (zI 46 (b 11))) :: (q 12, zc G 0 (zI 46 (b 12))) :: (q 13, zc G 0 (zI 368 (b 13))) :: (q 15, zc G 0 (zI 92 (b 15))) :: (q 16, zc G 3 (zI 2 (b 16))) :: (q 17, zc G 0 (zI 5 (b 17))) :: (q 18, zc G 0 (zI 24 (b 18))) :: (q 20, zc G 0 (zI 3 (b 20))) :: (q 21, zc G 0 (zI 3 (b 21))) :: (q 22, zc G 0 (zI 3 (b 22))) :: (q 23, zc G 0 (zI 36 (b 23))) :: (q 24, zc G 0 (zI 36 (b 24))) :: rest) s s.heap [] := hw
  refine lv_iload_n hx hb dX2_cut_0 rfl (lv_at hl 1 rfl) ?_
  refine z_ci (z_runS (As := [.int x]) (rest := []) hC zs_X2_229 (m_X2_isTrail G l x _) hw rfl rfl (Nat.le_of_ble_eq_true rfl) hl.1 ⟨Nat.le_of_ble_eq_true rfl, Nat.le_of_ble_eq_true rfl⟩ ⟨(Nat.le_of_ble_eq_true rfl), (Nat.le_of_ble_eq_true rfl)⟩ dX2_cut_1) hw (fun _ => List.Perm.refl _) (fun r u H locs hp hw => ?_)
  obtain rfl : r = bI (inR x 0 2) := hp
  refine zb_ne (tgt := 10) hx hb dX2_cut_4 (by decide) (fun c_4 => ?_) (fun c_4 => ?_)
  · skip
    obtain ⟨t, ht1, ht2, rfl⟩ := c_4
    have hl : lv_has ls 4 [(0, .ref mo), (1, .int (nI t))] := hl
    have hT9 := hTr t (by omega)
    refine lv_aload_n hx hb dX2_cut_10 rfl (lv_at hl 0 rfl) ?_
    refine z_get (v := .ref (q 20)) hC zf_X2_41_2 hw 0 rfl rfl dX2_cut_11 ?_
    refine lv_iload_n hx hb dX2_cut_14 rfl (lv_at hl 1 rfl) ?_
    refine z_iald (x := ((b 20) t)) hC hw 11 rfl (by omega) (by decide) rfl dX2_cut_15 ?_
    rcases htr : aTr A t with _ | ⟨l9, h9, c9⟩
    · skip
      rw [htr] at hT9
      rw [show (b 20) t = -1 from hT9]
      have hl : lv_has ls 4 [(0, .ref mo), (1, .int (nI t))] := hl
      have hw : zS G ((mo, zo 2 (mF q (f 1) (f 2) (f 3) (f 4) (f 5) (f 6) (f 7) (f 8) (f 14) (f 19))) :: (q 0, zc G 0 (zI 200 (b 0))) :: (q 9, zc G 0 (zI 46 (b 9))) :: (q 10, zc G 0 (zI 46 (b 10))) :: (q 11, zc G 0 (zI 46 (b 11))) :: (q 12, zc G 0 (zI 46 (b 12))) :: (q 13, zc G 0 (zI 368 (b 13))) :: (q 15, zc G 0 (zI 92 (b 15))) :: (q 16, zc G 3 (zI 2 (b 16))) :: (q 17, zc G 0 (zI 5 (b 17))) :: (q 18, zc G 0 (zI 24 (b 18))) :: (q 20, zc G 0 (zI 3 (b 20))) :: (q 21, zc G 0 (zI 3 (b 21))) :: (q 22, zc G 0 (zI 3 (b 22))) :: (q 23, zc G 0 (zI 36 (b 23))) :: (q 24, zc G 0 (zI 36 (b 24))) :: rest) s H locs := hw
      refine lv_iconst (v := -1) hx hb dX2_cut_16 zk_m1 ?_
      refine lv_icmp_ne (tgt := 23) hx hb dX2_cut_17 (by decide) (fun h => absurd h (by decide)) (fun _ => ?_)
      refine lv_bipush (v := (-11)) hx hb dX2_cut_20 zb_m11 ?_
      exact hend _ _ _ _ _ _ _ (b, mf (f 1) (f 2) (f 3) (f 4) (f 5) (f 6) (f 7) (f 8) (f 14) (f 19)) hw (by rw [F_cut_none ht2 htr]; exact ⟨rfl, ⟨⟨hT, hL⟩, hV0, hV, ⟨hU, hUs⟩, hKp, ⟨hSi, hSg⟩, (fun t ht => tRel_of rfl rfl rfl rfl rfl (hTr t ht))⟩⟩) (by omega) (by omega) dX2_cut_22
    · skip
      rw [htr] at hT9
      obtain ⟨hm, hh, hc, hit⟩ := hT9
      obtain ⟨hlen, hhl, hcl, hok⟩ := hTb t (by omega) l9 h9 c9 htr
      rw [show (b 20) t = nI (l9.length) from hm]
      have hl : lv_has ls 4 [(0, .ref mo), (1, .int (nI t))] := hl
      have hw : zS G ((mo, zo 2 (mF q (f 1) (f 2) (f 3) (f 4) (f 5) (f 6) (f 7) (f 8) (f 14) (f 19))) :: (q 0, zc G 0 (zI 200 (b 0))) :: (q 9, zc G 0 (zI 46 (b 9))) :: (q 10, zc G 0 (zI 46 (b 10))) :: (q 11, zc G 0 (zI 46 (b 11))) :: (q 12, zc G 0 (zI 46 (b 12))) :: (q 13, zc G 0 (zI 368 (b 13))) :: (q 15, zc G 0 (zI 92 (b 15))) :: (q 16, zc G 3 (zI 2 (b 16))) :: (q 17, zc G 0 (zI 5 (b 17))) :: (q 18, zc G 0 (zI 24 (b 18))) :: (q 20, zc G 0 (zI 3 (b 20))) :: (q 21, zc G 0 (zI 3 (b 21))) :: (q 22, zc G 0 (zI 3 (b 22))) :: (q 23, zc G 0 (zI 36 (b 23))) :: (q 24, zc G 0 (zI 36 (b 24))) :: rest) s H locs := hw
      refine lv_iconst (v := -1) hx hb dX2_cut_16 zk_m1 ?_
      refine lv_icmp_ne (tgt := 23) hx hb dX2_cut_17 (by decide) (fun _ => ?_) (fun h => absurd h (nI_nm1 (by omega)))
      refine lv_aload_n hx hb dX2_cut_23 rfl (lv_at hl 0 rfl) ?_
      refine z_get (v := .ref (q 22)) hC zf_X2_47_2 hw 0 rfl rfl dX2_cut_24 ?_
      refine lv_iload_n hx hb dX2_cut_27 rfl (lv_at hl 1 rfl) ?_
      refine z_iald (x := ((b 22) t)) hC hw 13 rfl (by omega) (by decide) rfl dX2_cut_28 ?_
      rcases c9 with _ | p9
      · skip
        rw [show (b 22) t = -1 from hc]
        have hl : lv_has ls 4 [(0, .ref mo), (1, .int (nI t))] := hl
        have hw : zS G ((mo, zo 2 (mF q (f 1) (f 2) (f 3) (f 4) (f 5) (f 6) (f 7) (f 8) (f 14) (f 19))) :: (q 0, zc G 0 (zI 200 (b 0))) :: (q 9, zc G 0 (zI 46 (b 9))) :: (q 10, zc G 0 (zI 46 (b 10))) :: (q 11, zc G 0 (zI 46 (b 11))) :: (q 12, zc G 0 (zI 46 (b 12))) :: (q 13, zc G 0 (zI 368 (b 13))) :: (q 15, zc G 0 (zI 92 (b 15))) :: (q 16, zc G 3 (zI 2 (b 16))) :: (q 17, zc G 0 (zI 5 (b 17))) :: (q 18, zc G 0 (zI 24 (b 18))) :: (q 20, zc G 0 (zI 3 (b 20))) :: (q 21, zc G 0 (zI 3 (b 21))) :: (q 22, zc G 0 (zI 3 (b 22))) :: (q 23, zc G 0 (zI 36 (b 23))) :: (q 24, zc G 0 (zI 36 (b 24))) :: rest) s H locs := hw
        refine lv_iconst (v := -1) hx hb dX2_cut_29 zk_m1 ?_
        refine lv_icmp_ne (tgt := 36) hx hb dX2_cut_30 (by decide) (fun h => absurd h (by decide)) (fun _ => ?_)
        refine lv_bipush (v := (-13)) hx hb dX2_cut_33 zb_m13 ?_
        exact hend _ _ _ _ _ _ _ (b, mf (f 1) (f 2) (f 3) (f 4) (f 5) (f 6) (f 7) (f 8) (f 14) (f 19)) hw (by rw [F_cut_st ht2 htr]; exact ⟨rfl, ⟨⟨hT, hL⟩, hV0, hV, ⟨hU, hUs⟩, hKp, ⟨hSi, hSg⟩, (fun t ht => tRel_of rfl rfl rfl rfl rfl (hTr t ht))⟩⟩) (by omega) (by omega) dX2_cut_35
      · skip
        have hp9 := hcl p9 rfl
        have hc : b 22 t = nI p9 := hc
        rw [show (b 22) t = nI p9 from hc]
        have hl : lv_has ls 4 [(0, .ref mo), (1, .int (nI t))] := hl
        have hw : zS G ((mo, zo 2 (mF q (f 1) (f 2) (f 3) (f 4) (f 5) (f 6) (f 7) (f 8) (f 14) (f 19))) :: (q 0, zc G 0 (zI 200 (b 0))) :: (q 9, zc G 0 (zI 46 (b 9))) :: (q 10, zc G 0 (zI 46 (b 10))) :: (q 11, zc G 0 (zI 46 (b 11))) :: (q 12, zc G 0 (zI 46 (b 12))) :: (q 13, zc G 0 (zI 368 (b 13))) :: (q 15, zc G 0 (zI 92 (b 15))) :: (q 16, zc G 3 (zI 2 (b 16))) :: (q 17, zc G 0 (zI 5 (b 17))) :: (q 18, zc G 0 (zI 24 (b 18))) :: (q 20, zc G 0 (zI 3 (b 20))) :: (q 21, zc G 0 (zI 3 (b 21))) :: (q 22, zc G 0 (zI 3 (b 22))) :: (q 23, zc G 0 (zI 36 (b 23))) :: (q 24, zc G 0 (zI 36 (b 24))) :: rest) s H locs := hw
        refine lv_iconst (v := -1) hx hb dX2_cut_29 zk_m1 ?_
        refine lv_icmp_ne (tgt := 36) hx hb dX2_cut_30 (by decide) (fun _ => ?_) (fun h => absurd h (nI_nm1 (by omega)))
        have hlA : (l9.take p9 ++ l9.drop (p9 + 1)).length = l9.length - 1 := by rw [List.length_append, List.length_take, List.length_drop]; omega
        have hnt := tRel_cut hp9 hit
        have hw : zS G ((mo, zo 2 (mF q (f 1) (f 2) (f 3) (f 4) (f 5) (f 6) (f 7) (f 8) (f 14) (f 19))) :: (q 0, zc G 0 (zI 200 (b 0))) :: (q 9, zc G 0 (zI 46 (b 9))) :: (q 10, zc G 0 (zI 46 (b 10))) :: (q 11, zc G 0 (zI 46 (b 11))) :: (q 12, zc G 0 (zI 46 (b 12))) :: (q 13, zc G 0 (zI 368 (b 13))) :: (q 15, zc G 0 (zI 92 (b 15))) :: (q 16, zc G 3 (zI 2 (b 16))) :: (q 17, zc G 0 (zI 5 (b 17))) :: (q 18, zc G 0 (zI 24 (b 18))) :: (q 20, zc G 0 (zI 3 (b 20))) :: (q 21, zc G 0 (zI 3 (b 21))) :: (q 22, zc G 0 (zI 3 (b 22))) :: (q 23, zc G 0 (zI 36 (dnF (b 23) (12 * t) p9 p9))) :: (q 24, zc G 0 (zI 36 (dnF (b 24) (12 * t) p9 p9))) :: rest) s H locs := by rw [dnF_0, dnF_0]; exact hw
        refine lv_aload_n hx hb dX2_cut_36 rfl (lv_at hl 0 rfl) ?_
        refine z_get (v := .ref (q 22)) hC zf_X2_47_2 hw 0 rfl rfl dX2_cut_37 ?_
        refine lv_iload_n hx hb dX2_cut_40 rfl (lv_at hl 1 rfl) ?_
        refine z_iald (x := (nI p9)) hC hw 13 rfl (by omega) (by decide) hc dX2_cut_41 ?_
        refine lv_istore_n (lv' := [(2, .int (nI p9)), (0, .ref mo), (1, .int (nI t))]) hx hb dX2_cut_42 rfl hl (by decide) rfl (fun ls hl => ?_)
        refine lv_iload_n hx hb dX2_cut_43 rfl (lv_at hl 0 rfl) ?_
        refine lv_istore_n (lv' := [(3, .int (nI p9)), (2, .int (nI p9)), (0, .ref mo), (1, .int (nI t))]) hx hb dX2_cut_44 rfl hl (by decide) rfl (fun ls hl => ?_)
        have loop_45 : ∀ (fuel : Nat) (k : Nat), (p9 ≤ k) → (k + 1 ≤ l9.length) → (l9.length - k) < fuel → ∀ (H : Heap) (locs : List Loc) (ls : Array Slot), zS G ((mo, zo 2 (mF q (f 1) (f 2) (f 3) (f 4) (f 5) (f 6) (f 7) (f 8) (f 14) (f 19))) :: (q 0, zc G 0 (zI 200 (b 0))) :: (q 9, zc G 0 (zI 46 (b 9))) :: (q 10, zc G 0 (zI 46 (b 10))) :: (q 11, zc G 0 (zI 46 (b 11))) :: (q 12, zc G 0 (zI 46 (b 12))) :: (q 13, zc G 0 (zI 368 (b 13))) :: (q 15, zc G 0 (zI 92 (b 15))) :: (q 16, zc G 3 (zI 2 (b 16))) :: (q 17, zc G 0 (zI 5 (b 17))) :: (q 18, zc G 0 (zI 24 (b 18))) :: (q 20, zc G 0 (zI 3 (b 20))) :: (q 21, zc G 0 (zI 3 (b 21))) :: (q 22, zc G 0 (zI 3 (b 22))) :: (q 23, zc G 0 (zI 36 (dnF (b 23) (12 * t) p9 k))) :: (q 24, zc G 0 (zI 36 (dnF (b 24) (12 * t) p9 k))) :: rest) s H locs → lv_has ls 4 [(0, .ref mo), (1, .int (nI t)), (2, .int (nI p9)), (3, .int (nI k))] → W p l e (zR 2 0 0) s m args below meth c H locs 0 0 Q (F0 m 45 ls []) := by
          intro fuel
          induction fuel with
          | zero => intro k hk1 hk2 hfuel; exact absurd hfuel (Nat.not_lt_zero _)
          | succ fuel_45 ih_45 =>
            intro k hk1 hk2 hfuel_45 H locs ls hw hl
            refine lv_iload_n hx hb dX2_cut_45 rfl (lv_at hl 3 rfl) ?_
            refine lv_iconst (v := (nI 1)) hx hb dX2_cut_46 zk_1 ?_
            refine zn_iadd hx hb dX2_cut_47 ?_
            refine lv_aload_n hx hb dX2_cut_48 rfl (lv_at hl 0 rfl) ?_
            refine z_get (v := .ref (q 20)) hC zf_X2_41_2 hw 0 rfl rfl dX2_cut_49 ?_
            refine lv_iload_n hx hb dX2_cut_52 rfl (lv_at hl 1 rfl) ?_
            refine z_iald (x := (nI (l9.length))) hC hw 11 rfl (by omega) (by decide) hm dX2_cut_53 ?_
            refine zi_ge (tgt := 95) hx hb (by omega) (by omega) dX2_cut_54 (by decide) (fun c_54 => ?_) (fun c_54 => ?_)
            · skip
              have hke : k = l9.length - 1 := by omega
              have hw : zS G ((mo, zo 2 (mF q (f 1) (f 2) (f 3) (f 4) (f 5) (f 6) (f 7) (f 8) (f 14) (f 19))) :: (q 0, zc G 0 (zI 200 (b 0))) :: (q 9, zc G 0 (zI 46 (b 9))) :: (q 10, zc G 0 (zI 46 (b 10))) :: (q 11, zc G 0 (zI 46 (b 11))) :: (q 12, zc G 0 (zI 46 (b 12))) :: (q 13, zc G 0 (zI 368 (b 13))) :: (q 15, zc G 0 (zI 92 (b 15))) :: (q 16, zc G 3 (zI 2 (b 16))) :: (q 17, zc G 0 (zI 5 (b 17))) :: (q 18, zc G 0 (zI 24 (b 18))) :: (q 20, zc G 0 (zI 3 (b 20))) :: (q 21, zc G 0 (zI 3 (b 21))) :: (q 22, zc G 0 (zI 3 (b 22))) :: (q 23, zc G 0 (zI 36 (dnF (b 23) (12 * t) p9 (l9.length - 1)))) :: (q 24, zc G 0 (zI 36 (dnF (b 24) (12 * t) p9 (l9.length - 1)))) :: rest) s H locs := by rw [← hke]; exact hw
              refine lv_aload_n hx hb dX2_cut_95 rfl (lv_at hl 0 rfl) ?_
              refine z_get (v := .ref (q 21)) hC zf_X2_44_2 hw 0 rfl rfl dX2_cut_96 ?_
              refine lv_iload_n hx hb dX2_cut_99 rfl (lv_at hl 1 rfl) ?_
              refine lv_dup2_11 hx hb dX2_cut_100 rfl rfl ?_
              refine z_iald (x := (nI h9)) hC hw 12 rfl (by omega) (by decide) hh dX2_cut_101 ?_
              have join_117 : ∀ (z9 : Nat), (nI h9 - nI z9 = nI (if p9 < h9 then h9 - 1 else h9)) → ∀ (H : Heap) (locs : List Loc) (ls : Array Slot), zS G ((mo, zo 2 (mF q (f 1) (f 2) (f 3) (f 4) (f 5) (f 6) (f 7) (f 8) (f 14) (f 19))) :: (q 0, zc G 0 (zI 200 (b 0))) :: (q 9, zc G 0 (zI 46 (b 9))) :: (q 10, zc G 0 (zI 46 (b 10))) :: (q 11, zc G 0 (zI 46 (b 11))) :: (q 12, zc G 0 (zI 46 (b 12))) :: (q 13, zc G 0 (zI 368 (b 13))) :: (q 15, zc G 0 (zI 92 (b 15))) :: (q 16, zc G 3 (zI 2 (b 16))) :: (q 17, zc G 0 (zI 5 (b 17))) :: (q 18, zc G 0 (zI 24 (b 18))) :: (q 20, zc G 0 (zI 3 (b 20))) :: (q 21, zc G 0 (zI 3 (b 21))) :: (q 22, zc G 0 (zI 3 (b 22))) :: (q 23, zc G 0 (zI 36 (dnF (b 23) (12 * t) p9 (l9.length - 1)))) :: (q 24, zc G 0 (zI 36 (dnF (b 24) (12 * t) p9 (l9.length - 1)))) :: rest) s H locs → lv_has ls 4 [(0, .ref mo), (1, .int (nI t)), (2, .int (nI p9))] → W p l e (zR 2 0 0) s m args below meth c H locs 0 0 Q (F0 m 117 ls [.int (nI z9), .int (nI h9), .int (nI t), .ref (q 21)]) := by
                intro z9 hz H locs ls hw hl
                refine zv_isub (v := (nI (if p9 < h9 then h9 - 1 else h9))) hx hb hz dX2_cut_117 ?_
                refine z_iast (f' := upd (b 21) t (nI (if p9 < h9 then h9 - 1 else h9))) hC hw 12 rfl (by omega) (by decide) rfl dX2_cut_118 (fun H locs hw => ?_)
                have hw : zS G ((mo, zo 2 (mF q (f 1) (f 2) (f 3) (f 4) (f 5) (f 6) (f 7) (f 8) (f 14) (f 19))) :: (q 0, zc G 0 (zI 200 (b 0))) :: (q 9, zc G 0 (zI 46 (b 9))) :: (q 10, zc G 0 (zI 46 (b 10))) :: (q 11, zc G 0 (zI 46 (b 11))) :: (q 12, zc G 0 (zI 46 (b 12))) :: (q 13, zc G 0 (zI 368 (b 13))) :: (q 15, zc G 0 (zI 92 (b 15))) :: (q 16, zc G 3 (zI 2 (b 16))) :: (q 17, zc G 0 (zI 5 (b 17))) :: (q 18, zc G 0 (zI 24 (b 18))) :: (q 20, zc G 0 (zI 3 (b 20))) :: (q 21, zc G 0 (zI 3 (upd (b 21) t (nI (if p9 < h9 then h9 - 1 else h9))))) :: (q 22, zc G 0 (zI 3 (b 22))) :: (q 23, zc G 0 (zI 36 (dnF (b 23) (12 * t) p9 (l9.length - 1)))) :: (q 24, zc G 0 (zI 36 (dnF (b 24) (12 * t) p9 (l9.length - 1)))) :: rest) s H locs := hw
                refine lv_aload_n hx hb dX2_cut_119 rfl (lv_at hl 0 rfl) ?_
                refine z_get (v := .ref (q 20)) hC zf_X2_41_2 hw 0 rfl rfl dX2_cut_120 ?_
                refine lv_iload_n hx hb dX2_cut_123 rfl (lv_at hl 1 rfl) ?_
                refine lv_dup2_11 hx hb dX2_cut_124 rfl rfl ?_
                refine z_iald (x := (nI (l9.length))) hC hw 11 rfl (by omega) (by decide) hm dX2_cut_125 ?_
                refine lv_iconst (v := (nI 1)) hx hb dX2_cut_126 zk_1 ?_
                refine zn_isub hx hb (by omega) dX2_cut_127 ?_
                refine z_iast (f' := upd (b 20) t (nI (l9.length - 1))) hC hw 11 rfl (by omega) (by decide) rfl dX2_cut_128 (fun H locs hw => ?_)
                have hw : zS G ((mo, zo 2 (mF q (f 1) (f 2) (f 3) (f 4) (f 5) (f 6) (f 7) (f 8) (f 14) (f 19))) :: (q 0, zc G 0 (zI 200 (b 0))) :: (q 9, zc G 0 (zI 46 (b 9))) :: (q 10, zc G 0 (zI 46 (b 10))) :: (q 11, zc G 0 (zI 46 (b 11))) :: (q 12, zc G 0 (zI 46 (b 12))) :: (q 13, zc G 0 (zI 368 (b 13))) :: (q 15, zc G 0 (zI 92 (b 15))) :: (q 16, zc G 3 (zI 2 (b 16))) :: (q 17, zc G 0 (zI 5 (b 17))) :: (q 18, zc G 0 (zI 24 (b 18))) :: (q 20, zc G 0 (zI 3 (upd (b 20) t (nI (l9.length - 1))))) :: (q 21, zc G 0 (zI 3 (upd (b 21) t (nI (if p9 < h9 then h9 - 1 else h9))))) :: (q 22, zc G 0 (zI 3 (b 22))) :: (q 23, zc G 0 (zI 36 (dnF (b 23) (12 * t) p9 (l9.length - 1)))) :: (q 24, zc G 0 (zI 36 (dnF (b 24) (12 * t) p9 (l9.length - 1)))) :: rest) s H locs := hw
                refine lv_aload_n hx hb dX2_cut_129 rfl (lv_at hl 0 rfl) ?_
                refine z_get (v := .ref (q 22)) hC zf_X2_47_2 hw 0 rfl rfl dX2_cut_130 ?_
                refine lv_iload_n hx hb dX2_cut_133 rfl (lv_at hl 1 rfl) ?_
                refine lv_iconst (v := -1) hx hb dX2_cut_134 zk_m1 ?_
                refine z_iast (f' := upd (b 22) t (-1)) hC hw 13 rfl (by omega) (by decide) rfl dX2_cut_135 (fun H locs hw => ?_)
                have hw : zS G ((mo, zo 2 (mF q (f 1) (f 2) (f 3) (f 4) (f 5) (f 6) (f 7) (f 8) (f 14) (f 19))) :: (q 0, zc G 0 (zI 200 (b 0))) :: (q 9, zc G 0 (zI 46 (b 9))) :: (q 10, zc G 0 (zI 46 (b 10))) :: (q 11, zc G 0 (zI 46 (b 11))) :: (q 12, zc G 0 (zI 46 (b 12))) :: (q 13, zc G 0 (zI 368 (b 13))) :: (q 15, zc G 0 (zI 92 (b 15))) :: (q 16, zc G 3 (zI 2 (b 16))) :: (q 17, zc G 0 (zI 5 (b 17))) :: (q 18, zc G 0 (zI 24 (b 18))) :: (q 20, zc G 0 (zI 3 (upd (b 20) t (nI (l9.length - 1))))) :: (q 21, zc G 0 (zI 3 (upd (b 21) t (nI (if p9 < h9 then h9 - 1 else h9))))) :: (q 22, zc G 0 (zI 3 (upd (b 22) t (-1)))) :: (q 23, zc G 0 (zI 36 (dnF (b 23) (12 * t) p9 (l9.length - 1)))) :: (q 24, zc G 0 (zI 36 (dnF (b 24) (12 * t) p9 (l9.length - 1)))) :: rest) s H locs := hw
                refine lv_aload_n hx hb dX2_cut_136 rfl (lv_at hl 0 rfl) ?_
                refine z_get (v := .ref (q 20)) hC zf_X2_41_2 hw 0 rfl rfl dX2_cut_137 ?_
                refine lv_iload_n hx hb dX2_cut_140 rfl (lv_at hl 1 rfl) ?_
                refine z_iald (x := (nI (l9.length - 1))) hC hw 11 rfl (by omega) (by decide) upd_s dX2_cut_141 ?_
                exact hend _ _ _ _ _ _ _ ((bU (bU (bU (bU (bU b 20 (upd (b 20) t (nI (l9.length - 1)))) 21 (upd (b 21) t (nI (if p9 < h9 then h9 - 1 else h9)))) 22 (upd (b 22) t (-1))) 23 (dnF (b 23) (12 * t) p9 (l9.length - 1))) 24 (dnF (b 24) (12 * t) p9 (l9.length - 1))), mf (f 1) (f 2) (f 3) (f 4) (f 5) (f 6) (f 7) (f 8) (f 14) (f 19)) hw (by rw [F_cut_ok ht2 htr]; exact ⟨rfl, ⟨⟨hT, hL⟩, hV0, hV, ⟨hU, hUs⟩, hKp, ⟨hSi, hSg⟩, (Tr_up hA9 hTr (fun t' _ hne => ⟨upd_ne' hne, upd_ne' hne, upd_ne' hne, fun _ h12 => ⟨dn_out hne (by omega) h12, dn_out hne (by omega) h12⟩⟩) ⟨by rw [hlA]; exact upd_s, upd_s, upd_s, hnt⟩)⟩⟩) (by omega) (by omega) dX2_cut_142
              refine lv_iload_n hx hb dX2_cut_102 rfl (lv_at hl 2 rfl) ?_
              refine lv_aload_n hx hb dX2_cut_103 rfl (lv_at hl 0 rfl) ?_
              refine z_get (v := .ref (q 21)) hC zf_X2_44_2 hw 0 rfl rfl dX2_cut_104 ?_
              refine lv_iload_n hx hb dX2_cut_107 rfl (lv_at hl 1 rfl) ?_
              refine z_iald (x := (nI h9)) hC hw 12 rfl (by omega) (by decide) hh dX2_cut_108 ?_
              refine zi_ge (tgt := 116) hx hb (by omega) (by omega) dX2_cut_109 (by decide) (fun c_109 => ?_) (fun c_109 => ?_)
              · skip
                refine lv_iconst (v := (nI 0)) hx hb dX2_cut_116 zk_0 ?_
                exact join_117 0 (by first | (rw [if_pos c_109, nI_sub (by omega)]) | (rw [if_neg (Nat.not_lt.mpr c_109), nI_sub (by omega)]; rfl)) H locs ls hw (lv_sub hl [0, 1, 2] rfl)
              · skip
                refine lv_iconst (v := (nI 1)) hx hb dX2_cut_112 zk_1 ?_
                refine lv_goto (tgt := 117) hx hb dX2_cut_113 (by decide) ?_
                exact join_117 1 (by first | (rw [if_pos c_109, nI_sub (by omega)]) | (rw [if_neg (Nat.not_lt.mpr c_109), nI_sub (by omega)]; rfl)) H locs ls hw (lv_sub hl [0, 1, 2] rfl)
            · skip
              refine lv_aload_n hx hb dX2_cut_57 rfl (lv_at hl 0 rfl) ?_
              refine lv_iload_n hx hb dX2_cut_58 rfl (lv_at hl 1 rfl) ?_
              refine lv_iload_n hx hb dX2_cut_59 rfl (lv_at hl 3 rfl) ?_
              refine lv_aload_n hx hb dX2_cut_60 rfl (lv_at hl 0 rfl) ?_
              refine z_get (v := .ref (q 23)) hC zf_X2_50_2 hw 0 rfl rfl dX2_cut_61 ?_
              refine lv_bipush (v := (nI 12)) hx hb dX2_cut_64 zb_12 ?_
              refine lv_iload_n hx hb dX2_cut_66 rfl (lv_at hl 1 rfl) ?_
              refine zn_imul hx hb dX2_cut_67 ?_
              refine lv_iload_n hx hb dX2_cut_68 rfl (lv_at hl 3 rfl) ?_
              refine zn_iadd hx hb dX2_cut_69 ?_
              refine lv_iconst (v := (nI 1)) hx hb dX2_cut_70 zk_1 ?_
              refine zn_iadd hx hb dX2_cut_71 ?_
              refine z_iald (x := ((b 23) (12 * t + k + 1))) hC hw 14 rfl (by omega) (by decide) (dnF_rd) dX2_cut_72 ?_
              refine lv_aload_n hx hb dX2_cut_73 rfl (lv_at hl 0 rfl) ?_
              refine z_get (v := .ref (q 24)) hC zf_X2_53_2 hw 0 rfl rfl dX2_cut_74 ?_
              refine lv_bipush (v := (nI 12)) hx hb dX2_cut_77 zb_12 ?_
              refine lv_iload_n hx hb dX2_cut_79 rfl (lv_at hl 1 rfl) ?_
              refine zn_imul hx hb dX2_cut_80 ?_
              refine lv_iload_n hx hb dX2_cut_81 rfl (lv_at hl 3 rfl) ?_
              refine zn_iadd hx hb dX2_cut_82 ?_
              refine lv_iconst (v := (nI 1)) hx hb dX2_cut_83 zk_1 ?_
              refine zn_iadd hx hb dX2_cut_84 ?_
              refine z_iald (x := ((b 24) (12 * t + k + 1))) hC hw 15 rfl (by omega) (by decide) (dnF_rd) dX2_cut_85 ?_
              refine z_cv (z_runV (As := [.int (nI t), .int (nI k), .int ((b 23) (12 * t + k + 1)), .int ((b 24) (12 * t + k + 1))]) (rest := []) hC zv_X2_236 (m_X2_lays G l mo q (f 1) (f 2) (f 3) (f 4) (f 5) (f 6) (f 7) (f 8) (f 14) (f 19) t k ((b 23) (12 * t + k + 1)) ((b 24) (12 * t + k + 1)) (dnF (b 23) (12 * t) p9 k) (dnF (b 24) (12 * t) p9 k) (by omega) (zrem [0, 14, 15] _)) hw (hw.perm (z_cut (is := [0, 14, 15]) (cells := [(mo, zo 2 (mF q (f 1) (f 2) (f 3) (f 4) (f 5) (f 6) (f 7) (f 8) (f 14) (f 19))), (q 23, zc G 0 (zI 36 (dnF (b 23) (12 * t) p9 k))), (q 24, zc G 0 (zI 36 (dnF (b 24) (12 * t) p9 k)))]) rfl rfl)) 0 rfl rfl rfl rfl rfl (Nat.le_of_ble_eq_true rfl) hl.1 ⟨Nat.le_of_ble_eq_true rfl, Nat.le_of_ble_eq_true rfl⟩ ⟨(Nat.le_of_ble_eq_true rfl), (Nat.le_of_ble_eq_true rfl)⟩ dX2_cut_86) hw (fun _ => z_pput (is := [0, 14, 15]) (cells := [(mo, zo 2 (mF q (f 1) (f 2) (f 3) (f 4) (f 5) (f 6) (f 7) (f 8) (f 14) (f 19))), (q 23, zc G 0 (zI 36 (dnF (b 23) (12 * t) p9 k))), (q 24, zc G 0 (zI 36 (dnF (b 24) (12 * t) p9 k)))]) (cells' := [(mo, zo 2 (mF q (f 1) (f 2) (f 3) (f 4) (f 5) (f 6) (f 7) (f 8) (f 14) (f 19))), (q 23, zc G 0 (zI 36 (upd (dnF (b 23) (12 * t) p9 k) (12 * t + k) ((b 23) (12 * t + k + 1))))), (q 24, zc G 0 (zI 36 (upd (dnF (b 24) (12 * t) p9 k) (12 * t + k) ((b 24) (12 * t + k + 1)))))]) rfl rfl rfl) (fun u H locs hp hw => ?_)
              have hw : zS G ((mo, zo 2 (mF q (f 1) (f 2) (f 3) (f 4) (f 5) (f 6) (f 7) (f 8) (f 14) (f 19))) :: (q 0, zc G 0 (zI 200 (b 0))) :: (q 9, zc G 0 (zI 46 (b 9))) :: (q 10, zc G 0 (zI 46 (b 10))) :: (q 11, zc G 0 (zI 46 (b 11))) :: (q 12, zc G 0 (zI 46 (b 12))) :: (q 13, zc G 0 (zI 368 (b 13))) :: (q 15, zc G 0 (zI 92 (b 15))) :: (q 16, zc G 3 (zI 2 (b 16))) :: (q 17, zc G 0 (zI 5 (b 17))) :: (q 18, zc G 0 (zI 24 (b 18))) :: (q 20, zc G 0 (zI 3 (b 20))) :: (q 21, zc G 0 (zI 3 (b 21))) :: (q 22, zc G 0 (zI 3 (b 22))) :: (q 23, zc G 0 (zI 36 (upd (dnF (b 23) (12 * t) p9 k) (12 * t + k) ((b 23) (12 * t + k + 1))))) :: (q 24, zc G 0 (zI 36 (upd (dnF (b 24) (12 * t) p9 k) (12 * t + k) ((b 24) (12 * t + k + 1))))) :: rest) s H locs := hw
              have hw : zS G ((mo, zo 2 (mF q (f 1) (f 2) (f 3) (f 4) (f 5) (f 6) (f 7) (f 8) (f 14) (f 19))) :: (q 0, zc G 0 (zI 200 (b 0))) :: (q 9, zc G 0 (zI 46 (b 9))) :: (q 10, zc G 0 (zI 46 (b 10))) :: (q 11, zc G 0 (zI 46 (b 11))) :: (q 12, zc G 0 (zI 46 (b 12))) :: (q 13, zc G 0 (zI 368 (b 13))) :: (q 15, zc G 0 (zI 92 (b 15))) :: (q 16, zc G 3 (zI 2 (b 16))) :: (q 17, zc G 0 (zI 5 (b 17))) :: (q 18, zc G 0 (zI 24 (b 18))) :: (q 20, zc G 0 (zI 3 (b 20))) :: (q 21, zc G 0 (zI 3 (b 21))) :: (q 22, zc G 0 (zI 3 (b 22))) :: (q 23, zc G 0 (zI 36 (dnF (b 23) (12 * t) p9 (k + 1)))) :: (q 24, zc G 0 (zI 36 (dnF (b 24) (12 * t) p9 (k + 1)))) :: rest) s H locs := by rw [← dnF_upd (b 23) hk1, ← dnF_upd (b 24) hk1]; exact hw
              refine lv_iinc (v := (nI (k + 1))) (lv' := [(3, .int (nI (k + 1))), (0, .ref mo), (1, .int (nI t)), (2, .int (nI p9))]) hx hb dX2_cut_89 hl (k := 3) rfl (zincn _ 1) (by decide) rfl (fun ls hl => ?_)
              refine lv_goto (tgt := 45) hx hb dX2_cut_92 (by decide) ?_
              exact ih_45 (k + 1) (by omega) (by omega) (by omega) H locs ls hw (lv_sub hl [1, 2, 3, 0] rfl)
        exact loop_45 ((l9.length - p9) + 1) p9 (by omega) (by omega) (Nat.lt_succ_self _) H locs ls hw (lv_sub hl [2, 3, 1, 0] rfl)
  · skip
    refine lv_bipush (v := (-2)) hx hb dX2_cut_7 zb_m2 ?_
    exact hend _ _ _ _ _ _ _ (b, mf (f 1) (f 2) (f 3) (f 4) (f 5) (f 6) (f 7) (f 8) (f 14) (f 19)) hw (by rw [show F_cut A x = _ from ifP_f c_4]; exact ⟨rfl, ⟨⟨hT, hL⟩, hV0, hV, ⟨hU, hUs⟩, hKp, ⟨hSi, hSg⟩, (fun t ht => tRel_of rfl rfl rfl rfl rfl (hTr t ht))⟩⟩) (by omega) (by omega) dX2_cut_9
set_option maxHeartbeats 4000000 in
theorem m_X2_rewind (G : zE) (l : Launch) (mo : Nat) (q : Nat → Nat) (A : AS) (b : Nat → Nat → Int32) (f : Nat → Int32) (hA : AOk A) (hM : MRel A b f) (x : Int32) (rest : va_W) : zMi G l yX2_rewind cX2_rewind 3 (some .int) 2 0 0 [.ref mo, .int x] ((mo, zo 2 (mF q (f 1) (f 2) (f 3) (f 4) (f 5) (f 6) (f 7) (f 8) (f 14) (f 19))) :: (q 0, zc G 0 (zI 200 (b 0))) :: (q 9, zc G 0 (zI 46 (b 9))) :: (q 10, zc G 0 (zI 46 (b 10))) :: (q 11, zc G 0 (zI 46 (b 11))) :: (q 12, zc G 0 (zI 46 (b 12))) :: (q 13, zc G 0 (zI 368 (b 13))) :: (q 15, zc G 0 (zI 92 (b 15))) :: (q 16, zc G 3 (zI 2 (b 16))) :: (q 17, zc G 0 (zI 5 (b 17))) :: (q 18, zc G 0 (zI 24 (b 18))) :: (q 20, zc G 0 (zI 3 (b 20))) :: (q 21, zc G 0 (zI 3 (b 21))) :: (q 22, zc G 0 (zI 3 (b 22))) :: (q 23, zc G 0 (zI 36 (b 23))) :: (q 24, zc G 0 (zI 36 (b 24))) :: rest) (fun (r : Int32) (u : MB) => r = (F_rewind A x).1 ∧ MRel (F_rewind A x).2 u.1 u.2) (fun (u : MB) => (mo, zo 2 (mF q (u.2 1) (u.2 2) (u.2 3) (u.2 4) (u.2 5) (u.2 6) (u.2 7) (u.2 8) (u.2 14) (u.2 19))) :: (q 0, zc G 0 (zI 200 (u.1 0))) :: (q 9, zc G 0 (zI 46 (u.1 9))) :: (q 10, zc G 0 (zI 46 (u.1 10))) :: (q 11, zc G 0 (zI 46 (u.1 11))) :: (q 12, zc G 0 (zI 46 (u.1 12))) :: (q 13, zc G 0 (zI 368 (u.1 13))) :: (q 15, zc G 0 (zI 92 (u.1 15))) :: (q 16, zc G 3 (zI 2 (u.1 16))) :: (q 17, zc G 0 (zI 5 (u.1 17))) :: (q 18, zc G 0 (zI 24 (u.1 18))) :: (q 20, zc G 0 (zI 3 (u.1 20))) :: (q 21, zc G 0 (zI 3 (u.1 21))) :: (q 22, zc G 0 (zI 3 (u.1 22))) :: (q 23, zc G 0 (zI 36 (u.1 23))) :: (q 24, zc G 0 (zI 36 (u.1 24))) :: rest) := by
  refine z_begI (by decide) (Nat.le_of_ble_eq_true rfl) (fun p e s m args below meth c ls Q hC hl hw hend => ?_)
  have hx := hC.hx
  have hb := hC.hb
  have hl : lv_has ls 3 [(0, .ref mo), (1, .int x)] := hl
  have hw : zS G ((mo, zo 2 (mF q (f 1) (f 2) (f 3) (f 4) (f 5) (f 6) (f 7) (f 8) (f 14) (f 19))) :: (q 0, zc G 0 (zI 200 (b 0))) :: (q 9, zc G 0 (zI 46 (b 9))) :: (q 10, zc G 0 (zI 46 (b 10))) :: (q 11, zc G 0 (zI 46 (b 11))) :: (q 12, zc G 0 (zI 46 (b 12))) :: (q 13, zc G 0 (zI 368 (b 13))) :: (q 15, zc G 0 (zI 92 (b 15))) :: (q 16, zc G 3 (zI 2 (b 16))) :: (q 17, zc G 0 (zI 5 (b 17))) :: (q 18, zc G 0 (zI 24 (b 18))) :: (q 20, zc G 0 (zI 3 (b 20))) :: (q 21, zc G 0 (zI 3 (b 21))) :: (q 22, zc G 0 (zI 3 (b 22))) :: (q 23, zc G 0 (zI 36 (b 23))) :: (q 24, zc G 0 (zI 36 (b 24))) :: rest) s s.heap [] := hw
  have hA9 := hA
  obtain ⟨⟨hT, hL⟩, hV0, hV, ⟨hU, hUs⟩, hKp, ⟨hSi, hSg⟩, hTr⟩ := hM
  obtain ⟨⟨hL2, hT2⟩, hB0, hBv, ⟨hU8, hUb⟩, hKb, ⟨hS6, hSb⟩, hTb⟩ := hA
  have hH : Hw (aV A) := hBv.1.1
  have hday := hBv.2.2
  have hw : zS G ((mo, zo 2 (mF q (f 1) (f 2) (f 3) (f 4) (f 5) (f 6) (f 7) (f 8) (f 14) (f 19))) :: (q 0, zc G 0 (zI 200 (b 0))) :: (q 9, zc G 0 (zI 46 (b 9))) :: (q 10, zc G 0 (zI 46 (b 10))) :: (q 11, zc G 0 (zI 46 (b 11))) :: (q 12, zc G 0 (zI 46 (b 12))) :: (q 13, zc G 0 (zI 368 (b 13))) :: (q 15, zc G 0 (zI 92 (b 15))) :: (q 16, zc G 3 (zI 2 (b 16))) :: (q 17, zc G 0 (zI 5 (b 17))) :: (q 18, zc G 0 (zI 24 (b 18))) :: (q 20, zc G 0 (zI 3 (b 20))) :: (q 21, zc G 0 (zI 3 (b 21))) :: (q 22, zc G 0 (zI 3 (b 22))) :: (q 23, zc G 0 (zI 36 (b 23))) :: (q 24, zc G 0 (zI 36 (b 24))) :: rest) s s.heap [] := hw
  refine lv_iload_n hx hb dX2_rewind_0 rfl (lv_at hl 1 rfl) ?_
  refine z_ci (z_runS (As := [.int x]) (rest := []) hC zs_X2_229 (m_X2_isTrail G l x _) hw rfl rfl (Nat.le_of_ble_eq_true rfl) hl.1 ⟨Nat.le_of_ble_eq_true rfl, Nat.le_of_ble_eq_true rfl⟩ ⟨(Nat.le_of_ble_eq_true rfl), (Nat.le_of_ble_eq_true rfl)⟩ dX2_rewind_1) hw (fun _ => List.Perm.refl _) (fun r u H locs hp hw => ?_)
  obtain rfl : r = bI (inR x 0 2) := hp
  refine zb_ne (tgt := 10) hx hb dX2_rewind_4 (by decide) (fun c_4 => ?_) (fun c_4 => ?_)
  · skip
    obtain ⟨t, ht1, ht2, rfl⟩ := c_4
    have hl : lv_has ls 3 [(0, .ref mo), (1, .int (nI t))] := hl
    have hT9 := hTr t (by omega)
    refine lv_aload_n hx hb dX2_rewind_10 rfl (lv_at hl 0 rfl) ?_
    refine z_get (v := .ref (q 20)) hC zf_X2_41_2 hw 0 rfl rfl dX2_rewind_11 ?_
    refine lv_iload_n hx hb dX2_rewind_14 rfl (lv_at hl 1 rfl) ?_
    refine z_iald (x := ((b 20) t)) hC hw 11 rfl (by omega) (by decide) rfl dX2_rewind_15 ?_
    rcases htr : aTr A t with _ | ⟨l9, h9, c9⟩
    · skip
      rw [htr] at hT9
      rw [show (b 20) t = -1 from hT9]
      have hl : lv_has ls 3 [(0, .ref mo), (1, .int (nI t))] := hl
      have hw : zS G ((mo, zo 2 (mF q (f 1) (f 2) (f 3) (f 4) (f 5) (f 6) (f 7) (f 8) (f 14) (f 19))) :: (q 0, zc G 0 (zI 200 (b 0))) :: (q 9, zc G 0 (zI 46 (b 9))) :: (q 10, zc G 0 (zI 46 (b 10))) :: (q 11, zc G 0 (zI 46 (b 11))) :: (q 12, zc G 0 (zI 46 (b 12))) :: (q 13, zc G 0 (zI 368 (b 13))) :: (q 15, zc G 0 (zI 92 (b 15))) :: (q 16, zc G 3 (zI 2 (b 16))) :: (q 17, zc G 0 (zI 5 (b 17))) :: (q 18, zc G 0 (zI 24 (b 18))) :: (q 20, zc G 0 (zI 3 (b 20))) :: (q 21, zc G 0 (zI 3 (b 21))) :: (q 22, zc G 0 (zI 3 (b 22))) :: (q 23, zc G 0 (zI 36 (b 23))) :: (q 24, zc G 0 (zI 36 (b 24))) :: rest) s H locs := hw
      refine lv_iconst (v := -1) hx hb dX2_rewind_16 zk_m1 ?_
      refine lv_icmp_ne (tgt := 23) hx hb dX2_rewind_17 (by decide) (fun h => absurd h (by decide)) (fun _ => ?_)
      refine lv_bipush (v := (-11)) hx hb dX2_rewind_20 zb_m11 ?_
      exact hend _ _ _ _ _ _ _ (b, mf (f 1) (f 2) (f 3) (f 4) (f 5) (f 6) (f 7) (f 8) (f 14) (f 19)) hw (by rw [F_rewind_none ht2 htr]; exact ⟨rfl, ⟨⟨hT, hL⟩, hV0, hV, ⟨hU, hUs⟩, hKp, ⟨hSi, hSg⟩, (fun t ht => tRel_of rfl rfl rfl rfl rfl (hTr t ht))⟩⟩) (by omega) (by omega) dX2_rewind_22
    · skip
      rw [htr] at hT9
      obtain ⟨hm, hh, hc, hit⟩ := hT9
      obtain ⟨hlen, hhl, hcl, hok⟩ := hTb t (by omega) l9 h9 c9 htr
      rw [show (b 20) t = nI (l9.length) from hm]
      have hl : lv_has ls 3 [(0, .ref mo), (1, .int (nI t))] := hl
      have hw : zS G ((mo, zo 2 (mF q (f 1) (f 2) (f 3) (f 4) (f 5) (f 6) (f 7) (f 8) (f 14) (f 19))) :: (q 0, zc G 0 (zI 200 (b 0))) :: (q 9, zc G 0 (zI 46 (b 9))) :: (q 10, zc G 0 (zI 46 (b 10))) :: (q 11, zc G 0 (zI 46 (b 11))) :: (q 12, zc G 0 (zI 46 (b 12))) :: (q 13, zc G 0 (zI 368 (b 13))) :: (q 15, zc G 0 (zI 92 (b 15))) :: (q 16, zc G 3 (zI 2 (b 16))) :: (q 17, zc G 0 (zI 5 (b 17))) :: (q 18, zc G 0 (zI 24 (b 18))) :: (q 20, zc G 0 (zI 3 (b 20))) :: (q 21, zc G 0 (zI 3 (b 21))) :: (q 22, zc G 0 (zI 3 (b 22))) :: (q 23, zc G 0 (zI 36 (b 23))) :: (q 24, zc G 0 (zI 36 (b 24))) :: rest) s H locs := hw
      refine lv_iconst (v := -1) hx hb dX2_rewind_16 zk_m1 ?_
      refine lv_icmp_ne (tgt := 23) hx hb dX2_rewind_17 (by decide) (fun _ => ?_) (fun h => absurd h (nI_nm1 (by omega)))
      refine lv_aload_n hx hb dX2_rewind_23 rfl (lv_at hl 0 rfl) ?_
      refine z_get (v := .ref (q 21)) hC zf_X2_44_2 hw 0 rfl rfl dX2_rewind_24 ?_
      refine lv_iload_n hx hb dX2_rewind_27 rfl (lv_at hl 1 rfl) ?_
      refine z_iald (x := (nI h9)) hC hw 12 rfl (by omega) (by decide) hh dX2_rewind_28 ?_
      refine lv_istore_n (lv' := [(2, .int (nI h9)), (0, .ref mo), (1, .int (nI t))]) hx hb dX2_rewind_29 rfl hl (by decide) rfl (fun ls hl => ?_)
      refine lv_aload_n hx hb dX2_rewind_30 rfl (lv_at hl 1 rfl) ?_
      refine z_get (v := .ref (q 21)) hC zf_X2_44_2 hw 0 rfl rfl dX2_rewind_31 ?_
      refine lv_iload_n hx hb dX2_rewind_34 rfl (lv_at hl 2 rfl) ?_
      refine lv_iconst (v := (nI 0)) hx hb dX2_rewind_35 zk_0 ?_
      refine z_iast (f' := upd (b 21) t (nI 0)) hC hw 12 rfl (by omega) (by decide) rfl dX2_rewind_36 (fun H locs hw => ?_)
      have hw : zS G ((mo, zo 2 (mF q (f 1) (f 2) (f 3) (f 4) (f 5) (f 6) (f 7) (f 8) (f 14) (f 19))) :: (q 0, zc G 0 (zI 200 (b 0))) :: (q 9, zc G 0 (zI 46 (b 9))) :: (q 10, zc G 0 (zI 46 (b 10))) :: (q 11, zc G 0 (zI 46 (b 11))) :: (q 12, zc G 0 (zI 46 (b 12))) :: (q 13, zc G 0 (zI 368 (b 13))) :: (q 15, zc G 0 (zI 92 (b 15))) :: (q 16, zc G 3 (zI 2 (b 16))) :: (q 17, zc G 0 (zI 5 (b 17))) :: (q 18, zc G 0 (zI 24 (b 18))) :: (q 20, zc G 0 (zI 3 (b 20))) :: (q 21, zc G 0 (zI 3 (upd (b 21) t (nI 0)))) :: (q 22, zc G 0 (zI 3 (b 22))) :: (q 23, zc G 0 (zI 36 (b 23))) :: (q 24, zc G 0 (zI 36 (b 24))) :: rest) s H locs := hw
      refine lv_aload_n hx hb dX2_rewind_37 rfl (lv_at hl 1 rfl) ?_
      refine z_get (v := .ref (q 22)) hC zf_X2_47_2 hw 0 rfl rfl dX2_rewind_38 ?_
      refine lv_iload_n hx hb dX2_rewind_41 rfl (lv_at hl 2 rfl) ?_
      refine lv_iconst (v := -1) hx hb dX2_rewind_42 zk_m1 ?_
      refine z_iast (f' := upd (b 22) t (-1)) hC hw 13 rfl (by omega) (by decide) rfl dX2_rewind_43 (fun H locs hw => ?_)
      have hw : zS G ((mo, zo 2 (mF q (f 1) (f 2) (f 3) (f 4) (f 5) (f 6) (f 7) (f 8) (f 14) (f 19))) :: (q 0, zc G 0 (zI 200 (b 0))) :: (q 9, zc G 0 (zI 46 (b 9))) :: (q 10, zc G 0 (zI 46 (b 10))) :: (q 11, zc G 0 (zI 46 (b 11))) :: (q 12, zc G 0 (zI 46 (b 12))) :: (q 13, zc G 0 (zI 368 (b 13))) :: (q 15, zc G 0 (zI 92 (b 15))) :: (q 16, zc G 3 (zI 2 (b 16))) :: (q 17, zc G 0 (zI 5 (b 17))) :: (q 18, zc G 0 (zI 24 (b 18))) :: (q 20, zc G 0 (zI 3 (b 20))) :: (q 21, zc G 0 (zI 3 (upd (b 21) t (nI 0)))) :: (q 22, zc G 0 (zI 3 (upd (b 22) t (-1)))) :: (q 23, zc G 0 (zI 36 (b 23))) :: (q 24, zc G 0 (zI 36 (b 24))) :: rest) s H locs := hw
      refine lv_iload_n hx hb dX2_rewind_44 rfl (lv_at hl 0 rfl) ?_
      exact hend _ _ _ _ _ _ _ ((bU (bU b 21 (upd (b 21) t (nI 0))) 22 (upd (b 22) t (-1))), mf (f 1) (f 2) (f 3) (f 4) (f 5) (f 6) (f 7) (f 8) (f 14) (f 19)) hw (by rw [F_rewind_ok ht2 htr]; exact ⟨rfl, ⟨⟨hT, hL⟩, hV0, hV, ⟨hU, hUs⟩, hKp, ⟨hSi, hSg⟩, (Tr_up hA9 hTr (fun t' _ hne => ⟨rfl, upd_ne' hne, upd_ne' hne, fun _ _ => ⟨rfl, rfl⟩⟩) ⟨hm, upd_s, upd_s, hit⟩)⟩⟩) (by omega) (by omega) dX2_rewind_45
  · skip
    refine lv_bipush (v := (-2)) hx hb dX2_rewind_7 zb_m2 ?_
    exact hend _ _ _ _ _ _ _ (b, mf (f 1) (f 2) (f 3) (f 4) (f 5) (f 6) (f 7) (f 8) (f 14) (f 19)) hw (by rw [show F_rewind A x = _ from ifP_f c_4]; exact ⟨rfl, ⟨⟨hT, hL⟩, hV0, hV, ⟨hU, hUs⟩, hKp, ⟨hSi, hSg⟩, (fun t ht => tRel_of rfl rfl rfl rfl rfl (hTr t ht))⟩⟩) (by omega) (by omega) dX2_rewind_9
set_option maxHeartbeats 4000000 in
theorem m_X2_drop (G : zE) (l : Launch) (mo : Nat) (q : Nat → Nat) (A : AS) (b : Nat → Nat → Int32) (f : Nat → Int32) (hA : AOk A) (hM : MRel A b f) (x : Int32) (rest : va_W) : zMi G l yX2_drop cX2_drop 3 (some .int) 2 0 0 [.ref mo, .int x] ((mo, zo 2 (mF q (f 1) (f 2) (f 3) (f 4) (f 5) (f 6) (f 7) (f 8) (f 14) (f 19))) :: (q 0, zc G 0 (zI 200 (b 0))) :: (q 9, zc G 0 (zI 46 (b 9))) :: (q 10, zc G 0 (zI 46 (b 10))) :: (q 11, zc G 0 (zI 46 (b 11))) :: (q 12, zc G 0 (zI 46 (b 12))) :: (q 13, zc G 0 (zI 368 (b 13))) :: (q 15, zc G 0 (zI 92 (b 15))) :: (q 16, zc G 3 (zI 2 (b 16))) :: (q 17, zc G 0 (zI 5 (b 17))) :: (q 18, zc G 0 (zI 24 (b 18))) :: (q 20, zc G 0 (zI 3 (b 20))) :: (q 21, zc G 0 (zI 3 (b 21))) :: (q 22, zc G 0 (zI 3 (b 22))) :: (q 23, zc G 0 (zI 36 (b 23))) :: (q 24, zc G 0 (zI 36 (b 24))) :: rest) (fun (r : Int32) (u : MB) => r = (F_drop A x).1 ∧ MRel (F_drop A x).2 u.1 u.2) (fun (u : MB) => (mo, zo 2 (mF q (u.2 1) (u.2 2) (u.2 3) (u.2 4) (u.2 5) (u.2 6) (u.2 7) (u.2 8) (u.2 14) (u.2 19))) :: (q 0, zc G 0 (zI 200 (u.1 0))) :: (q 9, zc G 0 (zI 46 (u.1 9))) :: (q 10, zc G 0 (zI 46 (u.1 10))) :: (q 11, zc G 0 (zI 46 (u.1 11))) :: (q 12, zc G 0 (zI 46 (u.1 12))) :: (q 13, zc G 0 (zI 368 (u.1 13))) :: (q 15, zc G 0 (zI 92 (u.1 15))) :: (q 16, zc G 3 (zI 2 (u.1 16))) :: (q 17, zc G 0 (zI 5 (u.1 17))) :: (q 18, zc G 0 (zI 24 (u.1 18))) :: (q 20, zc G 0 (zI 3 (u.1 20))) :: (q 21, zc G 0 (zI 3 (u.1 21))) :: (q 22, zc G 0 (zI 3 (u.1 22))) :: (q 23, zc G 0 (zI 36 (u.1 23))) :: (q 24, zc G 0 (zI 36 (u.1 24))) :: rest) := by
  refine z_begI (by decide) (Nat.le_of_ble_eq_true rfl) (fun p e s m args below meth c ls Q hC hl hw hend => ?_)
  have hx := hC.hx
  have hb := hC.hb
  have hl : lv_has ls 3 [(0, .ref mo), (1, .int x)] := hl
  have hw : zS G ((mo, zo 2 (mF q (f 1) (f 2) (f 3) (f 4) (f 5) (f 6) (f 7) (f 8) (f 14) (f 19))) :: (q 0, zc G 0 (zI 200 (b 0))) :: (q 9, zc G 0 (zI 46 (b 9))) :: (q 10, zc G 0 (zI 46 (b 10))) :: (q 11, zc G 0 (zI 46 (b 11))) :: (q 12, zc G 0 (zI 46 (b 12))) :: (q 13, zc G 0 (zI 368 (b 13))) :: (q 15, zc G 0 (zI 92 (b 15))) :: (q 16, zc G 3 (zI 2 (b 16))) :: (q 17, zc G 0 (zI 5 (b 17))) :: (q 18, zc G 0 (zI 24 (b 18))) :: (q 20, zc G 0 (zI 3 (b 20))) :: (q 21, zc G 0 (zI 3 (b 21))) :: (q 22, zc G 0 (zI 3 (b 22))) :: (q 23, zc G 0 (zI 36 (b 23))) :: (q 24, zc G 0 (zI 36 (b 24))) :: rest) s s.heap [] := hw
  have hA9 := hA
  obtain ⟨⟨hT, hL⟩, hV0, hV, ⟨hU, hUs⟩, hKp, ⟨hSi, hSg⟩, hTr⟩ := hM
  obtain ⟨⟨hL2, hT2⟩, hB0, hBv, ⟨hU8, hUb⟩, hKb, ⟨hS6, hSb⟩, hTb⟩ := hA
  have hH : Hw (aV A) := hBv.1.1
  have hday := hBv.2.2
  have hw : zS G ((mo, zo 2 (mF q (f 1) (f 2) (f 3) (f 4) (f 5) (f 6) (f 7) (f 8) (f 14) (f 19))) :: (q 0, zc G 0 (zI 200 (b 0))) :: (q 9, zc G 0 (zI 46 (b 9))) :: (q 10, zc G 0 (zI 46 (b 10))) :: (q 11, zc G 0 (zI 46 (b 11))) :: (q 12, zc G 0 (zI 46 (b 12))) :: (q 13, zc G 0 (zI 368 (b 13))) :: (q 15, zc G 0 (zI 92 (b 15))) :: (q 16, zc G 3 (zI 2 (b 16))) :: (q 17, zc G 0 (zI 5 (b 17))) :: (q 18, zc G 0 (zI 24 (b 18))) :: (q 20, zc G 0 (zI 3 (b 20))) :: (q 21, zc G 0 (zI 3 (b 21))) :: (q 22, zc G 0 (zI 3 (b 22))) :: (q 23, zc G 0 (zI 36 (b 23))) :: (q 24, zc G 0 (zI 36 (b 24))) :: rest) s s.heap [] := hw
  refine lv_iload_n hx hb dX2_drop_0 rfl (lv_at hl 1 rfl) ?_
  refine z_ci (z_runS (As := [.int x]) (rest := []) hC zs_X2_229 (m_X2_isTrail G l x _) hw rfl rfl (Nat.le_of_ble_eq_true rfl) hl.1 ⟨Nat.le_of_ble_eq_true rfl, Nat.le_of_ble_eq_true rfl⟩ ⟨(Nat.le_of_ble_eq_true rfl), (Nat.le_of_ble_eq_true rfl)⟩ dX2_drop_1) hw (fun _ => List.Perm.refl _) (fun r u H locs hp hw => ?_)
  obtain rfl : r = bI (inR x 0 2) := hp
  refine zb_ne (tgt := 10) hx hb dX2_drop_4 (by decide) (fun c_4 => ?_) (fun c_4 => ?_)
  · skip
    obtain ⟨t, ht1, ht2, rfl⟩ := c_4
    have hl : lv_has ls 3 [(0, .ref mo), (1, .int (nI t))] := hl
    have hT9 := hTr t (by omega)
    refine lv_aload_n hx hb dX2_drop_10 rfl (lv_at hl 0 rfl) ?_
    refine z_get (v := .ref (q 20)) hC zf_X2_41_2 hw 0 rfl rfl dX2_drop_11 ?_
    refine lv_iload_n hx hb dX2_drop_14 rfl (lv_at hl 1 rfl) ?_
    refine z_iald (x := ((b 20) t)) hC hw 11 rfl (by omega) (by decide) rfl dX2_drop_15 ?_
    rcases htr : aTr A t with _ | ⟨l9, h9, c9⟩
    · skip
      rw [htr] at hT9
      rw [show (b 20) t = -1 from hT9]
      have hl : lv_has ls 3 [(0, .ref mo), (1, .int (nI t))] := hl
      have hw : zS G ((mo, zo 2 (mF q (f 1) (f 2) (f 3) (f 4) (f 5) (f 6) (f 7) (f 8) (f 14) (f 19))) :: (q 0, zc G 0 (zI 200 (b 0))) :: (q 9, zc G 0 (zI 46 (b 9))) :: (q 10, zc G 0 (zI 46 (b 10))) :: (q 11, zc G 0 (zI 46 (b 11))) :: (q 12, zc G 0 (zI 46 (b 12))) :: (q 13, zc G 0 (zI 368 (b 13))) :: (q 15, zc G 0 (zI 92 (b 15))) :: (q 16, zc G 3 (zI 2 (b 16))) :: (q 17, zc G 0 (zI 5 (b 17))) :: (q 18, zc G 0 (zI 24 (b 18))) :: (q 20, zc G 0 (zI 3 (b 20))) :: (q 21, zc G 0 (zI 3 (b 21))) :: (q 22, zc G 0 (zI 3 (b 22))) :: (q 23, zc G 0 (zI 36 (b 23))) :: (q 24, zc G 0 (zI 36 (b 24))) :: rest) s H locs := hw
      refine lv_iconst (v := -1) hx hb dX2_drop_16 zk_m1 ?_
      refine lv_icmp_ne (tgt := 23) hx hb dX2_drop_17 (by decide) (fun h => absurd h (by decide)) (fun _ => ?_)
      refine lv_bipush (v := (-11)) hx hb dX2_drop_20 zb_m11 ?_
      exact hend _ _ _ _ _ _ _ (b, mf (f 1) (f 2) (f 3) (f 4) (f 5) (f 6) (f 7) (f 8) (f 14) (f 19)) hw (by rw [F_drop_none ht2 htr]; exact ⟨rfl, ⟨⟨hT, hL⟩, hV0, hV, ⟨hU, hUs⟩, hKp, ⟨hSi, hSg⟩, (fun t ht => tRel_of rfl rfl rfl rfl rfl (hTr t ht))⟩⟩) (by omega) (by omega) dX2_drop_22
    · skip
      rw [htr] at hT9
      obtain ⟨hm, hh, hc, hit⟩ := hT9
      obtain ⟨hlen, hhl, hcl, hok⟩ := hTb t (by omega) l9 h9 c9 htr
      rw [show (b 20) t = nI (l9.length) from hm]
      have hl : lv_has ls 3 [(0, .ref mo), (1, .int (nI t))] := hl
      have hw : zS G ((mo, zo 2 (mF q (f 1) (f 2) (f 3) (f 4) (f 5) (f 6) (f 7) (f 8) (f 14) (f 19))) :: (q 0, zc G 0 (zI 200 (b 0))) :: (q 9, zc G 0 (zI 46 (b 9))) :: (q 10, zc G 0 (zI 46 (b 10))) :: (q 11, zc G 0 (zI 46 (b 11))) :: (q 12, zc G 0 (zI 46 (b 12))) :: (q 13, zc G 0 (zI 368 (b 13))) :: (q 15, zc G 0 (zI 92 (b 15))) :: (q 16, zc G 3 (zI 2 (b 16))) :: (q 17, zc G 0 (zI 5 (b 17))) :: (q 18, zc G 0 (zI 24 (b 18))) :: (q 20, zc G 0 (zI 3 (b 20))) :: (q 21, zc G 0 (zI 3 (b 21))) :: (q 22, zc G 0 (zI 3 (b 22))) :: (q 23, zc G 0 (zI 36 (b 23))) :: (q 24, zc G 0 (zI 36 (b 24))) :: rest) s H locs := hw
      refine lv_iconst (v := -1) hx hb dX2_drop_16 zk_m1 ?_
      refine lv_icmp_ne (tgt := 23) hx hb dX2_drop_17 (by decide) (fun _ => ?_) (fun h => absurd h (nI_nm1 (by omega)))
      refine lv_aload_n hx hb dX2_drop_23 rfl (lv_at hl 0 rfl) ?_
      refine z_get (v := .ref (q 20)) hC zf_X2_41_2 hw 0 rfl rfl dX2_drop_24 ?_
      refine lv_iload_n hx hb dX2_drop_27 rfl (lv_at hl 1 rfl) ?_
      refine z_iald (x := (nI (l9.length))) hC hw 11 rfl (by omega) (by decide) hm dX2_drop_28 ?_
      refine lv_istore_n (lv' := [(2, .int (nI (l9.length))), (0, .ref mo), (1, .int (nI t))]) hx hb dX2_drop_29 rfl hl (by decide) rfl (fun ls hl => ?_)
      refine lv_aload_n hx hb dX2_drop_30 rfl (lv_at hl 1 rfl) ?_
      refine z_get (v := .ref (q 20)) hC zf_X2_41_2 hw 0 rfl rfl dX2_drop_31 ?_
      refine lv_iload_n hx hb dX2_drop_34 rfl (lv_at hl 2 rfl) ?_
      refine lv_iconst (v := -1) hx hb dX2_drop_35 zk_m1 ?_
      refine z_iast (f' := upd (b 20) t (-1)) hC hw 11 rfl (by omega) (by decide) rfl dX2_drop_36 (fun H locs hw => ?_)
      have hw : zS G ((mo, zo 2 (mF q (f 1) (f 2) (f 3) (f 4) (f 5) (f 6) (f 7) (f 8) (f 14) (f 19))) :: (q 0, zc G 0 (zI 200 (b 0))) :: (q 9, zc G 0 (zI 46 (b 9))) :: (q 10, zc G 0 (zI 46 (b 10))) :: (q 11, zc G 0 (zI 46 (b 11))) :: (q 12, zc G 0 (zI 46 (b 12))) :: (q 13, zc G 0 (zI 368 (b 13))) :: (q 15, zc G 0 (zI 92 (b 15))) :: (q 16, zc G 3 (zI 2 (b 16))) :: (q 17, zc G 0 (zI 5 (b 17))) :: (q 18, zc G 0 (zI 24 (b 18))) :: (q 20, zc G 0 (zI 3 (upd (b 20) t (-1)))) :: (q 21, zc G 0 (zI 3 (b 21))) :: (q 22, zc G 0 (zI 3 (b 22))) :: (q 23, zc G 0 (zI 36 (b 23))) :: (q 24, zc G 0 (zI 36 (b 24))) :: rest) s H locs := hw
      refine lv_aload_n hx hb dX2_drop_37 rfl (lv_at hl 1 rfl) ?_
      refine z_get (v := .ref (q 22)) hC zf_X2_47_2 hw 0 rfl rfl dX2_drop_38 ?_
      refine lv_iload_n hx hb dX2_drop_41 rfl (lv_at hl 2 rfl) ?_
      refine lv_iconst (v := -1) hx hb dX2_drop_42 zk_m1 ?_
      refine z_iast (f' := upd (b 22) t (-1)) hC hw 13 rfl (by omega) (by decide) rfl dX2_drop_43 (fun H locs hw => ?_)
      have hw : zS G ((mo, zo 2 (mF q (f 1) (f 2) (f 3) (f 4) (f 5) (f 6) (f 7) (f 8) (f 14) (f 19))) :: (q 0, zc G 0 (zI 200 (b 0))) :: (q 9, zc G 0 (zI 46 (b 9))) :: (q 10, zc G 0 (zI 46 (b 10))) :: (q 11, zc G 0 (zI 46 (b 11))) :: (q 12, zc G 0 (zI 46 (b 12))) :: (q 13, zc G 0 (zI 368 (b 13))) :: (q 15, zc G 0 (zI 92 (b 15))) :: (q 16, zc G 3 (zI 2 (b 16))) :: (q 17, zc G 0 (zI 5 (b 17))) :: (q 18, zc G 0 (zI 24 (b 18))) :: (q 20, zc G 0 (zI 3 (upd (b 20) t (-1)))) :: (q 21, zc G 0 (zI 3 (b 21))) :: (q 22, zc G 0 (zI 3 (upd (b 22) t (-1)))) :: (q 23, zc G 0 (zI 36 (b 23))) :: (q 24, zc G 0 (zI 36 (b 24))) :: rest) s H locs := hw
      refine lv_iload_n hx hb dX2_drop_44 rfl (lv_at hl 0 rfl) ?_
      exact hend _ _ _ _ _ _ _ ((bU (bU b 20 (upd (b 20) t (-1))) 22 (upd (b 22) t (-1))), mf (f 1) (f 2) (f 3) (f 4) (f 5) (f 6) (f 7) (f 8) (f 14) (f 19)) hw (by rw [F_drop_ok ht2 htr]; exact ⟨rfl, ⟨⟨hT, hL⟩, hV0, hV, ⟨hU, hUs⟩, hKp, ⟨hSi, hSg⟩, (Tr_up hA9 hTr (fun t' _ hne => ⟨upd_ne' hne, rfl, upd_ne' hne, fun _ _ => ⟨rfl, rfl⟩⟩) upd_s)⟩⟩) (by omega) (by omega) dX2_drop_45
  · skip
    refine lv_bipush (v := (-2)) hx hb dX2_drop_7 zb_m2 ?_
    exact hend _ _ _ _ _ _ _ (b, mf (f 1) (f 2) (f 3) (f 4) (f 5) (f 6) (f 7) (f 8) (f 14) (f 19)) hw (by rw [show F_drop A x = _ from ifP_f c_4]; exact ⟨rfl, ⟨⟨hT, hL⟩, hV0, hV, ⟨hU, hUs⟩, hKp, ⟨hSi, hSg⟩, (fun t ht => tRel_of rfl rfl rfl rfl rfl (hTr t ht))⟩⟩) (by omega) (by omega) dX2_drop_9
