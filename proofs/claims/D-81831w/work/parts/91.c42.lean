/-! READER: numbers -/
set_option maxRecDepth 100000
theorem in_lL {x lo : Int32} : lg_cmp (iL x) (iL lo) < 0 ↔ ¬ lo ≤ x := by
  rw [lg_neg, iL_toInt, iL_toInt, Int32.not_le, Int32.lt_iff_toInt_lt]
theorem wL_tL {tx : Nat → Nat} {n p : Nat} (h : tK tx n p = 1 ∨ tK tx n p = 2) : wL tx n p = tL tx n p := by
  unfold wL tL tS; rw [if_neg (by omega), Nat.add_zero]
theorem wL_0 {tx : Nat → Nat} {n p : Nat} (hf : ¬ tF tx n p < n) : wL tx n p = 0 := by
  unfold wL tS tE; rw [tK_0 hf, if_neg (by decide), if_neg (by decide)]; omega
theorem tK_kd {tx : Nat → Nat} {n p : Nat} (hf : tF tx n p < n) : kdN (tx (tF tx n p)) = 2 ↔ tK tx n p = 2 := by rw [tK_c hf]; exact kd_cls.2.1
theorem tK_kd1 {tx : Nat → Nat} {n p : Nat} (hf : tF tx n p < n) : kdN (tx (tF tx n p)) = 1 ↔ tK tx n p = 1 := by rw [tK_c hf]; exact kd_cls.1
theorem tK_pos {tx : Nat → Nat} {n p : Nat} (hf : tF tx n p < n) : 1 ≤ tK tx n p := by
  rw [tK_c hf]; unfold clsN; split; decide; split; decide; split <;> decide
theorem tF_in {tx : Nat → Nat} {n p : Nat} (h : tK tx n p ≠ 0) : tF tx n p < n := Decidable.not_not.mp (fun q => h (tK_0 q))
theorem wL_pos {tx : Nat → Nat} {n p : Nat} (hf : tF tx n p < n) : 0 < wL tx n p := by
  have h5 := tK_lt tx n p
  have h1 := tK_pos hf
  have hgt : tF tx n p < tS tx n p := by
    unfold tS
    by_cases h : tK tx n p = 1 ∨ tK tx n p = 2
    · have hP : tP (tK tx n p) (tx (tF tx n p)) = true := by
        have hc := tK_c hf
        rcases h with h | h
        · rw [h]; rw [h] at hc; show isSm _ = true
          by_cases q : isSm (tx (tF tx n p)) = true
          · exact q
          · unfold clsN at hc; rw [if_neg q] at hc; split at hc; cases hc; split at hc <;> cases hc
        · rw [h]; rw [h] at hc; show isDg _ = true
          by_cases q : isDg (tx (tF tx n p)) = true
          · exact q
          · unfold clsN at hc; rw [if_neg q] at hc; split at hc; cases hc; split at hc <;> cases hc
      have e : tE tx n p = run tx n (tP (tK tx n p)) (tF tx n p) := if_pos h
      rw [e, run_go hf hP]
      have := (run_ge tx n (tP (tK tx n p)) _ (tF tx n p + 1) rfl).1
      omega
    · have e : tE tx n p = tF tx n p := if_neg h
      rw [e, if_pos (by omega)]; omega
  unfold wL; omega
theorem wL_in {tx : Nat → Nat} {n p : Nat} : 0 < wL tx n p ↔ tF tx n p < n := ⟨fun h => Decidable.not_not.mp (fun q => by rw [wL_0 q] at h; omega), wL_pos⟩
theorem wL_lt {tx : Nat → Nat} {n p : Nat} (hp : p ≤ n) : wL tx n p ≤ n := by have := tS_le (tx := tx) hp; unfold wL; omega
theorem dg_at {tx : Nat → Nat} {n p m : Nat} (hp : p ≤ n) (hk : tK tx n p = 2) (hm : m < wL tx n p) : 48 ≤ tx (tF tx n p + m) ∧ tx (tF tx n p + m) ≤ 57 := by
  rw [wL_tL (Or.inr hk)] at hm
  rcases tok_cls hp hm with h | h
  · exact absurd (hk.symm.trans h.1) (by decide)
  · exact h.2
theorem tQ_1 {tx : Nat → Nat} {n p : Nat} (hk : tK tx n p = 2) (h : wL tx n p = 1) : tQ tx n p = tx (tF tx n p) - 48 := by
  unfold tQ; rw [← wL_tL (Or.inr hk), h]; simp [valN]
theorem tQ_2 {tx : Nat → Nat} {n p : Nat} (hp : p ≤ n) (hk : tK tx n p = 2) (h : wL tx n p = 2) : tQ tx n p = 10 * (tx (tF tx n p) - 48) + (tx (tF tx n p + 1) - 48) := by
  have h1 := dg_at hp hk (m := 1) (by omega)
  unfold tQ; rw [← wL_tL (Or.inr hk), h]; simp [valN]; omega
theorem tQ_lt {tx : Nat → Nat} {n p : Nat} (hp : p ≤ n) (hk : tK tx n p = 2) (h : wL tx n p = 1 ∨ wL tx n p = 2) : tQ tx n p < 100 := by
  have h0 := dg_at hp hk (m := 0) (by omega)
  rw [Nat.add_zero] at h0
  rcases h with h | h
  · rw [tQ_1 hk h]; omega
  · have h1 := dg_at hp hk (m := 1) (by omega)
    rw [tQ_2 hp hk h]; omega
theorem tN_w {tx : Nat → Nat} {n p lo hh : Nat} : tN tx n p lo hh ↔ tK tx n p = 2 ∧ (wL tx n p = 1 ∨ wL tx n p = 2) ∧ lo ≤ tQ tx n p ∧ tQ tx n p < hh := by
  unfold tN
  constructor
  · intro ⟨h1, h2, h3⟩
    have := wL_pos (tF_in (p := p) (tx := tx) (n := n) (by omega))
    rw [← wL_tL (Or.inr h1)] at h2
    exact ⟨h1, by omega, h3⟩
  · intro ⟨h1, h2, h3⟩
    refine ⟨h1, ?_, h3⟩
    rw [← wL_tL (Or.inr h1)]; omega
set_option maxHeartbeats 4000000 in
theorem m_X0_in_w (G : zE) (l : Launch) (x : Int32) (lo : Int32) (up : Int32) (rest : va_W) : zMi G l yX0_in cX0_in 6 (some .boolean) 0 0 0 [.long (iL x), .long (iL lo), .long (iL up)] (rest) (fun (r : Int32) (_ : Unit) => r = bI (lo ≤ x ∧ x ≤ up)) (fun (_ : Unit) => rest) := by
  refine z_begZ (by decide) (Nat.le_of_ble_eq_true rfl) (fun p e s m args below meth c ls Q hC hl hw hend => ?_)
  have hx := hC.hx
  have hb := hC.hb
  have hl : lv_has ls 6 [(0, .long (iL x)), (2, .long (iL lo)), (4, .long (iL up))] := hl
  refine lv_lload_n hx hb dX0_in_0 rfl (lv_at hl 0 rfl) ?_
  refine lv_lload_n hx hb dX0_in_1 rfl (lv_at hl 1 rfl) ?_
  refine W.lcmp hx hb dX0_in_2 ?_
  refine lv_if_lt (tgt := 17) hx hb dX0_in_3 (by decide) (fun c_3 => ?_) (fun c_3 => ?_)
  · skip
    refine lv_iconst (v := (nI 0)) hx hb dX0_in_17 zk_0 ?_
    exact hend _ _ _ _ _ _ _ () rfl hw (by first | exact (bI_t (id ⟨Decidable.not_not.mp (mt in_lL.mpr c_3), Decidable.not_not.mp (mt in_rL.mpr c_10)⟩)).symm | exact (bI_f (fun q => in_lL.mp c_3 (id q).1)).symm | exact (bI_f (fun q => in_rL.mp c_10 (id q).2)).symm) (Nat.le_of_ble_eq_true rfl) (Nat.le_of_ble_eq_true rfl) dX0_in_18
  · skip
    refine lv_lload_n hx hb dX0_in_6 rfl (lv_at hl 0 rfl) ?_
    refine lv_lload hx hb dX0_in_7 (lv_at hl 2 rfl) ?_
    refine W.lcmp hx hb dX0_in_9 ?_
    refine lv_if_gt (tgt := 17) hx hb dX0_in_10 (by decide) (fun c_10 => ?_) (fun c_10 => ?_)
    · skip
      refine lv_iconst (v := (nI 0)) hx hb dX0_in_17 zk_0 ?_
      exact hend _ _ _ _ _ _ _ () rfl hw (by first | exact (bI_t (id ⟨Decidable.not_not.mp (mt in_lL.mpr c_3), Decidable.not_not.mp (mt in_rL.mpr c_10)⟩)).symm | exact (bI_f (fun q => in_lL.mp c_3 (id q).1)).symm | exact (bI_f (fun q => in_rL.mp c_10 (id q).2)).symm) (Nat.le_of_ble_eq_true rfl) (Nat.le_of_ble_eq_true rfl) dX0_in_18
    · skip
      refine lv_iconst (v := (nI 1)) hx hb dX0_in_13 zk_1 ?_
      refine lv_goto (tgt := 18) hx hb dX0_in_14 (by decide) ?_
      exact hend _ _ _ _ _ _ _ () rfl hw (by first | exact (bI_t (id ⟨Decidable.not_not.mp (mt in_lL.mpr c_3), Decidable.not_not.mp (mt in_rL.mpr c_10)⟩)).symm | exact (bI_f (fun q => in_lL.mp c_3 (id q).1)).symm | exact (bI_f (fun q => in_rL.mp c_10 (id q).2)).symm) (Nat.le_of_ble_eq_true rfl) (Nat.le_of_ble_eq_true rfl) dX0_in_18
theorem zv_X3_91 : zVs RX3 91 yX3_take cX3_take 3 none 0 := ⟨lw_V q275 q277 qs2 q54 q278, ⟨by decide +kernel, by decide +kernel⟩, by decide +kernel⟩
theorem zv_X3_94 : zVs RX3 94 yJ3_length cJ3_length 1 (some .int) 0 := ⟨lw_V q680 q681 q682 q57 q683, ⟨by decide +kernel, by decide +kernel⟩, by decide +kernel⟩
theorem zv_X3_102 : zVs RX3 102 yJ3_charAt cJ3_charAt 2 (some .char) 1 := ⟨lw_V q689 q690 q691 q57 q692, ⟨by decide +kernel, by decide +kernel⟩, by decide +kernel⟩
theorem zv_X3_106 : zVs RX3 106 yX3_want cX3_want 2 none 1 := ⟨lw_V q648 q650 qs6 q54 q651, ⟨by decide +kernel, by decide +kernel⟩, by decide +kernel⟩
theorem zs_X3_110 : zSs RX3 110 yJ18_parseInt cJ18_parseInt 1 (some .int) 1 := ⟨lw_S q704 q705 q73 q706, ⟨by decide +kernel, by decide +kernel⟩, by decide +kernel⟩
set_option maxHeartbeats 4000000 in
theorem m_X3_number_ok (G : zE) (l : Launch) (kA : Nat → Nat) (hG : zG G kA) (hS : zS9 G kA) (hY : zY G) (rd : Nat) (co : Nat) (wd : Nat) (cl : Nat) (p0 : Nat) (n : Nat) (th : Nat) (dg : Nat) (re : Nat) (fs : Int32) (w : Nat → Nat) (mn : Int32) (bm : Int32) (sm : Int32) (xf : Nat → Int32) (tx : Nat → Nat) (hn2 : n ≤ 200) (htx : ∀ k, k < n → tx k < 256) (hxf : ∀ k, k < n → xf k = btL (tx k)) (hpo : p0 ≤ n) (lo : Nat) (mx : Nat) (up : Int32) (hup : ∀ x, x < 1073741824 → ((nI lo ≤ nI x ∧ nI x ≤ up) ↔ (lo ≤ x ∧ x < mx))) (hN : tN tx n p0 lo mx) (rest : va_W) : zMi G l yX3_number cX3_number 4 (some .int) 8 30 1100 [.ref rd, .int (nI lo), .int up] ((rd, zo 3 [.int (nI p0), .int fs, .ref wd, .int (nI th), .int (nI dg), .ref cl, .int (nI re), .ref co]) :: (co, zo 0 (cF w mn bm sm (nI n))) :: (w 8, zc G 1 (zI 200 xf)) :: rest) (fun (r : Int32) _ => r = nI (tQ tx n p0)) (fun (u : Nat) => (rd, zo 3 [.int (nI (tS tx n p0)), .int (nI (tF tx n p0)), .ref u, .int (nI th), .int (nI dg), .ref cl, .int (nI re), .ref co]) :: (co, zo 0 (cF w mn bm sm (nI n))) :: (w 8, zc G 1 (zI 200 xf)) :: rest) := by
  refine z_begI (by decide) (Nat.le_of_ble_eq_true rfl) (fun p e s m args below meth c ls Q hC hl hw hend => ?_)
  have hx := hC.hx
  have hb := hC.hb
  have hl : lv_has ls 4 [(0, .ref rd), (1, .int (nI lo)), (2, .int up)] := hl
  have hw : zS G ((rd, zo 3 [.int (nI p0), .int fs, .ref wd, .int (nI th), .int (nI dg), .ref cl, .int (nI re), .ref co]) :: (co, zo 0 (cF w mn bm sm (nI n))) :: (w 8, zc G 1 (zI 200 xf)) :: rest) s s.heap [] := hw
  have hz := hG s hC.hZ.1
  have hzs := hS s hC.hZ.1
  have hzy := hY s hC.hZ.1
  obtain ⟨hk2, hw12, hlo, hhi⟩ := tN_w.mp hN
  have hf9 : tF tx n p0 < n := tF_in (by omega)
  have hd0 := dg_at hpo hk2 (m := 0) (by omega)
  have hd1 := fun q => dg_at hpo hk2 (m := 1) q
  have hq9 := tQ_lt hpo hk2 hw12
  refine lv_aload_n hx hb dX3_number_0 rfl (lv_at hl 0 rfl) ?_
  refine z_cv (z_runV (As := []) (rest := []) hC zv_X3_91 (m_X3_take G l kA (by first | assumption | (omega)) (by first | assumption | (omega)) rd co wd cl p0 n th dg re fs w mn bm sm xf tx (by omega) (by first | assumption | (omega)) (by first | assumption | (omega)) (by omega) (zrem [0, 1, 2] _)) hw (hw.perm (z_cut (is := [0, 1, 2]) (cells := [(rd, zo 3 [.int (nI p0), .int fs, .ref wd, .int (nI th), .int (nI dg), .ref cl, .int (nI re), .ref co]), (co, zo 0 (cF w mn bm sm (nI n))), (w 8, zc G 1 (zI 200 xf))]) rfl rfl)) 0 rfl rfl rfl rfl rfl (Nat.le_of_ble_eq_true rfl) hl.1 ⟨Nat.le_of_ble_eq_true rfl, Nat.le_of_ble_eq_true rfl⟩ ⟨(Nat.le_of_ble_eq_true rfl), (Nat.le_of_ble_eq_true rfl)⟩ dX3_number_1) hw (fun u => z_new1 (is := [0, 1, 2]) (cs := [(rd, zo 3 [.int (nI p0), .int fs, .ref wd, .int (nI th), .int (nI dg), .ref cl, .int (nI re), .ref co]), (co, zo 0 (cF w mn bm sm (nI n))), (w 8, zc G 1 (zI 200 xf))]) (cs' := [(rd, zo 3 [.int (nI (tS tx n p0)), .int (nI (tF tx n p0)), .ref u.1, .int (nI th), .int (nI dg), .ref cl, .int (nI re), .ref co]), (co, zo 0 (cF w mn bm sm (nI n))), (w 8, zc G 1 (zI 200 xf))]) (nw := [(u.1, zo 12 [.ref u.2.1, .int (nI 0), .int 0, .int 0]), (u.2.1, zc G 1 (zI (wL tx n p0) u.2.2))]) rfl rfl rfl) (fun u H locs hp hw => ?_)
  obtain ⟨sr, sv, g4⟩ := u
  have hw : zS G ((sr, zo 12 [.ref sv, .int (nI 0), .int 0, .int 0]) :: (sv, zc G 1 (zI (wL tx n p0) g4)) :: (rd, zo 3 [.int (nI (tS tx n p0)), .int (nI (tF tx n p0)), .ref sr, .int (nI th), .int (nI dg), .ref cl, .int (nI re), .ref co]) :: (co, zo 0 (cF w mn bm sm (nI n))) :: (w 8, zc G 1 (zI 200 xf)) :: rest) s H locs := hw
  have hg4 := hp
  have hg4 : ∀ j, j < wL tx n p0 → g4 j = btL (tx (tF tx n p0 + j)) := hg4
  have hwn : wL tx n p0 ≤ n := wL_lt hpo
  refine lv_aload_n hx hb dX3_number_4 rfl (lv_at hl 0 rfl) ?_
  refine lv_aload_n hx hb dX3_number_5 rfl (lv_at hl 0 rfl) ?_
  refine z_get (v := .ref sr) hC zf_X3_17_3 hw 2 rfl rfl dX3_number_6 ?_
  refine z_ci (z_runV (As := []) (rest := [.ref rd]) hC zv_X3_94 (m_J3_length G l kA (by first | assumption | (omega)) sr sv (wL tx n p0) g4 (by omega) (zrem [0, 1] _)) hw (hw.perm (z_cut (is := [0, 1]) (cells := [(sr, zo 12 [.ref sv, .int (nI 0), .int 0, .int 0]), (sv, zc G 1 (zI (wL tx n p0) g4))]) rfl rfl)) 0 rfl rfl rfl rfl rfl (Nat.le_of_ble_eq_true rfl) hl.1 ⟨Nat.le_of_ble_eq_true rfl, Nat.le_of_ble_eq_true rfl⟩ ⟨(Nat.le_of_ble_eq_true rfl), (Nat.le_of_ble_eq_true rfl)⟩ dX3_number_9) hw (fun _ => z_keep (is := [0, 1]) (cs := [(sr, zo 12 [.ref sv, .int (nI 0), .int 0, .int 0]), (sv, zc G 1 (zI (wL tx n p0) g4))]) rfl rfl) (fun r u H locs hp hw => ?_)
  obtain rfl : r = nI (wL tx n p0) := hp
  refine lv_i2l (v := (iL (nI (wL tx n p0)))) hx hb dX3_number_12 rfl ?_
  refine lv_lconst (v := lN 1) hx hb dX3_number_13 rfl ?_
  refine lv_ldc2 (v := (lN 2)) hx hb hC.hown (hC.hts _ q688) dX3_number_14 ?_
  refine z_ci (z_runSN (n := 3) (As := [.long (iL (nI (wL tx n p0))), .long (lN 1), .long (lN 2)]) (rest := [.ref rd]) hC ⟨zn_X0_in, q221⟩ (hz.1 _ (cw_t q285 rfl)) (m_X0_in G l (nI (wL tx n p0)) 1 2 (by decide) (by decide) _) hw rfl rfl (Nat.le_of_ble_eq_true rfl) hl.1 ⟨Nat.le_of_ble_eq_true rfl, Nat.le_of_ble_eq_true rfl⟩ ⟨(Nat.le_of_ble_eq_true rfl), (Nat.le_of_ble_eq_true rfl)⟩ dX3_number_17) hw (fun _ => List.Perm.refl _) (fun r u H locs hp hw => ?_)
  obtain rfl : r = bI (inR (nI (wL tx n p0)) 1 2) := hp
  refine zb_eq (tgt := 43) hx hb dX3_number_20 (by decide) (fun h => absurd ((inR_iff (by decide) (by decide)).mp ⟨nI_le (by omega) (by omega), nI_le (by omega) (by omega)⟩) h) (fun _ => ?_)
  refine lv_aload_n hx hb dX3_number_23 rfl (lv_at hl 0 rfl) ?_
  refine lv_aload_n hx hb dX3_number_24 rfl (lv_at hl 0 rfl) ?_
  refine z_get (v := .ref sr) hC zf_X3_17_3 hw 2 rfl rfl dX3_number_25 ?_
  refine lv_iconst (v := (nI 0)) hx hb dX3_number_28 zk_0 ?_
  refine z_ci (z_runV (As := [.int (nI 0)]) (rest := [.ref rd, .ref rd]) hC zv_X3_102 (m_J3_charAt G l kA (by first | assumption | (omega)) (by first | assumption | (omega)) sr sv (wL tx n p0) g4 0 (tx (tF tx n p0)) (by omega) (by omega) (htx _ (wL_in.mp (by omega))) (by rw [hg4 0 (by omega), Nat.add_zero]) (zrem [0, 1] _)) hw (hw.perm (z_cut (is := [0, 1]) (cells := [(sr, zo 12 [.ref sv, .int (nI 0), .int 0, .int 0]), (sv, zc G 1 (zI (wL tx n p0) g4))]) rfl rfl)) 0 rfl rfl rfl rfl rfl (Nat.le_of_ble_eq_true rfl) hl.1 ⟨Nat.le_of_ble_eq_true rfl, Nat.le_of_ble_eq_true rfl⟩ ⟨(Nat.le_of_ble_eq_true rfl), (Nat.le_of_ble_eq_true rfl)⟩ dX3_number_29) hw (fun _ => z_keep (is := [0, 1]) (cs := [(sr, zo 12 [.ref sv, .int (nI 0), .int 0, .int 0]), (sv, zc G 1 (zI (wL tx n p0) g4))]) rfl rfl) (fun r u H locs hp hw => ?_)
  obtain rfl : r = nI (tx (tF tx n p0)) := hp
  refine z_ci (z_runV (As := [.int (nI (tx (tF tx n p0)))]) (rest := [.ref rd]) hC zv_X3_71 (m_X3_kindOf_c G l kA (by first | assumption | (omega)) rd (tx (tF tx n p0)) (htx _ (wL_in.mp (by omega))) _) hw hw 2 rfl rfl rfl rfl rfl (Nat.le_of_ble_eq_true rfl) hl.1 ⟨Nat.le_of_ble_eq_true rfl, Nat.le_of_ble_eq_true rfl⟩ ⟨(Nat.le_of_ble_eq_true rfl), (Nat.le_of_ble_eq_true rfl)⟩ dX3_number_32) hw (fun _ => List.Perm.refl _) (fun r u H locs hp hw => ?_)
  obtain rfl : r = nI (kdN (tx (tF tx n p0))) := hp
  refine lv_iconst (v := (nI 2)) hx hb dX3_number_35 zk_2 ?_
  refine zi_ne (tgt := 43) hx hb (by have := kdN_le (tx (tF tx n p0)); omega) (by decide) dX3_number_36 (by decide) (fun h => absurd ((tK_kd hf9).mpr hk2) h) (fun _ => ?_)
  refine lv_iconst (v := (nI 1)) hx hb dX3_number_39 zk_1 ?_
  refine lv_goto (tgt := 44) hx hb dX3_number_40 (by decide) ?_
  refine z_cv (z_runV (As := [.int (nI 1)]) (rest := []) hC zv_X3_106 (m_X3_want_t G l rd _) hw hw 2 rfl rfl rfl rfl rfl (Nat.le_of_ble_eq_true rfl) hl.1 ⟨Nat.le_of_ble_eq_true rfl, Nat.le_of_ble_eq_true rfl⟩ ⟨(Nat.le_of_ble_eq_true rfl), (Nat.le_of_ble_eq_true rfl)⟩ dX3_number_44) hw (fun _ => List.Perm.refl _) (fun u H locs hp hw => ?_)
  refine lv_aload_n hx hb dX3_number_47 rfl (lv_at hl 0 rfl) ?_
  refine z_get (v := .ref sr) hC zf_X3_17_3 hw 2 rfl rfl dX3_number_48 ?_
  rcases (show wL tx n p0 = 1 ∨ wL tx n p0 = 2 by omega) with hw1 | hw2
  · skip
    have hw : zS G ((sr, zo 12 [.ref sv, .int (nI 0), .int 0, .int 0]) :: (sv, zc G 1 (zI 1 g4)) :: (rd, zo 3 [.int (nI (tS tx n p0)), .int (nI (tF tx n p0)), .ref sr, .int (nI th), .int (nI dg), .ref cl, .int (nI re), .ref co]) :: (co, zo 0 (cF w mn bm sm (nI n))) :: (w 8, zc G 1 (zI 200 xf)) :: rest) s H locs := by rw [hw1] at hw; exact hw
    have hl : lv_has ls 4 [(0, .ref rd), (1, .int (nI lo)), (2, .int up)] := hl
    refine z_ci (z_runS (As := [.ref sr]) (rest := []) hC zs_X3_110 (m_J18_parseInt_1 G l kA (by first | assumption | (omega)) (by first | assumption | (omega)) sr sv (tx (tF tx n p0) - 48) g4 (by rw [Nat.add_zero] at hd0; omega) (by have e := hg4 0 (by omega); rw [Nat.add_zero] at e hd0; rw [e]; congr 1; omega) (zrem [0, 1] _)) (hw.perm (z_cut (is := [0, 1]) (cells := [(sr, zo 12 [.ref sv, .int (nI 0), .int 0, .int 0]), (sv, zc G 1 (zI 1 g4))]) rfl rfl)) rfl rfl (Nat.le_of_ble_eq_true rfl) hl.1 ⟨Nat.le_of_ble_eq_true rfl, Nat.le_of_ble_eq_true rfl⟩ ⟨(Nat.le_of_ble_eq_true rfl), (Nat.le_of_ble_eq_true rfl)⟩ dX3_number_51) hw (fun _ => z_keep (is := [0, 1]) (cs := [(sr, zo 12 [.ref sv, .int (nI 0), .int 0, .int 0]), (sv, zc G 1 (zI 1 g4))]) rfl rfl) (fun r u H locs hp hw => ?_)
    obtain rfl : r = nI (tx (tF tx n p0) - 48) := hp
    rw [show nI (tx (tF tx n p0) - 48) = nI (tQ tx n p0) from congrArg nI (tQ_1 hk2 hw1).symm]
    refine lv_istore_n (lv' := [(3, .int (nI (tQ tx n p0))), (0, .ref rd), (1, .int (nI lo)), (2, .int up)]) hx hb dX3_number_54 rfl hl (by decide) rfl (fun ls hl => ?_)
    refine lv_aload_n hx hb dX3_number_55 rfl (lv_at hl 1 rfl) ?_
    refine lv_iload_n hx hb dX3_number_56 rfl (lv_at hl 0 rfl) ?_
    refine lv_i2l (v := (iL (nI (tQ tx n p0)))) hx hb dX3_number_57 rfl ?_
    refine lv_iload_n hx hb dX3_number_58 rfl (lv_at hl 2 rfl) ?_
    refine lv_i2l (v := (iL (nI lo))) hx hb dX3_number_59 rfl ?_
    refine lv_iload_n hx hb dX3_number_60 rfl (lv_at hl 3 rfl) ?_
    refine lv_i2l (v := (iL up)) hx hb dX3_number_61 rfl ?_
    refine z_ci (z_runSN (n := 3) (As := [.long (iL (nI (tQ tx n p0))), .long (iL (nI lo)), .long (iL up)]) (rest := [.ref rd]) hC ⟨zn_X0_in, q221⟩ (hz.1 _ (cw_t q285 rfl)) (m_X0_in_w G l (nI (tQ tx n p0)) (nI lo) up _) hw rfl rfl (Nat.le_of_ble_eq_true rfl) hl.1 ⟨Nat.le_of_ble_eq_true rfl, Nat.le_of_ble_eq_true rfl⟩ ⟨(Nat.le_of_ble_eq_true rfl), (Nat.le_of_ble_eq_true rfl)⟩ dX3_number_62) hw (fun _ => List.Perm.refl _) (fun r u H locs hp hw => ?_)
    obtain rfl : r = bI ((nI lo) ≤ (nI (tQ tx n p0)) ∧ (nI (tQ tx n p0)) ≤ up) := hp
    rw [bI_t ((hup _ (by omega)).mpr ⟨hlo, hhi⟩)]
    refine z_cv (z_runV (As := [.int (nI 1)]) (rest := []) hC zv_X3_106 (m_X3_want_t G l rd _) hw hw 2 rfl rfl rfl rfl rfl (Nat.le_of_ble_eq_true rfl) hl.1 ⟨Nat.le_of_ble_eq_true rfl, Nat.le_of_ble_eq_true rfl⟩ ⟨(Nat.le_of_ble_eq_true rfl), (Nat.le_of_ble_eq_true rfl)⟩ dX3_number_65) hw (fun _ => List.Perm.refl _) (fun u H locs hp hw => ?_)
    refine lv_iload_n hx hb dX3_number_68 rfl (lv_at hl 0 rfl) ?_
    have hw := hw.drop
    have hw := hw.drop
    exact hend _ _ _ _ _ _ _ sr hw rfl (Nat.le_of_ble_eq_true rfl) (Nat.le_of_ble_eq_true rfl) dX3_number_69
  · skip
    have hw : zS G ((sr, zo 12 [.ref sv, .int (nI 0), .int 0, .int 0]) :: (sv, zc G 1 (zI 2 g4)) :: (rd, zo 3 [.int (nI (tS tx n p0)), .int (nI (tF tx n p0)), .ref sr, .int (nI th), .int (nI dg), .ref cl, .int (nI re), .ref co]) :: (co, zo 0 (cF w mn bm sm (nI n))) :: (w 8, zc G 1 (zI 200 xf)) :: rest) s H locs := by rw [hw2] at hw; exact hw
    have hl : lv_has ls 4 [(0, .ref rd), (1, .int (nI lo)), (2, .int up)] := hl
    refine z_ci (z_runS (As := [.ref sr]) (rest := []) hC zs_X3_110 (m_J18_parseInt_2 G l kA (by first | assumption | (omega)) (by first | assumption | (omega)) sr sv (tx (tF tx n p0) - 48) (tx (tF tx n p0 + 1) - 48) g4 (by rw [Nat.add_zero] at hd0; omega) (by have e := hg4 0 (by omega); rw [Nat.add_zero] at e hd0; rw [e]; congr 1; omega) (by omega) (by have e := hg4 1 (by omega); rw [e]; congr 1; omega) (zrem [0, 1] _)) (hw.perm (z_cut (is := [0, 1]) (cells := [(sr, zo 12 [.ref sv, .int (nI 0), .int 0, .int 0]), (sv, zc G 1 (zI 2 g4))]) rfl rfl)) rfl rfl (Nat.le_of_ble_eq_true rfl) hl.1 ⟨Nat.le_of_ble_eq_true rfl, Nat.le_of_ble_eq_true rfl⟩ ⟨(Nat.le_of_ble_eq_true rfl), (Nat.le_of_ble_eq_true rfl)⟩ dX3_number_51) hw (fun _ => z_keep (is := [0, 1]) (cs := [(sr, zo 12 [.ref sv, .int (nI 0), .int 0, .int 0]), (sv, zc G 1 (zI 2 g4))]) rfl rfl) (fun r u H locs hp hw => ?_)
    obtain rfl : r = nI (10 * (tx (tF tx n p0) - 48) + (tx (tF tx n p0 + 1) - 48)) := hp
    rw [show nI (10 * (tx (tF tx n p0) - 48) + (tx (tF tx n p0 + 1) - 48)) = nI (tQ tx n p0) from congrArg nI (tQ_2 hpo hk2 hw2).symm]
    refine lv_istore_n (lv' := [(3, .int (nI (tQ tx n p0))), (0, .ref rd), (1, .int (nI lo)), (2, .int up)]) hx hb dX3_number_54 rfl hl (by decide) rfl (fun ls hl => ?_)
    refine lv_aload_n hx hb dX3_number_55 rfl (lv_at hl 1 rfl) ?_
    refine lv_iload_n hx hb dX3_number_56 rfl (lv_at hl 0 rfl) ?_
    refine lv_i2l (v := (iL (nI (tQ tx n p0)))) hx hb dX3_number_57 rfl ?_
    refine lv_iload_n hx hb dX3_number_58 rfl (lv_at hl 2 rfl) ?_
    refine lv_i2l (v := (iL (nI lo))) hx hb dX3_number_59 rfl ?_
    refine lv_iload_n hx hb dX3_number_60 rfl (lv_at hl 3 rfl) ?_
    refine lv_i2l (v := (iL up)) hx hb dX3_number_61 rfl ?_
    refine z_ci (z_runSN (n := 3) (As := [.long (iL (nI (tQ tx n p0))), .long (iL (nI lo)), .long (iL up)]) (rest := [.ref rd]) hC ⟨zn_X0_in, q221⟩ (hz.1 _ (cw_t q285 rfl)) (m_X0_in_w G l (nI (tQ tx n p0)) (nI lo) up _) hw rfl rfl (Nat.le_of_ble_eq_true rfl) hl.1 ⟨Nat.le_of_ble_eq_true rfl, Nat.le_of_ble_eq_true rfl⟩ ⟨(Nat.le_of_ble_eq_true rfl), (Nat.le_of_ble_eq_true rfl)⟩ dX3_number_62) hw (fun _ => List.Perm.refl _) (fun r u H locs hp hw => ?_)
    obtain rfl : r = bI ((nI lo) ≤ (nI (tQ tx n p0)) ∧ (nI (tQ tx n p0)) ≤ up) := hp
    rw [bI_t ((hup _ (by omega)).mpr ⟨hlo, hhi⟩)]
    refine z_cv (z_runV (As := [.int (nI 1)]) (rest := []) hC zv_X3_106 (m_X3_want_t G l rd _) hw hw 2 rfl rfl rfl rfl rfl (Nat.le_of_ble_eq_true rfl) hl.1 ⟨Nat.le_of_ble_eq_true rfl, Nat.le_of_ble_eq_true rfl⟩ ⟨(Nat.le_of_ble_eq_true rfl), (Nat.le_of_ble_eq_true rfl)⟩ dX3_number_65) hw (fun _ => List.Perm.refl _) (fun u H locs hp hw => ?_)
    refine lv_iload_n hx hb dX3_number_68 rfl (lv_at hl 0 rfl) ?_
    have hw := hw.drop
    have hw := hw.drop
    exact hend _ _ _ _ _ _ _ sr hw rfl (Nat.le_of_ble_eq_true rfl) (Nat.le_of_ble_eq_true rfl) dX3_number_69
set_option maxHeartbeats 4000000 in
theorem m_X3_number_x (G : zE) (l : Launch) (kA : Nat → Nat) (hG : zG G kA) (hS : zS9 G kA) (hY : zY G) (rd : Nat) (co : Nat) (wd : Nat) (cl : Nat) (p0 : Nat) (n : Nat) (th : Nat) (dg : Nat) (re : Nat) (fs : Int32) (w : Nat → Nat) (mn : Int32) (bm : Int32) (sm : Int32) (xf : Nat → Int32) (tx : Nat → Nat) (hn2 : n ≤ 200) (htx : ∀ k, k < n → tx k < 256) (hxf : ∀ k, k < n → xf k = btL (tx k)) (hpo : p0 ≤ n) (lo : Nat) (mx : Nat) (up : Int32) (hup : ∀ x, x < 1073741824 → ((nI lo ≤ nI x ∧ nI x ≤ up) ↔ (lo ≤ x ∧ x < mx))) (hN : ¬ tN tx n p0 lo mx) (rest : va_W) : zTh G l yX3_number cX3_number 4 (some .int) 8 31 1107 [.ref rd, .int (nI lo), .int up] ((rd, zo 3 [.int (nI p0), .int fs, .ref wd, .int (nI th), .int (nI dg), .ref cl, .int (nI re), .ref co]) :: (co, zo 0 (cF w mn bm sm (nI n))) :: (w 8, zc G 1 (zI 200 xf)) :: rest) "NutCaches$Fault" (fun q => (q, zo 4 [.null, .null, .null, .null, .null, .int 0, .int (nI (tF tx n p0))]) :: (co, zo 0 (cF w mn bm sm (nI n))) :: (w 8, zc G 1 (zI 200 xf)) :: rest) := by
  refine z_begX (by decide) (Nat.le_of_ble_eq_true rfl) (fun p e s m args below meth c ls Q hQ hC htb hl hw hend => ?_)
  have hx := hC.hx
  have hb := hC.hb
  have hl : lv_has ls 4 [(0, .ref rd), (1, .int (nI lo)), (2, .int up)] := hl
  have hw : zS G ((rd, zo 3 [.int (nI p0), .int fs, .ref wd, .int (nI th), .int (nI dg), .ref cl, .int (nI re), .ref co]) :: (co, zo 0 (cF w mn bm sm (nI n))) :: (w 8, zc G 1 (zI 200 xf)) :: rest) s s.heap [] := hw
  have hz := hG s hC.hZ.1
  have hzs := hS s hC.hZ.1
  have hzy := hY s hC.hZ.1
  refine lv_aload_n hx hb dX3_number_0 rfl (lv_at hl 0 rfl) ?_
  refine z_cv (z_runV (As := []) (rest := []) hC zv_X3_91 (m_X3_take G l kA (by first | assumption | (omega)) (by first | assumption | (omega)) rd co wd cl p0 n th dg re fs w mn bm sm xf tx (by omega) (by first | assumption | (omega)) (by first | assumption | (omega)) (by omega) (zrem [0, 1, 2] _)) hw (hw.perm (z_cut (is := [0, 1, 2]) (cells := [(rd, zo 3 [.int (nI p0), .int fs, .ref wd, .int (nI th), .int (nI dg), .ref cl, .int (nI re), .ref co]), (co, zo 0 (cF w mn bm sm (nI n))), (w 8, zc G 1 (zI 200 xf))]) rfl rfl)) 0 rfl rfl rfl rfl rfl (Nat.le_of_ble_eq_true rfl) hl.1 ⟨Nat.le_of_ble_eq_true rfl, Nat.le_of_ble_eq_true rfl⟩ ⟨(Nat.le_of_ble_eq_true rfl), (Nat.le_of_ble_eq_true rfl)⟩ dX3_number_1) hw (fun u => z_new1 (is := [0, 1, 2]) (cs := [(rd, zo 3 [.int (nI p0), .int fs, .ref wd, .int (nI th), .int (nI dg), .ref cl, .int (nI re), .ref co]), (co, zo 0 (cF w mn bm sm (nI n))), (w 8, zc G 1 (zI 200 xf))]) (cs' := [(rd, zo 3 [.int (nI (tS tx n p0)), .int (nI (tF tx n p0)), .ref u.1, .int (nI th), .int (nI dg), .ref cl, .int (nI re), .ref co]), (co, zo 0 (cF w mn bm sm (nI n))), (w 8, zc G 1 (zI 200 xf))]) (nw := [(u.1, zo 12 [.ref u.2.1, .int (nI 0), .int 0, .int 0]), (u.2.1, zc G 1 (zI (wL tx n p0) u.2.2))]) rfl rfl rfl) (fun u H locs hp hw => ?_)
  obtain ⟨sr, sv, g4⟩ := u
  have hw : zS G ((sr, zo 12 [.ref sv, .int (nI 0), .int 0, .int 0]) :: (sv, zc G 1 (zI (wL tx n p0) g4)) :: (rd, zo 3 [.int (nI (tS tx n p0)), .int (nI (tF tx n p0)), .ref sr, .int (nI th), .int (nI dg), .ref cl, .int (nI re), .ref co]) :: (co, zo 0 (cF w mn bm sm (nI n))) :: (w 8, zc G 1 (zI 200 xf)) :: rest) s H locs := hw
  have hg4 := hp
  have hg4 : ∀ j, j < wL tx n p0 → g4 j = btL (tx (tF tx n p0 + j)) := hg4
  have hwn : wL tx n p0 ≤ n := wL_lt hpo
  refine lv_aload_n hx hb dX3_number_4 rfl (lv_at hl 0 rfl) ?_
  refine lv_aload_n hx hb dX3_number_5 rfl (lv_at hl 0 rfl) ?_
  refine z_get (v := .ref sr) hC zf_X3_17_3 hw 2 rfl rfl dX3_number_6 ?_
  refine z_ci (z_runV (As := []) (rest := [.ref rd]) hC zv_X3_94 (m_J3_length G l kA (by first | assumption | (omega)) sr sv (wL tx n p0) g4 (by omega) (zrem [0, 1] _)) hw (hw.perm (z_cut (is := [0, 1]) (cells := [(sr, zo 12 [.ref sv, .int (nI 0), .int 0, .int 0]), (sv, zc G 1 (zI (wL tx n p0) g4))]) rfl rfl)) 0 rfl rfl rfl rfl rfl (Nat.le_of_ble_eq_true rfl) hl.1 ⟨Nat.le_of_ble_eq_true rfl, Nat.le_of_ble_eq_true rfl⟩ ⟨(Nat.le_of_ble_eq_true rfl), (Nat.le_of_ble_eq_true rfl)⟩ dX3_number_9) hw (fun _ => z_keep (is := [0, 1]) (cs := [(sr, zo 12 [.ref sv, .int (nI 0), .int 0, .int 0]), (sv, zc G 1 (zI (wL tx n p0) g4))]) rfl rfl) (fun r u H locs hp hw => ?_)
  obtain rfl : r = nI (wL tx n p0) := hp
  refine lv_i2l (v := (iL (nI (wL tx n p0)))) hx hb dX3_number_12 rfl ?_
  refine lv_lconst (v := lN 1) hx hb dX3_number_13 rfl ?_
  refine lv_ldc2 (v := (lN 2)) hx hb hC.hown (hC.hts _ q688) dX3_number_14 ?_
  refine z_ci (z_runSN (n := 3) (As := [.long (iL (nI (wL tx n p0))), .long (lN 1), .long (lN 2)]) (rest := [.ref rd]) hC ⟨zn_X0_in, q221⟩ (hz.1 _ (cw_t q285 rfl)) (m_X0_in G l (nI (wL tx n p0)) 1 2 (by decide) (by decide) _) hw rfl rfl (Nat.le_of_ble_eq_true rfl) hl.1 ⟨Nat.le_of_ble_eq_true rfl, Nat.le_of_ble_eq_true rfl⟩ ⟨(Nat.le_of_ble_eq_true rfl), (Nat.le_of_ble_eq_true rfl)⟩ dX3_number_17) hw (fun _ => List.Perm.refl _) (fun r u H locs hp hw => ?_)
  obtain rfl : r = bI (inR (nI (wL tx n p0)) 1 2) := hp
  refine zb_eq (tgt := 43) hx hb dX3_number_20 (by decide) (fun c_20 => ?_) (fun c_20 => ?_)
  · skip
    refine lv_iconst (v := (nI 0)) hx hb dX3_number_43 zk_0 ?_
    refine z_ct (z_runVT (As := [.int (nI 0)]) (rest := []) hC zv_X3_106 (m_X3_want_f G l kA (by first | assumption | (omega)) (by first | assumption | (omega)) (by first | assumption | (omega)) rd co sr cl (tS tx n p0) n th dg re (nI (tF tx n p0)) (zrem [2] _)) hw (hw.perm (z_cut (is := [2]) (cells := [(rd, zo 3 [.int (nI (tS tx n p0)), .int (nI (tF tx n p0)), .ref sr, .int (nI th), .int (nI dg), .ref cl, .int (nI re), .ref co])]) rfl rfl)) 2 rfl rfl rfl rfl rfl (Nat.le_of_ble_eq_true rfl) hl.1 ⟨Nat.le_of_ble_eq_true rfl, Nat.le_of_ble_eq_true rfl⟩ ⟨(Nat.le_of_ble_eq_true rfl), (Nat.le_of_ble_eq_true rfl)⟩ dX3_number_44) hw (fun q9 => z_new1 (is := [2]) (cs := [(rd, zo 3 [.int (nI (tS tx n p0)), .int (nI (tF tx n p0)), .ref sr, .int (nI th), .int (nI dg), .ref cl, .int (nI re), .ref co])]) (cs' := [(rd, zo 3 [.int (nI (tS tx n p0)), .int (nI (tF tx n p0)), .ref sr, .int (nI th), .int (nI dg), .ref cl, .int (nI re), .ref co])]) (nw := [(q9, zo 4 [.null, .null, .null, .null, .null, .int 0, .int (nI (tF tx n p0))])]) rfl rfl rfl) (fun q9 H locs ce9 hex => ?_)
    obtain ⟨hw, hx9⟩ := hex
    have hw : zS G ((q9, zo 4 [.null, .null, .null, .null, .null, .int 0, .int (nI (tF tx n p0))]) :: (sr, zo 12 [.ref sv, .int (nI 0), .int 0, .int 0]) :: (sv, zc G 1 (zI (wL tx n p0) g4)) :: (rd, zo 3 [.int (nI (tS tx n p0)), .int (nI (tF tx n p0)), .ref sr, .int (nI th), .int (nI dg), .ref cl, .int (nI re), .ref co]) :: (co, zo 0 (cF w mn bm sm (nI n))) :: (w 8, zc G 1 (zI 200 xf)) :: rest) s H locs := hw
    have hw : zS G ((sr, zo 12 [.ref sv, .int (nI 0), .int 0, .int 0]) :: (sv, zc G 1 (zI (wL tx n p0) g4)) :: (rd, zo 3 [.int (nI (tS tx n p0)), .int (nI (tF tx n p0)), .ref sr, .int (nI th), .int (nI dg), .ref cl, .int (nI re), .ref co]) :: (q9, zo 4 [.null, .null, .null, .null, .null, .int 0, .int (nI (tF tx n p0))]) :: (co, zo 0 (cF w mn bm sm (nI n))) :: (w 8, zc G 1 (zI 200 xf)) :: rest) s H locs := hw.perm (((z_cut (is := [1, 2, 3, 0, 4, 5]) (ws := [(q9, zo 4 [.null, .null, .null, .null, .null, .int 0, .int (nI (tF tx n p0))]), (sr, zo 12 [.ref sv, .int (nI 0), .int 0, .int 0]), (sv, zc G 1 (zI (wL tx n p0) g4)), (rd, zo 3 [.int (nI (tS tx n p0)), .int (nI (tF tx n p0)), .ref sr, .int (nI th), .int (nI dg), .ref cl, .int (nI re), .ref co]), (co, zo 0 (cF w mn bm sm (nI n))), (w 8, zc G 1 (zI 200 xf))]) (cells := [(sr, zo 12 [.ref sv, .int (nI 0), .int 0, .int 0]), (sv, zc G 1 (zI (wL tx n p0) g4)), (rd, zo 3 [.int (nI (tS tx n p0)), .int (nI (tF tx n p0)), .ref sr, .int (nI th), .int (nI dg), .ref cl, .int (nI re), .ref co]), (q9, zo 4 [.null, .null, .null, .null, .null, .int 0, .int (nI (tF tx n p0))]), (co, zo 0 (cF w mn bm sm (nI n))), (w 8, zc G 1 (zI 200 xf))]) rfl rfl).append_right rest).trans (by rw [List.append_assoc]; exact List.Perm.refl _))
    have hw := hw.drop
    have hw := hw.drop
    have hw := hw.drop
    exact hend _ _ _ _ _ _ _ _ _ ⟨hw, hx9⟩ (by decide) (Nat.le_of_ble_eq_true rfl) (Nat.le_of_ble_eq_true rfl)
  · skip
    obtain ⟨k9, hk91, hk92, hk93⟩ := c_20
    rw [nI_eq (by omega) (by omega)] at hk93
    have hw12 : wL tx n p0 = 1 ∨ wL tx n p0 = 2 := by omega
    have hf9 : tF tx n p0 < n := wL_in.mp (by omega)
    refine lv_aload_n hx hb dX3_number_23 rfl (lv_at hl 0 rfl) ?_
    refine lv_aload_n hx hb dX3_number_24 rfl (lv_at hl 0 rfl) ?_
    refine z_get (v := .ref sr) hC zf_X3_17_3 hw 2 rfl rfl dX3_number_25 ?_
    refine lv_iconst (v := (nI 0)) hx hb dX3_number_28 zk_0 ?_
    refine z_ci (z_runV (As := [.int (nI 0)]) (rest := [.ref rd, .ref rd]) hC zv_X3_102 (m_J3_charAt G l kA (by first | assumption | (omega)) (by first | assumption | (omega)) sr sv (wL tx n p0) g4 0 (tx (tF tx n p0)) (by omega) (by omega) (htx _ (wL_in.mp (by omega))) (by rw [hg4 0 (by omega), Nat.add_zero]) (zrem [0, 1] _)) hw (hw.perm (z_cut (is := [0, 1]) (cells := [(sr, zo 12 [.ref sv, .int (nI 0), .int 0, .int 0]), (sv, zc G 1 (zI (wL tx n p0) g4))]) rfl rfl)) 0 rfl rfl rfl rfl rfl (Nat.le_of_ble_eq_true rfl) hl.1 ⟨Nat.le_of_ble_eq_true rfl, Nat.le_of_ble_eq_true rfl⟩ ⟨(Nat.le_of_ble_eq_true rfl), (Nat.le_of_ble_eq_true rfl)⟩ dX3_number_29) hw (fun _ => z_keep (is := [0, 1]) (cs := [(sr, zo 12 [.ref sv, .int (nI 0), .int 0, .int 0]), (sv, zc G 1 (zI (wL tx n p0) g4))]) rfl rfl) (fun r u H locs hp hw => ?_)
    obtain rfl : r = nI (tx (tF tx n p0)) := hp
    refine z_ci (z_runV (As := [.int (nI (tx (tF tx n p0)))]) (rest := [.ref rd]) hC zv_X3_71 (m_X3_kindOf_c G l kA (by first | assumption | (omega)) rd (tx (tF tx n p0)) (htx _ (wL_in.mp (by omega))) _) hw hw 2 rfl rfl rfl rfl rfl (Nat.le_of_ble_eq_true rfl) hl.1 ⟨Nat.le_of_ble_eq_true rfl, Nat.le_of_ble_eq_true rfl⟩ ⟨(Nat.le_of_ble_eq_true rfl), (Nat.le_of_ble_eq_true rfl)⟩ dX3_number_32) hw (fun _ => List.Perm.refl _) (fun r u H locs hp hw => ?_)
    obtain rfl : r = nI (kdN (tx (tF tx n p0))) := hp
    refine lv_iconst (v := (nI 2)) hx hb dX3_number_35 zk_2 ?_
    refine zi_ne (tgt := 43) hx hb (by have := kdN_le (tx (tF tx n p0)); omega) (by decide) dX3_number_36 (by decide) (fun c_36 => ?_) (fun c_36 => ?_)
    · skip
      refine lv_iconst (v := (nI 0)) hx hb dX3_number_43 zk_0 ?_
      refine z_ct (z_runVT (As := [.int (nI 0)]) (rest := []) hC zv_X3_106 (m_X3_want_f G l kA (by first | assumption | (omega)) (by first | assumption | (omega)) (by first | assumption | (omega)) rd co sr cl (tS tx n p0) n th dg re (nI (tF tx n p0)) (zrem [2] _)) hw (hw.perm (z_cut (is := [2]) (cells := [(rd, zo 3 [.int (nI (tS tx n p0)), .int (nI (tF tx n p0)), .ref sr, .int (nI th), .int (nI dg), .ref cl, .int (nI re), .ref co])]) rfl rfl)) 2 rfl rfl rfl rfl rfl (Nat.le_of_ble_eq_true rfl) hl.1 ⟨Nat.le_of_ble_eq_true rfl, Nat.le_of_ble_eq_true rfl⟩ ⟨(Nat.le_of_ble_eq_true rfl), (Nat.le_of_ble_eq_true rfl)⟩ dX3_number_44) hw (fun q9 => z_new1 (is := [2]) (cs := [(rd, zo 3 [.int (nI (tS tx n p0)), .int (nI (tF tx n p0)), .ref sr, .int (nI th), .int (nI dg), .ref cl, .int (nI re), .ref co])]) (cs' := [(rd, zo 3 [.int (nI (tS tx n p0)), .int (nI (tF tx n p0)), .ref sr, .int (nI th), .int (nI dg), .ref cl, .int (nI re), .ref co])]) (nw := [(q9, zo 4 [.null, .null, .null, .null, .null, .int 0, .int (nI (tF tx n p0))])]) rfl rfl rfl) (fun q9 H locs ce9 hex => ?_)
      obtain ⟨hw, hx9⟩ := hex
      have hw : zS G ((q9, zo 4 [.null, .null, .null, .null, .null, .int 0, .int (nI (tF tx n p0))]) :: (sr, zo 12 [.ref sv, .int (nI 0), .int 0, .int 0]) :: (sv, zc G 1 (zI (wL tx n p0) g4)) :: (rd, zo 3 [.int (nI (tS tx n p0)), .int (nI (tF tx n p0)), .ref sr, .int (nI th), .int (nI dg), .ref cl, .int (nI re), .ref co]) :: (co, zo 0 (cF w mn bm sm (nI n))) :: (w 8, zc G 1 (zI 200 xf)) :: rest) s H locs := hw
      have hw : zS G ((sr, zo 12 [.ref sv, .int (nI 0), .int 0, .int 0]) :: (sv, zc G 1 (zI (wL tx n p0) g4)) :: (rd, zo 3 [.int (nI (tS tx n p0)), .int (nI (tF tx n p0)), .ref sr, .int (nI th), .int (nI dg), .ref cl, .int (nI re), .ref co]) :: (q9, zo 4 [.null, .null, .null, .null, .null, .int 0, .int (nI (tF tx n p0))]) :: (co, zo 0 (cF w mn bm sm (nI n))) :: (w 8, zc G 1 (zI 200 xf)) :: rest) s H locs := hw.perm (((z_cut (is := [1, 2, 3, 0, 4, 5]) (ws := [(q9, zo 4 [.null, .null, .null, .null, .null, .int 0, .int (nI (tF tx n p0))]), (sr, zo 12 [.ref sv, .int (nI 0), .int 0, .int 0]), (sv, zc G 1 (zI (wL tx n p0) g4)), (rd, zo 3 [.int (nI (tS tx n p0)), .int (nI (tF tx n p0)), .ref sr, .int (nI th), .int (nI dg), .ref cl, .int (nI re), .ref co]), (co, zo 0 (cF w mn bm sm (nI n))), (w 8, zc G 1 (zI 200 xf))]) (cells := [(sr, zo 12 [.ref sv, .int (nI 0), .int 0, .int 0]), (sv, zc G 1 (zI (wL tx n p0) g4)), (rd, zo 3 [.int (nI (tS tx n p0)), .int (nI (tF tx n p0)), .ref sr, .int (nI th), .int (nI dg), .ref cl, .int (nI re), .ref co]), (q9, zo 4 [.null, .null, .null, .null, .null, .int 0, .int (nI (tF tx n p0))]), (co, zo 0 (cF w mn bm sm (nI n))), (w 8, zc G 1 (zI 200 xf))]) rfl rfl).append_right rest).trans (by rw [List.append_assoc]; exact List.Perm.refl _))
      have hw := hw.drop
      have hw := hw.drop
      have hw := hw.drop
      exact hend _ _ _ _ _ _ _ _ _ ⟨hw, hx9⟩ (by decide) (Nat.le_of_ble_eq_true rfl) (Nat.le_of_ble_eq_true rfl)
    · skip
      have hk2 : tK tx n p0 = 2 := (tK_kd hf9).mp c_36
      have hd0 := dg_at hpo hk2 (m := 0) (by omega)
      have hd1 := fun q => dg_at hpo hk2 (m := 1) q
      have hq9 := tQ_lt hpo hk2 hw12
      refine lv_iconst (v := (nI 1)) hx hb dX3_number_39 zk_1 ?_
      refine lv_goto (tgt := 44) hx hb dX3_number_40 (by decide) ?_
      refine z_cv (z_runV (As := [.int (nI 1)]) (rest := []) hC zv_X3_106 (m_X3_want_t G l rd _) hw hw 2 rfl rfl rfl rfl rfl (Nat.le_of_ble_eq_true rfl) hl.1 ⟨Nat.le_of_ble_eq_true rfl, Nat.le_of_ble_eq_true rfl⟩ ⟨(Nat.le_of_ble_eq_true rfl), (Nat.le_of_ble_eq_true rfl)⟩ dX3_number_44) hw (fun _ => List.Perm.refl _) (fun u H locs hp hw => ?_)
      refine lv_aload_n hx hb dX3_number_47 rfl (lv_at hl 0 rfl) ?_
      refine z_get (v := .ref sr) hC zf_X3_17_3 hw 2 rfl rfl dX3_number_48 ?_
      rcases (show wL tx n p0 = 1 ∨ wL tx n p0 = 2 by omega) with hw1 | hw2
      · skip
        have hw : zS G ((sr, zo 12 [.ref sv, .int (nI 0), .int 0, .int 0]) :: (sv, zc G 1 (zI 1 g4)) :: (rd, zo 3 [.int (nI (tS tx n p0)), .int (nI (tF tx n p0)), .ref sr, .int (nI th), .int (nI dg), .ref cl, .int (nI re), .ref co]) :: (co, zo 0 (cF w mn bm sm (nI n))) :: (w 8, zc G 1 (zI 200 xf)) :: rest) s H locs := by rw [hw1] at hw; exact hw
        have hl : lv_has ls 4 [(0, .ref rd), (1, .int (nI lo)), (2, .int up)] := hl
        refine z_ci (z_runS (As := [.ref sr]) (rest := []) hC zs_X3_110 (m_J18_parseInt_1 G l kA (by first | assumption | (omega)) (by first | assumption | (omega)) sr sv (tx (tF tx n p0) - 48) g4 (by rw [Nat.add_zero] at hd0; omega) (by have e := hg4 0 (by omega); rw [Nat.add_zero] at e hd0; rw [e]; congr 1; omega) (zrem [0, 1] _)) (hw.perm (z_cut (is := [0, 1]) (cells := [(sr, zo 12 [.ref sv, .int (nI 0), .int 0, .int 0]), (sv, zc G 1 (zI 1 g4))]) rfl rfl)) rfl rfl (Nat.le_of_ble_eq_true rfl) hl.1 ⟨Nat.le_of_ble_eq_true rfl, Nat.le_of_ble_eq_true rfl⟩ ⟨(Nat.le_of_ble_eq_true rfl), (Nat.le_of_ble_eq_true rfl)⟩ dX3_number_51) hw (fun _ => z_keep (is := [0, 1]) (cs := [(sr, zo 12 [.ref sv, .int (nI 0), .int 0, .int 0]), (sv, zc G 1 (zI 1 g4))]) rfl rfl) (fun r u H locs hp hw => ?_)
        obtain rfl : r = nI (tx (tF tx n p0) - 48) := hp
        rw [show nI (tx (tF tx n p0) - 48) = nI (tQ tx n p0) from congrArg nI (tQ_1 hk2 hw1).symm]
        refine lv_istore_n (lv' := [(3, .int (nI (tQ tx n p0))), (0, .ref rd), (1, .int (nI lo)), (2, .int up)]) hx hb dX3_number_54 rfl hl (by decide) rfl (fun ls hl => ?_)
        refine lv_aload_n hx hb dX3_number_55 rfl (lv_at hl 1 rfl) ?_
        refine lv_iload_n hx hb dX3_number_56 rfl (lv_at hl 0 rfl) ?_
        refine lv_i2l (v := (iL (nI (tQ tx n p0)))) hx hb dX3_number_57 rfl ?_
        refine lv_iload_n hx hb dX3_number_58 rfl (lv_at hl 2 rfl) ?_
        refine lv_i2l (v := (iL (nI lo))) hx hb dX3_number_59 rfl ?_
        refine lv_iload_n hx hb dX3_number_60 rfl (lv_at hl 3 rfl) ?_
        refine lv_i2l (v := (iL up)) hx hb dX3_number_61 rfl ?_
        refine z_ci (z_runSN (n := 3) (As := [.long (iL (nI (tQ tx n p0))), .long (iL (nI lo)), .long (iL up)]) (rest := [.ref rd]) hC ⟨zn_X0_in, q221⟩ (hz.1 _ (cw_t q285 rfl)) (m_X0_in_w G l (nI (tQ tx n p0)) (nI lo) up _) hw rfl rfl (Nat.le_of_ble_eq_true rfl) hl.1 ⟨Nat.le_of_ble_eq_true rfl, Nat.le_of_ble_eq_true rfl⟩ ⟨(Nat.le_of_ble_eq_true rfl), (Nat.le_of_ble_eq_true rfl)⟩ dX3_number_62) hw (fun _ => List.Perm.refl _) (fun r u H locs hp hw => ?_)
        obtain rfl : r = bI ((nI lo) ≤ (nI (tQ tx n p0)) ∧ (nI (tQ tx n p0)) ≤ up) := hp
        rw [bI_f (fun q => hN (tN_w.mpr ⟨hk2, hw12, (hup _ (by omega)).mp q⟩))]
        refine z_ct (z_runVT (As := [.int (nI 0)]) (rest := []) hC zv_X3_106 (m_X3_want_f G l kA (by first | assumption | (omega)) (by first | assumption | (omega)) (by first | assumption | (omega)) rd co sr cl (tS tx n p0) n th dg re (nI (tF tx n p0)) (zrem [2] _)) hw (hw.perm (z_cut (is := [2]) (cells := [(rd, zo 3 [.int (nI (tS tx n p0)), .int (nI (tF tx n p0)), .ref sr, .int (nI th), .int (nI dg), .ref cl, .int (nI re), .ref co])]) rfl rfl)) 2 rfl rfl rfl rfl rfl (Nat.le_of_ble_eq_true rfl) hl.1 ⟨Nat.le_of_ble_eq_true rfl, Nat.le_of_ble_eq_true rfl⟩ ⟨(Nat.le_of_ble_eq_true rfl), (Nat.le_of_ble_eq_true rfl)⟩ dX3_number_65) hw (fun q9 => z_new1 (is := [2]) (cs := [(rd, zo 3 [.int (nI (tS tx n p0)), .int (nI (tF tx n p0)), .ref sr, .int (nI th), .int (nI dg), .ref cl, .int (nI re), .ref co])]) (cs' := [(rd, zo 3 [.int (nI (tS tx n p0)), .int (nI (tF tx n p0)), .ref sr, .int (nI th), .int (nI dg), .ref cl, .int (nI re), .ref co])]) (nw := [(q9, zo 4 [.null, .null, .null, .null, .null, .int 0, .int (nI (tF tx n p0))])]) rfl rfl rfl) (fun q9 H locs ce9 hex => ?_)
        obtain ⟨hw, hx9⟩ := hex
        have hw : zS G ((q9, zo 4 [.null, .null, .null, .null, .null, .int 0, .int (nI (tF tx n p0))]) :: (sr, zo 12 [.ref sv, .int (nI 0), .int 0, .int 0]) :: (sv, zc G 1 (zI 1 g4)) :: (rd, zo 3 [.int (nI (tS tx n p0)), .int (nI (tF tx n p0)), .ref sr, .int (nI th), .int (nI dg), .ref cl, .int (nI re), .ref co]) :: (co, zo 0 (cF w mn bm sm (nI n))) :: (w 8, zc G 1 (zI 200 xf)) :: rest) s H locs := hw
        have hw : zS G ((sr, zo 12 [.ref sv, .int (nI 0), .int 0, .int 0]) :: (sv, zc G 1 (zI 1 g4)) :: (rd, zo 3 [.int (nI (tS tx n p0)), .int (nI (tF tx n p0)), .ref sr, .int (nI th), .int (nI dg), .ref cl, .int (nI re), .ref co]) :: (q9, zo 4 [.null, .null, .null, .null, .null, .int 0, .int (nI (tF tx n p0))]) :: (co, zo 0 (cF w mn bm sm (nI n))) :: (w 8, zc G 1 (zI 200 xf)) :: rest) s H locs := hw.perm (((z_cut (is := [1, 2, 3, 0, 4, 5]) (ws := [(q9, zo 4 [.null, .null, .null, .null, .null, .int 0, .int (nI (tF tx n p0))]), (sr, zo 12 [.ref sv, .int (nI 0), .int 0, .int 0]), (sv, zc G 1 (zI 1 g4)), (rd, zo 3 [.int (nI (tS tx n p0)), .int (nI (tF tx n p0)), .ref sr, .int (nI th), .int (nI dg), .ref cl, .int (nI re), .ref co]), (co, zo 0 (cF w mn bm sm (nI n))), (w 8, zc G 1 (zI 200 xf))]) (cells := [(sr, zo 12 [.ref sv, .int (nI 0), .int 0, .int 0]), (sv, zc G 1 (zI 1 g4)), (rd, zo 3 [.int (nI (tS tx n p0)), .int (nI (tF tx n p0)), .ref sr, .int (nI th), .int (nI dg), .ref cl, .int (nI re), .ref co]), (q9, zo 4 [.null, .null, .null, .null, .null, .int 0, .int (nI (tF tx n p0))]), (co, zo 0 (cF w mn bm sm (nI n))), (w 8, zc G 1 (zI 200 xf))]) rfl rfl).append_right rest).trans (by rw [List.append_assoc]; exact List.Perm.refl _))
        have hw := hw.drop
        have hw := hw.drop
        have hw := hw.drop
        exact hend _ _ _ _ _ _ _ _ _ ⟨hw, hx9⟩ (by decide) (Nat.le_of_ble_eq_true rfl) (Nat.le_of_ble_eq_true rfl)
      · skip
        have hw : zS G ((sr, zo 12 [.ref sv, .int (nI 0), .int 0, .int 0]) :: (sv, zc G 1 (zI 2 g4)) :: (rd, zo 3 [.int (nI (tS tx n p0)), .int (nI (tF tx n p0)), .ref sr, .int (nI th), .int (nI dg), .ref cl, .int (nI re), .ref co]) :: (co, zo 0 (cF w mn bm sm (nI n))) :: (w 8, zc G 1 (zI 200 xf)) :: rest) s H locs := by rw [hw2] at hw; exact hw
        have hl : lv_has ls 4 [(0, .ref rd), (1, .int (nI lo)), (2, .int up)] := hl
        refine z_ci (z_runS (As := [.ref sr]) (rest := []) hC zs_X3_110 (m_J18_parseInt_2 G l kA (by first | assumption | (omega)) (by first | assumption | (omega)) sr sv (tx (tF tx n p0) - 48) (tx (tF tx n p0 + 1) - 48) g4 (by rw [Nat.add_zero] at hd0; omega) (by have e := hg4 0 (by omega); rw [Nat.add_zero] at e hd0; rw [e]; congr 1; omega) (by omega) (by have e := hg4 1 (by omega); rw [e]; congr 1; omega) (zrem [0, 1] _)) (hw.perm (z_cut (is := [0, 1]) (cells := [(sr, zo 12 [.ref sv, .int (nI 0), .int 0, .int 0]), (sv, zc G 1 (zI 2 g4))]) rfl rfl)) rfl rfl (Nat.le_of_ble_eq_true rfl) hl.1 ⟨Nat.le_of_ble_eq_true rfl, Nat.le_of_ble_eq_true rfl⟩ ⟨(Nat.le_of_ble_eq_true rfl), (Nat.le_of_ble_eq_true rfl)⟩ dX3_number_51) hw (fun _ => z_keep (is := [0, 1]) (cs := [(sr, zo 12 [.ref sv, .int (nI 0), .int 0, .int 0]), (sv, zc G 1 (zI 2 g4))]) rfl rfl) (fun r u H locs hp hw => ?_)
        obtain rfl : r = nI (10 * (tx (tF tx n p0) - 48) + (tx (tF tx n p0 + 1) - 48)) := hp
        rw [show nI (10 * (tx (tF tx n p0) - 48) + (tx (tF tx n p0 + 1) - 48)) = nI (tQ tx n p0) from congrArg nI (tQ_2 hpo hk2 hw2).symm]
        refine lv_istore_n (lv' := [(3, .int (nI (tQ tx n p0))), (0, .ref rd), (1, .int (nI lo)), (2, .int up)]) hx hb dX3_number_54 rfl hl (by decide) rfl (fun ls hl => ?_)
        refine lv_aload_n hx hb dX3_number_55 rfl (lv_at hl 1 rfl) ?_
        refine lv_iload_n hx hb dX3_number_56 rfl (lv_at hl 0 rfl) ?_
        refine lv_i2l (v := (iL (nI (tQ tx n p0)))) hx hb dX3_number_57 rfl ?_
        refine lv_iload_n hx hb dX3_number_58 rfl (lv_at hl 2 rfl) ?_
        refine lv_i2l (v := (iL (nI lo))) hx hb dX3_number_59 rfl ?_
        refine lv_iload_n hx hb dX3_number_60 rfl (lv_at hl 3 rfl) ?_
        refine lv_i2l (v := (iL up)) hx hb dX3_number_61 rfl ?_
        refine z_ci (z_runSN (n := 3) (As := [.long (iL (nI (tQ tx n p0))), .long (iL (nI lo)), .long (iL up)]) (rest := [.ref rd]) hC ⟨zn_X0_in, q221⟩ (hz.1 _ (cw_t q285 rfl)) (m_X0_in_w G l (nI (tQ tx n p0)) (nI lo) up _) hw rfl rfl (Nat.le_of_ble_eq_true rfl) hl.1 ⟨Nat.le_of_ble_eq_true rfl, Nat.le_of_ble_eq_true rfl⟩ ⟨(Nat.le_of_ble_eq_true rfl), (Nat.le_of_ble_eq_true rfl)⟩ dX3_number_62) hw (fun _ => List.Perm.refl _) (fun r u H locs hp hw => ?_)
        obtain rfl : r = bI ((nI lo) ≤ (nI (tQ tx n p0)) ∧ (nI (tQ tx n p0)) ≤ up) := hp
        rw [bI_f (fun q => hN (tN_w.mpr ⟨hk2, hw12, (hup _ (by omega)).mp q⟩))]
        refine z_ct (z_runVT (As := [.int (nI 0)]) (rest := []) hC zv_X3_106 (m_X3_want_f G l kA (by first | assumption | (omega)) (by first | assumption | (omega)) (by first | assumption | (omega)) rd co sr cl (tS tx n p0) n th dg re (nI (tF tx n p0)) (zrem [2] _)) hw (hw.perm (z_cut (is := [2]) (cells := [(rd, zo 3 [.int (nI (tS tx n p0)), .int (nI (tF tx n p0)), .ref sr, .int (nI th), .int (nI dg), .ref cl, .int (nI re), .ref co])]) rfl rfl)) 2 rfl rfl rfl rfl rfl (Nat.le_of_ble_eq_true rfl) hl.1 ⟨Nat.le_of_ble_eq_true rfl, Nat.le_of_ble_eq_true rfl⟩ ⟨(Nat.le_of_ble_eq_true rfl), (Nat.le_of_ble_eq_true rfl)⟩ dX3_number_65) hw (fun q9 => z_new1 (is := [2]) (cs := [(rd, zo 3 [.int (nI (tS tx n p0)), .int (nI (tF tx n p0)), .ref sr, .int (nI th), .int (nI dg), .ref cl, .int (nI re), .ref co])]) (cs' := [(rd, zo 3 [.int (nI (tS tx n p0)), .int (nI (tF tx n p0)), .ref sr, .int (nI th), .int (nI dg), .ref cl, .int (nI re), .ref co])]) (nw := [(q9, zo 4 [.null, .null, .null, .null, .null, .int 0, .int (nI (tF tx n p0))])]) rfl rfl rfl) (fun q9 H locs ce9 hex => ?_)
        obtain ⟨hw, hx9⟩ := hex
        have hw : zS G ((q9, zo 4 [.null, .null, .null, .null, .null, .int 0, .int (nI (tF tx n p0))]) :: (sr, zo 12 [.ref sv, .int (nI 0), .int 0, .int 0]) :: (sv, zc G 1 (zI 2 g4)) :: (rd, zo 3 [.int (nI (tS tx n p0)), .int (nI (tF tx n p0)), .ref sr, .int (nI th), .int (nI dg), .ref cl, .int (nI re), .ref co]) :: (co, zo 0 (cF w mn bm sm (nI n))) :: (w 8, zc G 1 (zI 200 xf)) :: rest) s H locs := hw
        have hw : zS G ((sr, zo 12 [.ref sv, .int (nI 0), .int 0, .int 0]) :: (sv, zc G 1 (zI 2 g4)) :: (rd, zo 3 [.int (nI (tS tx n p0)), .int (nI (tF tx n p0)), .ref sr, .int (nI th), .int (nI dg), .ref cl, .int (nI re), .ref co]) :: (q9, zo 4 [.null, .null, .null, .null, .null, .int 0, .int (nI (tF tx n p0))]) :: (co, zo 0 (cF w mn bm sm (nI n))) :: (w 8, zc G 1 (zI 200 xf)) :: rest) s H locs := hw.perm (((z_cut (is := [1, 2, 3, 0, 4, 5]) (ws := [(q9, zo 4 [.null, .null, .null, .null, .null, .int 0, .int (nI (tF tx n p0))]), (sr, zo 12 [.ref sv, .int (nI 0), .int 0, .int 0]), (sv, zc G 1 (zI 2 g4)), (rd, zo 3 [.int (nI (tS tx n p0)), .int (nI (tF tx n p0)), .ref sr, .int (nI th), .int (nI dg), .ref cl, .int (nI re), .ref co]), (co, zo 0 (cF w mn bm sm (nI n))), (w 8, zc G 1 (zI 200 xf))]) (cells := [(sr, zo 12 [.ref sv, .int (nI 0), .int 0, .int 0]), (sv, zc G 1 (zI 2 g4)), (rd, zo 3 [.int (nI (tS tx n p0)), .int (nI (tF tx n p0)), .ref sr, .int (nI th), .int (nI dg), .ref cl, .int (nI re), .ref co]), (q9, zo 4 [.null, .null, .null, .null, .null, .int 0, .int (nI (tF tx n p0))]), (co, zo 0 (cF w mn bm sm (nI n))), (w 8, zc G 1 (zI 200 xf))]) rfl rfl).append_right rest).trans (by rw [List.append_assoc]; exact List.Perm.refl _))
        have hw := hw.drop
        have hw := hw.drop
        have hw := hw.drop
        exact hend _ _ _ _ _ _ _ _ _ ⟨hw, hx9⟩ (by decide) (Nat.le_of_ble_eq_true rfl) (Nat.le_of_ble_eq_true rfl)
