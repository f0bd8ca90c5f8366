/-! COMPONENT: whisper -/
set_option maxRecDepth 100000
/-- the best to tell, over the pairs below c -/
noncomputable def wc (v : Nat → Nat) (n c : Nat) : Option Nat × Nat := whIn v n (c / 10) (whOut v n (c / 10)) (min (c % 10) (v 0))
theorem wc_0 (v : Nat → Nat) (n : Nat) : wc v n 0 = (none, liveN v n) := by
  show whIn v n 0 (whOut v n 0) (min 0 (v 0)) = _
  rw [Nat.zero_min]; rfl
theorem wc_e {v : Nat → Nat} (n m : Nat) : wc v n (10 * m) = whOut v n m := by
  unfold wc
  rw [show 10 * m / 10 = m by omega, show 10 * m % 10 = 0 by omega, Nat.zero_min]; rfl
theorem wc_n {v : Nat → Nat} {n c : Nat} (h0 : v 0 ≤ 9) (h : v 0 ≤ c % 10) : wc v n (c + 1) = wc v n c := by
  unfold wc
  by_cases h9 : c % 10 = 9
  · rw [show (c + 1) / 10 = c / 10 + 1 by omega, show (c + 1) % 10 = 0 by omega, Nat.zero_min, Nat.min_eq_right h]; rfl
  · rw [show (c + 1) / 10 = c / 10 by omega, Nat.min_eq_right h, Nat.min_eq_right (by omega)]
theorem wc_s {v : Nat → Nat} {n c : Nat} (h0 : v 0 ≤ 9) (h : c % 10 < v 0) : wc v n (c + 1) = whIn v n (c / 10) (whOut v n (c / 10)) (c % 10 + 1) ∧ wc v n c = whIn v n (c / 10) (whOut v n (c / 10)) (c % 10) := by
  unfold wc
  rw [show (c + 1) / 10 = c / 10 by omega, show (c + 1) % 10 = c % 10 + 1 by omega, Nat.min_eq_left (by omega), Nat.min_eq_left (by omega)]
  exact ⟨rfl, rfl⟩
theorem wc_skip {v : Nat → Nat} {n c : Nat} (h0 : v 0 ≤ 9) (h : c % 10 < v 0) (hs : goneN v (c / 10) ∨ (v (21 + 5 * (c / 10) + 4)).testBit (c % 10) = true) : wc v n (c + 1) = wc v n c := by
  obtain ⟨e1, e2⟩ := wc_s (n := n) h0 h
  rw [e1, e2]; exact whIn_skip hs
theorem wc_go {v : Nat → Nat} {n c : Nat} (h0 : v 0 ≤ 9) (h : c % 10 < v 0) (h1 : ¬ goneN v (c / 10)) (h2 : ¬ (v (21 + 5 * (c / 10) + 4)).testBit (c % 10) = true) : wc v n (c + 1) = (if (wc v n c).2 < liveN (updN v (21 + 5 * (c / 10) + 4) (v (21 + 5 * (c / 10) + 4) ||| 2 ^ (c % 10))) n then some c else (wc v n c).1, max (wc v n c).2 (liveN (updN v (21 + 5 * (c / 10) + 4) (v (21 + 5 * (c / 10) + 4) ||| 2 ^ (c % 10))) n)) := by
  obtain ⟨e1, e2⟩ := wc_s (n := n) h0 h
  rw [e1, whIn_go (w := (wc v n c).1) (mo := (wc v n c).2) e2.symm h1 h2, show 10 * (c / 10) + c % 10 = c by omega]
  split
  · rw [Nat.max_eq_right (by omega)]
  · rw [Nat.max_eq_left (by omega)]
set_option maxHeartbeats 4000000 in
theorem m_X0_whisper (G : zE) (l : Launch) (kA : Nat → Nat) (hG : zG G kA) (co : Nat) (w : Nat → Nat) (zn : Nat → Nat) (A : AS) (ps : Nat) (mn : Nat) (dy : Nat) (bm : Int32) (sm : Int32) (lt : Int32) (gg : Int32) (pl : Nat → Nat) (nu : Nat → Nat) (ax : Nat → Nat) (le : Nat → Nat) (kn : Nat → Nat) (hA : AOk A) (hps : ps = aV A 0) (hmn : mn = aV A 1) (hdy : dy = aV A 2) (hR : sRel (aV A) pl nu ax le kn) (zr : Nat → Nat) (rps : Nat) (rdy : Nat) (rg : Int32) (rpl : Nat → Nat) (rnu : Nat → Nat) (rax : Nat → Nat) (rle : Nat → Nat) (rkn : Nat → Nat) (sf : Nat → Option Nat) (sq : Nat → Nat) (hbd : sBd rpl rnu rax rle rkn) (hsf : ∀ i, i < aV A 1 → sf i = some (sq i)) (x : Int32) (rest : va_W) : zMi G l yX0_whisper cX0_whisper 8 (some .int) 7 0 0 [.ref co, .int x] ((co, zo 0 (cF w (nI mn) bm sm lt)) :: (w 2, zo 1 (stF zn co (nI ps) (nI dy) (gg))) :: (zn 0, zc G 1 (zI 9 (vI pl))) :: (zn 1, zc G 1 (zI 9 (vI nu))) :: (zn 2, zc G 1 (zI 5 (vI ax))) :: (zn 3, zc G 1 (zI 5 (vI le))) :: (zn 4, zc G 2 (zI 5 (vI kn))) :: (w 3, zo 1 (stF zr co (nI rps) (nI rdy) (rg))) :: (zr 0, zc G 1 (zI 9 (vI rpl))) :: (zr 1, zc G 1 (zI 9 (vI rnu))) :: (zr 2, zc G 1 (zI 5 (vI rax))) :: (zr 3, zc G 1 (zI 5 (vI rle))) :: (zr 4, zc G 2 (zI 5 (vI rkn))) :: (w 0, zc G 4 (zO 5 sf)) :: (sqW sq (aV A) ++ rest)) (fun (r : Int32) u => r = F_whisper A x ∧ sBd u.2.2.2.1 u.2.2.2.2.1 u.2.2.2.2.2.1 u.2.2.2.2.2.2.1 u.2.2.2.2.2.2.2) (fun (u : Nat × Nat × Int32 × (Nat → Nat) × (Nat → Nat) × (Nat → Nat) × (Nat → Nat) × (Nat → Nat)) => (co, zo 0 (cF w (nI mn) bm sm lt)) :: (w 2, zo 1 (stF zn co (nI ps) (nI dy) (gg))) :: (zn 0, zc G 1 (zI 9 (vI pl))) :: (zn 1, zc G 1 (zI 9 (vI nu))) :: (zn 2, zc G 1 (zI 5 (vI ax))) :: (zn 3, zc G 1 (zI 5 (vI le))) :: (zn 4, zc G 2 (zI 5 (vI kn))) :: (w 3, zo 1 (stF zr co (nI u.1) (nI u.2.1) (u.2.2.1))) :: (zr 0, zc G 1 (zI 9 (vI u.2.2.2.1))) :: (zr 1, zc G 1 (zI 9 (vI u.2.2.2.2.1))) :: (zr 2, zc G 1 (zI 5 (vI u.2.2.2.2.2.1))) :: (zr 3, zc G 1 (zI 5 (vI u.2.2.2.2.2.2.1))) :: (zr 4, zc G 2 (zI 5 (vI u.2.2.2.2.2.2.2))) :: (w 0, zc G 4 (zO 5 sf)) :: (sqW sq (aV A) ++ rest)) := by
  refine z_begI (by decide) (Nat.le_of_ble_eq_true rfl) (fun p e s m args below meth c ls Q hC hl hw hend => ?_)
  have hx := hC.hx
  have hb := hC.hb
  have hl : lv_has ls 8 [(0, .ref co), (1, .int x)] := hl
  have hw : zS G ((co, zo 0 (cF w (nI mn) bm sm lt)) :: (w 2, zo 1 (stF zn co (nI ps) (nI dy) (gg))) :: (zn 0, zc G 1 (zI 9 (vI pl))) :: (zn 1, zc G 1 (zI 9 (vI nu))) :: (zn 2, zc G 1 (zI 5 (vI ax))) :: (zn 3, zc G 1 (zI 5 (vI le))) :: (zn 4, zc G 2 (zI 5 (vI kn))) :: (w 3, zo 1 (stF zr co (nI rps) (nI rdy) (rg))) :: (zr 0, zc G 1 (zI 9 (vI rpl))) :: (zr 1, zc G 1 (zI 9 (vI rnu))) :: (zr 2, zc G 1 (zI 5 (vI rax))) :: (zr 3, zc G 1 (zI 5 (vI rle))) :: (zr 4, zc G 2 (zI 5 (vI rkn))) :: (w 0, zc G 4 (zO 5 sf)) :: (sqW sq (aV A) ++ rest)) s s.heap [] := hw
  have hz := hG s hC.hZ.1
  have hgv := hA.2.2.1.1
  have hH : Hw (aV A) := hgv.1
  have hpl := fun j => (hR.2.2.2 j).1
  have hnu := fun j => (hR.2.2.2 j).2.1
  have hax := fun j => (hR.2.2.2 j).2.2.1
  have hle := fun j => (hR.2.2.2 j).2.2.2.1
  have hkn := fun j => (hR.2.2.2 j).2.2.2.2
  have hp9 : ps ≤ 9 := by rw [hps]; exact hH.1
  have hm5 : mn ≤ 5 := by rw [hmn]; exact hH.2.1
  have hd999 : dy ≤ 999 := by rw [hdy]; exact hA.2.2.1.2.2
  refine lv_iload_n hx hb dX0_whisper_0 rfl (lv_at hl 1 rfl) ?_
  refine lv_i2l (v := (iL x)) hx hb dX0_whisper_1 rfl ?_
  refine lv_lconst (v := lN 1) hx hb dX0_whisper_2 rfl ?_
  refine lv_ldc2 (v := (lN 20)) hx hb hC.hown (hC.hts _ q1063) dX0_whisper_3 ?_
  refine z_ci (z_runS (As := [.long (iL x), .long (lN 1), .long (lN 20)]) (rest := []) hC zs_X0_126 (m_X0_in G l x 1 20 (by decide) (by decide) _) hw rfl rfl (Nat.le_of_ble_eq_true rfl) hl.1 ⟨Nat.le_of_ble_eq_true rfl, Nat.le_of_ble_eq_true rfl⟩ ⟨(Nat.le_of_ble_eq_true rfl), (Nat.le_of_ble_eq_true rfl)⟩ dX0_whisper_6) hw (fun _ => List.Perm.refl _) (fun r u H locs hp hw => ?_)
  obtain rfl : r = bI (inR x 1 20) := hp
  refine zb_ne (tgt := 15) hx hb dX0_whisper_9 (by decide) (fun c_9 => ?_) (fun c_9 => ?_)
  · skip
    obtain ⟨k, hk1, hk2, rfl⟩ := c_9
    have hl : lv_has ls 8 [(0, .ref co), (1, .int (nI k))] := hl
    refine lv_iconst (v := -1) hx hb dX0_whisper_15 zk_m1 ?_
    refine lv_istore_n (lv' := [(2, .int (-1)), (0, .ref co), (1, .int (nI k))]) hx hb dX0_whisper_16 rfl hl (by decide) rfl (fun ls hl => ?_)
    refine lv_aload_n hx hb dX0_whisper_17 rfl (lv_at hl 1 rfl) ?_
    refine z_get (v := .ref (w 3)) hC zf_X0_109_0 hw 0 rfl rfl dX0_whisper_18 ?_
    refine lv_aload_n hx hb dX0_whisper_21 rfl (lv_at hl 1 rfl) ?_
    refine z_get (v := .ref (w 2)) hC zf_X0_27_0 hw 0 rfl rfl dX0_whisper_22 ?_
    refine z_cq (z_runV (As := [.ref (w 2)]) (rest := []) hC zv_X0_34 (m_X1_set G l (w 3) (w 2) co zr zn rps rdy ps dy rg gg rpl rnu rax rle rkn pl nu ax le kn hpl hnu hax hle hkn (zrem [7, 8, 9, 10, 11, 12, 1, 2, 3, 4, 5, 6] _)) hw (hw.perm (z_cut (is := [7, 8, 9, 10, 11, 12, 1, 2, 3, 4, 5, 6]) (cells := [(w 3, zo 1 (stF zr co (nI rps) (nI rdy) (rg))), (zr 0, zc G 1 (zI 9 (vI rpl))), (zr 1, zc G 1 (zI 9 (vI rnu))), (zr 2, zc G 1 (zI 5 (vI rax))), (zr 3, zc G 1 (zI 5 (vI rle))), (zr 4, zc G 2 (zI 5 (vI rkn))), (w 2, zo 1 (stF zn co (nI ps) (nI dy) (gg))), (zn 0, zc G 1 (zI 9 (vI pl))), (zn 1, zc G 1 (zI 9 (vI nu))), (zn 2, zc G 1 (zI 5 (vI ax))), (zn 3, zc G 1 (zI 5 (vI le))), (zn 4, zc G 2 (zI 5 (vI kn)))]) rfl rfl)) 7 rfl rfl rfl rfl rfl (Nat.le_of_ble_eq_true rfl) hl.1 ⟨Nat.le_of_ble_eq_true rfl, Nat.le_of_ble_eq_true rfl⟩ ⟨(Nat.le_of_ble_eq_true rfl), (Nat.le_of_ble_eq_true rfl)⟩ dX0_whisper_25) hw (fun _ => z_pput (is := [7, 8, 9, 10, 11, 12, 1, 2, 3, 4, 5, 6]) (cells := [(w 3, zo 1 (stF zr co (nI rps) (nI rdy) (rg))), (zr 0, zc G 1 (zI 9 (vI rpl))), (zr 1, zc G 1 (zI 9 (vI rnu))), (zr 2, zc G 1 (zI 5 (vI rax))), (zr 3, zc G 1 (zI 5 (vI rle))), (zr 4, zc G 2 (zI 5 (vI rkn))), (w 2, zo 1 (stF zn co (nI ps) (nI dy) (gg))), (zn 0, zc G 1 (zI 9 (vI pl))), (zn 1, zc G 1 (zI 9 (vI nu))), (zn 2, zc G 1 (zI 5 (vI ax))), (zn 3, zc G 1 (zI 5 (vI le))), (zn 4, zc G 2 (zI 5 (vI kn)))]) (cells' := [(w 3, zo 1 (stF zr co (nI ps) (nI dy) (rg))), (zr 0, zc G 1 (zI 9 (vI (cpN pl rpl 9)))), (zr 1, zc G 1 (zI 9 (vI (cpN nu rnu 9)))), (zr 2, zc G 1 (zI 5 (vI (cpN ax rax 5)))), (zr 3, zc G 1 (zI 5 (vI (cpN le rle 5)))), (zr 4, zc G 2 (zI 5 (vI (cpN kn rkn 5)))), (w 2, zo 1 (stF zn co (nI ps) (nI dy) (gg))), (zn 0, zc G 1 (zI 9 (vI pl))), (zn 1, zc G 1 (zI 9 (vI nu))), (zn 2, zc G 1 (zI 5 (vI ax))), (zn 3, zc G 1 (zI 5 (vI le))), (zn 4, zc G 2 (zI 5 (vI kn)))]) rfl rfl rfl) (fun r u H locs hp hw => ?_)
    have hw : zS G ((co, zo 0 (cF w (nI mn) bm sm lt)) :: (w 2, zo 1 (stF zn co (nI ps) (nI dy) (gg))) :: (zn 0, zc G 1 (zI 9 (vI pl))) :: (zn 1, zc G 1 (zI 9 (vI nu))) :: (zn 2, zc G 1 (zI 5 (vI ax))) :: (zn 3, zc G 1 (zI 5 (vI le))) :: (zn 4, zc G 2 (zI 5 (vI kn))) :: (w 3, zo 1 (stF zr co (nI ps) (nI dy) (rg))) :: (zr 0, zc G 1 (zI 9 (vI (cpN pl rpl 9)))) :: (zr 1, zc G 1 (zI 9 (vI (cpN nu rnu 9)))) :: (zr 2, zc G 1 (zI 5 (vI (cpN ax rax 5)))) :: (zr 3, zc G 1 (zI 5 (vI (cpN le rle 5)))) :: (zr 4, zc G 2 (zI 5 (vI (cpN kn rkn 5)))) :: (w 0, zc G 4 (zO 5 sf)) :: (sqW sq (aV A) ++ rest)) s H locs := hw
    obtain rfl : r = some (w 3) := hp
    refine lv_iload_n hx hb dX0_whisper_28 rfl (lv_at hl 2 rfl) ?_
    refine z_cq (z_runV (As := [.int (nI k)]) (rest := []) hC zv_X0_207 (m_X1_pass G l kA (by first | assumption | (omega)) (w 3) co zr w bm sm lt ps dy mn rg (aV A) (cpN pl rpl 9) (cpN nu rnu 9) (cpN ax rax 5) (cpN le rle 5) (cpN kn rkn 5) sf sq hps hmn hdy k (by omega) hgv (sRel_cp hH hR hbd) hsf (aV A) rfl (zrem [7, 8, 9, 10, 11, 12, 0, 13] [(co, zo 0 (cF w (nI mn) bm sm lt)), (w 2, zo 1 (stF zn co (nI ps) (nI dy) (gg))), (zn 0, zc G 1 (zI 9 (vI pl))), (zn 1, zc G 1 (zI 9 (vI nu))), (zn 2, zc G 1 (zI 5 (vI ax))), (zn 3, zc G 1 (zI 5 (vI le))), (zn 4, zc G 2 (zI 5 (vI kn))), (w 3, zo 1 (stF zr co (nI ps) (nI dy) (rg))), (zr 0, zc G 1 (zI 9 (vI (cpN pl rpl 9)))), (zr 1, zc G 1 (zI 9 (vI (cpN nu rnu 9)))), (zr 2, zc G 1 (zI 5 (vI (cpN ax rax 5)))), (zr 3, zc G 1 (zI 5 (vI (cpN le rle 5)))), (zr 4, zc G 2 (zI 5 (vI (cpN kn rkn 5)))), (w 0, zc G 4 (zO 5 sf))] ++ rest)) hw (hw.perm (z_cutP (z_cut (is := [7, 8, 9, 10, 11, 12, 0, 13]) (ws := [(co, zo 0 (cF w (nI mn) bm sm lt)), (w 2, zo 1 (stF zn co (nI ps) (nI dy) (gg))), (zn 0, zc G 1 (zI 9 (vI pl))), (zn 1, zc G 1 (zI 9 (vI nu))), (zn 2, zc G 1 (zI 5 (vI ax))), (zn 3, zc G 1 (zI 5 (vI le))), (zn 4, zc G 2 (zI 5 (vI kn))), (w 3, zo 1 (stF zr co (nI ps) (nI dy) (rg))), (zr 0, zc G 1 (zI 9 (vI (cpN pl rpl 9)))), (zr 1, zc G 1 (zI 9 (vI (cpN nu rnu 9)))), (zr 2, zc G 1 (zI 5 (vI (cpN ax rax 5)))), (zr 3, zc G 1 (zI 5 (vI (cpN le rle 5)))), (zr 4, zc G 2 (zI 5 (vI (cpN kn rkn 5)))), (w 0, zc G 4 (zO 5 sf))]) (cells := [(w 3, zo 1 (stF zr co (nI ps) (nI dy) (rg))), (zr 0, zc G 1 (zI 9 (vI (cpN pl rpl 9)))), (zr 1, zc G 1 (zI 9 (vI (cpN nu rnu 9)))), (zr 2, zc G 1 (zI 5 (vI (cpN ax rax 5)))), (zr 3, zc G 1 (zI 5 (vI (cpN le rle 5)))), (zr 4, zc G 2 (zI 5 (vI (cpN kn rkn 5)))), (co, zo 0 (cF w (nI mn) bm sm lt)), (w 0, zc G 4 (zO 5 sf))]) rfl rfl))) 7 rfl rfl rfl rfl rfl (Nat.le_of_ble_eq_true rfl) hl.1 ⟨Nat.le_of_ble_eq_true rfl, Nat.le_of_ble_eq_true rfl⟩ ⟨(Nat.le_of_ble_eq_true rfl), (Nat.le_of_ble_eq_true rfl)⟩ dX0_whisper_29) hw (fun u => z_putP (z_pput (is := [7, 8, 9, 10, 11, 12, 0, 13]) (ws := [(co, zo 0 (cF w (nI mn) bm sm lt)), (w 2, zo 1 (stF zn co (nI ps) (nI dy) (gg))), (zn 0, zc G 1 (zI 9 (vI pl))), (zn 1, zc G 1 (zI 9 (vI nu))), (zn 2, zc G 1 (zI 5 (vI ax))), (zn 3, zc G 1 (zI 5 (vI le))), (zn 4, zc G 2 (zI 5 (vI kn))), (w 3, zo 1 (stF zr co (nI ps) (nI dy) (rg))), (zr 0, zc G 1 (zI 9 (vI (cpN pl rpl 9)))), (zr 1, zc G 1 (zI 9 (vI (cpN nu rnu 9)))), (zr 2, zc G 1 (zI 5 (vI (cpN ax rax 5)))), (zr 3, zc G 1 (zI 5 (vI (cpN le rle 5)))), (zr 4, zc G 2 (zI 5 (vI (cpN kn rkn 5)))), (w 0, zc G 4 (zO 5 sf))]) (cells := [(w 3, zo 1 (stF zr co (nI ps) (nI dy) (rg))), (zr 0, zc G 1 (zI 9 (vI (cpN pl rpl 9)))), (zr 1, zc G 1 (zI 9 (vI (cpN nu rnu 9)))), (zr 2, zc G 1 (zI 5 (vI (cpN ax rax 5)))), (zr 3, zc G 1 (zI 5 (vI (cpN le rle 5)))), (zr 4, zc G 2 (zI 5 (vI (cpN kn rkn 5)))), (co, zo 0 (cF w (nI mn) bm sm lt)), (w 0, zc G 4 (zO 5 sf))]) (cells' := [(w 3, zo 1 (stF zr co (nI ps) (nI (dy + k)) (u.2.2.2.2))), (zr 0, zc G 1 (zI 9 (vI (cpN pl rpl 9)))), (zr 1, zc G 1 (zI 9 (vI u.1))), (zr 2, zc G 1 (zI 5 (vI u.2.1))), (zr 3, zc G 1 (zI 5 (vI u.2.2.1))), (zr 4, zc G 2 (zI 5 (vI u.2.2.2.1))), (co, zo 0 (cF w (nI mn) bm sm lt)), (w 0, zc G 4 (zO 5 sf))]) rfl rfl rfl)) (fun r u H locs hp hw => ?_)
    obtain ⟨nu6, ax6, le6, kn6, gg6⟩ := u
    have hw : zS G ((co, zo 0 (cF w (nI mn) bm sm lt)) :: (w 2, zo 1 (stF zn co (nI ps) (nI dy) (gg))) :: (zn 0, zc G 1 (zI 9 (vI pl))) :: (zn 1, zc G 1 (zI 9 (vI nu))) :: (zn 2, zc G 1 (zI 5 (vI ax))) :: (zn 3, zc G 1 (zI 5 (vI le))) :: (zn 4, zc G 2 (zI 5 (vI kn))) :: (w 3, zo 1 (stF zr co (nI ps) (nI (dy + k)) (gg6))) :: (zr 0, zc G 1 (zI 9 (vI (cpN pl rpl 9)))) :: (zr 1, zc G 1 (zI 9 (vI nu6))) :: (zr 2, zc G 1 (zI 5 (vI ax6))) :: (zr 3, zc G 1 (zI 5 (vI le6))) :: (zr 4, zc G 2 (zI 5 (vI kn6))) :: (w 0, zc G 4 (zO 5 sf)) :: (sqW sq (aV A) ++ rest)) s H locs := hw
    obtain ⟨rfl, hdR⟩ := hp
    have hdi := daysN_inv hH k (show aV A 2 + k < 65535 by omega)
    have hd1 : daysN k (aV A) 1 = aV A 1 := hdi.2.2 1 still_1
    have hd0 : daysN k (aV A) 0 = aV A 0 := hdi.2.2 0 still_0
    refine z_ci (z_runV (As := []) (rest := []) hC zv_X0_225 (m_X1_alive G l kA (by first | assumption | (omega)) (w 3) co zr w bm sm lt ps (dy + k) gg6 mn le6 hm5 (fun j => (hdR.2.2.2 j).2.2.2.1) (zrem [7, 11, 0] _)) hw (hw.perm (z_cut (is := [7, 11, 0]) (cells := [(w 3, zo 1 (stF zr co (nI ps) (nI (dy + k)) gg6)), (zr 3, zc G 1 (zI 5 (vI le6))), (co, zo 0 (cF w (nI mn) bm sm lt))]) rfl rfl)) 7 rfl rfl rfl rfl rfl (Nat.le_of_ble_eq_true rfl) hl.1 ⟨Nat.le_of_ble_eq_true rfl, Nat.le_of_ble_eq_true rfl⟩ ⟨(Nat.le_of_ble_eq_true rfl), (Nat.le_of_ble_eq_true rfl)⟩ dX0_whisper_32) hw (fun _ => z_keep (is := [7, 11, 0]) (cs := [(w 3, zo 1 (stF zr co (nI ps) (nI (dy + k)) gg6)), (zr 3, zc G 1 (zI 5 (vI le6))), (co, zo 0 (cF w (nI mn) bm sm lt))]) rfl rfl) (fun r u H locs hp hw => ?_)
    obtain rfl : r = nI (orB (fun i => decide (¬ le6 i = 3)) mn) := hp
    have hal := alive_c (daysN_Hg hgv k (by omega)).1 hdR (hmn.trans hd1.symm)
    have hlv : onesN (orB (fun i => decide (¬ le6 i = 3)) mn) 9 = (wc (aV A) k 0).2 := by rw [wc_0]; show _ = liveN (aV A) k; unfold liveN; rw [hal]
    refine z_ci (z_runS (As := [.int (nI (orB (fun i => decide (¬ le6 i = 3)) mn))]) (rest := []) hC zs_X0_228 (m_J18_bitCount G l (nI (orB (fun i => decide (¬ le6 i = 3)) mn)) (orB (fun i => decide (¬ le6 i = 3)) mn) (orB_512 (by omega)) rfl _) hw rfl rfl (Nat.le_of_ble_eq_true rfl) hl.1 ⟨Nat.le_of_ble_eq_true rfl, Nat.le_of_ble_eq_true rfl⟩ ⟨(Nat.le_of_ble_eq_true rfl), (Nat.le_of_ble_eq_true rfl)⟩ dX0_whisper_35) hw (fun _ => List.Perm.refl _) (fun r u H locs hp hw => ?_)
    obtain rfl : r = nI (onesN (orB (fun i => decide (¬ le6 i = 3)) mn) 9) := hp
    rw [show nI (onesN (orB (fun i => decide (¬ le6 i = 3)) mn) 9) = nI ((wc (aV A) k 0).2) from by rw [hlv]]
    refine lv_istore_n (lv' := [(3, .int (nI ((wc (aV A) k 0).2))), (2, .int (-1)), (0, .ref co), (1, .int (nI k))]) hx hb dX0_whisper_38 rfl hl (by decide) rfl (fun ls hl => ?_)
    refine lv_iconst (v := (nI 0)) hx hb dX0_whisper_39 zk_0 ?_
    have hl : lv_has ls 8 [(3, .int (nI ((wc (aV A) k 0).2))), (2, .int (optI ((wc (aV A) k 0).1))), (0, .ref co), (1, .int (nI k))] := by rw [wc_0]; exact hl
    refine lv_istore (lv' := [(4, .int (nI 0)), (3, .int (nI ((wc (aV A) k 0).2))), (2, .int (optI ((wc (aV A) k 0).1))), (0, .ref co), (1, .int (nI k))]) hx hb dX0_whisper_40 hl (by decide) rfl (fun ls hl => ?_)
    have loop_42 : ∀ (fuel : Nat) (cd : Nat) (q1 : Nat) (q2 : Nat) (q3 : Int32) (p1 : Nat → Nat) (p2 : Nat → Nat) (p3 : Nat → Nat) (p4 : Nat → Nat) (p5 : Nat → Nat), (cd ≤ 10 * mn) → (sBd p1 p2 p3 p4 p5) → ((wc (aV A) k cd).2 ≤ 9) → (10 * mn - cd) < fuel → ∀ (H : Heap) (locs : List Loc) (ls : Array Slot), zS G ((co, zo 0 (cF w (nI mn) bm sm lt)) :: (w 2, zo 1 (stF zn co (nI ps) (nI dy) (gg))) :: (zn 0, zc G 1 (zI 9 (vI pl))) :: (zn 1, zc G 1 (zI 9 (vI nu))) :: (zn 2, zc G 1 (zI 5 (vI ax))) :: (zn 3, zc G 1 (zI 5 (vI le))) :: (zn 4, zc G 2 (zI 5 (vI kn))) :: (w 3, zo 1 (stF zr co (nI q1) (nI q2) (q3))) :: (zr 0, zc G 1 (zI 9 (vI p1))) :: (zr 1, zc G 1 (zI 9 (vI p2))) :: (zr 2, zc G 1 (zI 5 (vI p3))) :: (zr 3, zc G 1 (zI 5 (vI p4))) :: (zr 4, zc G 2 (zI 5 (vI p5))) :: (w 0, zc G 4 (zO 5 sf)) :: (sqW sq (aV A) ++ rest)) s H locs → lv_has ls 8 [(0, .ref co), (1, .int (nI k)), (2, .int (optI ((wc (aV A) k cd).1))), (3, .int (nI ((wc (aV A) k cd).2))), (4, .int (nI cd))] → W p l e (zR 7 0 0) s m args below meth c H locs 0 0 Q (F0 m 42 ls []) := by
      intro fuel
      induction fuel with
      | zero => intro cd q1 q2 q3 p1 p2 p3 p4 p5 hc hbd1 hw9 hfuel; exact absurd hfuel (Nat.not_lt_zero _)
      | succ fuel_42 ih_42 =>
        intro cd q1 q2 q3 p1 p2 p3 p4 p5 hc hbd1 hw9 hfuel_42 H locs ls hw hl
        refine lv_iload hx hb dX0_whisper_42 (lv_at hl 4 rfl) ?_
        refine lv_bipush (v := (nI 10)) hx hb dX0_whisper_44 zb_10 ?_
        refine lv_aload_n hx hb dX0_whisper_46 rfl (lv_at hl 0 rfl) ?_
        refine z_get (v := .int (nI mn)) hC zf_X0_73_0 hw 0 rfl rfl dX0_whisper_47 ?_
        refine zn_imul hx hb dX0_whisper_50 ?_
        refine zi_ge (tgt := 181) hx hb (by omega) (by omega) dX0_whisper_51 (by decide) (fun c_51 => ?_) (fun c_51 => ?_)
        · skip
          refine lv_iload_n hx hb dX0_whisper_181 rfl (lv_at hl 2 rfl) ?_
          exact hend _ _ _ _ _ _ _ (q1, q2, q3, p1, p2, p3, p4, p5) hw ⟨by unfold F_whisper; rw [ifP_t ⟨k, hk1, hk2, rfl⟩, cl_nI (by omega), ← wc_e, ← hmn, show 10 * mn = cd by omega], hbd1⟩ (Nat.le_of_ble_eq_true rfl) (Nat.le_of_ble_eq_true rfl) dX0_whisper_182
        · skip
          refine lv_iload hx hb dX0_whisper_54 (lv_at hl 4 rfl) ?_
          refine lv_bipush (v := (nI 10)) hx hb dX0_whisper_56 zb_10 ?_
          refine zn_idiv hx hb (by omega) (by decide) (by decide) dX0_whisper_58 ?_
          refine lv_istore (lv' := [(5, .int (nI (cd / 10))), (0, .ref co), (1, .int (nI k)), (2, .int (optI ((wc (aV A) k cd).1))), (3, .int (nI ((wc (aV A) k cd).2))), (4, .int (nI cd))]) hx hb dX0_whisper_59 hl (by decide) rfl (fun ls hl => ?_)
          have hcd : cd < 10 * mn := by omega
          obtain ⟨i, hi⟩ : ∃ i, i = cd / 10 := ⟨_, rfl⟩
          have hl : lv_has ls 8 [(5, .int (nI i)), (0, .ref co), (1, .int (nI k)), (2, .int (optI ((wc (aV A) k cd).1))), (3, .int (nI ((wc (aV A) k cd).2))), (4, .int (nI cd))] := by rw [hi]; exact hl
          have hia : i < aV A 1 := by omega
          have hi5 : i < 5 := by omega
          have hRi := hR.2.2.1 i hi5
          refine lv_iload hx hb dX0_whisper_61 (lv_at hl 5 rfl) ?_
          refine lv_bipush (v := (nI 10)) hx hb dX0_whisper_63 zb_10 ?_
          refine zn_irem hx hb (by omega) (by decide) (by decide) dX0_whisper_65 ?_
          refine lv_istore (lv' := [(6, .int (nI (cd % 10))), (5, .int (nI i)), (0, .ref co), (1, .int (nI k)), (2, .int (optI ((wc (aV A) k cd).1))), (3, .int (nI ((wc (aV A) k cd).2))), (4, .int (nI cd))]) hx hb dX0_whisper_66 hl (by decide) rfl (fun ls hl => ?_)
          obtain ⟨t, ht⟩ : ∃ t, t = cd % 10 := ⟨_, rfl⟩
          have hl : lv_has ls 8 [(6, .int (nI t)), (5, .int (nI i)), (0, .ref co), (1, .int (nI k)), (2, .int (optI ((wc (aV A) k cd).1))), (3, .int (nI ((wc (aV A) k cd).2))), (4, .int (nI cd))] := by rw [ht]; exact hl
          refine lv_iload hx hb dX0_whisper_68 (lv_at hl 0 rfl) ?_
          refine lv_aload_n hx hb dX0_whisper_70 rfl (lv_at hl 2 rfl) ?_
          refine z_get (v := .ref (w 2)) hC zf_X0_27_0 hw 0 rfl rfl dX0_whisper_71 ?_
          refine z_get (v := .int (nI ps)) hC zf_X0_76_1 hw 1 rfl rfl dX0_whisper_74 ?_
          refine zi_ge (tgt := 175) hx hb (by omega) (by omega) dX0_whisper_77 (by decide) (fun c_77 => ?_) (fun c_77 => ?_)
          · skip
            have hwg : (wc (aV A) k (cd + 1)) = (wc (aV A) k cd) := by first | exact wc_n hH.1 (by omega) | exact wc_skip hH.1 (by omega) (Or.inl (by rw [← hi]; exact hRi.1.symm.trans c_89)) | exact wc_skip hH.1 (by omega) (Or.inr (by rw [← hi, ← ht, ← hRi.2]; exact c_107))
            have hw9n : (wc (aV A) k (cd + 1)).2 ≤ 9 := by rw [hwg]; exact hw9
            have hl : lv_has ls 8 [(6, .int (nI t)), (5, .int (nI i)), (0, .ref co), (1, .int (nI k)), (2, .int (optI ((wc (aV A) k (cd + 1)).1))), (3, .int (nI ((wc (aV A) k (cd + 1)).2))), (4, .int (nI cd))] := by rw [hwg]; exact hl
            refine lv_iinc (v := (nI (cd + 1))) (lv' := [(4, .int (nI (cd + 1))), (6, .int (nI t)), (5, .int (nI i)), (0, .ref co), (1, .int (nI k)), (2, .int (optI ((wc (aV A) k (cd + 1)).1))), (3, .int (nI ((wc (aV A) k (cd + 1)).2)))]) hx hb dX0_whisper_175 hl (k := 6) rfl (zincn _ 1) (by decide) rfl (fun ls hl => ?_)
            refine lv_goto (tgt := 42) hx hb dX0_whisper_178 (by decide) ?_
            exact ih_42 (cd + 1) q1 q2 q3 p1 p2 p3 p4 p5 (by omega) hbd1 hw9n (by omega) H locs ls hw (lv_sub hl [3, 4, 5, 6, 0] rfl)
          · skip
            refine lv_aload_n hx hb dX0_whisper_80 rfl (lv_at hl 2 rfl) ?_
            refine z_get (v := .ref (w 2)) hC zf_X0_27_0 hw 0 rfl rfl dX0_whisper_81 ?_
            refine lv_iload hx hb dX0_whisper_84 (lv_at hl 1 rfl) ?_
            refine z_ci (z_runV (As := [.int (nI i)]) (rest := []) hC zv_X0_213 (m_X1_isGone G l (w 2) co zn ps dy gg le i (by omega) (by first | assumption | (have := hle j; omega)) (zrem [1, 5] _)) hw (hw.perm (z_cut (is := [1, 5]) (cells := [(w 2, zo 1 (stF zn co (nI ps) (nI dy) gg)), (zn 3, zc G 1 (zI 5 (vI le)))]) rfl rfl)) 1 rfl rfl rfl rfl rfl (Nat.le_of_ble_eq_true rfl) hl.1 ⟨Nat.le_of_ble_eq_true rfl, Nat.le_of_ble_eq_true rfl⟩ ⟨(Nat.le_of_ble_eq_true rfl), (Nat.le_of_ble_eq_true rfl)⟩ dX0_whisper_86) hw (fun _ => z_keep (is := [1, 5]) (cs := [(w 2, zo 1 (stF zn co (nI ps) (nI dy) gg)), (zn 3, zc G 1 (zI 5 (vI le)))]) rfl rfl) (fun r u H locs hp hw => ?_)
            obtain rfl : r = bI (le i = 3) := hp
            refine zb_ne (tgt := 175) hx hb dX0_whisper_89 (by decide) (fun c_89 => ?_) (fun c_89 => ?_)
            · skip
              have hwg : (wc (aV A) k (cd + 1)) = (wc (aV A) k cd) := by first | exact wc_n hH.1 (by omega) | exact wc_skip hH.1 (by omega) (Or.inl (by rw [← hi]; exact hRi.1.symm.trans c_89)) | exact wc_skip hH.1 (by omega) (Or.inr (by rw [← hi, ← ht, ← hRi.2]; exact c_107))
              have hw9n : (wc (aV A) k (cd + 1)).2 ≤ 9 := by rw [hwg]; exact hw9
              have hl : lv_has ls 8 [(6, .int (nI t)), (5, .int (nI i)), (0, .ref co), (1, .int (nI k)), (2, .int (optI ((wc (aV A) k (cd + 1)).1))), (3, .int (nI ((wc (aV A) k (cd + 1)).2))), (4, .int (nI cd))] := by rw [hwg]; exact hl
              refine lv_iinc (v := (nI (cd + 1))) (lv' := [(4, .int (nI (cd + 1))), (6, .int (nI t)), (5, .int (nI i)), (0, .ref co), (1, .int (nI k)), (2, .int (optI ((wc (aV A) k (cd + 1)).1))), (3, .int (nI ((wc (aV A) k (cd + 1)).2)))]) hx hb dX0_whisper_175 hl (k := 6) rfl (zincn _ 1) (by decide) rfl (fun ls hl => ?_)
              refine lv_goto (tgt := 42) hx hb dX0_whisper_178 (by decide) ?_
              exact ih_42 (cd + 1) q1 q2 q3 p1 p2 p3 p4 p5 (by omega) hbd1 hw9n (by omega) H locs ls hw (lv_sub hl [3, 4, 5, 6, 0] rfl)
            · skip
              refine lv_aload_n hx hb dX0_whisper_92 rfl (lv_at hl 2 rfl) ?_
              refine z_get (v := .ref (w 2)) hC zf_X0_27_0 hw 0 rfl rfl dX0_whisper_93 ?_
              refine z_get (v := .ref (zn 4)) hC zf_X0_79_1 hw 1 rfl rfl dX0_whisper_96 ?_
              refine lv_iload hx hb dX0_whisper_99 (lv_at hl 1 rfl) ?_
              refine z_sald (x := (nI (kn i))) hC hw 6 rfl (by omega) (by decide) rfl dX0_whisper_101 ?_
              refine lv_iload hx hb dX0_whisper_102 (lv_at hl 0 rfl) ?_
              refine z_ci (z_runS (As := [.int (nI (kn i)), .int (nI t)]) (rest := []) hC zs_X0_155 (m_X0_has G l (kn i) t (by have := hkn i; omega) (by omega) _) hw rfl rfl (Nat.le_of_ble_eq_true rfl) hl.1 ⟨Nat.le_of_ble_eq_true rfl, Nat.le_of_ble_eq_true rfl⟩ ⟨(Nat.le_of_ble_eq_true rfl), (Nat.le_of_ble_eq_true rfl)⟩ dX0_whisper_104) hw (fun _ => List.Perm.refl _) (fun r u H locs hp hw => ?_)
              obtain rfl : r = bI ((kn i).testBit t = true) := hp
              refine zb_eq (tgt := 113) hx hb dX0_whisper_107 (by decide) (fun c_107 => ?_) (fun c_107 => ?_)
              · skip
                have ht9 : t < 9 := by omega
                have hx5 : aV A (21 + 5 * i + 4) ||| 2 ^ t < 512 := or9 (hH.2.2.2.1 _ hi5) (pow512 ht9)
                have hgU : Hg (updN (aV A) (21 + 5 * i + 4) (aV A (21 + 5 * i + 4) ||| 2 ^ t)) := Hg_upd hgv hi5 hx5
                have hRU := sRel_kn (i := i) (x := aV A (21 + 5 * i + 4) ||| 2 ^ t) hH.1 (sRel_cp hH hR hbd1) hx5
                have hU0 : (updN (aV A) (21 + 5 * i + 4) (aV A (21 + 5 * i + 4) ||| 2 ^ t)) 0 = aV A 0 := updN_ne _ _ (by omega)
                have hU1 : (updN (aV A) (21 + 5 * i + 4) (aV A (21 + 5 * i + 4) ||| 2 ^ t)) 1 = aV A 1 := updN_ne _ _ (by omega)
                have hU2 : (updN (aV A) (21 + 5 * i + 4) (aV A (21 + 5 * i + 4) ||| 2 ^ t)) 2 = aV A 2 := updN_ne _ _ (by omega)
                have hUs : sqW sq (aV A) = sqW sq (updN (aV A) (21 + 5 * i + 4) (aV A (21 + 5 * i + 4) ||| 2 ^ t)) := sqW_eq hU1.symm (fun i hi => ⟨(updN_ne _ _ (by omega)).symm, (updN_ne _ _ (by omega)).symm⟩)
                refine lv_aload_n hx hb dX0_whisper_113 rfl (lv_at hl 2 rfl) ?_
                refine z_get (v := .ref (w 3)) hC zf_X0_109_0 hw 0 rfl rfl dX0_whisper_114 ?_
                refine lv_aload_n hx hb dX0_whisper_117 rfl (lv_at hl 2 rfl) ?_
                refine z_get (v := .ref (w 2)) hC zf_X0_27_0 hw 0 rfl rfl dX0_whisper_118 ?_
                refine z_cq (z_runV (As := [.ref (w 2)]) (rest := []) hC zv_X0_34 (m_X1_set G l (w 3) (w 2) co zr zn q1 q2 ps dy q3 gg p1 p2 p3 p4 p5 pl nu ax le kn hpl hnu hax hle hkn (zrem [7, 8, 9, 10, 11, 12, 1, 2, 3, 4, 5, 6] _)) hw (hw.perm (z_cut (is := [7, 8, 9, 10, 11, 12, 1, 2, 3, 4, 5, 6]) (cells := [(w 3, zo 1 (stF zr co (nI q1) (nI q2) (q3))), (zr 0, zc G 1 (zI 9 (vI p1))), (zr 1, zc G 1 (zI 9 (vI p2))), (zr 2, zc G 1 (zI 5 (vI p3))), (zr 3, zc G 1 (zI 5 (vI p4))), (zr 4, zc G 2 (zI 5 (vI p5))), (w 2, zo 1 (stF zn co (nI ps) (nI dy) (gg))), (zn 0, zc G 1 (zI 9 (vI pl))), (zn 1, zc G 1 (zI 9 (vI nu))), (zn 2, zc G 1 (zI 5 (vI ax))), (zn 3, zc G 1 (zI 5 (vI le))), (zn 4, zc G 2 (zI 5 (vI kn)))]) rfl rfl)) 7 rfl rfl rfl rfl rfl (Nat.le_of_ble_eq_true rfl) hl.1 ⟨Nat.le_of_ble_eq_true rfl, Nat.le_of_ble_eq_true rfl⟩ ⟨(Nat.le_of_ble_eq_true rfl), (Nat.le_of_ble_eq_true rfl)⟩ dX0_whisper_121) hw (fun _ => z_pput (is := [7, 8, 9, 10, 11, 12, 1, 2, 3, 4, 5, 6]) (cells := [(w 3, zo 1 (stF zr co (nI q1) (nI q2) (q3))), (zr 0, zc G 1 (zI 9 (vI p1))), (zr 1, zc G 1 (zI 9 (vI p2))), (zr 2, zc G 1 (zI 5 (vI p3))), (zr 3, zc G 1 (zI 5 (vI p4))), (zr 4, zc G 2 (zI 5 (vI p5))), (w 2, zo 1 (stF zn co (nI ps) (nI dy) (gg))), (zn 0, zc G 1 (zI 9 (vI pl))), (zn 1, zc G 1 (zI 9 (vI nu))), (zn 2, zc G 1 (zI 5 (vI ax))), (zn 3, zc G 1 (zI 5 (vI le))), (zn 4, zc G 2 (zI 5 (vI kn)))]) (cells' := [(w 3, zo 1 (stF zr co (nI ps) (nI dy) (q3))), (zr 0, zc G 1 (zI 9 (vI (cpN pl p1 9)))), (zr 1, zc G 1 (zI 9 (vI (cpN nu p2 9)))), (zr 2, zc G 1 (zI 5 (vI (cpN ax p3 5)))), (zr 3, zc G 1 (zI 5 (vI (cpN le p4 5)))), (zr 4, zc G 2 (zI 5 (vI (cpN kn p5 5)))), (w 2, zo 1 (stF zn co (nI ps) (nI dy) (gg))), (zn 0, zc G 1 (zI 9 (vI pl))), (zn 1, zc G 1 (zI 9 (vI nu))), (zn 2, zc G 1 (zI 5 (vI ax))), (zn 3, zc G 1 (zI 5 (vI le))), (zn 4, zc G 2 (zI 5 (vI kn)))]) rfl rfl rfl) (fun r u H locs hp hw => ?_)
                have hw : zS G ((co, zo 0 (cF w (nI mn) bm sm lt)) :: (w 2, zo 1 (stF zn co (nI ps) (nI dy) (gg))) :: (zn 0, zc G 1 (zI 9 (vI pl))) :: (zn 1, zc G 1 (zI 9 (vI nu))) :: (zn 2, zc G 1 (zI 5 (vI ax))) :: (zn 3, zc G 1 (zI 5 (vI le))) :: (zn 4, zc G 2 (zI 5 (vI kn))) :: (w 3, zo 1 (stF zr co (nI ps) (nI dy) (q3))) :: (zr 0, zc G 1 (zI 9 (vI (cpN pl p1 9)))) :: (zr 1, zc G 1 (zI 9 (vI (cpN nu p2 9)))) :: (zr 2, zc G 1 (zI 5 (vI (cpN ax p3 5)))) :: (zr 3, zc G 1 (zI 5 (vI (cpN le p4 5)))) :: (zr 4, zc G 2 (zI 5 (vI (cpN kn p5 5)))) :: (w 0, zc G 4 (zO 5 sf)) :: (sqW sq (aV A) ++ rest)) s H locs := hw
                obtain rfl : r = some (w 3) := hp
                refine z_get (v := .ref (zr 4)) hC zf_X0_79_1 hw 7 rfl rfl dX0_whisper_124 ?_
                refine lv_iload hx hb dX0_whisper_127 (lv_at hl 1 rfl) ?_
                refine lv_dup2_11 hx hb dX0_whisper_129 rfl rfl ?_
                refine z_sald (x := (nI (aV A (21 + 5 * i + 4)))) hC hw 12 rfl (by omega) (by decide) (congrArg nI ((if_pos hi5).trans hRi.2)) dX0_whisper_130 ?_
                refine lv_iconst (v := (nI 1)) hx hb dX0_whisper_131 zk_1 ?_
                refine lv_iload hx hb dX0_whisper_132 (lv_at hl 0 rfl) ?_
                refine zv_ishl (v := (nI (2 ^ t))) hx hb (nI_shl1 (by omega)) dX0_whisper_134 ?_
                refine lv_i2s (v := (nI (2 ^ t))) hx hb dX0_whisper_135 (zi2s (Nat.lt_trans (pow512 ht9) (by decide))) ?_
                refine zv_ior (v := (nI ((aV A (21 + 5 * i + 4)) ||| (2 ^ t)))) hx hb (nI_or _ _) dX0_whisper_136 ?_
                refine lv_i2s (v := (nI ((aV A (21 + 5 * i + 4)) ||| (2 ^ t)))) hx hb dX0_whisper_137 (zi2s (by omega)) ?_
                refine z_sast (f' := vI (updN (cpN kn p5 5) i ((aV A (21 + 5 * i + 4)) ||| (2 ^ t)))) hC hw 12 rfl (by omega) (by decide) ((congrArg _ (znshort (by omega))).trans (vI_upd _ _ _)) dX0_whisper_138 (fun H locs hw => ?_)
                have hw : zS G ((co, zo 0 (cF w (nI mn) bm sm lt)) :: (w 2, zo 1 (stF zn co (nI ps) (nI dy) (gg))) :: (zn 0, zc G 1 (zI 9 (vI pl))) :: (zn 1, zc G 1 (zI 9 (vI nu))) :: (zn 2, zc G 1 (zI 5 (vI ax))) :: (zn 3, zc G 1 (zI 5 (vI le))) :: (zn 4, zc G 2 (zI 5 (vI kn))) :: (w 3, zo 1 (stF zr co (nI ps) (nI dy) (q3))) :: (zr 0, zc G 1 (zI 9 (vI (cpN pl p1 9)))) :: (zr 1, zc G 1 (zI 9 (vI (cpN nu p2 9)))) :: (zr 2, zc G 1 (zI 5 (vI (cpN ax p3 5)))) :: (zr 3, zc G 1 (zI 5 (vI (cpN le p4 5)))) :: (zr 4, zc G 2 (zI 5 (vI (updN (cpN kn p5 5) i ((aV A (21 + 5 * i + 4)) ||| (2 ^ t)))))) :: (w 0, zc G 4 (zO 5 sf)) :: (sqW sq (aV A) ++ rest)) s H locs := hw
                refine lv_aload_n hx hb dX0_whisper_139 rfl (lv_at hl 2 rfl) ?_
                refine z_get (v := .ref (w 3)) hC zf_X0_109_0 hw 0 rfl rfl dX0_whisper_140 ?_
                refine lv_iload_n hx hb dX0_whisper_143 rfl (lv_at hl 3 rfl) ?_
                refine z_cq (z_runV (As := [.int (nI k)]) (rest := []) hC zv_X0_207 (m_X1_pass G l kA (by first | assumption | (omega)) (w 3) co zr w bm sm lt ps dy mn q3 (updN (aV A) (21 + 5 * i + 4) (aV A (21 + 5 * i + 4) ||| 2 ^ t)) (cpN pl p1 9) (cpN nu p2 9) (cpN ax p3 5) (cpN le p4 5) (updN (cpN kn p5 5) i ((aV A (21 + 5 * i + 4)) ||| (2 ^ t))) sf sq (hps.trans hU0.symm) (hmn.trans hU1.symm) (hdy.trans hU2.symm) k (by rw [hU2]; omega) hgU hRU (fun i hi => hsf i (by rw [← hU1]; exact hi)) (aV A) hUs (zrem [7, 8, 9, 10, 11, 12, 0, 13] [(co, zo 0 (cF w (nI mn) bm sm lt)), (w 2, zo 1 (stF zn co (nI ps) (nI dy) (gg))), (zn 0, zc G 1 (zI 9 (vI pl))), (zn 1, zc G 1 (zI 9 (vI nu))), (zn 2, zc G 1 (zI 5 (vI ax))), (zn 3, zc G 1 (zI 5 (vI le))), (zn 4, zc G 2 (zI 5 (vI kn))), (w 3, zo 1 (stF zr co (nI ps) (nI dy) (q3))), (zr 0, zc G 1 (zI 9 (vI (cpN pl p1 9)))), (zr 1, zc G 1 (zI 9 (vI (cpN nu p2 9)))), (zr 2, zc G 1 (zI 5 (vI (cpN ax p3 5)))), (zr 3, zc G 1 (zI 5 (vI (cpN le p4 5)))), (zr 4, zc G 2 (zI 5 (vI (updN (cpN kn p5 5) i ((aV A (21 + 5 * i + 4)) ||| (2 ^ t)))))), (w 0, zc G 4 (zO 5 sf))] ++ rest)) hw (hw.perm (z_cutP (z_cut (is := [7, 8, 9, 10, 11, 12, 0, 13]) (ws := [(co, zo 0 (cF w (nI mn) bm sm lt)), (w 2, zo 1 (stF zn co (nI ps) (nI dy) (gg))), (zn 0, zc G 1 (zI 9 (vI pl))), (zn 1, zc G 1 (zI 9 (vI nu))), (zn 2, zc G 1 (zI 5 (vI ax))), (zn 3, zc G 1 (zI 5 (vI le))), (zn 4, zc G 2 (zI 5 (vI kn))), (w 3, zo 1 (stF zr co (nI ps) (nI dy) (q3))), (zr 0, zc G 1 (zI 9 (vI (cpN pl p1 9)))), (zr 1, zc G 1 (zI 9 (vI (cpN nu p2 9)))), (zr 2, zc G 1 (zI 5 (vI (cpN ax p3 5)))), (zr 3, zc G 1 (zI 5 (vI (cpN le p4 5)))), (zr 4, zc G 2 (zI 5 (vI (updN (cpN kn p5 5) i ((aV A (21 + 5 * i + 4)) ||| (2 ^ t)))))), (w 0, zc G 4 (zO 5 sf))]) (cells := [(w 3, zo 1 (stF zr co (nI ps) (nI dy) (q3))), (zr 0, zc G 1 (zI 9 (vI (cpN pl p1 9)))), (zr 1, zc G 1 (zI 9 (vI (cpN nu p2 9)))), (zr 2, zc G 1 (zI 5 (vI (cpN ax p3 5)))), (zr 3, zc G 1 (zI 5 (vI (cpN le p4 5)))), (zr 4, zc G 2 (zI 5 (vI (updN (cpN kn p5 5) i ((aV A (21 + 5 * i + 4)) ||| (2 ^ t)))))), (co, zo 0 (cF w (nI mn) bm sm lt)), (w 0, zc G 4 (zO 5 sf))]) rfl rfl))) 7 rfl rfl rfl rfl rfl (Nat.le_of_ble_eq_true rfl) hl.1 ⟨Nat.le_of_ble_eq_true rfl, Nat.le_of_ble_eq_true rfl⟩ ⟨(Nat.le_of_ble_eq_true rfl), (Nat.le_of_ble_eq_true rfl)⟩ dX0_whisper_144) hw (fun u => z_putP (z_pput (is := [7, 8, 9, 10, 11, 12, 0, 13]) (ws := [(co, zo 0 (cF w (nI mn) bm sm lt)), (w 2, zo 1 (stF zn co (nI ps) (nI dy) (gg))), (zn 0, zc G 1 (zI 9 (vI pl))), (zn 1, zc G 1 (zI 9 (vI nu))), (zn 2, zc G 1 (zI 5 (vI ax))), (zn 3, zc G 1 (zI 5 (vI le))), (zn 4, zc G 2 (zI 5 (vI kn))), (w 3, zo 1 (stF zr co (nI ps) (nI dy) (q3))), (zr 0, zc G 1 (zI 9 (vI (cpN pl p1 9)))), (zr 1, zc G 1 (zI 9 (vI (cpN nu p2 9)))), (zr 2, zc G 1 (zI 5 (vI (cpN ax p3 5)))), (zr 3, zc G 1 (zI 5 (vI (cpN le p4 5)))), (zr 4, zc G 2 (zI 5 (vI (updN (cpN kn p5 5) i ((aV A (21 + 5 * i + 4)) ||| (2 ^ t)))))), (w 0, zc G 4 (zO 5 sf))]) (cells := [(w 3, zo 1 (stF zr co (nI ps) (nI dy) (q3))), (zr 0, zc G 1 (zI 9 (vI (cpN pl p1 9)))), (zr 1, zc G 1 (zI 9 (vI (cpN nu p2 9)))), (zr 2, zc G 1 (zI 5 (vI (cpN ax p3 5)))), (zr 3, zc G 1 (zI 5 (vI (cpN le p4 5)))), (zr 4, zc G 2 (zI 5 (vI (updN (cpN kn p5 5) i ((aV A (21 + 5 * i + 4)) ||| (2 ^ t)))))), (co, zo 0 (cF w (nI mn) bm sm lt)), (w 0, zc G 4 (zO 5 sf))]) (cells' := [(w 3, zo 1 (stF zr co (nI ps) (nI (dy + k)) (u.2.2.2.2))), (zr 0, zc G 1 (zI 9 (vI (cpN pl p1 9)))), (zr 1, zc G 1 (zI 9 (vI u.1))), (zr 2, zc G 1 (zI 5 (vI u.2.1))), (zr 3, zc G 1 (zI 5 (vI u.2.2.1))), (zr 4, zc G 2 (zI 5 (vI u.2.2.2.1))), (co, zo 0 (cF w (nI mn) bm sm lt)), (w 0, zc G 4 (zO 5 sf))]) rfl rfl rfl)) (fun r u H locs hp hw => ?_)
                obtain ⟨nu6, ax6, le6, kn6, gg6⟩ := u
                have hw : zS G ((co, zo 0 (cF w (nI mn) bm sm lt)) :: (w 2, zo 1 (stF zn co (nI ps) (nI dy) (gg))) :: (zn 0, zc G 1 (zI 9 (vI pl))) :: (zn 1, zc G 1 (zI 9 (vI nu))) :: (zn 2, zc G 1 (zI 5 (vI ax))) :: (zn 3, zc G 1 (zI 5 (vI le))) :: (zn 4, zc G 2 (zI 5 (vI kn))) :: (w 3, zo 1 (stF zr co (nI ps) (nI (dy + k)) (gg6))) :: (zr 0, zc G 1 (zI 9 (vI (cpN pl p1 9)))) :: (zr 1, zc G 1 (zI 9 (vI nu6))) :: (zr 2, zc G 1 (zI 5 (vI ax6))) :: (zr 3, zc G 1 (zI 5 (vI le6))) :: (zr 4, zc G 2 (zI 5 (vI kn6))) :: (w 0, zc G 4 (zO 5 sf)) :: (sqW sq (aV A) ++ rest)) s H locs := hw
                obtain ⟨rfl, hdR⟩ := hp
                have hdi := daysN_inv hgU.1 k (by rw [hU2]; omega)
                have hd1 : daysN k (updN (aV A) (21 + 5 * i + 4) (aV A (21 + 5 * i + 4) ||| 2 ^ t)) 1 = aV A 1 := (hdi.2.2 1 still_1).trans hU1
                have hal := alive_c (daysN_Hg hgU k (by rw [hU2]; omega)).1 hdR (hmn.trans hd1.symm)
                have hlv : onesN (orB (fun i => decide (¬ le6 i = 3)) mn) 9 = (liveN (updN (aV A) (21 + 5 * i + 4) (aV A (21 + 5 * i + 4) ||| 2 ^ t)) k) := by unfold liveN; rw [hal]
                have hL9 : (liveN (updN (aV A) (21 + 5 * i + 4) (aV A (21 + 5 * i + 4) ||| 2 ^ t)) k) ≤ 9 := liveN_le _ _
                refine z_ci (z_runV (As := []) (rest := []) hC zv_X0_225 (m_X1_alive G l kA (by first | assumption | (omega)) (w 3) co zr w bm sm lt ps (dy + k) gg6 mn le6 hm5 (fun j => (hdR.2.2.2 j).2.2.2.1) (zrem [7, 11, 0] _)) hw (hw.perm (z_cut (is := [7, 11, 0]) (cells := [(w 3, zo 1 (stF zr co (nI ps) (nI (dy + k)) gg6)), (zr 3, zc G 1 (zI 5 (vI le6))), (co, zo 0 (cF w (nI mn) bm sm lt))]) rfl rfl)) 7 rfl rfl rfl rfl rfl (Nat.le_of_ble_eq_true rfl) hl.1 ⟨Nat.le_of_ble_eq_true rfl, Nat.le_of_ble_eq_true rfl⟩ ⟨(Nat.le_of_ble_eq_true rfl), (Nat.le_of_ble_eq_true rfl)⟩ dX0_whisper_147) hw (fun _ => z_keep (is := [7, 11, 0]) (cs := [(w 3, zo 1 (stF zr co (nI ps) (nI (dy + k)) gg6)), (zr 3, zc G 1 (zI 5 (vI le6))), (co, zo 0 (cF w (nI mn) bm sm lt))]) rfl rfl) (fun r u H locs hp hw => ?_)
                obtain rfl : r = nI (orB (fun i => decide (¬ le6 i = 3)) mn) := hp
                refine z_ci (z_runS (As := [.int (nI (orB (fun i => decide (¬ le6 i = 3)) mn))]) (rest := []) hC zs_X0_228 (m_J18_bitCount G l (nI (orB (fun i => decide (¬ le6 i = 3)) mn)) (orB (fun i => decide (¬ le6 i = 3)) mn) (orB_512 (by omega)) rfl _) hw rfl rfl (Nat.le_of_ble_eq_true rfl) hl.1 ⟨Nat.le_of_ble_eq_true rfl, Nat.le_of_ble_eq_true rfl⟩ ⟨(Nat.le_of_ble_eq_true rfl), (Nat.le_of_ble_eq_true rfl)⟩ dX0_whisper_150) hw (fun _ => List.Perm.refl _) (fun r u H locs hp hw => ?_)
                obtain rfl : r = nI (onesN (orB (fun i => decide (¬ le6 i = 3)) mn) 9) := hp
                rw [show nI (onesN (orB (fun i => decide (¬ le6 i = 3)) mn) 9) = nI (liveN (updN (aV A) (21 + 5 * i + 4) (aV A (21 + 5 * i + 4) ||| 2 ^ t)) k) from by rw [hlv]]
                refine lv_istore (lv' := [(7, .int (nI (liveN (updN (aV A) (21 + 5 * i + 4) (aV A (21 + 5 * i + 4) ||| 2 ^ t)) k))), (6, .int (nI t)), (5, .int (nI i)), (0, .ref co), (1, .int (nI k)), (2, .int (optI ((wc (aV A) k cd).1))), (3, .int (nI ((wc (aV A) k cd).2))), (4, .int (nI cd))]) hx hb dX0_whisper_153 hl (by decide) rfl (fun ls hl => ?_)
                have join_167 : ∀ (w2 : Option Nat), (w2 = (if (wc (aV A) k cd).2 < (liveN (updN (aV A) (21 + 5 * i + 4) (aV A (21 + 5 * i + 4) ||| 2 ^ t)) k) then some cd else (wc (aV A) k cd).1)) → ∀ (H : Heap) (locs : List Loc) (ls : Array Slot), zS G ((co, zo 0 (cF w (nI mn) bm sm lt)) :: (w 2, zo 1 (stF zn co (nI ps) (nI dy) (gg))) :: (zn 0, zc G 1 (zI 9 (vI pl))) :: (zn 1, zc G 1 (zI 9 (vI nu))) :: (zn 2, zc G 1 (zI 5 (vI ax))) :: (zn 3, zc G 1 (zI 5 (vI le))) :: (zn 4, zc G 2 (zI 5 (vI kn))) :: (w 3, zo 1 (stF zr co (nI ps) (nI (dy + k)) gg6)) :: (zr 0, zc G 1 (zI 9 (vI (cpN pl p1 9)))) :: (zr 1, zc G 1 (zI 9 (vI nu6))) :: (zr 2, zc G 1 (zI 5 (vI ax6))) :: (zr 3, zc G 1 (zI 5 (vI le6))) :: (zr 4, zc G 2 (zI 5 (vI kn6))) :: (w 0, zc G 4 (zO 5 sf)) :: (sqW sq (aV A) ++ rest)) s H locs → lv_has ls 8 [(0, .ref co), (1, .int (nI k)), (2, .int (optI ((wc (aV A) k cd).1))), (3, .int (nI ((wc (aV A) k cd).2))), (4, .int (nI cd)), (5, .int (nI i)), (6, .int (nI t)), (7, .int (nI (liveN (updN (aV A) (21 + 5 * i + 4) (aV A (21 + 5 * i + 4) ||| 2 ^ t)) k)))] → W p l e (zR 7 0 0) s m args below meth c H locs 0 0 Q (F0 m 167 ls [.int (optI w2)]) := by
                  intro w2 hw2 H locs ls hw hl
                  subst hw2
                  refine lv_istore_n (lv' := [(2, .int (optI (if (wc (aV A) k cd).2 < (liveN (updN (aV A) (21 + 5 * i + 4) (aV A (21 + 5 * i + 4) ||| 2 ^ t)) k) then some cd else (wc (aV A) k cd).1))), (0, .ref co), (1, .int (nI k)), (3, .int (nI ((wc (aV A) k cd).2))), (4, .int (nI cd)), (5, .int (nI i)), (6, .int (nI t)), (7, .int (nI (liveN (updN (aV A) (21 + 5 * i + 4) (aV A (21 + 5 * i + 4) ||| 2 ^ t)) k)))]) hx hb dX0_whisper_167 rfl hl (by decide) rfl (fun ls hl => ?_)
                  refine lv_iload_n hx hb dX0_whisper_168 rfl (lv_at hl 3 rfl) ?_
                  refine lv_iload hx hb dX0_whisper_169 (lv_at hl 7 rfl) ?_
                  refine z_mmax (v := nI (max ((wc (aV A) k cd).2) (liveN (updN (aV A) (21 + 5 * i + 4) (aV A (21 + 5 * i + 4) ||| 2 ^ t)) k))) hC hl.1 q1074 zm_max (zm_max_d (by omega) (by omega)) (Nat.le_of_ble_eq_true rfl) ⟨Nat.le_of_ble_eq_true rfl, Nat.le_of_ble_eq_true rfl⟩ (Nat.le_of_ble_eq_true rfl) (Nat.le_of_ble_eq_true rfl) dX0_whisper_171 ?_
                  refine lv_istore_n (lv' := [(3, .int (nI (max ((wc (aV A) k cd).2) (liveN (updN (aV A) (21 + 5 * i + 4) (aV A (21 + 5 * i + 4) ||| 2 ^ t)) k)))), (2, .int (optI (if (wc (aV A) k cd).2 < (liveN (updN (aV A) (21 + 5 * i + 4) (aV A (21 + 5 * i + 4) ||| 2 ^ t)) k) then some cd else (wc (aV A) k cd).1))), (0, .ref co), (1, .int (nI k)), (4, .int (nI cd)), (5, .int (nI i)), (6, .int (nI t)), (7, .int (nI (liveN (updN (aV A) (21 + 5 * i + 4) (aV A (21 + 5 * i + 4) ||| 2 ^ t)) k)))]) hx hb dX0_whisper_174 rfl hl (by decide) rfl (fun ls hl => ?_)
                  have hwg := wc_go (n := k) (c := cd) hH.1 (by rw [← ht]; omega) (by rw [← hi]; exact fun q => c_89 (hRi.1.trans q)) (by rw [← hi, ← ht, ← hRi.2]; exact c_107)
                  rw [← hi, ← ht] at hwg
                  have hw9n : (wc (aV A) k (cd + 1)).2 ≤ 9 := by rw [hwg]; exact Nat.max_le.mpr ⟨hw9, liveN_le _ _⟩
                  have hl : lv_has ls 8 [(3, .int (nI ((wc (aV A) k (cd + 1)).2))), (2, .int (optI ((wc (aV A) k (cd + 1)).1))), (0, .ref co), (1, .int (nI k)), (4, .int (nI cd)), (5, .int (nI i)), (6, .int (nI t)), (7, .int (nI (liveN (updN (aV A) (21 + 5 * i + 4) (aV A (21 + 5 * i + 4) ||| 2 ^ t)) k)))] := by rw [hwg]; exact hl
                  refine lv_iinc (v := (nI (cd + 1))) (lv' := [(4, .int (nI (cd + 1))), (3, .int (nI ((wc (aV A) k (cd + 1)).2))), (2, .int (optI ((wc (aV A) k (cd + 1)).1))), (0, .ref co), (1, .int (nI k)), (5, .int (nI i)), (6, .int (nI t)), (7, .int (nI (liveN (updN (aV A) (21 + 5 * i + 4) (aV A (21 + 5 * i + 4) ||| 2 ^ t)) k)))]) hx hb dX0_whisper_175 hl (k := 4) rfl (zincn _ 1) (by decide) rfl (fun ls hl => ?_)
                  refine lv_goto (tgt := 42) hx hb dX0_whisper_178 (by decide) ?_
                  exact ih_42 (cd + 1) ps (dy + k) gg6 (cpN pl p1 9) nu6 ax6 le6 kn6 (by omega) hdR.2.2.2 hw9n (by omega) H locs ls hw (lv_sub hl [3, 4, 2, 1, 0] rfl)
                refine lv_iload hx hb dX0_whisper_155 (lv_at hl 0 rfl) ?_
                refine lv_iload_n hx hb dX0_whisper_157 rfl (lv_at hl 6 rfl) ?_
                refine zi_le (tgt := 166) hx hb (by omega) (by omega) dX0_whisper_158 (by decide) (fun c_158 => ?_) (fun c_158 => ?_)
                · skip
                  refine lv_iload_n hx hb dX0_whisper_166 rfl (lv_at hl 5 rfl) ?_
                  exact join_167 ((wc (aV A) k cd).1) (by first | exact (if_pos (by omega)).symm | exact (if_neg (by omega)).symm) H locs ls hw (lv_sub hl [3, 4, 5, 6, 7, 2, 1, 0] rfl)
                · skip
                  refine lv_iload hx hb dX0_whisper_161 (lv_at hl 7 rfl) ?_
                  refine lv_goto (tgt := 167) hx hb dX0_whisper_163 (by decide) ?_
                  exact join_167 (some cd) (by first | exact (if_pos (by omega)).symm | exact (if_neg (by omega)).symm) H locs ls hw (lv_sub hl [3, 4, 5, 6, 7, 2, 1, 0] rfl)
              · skip
                refine lv_goto (tgt := 175) hx hb dX0_whisper_110 (by decide) ?_
                have hwg : (wc (aV A) k (cd + 1)) = (wc (aV A) k cd) := by first | exact wc_n hH.1 (by omega) | exact wc_skip hH.1 (by omega) (Or.inl (by rw [← hi]; exact hRi.1.symm.trans c_89)) | exact wc_skip hH.1 (by omega) (Or.inr (by rw [← hi, ← ht, ← hRi.2]; exact c_107))
                have hw9n : (wc (aV A) k (cd + 1)).2 ≤ 9 := by rw [hwg]; exact hw9
                have hl : lv_has ls 8 [(6, .int (nI t)), (5, .int (nI i)), (0, .ref co), (1, .int (nI k)), (2, .int (optI ((wc (aV A) k (cd + 1)).1))), (3, .int (nI ((wc (aV A) k (cd + 1)).2))), (4, .int (nI cd))] := by rw [hwg]; exact hl
                refine lv_iinc (v := (nI (cd + 1))) (lv' := [(4, .int (nI (cd + 1))), (6, .int (nI t)), (5, .int (nI i)), (0, .ref co), (1, .int (nI k)), (2, .int (optI ((wc (aV A) k (cd + 1)).1))), (3, .int (nI ((wc (aV A) k (cd + 1)).2)))]) hx hb dX0_whisper_175 hl (k := 6) rfl (zincn _ 1) (by decide) rfl (fun ls hl => ?_)
                refine lv_goto (tgt := 42) hx hb dX0_whisper_178 (by decide) ?_
                exact ih_42 (cd + 1) q1 q2 q3 p1 p2 p3 p4 p5 (by omega) hbd1 hw9n (by omega) H locs ls hw (lv_sub hl [3, 4, 5, 6, 0] rfl)
    exact loop_42 ((10 * mn - 0) + 1) 0 ps (dy + k) gg6 (cpN pl rpl 9) nu6 ax6 le6 kn6 (by omega) hdR.2.2.2 (by rw [wc_0]; exact liveN_le _ _) (Nat.lt_succ_self _) H locs ls hw (lv_sub hl [3, 4, 2, 1, 0] rfl)
  · skip
    refine lv_bipush (v := (-3)) hx hb dX0_whisper_12 zb_m3 ?_
    exact hend _ _ _ _ _ _ _ (rps, rdy, rg, rpl, rnu, rax, rle, rkn) hw ⟨by exact (ifP_f c_9).symm, hbd⟩ (Nat.le_of_ble_eq_true rfl) (Nat.le_of_ble_eq_true rfl) dX0_whisper_14
