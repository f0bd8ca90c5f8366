/-! COMPONENT: what if -/
set_option maxRecDepth 100000
theorem sRel_nu {v p nu ax le kn : Nat → Nat} {t x : Nat} (hv : v 0 ≤ 9) (h : sRel v p nu ax le kn) (ht : t < v 0) (hx : x < 128) : sRel (updN v (3 + 2 * t + 1) x) p (updN nu t x) ax le kn := by
  refine ⟨fun j hj => ?_, fun j hj => ?_, fun j hj => ?_, fun j => ?_⟩
  · rw [updN_ne _ _ (by omega)] at hj
    rw [updN_ne v _ (show 3 + 2 * j ≠ 3 + 2 * t + 1 by omega)]
    refine ⟨(h.1 j hj).1, ?_⟩
    unfold updN
    by_cases q : j = t
    · subst q; rw [if_pos rfl, if_pos rfl]
    · rw [if_neg q, if_neg (by omega)]; exact (h.1 j hj).2
  · rw [updN_ne _ _ (by omega)] at hj; rw [updN_ne _ _ (by omega)]; exact h.2.1 j hj
  · rw [updN_ne _ _ (by omega), updN_ne _ _ (by omega)]; exact h.2.2.1 j hj
  · have ej := h.2.2.2 j
    refine ⟨ej.1, ?_, ej.2.2⟩
    unfold updN; split
    · exact hx
    · exact ej.2.1
theorem Hg_nuts {v : Nat → Nat} {t x : Nat} (hg : Hg v) (ht : t < 9) (hx : x ≤ 99) : Hg (updN v (3 + 2 * t + 1) x) := by
  have h0 := hg.1.1
  have h1 := hg.1.2.1
  refine ⟨Hw_upd hg.1 (by omega) (by omega) (by omega) (fun i hi h => by omega) (fun i hi h => by omega) (fun i hi h => by omega), fun j hj => ?_, fun j hj => ?_⟩
  · rw [updN_ne _ _ (by omega)] at hj
    rw [updN_ne v _ (show 3 + 2 * j ≠ 3 + 2 * t + 1 by omega)]
    refine ⟨(hg.2.1 j hj).1, ?_⟩
    unfold updN; split
    · exact hx
    · exact (hg.2.1 j hj).2
  · rw [updN_ne _ _ (by omega)] at hj; rw [updN_ne _ _ (by omega), updN_ne _ _ (by omega), updN_ne _ _ (by omega)]; exact hg.2.2 j hj
theorem en_y {v : Nat → Nat} {t n f m : Nat} (h : v (3 + 2 * t + 1) + m < 100) (ha : aliveN (daysN n (updN v (3 + 2 * t + 1) (v (3 + 2 * t + 1) + m))) = aliveN v) : enN v t n (f + 1) m = some m := (if_pos h).trans (if_pos ha)
theorem en_n {v : Nat → Nat} {t n f m : Nat} (h : v (3 + 2 * t + 1) + m < 100) (ha : ¬ aliveN (daysN n (updN v (3 + 2 * t + 1) (v (3 + 2 * t + 1) + m))) = aliveN v) : enN v t n (f + 1) m = enN v t n f (m + 1) := (if_pos h).trans (if_neg ha)
theorem en_s {v : Nat → Nat} {t n f m : Nat} (h : ¬ v (3 + 2 * t + 1) + m < 100) : enN v t n f m = none := by
  cases f with
  | zero => rfl
  | succ f => exact if_neg h
/-- how far the search for nuts more has come -/
def enI (v : Nat → Nat) (t n m : Nat) : Prop := (v (3 + 2 * t + 1) + m < 100 → enN v t n (61 - m) m = enN v t n 61 0) ∧ (100 ≤ v (3 + 2 * t + 1) + m → enN v t n 61 0 = none ∧ ¬ aliveN (daysN n (updN v (3 + 2 * t + 1) 99)) = aliveN v)
theorem enI_s {v : Nat → Nat} {t n m : Nat} (hm : m ≤ 60) (h : enI v t n m) (hv : v (3 + 2 * t + 1) ≤ 99) (ha : ¬ aliveN (daysN n (updN v (3 + 2 * t + 1) (min 99 (v (3 + 2 * t + 1) + m)))) = aliveN v) : enI v t n (m + 1) := by
  by_cases h1 : v (3 + 2 * t + 1) + m < 100
  · rw [Nat.min_eq_right (by omega)] at ha
    have e := h.1 h1
    rw [show 61 - m = (61 - (m + 1)) + 1 by omega, en_n h1 ha] at e
    refine ⟨fun _ => e, fun h2 => ⟨?_, ?_⟩⟩
    · rw [← e]; exact en_s (by omega)
    · rw [show v (3 + 2 * t + 1) + m = 99 by omega] at ha; exact ha
  · exact ⟨fun h2 => by omega, fun _ => h.2 (by omega)⟩
theorem enI_y {v : Nat → Nat} {t n m : Nat} (hm : m ≤ 60) (h : enI v t n m) (ha : aliveN (daysN n (updN v (3 + 2 * t + 1) (min 99 (v (3 + 2 * t + 1) + m)))) = aliveN v) : enN v t n 61 0 = some m := by
  by_cases h1 : v (3 + 2 * t + 1) + m < 100
  · rw [Nat.min_eq_right (by omega)] at ha
    rw [← h.1 h1, show 61 - m = (61 - (m + 1)) + 1 by omega, en_y h1 ha]
  · rw [Nat.min_eq_left (by omega)] at ha
    exact absurd ha (h.2 (by omega)).2
theorem enI_e {v : Nat → Nat} {t n : Nat} (h : enI v t n 61) : enN v t n 61 0 = none := by
  by_cases h1 : v (3 + 2 * t + 1) + 61 < 100
  · rw [← h.1 h1]; rfl
  · exact (h.2 (by omega)).1
set_option maxHeartbeats 4000000 in
theorem m_X0_enough (G : zE) (l : Launch) (kA : Nat → Nat) (hG : zG G kA) (co : Nat) (w : Nat → Nat) (zn : Nat → Nat) (A : AS) (ps : Nat) (mn : Nat) (dy : Nat) (bm : Int32) (sm : Int32) (lt : Int32) (gg : Int32) (pl : Nat → Nat) (nu : Nat → Nat) (ax : Nat → Nat) (le : Nat → Nat) (kn : Nat → Nat) (hA : AOk A) (hps : ps = aV A 0) (hmn : mn = aV A 1) (hdy : dy = aV A 2) (hR : sRel (aV A) pl nu ax le kn) (zr : Nat → Nat) (rps : Nat) (rdy : Nat) (rg : Int32) (rpl : Nat → Nat) (rnu : Nat → Nat) (rax : Nat → Nat) (rle : Nat → Nat) (rkn : Nat → Nat) (sf : Nat → Option Nat) (sq : Nat → Nat) (hbd : sBd rpl rnu rax rle rkn) (hsf : ∀ i, i < aV A 1 → sf i = some (sq i)) (x : Int32) (y : Int32) (rest : va_W) : zMi G l yX0_enough cX0_enough 4 (some .int) 7 0 0 [.ref co, .int x, .int y] ((co, zo 0 (cF w (nI mn) bm sm lt)) :: (w 2, zo 1 (stF zn co (nI ps) (nI dy) (gg))) :: (zn 0, zc G 1 (zI 9 (vI pl))) :: (zn 1, zc G 1 (zI 9 (vI nu))) :: (zn 2, zc G 1 (zI 5 (vI ax))) :: (zn 3, zc G 1 (zI 5 (vI le))) :: (zn 4, zc G 2 (zI 5 (vI kn))) :: (w 3, zo 1 (stF zr co (nI rps) (nI rdy) (rg))) :: (zr 0, zc G 1 (zI 9 (vI rpl))) :: (zr 1, zc G 1 (zI 9 (vI rnu))) :: (zr 2, zc G 1 (zI 5 (vI rax))) :: (zr 3, zc G 1 (zI 5 (vI rle))) :: (zr 4, zc G 2 (zI 5 (vI rkn))) :: (w 0, zc G 4 (zO 5 sf)) :: (sqW sq (aV A) ++ rest)) (fun (r : Int32) u => r = F_enough A x y ∧ sBd u.2.2.2.1 u.2.2.2.2.1 u.2.2.2.2.2.1 u.2.2.2.2.2.2.1 u.2.2.2.2.2.2.2) (fun (u : Nat × Nat × Int32 × (Nat → Nat) × (Nat → Nat) × (Nat → Nat) × (Nat → Nat) × (Nat → Nat)) => (co, zo 0 (cF w (nI mn) bm sm lt)) :: (w 2, zo 1 (stF zn co (nI ps) (nI dy) (gg))) :: (zn 0, zc G 1 (zI 9 (vI pl))) :: (zn 1, zc G 1 (zI 9 (vI nu))) :: (zn 2, zc G 1 (zI 5 (vI ax))) :: (zn 3, zc G 1 (zI 5 (vI le))) :: (zn 4, zc G 2 (zI 5 (vI kn))) :: (w 3, zo 1 (stF zr co (nI u.1) (nI u.2.1) (u.2.2.1))) :: (zr 0, zc G 1 (zI 9 (vI u.2.2.2.1))) :: (zr 1, zc G 1 (zI 9 (vI u.2.2.2.2.1))) :: (zr 2, zc G 1 (zI 5 (vI u.2.2.2.2.2.1))) :: (zr 3, zc G 1 (zI 5 (vI u.2.2.2.2.2.2.1))) :: (zr 4, zc G 2 (zI 5 (vI u.2.2.2.2.2.2.2))) :: (w 0, zc G 4 (zO 5 sf)) :: (sqW sq (aV A) ++ rest)) := by
  refine z_begI (by decide) (Nat.le_of_ble_eq_true rfl) (fun p e s m args below meth c ls Q hC hl hw hend => ?_)
  have hx := hC.hx
  have hb := hC.hb
  have hl : lv_has ls 4 [(0, .ref co), (1, .int x), (2, .int y)] := hl
  have hw : zS G ((co, zo 0 (cF w (nI mn) bm sm lt)) :: (w 2, zo 1 (stF zn co (nI ps) (nI dy) (gg))) :: (zn 0, zc G 1 (zI 9 (vI pl))) :: (zn 1, zc G 1 (zI 9 (vI nu))) :: (zn 2, zc G 1 (zI 5 (vI ax))) :: (zn 3, zc G 1 (zI 5 (vI le))) :: (zn 4, zc G 2 (zI 5 (vI kn))) :: (w 3, zo 1 (stF zr co (nI rps) (nI rdy) (rg))) :: (zr 0, zc G 1 (zI 9 (vI rpl))) :: (zr 1, zc G 1 (zI 9 (vI rnu))) :: (zr 2, zc G 1 (zI 5 (vI rax))) :: (zr 3, zc G 1 (zI 5 (vI rle))) :: (zr 4, zc G 2 (zI 5 (vI rkn))) :: (w 0, zc G 4 (zO 5 sf)) :: (sqW sq (aV A) ++ rest)) s s.heap [] := hw
  have hz := hG s hC.hZ.1
  have hgv := hA.2.2.1.1
  have hH : Hw (aV A) := hgv.1
  have hpl := fun j => (hR.2.2.2 j).1
  have hnu := fun j => (hR.2.2.2 j).2.1
  have hax := fun j => (hR.2.2.2 j).2.2.1
  have hle := fun j => (hR.2.2.2 j).2.2.2.1
  have hkn := fun j => (hR.2.2.2 j).2.2.2.2
  have hp9 : ps ≤ 9 := by rw [hps]; exact hH.1
  have hm5 : mn ≤ 5 := by rw [hmn]; exact hH.2.1
  have hd999 : dy ≤ 999 := by rw [hdy]; exact hA.2.2.1.2.2
  refine lv_aload_n hx hb dX0_enough_0 rfl (lv_at hl 0 rfl) ?_
  refine lv_iload_n hx hb dX0_enough_1 rfl (lv_at hl 1 rfl) ?_
  refine z_ci (z_runV (As := [.int x]) (rest := []) hC zv_X0_159 (m_X0_isPit G l co w (nI mn) bm sm lt zn ps (nI dy) gg x (by omega) (zrem [0, 1] _)) hw (hw.perm (z_cut (is := [0, 1]) (cells := [(co, zo 0 (cF w (nI mn) bm sm lt)), (w 2, zo 1 (stF zn co (nI ps) (nI dy) gg))]) rfl rfl)) 0 rfl rfl rfl rfl rfl (Nat.le_of_ble_eq_true rfl) hl.1 ⟨Nat.le_of_ble_eq_true rfl, Nat.le_of_ble_eq_true rfl⟩ ⟨(Nat.le_of_ble_eq_true rfl), (Nat.le_of_ble_eq_true rfl)⟩ dX0_enough_2) hw (fun _ => z_keep (is := [0, 1]) (cs := [(co, zo 0 (cF w (nI mn) bm sm lt)), (w 2, zo 1 (stF zn co (nI ps) (nI dy) gg))]) rfl rfl) (fun r u H locs hp hw => ?_)
  obtain rfl : r = bI (isP ps x) := hp
  refine zb_ne (tgt := 11) hx hb dX0_enough_5 (by decide) (fun c_5 => ?_) (fun c_5 => ?_)
  · skip
    obtain ⟨t, ht, rfl⟩ := c_5
    have hl : lv_has ls 4 [(0, .ref co), (1, .int (nI t)), (2, .int y)] := hl
    have hta : t < aV A 0 := by omega
    have ht9 : t < 9 := by omega
    have hRt := hR.1 t hta
    refine lv_iload_n hx hb dX0_enough_11 rfl (lv_at hl 2 rfl) ?_
    refine lv_i2l (v := (iL y)) hx hb dX0_enough_12 rfl ?_
    refine lv_lconst (v := lN 1) hx hb dX0_enough_13 rfl ?_
    refine lv_ldc2 (v := (lN 20)) hx hb hC.hown (hC.hts _ q1063) dX0_enough_14 ?_
    refine z_ci (z_runS (As := [.long (iL y), .long (lN 1), .long (lN 20)]) (rest := []) hC zs_X0_126 (m_X0_in G l y 1 20 (by decide) (by decide) _) hw rfl rfl (Nat.le_of_ble_eq_true rfl) hl.1 ⟨Nat.le_of_ble_eq_true rfl, Nat.le_of_ble_eq_true rfl⟩ ⟨(Nat.le_of_ble_eq_true rfl), (Nat.le_of_ble_eq_true rfl)⟩ dX0_enough_17) hw (fun _ => List.Perm.refl _) (fun r u H locs hp hw => ?_)
    obtain rfl : r = bI (inR y 1 20) := hp
    refine zb_ne (tgt := 26) hx hb dX0_enough_20 (by decide) (fun c_20 => ?_) (fun c_20 => ?_)
    · skip
      obtain ⟨k, hk1, hk2, rfl⟩ := c_20
      have hl : lv_has ls 4 [(0, .ref co), (1, .int (nI t)), (2, .int (nI k))] := hl
      refine lv_iconst (v := (nI 0)) hx hb dX0_enough_26 zk_0 ?_
      refine lv_istore_n (lv' := [(3, .int (nI 0)), (0, .ref co), (1, .int (nI t)), (2, .int (nI k))]) hx hb dX0_enough_27 rfl hl (by decide) rfl (fun ls hl => ?_)
      have loop_28 : ∀ (fuel : Nat) (more : Nat) (q1 : Nat) (q2 : Nat) (q3 : Int32) (p1 : Nat → Nat) (p2 : Nat → Nat) (p3 : Nat → Nat) (p4 : Nat → Nat) (p5 : Nat → Nat), (more ≤ 61) → (sBd p1 p2 p3 p4 p5) → (enI (aV A) t k more) → (61 - more) < fuel → ∀ (H : Heap) (locs : List Loc) (ls : Array Slot), zS G ((co, zo 0 (cF w (nI mn) bm sm lt)) :: (w 2, zo 1 (stF zn co (nI ps) (nI dy) gg)) :: (zn 0, zc G 1 (zI 9 (vI pl))) :: (zn 1, zc G 1 (zI 9 (vI nu))) :: (zn 2, zc G 1 (zI 5 (vI ax))) :: (zn 3, zc G 1 (zI 5 (vI le))) :: (zn 4, zc G 2 (zI 5 (vI kn))) :: (w 3, zo 1 (stF zr co (nI q1) (nI q2) (q3))) :: (zr 0, zc G 1 (zI 9 (vI p1))) :: (zr 1, zc G 1 (zI 9 (vI p2))) :: (zr 2, zc G 1 (zI 5 (vI p3))) :: (zr 3, zc G 1 (zI 5 (vI p4))) :: (zr 4, zc G 2 (zI 5 (vI p5))) :: (w 0, zc G 4 (zO 5 sf)) :: (sqW sq (aV A) ++ rest)) s H locs → lv_has ls 4 [(0, .ref co), (1, .int (nI t)), (2, .int (nI k)), (3, .int (nI more))] → W p l e (zR 7 0 0) s m args below meth c H locs 0 0 Q (F0 m 28 ls []) := by
        intro fuel
        induction fuel with
        | zero => intro more q1 q2 q3 p1 p2 p3 p4 p5 hmo hbd1 hen hfuel; exact absurd hfuel (Nat.not_lt_zero _)
        | succ fuel_28 ih_28 =>
          intro more q1 q2 q3 p1 p2 p3 p4 p5 hmo hbd1 hen hfuel_28 H locs ls hw hl
          refine lv_iload_n hx hb dX0_enough_28 rfl (lv_at hl 3 rfl) ?_
          refine lv_bipush (v := (nI 60)) hx hb dX0_enough_29 zb_60 ?_
          refine zi_gt (tgt := 96) hx hb (by omega) (by decide) dX0_enough_31 (by decide) (fun c_31 => ?_) (fun c_31 => ?_)
          · skip
            refine lv_iconst (v := -1) hx hb dX0_enough_96 zk_m1 ?_
            exact hend _ _ _ _ _ _ _ (q1, q2, q3, p1, p2, p3, p4, p5) hw ⟨by unfold F_enough; rw [ifP_t ⟨t, hta, rfl⟩, ifP_t ⟨k, hk1, hk2, rfl⟩, cl_nI (by omega), cl_nI (by omega)]; rw [enI_e (by rw [show (61 : Nat) = more by omega]; exact hen)]; rfl, hbd1⟩ (Nat.le_of_ble_eq_true rfl) (Nat.le_of_ble_eq_true rfl) dX0_enough_97
          · skip
            have hnt : nu t = aV A (3 + 2 * t + 1) := hRt.2
            have hgU : Hg (updN (aV A) (3 + 2 * t + 1) (min 99 (nu t + more))) := Hg_nuts hgv ht9 (Nat.min_le_left _ _)
            have hRU := sRel_nu (t := t) (x := min 99 (nu t + more)) hH.1 (sRel_cp hH hR hbd1) hta (by omega)
            have hU0 : (updN (aV A) (3 + 2 * t + 1) (min 99 (nu t + more))) 0 = aV A 0 := updN_ne _ _ (by omega)
            have hU1 : (updN (aV A) (3 + 2 * t + 1) (min 99 (nu t + more))) 1 = aV A 1 := updN_ne _ _ (by omega)
            have hU2 : (updN (aV A) (3 + 2 * t + 1) (min 99 (nu t + more))) 2 = aV A 2 := updN_ne _ _ (by omega)
            have hUs : sqW sq (aV A) = sqW sq (updN (aV A) (3 + 2 * t + 1) (min 99 (nu t + more))) := sqW_eq hU1.symm (fun i hi => ⟨(updN_ne _ _ (by omega)).symm, (updN_ne _ _ (by omega)).symm⟩)
            refine lv_aload_n hx hb dX0_enough_34 rfl (lv_at hl 0 rfl) ?_
            refine z_get (v := .ref (w 3)) hC zf_X0_109_0 hw 0 rfl rfl dX0_enough_35 ?_
            refine lv_aload_n hx hb dX0_enough_38 rfl (lv_at hl 0 rfl) ?_
            refine z_get (v := .ref (w 2)) hC zf_X0_27_0 hw 0 rfl rfl dX0_enough_39 ?_
            refine z_cq (z_runV (As := [.ref (w 2)]) (rest := []) hC zv_X0_34 (m_X1_set G l (w 3) (w 2) co zr zn q1 q2 ps dy q3 gg p1 p2 p3 p4 p5 pl nu ax le kn hpl hnu hax hle hkn (zrem [7, 8, 9, 10, 11, 12, 1, 2, 3, 4, 5, 6] _)) hw (hw.perm (z_cut (is := [7, 8, 9, 10, 11, 12, 1, 2, 3, 4, 5, 6]) (cells := [(w 3, zo 1 (stF zr co (nI q1) (nI q2) (q3))), (zr 0, zc G 1 (zI 9 (vI p1))), (zr 1, zc G 1 (zI 9 (vI p2))), (zr 2, zc G 1 (zI 5 (vI p3))), (zr 3, zc G 1 (zI 5 (vI p4))), (zr 4, zc G 2 (zI 5 (vI p5))), (w 2, zo 1 (stF zn co (nI ps) (nI dy) (gg))), (zn 0, zc G 1 (zI 9 (vI pl))), (zn 1, zc G 1 (zI 9 (vI nu))), (zn 2, zc G 1 (zI 5 (vI ax))), (zn 3, zc G 1 (zI 5 (vI le))), (zn 4, zc G 2 (zI 5 (vI kn)))]) rfl rfl)) 7 rfl rfl rfl rfl rfl (Nat.le_of_ble_eq_true rfl) hl.1 ⟨Nat.le_of_ble_eq_true rfl, Nat.le_of_ble_eq_true rfl⟩ ⟨(Nat.le_of_ble_eq_true rfl), (Nat.le_of_ble_eq_true rfl)⟩ dX0_enough_42) hw (fun _ => z_pput (is := [7, 8, 9, 10, 11, 12, 1, 2, 3, 4, 5, 6]) (cells := [(w 3, zo 1 (stF zr co (nI q1) (nI q2) (q3))), (zr 0, zc G 1 (zI 9 (vI p1))), (zr 1, zc G 1 (zI 9 (vI p2))), (zr 2, zc G 1 (zI 5 (vI p3))), (zr 3, zc G 1 (zI 5 (vI p4))), (zr 4, zc G 2 (zI 5 (vI p5))), (w 2, zo 1 (stF zn co (nI ps) (nI dy) (gg))), (zn 0, zc G 1 (zI 9 (vI pl))), (zn 1, zc G 1 (zI 9 (vI nu))), (zn 2, zc G 1 (zI 5 (vI ax))), (zn 3, zc G 1 (zI 5 (vI le))), (zn 4, zc G 2 (zI 5 (vI kn)))]) (cells' := [(w 3, zo 1 (stF zr co (nI ps) (nI dy) (q3))), (zr 0, zc G 1 (zI 9 (vI (cpN pl p1 9)))), (zr 1, zc G 1 (zI 9 (vI (cpN nu p2 9)))), (zr 2, zc G 1 (zI 5 (vI (cpN ax p3 5)))), (zr 3, zc G 1 (zI 5 (vI (cpN le p4 5)))), (zr 4, zc G 2 (zI 5 (vI (cpN kn p5 5)))), (w 2, zo 1 (stF zn co (nI ps) (nI dy) (gg))), (zn 0, zc G 1 (zI 9 (vI pl))), (zn 1, zc G 1 (zI 9 (vI nu))), (zn 2, zc G 1 (zI 5 (vI ax))), (zn 3, zc G 1 (zI 5 (vI le))), (zn 4, zc G 2 (zI 5 (vI kn)))]) rfl rfl rfl) (fun r u H locs hp hw => ?_)
            have hw : zS G ((co, zo 0 (cF w (nI mn) bm sm lt)) :: (w 2, zo 1 (stF zn co (nI ps) (nI dy) (gg))) :: (zn 0, zc G 1 (zI 9 (vI pl))) :: (zn 1, zc G 1 (zI 9 (vI nu))) :: (zn 2, zc G 1 (zI 5 (vI ax))) :: (zn 3, zc G 1 (zI 5 (vI le))) :: (zn 4, zc G 2 (zI 5 (vI kn))) :: (w 3, zo 1 (stF zr co (nI ps) (nI dy) (q3))) :: (zr 0, zc G 1 (zI 9 (vI (cpN pl p1 9)))) :: (zr 1, zc G 1 (zI 9 (vI (cpN nu p2 9)))) :: (zr 2, zc G 1 (zI 5 (vI (cpN ax p3 5)))) :: (zr 3, zc G 1 (zI 5 (vI (cpN le p4 5)))) :: (zr 4, zc G 2 (zI 5 (vI (cpN kn p5 5)))) :: (w 0, zc G 4 (zO 5 sf)) :: (sqW sq (aV A) ++ rest)) s H locs := hw
            obtain rfl : r = some (w 3) := hp
            refine z_get (v := .ref (zr 1)) hC zf_X0_90_1 hw 7 rfl rfl dX0_enough_45 ?_
            refine lv_iload_n hx hb dX0_enough_48 rfl (lv_at hl 1 rfl) ?_
            refine lv_bipush (v := (nI 99)) hx hb dX0_enough_49 zb_99 ?_
            refine lv_aload_n hx hb dX0_enough_51 rfl (lv_at hl 0 rfl) ?_
            refine z_get (v := .ref (w 2)) hC zf_X0_27_0 hw 0 rfl rfl dX0_enough_52 ?_
            refine z_get (v := .ref (zn 1)) hC zf_X0_90_1 hw 1 rfl rfl dX0_enough_55 ?_
            refine lv_iload_n hx hb dX0_enough_58 rfl (lv_at hl 1 rfl) ?_
            refine z_bald (x := (nI (nu t))) hC hw 3 rfl (by omega) (by decide) rfl dX0_enough_59 ?_
            refine lv_iload_n hx hb dX0_enough_60 rfl (lv_at hl 3 rfl) ?_
            refine zn_iadd hx hb dX0_enough_61 ?_
            refine z_mmin (v := nI (min 99 (nu t + more))) hC hl.1 q1064 zm_min (zm_min_d (by decide) (by have := hnu t; omega)) (Nat.le_of_ble_eq_true rfl) ⟨Nat.le_of_ble_eq_true rfl, Nat.le_of_ble_eq_true rfl⟩ (Nat.le_of_ble_eq_true rfl) (Nat.le_of_ble_eq_true rfl) dX0_enough_62 ?_
            refine lv_i2b (v := (nI (min 99 (nu t + more)))) hx hb dX0_enough_65 (zi2b (by have := hnu t; omega)) ?_
            refine z_bast (f' := vI (updN (cpN nu p2 9) t (min 99 (nu t + more)))) hC hw 9 rfl (by omega) (by decide) ((congrArg _ (znbyte (by have := hnu t; omega))).trans (vI_upd _ _ _)) dX0_enough_66 (fun H locs hw => ?_)
            have hw : zS G ((co, zo 0 (cF w (nI mn) bm sm lt)) :: (w 2, zo 1 (stF zn co (nI ps) (nI dy) (gg))) :: (zn 0, zc G 1 (zI 9 (vI pl))) :: (zn 1, zc G 1 (zI 9 (vI nu))) :: (zn 2, zc G 1 (zI 5 (vI ax))) :: (zn 3, zc G 1 (zI 5 (vI le))) :: (zn 4, zc G 2 (zI 5 (vI kn))) :: (w 3, zo 1 (stF zr co (nI ps) (nI dy) (q3))) :: (zr 0, zc G 1 (zI 9 (vI (cpN pl p1 9)))) :: (zr 1, zc G 1 (zI 9 (vI (updN (cpN nu p2 9) t (min 99 (nu t + more)))))) :: (zr 2, zc G 1 (zI 5 (vI (cpN ax p3 5)))) :: (zr 3, zc G 1 (zI 5 (vI (cpN le p4 5)))) :: (zr 4, zc G 2 (zI 5 (vI (cpN kn p5 5)))) :: (w 0, zc G 4 (zO 5 sf)) :: (sqW sq (aV A) ++ rest)) s H locs := hw
            refine lv_aload_n hx hb dX0_enough_67 rfl (lv_at hl 0 rfl) ?_
            refine z_get (v := .ref (w 3)) hC zf_X0_109_0 hw 0 rfl rfl dX0_enough_68 ?_
            refine lv_iload_n hx hb dX0_enough_71 rfl (lv_at hl 2 rfl) ?_
            refine z_cq (z_runV (As := [.int (nI k)]) (rest := []) hC zv_X0_207 (m_X1_pass G l kA (by first | assumption | (omega)) (w 3) co zr w bm sm lt ps dy mn q3 (updN (aV A) (3 + 2 * t + 1) (min 99 (nu t + more))) (cpN pl p1 9) (updN (cpN nu p2 9) t (min 99 (nu t + more))) (cpN ax p3 5) (cpN le p4 5) (cpN kn p5 5) sf sq (hps.trans hU0.symm) (hmn.trans hU1.symm) (hdy.trans hU2.symm) k (by rw [hU2]; omega) hgU hRU (fun i hi => hsf i (by rw [← hU1]; exact hi)) (aV A) hUs (zrem [7, 8, 9, 10, 11, 12, 0, 13] [(co, zo 0 (cF w (nI mn) bm sm lt)), (w 2, zo 1 (stF zn co (nI ps) (nI dy) (gg))), (zn 0, zc G 1 (zI 9 (vI pl))), (zn 1, zc G 1 (zI 9 (vI nu))), (zn 2, zc G 1 (zI 5 (vI ax))), (zn 3, zc G 1 (zI 5 (vI le))), (zn 4, zc G 2 (zI 5 (vI kn))), (w 3, zo 1 (stF zr co (nI ps) (nI dy) (q3))), (zr 0, zc G 1 (zI 9 (vI (cpN pl p1 9)))), (zr 1, zc G 1 (zI 9 (vI (updN (cpN nu p2 9) t (min 99 (nu t + more)))))), (zr 2, zc G 1 (zI 5 (vI (cpN ax p3 5)))), (zr 3, zc G 1 (zI 5 (vI (cpN le p4 5)))), (zr 4, zc G 2 (zI 5 (vI (cpN kn p5 5)))), (w 0, zc G 4 (zO 5 sf))] ++ rest)) hw (hw.perm (z_cutP (z_cut (is := [7, 8, 9, 10, 11, 12, 0, 13]) (ws := [(co, zo 0 (cF w (nI mn) bm sm lt)), (w 2, zo 1 (stF zn co (nI ps) (nI dy) (gg))), (zn 0, zc G 1 (zI 9 (vI pl))), (zn 1, zc G 1 (zI 9 (vI nu))), (zn 2, zc G 1 (zI 5 (vI ax))), (zn 3, zc G 1 (zI 5 (vI le))), (zn 4, zc G 2 (zI 5 (vI kn))), (w 3, zo 1 (stF zr co (nI ps) (nI dy) (q3))), (zr 0, zc G 1 (zI 9 (vI (cpN pl p1 9)))), (zr 1, zc G 1 (zI 9 (vI (updN (cpN nu p2 9) t (min 99 (nu t + more)))))), (zr 2, zc G 1 (zI 5 (vI (cpN ax p3 5)))), (zr 3, zc G 1 (zI 5 (vI (cpN le p4 5)))), (zr 4, zc G 2 (zI 5 (vI (cpN kn p5 5)))), (w 0, zc G 4 (zO 5 sf))]) (cells := [(w 3, zo 1 (stF zr co (nI ps) (nI dy) (q3))), (zr 0, zc G 1 (zI 9 (vI (cpN pl p1 9)))), (zr 1, zc G 1 (zI 9 (vI (updN (cpN nu p2 9) t (min 99 (nu t + more)))))), (zr 2, zc G 1 (zI 5 (vI (cpN ax p3 5)))), (zr 3, zc G 1 (zI 5 (vI (cpN le p4 5)))), (zr 4, zc G 2 (zI 5 (vI (cpN kn p5 5)))), (co, zo 0 (cF w (nI mn) bm sm lt)), (w 0, zc G 4 (zO 5 sf))]) rfl rfl))) 7 rfl rfl rfl rfl rfl (Nat.le_of_ble_eq_true rfl) hl.1 ⟨Nat.le_of_ble_eq_true rfl, Nat.le_of_ble_eq_true rfl⟩ ⟨(Nat.le_of_ble_eq_true rfl), (Nat.le_of_ble_eq_true rfl)⟩ dX0_enough_72) hw (fun u => z_putP (z_pput (is := [7, 8, 9, 10, 11, 12, 0, 13]) (ws := [(co, zo 0 (cF w (nI mn) bm sm lt)), (w 2, zo 1 (stF zn co (nI ps) (nI dy) (gg))), (zn 0, zc G 1 (zI 9 (vI pl))), (zn 1, zc G 1 (zI 9 (vI nu))), (zn 2, zc G 1 (zI 5 (vI ax))), (zn 3, zc G 1 (zI 5 (vI le))), (zn 4, zc G 2 (zI 5 (vI kn))), (w 3, zo 1 (stF zr co (nI ps) (nI dy) (q3))), (zr 0, zc G 1 (zI 9 (vI (cpN pl p1 9)))), (zr 1, zc G 1 (zI 9 (vI (updN (cpN nu p2 9) t (min 99 (nu t + more)))))), (zr 2, zc G 1 (zI 5 (vI (cpN ax p3 5)))), (zr 3, zc G 1 (zI 5 (vI (cpN le p4 5)))), (zr 4, zc G 2 (zI 5 (vI (cpN kn p5 5)))), (w 0, zc G 4 (zO 5 sf))]) (cells := [(w 3, zo 1 (stF zr co (nI ps) (nI dy) (q3))), (zr 0, zc G 1 (zI 9 (vI (cpN pl p1 9)))), (zr 1, zc G 1 (zI 9 (vI (updN (cpN nu p2 9) t (min 99 (nu t + more)))))), (zr 2, zc G 1 (zI 5 (vI (cpN ax p3 5)))), (zr 3, zc G 1 (zI 5 (vI (cpN le p4 5)))), (zr 4, zc G 2 (zI 5 (vI (cpN kn p5 5)))), (co, zo 0 (cF w (nI mn) bm sm lt)), (w 0, zc G 4 (zO 5 sf))]) (cells' := [(w 3, zo 1 (stF zr co (nI ps) (nI (dy + k)) (u.2.2.2.2))), (zr 0, zc G 1 (zI 9 (vI (cpN pl p1 9)))), (zr 1, zc G 1 (zI 9 (vI u.1))), (zr 2, zc G 1 (zI 5 (vI u.2.1))), (zr 3, zc G 1 (zI 5 (vI u.2.2.1))), (zr 4, zc G 2 (zI 5 (vI u.2.2.2.1))), (co, zo 0 (cF w (nI mn) bm sm lt)), (w 0, zc G 4 (zO 5 sf))]) rfl rfl rfl)) (fun r u H locs hp hw => ?_)
            obtain ⟨nu6, ax6, le6, kn6, gg6⟩ := u
            have hw : zS G ((co, zo 0 (cF w (nI mn) bm sm lt)) :: (w 2, zo 1 (stF zn co (nI ps) (nI dy) (gg))) :: (zn 0, zc G 1 (zI 9 (vI pl))) :: (zn 1, zc G 1 (zI 9 (vI nu))) :: (zn 2, zc G 1 (zI 5 (vI ax))) :: (zn 3, zc G 1 (zI 5 (vI le))) :: (zn 4, zc G 2 (zI 5 (vI kn))) :: (w 3, zo 1 (stF zr co (nI ps) (nI (dy + k)) (gg6))) :: (zr 0, zc G 1 (zI 9 (vI (cpN pl p1 9)))) :: (zr 1, zc G 1 (zI 9 (vI nu6))) :: (zr 2, zc G 1 (zI 5 (vI ax6))) :: (zr 3, zc G 1 (zI 5 (vI le6))) :: (zr 4, zc G 2 (zI 5 (vI kn6))) :: (w 0, zc G 4 (zO 5 sf)) :: (sqW sq (aV A) ++ rest)) s H locs := hw
            obtain ⟨rfl, hdR⟩ := hp
            have hdi := daysN_inv hgU.1 k (by rw [hU2]; omega)
            have hd1 : daysN k (updN (aV A) (3 + 2 * t + 1) (min 99 (nu t + more))) 1 = aV A 1 := (hdi.2.2 1 still_1).trans hU1
            have hal := alive_c (daysN_Hg hgU k (by rw [hU2]; omega)).1 hdR (hmn.trans hd1.symm)
            have hal2 := alive_c hH hR hmn
            refine z_ci (z_runV (As := []) (rest := []) hC zv_X0_225 (m_X1_alive G l kA (by first | assumption | (omega)) (w 3) co zr w bm sm lt ps (dy + k) gg6 mn le6 hm5 (fun j => (hdR.2.2.2 j).2.2.2.1) (zrem [7, 11, 0] _)) hw (hw.perm (z_cut (is := [7, 11, 0]) (cells := [(w 3, zo 1 (stF zr co (nI ps) (nI (dy + k)) gg6)), (zr 3, zc G 1 (zI 5 (vI le6))), (co, zo 0 (cF w (nI mn) bm sm lt))]) rfl rfl)) 7 rfl rfl rfl rfl rfl (Nat.le_of_ble_eq_true rfl) hl.1 ⟨Nat.le_of_ble_eq_true rfl, Nat.le_of_ble_eq_true rfl⟩ ⟨(Nat.le_of_ble_eq_true rfl), (Nat.le_of_ble_eq_true rfl)⟩ dX0_enough_75) hw (fun _ => z_keep (is := [7, 11, 0]) (cs := [(w 3, zo 1 (stF zr co (nI ps) (nI (dy + k)) gg6)), (zr 3, zc G 1 (zI 5 (vI le6))), (co, zo 0 (cF w (nI mn) bm sm lt))]) rfl rfl) (fun r u H locs hp hw => ?_)
            obtain rfl : r = nI (orB (fun i => decide (¬ le6 i = 3)) mn) := hp
            refine lv_aload_n hx hb dX0_enough_78 rfl (lv_at hl 0 rfl) ?_
            refine z_get (v := .ref (w 2)) hC zf_X0_27_0 hw 0 rfl rfl dX0_enough_79 ?_
            refine z_ci (z_runV (As := []) (rest := [.int (nI (orB (fun i => decide (¬ le6 i = 3)) mn))]) hC zv_X0_225 (m_X1_alive G l kA (by first | assumption | (omega)) (w 2) co zn w bm sm lt ps dy gg mn le hm5 hle (zrem [1, 5, 0] _)) hw (hw.perm (z_cut (is := [1, 5, 0]) (cells := [(w 2, zo 1 (stF zn co (nI ps) (nI dy) gg)), (zn 3, zc G 1 (zI 5 (vI le))), (co, zo 0 (cF w (nI mn) bm sm lt))]) rfl rfl)) 1 rfl rfl rfl rfl rfl (Nat.le_of_ble_eq_true rfl) hl.1 ⟨Nat.le_of_ble_eq_true rfl, Nat.le_of_ble_eq_true rfl⟩ ⟨(Nat.le_of_ble_eq_true rfl), (Nat.le_of_ble_eq_true rfl)⟩ dX0_enough_82) hw (fun _ => z_keep (is := [1, 5, 0]) (cs := [(w 2, zo 1 (stF zn co (nI ps) (nI dy) gg)), (zn 3, zc G 1 (zI 5 (vI le))), (co, zo 0 (cF w (nI mn) bm sm lt))]) rfl rfl) (fun r u H locs hp hw => ?_)
            obtain rfl : r = nI (orB (fun i => decide (¬ le i = 3)) mn) := hp
            refine zi_ne (tgt := 90) hx hb (Nat.lt_trans (orB_512 (by omega)) (by decide)) (Nat.lt_trans (orB_512 (by omega)) (by decide)) dX0_enough_85 (by decide) (fun c_85 => ?_) (fun c_85 => ?_)
            · skip
              have hae : ¬ aliveN (daysN k (updN (aV A) (3 + 2 * t + 1) (min 99 (aV A (3 + 2 * t + 1) + more)))) = aliveN (aV A) := by rw [← hnt, ← hal, ← hal2]; exact c_85
              refine lv_iinc (v := (nI (more + 1))) (lv' := [(3, .int (nI (more + 1))), (0, .ref co), (1, .int (nI t)), (2, .int (nI k))]) hx hb dX0_enough_90 hl (k := 3) rfl (zincn _ 1) (by decide) rfl (fun ls hl => ?_)
              refine lv_goto (tgt := 28) hx hb dX0_enough_93 (by decide) ?_
              exact ih_28 (more + 1) ps (dy + k) gg6 (cpN pl p1 9) nu6 ax6 le6 kn6 (by omega) hdR.2.2.2 (enI_s (by omega) hen (hgv.2.1 t hta).2 (fun q => hae q)) (by omega) H locs ls hw (lv_sub hl [1, 2, 3, 0] rfl)
            · skip
              have hae : aliveN (daysN k (updN (aV A) (3 + 2 * t + 1) (min 99 (aV A (3 + 2 * t + 1) + more)))) = aliveN (aV A) := by rw [← hnt, ← hal, ← hal2]; exact c_85
              refine lv_iload_n hx hb dX0_enough_88 rfl (lv_at hl 3 rfl) ?_
              exact hend _ _ _ _ _ _ _ (ps, dy + k, gg6, (cpN pl p1 9), nu6, ax6, le6, kn6) hw ⟨by unfold F_enough; rw [ifP_t ⟨t, hta, rfl⟩, ifP_t ⟨k, hk1, hk2, rfl⟩, cl_nI (by omega), cl_nI (by omega)]; rw [enI_y (by omega) hen hae]; rfl, hdR.2.2.2⟩ (Nat.le_of_ble_eq_true rfl) (Nat.le_of_ble_eq_true rfl) dX0_enough_89
      exact loop_28 ((61 - 0) + 1) 0 rps rdy rg rpl rnu rax rle rkn (by decide) hbd ⟨fun _ => rfl, fun h => by have := (hgv.2.1 t hta).2; omega⟩ (Nat.lt_succ_self _) H locs ls hw (lv_sub hl [1, 2, 3, 0] rfl)
    · skip
      refine lv_bipush (v := (-3)) hx hb dX0_enough_23 zb_m3 ?_
      exact hend _ _ _ _ _ _ _ (rps, rdy, rg, rpl, rnu, rax, rle, rkn) hw ⟨by exact ((ifP_t ⟨t, hta, rfl⟩).trans (ifP_f c_20)).symm, hbd⟩ (Nat.le_of_ble_eq_true rfl) (Nat.le_of_ble_eq_true rfl) dX0_enough_25
  · skip
    refine lv_bipush (v := (-2)) hx hb dX0_enough_8 zb_m2 ?_
    exact hend _ _ _ _ _ _ _ (rps, rdy, rg, rpl, rnu, rax, rle, rkn) hw ⟨by exact (ifP_f (fun q => c_5 (by rw [hps]; exact q))).symm, hbd⟩ (Nat.le_of_ble_eq_true rfl) (Nat.le_of_ble_eq_true rfl) dX0_enough_10
def fewI (o : Option Nat) : Nat := o.getD 999999
theorem wo_min {v : Nat → Nat} {n t : Nat} {wh fe : Option Nat} (hL : liveN (updN v (3 + 2 * t + 1) 0) n ≤ 9) (h : woN v n t = (wh, fe)) (hs : (wh = none ∧ fe = none) ∨ ∃ w9 f9, wh = some w9 ∧ fe = some f9 ∧ w9 < 9 ∧ f9 ≤ 9) (ht : t < 9) : woN v n (t + 1) = (if liveN (updN v (3 + 2 * t + 1) 0) n < fewI fe then some t else wh, some (min (fewI fe) (liveN (updN v (3 + 2 * t + 1) 0) n))) ∧ ∃ w9, (if liveN (updN v (3 + 2 * t + 1) 0) n < fewI fe then some t else wh) = some w9 ∧ w9 < 9 := by
  rcases hs with ⟨rfl, rfl⟩ | ⟨w9, f9, rfl, rfl, h1, h2⟩
  · have e : liveN (updN v (3 + 2 * t + 1) 0) n < fewI none := by show _ < 999999; omega
    rw [if_pos e, Nat.min_eq_right (by omega), woN_0 h]; exact ⟨rfl, t, rfl, ht⟩
  · show woN v n (t + 1) = (if _ < f9 then some t else some w9, some (min f9 _)) ∧ ∃ w9_1, (if _ < f9 then some t else some w9) = some w9_1 ∧ w9_1 < 9
    by_cases e : liveN (updN v (3 + 2 * t + 1) 0) n < f9
    · rw [if_pos e, Nat.min_eq_right (by omega), woN_t h e]; exact ⟨rfl, t, rfl, ht⟩
    · rw [if_neg e, Nat.min_eq_left (by omega), woN_f h e]; exact ⟨rfl, w9, rfl, h1⟩
set_option maxHeartbeats 4000000 in
theorem m_X0_worst (G : zE) (l : Launch) (kA : Nat → Nat) (hG : zG G kA) (co : Nat) (w : Nat → Nat) (zn : Nat → Nat) (A : AS) (ps : Nat) (mn : Nat) (dy : Nat) (bm : Int32) (sm : Int32) (lt : Int32) (gg : Int32) (pl : Nat → Nat) (nu : Nat → Nat) (ax : Nat → Nat) (le : Nat → Nat) (kn : Nat → Nat) (hA : AOk A) (hps : ps = aV A 0) (hmn : mn = aV A 1) (hdy : dy = aV A 2) (hR : sRel (aV A) pl nu ax le kn) (zr : Nat → Nat) (rps : Nat) (rdy : Nat) (rg : Int32) (rpl : Nat → Nat) (rnu : Nat → Nat) (rax : Nat → Nat) (rle : Nat → Nat) (rkn : Nat → Nat) (sf : Nat → Option Nat) (sq : Nat → Nat) (hbd : sBd rpl rnu rax rle rkn) (hsf : ∀ i, i < aV A 1 → sf i = some (sq i)) (x : Int32) (y : Int32) (rest : va_W) : zMi G l yX0_worst cX0_worst 7 (some .int) 7 0 0 [.ref co, .int x, .int y] ((co, zo 0 (cF w (nI mn) bm sm lt)) :: (w 2, zo 1 (stF zn co (nI ps) (nI dy) (gg))) :: (zn 0, zc G 1 (zI 9 (vI pl))) :: (zn 1, zc G 1 (zI 9 (vI nu))) :: (zn 2, zc G 1 (zI 5 (vI ax))) :: (zn 3, zc G 1 (zI 5 (vI le))) :: (zn 4, zc G 2 (zI 5 (vI kn))) :: (w 3, zo 1 (stF zr co (nI rps) (nI rdy) (rg))) :: (zr 0, zc G 1 (zI 9 (vI rpl))) :: (zr 1, zc G 1 (zI 9 (vI rnu))) :: (zr 2, zc G 1 (zI 5 (vI rax))) :: (zr 3, zc G 1 (zI 5 (vI rle))) :: (zr 4, zc G 2 (zI 5 (vI rkn))) :: (w 0, zc G 4 (zO 5 sf)) :: (sqW sq (aV A) ++ rest)) (fun (r : Int32) u => r = F_worst A x y ∧ sBd u.2.2.2.1 u.2.2.2.2.1 u.2.2.2.2.2.1 u.2.2.2.2.2.2.1 u.2.2.2.2.2.2.2) (fun (u : Nat × Nat × Int32 × (Nat → Nat) × (Nat → Nat) × (Nat → Nat) × (Nat → Nat) × (Nat → Nat)) => (co, zo 0 (cF w (nI mn) bm sm lt)) :: (w 2, zo 1 (stF zn co (nI ps) (nI dy) (gg))) :: (zn 0, zc G 1 (zI 9 (vI pl))) :: (zn 1, zc G 1 (zI 9 (vI nu))) :: (zn 2, zc G 1 (zI 5 (vI ax))) :: (zn 3, zc G 1 (zI 5 (vI le))) :: (zn 4, zc G 2 (zI 5 (vI kn))) :: (w 3, zo 1 (stF zr co (nI u.1) (nI u.2.1) (u.2.2.1))) :: (zr 0, zc G 1 (zI 9 (vI u.2.2.2.1))) :: (zr 1, zc G 1 (zI 9 (vI u.2.2.2.2.1))) :: (zr 2, zc G 1 (zI 5 (vI u.2.2.2.2.2.1))) :: (zr 3, zc G 1 (zI 5 (vI u.2.2.2.2.2.2.1))) :: (zr 4, zc G 2 (zI 5 (vI u.2.2.2.2.2.2.2))) :: (w 0, zc G 4 (zO 5 sf)) :: (sqW sq (aV A) ++ rest)) := by
  refine z_begI (by decide) (Nat.le_of_ble_eq_true rfl) (fun p e s m args below meth c ls Q hC hl hw hend => ?_)
  have hx := hC.hx
  have hb := hC.hb
  have hl : lv_has ls 7 [(0, .ref co), (1, .int x), (2, .int y)] := hl
  have hw : zS G ((co, zo 0 (cF w (nI mn) bm sm lt)) :: (w 2, zo 1 (stF zn co (nI ps) (nI dy) (gg))) :: (zn 0, zc G 1 (zI 9 (vI pl))) :: (zn 1, zc G 1 (zI 9 (vI nu))) :: (zn 2, zc G 1 (zI 5 (vI ax))) :: (zn 3, zc G 1 (zI 5 (vI le))) :: (zn 4, zc G 2 (zI 5 (vI kn))) :: (w 3, zo 1 (stF zr co (nI rps) (nI rdy) (rg))) :: (zr 0, zc G 1 (zI 9 (vI rpl))) :: (zr 1, zc G 1 (zI 9 (vI rnu))) :: (zr 2, zc G 1 (zI 5 (vI rax))) :: (zr 3, zc G 1 (zI 5 (vI rle))) :: (zr 4, zc G 2 (zI 5 (vI rkn))) :: (w 0, zc G 4 (zO 5 sf)) :: (sqW sq (aV A) ++ rest)) s s.heap [] := hw
  have hz := hG s hC.hZ.1
  have hgv := hA.2.2.1.1
  have hH : Hw (aV A) := hgv.1
  have hpl := fun j => (hR.2.2.2 j).1
  have hnu := fun j => (hR.2.2.2 j).2.1
  have hax := fun j => (hR.2.2.2 j).2.2.1
  have hle := fun j => (hR.2.2.2 j).2.2.2.1
  have hkn := fun j => (hR.2.2.2 j).2.2.2.2
  have hp9 : ps ≤ 9 := by rw [hps]; exact hH.1
  have hm5 : mn ≤ 5 := by rw [hmn]; exact hH.2.1
  have hd999 : dy ≤ 999 := by rw [hdy]; exact hA.2.2.1.2.2
  refine lv_iload_n hx hb dX0_worst_0 rfl (lv_at hl 1 rfl) ?_
  refine lv_i2l (v := (iL x)) hx hb dX0_worst_1 rfl ?_
  refine lv_lconst (v := lN 1) hx hb dX0_worst_2 rfl ?_
  refine lv_ldc2 (v := (lN 20)) hx hb hC.hown (hC.hts _ q1063) dX0_worst_3 ?_
  refine z_ci (z_runS (As := [.long (iL x), .long (lN 1), .long (lN 20)]) (rest := []) hC zs_X0_126 (m_X0_in G l x 1 20 (by decide) (by decide) _) hw rfl rfl (Nat.le_of_ble_eq_true rfl) hl.1 ⟨Nat.le_of_ble_eq_true rfl, Nat.le_of_ble_eq_true rfl⟩ ⟨(Nat.le_of_ble_eq_true rfl), (Nat.le_of_ble_eq_true rfl)⟩ dX0_worst_6) hw (fun _ => List.Perm.refl _) (fun r u H locs hp hw => ?_)
  obtain rfl : r = bI (inR x 1 20) := hp
  refine zb_eq (tgt := 22) hx hb dX0_worst_9 (by decide) (fun c_9 => ?_) (fun c_9 => ?_)
  · skip
    refine lv_bipush (v := (-3)) hx hb dX0_worst_22 zb_m3 ?_
    exact hend _ _ _ _ _ _ _ (rps, rdy, rg, rpl, rnu, rax, rle, rkn) hw ⟨by first | exact (ifP_f (fun h => c_9 h.1)).symm | exact (ifP_f (fun h => c_19 h.2)).symm, hbd⟩ (Nat.le_of_ble_eq_true rfl) (Nat.le_of_ble_eq_true rfl) dX0_worst_24
  · skip
    obtain ⟨k, hk1, hk2, rfl⟩ := c_9
    have hl : lv_has ls 7 [(0, .ref co), (1, .int (nI k)), (2, .int y)] := hl
    refine lv_iload_n hx hb dX0_worst_12 rfl (lv_at hl 2 rfl) ?_
    refine lv_i2l (v := (iL y)) hx hb dX0_worst_13 rfl ?_
    refine lv_lconst (v := lN 0) hx hb dX0_worst_14 rfl ?_
    refine lv_lconst (v := lN 1) hx hb dX0_worst_15 rfl ?_
    refine z_ci (z_runS (As := [.long (iL y), .long (lN 0), .long (lN 1)]) (rest := []) hC zs_X0_126 (m_X0_in G l y 0 1 (by decide) (by decide) _) hw rfl rfl (Nat.le_of_ble_eq_true rfl) hl.1 ⟨Nat.le_of_ble_eq_true rfl, Nat.le_of_ble_eq_true rfl⟩ ⟨(Nat.le_of_ble_eq_true rfl), (Nat.le_of_ble_eq_true rfl)⟩ dX0_worst_16) hw (fun _ => List.Perm.refl _) (fun r u H locs hp hw => ?_)
    obtain rfl : r = bI (inR y 0 1) := hp
    refine zb_ne (tgt := 25) hx hb dX0_worst_19 (by decide) (fun c_19 => ?_) (fun c_19 => ?_)
    · skip
      obtain ⟨j, hj1, hj2, rfl⟩ := c_19
      have hl : lv_has ls 7 [(0, .ref co), (1, .int (nI k)), (2, .int (nI j))] := hl
      refine lv_iconst (v := -1) hx hb dX0_worst_25 zk_m1 ?_
      refine lv_istore_n (lv' := [(3, .int (-1)), (0, .ref co), (1, .int (nI k)), (2, .int (nI j))]) hx hb dX0_worst_26 rfl hl (by decide) rfl (fun ls hl => ?_)
      refine lv_ldc (v := (nI 999999)) hx hb hC.hown (hC.hts _ q1069) dX0_worst_27 ?_
      refine lv_istore (lv' := [(4, .int (nI 999999)), (3, .int (-1)), (0, .ref co), (1, .int (nI k)), (2, .int (nI j))]) hx hb dX0_worst_29 hl (by decide) rfl (fun ls hl => ?_)
      refine lv_iconst (v := (nI 0)) hx hb dX0_worst_31 zk_0 ?_
      refine lv_istore (lv' := [(5, .int (nI 0)), (4, .int (nI 999999)), (3, .int (-1)), (0, .ref co), (1, .int (nI k)), (2, .int (nI j))]) hx hb dX0_worst_32 hl (by decide) rfl (fun ls hl => ?_)
      have loop_34 : ∀ (fuel : Nat) (t : Nat) (wh : Option Nat) (fe : Option Nat) (q1 : Nat) (q2 : Nat) (q3 : Int32) (p1 : Nat → Nat) (p2 : Nat → Nat) (p3 : Nat → Nat) (p4 : Nat → Nat) (p5 : Nat → Nat), (t ≤ ps) → (sBd p1 p2 p3 p4 p5) → (woN (aV A) k t = (wh, fe)) → ((wh = none ∧ fe = none) ∨ ∃ w9 f9, wh = some w9 ∧ fe = some f9 ∧ w9 < 9 ∧ f9 ≤ 9) → (ps - t) < fuel → ∀ (H : Heap) (locs : List Loc) (ls : Array Slot), zS G ((co, zo 0 (cF w (nI mn) bm sm lt)) :: (w 2, zo 1 (stF zn co (nI ps) (nI dy) (gg))) :: (zn 0, zc G 1 (zI 9 (vI pl))) :: (zn 1, zc G 1 (zI 9 (vI nu))) :: (zn 2, zc G 1 (zI 5 (vI ax))) :: (zn 3, zc G 1 (zI 5 (vI le))) :: (zn 4, zc G 2 (zI 5 (vI kn))) :: (w 3, zo 1 (stF zr co (nI q1) (nI q2) (q3))) :: (zr 0, zc G 1 (zI 9 (vI p1))) :: (zr 1, zc G 1 (zI 9 (vI p2))) :: (zr 2, zc G 1 (zI 5 (vI p3))) :: (zr 3, zc G 1 (zI 5 (vI p4))) :: (zr 4, zc G 2 (zI 5 (vI p5))) :: (w 0, zc G 4 (zO 5 sf)) :: (sqW sq (aV A) ++ rest)) s H locs → lv_has ls 7 [(0, .ref co), (1, .int (nI k)), (2, .int (nI j)), (3, .int (optI wh)), (4, .int (nI (fewI fe))), (5, .int (nI t))] → W p l e (zR 7 0 0) s m args below meth c H locs 0 0 Q (F0 m 34 ls []) := by
        intro fuel
        induction fuel with
        | zero => intro t wh fe q1 q2 q3 p1 p2 p3 p4 p5 ht hbd1 hwo hso hfuel; exact absurd hfuel (Nat.not_lt_zero _)
        | succ fuel_34 ih_34 =>
          intro t wh fe q1 q2 q3 p1 p2 p3 p4 p5 ht hbd1 hwo hso hfuel_34 H locs ls hw hl
          refine lv_iload hx hb dX0_worst_34 (lv_at hl 5 rfl) ?_
          refine lv_aload_n hx hb dX0_worst_36 rfl (lv_at hl 0 rfl) ?_
          refine z_get (v := .ref (w 2)) hC zf_X0_27_0 hw 0 rfl rfl dX0_worst_37 ?_
          refine z_get (v := .int (nI ps)) hC zf_X0_76_1 hw 1 rfl rfl dX0_worst_40 ?_
          refine zi_ge (tgt := 109) hx hb (by omega) (by omega) dX0_worst_43 (by decide) (fun c_43 => ?_) (fun c_43 => ?_)
          · skip
            refine lv_iload_n hx hb dX0_worst_109 rfl (lv_at hl 3 rfl) ?_
            refine lv_iconst (v := -1) hx hb dX0_worst_110 zk_m1 ?_
            refine lv_icmp_eq (tgt := 118) hx hb dX0_worst_111 (by decide) (fun c_111 => ?_) (fun c_111 => ?_)
            · skip
              refine lv_iload_n hx hb dX0_worst_118 rfl (lv_at hl 3 rfl) ?_
              refine lv_goto (tgt := 124) hx hb dX0_worst_119 (by decide) ?_
              exact hend _ _ _ _ _ _ _ (q1, q2, q3, p1, p2, p3, p4, p5) hw ⟨by unfold F_worst; rw [ifP_t ⟨⟨k, hk1, hk2, rfl⟩, ⟨j, hj1, hj2, rfl⟩⟩, cl_nI (by omega), cl_nI (by omega), show aV A 0 = t by omega, hwo]; first | (rw [if_pos (by omega)]; done) | (rcases hso with ⟨rfl, rfl⟩ | ⟨w9, f9, rfl, rfl, hw9, hf9⟩; (split <;> rfl); exact absurd c_111.symm (fun q => nI_nm1 (by omega) q.symm)), hbd1⟩ (Nat.le_of_ble_eq_true rfl) (Nat.le_of_ble_eq_true rfl) dX0_worst_124
            · skip
              refine lv_iload_n hx hb dX0_worst_114 rfl (lv_at hl 2 rfl) ?_
              refine zj_ne (tgt := 122) hx hb (by omega) dX0_worst_115 (by decide) (fun c_115 => ?_) (fun c_115 => ?_)
              · skip
                refine lv_iload hx hb dX0_worst_122 (lv_at hl 4 rfl) ?_
                exact hend _ _ _ _ _ _ _ (q1, q2, q3, p1, p2, p3, p4, p5) hw ⟨by unfold F_worst; rw [ifP_t ⟨⟨k, hk1, hk2, rfl⟩, ⟨j, hj1, hj2, rfl⟩⟩, cl_nI (by omega), cl_nI (by omega), show aV A 0 = t by omega, hwo]; rw [if_neg (by omega)]; rcases hso with ⟨rfl, rfl⟩ | ⟨w9, f9, rfl, rfl, hw9, hf9⟩; exact absurd rfl c_111; rfl, hbd1⟩ (Nat.le_of_ble_eq_true rfl) (Nat.le_of_ble_eq_true rfl) dX0_worst_124
              · skip
                refine lv_iload_n hx hb dX0_worst_118 rfl (lv_at hl 3 rfl) ?_
                refine lv_goto (tgt := 124) hx hb dX0_worst_119 (by decide) ?_
                exact hend _ _ _ _ _ _ _ (q1, q2, q3, p1, p2, p3, p4, p5) hw ⟨by unfold F_worst; rw [ifP_t ⟨⟨k, hk1, hk2, rfl⟩, ⟨j, hj1, hj2, rfl⟩⟩, cl_nI (by omega), cl_nI (by omega), show aV A 0 = t by omega, hwo]; first | (rw [if_pos (by omega)]; done) | (rcases hso with ⟨rfl, rfl⟩ | ⟨w9, f9, rfl, rfl, hw9, hf9⟩; (split <;> rfl); exact absurd c_111.symm (fun q => nI_nm1 (by omega) q.symm)), hbd1⟩ (Nat.le_of_ble_eq_true rfl) (Nat.le_of_ble_eq_true rfl) dX0_worst_124
          · skip
            have hta : t < aV A 0 := by omega
            have ht9 : t < 9 := by omega
            have hgU : Hg (updN (aV A) (3 + 2 * t + 1) 0) := Hg_nuts hgv ht9 (Nat.zero_le _)
            have hRU := sRel_nu (t := t) (x := 0) hH.1 (sRel_cp hH hR hbd1) hta (by decide)
            have hU0 : (updN (aV A) (3 + 2 * t + 1) 0) 0 = aV A 0 := updN_ne _ _ (by omega)
            have hU1 : (updN (aV A) (3 + 2 * t + 1) 0) 1 = aV A 1 := updN_ne _ _ (by omega)
            have hU2 : (updN (aV A) (3 + 2 * t + 1) 0) 2 = aV A 2 := updN_ne _ _ (by omega)
            have hUs : sqW sq (aV A) = sqW sq (updN (aV A) (3 + 2 * t + 1) 0) := sqW_eq hU1.symm (fun i hi => ⟨(updN_ne _ _ (by omega)).symm, (updN_ne _ _ (by omega)).symm⟩)
            refine lv_aload_n hx hb dX0_worst_46 rfl (lv_at hl 0 rfl) ?_
            refine z_get (v := .ref (w 3)) hC zf_X0_109_0 hw 0 rfl rfl dX0_worst_47 ?_
            refine lv_aload_n hx hb dX0_worst_50 rfl (lv_at hl 0 rfl) ?_
            refine z_get (v := .ref (w 2)) hC zf_X0_27_0 hw 0 rfl rfl dX0_worst_51 ?_
            refine z_cq (z_runV (As := [.ref (w 2)]) (rest := []) hC zv_X0_34 (m_X1_set G l (w 3) (w 2) co zr zn q1 q2 ps dy q3 gg p1 p2 p3 p4 p5 pl nu ax le kn hpl hnu hax hle hkn (zrem [7, 8, 9, 10, 11, 12, 1, 2, 3, 4, 5, 6] _)) hw (hw.perm (z_cut (is := [7, 8, 9, 10, 11, 12, 1, 2, 3, 4, 5, 6]) (cells := [(w 3, zo 1 (stF zr co (nI q1) (nI q2) (q3))), (zr 0, zc G 1 (zI 9 (vI p1))), (zr 1, zc G 1 (zI 9 (vI p2))), (zr 2, zc G 1 (zI 5 (vI p3))), (zr 3, zc G 1 (zI 5 (vI p4))), (zr 4, zc G 2 (zI 5 (vI p5))), (w 2, zo 1 (stF zn co (nI ps) (nI dy) (gg))), (zn 0, zc G 1 (zI 9 (vI pl))), (zn 1, zc G 1 (zI 9 (vI nu))), (zn 2, zc G 1 (zI 5 (vI ax))), (zn 3, zc G 1 (zI 5 (vI le))), (zn 4, zc G 2 (zI 5 (vI kn)))]) rfl rfl)) 7 rfl rfl rfl rfl rfl (Nat.le_of_ble_eq_true rfl) hl.1 ⟨Nat.le_of_ble_eq_true rfl, Nat.le_of_ble_eq_true rfl⟩ ⟨(Nat.le_of_ble_eq_true rfl), (Nat.le_of_ble_eq_true rfl)⟩ dX0_worst_54) hw (fun _ => z_pput (is := [7, 8, 9, 10, 11, 12, 1, 2, 3, 4, 5, 6]) (cells := [(w 3, zo 1 (stF zr co (nI q1) (nI q2) (q3))), (zr 0, zc G 1 (zI 9 (vI p1))), (zr 1, zc G 1 (zI 9 (vI p2))), (zr 2, zc G 1 (zI 5 (vI p3))), (zr 3, zc G 1 (zI 5 (vI p4))), (zr 4, zc G 2 (zI 5 (vI p5))), (w 2, zo 1 (stF zn co (nI ps) (nI dy) (gg))), (zn 0, zc G 1 (zI 9 (vI pl))), (zn 1, zc G 1 (zI 9 (vI nu))), (zn 2, zc G 1 (zI 5 (vI ax))), (zn 3, zc G 1 (zI 5 (vI le))), (zn 4, zc G 2 (zI 5 (vI kn)))]) (cells' := [(w 3, zo 1 (stF zr co (nI ps) (nI dy) (q3))), (zr 0, zc G 1 (zI 9 (vI (cpN pl p1 9)))), (zr 1, zc G 1 (zI 9 (vI (cpN nu p2 9)))), (zr 2, zc G 1 (zI 5 (vI (cpN ax p3 5)))), (zr 3, zc G 1 (zI 5 (vI (cpN le p4 5)))), (zr 4, zc G 2 (zI 5 (vI (cpN kn p5 5)))), (w 2, zo 1 (stF zn co (nI ps) (nI dy) (gg))), (zn 0, zc G 1 (zI 9 (vI pl))), (zn 1, zc G 1 (zI 9 (vI nu))), (zn 2, zc G 1 (zI 5 (vI ax))), (zn 3, zc G 1 (zI 5 (vI le))), (zn 4, zc G 2 (zI 5 (vI kn)))]) rfl rfl rfl) (fun r u H locs hp hw => ?_)
            have hw : zS G ((co, zo 0 (cF w (nI mn) bm sm lt)) :: (w 2, zo 1 (stF zn co (nI ps) (nI dy) (gg))) :: (zn 0, zc G 1 (zI 9 (vI pl))) :: (zn 1, zc G 1 (zI 9 (vI nu))) :: (zn 2, zc G 1 (zI 5 (vI ax))) :: (zn 3, zc G 1 (zI 5 (vI le))) :: (zn 4, zc G 2 (zI 5 (vI kn))) :: (w 3, zo 1 (stF zr co (nI ps) (nI dy) (q3))) :: (zr 0, zc G 1 (zI 9 (vI (cpN pl p1 9)))) :: (zr 1, zc G 1 (zI 9 (vI (cpN nu p2 9)))) :: (zr 2, zc G 1 (zI 5 (vI (cpN ax p3 5)))) :: (zr 3, zc G 1 (zI 5 (vI (cpN le p4 5)))) :: (zr 4, zc G 2 (zI 5 (vI (cpN kn p5 5)))) :: (w 0, zc G 4 (zO 5 sf)) :: (sqW sq (aV A) ++ rest)) s H locs := hw
            obtain rfl : r = some (w 3) := hp
            refine z_get (v := .ref (zr 1)) hC zf_X0_90_1 hw 7 rfl rfl dX0_worst_57 ?_
            refine lv_iload hx hb dX0_worst_60 (lv_at hl 5 rfl) ?_
            refine lv_iconst (v := (nI 0)) hx hb dX0_worst_62 zk_0 ?_
            refine z_bast (f' := vI (updN (cpN nu p2 9) t 0)) hC hw 9 rfl (by omega) (by decide) ((congrArg _ (znbyte (by decide))).trans (vI_upd _ _ _)) dX0_worst_63 (fun H locs hw => ?_)
            have hw : zS G ((co, zo 0 (cF w (nI mn) bm sm lt)) :: (w 2, zo 1 (stF zn co (nI ps) (nI dy) (gg))) :: (zn 0, zc G 1 (zI 9 (vI pl))) :: (zn 1, zc G 1 (zI 9 (vI nu))) :: (zn 2, zc G 1 (zI 5 (vI ax))) :: (zn 3, zc G 1 (zI 5 (vI le))) :: (zn 4, zc G 2 (zI 5 (vI kn))) :: (w 3, zo 1 (stF zr co (nI ps) (nI dy) (q3))) :: (zr 0, zc G 1 (zI 9 (vI (cpN pl p1 9)))) :: (zr 1, zc G 1 (zI 9 (vI (updN (cpN nu p2 9) t 0)))) :: (zr 2, zc G 1 (zI 5 (vI (cpN ax p3 5)))) :: (zr 3, zc G 1 (zI 5 (vI (cpN le p4 5)))) :: (zr 4, zc G 2 (zI 5 (vI (cpN kn p5 5)))) :: (w 0, zc G 4 (zO 5 sf)) :: (sqW sq (aV A) ++ rest)) s H locs := hw
            refine lv_aload_n hx hb dX0_worst_64 rfl (lv_at hl 0 rfl) ?_
            refine z_get (v := .ref (w 3)) hC zf_X0_109_0 hw 0 rfl rfl dX0_worst_65 ?_
            refine lv_iload_n hx hb dX0_worst_68 rfl (lv_at hl 1 rfl) ?_
            refine z_cq (z_runV (As := [.int (nI k)]) (rest := []) hC zv_X0_207 (m_X1_pass G l kA (by first | assumption | (omega)) (w 3) co zr w bm sm lt ps dy mn q3 (updN (aV A) (3 + 2 * t + 1) 0) (cpN pl p1 9) (updN (cpN nu p2 9) t 0) (cpN ax p3 5) (cpN le p4 5) (cpN kn p5 5) sf sq (hps.trans hU0.symm) (hmn.trans hU1.symm) (hdy.trans hU2.symm) k (by rw [hU2]; omega) hgU hRU (fun i hi => hsf i (by rw [← hU1]; exact hi)) (aV A) hUs (zrem [7, 8, 9, 10, 11, 12, 0, 13] [(co, zo 0 (cF w (nI mn) bm sm lt)), (w 2, zo 1 (stF zn co (nI ps) (nI dy) (gg))), (zn 0, zc G 1 (zI 9 (vI pl))), (zn 1, zc G 1 (zI 9 (vI nu))), (zn 2, zc G 1 (zI 5 (vI ax))), (zn 3, zc G 1 (zI 5 (vI le))), (zn 4, zc G 2 (zI 5 (vI kn))), (w 3, zo 1 (stF zr co (nI ps) (nI dy) (q3))), (zr 0, zc G 1 (zI 9 (vI (cpN pl p1 9)))), (zr 1, zc G 1 (zI 9 (vI (updN (cpN nu p2 9) t 0)))), (zr 2, zc G 1 (zI 5 (vI (cpN ax p3 5)))), (zr 3, zc G 1 (zI 5 (vI (cpN le p4 5)))), (zr 4, zc G 2 (zI 5 (vI (cpN kn p5 5)))), (w 0, zc G 4 (zO 5 sf))] ++ rest)) hw (hw.perm (z_cutP (z_cut (is := [7, 8, 9, 10, 11, 12, 0, 13]) (ws := [(co, zo 0 (cF w (nI mn) bm sm lt)), (w 2, zo 1 (stF zn co (nI ps) (nI dy) (gg))), (zn 0, zc G 1 (zI 9 (vI pl))), (zn 1, zc G 1 (zI 9 (vI nu))), (zn 2, zc G 1 (zI 5 (vI ax))), (zn 3, zc G 1 (zI 5 (vI le))), (zn 4, zc G 2 (zI 5 (vI kn))), (w 3, zo 1 (stF zr co (nI ps) (nI dy) (q3))), (zr 0, zc G 1 (zI 9 (vI (cpN pl p1 9)))), (zr 1, zc G 1 (zI 9 (vI (updN (cpN nu p2 9) t 0)))), (zr 2, zc G 1 (zI 5 (vI (cpN ax p3 5)))), (zr 3, zc G 1 (zI 5 (vI (cpN le p4 5)))), (zr 4, zc G 2 (zI 5 (vI (cpN kn p5 5)))), (w 0, zc G 4 (zO 5 sf))]) (cells := [(w 3, zo 1 (stF zr co (nI ps) (nI dy) (q3))), (zr 0, zc G 1 (zI 9 (vI (cpN pl p1 9)))), (zr 1, zc G 1 (zI 9 (vI (updN (cpN nu p2 9) t 0)))), (zr 2, zc G 1 (zI 5 (vI (cpN ax p3 5)))), (zr 3, zc G 1 (zI 5 (vI (cpN le p4 5)))), (zr 4, zc G 2 (zI 5 (vI (cpN kn p5 5)))), (co, zo 0 (cF w (nI mn) bm sm lt)), (w 0, zc G 4 (zO 5 sf))]) rfl rfl))) 7 rfl rfl rfl rfl rfl (Nat.le_of_ble_eq_true rfl) hl.1 ⟨Nat.le_of_ble_eq_true rfl, Nat.le_of_ble_eq_true rfl⟩ ⟨(Nat.le_of_ble_eq_true rfl), (Nat.le_of_ble_eq_true rfl)⟩ dX0_worst_69) hw (fun u => z_putP (z_pput (is := [7, 8, 9, 10, 11, 12, 0, 13]) (ws := [(co, zo 0 (cF w (nI mn) bm sm lt)), (w 2, zo 1 (stF zn co (nI ps) (nI dy) (gg))), (zn 0, zc G 1 (zI 9 (vI pl))), (zn 1, zc G 1 (zI 9 (vI nu))), (zn 2, zc G 1 (zI 5 (vI ax))), (zn 3, zc G 1 (zI 5 (vI le))), (zn 4, zc G 2 (zI 5 (vI kn))), (w 3, zo 1 (stF zr co (nI ps) (nI dy) (q3))), (zr 0, zc G 1 (zI 9 (vI (cpN pl p1 9)))), (zr 1, zc G 1 (zI 9 (vI (updN (cpN nu p2 9) t 0)))), (zr 2, zc G 1 (zI 5 (vI (cpN ax p3 5)))), (zr 3, zc G 1 (zI 5 (vI (cpN le p4 5)))), (zr 4, zc G 2 (zI 5 (vI (cpN kn p5 5)))), (w 0, zc G 4 (zO 5 sf))]) (cells := [(w 3, zo 1 (stF zr co (nI ps) (nI dy) (q3))), (zr 0, zc G 1 (zI 9 (vI (cpN pl p1 9)))), (zr 1, zc G 1 (zI 9 (vI (updN (cpN nu p2 9) t 0)))), (zr 2, zc G 1 (zI 5 (vI (cpN ax p3 5)))), (zr 3, zc G 1 (zI 5 (vI (cpN le p4 5)))), (zr 4, zc G 2 (zI 5 (vI (cpN kn p5 5)))), (co, zo 0 (cF w (nI mn) bm sm lt)), (w 0, zc G 4 (zO 5 sf))]) (cells' := [(w 3, zo 1 (stF zr co (nI ps) (nI (dy + k)) (u.2.2.2.2))), (zr 0, zc G 1 (zI 9 (vI (cpN pl p1 9)))), (zr 1, zc G 1 (zI 9 (vI u.1))), (zr 2, zc G 1 (zI 5 (vI u.2.1))), (zr 3, zc G 1 (zI 5 (vI u.2.2.1))), (zr 4, zc G 2 (zI 5 (vI u.2.2.2.1))), (co, zo 0 (cF w (nI mn) bm sm lt)), (w 0, zc G 4 (zO 5 sf))]) rfl rfl rfl)) (fun r u H locs hp hw => ?_)
            obtain ⟨nu6, ax6, le6, kn6, gg6⟩ := u
            have hw : zS G ((co, zo 0 (cF w (nI mn) bm sm lt)) :: (w 2, zo 1 (stF zn co (nI ps) (nI dy) (gg))) :: (zn 0, zc G 1 (zI 9 (vI pl))) :: (zn 1, zc G 1 (zI 9 (vI nu))) :: (zn 2, zc G 1 (zI 5 (vI ax))) :: (zn 3, zc G 1 (zI 5 (vI le))) :: (zn 4, zc G 2 (zI 5 (vI kn))) :: (w 3, zo 1 (stF zr co (nI ps) (nI (dy + k)) (gg6))) :: (zr 0, zc G 1 (zI 9 (vI (cpN pl p1 9)))) :: (zr 1, zc G 1 (zI 9 (vI nu6))) :: (zr 2, zc G 1 (zI 5 (vI ax6))) :: (zr 3, zc G 1 (zI 5 (vI le6))) :: (zr 4, zc G 2 (zI 5 (vI kn6))) :: (w 0, zc G 4 (zO 5 sf)) :: (sqW sq (aV A) ++ rest)) s H locs := hw
            obtain ⟨rfl, hdR⟩ := hp
            have hdi := daysN_inv hgU.1 k (by rw [hU2]; omega)
            have hd1 : daysN k (updN (aV A) (3 + 2 * t + 1) 0) 1 = aV A 1 := (hdi.2.2 1 still_1).trans hU1
            have hal := alive_c (daysN_Hg hgU k (by rw [hU2]; omega)).1 hdR (hmn.trans hd1.symm)
            have hlv : onesN (orB (fun i => decide (¬ le6 i = 3)) mn) 9 = (liveN (updN (aV A) (3 + 2 * t + 1) 0) k) := by unfold liveN; rw [hal]
            have hL9 : (liveN (updN (aV A) (3 + 2 * t + 1) 0) k) ≤ 9 := liveN_le _ _
            have hws := wo_min hL9 hwo hso ht9
            have hf99 : fewI fe < 1000000 := by rcases hso with ⟨rfl, rfl⟩ | ⟨w9, f9, rfl, rfl, hw9, hf9⟩; decide; show f9 < _; omega
            refine z_ci (z_runV (As := []) (rest := []) hC zv_X0_225 (m_X1_alive G l kA (by first | assumption | (omega)) (w 3) co zr w bm sm lt ps (dy + k) gg6 mn le6 hm5 (fun j => (hdR.2.2.2 j).2.2.2.1) (zrem [7, 11, 0] _)) hw (hw.perm (z_cut (is := [7, 11, 0]) (cells := [(w 3, zo 1 (stF zr co (nI ps) (nI (dy + k)) gg6)), (zr 3, zc G 1 (zI 5 (vI le6))), (co, zo 0 (cF w (nI mn) bm sm lt))]) rfl rfl)) 7 rfl rfl rfl rfl rfl (Nat.le_of_ble_eq_true rfl) hl.1 ⟨Nat.le_of_ble_eq_true rfl, Nat.le_of_ble_eq_true rfl⟩ ⟨(Nat.le_of_ble_eq_true rfl), (Nat.le_of_ble_eq_true rfl)⟩ dX0_worst_72) hw (fun _ => z_keep (is := [7, 11, 0]) (cs := [(w 3, zo 1 (stF zr co (nI ps) (nI (dy + k)) gg6)), (zr 3, zc G 1 (zI 5 (vI le6))), (co, zo 0 (cF w (nI mn) bm sm lt))]) rfl rfl) (fun r u H locs hp hw => ?_)
            obtain rfl : r = nI (orB (fun i => decide (¬ le6 i = 3)) mn) := hp
            refine z_ci (z_runS (As := [.int (nI (orB (fun i => decide (¬ le6 i = 3)) mn))]) (rest := []) hC zs_X0_228 (m_J18_bitCount G l (nI (orB (fun i => decide (¬ le6 i = 3)) mn)) (orB (fun i => decide (¬ le6 i = 3)) mn) (orB_512 (by omega)) rfl _) hw rfl rfl (Nat.le_of_ble_eq_true rfl) hl.1 ⟨Nat.le_of_ble_eq_true rfl, Nat.le_of_ble_eq_true rfl⟩ ⟨(Nat.le_of_ble_eq_true rfl), (Nat.le_of_ble_eq_true rfl)⟩ dX0_worst_75) hw (fun _ => List.Perm.refl _) (fun r u H locs hp hw => ?_)
            obtain rfl : r = nI (onesN (orB (fun i => decide (¬ le6 i = 3)) mn) 9) := hp
            rw [show nI (onesN (orB (fun i => decide (¬ le6 i = 3)) mn) 9) = nI (liveN (updN (aV A) (3 + 2 * t + 1) 0) k) from by rw [hlv]]
            refine lv_istore (lv' := [(6, .int (nI (liveN (updN (aV A) (3 + 2 * t + 1) 0) k))), (0, .ref co), (1, .int (nI k)), (2, .int (nI j)), (3, .int (optI wh)), (4, .int (nI (fewI fe))), (5, .int (nI t))]) hx hb dX0_worst_78 hl (by decide) rfl (fun ls hl => ?_)
            have join_93 : ∀ (w2 : Option Nat), (w2 = (if (liveN (updN (aV A) (3 + 2 * t + 1) 0) k) < fewI fe then some t else wh)) → ∀ (H : Heap) (locs : List Loc) (ls : Array Slot), zS G ((co, zo 0 (cF w (nI mn) bm sm lt)) :: (w 2, zo 1 (stF zn co (nI ps) (nI dy) (gg))) :: (zn 0, zc G 1 (zI 9 (vI pl))) :: (zn 1, zc G 1 (zI 9 (vI nu))) :: (zn 2, zc G 1 (zI 5 (vI ax))) :: (zn 3, zc G 1 (zI 5 (vI le))) :: (zn 4, zc G 2 (zI 5 (vI kn))) :: (w 3, zo 1 (stF zr co (nI ps) (nI (dy + k)) gg6)) :: (zr 0, zc G 1 (zI 9 (vI (cpN pl p1 9)))) :: (zr 1, zc G 1 (zI 9 (vI nu6))) :: (zr 2, zc G 1 (zI 5 (vI ax6))) :: (zr 3, zc G 1 (zI 5 (vI le6))) :: (zr 4, zc G 2 (zI 5 (vI kn6))) :: (w 0, zc G 4 (zO 5 sf)) :: (sqW sq (aV A) ++ rest)) s H locs → lv_has ls 7 [(0, .ref co), (1, .int (nI k)), (2, .int (nI j)), (3, .int (optI wh)), (4, .int (nI (fewI fe))), (5, .int (nI t)), (6, .int (nI (liveN (updN (aV A) (3 + 2 * t + 1) 0) k)))] → W p l e (zR 7 0 0) s m args below meth c H locs 0 0 Q (F0 m 93 ls [.int (optI w2)]) := by
              intro w2 hw2 H locs ls hw hl
              subst hw2
              refine lv_istore_n (lv' := [(3, .int (optI (if (liveN (updN (aV A) (3 + 2 * t + 1) 0) k) < fewI fe then some t else wh))), (0, .ref co), (1, .int (nI k)), (2, .int (nI j)), (4, .int (nI (fewI fe))), (5, .int (nI t)), (6, .int (nI (liveN (updN (aV A) (3 + 2 * t + 1) 0) k)))]) hx hb dX0_worst_93 rfl hl (by decide) rfl (fun ls hl => ?_)
              refine lv_iload hx hb dX0_worst_94 (lv_at hl 4 rfl) ?_
              refine lv_iload hx hb dX0_worst_96 (lv_at hl 6 rfl) ?_
              refine z_mmin (v := nI (min (fewI fe) (liveN (updN (aV A) (3 + 2 * t + 1) 0) k))) hC hl.1 q1064 zm_min (zm_min_d (by omega) (by omega)) (Nat.le_of_ble_eq_true rfl) ⟨Nat.le_of_ble_eq_true rfl, Nat.le_of_ble_eq_true rfl⟩ (Nat.le_of_ble_eq_true rfl) (Nat.le_of_ble_eq_true rfl) dX0_worst_98 ?_
              refine lv_istore (lv' := [(4, .int (nI (min (fewI fe) (liveN (updN (aV A) (3 + 2 * t + 1) 0) k)))), (3, .int (optI (if (liveN (updN (aV A) (3 + 2 * t + 1) 0) k) < fewI fe then some t else wh))), (0, .ref co), (1, .int (nI k)), (2, .int (nI j)), (5, .int (nI t)), (6, .int (nI (liveN (updN (aV A) (3 + 2 * t + 1) 0) k)))]) hx hb dX0_worst_101 hl (by decide) rfl (fun ls hl => ?_)
              refine lv_iinc (v := (nI (t + 1))) (lv' := [(5, .int (nI (t + 1))), (4, .int (nI (min (fewI fe) (liveN (updN (aV A) (3 + 2 * t + 1) 0) k)))), (3, .int (optI (if (liveN (updN (aV A) (3 + 2 * t + 1) 0) k) < fewI fe then some t else wh))), (0, .ref co), (1, .int (nI k)), (2, .int (nI j)), (6, .int (nI (liveN (updN (aV A) (3 + 2 * t + 1) 0) k)))]) hx hb dX0_worst_103 hl (k := 5) rfl (zincn _ 1) (by decide) rfl (fun ls hl => ?_)
              refine lv_goto (tgt := 34) hx hb dX0_worst_106 (by decide) ?_
              exact ih_34 (t + 1) (if (liveN (updN (aV A) (3 + 2 * t + 1) 0) k) < fewI fe then some t else wh) (some (min (fewI fe) (liveN (updN (aV A) (3 + 2 * t + 1) 0) k))) ps (dy + k) gg6 (cpN pl p1 9) nu6 ax6 le6 kn6 (by omega) hdR.2.2.2 hws.1 (by obtain ⟨w9, e9, h9⟩ := hws.2; exact Or.inr ⟨w9, _, e9, rfl, h9, by omega⟩) (by omega) H locs ls hw (lv_sub hl [3, 4, 5, 2, 1, 0] rfl)
            refine lv_iload hx hb dX0_worst_80 (lv_at hl 0 rfl) ?_
            refine lv_iload hx hb dX0_worst_82 (lv_at hl 5 rfl) ?_
            refine zi_ge (tgt := 92) hx hb (by omega) (by omega) dX0_worst_84 (by decide) (fun c_84 => ?_) (fun c_84 => ?_)
            · skip
              refine lv_iload_n hx hb dX0_worst_92 rfl (lv_at hl 4 rfl) ?_
              exact join_93 wh (by first | exact (if_pos (by omega)).symm | exact (if_neg (by omega)).symm) H locs ls hw (lv_sub hl [1, 2, 3, 4, 5, 6, 0] rfl)
            · skip
              refine lv_iload hx hb dX0_worst_87 (lv_at hl 6 rfl) ?_
              refine lv_goto (tgt := 93) hx hb dX0_worst_89 (by decide) ?_
              exact join_93 (some t) (by first | exact (if_pos (by omega)).symm | exact (if_neg (by omega)).symm) H locs ls hw (lv_sub hl [1, 2, 3, 4, 5, 6, 0] rfl)
      exact loop_34 ((ps - 0) + 1) 0 none none rps rdy rg rpl rnu rax rle rkn (by omega) hbd rfl (Or.inl ⟨rfl, rfl⟩) (Nat.lt_succ_self _) H locs ls hw (lv_sub hl [3, 4, 5, 2, 1, 0] rfl)
    · skip
      refine lv_bipush (v := (-3)) hx hb dX0_worst_22 zb_m3 ?_
      exact hend _ _ _ _ _ _ _ (rps, rdy, rg, rpl, rnu, rax, rle, rkn) hw ⟨by first | exact (ifP_f (fun h => c_9 h.1)).symm | exact (ifP_f (fun h => c_19 h.2)).symm, hbd⟩ (Nat.le_of_ble_eq_true rfl) (Nat.le_of_ble_eq_true rfl) dX0_worst_24
