/-! COMPONENT: a squirrel; what was seen -/
set_option maxRecDepth 100000
theorem sq6 (y : Int32) : y = nI 0 ∨ y = nI 1 ∨ y = nI 2 ∨ y = nI 3 ∨ y = nI 4 ∨ y = nI 5 ∨ ¬ inR y 0 5 := by
  rcases Classical.em (inR y 0 5) with ⟨k, -, h, rfl⟩ | h
  · rcases (show k = 0 ∨ k = 1 ∨ k = 2 ∨ k = 3 ∨ k = 4 ∨ k = 5 by omega) with rfl | rfl | rfl | rfl | rfl | rfl <;> simp
  · exact Or.inr (Or.inr (Or.inr (Or.inr (Or.inr (Or.inr h)))))
theorem out_inR {y : Int32} {a b : Nat} (ha : a < 2147483648) (hb : b < 2147483648) (h : ¬ inR y a b) : y.toInt < (a : Int) ∨ (b : Int) < y.toInt := by
  have h1 : ¬ (nI a ≤ y ∧ y ≤ nI b) := fun q => h ((inR_iff ha hb).mp q)
  rw [Int32.le_iff_toInt_le, Int32.le_iff_toInt_le, nI_toInt ha, nI_toInt hb] at h1
  omega
theorem zv_X0_173 : zVs RX0 173 yX0_squirrel_2 cX0_squirrel_2 2 (some (.object "NutCaches$Squirrel")) 1 := ⟨lw_V q832 q834 qs12 q49 q835, ⟨by decide +kernel, by decide +kernel⟩, by decide +kernel⟩
theorem zn_X7_kind : zNs yX7_kind cX7_kind 1 (some .int) 0 := ⟨q845, q79, ⟨by decide +kernel, by decide +kernel⟩, by decide +kernel⟩
theorem zn_X8_kind : zNs yX8_kind cX8_kind 1 (some .int) 0 := ⟨q851, q80, ⟨by decide +kernel, by decide +kernel⟩, by decide +kernel⟩
theorem zn_X10_kind : zNs yX10_kind cX10_kind 1 (some .int) 0 := ⟨q856, q82, ⟨by decide +kernel, by decide +kernel⟩, by decide +kernel⟩
theorem zfs_X0_181_1 : ∀ kd, kd < 5 → zFl (5 + kd) 1 RX0 181 true .int
  | 0, _ => ⟨RX6, TX6, 2, tyX6, rfl, by decide, in_X6, q767, rfl, by decide +kernel, tyX6_ok, nmX6⟩
  | 1, _ => ⟨RX7, TX7, 2, tyX7, rfl, by decide, in_X7, q767, rfl, by decide +kernel, tyX7_ok, nmX7⟩
  | 2, _ => ⟨RX8, TX8, 2, tyX8, rfl, by decide, in_X8, q767, rfl, by decide +kernel, tyX8_ok, nmX8⟩
  | 3, _ => ⟨RX9, TX9, 2, tyX9, rfl, by decide, in_X9, q767, rfl, by decide +kernel, tyX9_ok, nmX9⟩
  | 4, _ => ⟨RX10, TX10, 2, tyX10, rfl, by decide, in_X10, q767, rfl, by decide +kernel, tyX10_ok, nmX10⟩
set_option maxHeartbeats 4000000 in
theorem m_X0_squirrel (G : zE) (l : Launch) (kA : Nat → Nat) (hG : zG G kA) (co : Nat) (w : Nat → Nat) (zn : Nat → Nat) (A : AS) (ps : Nat) (mn : Nat) (dy : Nat) (bm : Int32) (sm : Int32) (lt : Int32) (gg : Int32) (pl : Nat → Nat) (nu : Nat → Nat) (ax : Nat → Nat) (le : Nat → Nat) (kn : Nat → Nat) (hA : AOk A) (hps : ps = aV A 0) (hmn : mn = aV A 1) (hdy : dy = aV A 2) (hR : sRel (aV A) pl nu ax le kn) (sf : Nat → Option Nat) (sq : Nat → Nat) (hsf : ∀ i, i < aV A 1 → sf i = some (sq i)) (x : Int32) (y : Int32) (rest : va_W) : zMi G l yX0_squirrel cX0_squirrel 3 (some .int) 4 0 0 [.ref co, .int x, .int y] ((co, zo 0 (cF w (nI mn) bm sm lt)) :: (w 2, zo 1 (stF zn co (nI ps) (nI dy) (gg))) :: (zn 0, zc G 1 (zI 9 (vI pl))) :: (zn 1, zc G 1 (zI 9 (vI nu))) :: (zn 2, zc G 1 (zI 5 (vI ax))) :: (zn 3, zc G 1 (zI 5 (vI le))) :: (zn 4, zc G 2 (zI 5 (vI kn))) :: (w 0, zc G 4 (zO 5 sf)) :: (sqW sq (aV A) ++ rest)) (fun (r : Int32) (_ : Unit) => r = F_squirrel A x y) (fun (_ : Unit) => (co, zo 0 (cF w (nI mn) bm sm lt)) :: (w 2, zo 1 (stF zn co (nI ps) (nI dy) (gg))) :: (zn 0, zc G 1 (zI 9 (vI pl))) :: (zn 1, zc G 1 (zI 9 (vI nu))) :: (zn 2, zc G 1 (zI 5 (vI ax))) :: (zn 3, zc G 1 (zI 5 (vI le))) :: (zn 4, zc G 2 (zI 5 (vI kn))) :: (w 0, zc G 4 (zO 5 sf)) :: (sqW sq (aV A) ++ rest)) := by
  refine z_begI (by decide) (Nat.le_of_ble_eq_true rfl) (fun p e s m args below meth c ls Q hC hl hw hend => ?_)
  have hx := hC.hx
  have hb := hC.hb
  have hl : lv_has ls 3 [(0, .ref co), (1, .int x), (2, .int y)] := hl
  have hw : zS G ((co, zo 0 (cF w (nI mn) bm sm lt)) :: (w 2, zo 1 (stF zn co (nI ps) (nI dy) (gg))) :: (zn 0, zc G 1 (zI 9 (vI pl))) :: (zn 1, zc G 1 (zI 9 (vI nu))) :: (zn 2, zc G 1 (zI 5 (vI ax))) :: (zn 3, zc G 1 (zI 5 (vI le))) :: (zn 4, zc G 2 (zI 5 (vI kn))) :: (w 0, zc G 4 (zO 5 sf)) :: (sqW sq (aV A) ++ rest)) s s.heap [] := hw
  have hz := hG s hC.hZ.1
  have hgv := hA.2.2.1.1
  have hH : Hw (aV A) := hgv.1
  have hpl := fun j => (hR.2.2.2 j).1
  have hnu := fun j => (hR.2.2.2 j).2.1
  have hax := fun j => (hR.2.2.2 j).2.2.1
  have hle := fun j => (hR.2.2.2 j).2.2.2.1
  have hkn := fun j => (hR.2.2.2 j).2.2.2.2
  have hp9 : ps ≤ 9 := by rw [hps]; exact hH.1
  have hm5 : mn ≤ 5 := by rw [hmn]; exact hH.2.1
  have hd999 : dy ≤ 999 := by rw [hdy]; exact hA.2.2.1.2.2
  refine lv_aload_n hx hb dX0_squirrel_0 rfl (lv_at hl 0 rfl) ?_
  refine lv_iload_n hx hb dX0_squirrel_1 rfl (lv_at hl 1 rfl) ?_
  refine z_ci (z_runV (As := [.int x]) (rest := []) hC zv_X0_170 (m_X0_isSquirrel G l co w mn bm sm lt x (by omega) (zrem [0] _)) hw (hw.perm (z_cut (is := [0]) (cells := [(co, zo 0 (cF w (nI mn) bm sm lt))]) rfl rfl)) 0 rfl rfl rfl rfl rfl (Nat.le_of_ble_eq_true rfl) hl.1 ⟨Nat.le_of_ble_eq_true rfl, Nat.le_of_ble_eq_true rfl⟩ ⟨(Nat.le_of_ble_eq_true rfl), (Nat.le_of_ble_eq_true rfl)⟩ dX0_squirrel_2) hw (fun _ => z_keep (is := [0]) (cs := [(co, zo 0 (cF w (nI mn) bm sm lt))]) rfl rfl) (fun r u H locs hp hw => ?_)
  obtain rfl : r = bI (isP mn x) := hp
  refine zb_ne (tgt := 11) hx hb dX0_squirrel_5 (by decide) (fun c_5 => ?_) (fun c_5 => ?_)
  · skip
    obtain ⟨i, hi, rfl⟩ := c_5
    have hl : lv_has ls 3 [(0, .ref co), (1, .int (nI i)), (2, .int y)] := hl
    have hia : i < aV A 1 := by omega
    have hi5 : i < 5 := by omega
    have hRi := hR.2.2.1 i hi5
    have hRa := hR.2.1 i hia
    obtain ⟨kd, hkd⟩ : ∃ x, x = (aV A) (21 + 5 * i) := ⟨_, rfl⟩
    obtain ⟨nd, hnd⟩ : ∃ x, x = (aV A) (21 + 5 * i + 2) := ⟨_, rfl⟩
    have hw : zS G ((sq i, zo (5 + kd) (sqF (nI i) (nI nd))) :: (co, zo 0 (cF w (nI mn) bm sm lt)) :: (w 2, zo 1 (stF zn co (nI ps) (nI dy) (gg))) :: (zn 0, zc G 1 (zI 9 (vI pl))) :: (zn 1, zc G 1 (zI 9 (vI nu))) :: (zn 2, zc G 1 (zI 5 (vI ax))) :: (zn 3, zc G 1 (zI 5 (vI le))) :: (zn 4, zc G 2 (zI 5 (vI kn))) :: (w 0, zc G 4 (zO 5 sf)) :: (sqX sq (aV A) i ++ rest)) s H locs := by rw [hkd, hnd]; exact hw.perm (sq_get (E := [(co, zo 0 (cF w (nI mn) bm sm lt)), (w 2, zo 1 (stF zn co (nI ps) (nI dy) (gg))), (zn 0, zc G 1 (zI 9 (vI pl))), (zn 1, zc G 1 (zI 9 (vI nu))), (zn 2, zc G 1 (zI 5 (vI ax))), (zn 3, zc G 1 (zI 5 (vI le))), (zn 4, zc G 2 (zI 5 (vI kn))), (w 0, zc G 4 (zO 5 sf))]) hia)
    have hkd5 : kd < 5 := by rw [hkd]; exact (hgv.2.2 i hia).1
    have hk4 : kd = 0 ∨ kd = 1 ∨ kd = 2 ∨ kd = 3 ∨ kd = 4 := by omega
    refine lv_iload_n hx hb dX0_squirrel_11 rfl (lv_at hl 2 rfl) ?_
    rcases sq6 y with rfl | rfl | rfl | rfl | rfl | rfl | hy
    · skip
      have hl : lv_has ls 3 [(0, .ref co), (1, .int (nI i)), (2, .int (nI 0))] := hl
      show W p l e (zR 4 0 0) s m args below meth c H locs 0 0 Q (F0 m 12 ls [.int (nI 0)])
      have hl : lv_has ls 3 [(0, .ref co), (1, .int (nI i)), (2, .int (nI 0))] := hl
      have hw : zS G ((sq i, zo (5 + kd) (sqF (nI i) (nI nd))) :: (co, zo 0 (cF w (nI mn) bm sm lt)) :: (w 2, zo 1 (stF zn co (nI ps) (nI dy) (gg))) :: (zn 0, zc G 1 (zI 9 (vI pl))) :: (zn 1, zc G 1 (zI 9 (vI nu))) :: (zn 2, zc G 1 (zI 5 (vI ax))) :: (zn 3, zc G 1 (zI 5 (vI le))) :: (zn 4, zc G 2 (zI 5 (vI kn))) :: (w 0, zc G 4 (zO 5 sf)) :: (sqX sq (aV A) i ++ rest)) s H locs := hw
      refine lv_tableIn (off := 40) (tgt := 52) hx hb dX0_squirrel_12 (by decide) (by decide) (by decide) (by decide) ?_
      refine lv_aload_n hx hb dX0_squirrel_52 rfl (lv_at hl 0 rfl) ?_
      refine lv_iload_n hx hb dX0_squirrel_53 rfl (lv_at hl 1 rfl) ?_
      refine z_cq (z_runV (As := [.int (nI i)]) (rest := []) hC zv_X0_173 (m_X0_squirrel_2 G l kA (by first | assumption | (omega)) co w bm sm lt mn sf (sq i) kd nd (nI i) i hi5 (by omega) (hsf i hia) (zrem [1, 8, 0] _)) hw (hw.perm (z_cut (is := [1, 8, 0]) (cells := [(co, zo 0 (cF w (nI mn) bm sm lt)), (w 0, zc G 4 (zO 5 sf)), (sq i, zo (5 + kd) (sqF (nI i) (nI nd)))]) rfl rfl)) 1 rfl rfl rfl rfl rfl (Nat.le_of_ble_eq_true rfl) hl.1 ⟨Nat.le_of_ble_eq_true rfl, Nat.le_of_ble_eq_true rfl⟩ ⟨(Nat.le_of_ble_eq_true rfl), (Nat.le_of_ble_eq_true rfl)⟩ dX0_squirrel_54) hw (fun _ => z_keep (is := [1, 8, 0]) (cs := [(co, zo 0 (cF w (nI mn) bm sm lt)), (w 0, zc G 4 (zO 5 sf)), (sq i, zo (5 + kd) (sqF (nI i) (nI nd)))]) rfl rfl) (fun r u H locs hp hw => ?_)
      obtain rfl : r = some (sq i) := hp
      rcases hk4 with rfl | rfl | rfl | rfl | rfl
      · skip
        have hl : lv_has ls 3 [(0, .ref co), (1, .int (nI i)), (2, .int (nI 0))] := hl
        have hw : zS G ((sq i, zo 5 (sqF (nI i) (nI nd))) :: (co, zo 0 (cF w (nI mn) bm sm lt)) :: (w 2, zo 1 (stF zn co (nI ps) (nI dy) (gg))) :: (zn 0, zc G 1 (zI 9 (vI pl))) :: (zn 1, zc G 1 (zI 9 (vI nu))) :: (zn 2, zc G 1 (zI 5 (vI ax))) :: (zn 3, zc G 1 (zI 5 (vI le))) :: (zn 4, zc G 2 (zI 5 (vI kn))) :: (w 0, zc G 4 (zO 5 sf)) :: (sqX sq (aV A) i ++ rest)) s H locs := hw
        refine z_ci (z_runB (x := (⟨"NutCaches$Squirrel", "kind", "()I"⟩ : MethodName)) (owner := "NutCaches$Squirrel") (C := "NutCaches$Plain") (n := 0) (As := []) (rest := []) hC ⟨zn_X6_kind, q847, q853, ⟨by decide +kernel, by decide +kernel⟩, by decide +kernel⟩ (hC.hts _ q837) (hC.hts _ q839) (va_Decl.abs (hz.1 _ (cw_t q838 rfl))) (m_X6_kind G l (sq i) _) hw hw 0 rfl rfl rfl rfl rfl (Nat.le_of_ble_eq_true rfl) hl.1 ⟨Nat.le_of_ble_eq_true rfl, Nat.le_of_ble_eq_true rfl⟩ ⟨(Nat.le_of_ble_eq_true rfl), (Nat.le_of_ble_eq_true rfl)⟩ dX0_squirrel_57) hw (fun _ => List.Perm.refl _) (fun r u H locs hp hw => ?_)
        obtain rfl : r = nI 0 := hp
        have hw : zS G ((co, zo 0 (cF w (nI mn) bm sm lt)) :: (w 2, zo 1 (stF zn co (nI ps) (nI dy) (gg))) :: (zn 0, zc G 1 (zI 9 (vI pl))) :: (zn 1, zc G 1 (zI 9 (vI nu))) :: (zn 2, zc G 1 (zI 5 (vI ax))) :: (zn 3, zc G 1 (zI 5 (vI le))) :: (zn 4, zc G 2 (zI 5 (vI kn))) :: (w 0, zc G 4 (zO 5 sf)) :: (sqW sq (aV A) ++ rest)) s H locs := hw.perm (by rw [← show sqC sq (aV A) i = (sq i, zo 5 (sqF (nI i) (nI nd))) from by unfold sqC; rw [← hkd, ← hnd]]; exact (sq_get (E := [(co, zo 0 (cF w (nI mn) bm sm lt)), (w 2, zo 1 (stF zn co (nI ps) (nI dy) (gg))), (zn 0, zc G 1 (zI 9 (vI pl))), (zn 1, zc G 1 (zI 9 (vI nu))), (zn 2, zc G 1 (zI 5 (vI ax))), (zn 3, zc G 1 (zI 5 (vI le))), (zn 4, zc G 2 (zI 5 (vI kn))), (w 0, zc G 4 (zO 5 sf))]) hia).symm)
        exact hend _ _ _ _ _ _ _ () hw (by unfold F_squirrel; rw [ifP_t ⟨i, hia, rfl⟩, ifP_t ⟨0, by decide, by decide, rfl⟩, cl_nI (show i < 2147483648 by omega), cl_nI (show (0 : Nat) < 2147483648 by decide)]; rw [if_neg (by decide)]; exact congrArg nI hkd) (Nat.le_of_ble_eq_true rfl) (Nat.le_of_ble_eq_true rfl) dX0_squirrel_60
      · skip
        have hl : lv_has ls 3 [(0, .ref co), (1, .int (nI i)), (2, .int (nI 0))] := hl
        have hw : zS G ((sq i, zo 6 (sqF (nI i) (nI nd))) :: (co, zo 0 (cF w (nI mn) bm sm lt)) :: (w 2, zo 1 (stF zn co (nI ps) (nI dy) (gg))) :: (zn 0, zc G 1 (zI 9 (vI pl))) :: (zn 1, zc G 1 (zI 9 (vI nu))) :: (zn 2, zc G 1 (zI 5 (vI ax))) :: (zn 3, zc G 1 (zI 5 (vI le))) :: (zn 4, zc G 2 (zI 5 (vI kn))) :: (w 0, zc G 4 (zO 5 sf)) :: (sqX sq (aV A) i ++ rest)) s H locs := hw
        refine z_ci (z_runB (x := (⟨"NutCaches$Squirrel", "kind", "()I"⟩ : MethodName)) (owner := "NutCaches$Squirrel") (C := "NutCaches$Greedy") (n := 0) (As := []) (rest := []) hC ⟨zn_X7_kind, q844, q843, ⟨by decide +kernel, by decide +kernel⟩, by decide +kernel⟩ (hC.hts _ q837) (hC.hts _ q839) (va_Decl.abs (hz.1 _ (cw_t q838 rfl))) (m_X7_kind G l kA (by first | assumption | (omega)) (sq i) (nI i) (nI nd) (zrem [0] _)) hw (hw.perm (z_cut (is := [0]) (cells := [(sq i, zo 6 (sqF (nI i) (nI nd)))]) rfl rfl)) 0 rfl rfl rfl rfl rfl (Nat.le_of_ble_eq_true rfl) hl.1 ⟨Nat.le_of_ble_eq_true rfl, Nat.le_of_ble_eq_true rfl⟩ ⟨(Nat.le_of_ble_eq_true rfl), (Nat.le_of_ble_eq_true rfl)⟩ dX0_squirrel_57) hw (fun _ => z_keep (is := [0]) (cs := [(sq i, zo 6 (sqF (nI i) (nI nd)))]) rfl rfl) (fun r u H locs hp hw => ?_)
        obtain rfl : r = nI 1 := hp
        have hw : zS G ((co, zo 0 (cF w (nI mn) bm sm lt)) :: (w 2, zo 1 (stF zn co (nI ps) (nI dy) (gg))) :: (zn 0, zc G 1 (zI 9 (vI pl))) :: (zn 1, zc G 1 (zI 9 (vI nu))) :: (zn 2, zc G 1 (zI 5 (vI ax))) :: (zn 3, zc G 1 (zI 5 (vI le))) :: (zn 4, zc G 2 (zI 5 (vI kn))) :: (w 0, zc G 4 (zO 5 sf)) :: (sqW sq (aV A) ++ rest)) s H locs := hw.perm (by rw [← show sqC sq (aV A) i = (sq i, zo 6 (sqF (nI i) (nI nd))) from by unfold sqC; rw [← hkd, ← hnd]]; exact (sq_get (E := [(co, zo 0 (cF w (nI mn) bm sm lt)), (w 2, zo 1 (stF zn co (nI ps) (nI dy) (gg))), (zn 0, zc G 1 (zI 9 (vI pl))), (zn 1, zc G 1 (zI 9 (vI nu))), (zn 2, zc G 1 (zI 5 (vI ax))), (zn 3, zc G 1 (zI 5 (vI le))), (zn 4, zc G 2 (zI 5 (vI kn))), (w 0, zc G 4 (zO 5 sf))]) hia).symm)
        exact hend _ _ _ _ _ _ _ () hw (by unfold F_squirrel; rw [ifP_t ⟨i, hia, rfl⟩, ifP_t ⟨0, by decide, by decide, rfl⟩, cl_nI (show i < 2147483648 by omega), cl_nI (show (0 : Nat) < 2147483648 by decide)]; rw [if_neg (by decide)]; exact congrArg nI hkd) (Nat.le_of_ble_eq_true rfl) (Nat.le_of_ble_eq_true rfl) dX0_squirrel_60
      · skip
        have hl : lv_has ls 3 [(0, .ref co), (1, .int (nI i)), (2, .int (nI 0))] := hl
        have hw : zS G ((sq i, zo 7 (sqF (nI i) (nI nd))) :: (co, zo 0 (cF w (nI mn) bm sm lt)) :: (w 2, zo 1 (stF zn co (nI ps) (nI dy) (gg))) :: (zn 0, zc G 1 (zI 9 (vI pl))) :: (zn 1, zc G 1 (zI 9 (vI nu))) :: (zn 2, zc G 1 (zI 5 (vI ax))) :: (zn 3, zc G 1 (zI 5 (vI le))) :: (zn 4, zc G 2 (zI 5 (vI kn))) :: (w 0, zc G 4 (zO 5 sf)) :: (sqX sq (aV A) i ++ rest)) s H locs := hw
        refine z_ci (z_runB (x := (⟨"NutCaches$Squirrel", "kind", "()I"⟩ : MethodName)) (owner := "NutCaches$Squirrel") (C := "NutCaches$Neat") (n := 0) (As := []) (rest := []) hC ⟨zn_X8_kind, q850, q849, ⟨by decide +kernel, by decide +kernel⟩, by decide +kernel⟩ (hC.hts _ q837) (hC.hts _ q839) (va_Decl.abs (hz.1 _ (cw_t q838 rfl))) (m_X8_kind G l kA (by first | assumption | (omega)) (sq i) (nI i) (nI nd) (zrem [0] _)) hw (hw.perm (z_cut (is := [0]) (cells := [(sq i, zo 7 (sqF (nI i) (nI nd)))]) rfl rfl)) 0 rfl rfl rfl rfl rfl (Nat.le_of_ble_eq_true rfl) hl.1 ⟨Nat.le_of_ble_eq_true rfl, Nat.le_of_ble_eq_true rfl⟩ ⟨(Nat.le_of_ble_eq_true rfl), (Nat.le_of_ble_eq_true rfl)⟩ dX0_squirrel_57) hw (fun _ => z_keep (is := [0]) (cs := [(sq i, zo 7 (sqF (nI i) (nI nd)))]) rfl rfl) (fun r u H locs hp hw => ?_)
        obtain rfl : r = nI 2 := hp
        have hw : zS G ((co, zo 0 (cF w (nI mn) bm sm lt)) :: (w 2, zo 1 (stF zn co (nI ps) (nI dy) (gg))) :: (zn 0, zc G 1 (zI 9 (vI pl))) :: (zn 1, zc G 1 (zI 9 (vI nu))) :: (zn 2, zc G 1 (zI 5 (vI ax))) :: (zn 3, zc G 1 (zI 5 (vI le))) :: (zn 4, zc G 2 (zI 5 (vI kn))) :: (w 0, zc G 4 (zO 5 sf)) :: (sqW sq (aV A) ++ rest)) s H locs := hw.perm (by rw [← show sqC sq (aV A) i = (sq i, zo 7 (sqF (nI i) (nI nd))) from by unfold sqC; rw [← hkd, ← hnd]]; exact (sq_get (E := [(co, zo 0 (cF w (nI mn) bm sm lt)), (w 2, zo 1 (stF zn co (nI ps) (nI dy) (gg))), (zn 0, zc G 1 (zI 9 (vI pl))), (zn 1, zc G 1 (zI 9 (vI nu))), (zn 2, zc G 1 (zI 5 (vI ax))), (zn 3, zc G 1 (zI 5 (vI le))), (zn 4, zc G 2 (zI 5 (vI kn))), (w 0, zc G 4 (zO 5 sf))]) hia).symm)
        exact hend _ _ _ _ _ _ _ () hw (by unfold F_squirrel; rw [ifP_t ⟨i, hia, rfl⟩, ifP_t ⟨0, by decide, by decide, rfl⟩, cl_nI (show i < 2147483648 by omega), cl_nI (show (0 : Nat) < 2147483648 by decide)]; rw [if_neg (by decide)]; exact congrArg nI hkd) (Nat.le_of_ble_eq_true rfl) (Nat.le_of_ble_eq_true rfl) dX0_squirrel_60
      · skip
        have hl : lv_has ls 3 [(0, .ref co), (1, .int (nI i)), (2, .int (nI 0))] := hl
        have hw : zS G ((sq i, zo 8 (sqF (nI i) (nI nd))) :: (co, zo 0 (cF w (nI mn) bm sm lt)) :: (w 2, zo 1 (stF zn co (nI ps) (nI dy) (gg))) :: (zn 0, zc G 1 (zI 9 (vI pl))) :: (zn 1, zc G 1 (zI 9 (vI nu))) :: (zn 2, zc G 1 (zI 5 (vI ax))) :: (zn 3, zc G 1 (zI 5 (vI le))) :: (zn 4, zc G 2 (zI 5 (vI kn))) :: (w 0, zc G 4 (zO 5 sf)) :: (sqX sq (aV A) i ++ rest)) s H locs := hw
        refine z_ci (z_runB (x := (⟨"NutCaches$Squirrel", "kind", "()I"⟩ : MethodName)) (owner := "NutCaches$Squirrel") (C := "NutCaches$Dozy") (n := 0) (As := []) (rest := []) hC ⟨zn_X9_kind, q841, q840, ⟨by decide +kernel, by decide +kernel⟩, by decide +kernel⟩ (hC.hts _ q837) (hC.hts _ q839) (va_Decl.abs (hz.1 _ (cw_t q838 rfl))) (m_X9_kind G l (sq i) _) hw hw 0 rfl rfl rfl rfl rfl (Nat.le_of_ble_eq_true rfl) hl.1 ⟨Nat.le_of_ble_eq_true rfl, Nat.le_of_ble_eq_true rfl⟩ ⟨(Nat.le_of_ble_eq_true rfl), (Nat.le_of_ble_eq_true rfl)⟩ dX0_squirrel_57) hw (fun _ => List.Perm.refl _) (fun r u H locs hp hw => ?_)
        obtain rfl : r = nI 3 := hp
        have hw : zS G ((co, zo 0 (cF w (nI mn) bm sm lt)) :: (w 2, zo 1 (stF zn co (nI ps) (nI dy) (gg))) :: (zn 0, zc G 1 (zI 9 (vI pl))) :: (zn 1, zc G 1 (zI 9 (vI nu))) :: (zn 2, zc G 1 (zI 5 (vI ax))) :: (zn 3, zc G 1 (zI 5 (vI le))) :: (zn 4, zc G 2 (zI 5 (vI kn))) :: (w 0, zc G 4 (zO 5 sf)) :: (sqW sq (aV A) ++ rest)) s H locs := hw.perm (by rw [← show sqC sq (aV A) i = (sq i, zo 8 (sqF (nI i) (nI nd))) from by unfold sqC; rw [← hkd, ← hnd]]; exact (sq_get (E := [(co, zo 0 (cF w (nI mn) bm sm lt)), (w 2, zo 1 (stF zn co (nI ps) (nI dy) (gg))), (zn 0, zc G 1 (zI 9 (vI pl))), (zn 1, zc G 1 (zI 9 (vI nu))), (zn 2, zc G 1 (zI 5 (vI ax))), (zn 3, zc G 1 (zI 5 (vI le))), (zn 4, zc G 2 (zI 5 (vI kn))), (w 0, zc G 4 (zO 5 sf))]) hia).symm)
        exact hend _ _ _ _ _ _ _ () hw (by unfold F_squirrel; rw [ifP_t ⟨i, hia, rfl⟩, ifP_t ⟨0, by decide, by decide, rfl⟩, cl_nI (show i < 2147483648 by omega), cl_nI (show (0 : Nat) < 2147483648 by decide)]; rw [if_neg (by decide)]; exact congrArg nI hkd) (Nat.le_of_ble_eq_true rfl) (Nat.le_of_ble_eq_true rfl) dX0_squirrel_60
      · skip
        have hl : lv_has ls 3 [(0, .ref co), (1, .int (nI i)), (2, .int (nI 0))] := hl
        have hw : zS G ((sq i, zo 9 (sqF (nI i) (nI nd))) :: (co, zo 0 (cF w (nI mn) bm sm lt)) :: (w 2, zo 1 (stF zn co (nI ps) (nI dy) (gg))) :: (zn 0, zc G 1 (zI 9 (vI pl))) :: (zn 1, zc G 1 (zI 9 (vI nu))) :: (zn 2, zc G 1 (zI 5 (vI ax))) :: (zn 3, zc G 1 (zI 5 (vI le))) :: (zn 4, zc G 2 (zI 5 (vI kn))) :: (w 0, zc G 4 (zO 5 sf)) :: (sqX sq (aV A) i ++ rest)) s H locs := hw
        refine z_ci (z_runB (x := (⟨"NutCaches$Squirrel", "kind", "()I"⟩ : MethodName)) (owner := "NutCaches$Squirrel") (C := "NutCaches$Spy") (n := 0) (As := []) (rest := []) hC ⟨zn_X10_kind, q855, q854, ⟨by decide +kernel, by decide +kernel⟩, by decide +kernel⟩ (hC.hts _ q837) (hC.hts _ q839) (va_Decl.abs (hz.1 _ (cw_t q838 rfl))) (m_X10_kind G l kA (by first | assumption | (omega)) (sq i) (nI i) (nI nd) (zrem [0] _)) hw (hw.perm (z_cut (is := [0]) (cells := [(sq i, zo 9 (sqF (nI i) (nI nd)))]) rfl rfl)) 0 rfl rfl rfl rfl rfl (Nat.le_of_ble_eq_true rfl) hl.1 ⟨Nat.le_of_ble_eq_true rfl, Nat.le_of_ble_eq_true rfl⟩ ⟨(Nat.le_of_ble_eq_true rfl), (Nat.le_of_ble_eq_true rfl)⟩ dX0_squirrel_57) hw (fun _ => z_keep (is := [0]) (cs := [(sq i, zo 9 (sqF (nI i) (nI nd)))]) rfl rfl) (fun r u H locs hp hw => ?_)
        obtain rfl : r = nI 4 := hp
        have hw : zS G ((co, zo 0 (cF w (nI mn) bm sm lt)) :: (w 2, zo 1 (stF zn co (nI ps) (nI dy) (gg))) :: (zn 0, zc G 1 (zI 9 (vI pl))) :: (zn 1, zc G 1 (zI 9 (vI nu))) :: (zn 2, zc G 1 (zI 5 (vI ax))) :: (zn 3, zc G 1 (zI 5 (vI le))) :: (zn 4, zc G 2 (zI 5 (vI kn))) :: (w 0, zc G 4 (zO 5 sf)) :: (sqW sq (aV A) ++ rest)) s H locs := hw.perm (by rw [← show sqC sq (aV A) i = (sq i, zo 9 (sqF (nI i) (nI nd))) from by unfold sqC; rw [← hkd, ← hnd]]; exact (sq_get (E := [(co, zo 0 (cF w (nI mn) bm sm lt)), (w 2, zo 1 (stF zn co (nI ps) (nI dy) (gg))), (zn 0, zc G 1 (zI 9 (vI pl))), (zn 1, zc G 1 (zI 9 (vI nu))), (zn 2, zc G 1 (zI 5 (vI ax))), (zn 3, zc G 1 (zI 5 (vI le))), (zn 4, zc G 2 (zI 5 (vI kn))), (w 0, zc G 4 (zO 5 sf))]) hia).symm)
        exact hend _ _ _ _ _ _ _ () hw (by unfold F_squirrel; rw [ifP_t ⟨i, hia, rfl⟩, ifP_t ⟨0, by decide, by decide, rfl⟩, cl_nI (show i < 2147483648 by omega), cl_nI (show (0 : Nat) < 2147483648 by decide)]; rw [if_neg (by decide)]; exact congrArg nI hkd) (Nat.le_of_ble_eq_true rfl) (Nat.le_of_ble_eq_true rfl) dX0_squirrel_60
    · skip
      have hl : lv_has ls 3 [(0, .ref co), (1, .int (nI i)), (2, .int (nI 1))] := hl
      show W p l e (zR 4 0 0) s m args below meth c H locs 0 0 Q (F0 m 12 ls [.int (nI 1)])
      have hl : lv_has ls 3 [(0, .ref co), (1, .int (nI i)), (2, .int (nI 1))] := hl
      have hw : zS G ((sq i, zo (5 + kd) (sqF (nI i) (nI nd))) :: (co, zo 0 (cF w (nI mn) bm sm lt)) :: (w 2, zo 1 (stF zn co (nI ps) (nI dy) (gg))) :: (zn 0, zc G 1 (zI 9 (vI pl))) :: (zn 1, zc G 1 (zI 9 (vI nu))) :: (zn 2, zc G 1 (zI 5 (vI ax))) :: (zn 3, zc G 1 (zI 5 (vI le))) :: (zn 4, zc G 2 (zI 5 (vI kn))) :: (w 0, zc G 4 (zO 5 sf)) :: (sqX sq (aV A) i ++ rest)) s H locs := hw
      refine lv_tableIn (off := 58) (tgt := 70) hx hb dX0_squirrel_12 (by decide) (by decide) (by decide) (by decide) ?_
      refine lv_aload_n hx hb dX0_squirrel_70 rfl (lv_at hl 0 rfl) ?_
      refine z_get (v := .ref (w 2)) hC zf_X0_27_0 hw 1 rfl rfl dX0_squirrel_71 ?_
      refine lv_iload_n hx hb dX0_squirrel_74 rfl (lv_at hl 1 rfl) ?_
      refine lv_iload_n hx hb dX0_squirrel_75 rfl (lv_at hl 2 rfl) ?_
      refine z_ci (z_runS (As := [.ref (w 2), .int (nI i), .int (nI 1)]) (rest := []) hC zs_X0_184 (m_X0_stateOf_1 G l (w 2) co zn (nI ps) (nI dy) gg ax i (by omega) (zrem [2, 5] _)) (hw.perm (z_cut (is := [2, 5]) (cells := [(w 2, zo 1 (stF zn co (nI ps) (nI dy) gg)), (zn 2, zc G 1 (zI 5 (vI ax)))]) rfl rfl)) rfl rfl (Nat.le_of_ble_eq_true rfl) hl.1 ⟨Nat.le_of_ble_eq_true rfl, Nat.le_of_ble_eq_true rfl⟩ ⟨(Nat.le_of_ble_eq_true rfl), (Nat.le_of_ble_eq_true rfl)⟩ dX0_squirrel_76) hw (fun _ => z_keep (is := [2, 5]) (cs := [(w 2, zo 1 (stF zn co (nI ps) (nI dy) gg)), (zn 2, zc G 1 (zI 5 (vI ax)))]) rfl rfl) (fun r u H locs hp hw => ?_)
      obtain rfl : r = nI (ax i) := hp
      have hw : zS G ((co, zo 0 (cF w (nI mn) bm sm lt)) :: (w 2, zo 1 (stF zn co (nI ps) (nI dy) gg)) :: (zn 0, zc G 1 (zI 9 (vI pl))) :: (zn 1, zc G 1 (zI 9 (vI nu))) :: (zn 2, zc G 1 (zI 5 (vI ax))) :: (zn 3, zc G 1 (zI 5 (vI le))) :: (zn 4, zc G 2 (zI 5 (vI kn))) :: (w 0, zc G 4 (zO 5 sf)) :: (sqW sq (aV A) ++ rest)) s H locs := hw.perm (by rw [← show sqC sq (aV A) i = (sq i, zo (5 + kd) (sqF (nI i) (nI nd))) from by unfold sqC; rw [← hkd, ← hnd]]; exact (sq_get (E := [(co, zo 0 (cF w (nI mn) bm sm lt)), (w 2, zo 1 (stF zn co (nI ps) (nI dy) gg)), (zn 0, zc G 1 (zI 9 (vI pl))), (zn 1, zc G 1 (zI 9 (vI nu))), (zn 2, zc G 1 (zI 5 (vI ax))), (zn 3, zc G 1 (zI 5 (vI le))), (zn 4, zc G 2 (zI 5 (vI kn))), (w 0, zc G 4 (zO 5 sf))]) hia).symm)
      exact hend _ _ _ _ _ _ _ () hw (by unfold F_squirrel; rw [ifP_t ⟨i, hia, rfl⟩, ifP_t ⟨1, by decide, by decide, rfl⟩, cl_nI (show i < 2147483648 by omega), cl_nI (show (1 : Nat) < 2147483648 by decide)]; rw [if_neg (by decide)]; exact congrArg nI hRa) (Nat.le_of_ble_eq_true rfl) (Nat.le_of_ble_eq_true rfl) dX0_squirrel_79
    · skip
      have hl : lv_has ls 3 [(0, .ref co), (1, .int (nI i)), (2, .int (nI 2))] := hl
      show W p l e (zR 4 0 0) s m args below meth c H locs 0 0 Q (F0 m 12 ls [.int (nI 2)])
      have hl : lv_has ls 3 [(0, .ref co), (1, .int (nI i)), (2, .int (nI 2))] := hl
      have hw : zS G ((sq i, zo (5 + kd) (sqF (nI i) (nI nd))) :: (co, zo 0 (cF w (nI mn) bm sm lt)) :: (w 2, zo 1 (stF zn co (nI ps) (nI dy) (gg))) :: (zn 0, zc G 1 (zI 9 (vI pl))) :: (zn 1, zc G 1 (zI 9 (vI nu))) :: (zn 2, zc G 1 (zI 5 (vI ax))) :: (zn 3, zc G 1 (zI 5 (vI le))) :: (zn 4, zc G 2 (zI 5 (vI kn))) :: (w 0, zc G 4 (zO 5 sf)) :: (sqX sq (aV A) i ++ rest)) s H locs := hw
      refine lv_tableIn (off := 49) (tgt := 61) hx hb dX0_squirrel_12 (by decide) (by decide) (by decide) (by decide) ?_
      refine lv_aload_n hx hb dX0_squirrel_61 rfl (lv_at hl 0 rfl) ?_
      refine lv_iload_n hx hb dX0_squirrel_62 rfl (lv_at hl 1 rfl) ?_
      refine z_cq (z_runV (As := [.int (nI i)]) (rest := []) hC zv_X0_173 (m_X0_squirrel_2 G l kA (by first | assumption | (omega)) co w bm sm lt mn sf (sq i) kd nd (nI i) i hi5 (by omega) (hsf i hia) (zrem [1, 8, 0] _)) hw (hw.perm (z_cut (is := [1, 8, 0]) (cells := [(co, zo 0 (cF w (nI mn) bm sm lt)), (w 0, zc G 4 (zO 5 sf)), (sq i, zo (5 + kd) (sqF (nI i) (nI nd)))]) rfl rfl)) 1 rfl rfl rfl rfl rfl (Nat.le_of_ble_eq_true rfl) hl.1 ⟨Nat.le_of_ble_eq_true rfl, Nat.le_of_ble_eq_true rfl⟩ ⟨(Nat.le_of_ble_eq_true rfl), (Nat.le_of_ble_eq_true rfl)⟩ dX0_squirrel_63) hw (fun _ => z_keep (is := [1, 8, 0]) (cs := [(co, zo 0 (cF w (nI mn) bm sm lt)), (w 0, zc G 4 (zO 5 sf)), (sq i, zo (5 + kd) (sqF (nI i) (nI nd)))]) rfl rfl) (fun r u H locs hp hw => ?_)
      obtain rfl : r = some (sq i) := hp
      refine z_getS1 (v := .int (nI nd)) hC zfs_X0_181_1 hw 0 rfl rfl (by omega) dX0_squirrel_66 ?_
      have hw : zS G ((co, zo 0 (cF w (nI mn) bm sm lt)) :: (w 2, zo 1 (stF zn co (nI ps) (nI dy) (gg))) :: (zn 0, zc G 1 (zI 9 (vI pl))) :: (zn 1, zc G 1 (zI 9 (vI nu))) :: (zn 2, zc G 1 (zI 5 (vI ax))) :: (zn 3, zc G 1 (zI 5 (vI le))) :: (zn 4, zc G 2 (zI 5 (vI kn))) :: (w 0, zc G 4 (zO 5 sf)) :: (sqW sq (aV A) ++ rest)) s H locs := hw.perm (by rw [← show sqC sq (aV A) i = (sq i, zo (5 + kd) (sqF (nI i) (nI nd))) from by unfold sqC; rw [← hkd, ← hnd]]; exact (sq_get (E := [(co, zo 0 (cF w (nI mn) bm sm lt)), (w 2, zo 1 (stF zn co (nI ps) (nI dy) (gg))), (zn 0, zc G 1 (zI 9 (vI pl))), (zn 1, zc G 1 (zI 9 (vI nu))), (zn 2, zc G 1 (zI 5 (vI ax))), (zn 3, zc G 1 (zI 5 (vI le))), (zn 4, zc G 2 (zI 5 (vI kn))), (w 0, zc G 4 (zO 5 sf))]) hia).symm)
      exact hend _ _ _ _ _ _ _ () hw (by unfold F_squirrel; rw [ifP_t ⟨i, hia, rfl⟩, ifP_t ⟨2, by decide, by decide, rfl⟩, cl_nI (show i < 2147483648 by omega), cl_nI (show (2 : Nat) < 2147483648 by decide)]; rw [if_neg (by decide)]; exact congrArg nI hnd) (Nat.le_of_ble_eq_true rfl) (Nat.le_of_ble_eq_true rfl) dX0_squirrel_69
    · skip
      have hl : lv_has ls 3 [(0, .ref co), (1, .int (nI i)), (2, .int (nI 3))] := hl
      show W p l e (zR 4 0 0) s m args below meth c H locs 0 0 Q (F0 m 12 ls [.int (nI 3)])
      have hl : lv_has ls 3 [(0, .ref co), (1, .int (nI i)), (2, .int (nI 3))] := hl
      have hw : zS G ((sq i, zo (5 + kd) (sqF (nI i) (nI nd))) :: (co, zo 0 (cF w (nI mn) bm sm lt)) :: (w 2, zo 1 (stF zn co (nI ps) (nI dy) (gg))) :: (zn 0, zc G 1 (zI 9 (vI pl))) :: (zn 1, zc G 1 (zI 9 (vI nu))) :: (zn 2, zc G 1 (zI 5 (vI ax))) :: (zn 3, zc G 1 (zI 5 (vI le))) :: (zn 4, zc G 2 (zI 5 (vI kn))) :: (w 0, zc G 4 (zO 5 sf)) :: (sqX sq (aV A) i ++ rest)) s H locs := hw
      refine lv_tableIn (off := 58) (tgt := 70) hx hb dX0_squirrel_12 (by decide) (by decide) (by decide) (by decide) ?_
      refine lv_aload_n hx hb dX0_squirrel_70 rfl (lv_at hl 0 rfl) ?_
      refine z_get (v := .ref (w 2)) hC zf_X0_27_0 hw 1 rfl rfl dX0_squirrel_71 ?_
      refine lv_iload_n hx hb dX0_squirrel_74 rfl (lv_at hl 1 rfl) ?_
      refine lv_iload_n hx hb dX0_squirrel_75 rfl (lv_at hl 2 rfl) ?_
      refine z_ci (z_runS (As := [.ref (w 2), .int (nI i), .int (nI 3)]) (rest := []) hC zs_X0_184 (m_X0_stateOf_3 G l (w 2) co zn (nI ps) (nI dy) gg le i (by omega) (zrem [2, 6] _)) (hw.perm (z_cut (is := [2, 6]) (cells := [(w 2, zo 1 (stF zn co (nI ps) (nI dy) gg)), (zn 3, zc G 1 (zI 5 (vI le)))]) rfl rfl)) rfl rfl (Nat.le_of_ble_eq_true rfl) hl.1 ⟨Nat.le_of_ble_eq_true rfl, Nat.le_of_ble_eq_true rfl⟩ ⟨(Nat.le_of_ble_eq_true rfl), (Nat.le_of_ble_eq_true rfl)⟩ dX0_squirrel_76) hw (fun _ => z_keep (is := [2, 6]) (cs := [(w 2, zo 1 (stF zn co (nI ps) (nI dy) gg)), (zn 3, zc G 1 (zI 5 (vI le)))]) rfl rfl) (fun r u H locs hp hw => ?_)
      obtain rfl : r = nI (le i) := hp
      have hw : zS G ((co, zo 0 (cF w (nI mn) bm sm lt)) :: (w 2, zo 1 (stF zn co (nI ps) (nI dy) gg)) :: (zn 0, zc G 1 (zI 9 (vI pl))) :: (zn 1, zc G 1 (zI 9 (vI nu))) :: (zn 2, zc G 1 (zI 5 (vI ax))) :: (zn 3, zc G 1 (zI 5 (vI le))) :: (zn 4, zc G 2 (zI 5 (vI kn))) :: (w 0, zc G 4 (zO 5 sf)) :: (sqW sq (aV A) ++ rest)) s H locs := hw.perm (by rw [← show sqC sq (aV A) i = (sq i, zo (5 + kd) (sqF (nI i) (nI nd))) from by unfold sqC; rw [← hkd, ← hnd]]; exact (sq_get (E := [(co, zo 0 (cF w (nI mn) bm sm lt)), (w 2, zo 1 (stF zn co (nI ps) (nI dy) gg)), (zn 0, zc G 1 (zI 9 (vI pl))), (zn 1, zc G 1 (zI 9 (vI nu))), (zn 2, zc G 1 (zI 5 (vI ax))), (zn 3, zc G 1 (zI 5 (vI le))), (zn 4, zc G 2 (zI 5 (vI kn))), (w 0, zc G 4 (zO 5 sf))]) hia).symm)
      exact hend _ _ _ _ _ _ _ () hw (by unfold F_squirrel; rw [ifP_t ⟨i, hia, rfl⟩, ifP_t ⟨3, by decide, by decide, rfl⟩, cl_nI (show i < 2147483648 by omega), cl_nI (show (3 : Nat) < 2147483648 by decide)]; rw [if_neg (by decide)]; exact congrArg nI hRi.1) (Nat.le_of_ble_eq_true rfl) (Nat.le_of_ble_eq_true rfl) dX0_squirrel_79
    · skip
      have hl : lv_has ls 3 [(0, .ref co), (1, .int (nI i)), (2, .int (nI 4))] := hl
      show W p l e (zR 4 0 0) s m args below meth c H locs 0 0 Q (F0 m 12 ls [.int (nI 4)])
      have hl : lv_has ls 3 [(0, .ref co), (1, .int (nI i)), (2, .int (nI 4))] := hl
      have hw : zS G ((sq i, zo (5 + kd) (sqF (nI i) (nI nd))) :: (co, zo 0 (cF w (nI mn) bm sm lt)) :: (w 2, zo 1 (stF zn co (nI ps) (nI dy) (gg))) :: (zn 0, zc G 1 (zI 9 (vI pl))) :: (zn 1, zc G 1 (zI 9 (vI nu))) :: (zn 2, zc G 1 (zI 5 (vI ax))) :: (zn 3, zc G 1 (zI 5 (vI le))) :: (zn 4, zc G 2 (zI 5 (vI kn))) :: (w 0, zc G 4 (zO 5 sf)) :: (sqX sq (aV A) i ++ rest)) s H locs := hw
      refine lv_tableIn (off := 58) (tgt := 70) hx hb dX0_squirrel_12 (by decide) (by decide) (by decide) (by decide) ?_
      refine lv_aload_n hx hb dX0_squirrel_70 rfl (lv_at hl 0 rfl) ?_
      refine z_get (v := .ref (w 2)) hC zf_X0_27_0 hw 1 rfl rfl dX0_squirrel_71 ?_
      refine lv_iload_n hx hb dX0_squirrel_74 rfl (lv_at hl 1 rfl) ?_
      refine lv_iload_n hx hb dX0_squirrel_75 rfl (lv_at hl 2 rfl) ?_
      refine z_ci (z_runS (As := [.ref (w 2), .int (nI i), .int (nI 4)]) (rest := []) hC zs_X0_184 (m_X0_stateOf_4 G l (w 2) co zn (nI ps) (nI dy) gg kn i (by omega) (zrem [2, 7] _)) (hw.perm (z_cut (is := [2, 7]) (cells := [(w 2, zo 1 (stF zn co (nI ps) (nI dy) gg)), (zn 4, zc G 2 (zI 5 (vI kn)))]) rfl rfl)) rfl rfl (Nat.le_of_ble_eq_true rfl) hl.1 ⟨Nat.le_of_ble_eq_true rfl, Nat.le_of_ble_eq_true rfl⟩ ⟨(Nat.le_of_ble_eq_true rfl), (Nat.le_of_ble_eq_true rfl)⟩ dX0_squirrel_76) hw (fun _ => z_keep (is := [2, 7]) (cs := [(w 2, zo 1 (stF zn co (nI ps) (nI dy) gg)), (zn 4, zc G 2 (zI 5 (vI kn)))]) rfl rfl) (fun r u H locs hp hw => ?_)
      obtain rfl : r = nI (kn i) := hp
      have hw : zS G ((co, zo 0 (cF w (nI mn) bm sm lt)) :: (w 2, zo 1 (stF zn co (nI ps) (nI dy) gg)) :: (zn 0, zc G 1 (zI 9 (vI pl))) :: (zn 1, zc G 1 (zI 9 (vI nu))) :: (zn 2, zc G 1 (zI 5 (vI ax))) :: (zn 3, zc G 1 (zI 5 (vI le))) :: (zn 4, zc G 2 (zI 5 (vI kn))) :: (w 0, zc G 4 (zO 5 sf)) :: (sqW sq (aV A) ++ rest)) s H locs := hw.perm (by rw [← show sqC sq (aV A) i = (sq i, zo (5 + kd) (sqF (nI i) (nI nd))) from by unfold sqC; rw [← hkd, ← hnd]]; exact (sq_get (E := [(co, zo 0 (cF w (nI mn) bm sm lt)), (w 2, zo 1 (stF zn co (nI ps) (nI dy) gg)), (zn 0, zc G 1 (zI 9 (vI pl))), (zn 1, zc G 1 (zI 9 (vI nu))), (zn 2, zc G 1 (zI 5 (vI ax))), (zn 3, zc G 1 (zI 5 (vI le))), (zn 4, zc G 2 (zI 5 (vI kn))), (w 0, zc G 4 (zO 5 sf))]) hia).symm)
      exact hend _ _ _ _ _ _ _ () hw (by unfold F_squirrel; rw [ifP_t ⟨i, hia, rfl⟩, ifP_t ⟨4, by decide, by decide, rfl⟩, cl_nI (show i < 2147483648 by omega), cl_nI (show (4 : Nat) < 2147483648 by decide)]; rw [if_neg (by decide)]; exact congrArg nI hRi.2) (Nat.le_of_ble_eq_true rfl) (Nat.le_of_ble_eq_true rfl) dX0_squirrel_79
    · skip
      have hl : lv_has ls 3 [(0, .ref co), (1, .int (nI i)), (2, .int (nI 5))] := hl
      show W p l e (zR 4 0 0) s m args below meth c H locs 0 0 Q (F0 m 12 ls [.int (nI 5)])
      have hl : lv_has ls 3 [(0, .ref co), (1, .int (nI i)), (2, .int (nI 5))] := hl
      have hw : zS G ((sq i, zo (5 + kd) (sqF (nI i) (nI nd))) :: (co, zo 0 (cF w (nI mn) bm sm lt)) :: (w 2, zo 1 (stF zn co (nI ps) (nI dy) (gg))) :: (zn 0, zc G 1 (zI 9 (vI pl))) :: (zn 1, zc G 1 (zI 9 (vI nu))) :: (zn 2, zc G 1 (zI 5 (vI ax))) :: (zn 3, zc G 1 (zI 5 (vI le))) :: (zn 4, zc G 2 (zI 5 (vI kn))) :: (w 0, zc G 4 (zO 5 sf)) :: (sqX sq (aV A) i ++ rest)) s H locs := hw
      refine lv_tableIn (off := 68) (tgt := 80) hx hb dX0_squirrel_12 (by decide) (by decide) (by decide) (by decide) ?_
      refine lv_aload_n hx hb dX0_squirrel_80 rfl (lv_at hl 0 rfl) ?_
      refine lv_iload_n hx hb dX0_squirrel_81 rfl (lv_at hl 1 rfl) ?_
      refine z_cq (z_runV (As := [.int (nI i)]) (rest := []) hC zv_X0_173 (m_X0_squirrel_2 G l kA (by first | assumption | (omega)) co w bm sm lt mn sf (sq i) kd nd (nI i) i hi5 (by omega) (hsf i hia) (zrem [1, 8, 0] _)) hw (hw.perm (z_cut (is := [1, 8, 0]) (cells := [(co, zo 0 (cF w (nI mn) bm sm lt)), (w 0, zc G 4 (zO 5 sf)), (sq i, zo (5 + kd) (sqF (nI i) (nI nd)))]) rfl rfl)) 1 rfl rfl rfl rfl rfl (Nat.le_of_ble_eq_true rfl) hl.1 ⟨Nat.le_of_ble_eq_true rfl, Nat.le_of_ble_eq_true rfl⟩ ⟨(Nat.le_of_ble_eq_true rfl), (Nat.le_of_ble_eq_true rfl)⟩ dX0_squirrel_82) hw (fun _ => z_keep (is := [1, 8, 0]) (cs := [(co, zo 0 (cF w (nI mn) bm sm lt)), (w 0, zc G 4 (zO 5 sf)), (sq i, zo (5 + kd) (sqF (nI i) (nI nd)))]) rfl rfl) (fun r u H locs hp hw => ?_)
      obtain rfl : r = some (sq i) := hp
      rcases hk4 with rfl | rfl | rfl | rfl | rfl
      · skip
        have hl : lv_has ls 3 [(0, .ref co), (1, .int (nI i)), (2, .int (nI 5))] := hl
        have hw : zS G ((sq i, zo 5 (sqF (nI i) (nI nd))) :: (co, zo 0 (cF w (nI mn) bm sm lt)) :: (w 2, zo 1 (stF zn co (nI ps) (nI dy) (gg))) :: (zn 0, zc G 1 (zI 9 (vI pl))) :: (zn 1, zc G 1 (zI 9 (vI nu))) :: (zn 2, zc G 1 (zI 5 (vI ax))) :: (zn 3, zc G 1 (zI 5 (vI le))) :: (zn 4, zc G 2 (zI 5 (vI kn))) :: (w 0, zc G 4 (zO 5 sf)) :: (sqX sq (aV A) i ++ rest)) s H locs := hw
        refine z_ci (z_runB (x := (⟨"NutCaches$Squirrel", "wants", "()I"⟩ : MethodName)) (owner := "NutCaches$Squirrel") (C := "NutCaches$Plain") (n := 0) (As := []) (rest := []) hC ⟨zn_X5_wants, q862, q867, ⟨by decide +kernel, by decide +kernel⟩, by decide +kernel⟩ (hC.hts _ q861) (hC.hts _ q863) (z_declO hC q862 q869) (m_X5_wants_0 G l kA (by first | assumption | (omega)) (sq i) nd (nI i) (zrem [0] _)) hw (hw.perm (z_cut (is := [0]) (cells := [(sq i, zo 5 (sqF (nI i) (nI nd)))]) rfl rfl)) 0 rfl rfl rfl rfl rfl (Nat.le_of_ble_eq_true rfl) hl.1 ⟨Nat.le_of_ble_eq_true rfl, Nat.le_of_ble_eq_true rfl⟩ ⟨(Nat.le_of_ble_eq_true rfl), (Nat.le_of_ble_eq_true rfl)⟩ dX0_squirrel_85) hw (fun _ => z_keep (is := [0]) (cs := [(sq i, zo 5 (sqF (nI i) (nI nd)))]) rfl rfl) (fun r u H locs hp hw => ?_)
        obtain rfl : r = nI nd := hp
        have hw : zS G ((co, zo 0 (cF w (nI mn) bm sm lt)) :: (w 2, zo 1 (stF zn co (nI ps) (nI dy) (gg))) :: (zn 0, zc G 1 (zI 9 (vI pl))) :: (zn 1, zc G 1 (zI 9 (vI nu))) :: (zn 2, zc G 1 (zI 5 (vI ax))) :: (zn 3, zc G 1 (zI 5 (vI le))) :: (zn 4, zc G 2 (zI 5 (vI kn))) :: (w 0, zc G 4 (zO 5 sf)) :: (sqW sq (aV A) ++ rest)) s H locs := hw.perm (by rw [← show sqC sq (aV A) i = (sq i, zo 5 (sqF (nI i) (nI nd))) from by unfold sqC; rw [← hkd, ← hnd]]; exact (sq_get (E := [(co, zo 0 (cF w (nI mn) bm sm lt)), (w 2, zo 1 (stF zn co (nI ps) (nI dy) (gg))), (zn 0, zc G 1 (zI 9 (vI pl))), (zn 1, zc G 1 (zI 9 (vI nu))), (zn 2, zc G 1 (zI 5 (vI ax))), (zn 3, zc G 1 (zI 5 (vI le))), (zn 4, zc G 2 (zI 5 (vI kn))), (w 0, zc G 4 (zO 5 sf))]) hia).symm)
        exact hend _ _ _ _ _ _ _ () hw (by unfold F_squirrel; rw [ifP_t ⟨i, hia, rfl⟩, ifP_t ⟨5, by decide, by decide, rfl⟩, cl_nI (show i < 2147483648 by omega), cl_nI (show (5 : Nat) < 2147483648 by decide)]; rw [if_pos rfl, ← hnd, ← hkd]; first | rfl | exact congrArg nI (Nat.add_comm _ _)) (Nat.le_of_ble_eq_true rfl) (Nat.le_of_ble_eq_true rfl) dX0_squirrel_88
      · skip
        have hl : lv_has ls 3 [(0, .ref co), (1, .int (nI i)), (2, .int (nI 5))] := hl
        have hw : zS G ((sq i, zo 6 (sqF (nI i) (nI nd))) :: (co, zo 0 (cF w (nI mn) bm sm lt)) :: (w 2, zo 1 (stF zn co (nI ps) (nI dy) (gg))) :: (zn 0, zc G 1 (zI 9 (vI pl))) :: (zn 1, zc G 1 (zI 9 (vI nu))) :: (zn 2, zc G 1 (zI 5 (vI ax))) :: (zn 3, zc G 1 (zI 5 (vI le))) :: (zn 4, zc G 2 (zI 5 (vI kn))) :: (w 0, zc G 4 (zO 5 sf)) :: (sqX sq (aV A) i ++ rest)) s H locs := hw
        refine z_ci (z_runB (x := (⟨"NutCaches$Squirrel", "wants", "()I"⟩ : MethodName)) (owner := "NutCaches$Squirrel") (C := "NutCaches$Greedy") (n := 0) (As := []) (rest := []) hC ⟨zn_X5_wants, q862, q865, ⟨by decide +kernel, by decide +kernel⟩, by decide +kernel⟩ (hC.hts _ q861) (hC.hts _ q863) (z_declO hC q862 q869) (m_X5_wants_1 G l kA (by first | assumption | (omega)) (sq i) nd (nI i) (zrem [0] _)) hw (hw.perm (z_cut (is := [0]) (cells := [(sq i, zo 6 (sqF (nI i) (nI nd)))]) rfl rfl)) 0 rfl rfl rfl rfl rfl (Nat.le_of_ble_eq_true rfl) hl.1 ⟨Nat.le_of_ble_eq_true rfl, Nat.le_of_ble_eq_true rfl⟩ ⟨(Nat.le_of_ble_eq_true rfl), (Nat.le_of_ble_eq_true rfl)⟩ dX0_squirrel_85) hw (fun _ => z_keep (is := [0]) (cs := [(sq i, zo 6 (sqF (nI i) (nI nd)))]) rfl rfl) (fun r u H locs hp hw => ?_)
        obtain rfl : r = nI (2 * nd) := hp
        have hw : zS G ((co, zo 0 (cF w (nI mn) bm sm lt)) :: (w 2, zo 1 (stF zn co (nI ps) (nI dy) (gg))) :: (zn 0, zc G 1 (zI 9 (vI pl))) :: (zn 1, zc G 1 (zI 9 (vI nu))) :: (zn 2, zc G 1 (zI 5 (vI ax))) :: (zn 3, zc G 1 (zI 5 (vI le))) :: (zn 4, zc G 2 (zI 5 (vI kn))) :: (w 0, zc G 4 (zO 5 sf)) :: (sqW sq (aV A) ++ rest)) s H locs := hw.perm (by rw [← show sqC sq (aV A) i = (sq i, zo 6 (sqF (nI i) (nI nd))) from by unfold sqC; rw [← hkd, ← hnd]]; exact (sq_get (E := [(co, zo 0 (cF w (nI mn) bm sm lt)), (w 2, zo 1 (stF zn co (nI ps) (nI dy) (gg))), (zn 0, zc G 1 (zI 9 (vI pl))), (zn 1, zc G 1 (zI 9 (vI nu))), (zn 2, zc G 1 (zI 5 (vI ax))), (zn 3, zc G 1 (zI 5 (vI le))), (zn 4, zc G 2 (zI 5 (vI kn))), (w 0, zc G 4 (zO 5 sf))]) hia).symm)
        exact hend _ _ _ _ _ _ _ () hw (by unfold F_squirrel; rw [ifP_t ⟨i, hia, rfl⟩, ifP_t ⟨5, by decide, by decide, rfl⟩, cl_nI (show i < 2147483648 by omega), cl_nI (show (5 : Nat) < 2147483648 by decide)]; rw [if_pos rfl, ← hnd, ← hkd]; first | rfl | exact congrArg nI (Nat.add_comm _ _)) (Nat.le_of_ble_eq_true rfl) (Nat.le_of_ble_eq_true rfl) dX0_squirrel_88
      · skip
        have hl : lv_has ls 3 [(0, .ref co), (1, .int (nI i)), (2, .int (nI 5))] := hl
        have hw : zS G ((sq i, zo 7 (sqF (nI i) (nI nd))) :: (co, zo 0 (cF w (nI mn) bm sm lt)) :: (w 2, zo 1 (stF zn co (nI ps) (nI dy) (gg))) :: (zn 0, zc G 1 (zI 9 (vI pl))) :: (zn 1, zc G 1 (zI 9 (vI nu))) :: (zn 2, zc G 1 (zI 5 (vI ax))) :: (zn 3, zc G 1 (zI 5 (vI le))) :: (zn 4, zc G 2 (zI 5 (vI kn))) :: (w 0, zc G 4 (zO 5 sf)) :: (sqX sq (aV A) i ++ rest)) s H locs := hw
        refine z_ci (z_runB (x := (⟨"NutCaches$Squirrel", "wants", "()I"⟩ : MethodName)) (owner := "NutCaches$Squirrel") (C := "NutCaches$Neat") (n := 0) (As := []) (rest := []) hC ⟨zn_X5_wants, q862, q866, ⟨by decide +kernel, by decide +kernel⟩, by decide +kernel⟩ (hC.hts _ q861) (hC.hts _ q863) (z_declO hC q862 q869) (m_X5_wants_2 G l kA (by first | assumption | (omega)) (sq i) nd (nI i) (zrem [0] _)) hw (hw.perm (z_cut (is := [0]) (cells := [(sq i, zo 7 (sqF (nI i) (nI nd)))]) rfl rfl)) 0 rfl rfl rfl rfl rfl (Nat.le_of_ble_eq_true rfl) hl.1 ⟨Nat.le_of_ble_eq_true rfl, Nat.le_of_ble_eq_true rfl⟩ ⟨(Nat.le_of_ble_eq_true rfl), (Nat.le_of_ble_eq_true rfl)⟩ dX0_squirrel_85) hw (fun _ => z_keep (is := [0]) (cs := [(sq i, zo 7 (sqF (nI i) (nI nd)))]) rfl rfl) (fun r u H locs hp hw => ?_)
        obtain rfl : r = nI nd := hp
        have hw : zS G ((co, zo 0 (cF w (nI mn) bm sm lt)) :: (w 2, zo 1 (stF zn co (nI ps) (nI dy) (gg))) :: (zn 0, zc G 1 (zI 9 (vI pl))) :: (zn 1, zc G 1 (zI 9 (vI nu))) :: (zn 2, zc G 1 (zI 5 (vI ax))) :: (zn 3, zc G 1 (zI 5 (vI le))) :: (zn 4, zc G 2 (zI 5 (vI kn))) :: (w 0, zc G 4 (zO 5 sf)) :: (sqW sq (aV A) ++ rest)) s H locs := hw.perm (by rw [← show sqC sq (aV A) i = (sq i, zo 7 (sqF (nI i) (nI nd))) from by unfold sqC; rw [← hkd, ← hnd]]; exact (sq_get (E := [(co, zo 0 (cF w (nI mn) bm sm lt)), (w 2, zo 1 (stF zn co (nI ps) (nI dy) (gg))), (zn 0, zc G 1 (zI 9 (vI pl))), (zn 1, zc G 1 (zI 9 (vI nu))), (zn 2, zc G 1 (zI 5 (vI ax))), (zn 3, zc G 1 (zI 5 (vI le))), (zn 4, zc G 2 (zI 5 (vI kn))), (w 0, zc G 4 (zO 5 sf))]) hia).symm)
        exact hend _ _ _ _ _ _ _ () hw (by unfold F_squirrel; rw [ifP_t ⟨i, hia, rfl⟩, ifP_t ⟨5, by decide, by decide, rfl⟩, cl_nI (show i < 2147483648 by omega), cl_nI (show (5 : Nat) < 2147483648 by decide)]; rw [if_pos rfl, ← hnd, ← hkd]; first | rfl | exact congrArg nI (Nat.add_comm _ _)) (Nat.le_of_ble_eq_true rfl) (Nat.le_of_ble_eq_true rfl) dX0_squirrel_88
      · skip
        have hl : lv_has ls 3 [(0, .ref co), (1, .int (nI i)), (2, .int (nI 5))] := hl
        have hw : zS G ((sq i, zo 8 (sqF (nI i) (nI nd))) :: (co, zo 0 (cF w (nI mn) bm sm lt)) :: (w 2, zo 1 (stF zn co (nI ps) (nI dy) (gg))) :: (zn 0, zc G 1 (zI 9 (vI pl))) :: (zn 1, zc G 1 (zI 9 (vI nu))) :: (zn 2, zc G 1 (zI 5 (vI ax))) :: (zn 3, zc G 1 (zI 5 (vI le))) :: (zn 4, zc G 2 (zI 5 (vI kn))) :: (w 0, zc G 4 (zO 5 sf)) :: (sqX sq (aV A) i ++ rest)) s H locs := hw
        refine z_ci (z_runB (x := (⟨"NutCaches$Squirrel", "wants", "()I"⟩ : MethodName)) (owner := "NutCaches$Squirrel") (C := "NutCaches$Dozy") (n := 0) (As := []) (rest := []) hC ⟨zn_X5_wants, q862, q864, ⟨by decide +kernel, by decide +kernel⟩, by decide +kernel⟩ (hC.hts _ q861) (hC.hts _ q863) (z_declO hC q862 q869) (m_X5_wants_3 G l kA (by first | assumption | (omega)) (sq i) nd (nI i) (zrem [0] _)) hw (hw.perm (z_cut (is := [0]) (cells := [(sq i, zo 8 (sqF (nI i) (nI nd)))]) rfl rfl)) 0 rfl rfl rfl rfl rfl (Nat.le_of_ble_eq_true rfl) hl.1 ⟨Nat.le_of_ble_eq_true rfl, Nat.le_of_ble_eq_true rfl⟩ ⟨(Nat.le_of_ble_eq_true rfl), (Nat.le_of_ble_eq_true rfl)⟩ dX0_squirrel_85) hw (fun _ => z_keep (is := [0]) (cs := [(sq i, zo 8 (sqF (nI i) (nI nd)))]) rfl rfl) (fun r u H locs hp hw => ?_)
        obtain rfl : r = nI (1 + nd) := hp
        have hw : zS G ((co, zo 0 (cF w (nI mn) bm sm lt)) :: (w 2, zo 1 (stF zn co (nI ps) (nI dy) (gg))) :: (zn 0, zc G 1 (zI 9 (vI pl))) :: (zn 1, zc G 1 (zI 9 (vI nu))) :: (zn 2, zc G 1 (zI 5 (vI ax))) :: (zn 3, zc G 1 (zI 5 (vI le))) :: (zn 4, zc G 2 (zI 5 (vI kn))) :: (w 0, zc G 4 (zO 5 sf)) :: (sqW sq (aV A) ++ rest)) s H locs := hw.perm (by rw [← show sqC sq (aV A) i = (sq i, zo 8 (sqF (nI i) (nI nd))) from by unfold sqC; rw [← hkd, ← hnd]]; exact (sq_get (E := [(co, zo 0 (cF w (nI mn) bm sm lt)), (w 2, zo 1 (stF zn co (nI ps) (nI dy) (gg))), (zn 0, zc G 1 (zI 9 (vI pl))), (zn 1, zc G 1 (zI 9 (vI nu))), (zn 2, zc G 1 (zI 5 (vI ax))), (zn 3, zc G 1 (zI 5 (vI le))), (zn 4, zc G 2 (zI 5 (vI kn))), (w 0, zc G 4 (zO 5 sf))]) hia).symm)
        exact hend _ _ _ _ _ _ _ () hw (by unfold F_squirrel; rw [ifP_t ⟨i, hia, rfl⟩, ifP_t ⟨5, by decide, by decide, rfl⟩, cl_nI (show i < 2147483648 by omega), cl_nI (show (5 : Nat) < 2147483648 by decide)]; rw [if_pos rfl, ← hnd, ← hkd]; first | rfl | exact congrArg nI (Nat.add_comm _ _)) (Nat.le_of_ble_eq_true rfl) (Nat.le_of_ble_eq_true rfl) dX0_squirrel_88
      · skip
        have hl : lv_has ls 3 [(0, .ref co), (1, .int (nI i)), (2, .int (nI 5))] := hl
        have hw : zS G ((sq i, zo 9 (sqF (nI i) (nI nd))) :: (co, zo 0 (cF w (nI mn) bm sm lt)) :: (w 2, zo 1 (stF zn co (nI ps) (nI dy) (gg))) :: (zn 0, zc G 1 (zI 9 (vI pl))) :: (zn 1, zc G 1 (zI 9 (vI nu))) :: (zn 2, zc G 1 (zI 5 (vI ax))) :: (zn 3, zc G 1 (zI 5 (vI le))) :: (zn 4, zc G 2 (zI 5 (vI kn))) :: (w 0, zc G 4 (zO 5 sf)) :: (sqX sq (aV A) i ++ rest)) s H locs := hw
        refine z_ci (z_runB (x := (⟨"NutCaches$Squirrel", "wants", "()I"⟩ : MethodName)) (owner := "NutCaches$Squirrel") (C := "NutCaches$Spy") (n := 0) (As := []) (rest := []) hC ⟨zn_X5_wants, q862, q868, ⟨by decide +kernel, by decide +kernel⟩, by decide +kernel⟩ (hC.hts _ q861) (hC.hts _ q863) (z_declO hC q862 q869) (m_X5_wants_4 G l kA (by first | assumption | (omega)) (sq i) nd (nI i) (zrem [0] _)) hw (hw.perm (z_cut (is := [0]) (cells := [(sq i, zo 9 (sqF (nI i) (nI nd)))]) rfl rfl)) 0 rfl rfl rfl rfl rfl (Nat.le_of_ble_eq_true rfl) hl.1 ⟨Nat.le_of_ble_eq_true rfl, Nat.le_of_ble_eq_true rfl⟩ ⟨(Nat.le_of_ble_eq_true rfl), (Nat.le_of_ble_eq_true rfl)⟩ dX0_squirrel_85) hw (fun _ => z_keep (is := [0]) (cs := [(sq i, zo 9 (sqF (nI i) (nI nd)))]) rfl rfl) (fun r u H locs hp hw => ?_)
        obtain rfl : r = nI (1 + nd) := hp
        have hw : zS G ((co, zo 0 (cF w (nI mn) bm sm lt)) :: (w 2, zo 1 (stF zn co (nI ps) (nI dy) (gg))) :: (zn 0, zc G 1 (zI 9 (vI pl))) :: (zn 1, zc G 1 (zI 9 (vI nu))) :: (zn 2, zc G 1 (zI 5 (vI ax))) :: (zn 3, zc G 1 (zI 5 (vI le))) :: (zn 4, zc G 2 (zI 5 (vI kn))) :: (w 0, zc G 4 (zO 5 sf)) :: (sqW sq (aV A) ++ rest)) s H locs := hw.perm (by rw [← show sqC sq (aV A) i = (sq i, zo 9 (sqF (nI i) (nI nd))) from by unfold sqC; rw [← hkd, ← hnd]]; exact (sq_get (E := [(co, zo 0 (cF w (nI mn) bm sm lt)), (w 2, zo 1 (stF zn co (nI ps) (nI dy) (gg))), (zn 0, zc G 1 (zI 9 (vI pl))), (zn 1, zc G 1 (zI 9 (vI nu))), (zn 2, zc G 1 (zI 5 (vI ax))), (zn 3, zc G 1 (zI 5 (vI le))), (zn 4, zc G 2 (zI 5 (vI kn))), (w 0, zc G 4 (zO 5 sf))]) hia).symm)
        exact hend _ _ _ _ _ _ _ () hw (by unfold F_squirrel; rw [ifP_t ⟨i, hia, rfl⟩, ifP_t ⟨5, by decide, by decide, rfl⟩, cl_nI (show i < 2147483648 by omega), cl_nI (show (5 : Nat) < 2147483648 by decide)]; rw [if_pos rfl, ← hnd, ← hkd]; first | rfl | exact congrArg nI (Nat.add_comm _ _)) (Nat.le_of_ble_eq_true rfl) (Nat.le_of_ble_eq_true rfl) dX0_squirrel_88
    · skip
      have hl : lv_has ls 3 [(0, .ref co), (1, .int (nI i)), (2, .int y)] := hl
      refine lv_tableOut (tgt := 89) hx hb dX0_squirrel_12 (out_inR (by decide) (by decide) hy) (by decide) ?_
      refine lv_bipush (v := (-3)) hx hb dX0_squirrel_89 zb_m3 ?_
      have hw : zS G ((co, zo 0 (cF w (nI mn) bm sm lt)) :: (w 2, zo 1 (stF zn co (nI ps) (nI dy) (gg))) :: (zn 0, zc G 1 (zI 9 (vI pl))) :: (zn 1, zc G 1 (zI 9 (vI nu))) :: (zn 2, zc G 1 (zI 5 (vI ax))) :: (zn 3, zc G 1 (zI 5 (vI le))) :: (zn 4, zc G 2 (zI 5 (vI kn))) :: (w 0, zc G 4 (zO 5 sf)) :: (sqW sq (aV A) ++ rest)) s H locs := hw.perm (by rw [← show sqC sq (aV A) i = (sq i, zo (5 + kd) (sqF (nI i) (nI nd))) from by unfold sqC; rw [← hkd, ← hnd]]; exact (sq_get (E := [(co, zo 0 (cF w (nI mn) bm sm lt)), (w 2, zo 1 (stF zn co (nI ps) (nI dy) (gg))), (zn 0, zc G 1 (zI 9 (vI pl))), (zn 1, zc G 1 (zI 9 (vI nu))), (zn 2, zc G 1 (zI 5 (vI ax))), (zn 3, zc G 1 (zI 5 (vI le))), (zn 4, zc G 2 (zI 5 (vI kn))), (w 0, zc G 4 (zO 5 sf))]) hia).symm)
      exact hend _ _ _ _ _ _ _ () hw (by exact ((ifP_t ⟨i, hia, rfl⟩).trans (ifP_f hy)).symm) (Nat.le_of_ble_eq_true rfl) (Nat.le_of_ble_eq_true rfl) dX0_squirrel_91
  · skip
    refine lv_bipush (v := (-2)) hx hb dX0_squirrel_8 zb_m2 ?_
    exact hend _ _ _ _ _ _ _ () hw (by exact (ifP_f (fun q => c_5 (by rw [hmn]; exact q))).symm) (Nat.le_of_ble_eq_true rfl) (Nat.le_of_ble_eq_true rfl) dX0_squirrel_10
theorem sgR_add {G : zE} {A : AS} {sm q c0 c1 c2 c3 : Nat} {gf : Nat → Option Nat} {gs : Nat → va_W} {g : Nat → Int32} (h : sgR G A sm gf gs) (hg : g 0 = nI c0 ∧ g 1 = nI c1 ∧ g 2 = nI c2 ∧ g 3 = nI c3) : sgR G (mkA (aT A) (aL A) (aV0 A) (aV A) (aU A) (aUs A) (aK A) (aS A + 1) (updN (updN (updN (updN (aSg A) (4 * aS A) c0) (4 * aS A + 1) c1) (4 * aS A + 2) c2) (4 * aS A + 3) c3) (aTr A)) (sm + 1) (va_up gf sm (some q)) (va_up gs sm [(q, zc G 0 (zI 4 g))]) := by
  obtain ⟨h0, h1⟩ := h
  subst h0
  refine ⟨rfl, fun j hj => ?_⟩
  show slG G _ (if j < aS A + 1 then some (fun k => nI (updN (updN (updN (updN (aSg A) (4 * aS A) c0) (4 * aS A + 1) c1) (4 * aS A + 2) c2) (4 * aS A + 3) c3 (4 * j + k))) else none) _
  by_cases e : j = aS A
  · subst e
    rw [va_up_self, va_up_self, if_pos (Nat.lt_succ_self _)]
    refine ⟨g, rfl, fun h hh k hk => ?_⟩
    cases hh
    obtain ⟨g0, g1, g2, g3⟩ := hg
    rcases (show k = 0 ∨ k = 1 ∨ k = 2 ∨ k = 3 by omega) with rfl | rfl | rfl | rfl
    · rw [g0]; dsimp only; rw [updN_ne _ _ (by omega), updN_ne _ _ (by omega), updN_ne _ _ (by omega)]; exact congrArg nI (updN_same _ _ _).symm
    · rw [g1]; dsimp only; rw [updN_ne _ _ (by omega), updN_ne _ _ (by omega), updN_same]
    · rw [g2]; dsimp only; rw [updN_ne _ _ (by omega), updN_same]
    · rw [g3]; dsimp only; rw [updN_same]
  · rw [va_up_ne _ _ e, va_up_ne _ _ e]
    have h2 := h1 j hj
    by_cases h3 : j < aS A
    · rw [if_pos h3] at h2
      rw [if_pos (by omega)]
      cases hb : gf j with
      | none => rw [hb] at h2; exact nomatch h2.2
      | some a =>
        rw [hb] at h2
        obtain ⟨g9, e1, e2⟩ := h2
        refine ⟨g9, e1, fun h hh k hk => ?_⟩
        cases hh
        rw [e2 _ rfl k hk]; dsimp only
        rw [updN_ne _ _ (by omega), updN_ne _ _ (by omega), updN_ne _ _ (by omega), updN_ne _ _ (by omega)]
    · rw [if_neg h3] at h2
      rw [if_neg (by omega)]; exact h2
theorem zf_X0_114_0 : zFl 0 8 RX0 114 true (.array (.array .int)) := ⟨RX0, TX0, 13, tyX0, rfl, by decide, in_X0, q181, rfl, by decide +kernel, tyX0_ok, nmX0⟩
set_option maxHeartbeats 4000000 in
theorem m_X0_seen (G : zE) (l : Launch) (kA : Nat → Nat) (hG : zG G kA) (co : Nat) (w : Nat → Nat) (mn : Int32) (bm : Int32) (lt : Int32) (A : AS) (sm : Nat) (gf : Nat → Option Nat) (gs : Nat → va_W) (hA : AOk A) (hg : sgR G A sm gf gs) (x : Int32) (y : Int32) (z : Int32) (x4 : Int32) (rest : va_W) : zMi G l yX0_seen cX0_seen 5 (some .int) 1 1 4 [.ref co, .int x, .int y, .int z, .int x4] ((co, zo 0 (cF w mn bm (nI sm) lt)) :: (w 6, zc G 7 (zO 6 gf)) :: (pw 6 gs ++ rest)) (fun (r : Int32) u => r = (F_seen A x y z x4).1 ∧ sgR G (F_seen A x y z x4).2 u.1 u.2.1 u.2.2) (fun (u : Nat × (Nat → Option Nat) × (Nat → va_W)) => (co, zo 0 (cF w mn bm (nI u.1) lt)) :: (w 6, zc G 7 (zO 6 u.2.1)) :: (pw 6 u.2.2 ++ rest)) := by
  refine z_begI (by decide) (Nat.le_of_ble_eq_true rfl) (fun p e s m args below meth c ls Q hC hl hw hend => ?_)
  have hx := hC.hx
  have hb := hC.hb
  have hl : lv_has ls 5 [(0, .ref co), (1, .int x), (2, .int y), (3, .int z), (4, .int x4)] := hl
  have hw : zS G ((co, zo 0 (cF w mn bm (nI sm) lt)) :: (w 6, zc G 7 (zO 6 gf)) :: (pw 6 gs ++ rest)) s s.heap [] := hw
  have hz := hG s hC.hZ.1
  have hg1 := hg.1
  have hs6 : sm ≤ 6 := by rw [hg1]; exact hA.2.2.2.2.2.1.1
  refine lv_iload_n hx hb dX0_seen_0 rfl (lv_at hl 1 rfl) ?_
  refine lv_i2l (v := (iL x)) hx hb dX0_seen_1 rfl ?_
  refine lv_lconst (v := lN 1) hx hb dX0_seen_2 rfl ?_
  refine lv_ldc2 (v := (lN 9)) hx hb hC.hown (hC.hts _ q1091) dX0_seen_3 ?_
  refine z_ci (z_runS (As := [.long (iL x), .long (lN 1), .long (lN 9)]) (rest := []) hC zs_X0_126 (m_X0_in G l x 1 9 (by decide) (by decide) _) hw rfl rfl (Nat.le_of_ble_eq_true rfl) hl.1 ⟨Nat.le_of_ble_eq_true rfl, Nat.le_of_ble_eq_true rfl⟩ ⟨(Nat.le_of_ble_eq_true rfl), (Nat.le_of_ble_eq_true rfl)⟩ dX0_seen_6) hw (fun _ => List.Perm.refl _) (fun r u H locs hp hw => ?_)
  obtain rfl : r = bI (inR x 1 9) := hp
  refine zb_eq (tgt := 47) hx hb dX0_seen_9 (by decide) (fun c_9 => ?_) (fun c_9 => ?_)
  · skip
    refine lv_bipush (v := (-3)) hx hb dX0_seen_47 zb_m3 ?_
    have hF : F_seen A x y z x4 = (-3, A) := by exact ifP_f (fun q => by first | exact c_9 q.1 | exact c_19 q.2.1 | exact c_31 q.2.2.1 | exact c_44 q.2.2.2)
    exact hend _ _ _ _ _ _ _ (sm, gf, gs) hw (by rw [hF]; exact ⟨rfl, hg⟩) (Nat.le_of_ble_eq_true rfl) (Nat.le_of_ble_eq_true rfl) dX0_seen_49
  · skip
    refine lv_iload_n hx hb dX0_seen_12 rfl (lv_at hl 2 rfl) ?_
    refine lv_i2l (v := (iL y)) hx hb dX0_seen_13 rfl ?_
    refine lv_lconst (v := lN 0) hx hb dX0_seen_14 rfl ?_
    refine lv_lconst (v := lN 1) hx hb dX0_seen_15 rfl ?_
    refine z_ci (z_runS (As := [.long (iL y), .long (lN 0), .long (lN 1)]) (rest := []) hC zs_X0_126 (m_X0_in G l y 0 1 (by decide) (by decide) _) hw rfl rfl (Nat.le_of_ble_eq_true rfl) hl.1 ⟨Nat.le_of_ble_eq_true rfl, Nat.le_of_ble_eq_true rfl⟩ ⟨(Nat.le_of_ble_eq_true rfl), (Nat.le_of_ble_eq_true rfl)⟩ dX0_seen_16) hw (fun _ => List.Perm.refl _) (fun r u H locs hp hw => ?_)
    obtain rfl : r = bI (inR y 0 1) := hp
    refine zb_eq (tgt := 47) hx hb dX0_seen_19 (by decide) (fun c_19 => ?_) (fun c_19 => ?_)
    · skip
      refine lv_bipush (v := (-3)) hx hb dX0_seen_47 zb_m3 ?_
      have hF : F_seen A x y z x4 = (-3, A) := by exact ifP_f (fun q => by first | exact c_9 q.1 | exact c_19 q.2.1 | exact c_31 q.2.2.1 | exact c_44 q.2.2.2)
      exact hend _ _ _ _ _ _ _ (sm, gf, gs) hw (by rw [hF]; exact ⟨rfl, hg⟩) (Nat.le_of_ble_eq_true rfl) (Nat.le_of_ble_eq_true rfl) dX0_seen_49
    · skip
      refine lv_iload_n hx hb dX0_seen_22 rfl (lv_at hl 3 rfl) ?_
      refine lv_i2l (v := (iL z)) hx hb dX0_seen_23 rfl ?_
      refine lv_lconst (v := lN 0) hx hb dX0_seen_24 rfl ?_
      refine lv_ldc2 (v := (lN 19)) hx hb hC.hown (hC.hts _ q1092) dX0_seen_25 ?_
      refine z_ci (z_runS (As := [.long (iL z), .long (lN 0), .long (lN 19)]) (rest := []) hC zs_X0_126 (m_X0_in G l z 0 19 (by decide) (by decide) _) hw rfl rfl (Nat.le_of_ble_eq_true rfl) hl.1 ⟨Nat.le_of_ble_eq_true rfl, Nat.le_of_ble_eq_true rfl⟩ ⟨(Nat.le_of_ble_eq_true rfl), (Nat.le_of_ble_eq_true rfl)⟩ dX0_seen_28) hw (fun _ => List.Perm.refl _) (fun r u H locs hp hw => ?_)
      obtain rfl : r = bI (inR z 0 19) := hp
      refine zb_eq (tgt := 47) hx hb dX0_seen_31 (by decide) (fun c_31 => ?_) (fun c_31 => ?_)
      · skip
        refine lv_bipush (v := (-3)) hx hb dX0_seen_47 zb_m3 ?_
        have hF : F_seen A x y z x4 = (-3, A) := by exact ifP_f (fun q => by first | exact c_9 q.1 | exact c_19 q.2.1 | exact c_31 q.2.2.1 | exact c_44 q.2.2.2)
        exact hend _ _ _ _ _ _ _ (sm, gf, gs) hw (by rw [hF]; exact ⟨rfl, hg⟩) (Nat.le_of_ble_eq_true rfl) (Nat.le_of_ble_eq_true rfl) dX0_seen_49
      · skip
        refine lv_iload hx hb dX0_seen_34 (lv_at hl 4 rfl) ?_
        refine lv_i2l (v := (iL x4)) hx hb dX0_seen_36 rfl ?_
        refine lv_lconst (v := lN 0) hx hb dX0_seen_37 rfl ?_
        refine lv_ldc2 (v := (lN 3)) hx hb hC.hown (hC.hts _ q1093) dX0_seen_38 ?_
        refine z_ci (z_runS (As := [.long (iL x4), .long (lN 0), .long (lN 3)]) (rest := []) hC zs_X0_126 (m_X0_in G l x4 0 3 (by decide) (by decide) _) hw rfl rfl (Nat.le_of_ble_eq_true rfl) hl.1 ⟨Nat.le_of_ble_eq_true rfl, Nat.le_of_ble_eq_true rfl⟩ ⟨(Nat.le_of_ble_eq_true rfl), (Nat.le_of_ble_eq_true rfl)⟩ dX0_seen_41) hw (fun _ => List.Perm.refl _) (fun r u H locs hp hw => ?_)
        obtain rfl : r = bI (inR x4 0 3) := hp
        refine zb_ne (tgt := 50) hx hb dX0_seen_44 (by decide) (fun c_44 => ?_) (fun c_44 => ?_)
        · skip
          obtain ⟨c0, ha1, ha2, rfl⟩ := c_9
          obtain ⟨c1, hb1, hb2, rfl⟩ := c_19
          obtain ⟨c2, hc1, hc2, rfl⟩ := c_31
          obtain ⟨c3, hd1, hd2, rfl⟩ := c_44
          have hl : lv_has ls 5 [(0, .ref co), (1, .int (nI c0)), (2, .int (nI c1)), (3, .int (nI c2)), (4, .int (nI c3))] := hl
          refine lv_aload_n hx hb dX0_seen_50 rfl (lv_at hl 0 rfl) ?_
          refine z_get (v := .int (nI sm)) hC zf_X0_44_0 hw 0 rfl rfl dX0_seen_51 ?_
          refine lv_bipush (v := (nI 6)) hx hb dX0_seen_54 zb_6 ?_
          refine zi_ne (tgt := 62) hx hb (by omega) (by decide) dX0_seen_56 (by decide) (fun c_56 => ?_) (fun c_56 => ?_)
          · skip
            refine lv_aload_n hx hb dX0_seen_62 rfl (lv_at hl 0 rfl) ?_
            refine z_get (v := .ref (w 6)) hC zf_X0_114_0 hw 0 rfl rfl dX0_seen_63 ?_
            refine lv_aload_n hx hb dX0_seen_66 rfl (lv_at hl 0 rfl) ?_
            refine z_get (v := .int (nI sm)) hC zf_X0_44_0 hw 0 rfl rfl dX0_seen_67 ?_
            refine lv_iconst (v := (nI 4)) hx hb dX0_seen_70 zk_4 ?_
            refine z_newa (t := 0) (atype := .int) (a0 := zI 4 (fun _ => 0)) hC (hC.hts _ q739) (fun _ => rfl) hw (fun _ => rfl) (by decide) (by decide) (Nat.le_of_ble_eq_true rfl) (Nat.le_of_ble_eq_true rfl) dX0_seen_71 (fun q_71 H hw => ?_)
            have hw : zS G ((q_71, zc G 0 (zI 4 (fun _ => 0))) :: (co, zo 0 (cF w mn bm (nI sm) lt)) :: (w 6, zc G 7 (zO 6 gf)) :: (pw 6 gs ++ rest)) s H locs := hw
            refine lv_dup hx hb dX0_seen_73 rfl ?_
            refine lv_iconst (v := (nI 0)) hx hb dX0_seen_74 zk_0 ?_
            refine lv_iload_n hx hb dX0_seen_75 rfl (lv_at hl 1 rfl) ?_
            refine z_iast (f' := upd (fun _ => 0) 0 (nI c0)) hC hw 0 rfl (by decide) (by decide) rfl dX0_seen_76 (fun H locs hw => ?_)
            have hw : zS G ((q_71, zc G 0 (zI 4 (upd (fun _ => 0) 0 (nI c0)))) :: (co, zo 0 (cF w mn bm (nI sm) lt)) :: (w 6, zc G 7 (zO 6 gf)) :: (pw 6 gs ++ rest)) s H locs := hw
            refine lv_dup hx hb dX0_seen_77 rfl ?_
            refine lv_iconst (v := (nI 1)) hx hb dX0_seen_78 zk_1 ?_
            refine lv_iload_n hx hb dX0_seen_79 rfl (lv_at hl 2 rfl) ?_
            refine z_iast (f' := upd (upd (fun _ => 0) 0 (nI c0)) 1 (nI c1)) hC hw 0 rfl (by decide) (by decide) rfl dX0_seen_80 (fun H locs hw => ?_)
            have hw : zS G ((q_71, zc G 0 (zI 4 (upd (upd (fun _ => 0) 0 (nI c0)) 1 (nI c1)))) :: (co, zo 0 (cF w mn bm (nI sm) lt)) :: (w 6, zc G 7 (zO 6 gf)) :: (pw 6 gs ++ rest)) s H locs := hw
            refine lv_dup hx hb dX0_seen_81 rfl ?_
            refine lv_iconst (v := (nI 2)) hx hb dX0_seen_82 zk_2 ?_
            refine lv_iload_n hx hb dX0_seen_83 rfl (lv_at hl 3 rfl) ?_
            refine z_iast (f' := upd (upd (upd (fun _ => 0) 0 (nI c0)) 1 (nI c1)) 2 (nI c2)) hC hw 0 rfl (by decide) (by decide) rfl dX0_seen_84 (fun H locs hw => ?_)
            have hw : zS G ((q_71, zc G 0 (zI 4 (upd (upd (upd (fun _ => 0) 0 (nI c0)) 1 (nI c1)) 2 (nI c2)))) :: (co, zo 0 (cF w mn bm (nI sm) lt)) :: (w 6, zc G 7 (zO 6 gf)) :: (pw 6 gs ++ rest)) s H locs := hw
            refine lv_dup hx hb dX0_seen_85 rfl ?_
            refine lv_iconst (v := (nI 3)) hx hb dX0_seen_86 zk_3 ?_
            refine lv_iload hx hb dX0_seen_87 (lv_at hl 4 rfl) ?_
            refine z_iast (f' := upd (upd (upd (upd (fun _ => 0) 0 (nI c0)) 1 (nI c1)) 2 (nI c2)) 3 (nI c3)) hC hw 0 rfl (by decide) (by decide) rfl dX0_seen_89 (fun H locs hw => ?_)
            have hw : zS G ((q_71, zc G 0 (zI 4 (upd (upd (upd (upd (fun _ => 0) 0 (nI c0)) 1 (nI c1)) 2 (nI c2)) 3 (nI c3)))) :: (co, zo 0 (cF w mn bm (nI sm) lt)) :: (w 6, zc G 7 (zO 6 gf)) :: (pw 6 gs ++ rest)) s H locs := hw
            refine z_aastA (f' := va_up gf sm (some q_71)) hC (hz.1 _ (cw_t q153 rfl)) hw 2 rfl 0 rfl (by omega) (by decide) rfl dX0_seen_90 (fun H locs hw => ?_)
            have hw : zS G ((q_71, zc G 0 (zI 4 (upd (upd (upd (upd (fun _ => 0) 0 (nI c0)) 1 (nI c1)) 2 (nI c2)) 3 (nI c3)))) :: (co, zo 0 (cF w mn bm (nI sm) lt)) :: (w 6, zc G 7 (zO 6 (va_up gf sm (some q_71)))) :: (pw 6 gs ++ rest)) s H locs := hw
            refine lv_aload_n hx hb dX0_seen_91 rfl (lv_at hl 0 rfl) ?_
            refine lv_dup hx hb dX0_seen_92 rfl ?_
            refine z_get (v := .int (nI sm)) hC zf_X0_44_0 hw 1 rfl rfl dX0_seen_93 ?_
            refine lv_iconst (v := (nI 1)) hx hb dX0_seen_96 zk_1 ?_
            refine zn_iadd hx hb dX0_seen_97 ?_
            refine lv_dup_x1 hx hb dX0_seen_98 rfl rfl ?_
            refine z_puti hC zf_X0_44_0 hw 1 rfl (Nat.le_of_ble_eq_true rfl) dX0_seen_99 (fun H locs hw => ?_)
            have hw : zS G ((q_71, zc G 0 (zI 4 (upd (upd (upd (upd (fun _ => 0) 0 (nI c0)) 1 (nI c1)) 2 (nI c2)) 3 (nI c3)))) :: (co, zo 0 (cF w mn bm (nI (sm + 1)) lt)) :: (w 6, zc G 7 (zO 6 (va_up gf sm (some q_71)))) :: (pw 6 gs ++ rest)) s H locs := hw
            have hw : zS G ((q_71, zc G 0 (zI 4 (upd (upd (upd (upd (fun _ => 0) 0 (nI c0)) 1 (nI c1)) 2 (nI c2)) 3 (nI c3)))) :: (co, zo 0 (cF w mn bm (nI (sm + 1)) lt)) :: (w 6, zc G 7 (zO 6 (va_up gf sm (some q_71)))) :: (pwX 6 gs sm ++ rest)) s H locs := (hw.perm (pl_get (E := [(q_71, zc G 0 (zI 4 (upd (upd (upd (upd (fun _ => 0) 0 (nI c0)) 1 (nI c1)) 2 (nI c2)) 3 (nI c3)))), (co, zo 0 (cF w mn bm (nI (sm + 1)) lt)), (w 6, zc G 7 (zO 6 (va_up gf sm (some q_71))))]) (sl := gs) (show sm < 6 by omega))).dropP _
            have hw : zS G ((co, zo 0 (cF w mn bm (nI (sm + 1)) lt)) :: (w 6, zc G 7 (zO 6 (va_up gf sm (some q_71)))) :: (pw 6 (va_up gs sm [(q_71, zc G 0 (zI 4 (upd (upd (upd (upd (fun _ => 0) 0 (nI c0)) 1 (nI c1)) 2 (nI c2)) 3 (nI c3))))]) ++ rest)) s H locs := hw.perm (pl_put (x := [(q_71, zc G 0 (zI 4 (upd (upd (upd (upd (fun _ => 0) 0 (nI c0)) 1 (nI c1)) 2 (nI c2)) 3 (nI c3))))]) (E := [(co, zo 0 (cF w mn bm (nI (sm + 1)) lt)), (w 6, zc G 7 (zO 6 (va_up gf sm (some q_71))))]) (sl := gs) (show sm < 6 by omega))
            have hF : F_seen A (nI c0) (nI c1) (nI c2) (nI c3) = (nI (sm + 1), mkA (aT A) (aL A) (aV0 A) (aV A) (aU A) (aUs A) (aK A) (aS A + 1) (updN (updN (updN (updN (aSg A) (4 * aS A) c0) (4 * aS A + 1) c1) (4 * aS A + 2) c2) (4 * aS A + 3) c3) (aTr A)) := by unfold F_seen; rw [ifP_t ⟨⟨c0, ha1, ha2, rfl⟩, ⟨c1, hb1, hb2, rfl⟩, ⟨c2, hc1, hc2, rfl⟩, ⟨c3, hd1, hd2, rfl⟩⟩, if_neg (by omega), cl_nI (by omega), cl_nI (by omega), cl_nI (by omega), cl_nI (by omega), hg1]
            exact hend _ _ _ _ _ _ _ (sm + 1, (va_up gf sm (some q_71)), (va_up gs sm [(q_71, zc G 0 (zI 4 (upd (upd (upd (upd (fun _ => 0) 0 (nI c0)) 1 (nI c1)) 2 (nI c2)) 3 (nI c3))))])) hw (by rw [hF]; exact ⟨rfl, (sgR_add hg ⟨rfl, rfl, rfl, rfl⟩)⟩) (Nat.le_of_ble_eq_true rfl) (Nat.le_of_ble_eq_true rfl) dX0_seen_102
          · skip
            refine lv_bipush (v := (-5)) hx hb dX0_seen_59 zb_m5 ?_
            have hF : F_seen A (nI c0) (nI c1) (nI c2) (nI c3) = (-5, A) := by unfold F_seen; rw [ifP_t ⟨⟨c0, ha1, ha2, rfl⟩, ⟨c1, hb1, hb2, rfl⟩, ⟨c2, hc1, hc2, rfl⟩, ⟨c3, hd1, hd2, rfl⟩⟩, if_pos (by omega)]
            exact hend _ _ _ _ _ _ _ (sm, gf, gs) hw (by rw [hF]; exact ⟨rfl, hg⟩) (Nat.le_of_ble_eq_true rfl) (Nat.le_of_ble_eq_true rfl) dX0_seen_61
        · skip
          refine lv_bipush (v := (-3)) hx hb dX0_seen_47 zb_m3 ?_
          have hF : F_seen A x y z x4 = (-3, A) := by exact ifP_f (fun q => by first | exact c_9 q.1 | exact c_19 q.2.1 | exact c_31 q.2.2.1 | exact c_44 q.2.2.2)
          exact hend _ _ _ _ _ _ _ (sm, gf, gs) hw (by rw [hF]; exact ⟨rfl, hg⟩) (Nat.le_of_ble_eq_true rfl) (Nat.le_of_ble_eq_true rfl) dX0_seen_49
theorem va_up_id {α : Type} (f : Nat → α) (k : Nat) : va_up f k (f k) = f := by
  funext j
  by_cases h : j = k
  · subst h; exact va_up_self _ _ _
  · exact va_up_ne _ _ h
theorem slG_some {G : zE} {A : AS} {sm j : Nat} {gf : Nat → Option Nat} {gs : Nat → va_W} (h : sgR G A sm gf gs) (hj : j < sm) (h6 : j < 6) : ∃ a g, gf j = some a ∧ gs j = [(a, zc G 0 (zI 4 g))] ∧ ∀ k, k < 4 → g k = nI (aSg A (4 * j + k)) := by
  have h1 := h.2 j h6
  rw [if_pos hj] at h1
  cases hb : gf j with
  | none => rw [hb] at h1; exact nomatch h1.2
  | some a =>
    rw [hb] at h1
    obtain ⟨g, e1, e2⟩ := h1
    exact ⟨a, g, rfl, e1, fun k hk => e2 _ rfl k hk⟩
theorem orB_yes {f : Nat → Bool} {n : Nat} (h : f n = true) : orB f (n + 1) = orB f n ||| 2 ^ n := by rw [orB, if_pos h]
theorem orB_no {f : Nat → Bool} {n : Nat} (h : f n = false) : orB f (n + 1) = orB f n := by rw [orB, if_neg (by rw [h]; decide), Nat.or_zero]
theorem zs_X0_262 : zSs RX0 262 yX0_does cX0_does 8 (some .int) 3 := ⟨lw_S q1106 q1107 q49 q1108, ⟨by decide +kernel, by decide +kernel⟩, by decide +kernel⟩
set_option maxHeartbeats 4000000 in
theorem m_X0_kindsSeen (G : zE) (l : Launch) (kA : Nat → Nat) (hG : zG G kA) (co : Nat) (w : Nat → Nat) (mn : Int32) (bm : Int32) (lt : Int32) (A : AS) (sm : Nat) (gf : Nat → Option Nat) (gs : Nat → va_W) (hA : AOk A) (hg : sgR G A sm gf gs) (rest : va_W) : zMi G l yX0_kindsSeen cX0_kindsSeen 5 (some .int) 6 30 60 [.ref co] ((co, zo 0 (cF w mn bm (nI sm) lt)) :: (w 6, zc G 7 (zO 6 gf)) :: (pw 6 gs ++ rest)) (fun (r : Int32) (_ : Unit) => r = nI (kindsN (aS A) (aSg A))) (fun (_ : Unit) => (co, zo 0 (cF w mn bm (nI sm) lt)) :: (w 6, zc G 7 (zO 6 gf)) :: (pw 6 gs ++ rest)) := by
  refine z_begI (by decide) (Nat.le_of_ble_eq_true rfl) (fun p e s m args below meth c ls Q hC hl hw hend => ?_)
  have hx := hC.hx
  have hb := hC.hb
  have hl : lv_has ls 5 [(0, .ref co)] := hl
  have hw : zS G ((co, zo 0 (cF w mn bm (nI sm) lt)) :: (w 6, zc G 7 (zO 6 gf)) :: (pw 6 gs ++ rest)) s s.heap [] := hw
  have hz := hG s hC.hZ.1
  have hg1 := hg.1
  have hs6 : sm ≤ 6 := by rw [hg1]; exact hA.2.2.2.2.2.1.1
  refine lv_iconst (v := (nI 0)) hx hb dX0_kindsSeen_0 zk_0 ?_
  refine lv_istore_n (lv' := [(1, .int (nI 0)), (0, .ref co)]) hx hb dX0_kindsSeen_1 rfl hl (by decide) rfl (fun ls hl => ?_)
  refine lv_iconst (v := (nI 0)) hx hb dX0_kindsSeen_2 zk_0 ?_
  refine lv_istore_n (lv' := [(2, .int (nI 0)), (1, .int (nI 0)), (0, .ref co)]) hx hb dX0_kindsSeen_3 rfl hl (by decide) rfl (fun ls hl => ?_)
  have loop_4 : ∀ (fuel : Nat) (kd : Nat), (kd ≤ 5) → (5 - kd) < fuel → ∀ (H : Heap) (locs : List Loc) (ls : Array Slot), zS G ((co, zo 0 (cF w mn bm (nI sm) lt)) :: (w 6, zc G 7 (zO 6 gf)) :: (pw 6 gs ++ rest)) s H locs → lv_has ls 5 [(0, .ref co), (1, .int (nI (orB (fun kind => dB (∀ k, k < aS A → sightN kind (aSg A (4 * k)) (aSg A (4 * k + 1)) = 4 * aSg A (4 * k + 2) + aSg A (4 * k + 3))) kd))), (2, .int (nI kd))] → W p l e (zR 6 30 60) s m args below meth c H locs (6 * kd) (12 * kd) Q (F0 m 4 ls []) := by
    intro fuel
    induction fuel with
    | zero => intro kd hkd hfuel; exact absurd hfuel (Nat.not_lt_zero _)
    | succ fuel_4 ih_4 =>
      intro kd hkd hfuel_4 H locs ls hw hl
      refine lv_iload_n hx hb dX0_kindsSeen_4 rfl (lv_at hl 2 rfl) ?_
      refine lv_iconst (v := (nI 5)) hx hb dX0_kindsSeen_5 zk_5 ?_
      refine zi_ge (tgt := 75) hx hb (by omega) (by decide) dX0_kindsSeen_6 (by decide) (fun c_6 => ?_) (fun c_6 => ?_)
      · skip
        refine lv_iload_n hx hb dX0_kindsSeen_75 rfl (lv_at hl 1 rfl) ?_
        exact hend _ _ _ _ _ _ _ () hw (by rw [show kd = 5 by omega]; rfl) (by omega) (by omega) dX0_kindsSeen_76
      · skip
        have join_69 : ∀ (x1 : Nat), (x1 = orB (fun kind => dB (∀ k, k < aS A → sightN kind (aSg A (4 * k)) (aSg A (4 * k + 1)) = 4 * aSg A (4 * k + 2) + aSg A (4 * k + 3))) (kd + 1)) → ∀ (H : Heap) (locs : List Loc) (ls : Array Slot), zS G ((co, zo 0 (cF w mn bm (nI sm) lt)) :: (w 6, zc G 7 (zO 6 gf)) :: (pw 6 gs ++ rest)) s H locs → lv_has ls 5 [(0, .ref co), (1, .int (nI x1)), (2, .int (nI kd))] → W p l e (zR 6 30 60) s m args below meth c H locs (6 * kd + 6) (12 * kd + 12) Q (F0 m 69 ls []) := by
          intro x1 hx1 H locs ls hw hl
          subst hx1
          refine lv_iinc (v := (nI (kd + 1))) (lv' := [(2, .int (nI (kd + 1))), (0, .ref co), (1, .int (nI (orB (fun kind => dB (∀ k, k < aS A → sightN kind (aSg A (4 * k)) (aSg A (4 * k + 1)) = 4 * aSg A (4 * k + 2) + aSg A (4 * k + 3))) (kd + 1))))]) hx hb dX0_kindsSeen_69 hl (k := 2) rfl (zincn _ 1) (by decide) rfl (fun ls hl => ?_)
          refine lv_goto (tgt := 4) hx hb dX0_kindsSeen_72 (by decide) ?_
          refine W.widen (k := (6 * (kd + 1))) (n := (12 * (kd + 1))) (by omega) (by omega) ?_
          exact ih_4 (kd + 1) (by omega) (by omega) H locs ls hw (lv_sub hl [1, 2, 0] rfl)
        refine lv_iconst (v := (nI 0)) hx hb dX0_kindsSeen_9 zk_0 ?_
        refine lv_istore_n (lv' := [(3, .int (nI 0)), (0, .ref co), (1, .int (nI (orB (fun kind => dB (∀ k, k < aS A → sightN kind (aSg A (4 * k)) (aSg A (4 * k + 1)) = 4 * aSg A (4 * k + 2) + aSg A (4 * k + 3))) kd))), (2, .int (nI kd))]) hx hb dX0_kindsSeen_10 rfl hl (by decide) rfl (fun ls hl => ?_)
        have loop_11 : ∀ (fuel : Nat) (j : Nat), (j ≤ sm) → (∀ k, k < j → sightN kd (aSg A (4 * k)) (aSg A (4 * k + 1)) = 4 * aSg A (4 * k + 2) + aSg A (4 * k + 3)) → (sm - j) < fuel → ∀ (H : Heap) (locs : List Loc) (ls : Array Slot), zS G ((co, zo 0 (cF w mn bm (nI sm) lt)) :: (w 6, zc G 7 (zO 6 gf)) :: (pw 6 gs ++ rest)) s H locs → lv_has ls 5 [(0, .ref co), (1, .int (nI (orB (fun kind => dB (∀ k, k < aS A → sightN kind (aSg A (4 * k)) (aSg A (4 * k + 1)) = 4 * aSg A (4 * k + 2) + aSg A (4 * k + 3))) kd))), (2, .int (nI kd)), (3, .int (nI j))] → W p l e (zR 6 30 60) s m args below meth c H locs (6 * kd + j) (12 * kd + 2 * j) Q (F0 m 11 ls []) := by
          intro fuel
          induction fuel with
          | zero => intro j hj hall hfuel; exact absurd hfuel (Nat.not_lt_zero _)
          | succ fuel_11 ih_11 =>
            intro j hj hall hfuel_11 H locs ls hw hl
            refine lv_iload_n hx hb dX0_kindsSeen_11 rfl (lv_at hl 3 rfl) ?_
            refine lv_aload_n hx hb dX0_kindsSeen_12 rfl (lv_at hl 0 rfl) ?_
            refine z_get (v := .int (nI sm)) hC zf_X0_44_0 hw 0 rfl rfl dX0_kindsSeen_13 ?_
            refine zi_ge (tgt := 63) hx hb (by omega) (by omega) dX0_kindsSeen_16 (by decide) (fun c_16 => ?_) (fun c_16 => ?_)
            · skip
              refine lv_iload_n hx hb dX0_kindsSeen_63 rfl (lv_at hl 1 rfl) ?_
              refine lv_iconst (v := (nI 1)) hx hb dX0_kindsSeen_64 zk_1 ?_
              refine lv_iload_n hx hb dX0_kindsSeen_65 rfl (lv_at hl 2 rfl) ?_
              refine zv_ishl (v := (nI (2 ^ kd))) hx hb (nI_shl1 (by omega)) dX0_kindsSeen_66 ?_
              refine zv_ior (v := (nI ((orB (fun kind => dB (∀ k, k < aS A → sightN kind (aSg A (4 * k)) (aSg A (4 * k + 1)) = 4 * aSg A (4 * k + 2) + aSg A (4 * k + 3))) kd) ||| (2 ^ kd)))) hx hb (nI_or _ _) dX0_kindsSeen_67 ?_
              refine lv_istore_n (lv' := [(1, .int (nI ((orB (fun kind => dB (∀ k, k < aS A → sightN kind (aSg A (4 * k)) (aSg A (4 * k + 1)) = 4 * aSg A (4 * k + 2) + aSg A (4 * k + 3))) kd) ||| (2 ^ kd)))), (0, .ref co), (2, .int (nI kd)), (3, .int (nI j))]) hx hb dX0_kindsSeen_68 rfl hl (by decide) rfl (fun ls hl => ?_)
              refine W.widen (k := (6 * kd + 6)) (n := (12 * kd + 12)) (by omega) (by omega) ?_
              exact join_69 ((orB (fun kind => dB (∀ k, k < aS A → sightN kind (aSg A (4 * k)) (aSg A (4 * k + 1)) = 4 * aSg A (4 * k + 2) + aSg A (4 * k + 3))) kd) ||| (2 ^ kd)) (by first | exact (orB_yes (dB_t (fun k hk => hall k (by omega)))).symm | exact (orB_no (dB_f (fun q => c_51 (hds.mpr (q j (by omega)))))).symm) H locs ls hw (lv_sub hl [1, 0, 2] rfl)
            · skip
              have hj6 : j < 6 := by omega
              obtain ⟨ga, g, hga, hgg, hgk⟩ := slG_some hg (show j < sm by omega) hj6
              have hsg := hA.2.2.2.2.2.1.2 j (by omega)
              have hsg1 := hsg.2.1
              have hsg2 := hsg.2.2.1
              have hsg3 := hsg.2.2.2.1
              have hsg4 := hsg.2.2.2.2
              have hw := hw.perm (pl_get (E := [(co, zo 0 (cF w mn bm (nI sm) lt)), (w 6, zc G 7 (zO 6 gf))]) (sl := gs) hj6)
              rw [hgg] at hw
              have hw : zS G ((ga, zc G 0 (zI 4 g)) :: (co, zo 0 (cF w mn bm (nI sm) lt)) :: (w 6, zc G 7 (zO 6 gf)) :: (pwX 6 gs j ++ rest)) s H locs := hw
              refine lv_aload_n hx hb dX0_kindsSeen_19 rfl (lv_at hl 0 rfl) ?_
              refine z_get (v := .ref (w 6)) hC zf_X0_114_0 hw 1 rfl rfl dX0_kindsSeen_20 ?_
              refine lv_iload_n hx hb dX0_kindsSeen_23 rfl (lv_at hl 3 rfl) ?_
              refine z_aaldA (x := .ref ga) hC hw 2 rfl (by omega) (by decide) (congrArg va_rf hga) dX0_kindsSeen_24 ?_
              refine lv_astore (lv' := [(4, .ref ga), (0, .ref co), (1, .int (nI (orB (fun kind => dB (∀ k, k < aS A → sightN kind (aSg A (4 * k)) (aSg A (4 * k + 1)) = 4 * aSg A (4 * k + 2) + aSg A (4 * k + 3))) kd))), (2, .int (nI kd)), (3, .int (nI j))]) hx hb dX0_kindsSeen_25 hl (by decide) rfl (fun ls hl => ?_)
              refine lv_iload_n hx hb dX0_kindsSeen_27 rfl (lv_at hl 3 rfl) ?_
              refine lv_aload hx hb dX0_kindsSeen_28 (lv_at hl 0 rfl) ?_
              refine lv_iconst (v := (nI 0)) hx hb dX0_kindsSeen_30 zk_0 ?_
              refine z_iald (x := (nI (aSg A (4 * j + 0)))) hC hw 0 rfl (by decide) (by decide) (hgk 0 (by decide)) dX0_kindsSeen_31 ?_
              refine lv_aload hx hb dX0_kindsSeen_32 (lv_at hl 0 rfl) ?_
              refine lv_iconst (v := (nI 1)) hx hb dX0_kindsSeen_34 zk_1 ?_
              refine z_iald (x := (nI (aSg A (4 * j + 1)))) hC hw 0 rfl (by decide) (by decide) (hgk 1 (by decide)) dX0_kindsSeen_35 ?_
              refine z_ci (z_runS (As := [.int (nI kd), .int (nI (aSg A (4 * j + 0))), .int (nI (aSg A (4 * j + 1)))]) (rest := []) hC zs_X0_262 (m_X0_does G l kA (by first | assumption | (omega)) kd (aSg A (4 * j + 0)) (aSg A (4 * j + 1)) (by omega) hsg1 (Nat.le_trans hsg2 (by decide)) _) hw rfl rfl (Nat.le_of_ble_eq_true rfl) hl.1 ⟨Nat.le_of_ble_eq_true rfl, Nat.le_of_ble_eq_true rfl⟩ ⟨(by show _ ≤ 30; omega), (by show _ ≤ 60; omega)⟩ dX0_kindsSeen_36) hw (fun _ => List.Perm.refl _) (fun r u H locs hp hw => ?_)
              obtain rfl : r = nI (dN kd (aSg A (4 * j + 0)) (aSg A (4 * j + 1))) := hp
              refine lv_aload hx hb dX0_kindsSeen_39 (lv_at hl 0 rfl) ?_
              refine lv_iconst (v := (nI 2)) hx hb dX0_kindsSeen_41 zk_2 ?_
              refine z_iald (x := (nI (aSg A (4 * j + 2)))) hC hw 0 rfl (by decide) (by decide) (hgk 2 (by decide)) dX0_kindsSeen_42 ?_
              refine lv_bipush (v := (nI 100)) hx hb dX0_kindsSeen_43 zb_100 ?_
              refine lv_aload hx hb dX0_kindsSeen_45 (lv_at hl 0 rfl) ?_
              refine lv_iconst (v := (nI 3)) hx hb dX0_kindsSeen_47 zk_3 ?_
              refine z_iald (x := (nI (aSg A (4 * j + 3)))) hC hw 0 rfl (by decide) (by decide) (hgk 3 (by decide)) dX0_kindsSeen_48 ?_
              refine zn_imul hx hb dX0_kindsSeen_49 ?_
              refine zn_iadd hx hb dX0_kindsSeen_50 ?_
              have hdl := dN_lt (kd := kd) (m := aSg A (4 * j + 0)) (d := aSg A (4 * j + 1)) hsg1
              have hds := dN_sight (kd := kd) (m := aSg A (4 * j + 0)) (d := aSg A (4 * j + 1)) (e := aSg A (4 * j + 2)) (w := aSg A (4 * j + 3)) (by omega) hsg1 hsg3 hsg4
              refine zi_eq (tgt := 57) hx hb (by omega) (by omega) dX0_kindsSeen_51 (by decide) (fun c_51 => ?_) (fun c_51 => ?_)
              · skip
                have hw : zS G ((co, zo 0 (cF w mn bm (nI sm) lt)) :: (w 6, zc G 7 (zO 6 gf)) :: (pw 6 gs ++ rest)) s H locs := (show zS G (gs j ++ ([(co, zo 0 (cF w mn bm (nI sm) lt)), (w 6, zc G 7 (zO 6 gf))] ++ (pwX 6 gs j ++ rest))) s H locs from by rw [hgg]; exact hw).perm (pl_get (E := [(co, zo 0 (cF w mn bm (nI sm) lt)), (w 6, zc G 7 (zO 6 gf))]) (sl := gs) hj6).symm
                have heq := hds.mp c_51
                refine lv_iinc (v := (nI (j + 1))) (lv' := [(3, .int (nI (j + 1))), (4, .ref ga), (0, .ref co), (1, .int (nI (orB (fun kind => dB (∀ k, k < aS A → sightN kind (aSg A (4 * k)) (aSg A (4 * k + 1)) = 4 * aSg A (4 * k + 2) + aSg A (4 * k + 3))) kd))), (2, .int (nI kd))]) hx hb dX0_kindsSeen_57 hl (k := 4) rfl (zincn _ 1) (by decide) rfl (fun ls hl => ?_)
                refine lv_goto (tgt := 11) hx hb dX0_kindsSeen_60 (by decide) ?_
                refine W.widen (k := (6 * kd + (j + 1))) (n := (12 * kd + 2 * (j + 1))) (by omega) (by omega) ?_
                exact ih_11 (j + 1) (by omega) (fun k hk => by by_cases e : k = j; (subst e; exact heq); exact hall k (by omega)) (by omega) H locs ls hw (lv_sub hl [2, 3, 4, 0] rfl)
              · skip
                have hw : zS G ((co, zo 0 (cF w mn bm (nI sm) lt)) :: (w 6, zc G 7 (zO 6 gf)) :: (pw 6 gs ++ rest)) s H locs := (show zS G (gs j ++ ([(co, zo 0 (cF w mn bm (nI sm) lt)), (w 6, zc G 7 (zO 6 gf))] ++ (pwX 6 gs j ++ rest))) s H locs from by rw [hgg]; exact hw).perm (pl_get (E := [(co, zo 0 (cF w mn bm (nI sm) lt)), (w 6, zc G 7 (zO 6 gf))]) (sl := gs) hj6).symm
                refine lv_goto (tgt := 69) hx hb dX0_kindsSeen_54 (by decide) ?_
                refine W.widen (k := (6 * kd + 6)) (n := (12 * kd + 12)) (by omega) (by omega) ?_
                exact join_69 (orB (fun kind => dB (∀ k, k < aS A → sightN kind (aSg A (4 * k)) (aSg A (4 * k + 1)) = 4 * aSg A (4 * k + 2) + aSg A (4 * k + 3))) kd) (by first | exact (orB_yes (dB_t (fun k hk => hall k (by omega)))).symm | exact (orB_no (dB_f (fun q => c_51 (hds.mpr (q j (by omega)))))).symm) H locs ls hw (lv_sub hl [1, 2, 3] rfl)
        refine W.widen (k := (6 * kd + 0)) (n := (12 * kd + 2 * 0)) (by omega) (by omega) ?_
        exact loop_11 ((sm - 0) + 1) 0 (by omega) (fun k hk => absurd hk (Nat.not_lt_zero k)) (Nat.lt_succ_self _) H locs ls hw (lv_sub hl [1, 2, 3, 0] rfl)
  refine W.widen (k := (6 * 0)) (n := (12 * 0)) (by omega) (by omega) ?_
  exact loop_4 ((5 - 0) + 1) 0 (by decide) (Nat.lt_succ_self _) s.heap [] ls hw (lv_sub hl [2, 1, 0] rfl)
theorem zv_X0_266 : zVs RX0 266 yX0_kindsSeen cX0_kindsSeen 5 (some .int) 0 := ⟨lw_V q1102 q1104 qs18 q49 q1105, ⟨by decide +kernel, by decide +kernel⟩, by decide +kernel⟩
set_option maxHeartbeats 4000000 in
theorem m_X0_kinds (G : zE) (l : Launch) (kA : Nat → Nat) (hG : zG G kA) (co : Nat) (w : Nat → Nat) (mn : Int32) (bm : Int32) (lt : Int32) (A : AS) (sm : Nat) (gf : Nat → Option Nat) (gs : Nat → va_W) (hA : AOk A) (hg : sgR G A sm gf gs) (rest : va_W) : zMi G l yX0_kinds cX0_kinds 1 (some .int) 7 30 60 [.ref co] ((co, zo 0 (cF w mn bm (nI sm) lt)) :: (w 6, zc G 7 (zO 6 gf)) :: (pw 6 gs ++ rest)) (fun (r : Int32) (_ : Unit) => r = F_kinds A) (fun (_ : Unit) => (co, zo 0 (cF w mn bm (nI sm) lt)) :: (w 6, zc G 7 (zO 6 gf)) :: (pw 6 gs ++ rest)) := by
  refine z_begI (by decide) (Nat.le_of_ble_eq_true rfl) (fun p e s m args below meth c ls Q hC hl hw hend => ?_)
  have hx := hC.hx
  have hb := hC.hb
  have hl : lv_has ls 1 [(0, .ref co)] := hl
  have hw : zS G ((co, zo 0 (cF w mn bm (nI sm) lt)) :: (w 6, zc G 7 (zO 6 gf)) :: (pw 6 gs ++ rest)) s s.heap [] := hw
  have hz := hG s hC.hZ.1
  refine lv_aload_n hx hb dX0_kinds_0 rfl (lv_at hl 0 rfl) ?_
  refine z_ci (z_runV (As := []) (rest := []) hC zv_X0_266 (m_X0_kindsSeen G l kA (by first | assumption | (omega)) co w mn bm lt A sm gf gs (by first | assumption | (omega)) (by first | assumption | (omega)) (zrem [0, 1] [(co, zo 0 (cF w mn bm (nI sm) lt)), (w 6, zc G 7 (zO 6 gf))] ++ rest)) hw (hw.perm (z_cutP (z_cut (is := [0, 1]) (ws := [(co, zo 0 (cF w mn bm (nI sm) lt)), (w 6, zc G 7 (zO 6 gf))]) (cells := [(co, zo 0 (cF w mn bm (nI sm) lt)), (w 6, zc G 7 (zO 6 gf))]) rfl rfl))) 0 rfl rfl rfl rfl rfl (Nat.le_of_ble_eq_true rfl) hl.1 ⟨Nat.le_of_ble_eq_true rfl, Nat.le_of_ble_eq_true rfl⟩ ⟨(Nat.le_of_ble_eq_true rfl), (Nat.le_of_ble_eq_true rfl)⟩ dX0_kinds_1) hw (fun _ => z_putP (z_pput (is := [0, 1]) (ws := [(co, zo 0 (cF w mn bm (nI sm) lt)), (w 6, zc G 7 (zO 6 gf))]) (cells := [(co, zo 0 (cF w mn bm (nI sm) lt)), (w 6, zc G 7 (zO 6 gf))]) (cells' := [(co, zo 0 (cF w mn bm (nI sm) lt)), (w 6, zc G 7 (zO 6 gf))]) rfl rfl rfl)) (fun r u H locs hp hw => ?_)
  obtain rfl : r = nI (kindsN (aS A) (aSg A)) := hp
  exact hend _ _ _ _ _ _ _ () hw rfl (Nat.le_of_ble_eq_true rfl) (Nat.le_of_ble_eq_true rfl) dX0_kinds_4
