/-! COMPONENT: the jay -/
set_option maxRecDepth 100000
/-- how deep gcd goes -/
def gd (a b : Nat) : Nat := if h : b = 0 then 0 else gd b (a % b) + 1
termination_by b
decreasing_by exact Nat.mod_lt _ (Nat.pos_of_ne_zero h)
theorem gd_0 (a : Nat) : gd a 0 = 0 := by unfold gd; rfl
theorem gd_s {a b : Nat} (h : b ≠ 0) : gd a b = gd b (a % b) + 1 := by rw [gd, dif_neg h]
theorem gd_le : ∀ (n a b : Nat), b < 2 ^ n → gd a b ≤ 2 * n
  | 0, a, b, h => by rw [show b = 0 by omega, gd_0]; exact Nat.zero_le _
  | n + 1, a, b, h => by
    by_cases hb0 : b = 0
    · rw [hb0, gd_0]; exact Nat.zero_le _
    · rw [gd_s hb0]
      have h1 := Nat.mod_lt a (Nat.pos_of_ne_zero hb0)
      by_cases hr : a % b = 0
      · rw [hr, gd_0]; omega
      · rw [gd_s hr]
        have h2 := Nat.mod_lt b (Nat.pos_of_ne_zero hr)
        have h3 : b % (a % b) ≤ b - a % b := by rw [Nat.mod_eq_sub_mod (Nat.le_of_lt h1)]; exact Nat.mod_le _ _
        have h4 : b % (a % b) < 2 ^ n := by rw [Nat.pow_succ] at h; omega
        have h5 := gd_le n (a % b) (b % (a % b)) h4
        omega
theorem gcd_s (a b : Nat) : Nat.gcd a b = Nat.gcd b (a % b) := by rw [Nat.gcd_comm a b, Nat.gcd_rec, Nat.gcd_comm]
set_option maxHeartbeats 4000000 in
theorem m_X0_gcd_0 (G : zE) (l : Launch) (a : Nat) (rest : va_W) : zMi G l yX0_gcd cX0_gcd 2 (some .int) 0 0 0 [.int (nI a), .int (nI 0)] (rest) (fun (r : Int32) (_ : Unit) => r = nI a) (fun (_ : Unit) => rest) := by
  refine z_begI (by decide) (Nat.le_of_ble_eq_true rfl) (fun p e s m args below meth c ls Q hC hl hw hend => ?_)
  have hx := hC.hx
  have hb := hC.hb
  have hl : lv_has ls 2 [(0, .int (nI a)), (1, .int (nI 0))] := hl
  refine lv_iload_n hx hb dX0_gcd_0 rfl (lv_at hl 1 rfl) ?_
  refine zj_ne (tgt := 8) hx hb (by decide) dX0_gcd_1 (by decide) (fun h => absurd h (by decide)) (fun _ => ?_)
  refine lv_iload_n hx hb dX0_gcd_4 rfl (lv_at hl 0 rfl) ?_
  refine lv_goto (tgt := 15) hx hb dX0_gcd_5 (by decide) ?_
  exact hend _ _ _ _ _ _ _ () hw rfl (Nat.le_of_ble_eq_true rfl) (Nat.le_of_ble_eq_true rfl) dX0_gcd_15
theorem zs_X0_100 : zSs RX0 100 yX0_gcd cX0_gcd 2 (some .int) 2 := ⟨lw_S q1084 q1085 q49 q1086, ⟨by decide +kernel, by decide +kernel⟩, by decide +kernel⟩
set_option maxHeartbeats 4000000 in
theorem m_X0_gcd_s (G : zE) (l : Launch) (a : Nat) (b : Nat) (ha : a < 2147483648) (hb9 : b < 2147483648) (hb0 : ¬ b = 0) (hih : ∀ (G : zE) (l : Launch) (rest : va_W), zMi G l yX0_gcd cX0_gcd 2 (some .int) (gd b (a % b)) 0 0 [.int (nI b), .int (nI (a % b))] rest (fun (r : Int32) (_ : Unit) => r = nI (Nat.gcd b (a % b))) (fun (_ : Unit) => rest)) (rest : va_W) : zMi G l yX0_gcd cX0_gcd 2 (some .int) (gd b (a % b) + 1) 0 0 [.int (nI a), .int (nI b)] (rest) (fun (r : Int32) (_ : Unit) => r = nI (Nat.gcd a b)) (fun (_ : Unit) => rest) := by
  refine z_begI (by decide) (Nat.le_of_ble_eq_true rfl) (fun p e s m args below meth c ls Q hC hl hw hend => ?_)
  have hx := hC.hx
  have hb := hC.hb
  have hl : lv_has ls 2 [(0, .int (nI a)), (1, .int (nI b))] := hl
  refine lv_iload_n hx hb dX0_gcd_0 rfl (lv_at hl 1 rfl) ?_
  refine zj_ne (tgt := 8) hx hb (by omega) dX0_gcd_1 (by decide) (fun _ => ?_) (fun h => absurd h hb0)
  refine lv_iload_n hx hb dX0_gcd_8 rfl (lv_at hl 1 rfl) ?_
  refine lv_iload_n hx hb dX0_gcd_9 rfl (lv_at hl 0 rfl) ?_
  refine lv_iload_n hx hb dX0_gcd_10 rfl (lv_at hl 1 rfl) ?_
  refine zn_irem hx hb (by omega) (by omega) (by omega) dX0_gcd_11 ?_
  refine z_ci (z_runS (As := [.int (nI b), .int (nI (a % b))]) (rest := []) hC zs_X0_100 (hih G l  _) hw rfl rfl (Nat.le_of_ble_eq_true rfl) hl.1 ⟨by show _ ≤ (gd b (a % b) + 1); omega, by show _ ≤ 40 * (gd b (a % b) + 1); omega⟩ ⟨(Nat.le_of_ble_eq_true rfl), (Nat.le_of_ble_eq_true rfl)⟩ dX0_gcd_12) hw (fun _ => List.Perm.refl _) (fun r u H locs hp hw => ?_)
  obtain rfl : r = nI (Nat.gcd b (a % b)) := hp
  exact hend _ _ _ _ _ _ _ () hw (by rw [gcd_s a b]) (Nat.le_of_ble_eq_true rfl) (Nat.le_of_ble_eq_true rfl) dX0_gcd_15
theorem m_X0_gcd (G : zE) (l : Launch) (a b : Nat) (ha : a < 2147483648) (hb9 : b < 2147483648) (rest : va_W) : zMi G l yX0_gcd cX0_gcd 2 (some .int) (gd a b) 0 0 [.int (nI a), .int (nI b)] rest (fun (r : Int32) (_ : Unit) => r = nI (Nat.gcd a b)) (fun (_ : Unit) => rest) := by
  induction b using Nat.strongRecOn generalizing a G l rest with
  | _ b ih =>
    by_cases hb0 : b = 0
    · subst hb0
      rw [gd_0, Nat.gcd_zero_right]
      exact m_X0_gcd_0 G l a rest
    · rw [gd_s hb0]
      have h1 := Nat.mod_lt a (Nat.pos_of_ne_zero hb0)
      exact m_X0_gcd_s G l a b ha hb9 hb0 (fun G l rest => ih (a % b) h1 G l b hb9 (Nat.lt_trans h1 hb9) rest) rest
theorem stored_c {v pl nu ax le kn : Nat → Nat} {ps : Nat} (hR : sRel v pl nu ax le kn) (hps : ps = v 0) : orB (fun p => decide (0 < nu p)) ps = fullN v := by
  subst hps
  exact orB_congr (fun p hp => by rw [(hR.1 p hp).2])
theorem jayUp_end {v : Nat → Nat} {i q : Nat} : ∀ d, jayUp v i q (fullN v + 1 + d) = jayUp v i q (fullN v + 1)
  | 0 => rfl
  | d + 1 => by
    rw [show fullN v + 1 + (d + 1) = (fullN v + 1 + d) + 1 by omega, jayUp_skip (fun h => ?_), jayUp_end d]
    have h2 : (fullN v + 1 + d) &&& fullN v ≤ fullN v := Nat.and_le_right
    omega
theorem jay_bd2 {v : Nat → Nat} {i q m : Nat} (hH : Hw v) (hq : q ≤ 10) : jayUp v i q m ≤ 1000000000 := by
  by_cases h : m ≤ fullN v + 1
  · exact (jay_bound hH hq h).1
  · have e := jayUp_end (v := v) (i := i) (q := q) (m - (fullN v + 1))
    rw [show fullN v + 1 + (m - (fullN v + 1)) = m by omega] at e
    rw [e]; exact (jay_bound hH hq (Nat.le_refl _)).1
theorem jayH_Hg {v : Nat → Nat} {set : Nat} (hg : Hg v) : ∀ t, t ≤ v 0 → Hg (jayH v set t)
  | 0, _ => hg
  | t + 1, h => by
    have h9 := hg.1.1
    refine Hg_nuts (jayH_Hg hg t (by omega)) (by omega) ?_
    have := (hg.2.1 t h).2
    split
    · exact Nat.zero_le _
    · exact this
theorem jayH_ge {v : Nat → Nat} {set : Nat} : ∀ t j, 3 + 2 * t + 1 ≤ j → jayH v set t j = v j
  | 0, _, _ => rfl
  | t + 1, j, h => (updN_ne _ _ (by omega)).trans (jayH_ge t j (by omega))
theorem zv_X0_246 : zVs RX0 246 yX1_stored cX1_stored 3 (some .int) 0 := ⟨lw_V q1080 q1081 q1082 q50 q1083, ⟨by decide +kernel, by decide +kernel⟩, by decide +kernel⟩
set_option maxHeartbeats 4000000 in
theorem m_X0_jay (G : zE) (l : Launch) (kA : Nat → Nat) (hG : zG G kA) (co : Nat) (w : Nat → Nat) (zn : Nat → Nat) (A : AS) (ps : Nat) (mn : Nat) (dy : Nat) (bm : Int32) (sm : Int32) (lt : Int32) (gg : Int32) (pl : Nat → Nat) (nu : Nat → Nat) (ax : Nat → Nat) (le : Nat → Nat) (kn : Nat → Nat) (hA : AOk A) (hps : ps = aV A 0) (hmn : mn = aV A 1) (hdy : dy = aV A 2) (hR : sRel (aV A) pl nu ax le kn) (zr : Nat → Nat) (rps : Nat) (rdy : Nat) (rg : Int32) (rpl : Nat → Nat) (rnu : Nat → Nat) (rax : Nat → Nat) (rle : Nat → Nat) (rkn : Nat → Nat) (sf : Nat → Option Nat) (sq : Nat → Nat) (hbd : sBd rpl rnu rax rle rkn) (hsf : ∀ i, i < aV A 1 → sf i = some (sq i)) (x : Int32) (y : Int32) (z : Int32) (rest : va_W) : zMi G l yX0_jay cX0_jay 10 (some .int) 70 0 0 [.ref co, .int x, .int y, .int z] ((co, zo 0 (cF w (nI mn) bm sm lt)) :: (w 2, zo 1 (stF zn co (nI ps) (nI dy) (gg))) :: (zn 0, zc G 1 (zI 9 (vI pl))) :: (zn 1, zc G 1 (zI 9 (vI nu))) :: (zn 2, zc G 1 (zI 5 (vI ax))) :: (zn 3, zc G 1 (zI 5 (vI le))) :: (zn 4, zc G 2 (zI 5 (vI kn))) :: (w 3, zo 1 (stF zr co (nI rps) (nI rdy) (rg))) :: (zr 0, zc G 1 (zI 9 (vI rpl))) :: (zr 1, zc G 1 (zI 9 (vI rnu))) :: (zr 2, zc G 1 (zI 5 (vI rax))) :: (zr 3, zc G 1 (zI 5 (vI rle))) :: (zr 4, zc G 2 (zI 5 (vI rkn))) :: (w 0, zc G 4 (zO 5 sf)) :: (sqW sq (aV A) ++ rest)) (fun (r : Int32) u => r = F_jay A x y z ∧ sBd u.2.2.2.1 u.2.2.2.2.1 u.2.2.2.2.2.1 u.2.2.2.2.2.2.1 u.2.2.2.2.2.2.2) (fun (u : Nat × Nat × Int32 × (Nat → Nat) × (Nat → Nat) × (Nat → Nat) × (Nat → Nat) × (Nat → Nat)) => (co, zo 0 (cF w (nI mn) bm sm lt)) :: (w 2, zo 1 (stF zn co (nI ps) (nI dy) (gg))) :: (zn 0, zc G 1 (zI 9 (vI pl))) :: (zn 1, zc G 1 (zI 9 (vI nu))) :: (zn 2, zc G 1 (zI 5 (vI ax))) :: (zn 3, zc G 1 (zI 5 (vI le))) :: (zn 4, zc G 2 (zI 5 (vI kn))) :: (w 3, zo 1 (stF zr co (nI u.1) (nI u.2.1) (u.2.2.1))) :: (zr 0, zc G 1 (zI 9 (vI u.2.2.2.1))) :: (zr 1, zc G 1 (zI 9 (vI u.2.2.2.2.1))) :: (zr 2, zc G 1 (zI 5 (vI u.2.2.2.2.2.1))) :: (zr 3, zc G 1 (zI 5 (vI u.2.2.2.2.2.2.1))) :: (zr 4, zc G 2 (zI 5 (vI u.2.2.2.2.2.2.2))) :: (w 0, zc G 4 (zO 5 sf)) :: (sqW sq (aV A) ++ rest)) := by
  refine z_begI (by decide) (Nat.le_of_ble_eq_true rfl) (fun p e s m args below meth c ls Q hC hl hw hend => ?_)
  have hx := hC.hx
  have hb := hC.hb
  have hl : lv_has ls 10 [(0, .ref co), (1, .int x), (2, .int y), (3, .int z)] := hl
  have hw : zS G ((co, zo 0 (cF w (nI mn) bm sm lt)) :: (w 2, zo 1 (stF zn co (nI ps) (nI dy) (gg))) :: (zn 0, zc G 1 (zI 9 (vI pl))) :: (zn 1, zc G 1 (zI 9 (vI nu))) :: (zn 2, zc G 1 (zI 5 (vI ax))) :: (zn 3, zc G 1 (zI 5 (vI le))) :: (zn 4, zc G 2 (zI 5 (vI kn))) :: (w 3, zo 1 (stF zr co (nI rps) (nI rdy) (rg))) :: (zr 0, zc G 1 (zI 9 (vI rpl))) :: (zr 1, zc G 1 (zI 9 (vI rnu))) :: (zr 2, zc G 1 (zI 5 (vI rax))) :: (zr 3, zc G 1 (zI 5 (vI rle))) :: (zr 4, zc G 2 (zI 5 (vI rkn))) :: (w 0, zc G 4 (zO 5 sf)) :: (sqW sq (aV A) ++ rest)) s s.heap [] := hw
  have hz := hG s hC.hZ.1
  have hgv := hA.2.2.1.1
  have hH : Hw (aV A) := hgv.1
  have hpl := fun j => (hR.2.2.2 j).1
  have hnu := fun j => (hR.2.2.2 j).2.1
  have hax := fun j => (hR.2.2.2 j).2.2.1
  have hle := fun j => (hR.2.2.2 j).2.2.2.1
  have hkn := fun j => (hR.2.2.2 j).2.2.2.2
  have hp9 : ps ≤ 9 := by rw [hps]; exact hH.1
  have hm5 : mn ≤ 5 := by rw [hmn]; exact hH.2.1
  have hd999 : dy ≤ 999 := by rw [hdy]; exact hA.2.2.1.2.2
  refine lv_aload_n hx hb dX0_jay_0 rfl (lv_at hl 0 rfl) ?_
  refine lv_iload_n hx hb dX0_jay_1 rfl (lv_at hl 1 rfl) ?_
  refine z_ci (z_runV (As := [.int x]) (rest := []) hC zv_X0_170 (m_X0_isSquirrel G l co w mn bm sm lt x (by omega) (zrem [0] _)) hw (hw.perm (z_cut (is := [0]) (cells := [(co, zo 0 (cF w (nI mn) bm sm lt))]) rfl rfl)) 0 rfl rfl rfl rfl rfl (Nat.le_of_ble_eq_true rfl) hl.1 ⟨Nat.le_of_ble_eq_true rfl, Nat.le_of_ble_eq_true rfl⟩ ⟨(Nat.le_of_ble_eq_true rfl), (Nat.le_of_ble_eq_true rfl)⟩ dX0_jay_2) hw (fun _ => z_keep (is := [0]) (cs := [(co, zo 0 (cF w (nI mn) bm sm lt))]) rfl rfl) (fun r u H locs hp hw => ?_)
  obtain rfl : r = bI (isP mn x) := hp
  refine zb_ne (tgt := 11) hx hb dX0_jay_5 (by decide) (fun c_5 => ?_) (fun c_5 => ?_)
  · skip
    obtain ⟨i, hi, rfl⟩ := c_5
    have hl : lv_has ls 10 [(0, .ref co), (1, .int (nI i)), (2, .int y), (3, .int z)] := hl
    have hia : i < aV A 1 := by omega
    have hi5 : i < 5 := by omega
    have hRi := hR.2.2.1 i hi5
    have hRa := hR.2.1 i hia
    refine lv_iload_n hx hb dX0_jay_11 rfl (lv_at hl 2 rfl) ?_
    refine lv_i2l (v := (iL y)) hx hb dX0_jay_12 rfl ?_
    refine lv_lconst (v := lN 0) hx hb dX0_jay_13 rfl ?_
    refine lv_ldc2 (v := (lN 10)) hx hb hC.hown (hC.hts _ q1079) dX0_jay_14 ?_
    refine z_ci (z_runS (As := [.long (iL y), .long (lN 0), .long (lN 10)]) (rest := []) hC zs_X0_126 (m_X0_in G l y 0 10 (by decide) (by decide) _) hw rfl rfl (Nat.le_of_ble_eq_true rfl) hl.1 ⟨Nat.le_of_ble_eq_true rfl, Nat.le_of_ble_eq_true rfl⟩ ⟨(Nat.le_of_ble_eq_true rfl), (Nat.le_of_ble_eq_true rfl)⟩ dX0_jay_17) hw (fun _ => List.Perm.refl _) (fun r u H locs hp hw => ?_)
    obtain rfl : r = bI (inR y 0 10) := hp
    refine zb_eq (tgt := 33) hx hb dX0_jay_20 (by decide) (fun c_20 => ?_) (fun c_20 => ?_)
    · skip
      refine lv_bipush (v := (-3)) hx hb dX0_jay_33 zb_m3 ?_
      exact hend _ _ _ _ _ _ _ (rps, rdy, rg, rpl, rnu, rax, rle, rkn) hw ⟨by first | exact ((ifP_t ⟨i, hia, rfl⟩).trans (ifP_f (fun h => c_20 h.1))).symm | exact ((ifP_t ⟨i, hia, rfl⟩).trans (ifP_f (fun h => c_30 h.2))).symm, hbd⟩ (Nat.le_of_ble_eq_true rfl) (Nat.le_of_ble_eq_true rfl) dX0_jay_35
    · skip
      obtain ⟨k, hk1, hk2, rfl⟩ := c_20
      have hl : lv_has ls 10 [(0, .ref co), (1, .int (nI i)), (2, .int (nI k)), (3, .int z)] := hl
      refine lv_iload_n hx hb dX0_jay_23 rfl (lv_at hl 3 rfl) ?_
      refine lv_i2l (v := (iL z)) hx hb dX0_jay_24 rfl ?_
      refine lv_lconst (v := lN 0) hx hb dX0_jay_25 rfl ?_
      refine lv_lconst (v := lN 1) hx hb dX0_jay_26 rfl ?_
      refine z_ci (z_runS (As := [.long (iL z), .long (lN 0), .long (lN 1)]) (rest := []) hC zs_X0_126 (m_X0_in G l z 0 1 (by decide) (by decide) _) hw rfl rfl (Nat.le_of_ble_eq_true rfl) hl.1 ⟨Nat.le_of_ble_eq_true rfl, Nat.le_of_ble_eq_true rfl⟩ ⟨(Nat.le_of_ble_eq_true rfl), (Nat.le_of_ble_eq_true rfl)⟩ dX0_jay_27) hw (fun _ => List.Perm.refl _) (fun r u H locs hp hw => ?_)
      obtain rfl : r = bI (inR z 0 1) := hp
      refine zb_ne (tgt := 36) hx hb dX0_jay_30 (by decide) (fun c_30 => ?_) (fun c_30 => ?_)
      · skip
        obtain ⟨j, hj1, hj2, rfl⟩ := c_30
        have hl : lv_has ls 10 [(0, .ref co), (1, .int (nI i)), (2, .int (nI k)), (3, .int (nI j))] := hl
        refine lv_aload_n hx hb dX0_jay_36 rfl (lv_at hl 0 rfl) ?_
        refine z_get (v := .ref (w 2)) hC zf_X0_27_0 hw 0 rfl rfl dX0_jay_37 ?_
        refine lv_iload_n hx hb dX0_jay_40 rfl (lv_at hl 1 rfl) ?_
        refine z_ci (z_runV (As := [.int (nI i)]) (rest := []) hC zv_X0_213 (m_X1_isGone G l (w 2) co zn ps dy gg le i (by omega) (by first | assumption | (have := hle j; omega)) (zrem [1, 5] _)) hw (hw.perm (z_cut (is := [1, 5]) (cells := [(w 2, zo 1 (stF zn co (nI ps) (nI dy) gg)), (zn 3, zc G 1 (zI 5 (vI le)))]) rfl rfl)) 1 rfl rfl rfl rfl rfl (Nat.le_of_ble_eq_true rfl) hl.1 ⟨Nat.le_of_ble_eq_true rfl, Nat.le_of_ble_eq_true rfl⟩ ⟨(Nat.le_of_ble_eq_true rfl), (Nat.le_of_ble_eq_true rfl)⟩ dX0_jay_41) hw (fun _ => z_keep (is := [1, 5]) (cs := [(w 2, zo 1 (stF zn co (nI ps) (nI dy) gg)), (zn 3, zc G 1 (zI 5 (vI le)))]) rfl rfl) (fun r u H locs hp hw => ?_)
        obtain rfl : r = bI (le i = 3) := hp
        refine zb_eq (tgt := 50) hx hb dX0_jay_44 (by decide) (fun c_44 => ?_) (fun c_44 => ?_)
        · skip
          refine lv_aload_n hx hb dX0_jay_50 rfl (lv_at hl 0 rfl) ?_
          refine z_get (v := .ref (w 2)) hC zf_X0_27_0 hw 0 rfl rfl dX0_jay_51 ?_
          refine z_ci (z_runV (As := []) (rest := []) hC zv_X0_246 (m_X1_stored G l (w 2) co zn ps dy gg nu (by omega) (by first | assumption | (have := hnu j; omega)) (zrem [1, 3] _)) hw (hw.perm (z_cut (is := [1, 3]) (cells := [(w 2, zo 1 (stF zn co (nI ps) (nI dy) gg)), (zn 1, zc G 1 (zI 9 (vI nu)))]) rfl rfl)) 1 rfl rfl rfl rfl rfl (Nat.le_of_ble_eq_true rfl) hl.1 ⟨Nat.le_of_ble_eq_true rfl, Nat.le_of_ble_eq_true rfl⟩ ⟨(Nat.le_of_ble_eq_true rfl), (Nat.le_of_ble_eq_true rfl)⟩ dX0_jay_54) hw (fun _ => z_keep (is := [1, 3]) (cs := [(w 2, zo 1 (stF zn co (nI ps) (nI dy) gg)), (zn 1, zc G 1 (zI 9 (vI nu)))]) rfl rfl) (fun r u H locs hp hw => ?_)
          obtain rfl : r = nI (orB (fun p => decide (0 < nu p)) ps) := hp
          have hst := stored_c hR hps
          rw [hst]
          have hf9 := fullN_lt hH
          have ho9 := onesN_le (fullN (aV A)) 9
          have hb10 := (jay_bound (i := i) (m := 0) hH hk2 (Nat.zero_le _)).2
          have hp2 : 2 ^ ps ≤ 512 := Nat.pow_le_pow_right (n := 2) (by decide) hp9
          have hfp : fullN (aV A) < 2 ^ ps := by rw [hps]; exact orB_lt _ _
          refine lv_istore (lv' := [(4, .int (nI (fullN (aV A)))), (0, .ref co), (1, .int (nI i)), (2, .int (nI k)), (3, .int (nI j))]) hx hb dX0_jay_57 hl (by decide) rfl (fun ls hl => ?_)
          refine lv_iconst (v := (nI 0)) hx hb dX0_jay_59 zk_0 ?_
          refine lv_istore (lv' := [(5, .int (nI 0)), (4, .int (nI (fullN (aV A)))), (0, .ref co), (1, .int (nI i)), (2, .int (nI k)), (3, .int (nI j))]) hx hb dX0_jay_60 hl (by decide) rfl (fun ls hl => ?_)
          refine lv_iconst (v := (nI 1)) hx hb dX0_jay_62 zk_1 ?_
          refine lv_istore (lv' := [(6, .int (nI 1)), (5, .int (nI 0)), (4, .int (nI (fullN (aV A)))), (0, .ref co), (1, .int (nI i)), (2, .int (nI k)), (3, .int (nI j))]) hx hb dX0_jay_63 hl (by decide) rfl (fun ls hl => ?_)
          have hl : lv_has ls 10 [(6, .int (nI (10 ^ (onesN (fullN (aV A)) 9 - onesN (fullN (aV A)) 9)))), (5, .int (nI 0)), (4, .int (nI (fullN (aV A)))), (0, .ref co), (1, .int (nI i)), (2, .int (nI k)), (3, .int (nI j))] := by rw [Nat.sub_self]; exact hl
          refine lv_iload hx hb dX0_jay_65 (lv_at hl 2 rfl) ?_
          refine z_ci (z_runS (As := [.int (nI (fullN (aV A)))]) (rest := []) hC zs_X0_228 (m_J18_bitCount G l (nI (fullN (aV A))) (fullN (aV A)) hf9 rfl _) hw rfl rfl (Nat.le_of_ble_eq_true rfl) hl.1 ⟨Nat.le_of_ble_eq_true rfl, Nat.le_of_ble_eq_true rfl⟩ ⟨(Nat.le_of_ble_eq_true rfl), (Nat.le_of_ble_eq_true rfl)⟩ dX0_jay_67) hw (fun _ => List.Perm.refl _) (fun r u H locs hp hw => ?_)
          obtain rfl : r = nI (onesN (fullN (aV A)) 9) := hp
          refine lv_istore (lv' := [(7, .int (nI (onesN (fullN (aV A)) 9))), (6, .int (nI (10 ^ (onesN (fullN (aV A)) 9 - onesN (fullN (aV A)) 9)))), (5, .int (nI 0)), (4, .int (nI (fullN (aV A)))), (0, .ref co), (1, .int (nI i)), (2, .int (nI k)), (3, .int (nI j))]) hx hb dX0_jay_70 hl (by decide) rfl (fun ls hl => ?_)
          have loop_72 : ∀ (fuel : Nat) (d : Nat), (d ≤ onesN (fullN (aV A)) 9) → (d) < fuel → ∀ (H : Heap) (locs : List Loc) (ls : Array Slot), zS G ((co, zo 0 (cF w (nI mn) bm sm lt)) :: (w 2, zo 1 (stF zn co (nI ps) (nI dy) gg)) :: (zn 0, zc G 1 (zI 9 (vI pl))) :: (zn 1, zc G 1 (zI 9 (vI nu))) :: (zn 2, zc G 1 (zI 5 (vI ax))) :: (zn 3, zc G 1 (zI 5 (vI le))) :: (zn 4, zc G 2 (zI 5 (vI kn))) :: (w 3, zo 1 (stF zr co (nI rps) (nI rdy) (rg))) :: (zr 0, zc G 1 (zI 9 (vI rpl))) :: (zr 1, zc G 1 (zI 9 (vI rnu))) :: (zr 2, zc G 1 (zI 5 (vI rax))) :: (zr 3, zc G 1 (zI 5 (vI rle))) :: (zr 4, zc G 2 (zI 5 (vI rkn))) :: (w 0, zc G 4 (zO 5 sf)) :: (sqW sq (aV A) ++ rest)) s H locs → lv_has ls 10 [(0, .ref co), (1, .int (nI i)), (2, .int (nI k)), (3, .int (nI j)), (4, .int (nI (fullN (aV A)))), (5, .int (nI 0)), (6, .int (nI (10 ^ (onesN (fullN (aV A)) 9 - d)))), (7, .int (nI d))] → W p l e (zR 70 0 0) s m args below meth c H locs 0 0 Q (F0 m 72 ls []) := by
            intro fuel
            induction fuel with
            | zero => intro d hd hfuel; exact absurd hfuel (Nat.not_lt_zero _)
            | succ fuel_72 ih_72 =>
              intro d hd hfuel_72 H locs ls hw hl
              refine lv_iload hx hb dX0_jay_72 (lv_at hl 7 rfl) ?_
              refine zj_le (tgt := 90) hx hb (by omega) dX0_jay_74 (by decide) (fun c_74 => ?_) (fun c_74 => ?_)
              · skip
                obtain rfl : d = 0 := by omega
                have hl : lv_has ls 10 [(0, .ref co), (1, .int (nI i)), (2, .int (nI k)), (3, .int (nI j)), (4, .int (nI (fullN (aV A)))), (5, .int (nI 0)), (6, .int (nI (10 ^ onesN (fullN (aV A)) 9))), (7, .int (nI 0))] := by exact hl
                refine lv_iconst (v := (nI 0)) hx hb dX0_jay_90 zk_0 ?_
                refine lv_istore (lv' := [(7, .int (nI 0)), (0, .ref co), (1, .int (nI i)), (2, .int (nI k)), (3, .int (nI j)), (4, .int (nI (fullN (aV A)))), (5, .int (nI 0)), (6, .int (nI (10 ^ onesN (fullN (aV A)) 9)))]) hx hb dX0_jay_91 hl (by decide) rfl (fun ls hl => ?_)
                have loop_93 : ∀ (fuel : Nat) (set : Nat) (q1 : Nat) (q2 : Nat) (q3 : Int32) (p1 : Nat → Nat) (p2 : Nat → Nat) (p3 : Nat → Nat) (p4 : Nat → Nat) (p5 : Nat → Nat), (set ≤ 2 ^ ps) → (sBd p1 p2 p3 p4 p5) → (2 ^ ps - set) < fuel → ∀ (H : Heap) (locs : List Loc) (ls : Array Slot), zS G ((co, zo 0 (cF w (nI mn) bm sm lt)) :: (w 2, zo 1 (stF zn co (nI ps) (nI dy) gg)) :: (zn 0, zc G 1 (zI 9 (vI pl))) :: (zn 1, zc G 1 (zI 9 (vI nu))) :: (zn 2, zc G 1 (zI 5 (vI ax))) :: (zn 3, zc G 1 (zI 5 (vI le))) :: (zn 4, zc G 2 (zI 5 (vI kn))) :: (w 3, zo 1 (stF zr co (nI q1) (nI q2) (q3))) :: (zr 0, zc G 1 (zI 9 (vI p1))) :: (zr 1, zc G 1 (zI 9 (vI p2))) :: (zr 2, zc G 1 (zI 5 (vI p3))) :: (zr 3, zc G 1 (zI 5 (vI p4))) :: (zr 4, zc G 2 (zI 5 (vI p5))) :: (w 0, zc G 4 (zO 5 sf)) :: (sqW sq (aV A) ++ rest)) s H locs → lv_has ls 10 [(0, .ref co), (1, .int (nI i)), (2, .int (nI k)), (3, .int (nI j)), (4, .int (nI (fullN (aV A)))), (5, .int (nI (jayUp (aV A) i k set))), (6, .int (nI (10 ^ onesN (fullN (aV A)) 9))), (7, .int (nI set))] → W p l e (zR 70 0 0) s m args below meth c H locs 0 0 Q (F0 m 93 ls []) := by
                  intro fuel
                  induction fuel with
                  | zero => intro set q1 q2 q3 p1 p2 p3 p4 p5 hset hbd1 hfuel; exact absurd hfuel (Nat.not_lt_zero _)
                  | succ fuel_93 ih_93 =>
                    intro set q1 q2 q3 p1 p2 p3 p4 p5 hset hbd1 hfuel_93 H locs ls hw hl
                    refine lv_iload hx hb dX0_jay_93 (lv_at hl 7 rfl) ?_
                    refine lv_iconst (v := (nI 1)) hx hb dX0_jay_95 zk_1 ?_
                    refine lv_aload_n hx hb dX0_jay_96 rfl (lv_at hl 0 rfl) ?_
                    refine z_get (v := .ref (w 2)) hC zf_X0_27_0 hw 0 rfl rfl dX0_jay_97 ?_
                    refine z_get (v := .int (nI ps)) hC zf_X0_76_1 hw 1 rfl rfl dX0_jay_100 ?_
                    refine zv_ishl (v := (nI (2 ^ ps))) hx hb (nI_shl1 (by omega)) dX0_jay_103 ?_
                    refine zi_ge (tgt := 272) hx hb (by omega) (by omega) dX0_jay_104 (by decide) (fun c_104 => ?_) (fun c_104 => ?_)
                    · skip
                      obtain ⟨up, hup⟩ : ∃ u, u = jayUp (aV A) i k set := ⟨_, rfl⟩
                      have hUE : up = jayUp (aV A) i k (fullN (aV A) + 1) := by rw [hup, ← jayUp_end (set - (fullN (aV A) + 1))]; congr 1; omega
                      have hbS := jay_bd2 (i := i) (q := k) (m := set) hH hk2
                      have hl : lv_has ls 10 [(0, .ref co), (1, .int (nI i)), (2, .int (nI k)), (3, .int (nI j)), (4, .int (nI (fullN (aV A)))), (5, .int (nI up)), (6, .int (nI (10 ^ onesN (fullN (aV A)) 9))), (7, .int (nI set))] := by rw [hup]; exact hl
                      have hpo := Nat.pow_pos (a := 10) (n := onesN (fullN (aV A)) 9) (by decide)
                      have hu9 : up < 2147483648 := by omega
                      have ho31 : 10 ^ onesN (fullN (aV A)) 9 < 2147483648 := by omega
                      have hgd : gd up (10 ^ onesN (fullN (aV A)) 9) ≤ 60 := gd_le 30 _ _ (Nat.lt_of_le_of_lt hb10 (by decide))
                      have hg0 : 0 < Nat.gcd up (10 ^ onesN (fullN (aV A)) 9) := Nat.gcd_pos_of_pos_right _ hpo
                      have hg31 : Nat.gcd up (10 ^ onesN (fullN (aV A)) 9) < 2147483648 := Nat.lt_of_le_of_lt (Nat.gcd_le_right _ hpo) ho31
                      have join_283 : ∀ (x9 : Nat), (x9 = if j = 0 then up else 10 ^ onesN (fullN (aV A)) 9) → ∀ (H : Heap) (locs : List Loc) (ls : Array Slot), zS G ((co, zo 0 (cF w (nI mn) bm sm lt)) :: (w 2, zo 1 (stF zn co (nI ps) (nI dy) gg)) :: (zn 0, zc G 1 (zI 9 (vI pl))) :: (zn 1, zc G 1 (zI 9 (vI nu))) :: (zn 2, zc G 1 (zI 5 (vI ax))) :: (zn 3, zc G 1 (zI 5 (vI le))) :: (zn 4, zc G 2 (zI 5 (vI kn))) :: (w 3, zo 1 (stF zr co (nI q1) (nI q2) (q3))) :: (zr 0, zc G 1 (zI 9 (vI p1))) :: (zr 1, zc G 1 (zI 9 (vI p2))) :: (zr 2, zc G 1 (zI 5 (vI p3))) :: (zr 3, zc G 1 (zI 5 (vI p4))) :: (zr 4, zc G 2 (zI 5 (vI p5))) :: (w 0, zc G 4 (zO 5 sf)) :: (sqW sq (aV A) ++ rest)) s H locs → lv_has ls 10 [(0, .ref co), (1, .int (nI i)), (2, .int (nI k)), (3, .int (nI j)), (4, .int (nI (fullN (aV A)))), (5, .int (nI up)), (6, .int (nI (10 ^ onesN (fullN (aV A)) 9))), (7, .int (nI set))] → W p l e (zR 70 0 0) s m args below meth c H locs 0 0 Q (F0 m 283 ls [.int (nI x9)]) := by
                        intro x9 hx9 H locs ls hw hl
                        subst hx9
                        refine lv_iload hx hb dX0_jay_283 (lv_at hl 5 rfl) ?_
                        refine lv_iload hx hb dX0_jay_285 (lv_at hl 6 rfl) ?_
                        refine z_ci (z_runS (As := [.int (nI up), .int (nI (10 ^ onesN (fullN (aV A)) 9))]) (rest := [.int (nI (if j = 0 then up else 10 ^ onesN (fullN (aV A)) 9))]) hC zs_X0_100 (m_X0_gcd G l up (10 ^ onesN (fullN (aV A)) 9) hu9 (by omega) _) hw rfl rfl (Nat.le_of_ble_eq_true rfl) hl.1 ⟨by show _ ≤ 70; omega, by show _ ≤ 40 * 70; omega⟩ ⟨(Nat.le_of_ble_eq_true rfl), (Nat.le_of_ble_eq_true rfl)⟩ dX0_jay_287) hw (fun _ => List.Perm.refl _) (fun r u H locs hp hw => ?_)
                        obtain rfl : r = nI (Nat.gcd up (10 ^ onesN (fullN (aV A)) 9)) := hp
                        refine zn_idiv hx hb (by split <;> assumption) hg0 hg31 dX0_jay_290 ?_
                        exact hend _ _ _ _ _ _ _ (q1, q2, q3, p1, p2, p3, p4, p5) hw ⟨by unfold F_jay; rw [ifP_t ⟨i, hia, rfl⟩, ifP_t ⟨⟨k, hk1, hk2, rfl⟩, ⟨j, hj1, hj2, rfl⟩⟩, cl_nI (by omega), cl_nI (by omega), cl_nI (by omega), ifP_f (show ¬ goneN (aV A) i from fun q => c_44 (hRi.1.trans q)), ← hUE], hbd1⟩ (Nat.le_of_ble_eq_true rfl) (Nat.le_of_ble_eq_true rfl) dX0_jay_291
                      refine lv_iload_n hx hb dX0_jay_272 rfl (lv_at hl 3 rfl) ?_
                      refine zj_ne (tgt := 281) hx hb (by omega) dX0_jay_273 (by decide) (fun c_273 => ?_) (fun c_273 => ?_)
                      · skip
                        refine lv_iload hx hb dX0_jay_281 (lv_at hl 6 rfl) ?_
                        exact join_283 (10 ^ onesN (fullN (aV A)) 9) (by first | rw [if_pos (by omega)] | rw [if_neg (by omega)]) H locs ls hw (lv_sub hl [0, 1, 2, 3, 4, 5, 6, 7] rfl)
                      · skip
                        refine lv_iload hx hb dX0_jay_276 (lv_at hl 5 rfl) ?_
                        refine lv_goto (tgt := 283) hx hb dX0_jay_278 (by decide) ?_
                        exact join_283 up (by first | rw [if_pos (by omega)] | rw [if_neg (by omega)]) H locs ls hw (lv_sub hl [0, 1, 2, 3, 4, 5, 6, 7] rfl)
                    · skip
                      refine lv_iload hx hb dX0_jay_107 (lv_at hl 7 rfl) ?_
                      refine lv_iload hx hb dX0_jay_109 (lv_at hl 4 rfl) ?_
                      refine lv_iconst (v := -1) hx hb dX0_jay_111 zk_m1 ?_
                      refine lv_ixor hx hb dX0_jay_112 ?_
                      refine zv_iand (v := (nI (set ^^^ (set &&& (fullN (aV A)))))) hx hb (nI_andnot _ _) dX0_jay_113 ?_
                      refine zj_eq (tgt := 120) hx hb (by have : set ^^^ (set &&& fullN (aV A)) < 2 ^ 9 := Nat.xor_lt_two_pow (by omega) (Nat.lt_of_le_of_lt Nat.and_le_left (by omega)); omega) dX0_jay_114 (by decide) (fun c_114 => ?_) (fun c_114 => ?_)
                      · skip
                        have hss := sub_iff.mp c_114
                        refine lv_iconst (v := (nI 1)) hx hb dX0_jay_120 zk_1 ?_
                        refine lv_istore (lv' := [(8, .int (nI 1)), (0, .ref co), (1, .int (nI i)), (2, .int (nI k)), (3, .int (nI j)), (4, .int (nI (fullN (aV A)))), (5, .int (nI (jayUp (aV A) i k set))), (6, .int (nI (10 ^ onesN (fullN (aV A)) 9))), (7, .int (nI set))]) hx hb dX0_jay_121 hl (by decide) rfl (fun ls hl => ?_)
                        refine lv_aload_n hx hb dX0_jay_123 rfl (lv_at hl 1 rfl) ?_
                        refine z_get (v := .ref (w 3)) hC zf_X0_109_0 hw 0 rfl rfl dX0_jay_124 ?_
                        refine lv_aload_n hx hb dX0_jay_127 rfl (lv_at hl 1 rfl) ?_
                        refine z_get (v := .ref (w 2)) hC zf_X0_27_0 hw 0 rfl rfl dX0_jay_128 ?_
                        refine z_cq (z_runV (As := [.ref (w 2)]) (rest := []) hC zv_X0_34 (m_X1_set G l (w 3) (w 2) co zr zn q1 q2 ps dy q3 gg p1 p2 p3 p4 p5 pl nu ax le kn hpl hnu hax hle hkn (zrem [7, 8, 9, 10, 11, 12, 1, 2, 3, 4, 5, 6] _)) hw (hw.perm (z_cut (is := [7, 8, 9, 10, 11, 12, 1, 2, 3, 4, 5, 6]) (cells := [(w 3, zo 1 (stF zr co (nI q1) (nI q2) (q3))), (zr 0, zc G 1 (zI 9 (vI p1))), (zr 1, zc G 1 (zI 9 (vI p2))), (zr 2, zc G 1 (zI 5 (vI p3))), (zr 3, zc G 1 (zI 5 (vI p4))), (zr 4, zc G 2 (zI 5 (vI p5))), (w 2, zo 1 (stF zn co (nI ps) (nI dy) (gg))), (zn 0, zc G 1 (zI 9 (vI pl))), (zn 1, zc G 1 (zI 9 (vI nu))), (zn 2, zc G 1 (zI 5 (vI ax))), (zn 3, zc G 1 (zI 5 (vI le))), (zn 4, zc G 2 (zI 5 (vI kn)))]) rfl rfl)) 7 rfl rfl rfl rfl rfl (Nat.le_of_ble_eq_true rfl) hl.1 ⟨Nat.le_of_ble_eq_true rfl, Nat.le_of_ble_eq_true rfl⟩ ⟨(Nat.le_of_ble_eq_true rfl), (Nat.le_of_ble_eq_true rfl)⟩ dX0_jay_131) hw (fun _ => z_pput (is := [7, 8, 9, 10, 11, 12, 1, 2, 3, 4, 5, 6]) (cells := [(w 3, zo 1 (stF zr co (nI q1) (nI q2) (q3))), (zr 0, zc G 1 (zI 9 (vI p1))), (zr 1, zc G 1 (zI 9 (vI p2))), (zr 2, zc G 1 (zI 5 (vI p3))), (zr 3, zc G 1 (zI 5 (vI p4))), (zr 4, zc G 2 (zI 5 (vI p5))), (w 2, zo 1 (stF zn co (nI ps) (nI dy) (gg))), (zn 0, zc G 1 (zI 9 (vI pl))), (zn 1, zc G 1 (zI 9 (vI nu))), (zn 2, zc G 1 (zI 5 (vI ax))), (zn 3, zc G 1 (zI 5 (vI le))), (zn 4, zc G 2 (zI 5 (vI kn)))]) (cells' := [(w 3, zo 1 (stF zr co (nI ps) (nI dy) (q3))), (zr 0, zc G 1 (zI 9 (vI (cpN pl p1 9)))), (zr 1, zc G 1 (zI 9 (vI (cpN nu p2 9)))), (zr 2, zc G 1 (zI 5 (vI (cpN ax p3 5)))), (zr 3, zc G 1 (zI 5 (vI (cpN le p4 5)))), (zr 4, zc G 2 (zI 5 (vI (cpN kn p5 5)))), (w 2, zo 1 (stF zn co (nI ps) (nI dy) (gg))), (zn 0, zc G 1 (zI 9 (vI pl))), (zn 1, zc G 1 (zI 9 (vI nu))), (zn 2, zc G 1 (zI 5 (vI ax))), (zn 3, zc G 1 (zI 5 (vI le))), (zn 4, zc G 2 (zI 5 (vI kn)))]) rfl rfl rfl) (fun r u H locs hp hw => ?_)
                        have hw : zS G ((co, zo 0 (cF w (nI mn) bm sm lt)) :: (w 2, zo 1 (stF zn co (nI ps) (nI dy) (gg))) :: (zn 0, zc G 1 (zI 9 (vI pl))) :: (zn 1, zc G 1 (zI 9 (vI nu))) :: (zn 2, zc G 1 (zI 5 (vI ax))) :: (zn 3, zc G 1 (zI 5 (vI le))) :: (zn 4, zc G 2 (zI 5 (vI kn))) :: (w 3, zo 1 (stF zr co (nI ps) (nI dy) (q3))) :: (zr 0, zc G 1 (zI 9 (vI (cpN pl p1 9)))) :: (zr 1, zc G 1 (zI 9 (vI (cpN nu p2 9)))) :: (zr 2, zc G 1 (zI 5 (vI (cpN ax p3 5)))) :: (zr 3, zc G 1 (zI 5 (vI (cpN le p4 5)))) :: (zr 4, zc G 2 (zI 5 (vI (cpN kn p5 5)))) :: (w 0, zc G 4 (zO 5 sf)) :: (sqW sq (aV A) ++ rest)) s H locs := hw
                        obtain rfl : r = some (w 3) := hp
                        refine lv_pop hx hb dX0_jay_134 rfl ?_
                        refine lv_iconst (v := (nI 0)) hx hb dX0_jay_135 zk_0 ?_
                        refine lv_istore (lv' := [(9, .int (nI 0)), (8, .int (nI 1)), (0, .ref co), (1, .int (nI i)), (2, .int (nI k)), (3, .int (nI j)), (4, .int (nI (fullN (aV A)))), (5, .int (nI (jayUp (aV A) i k set))), (6, .int (nI (10 ^ onesN (fullN (aV A)) 9))), (7, .int (nI set))]) hx hb dX0_jay_136 hl (by decide) rfl (fun ls hl => ?_)
                        have loop_138 : ∀ (fuel : Nat) (t : Nat) (nq : Nat → Nat), (t ≤ ps) → (sRel (jayH (aV A) set t) (cpN pl p1 9) nq (cpN ax p3 5) (cpN le p4 5) (cpN kn p5 5)) → (ps - t) < fuel → ∀ (H : Heap) (locs : List Loc) (ls : Array Slot), zS G ((co, zo 0 (cF w (nI mn) bm sm lt)) :: (w 2, zo 1 (stF zn co (nI ps) (nI dy) (gg))) :: (zn 0, zc G 1 (zI 9 (vI pl))) :: (zn 1, zc G 1 (zI 9 (vI nu))) :: (zn 2, zc G 1 (zI 5 (vI ax))) :: (zn 3, zc G 1 (zI 5 (vI le))) :: (zn 4, zc G 2 (zI 5 (vI kn))) :: (w 3, zo 1 (stF zr co (nI ps) (nI dy) (q3))) :: (zr 0, zc G 1 (zI 9 (vI (cpN pl p1 9)))) :: (zr 1, zc G 1 (zI 9 (vI nq))) :: (zr 2, zc G 1 (zI 5 (vI (cpN ax p3 5)))) :: (zr 3, zc G 1 (zI 5 (vI (cpN le p4 5)))) :: (zr 4, zc G 2 (zI 5 (vI (cpN kn p5 5)))) :: (w 0, zc G 4 (zO 5 sf)) :: (sqW sq (aV A) ++ rest)) s H locs → lv_has ls 10 [(0, .ref co), (1, .int (nI i)), (2, .int (nI k)), (3, .int (nI j)), (4, .int (nI (fullN (aV A)))), (5, .int (nI (jayUp (aV A) i k set))), (6, .int (nI (10 ^ onesN (fullN (aV A)) 9))), (7, .int (nI set)), (8, .int (nI (jayW (fullN (aV A)) set k t))), (9, .int (nI t))] → W p l e (zR 70 0 0) s m args below meth c H locs 0 0 Q (F0 m 138 ls []) := by
                          intro fuel
                          induction fuel with
                          | zero => intro t nq ht hRq hfuel; exact absurd hfuel (Nat.not_lt_zero _)
                          | succ fuel_138 ih_138 =>
                            intro t nq ht hRq hfuel_138 H locs ls hw hl
                            refine lv_iload hx hb dX0_jay_138 (lv_at hl 9 rfl) ?_
                            refine lv_aload_n hx hb dX0_jay_140 rfl (lv_at hl 0 rfl) ?_
                            refine z_get (v := .ref (w 2)) hC zf_X0_27_0 hw 0 rfl rfl dX0_jay_141 ?_
                            refine z_get (v := .int (nI ps)) hC zf_X0_76_1 hw 1 rfl rfl dX0_jay_144 ?_
                            refine zi_ge (tgt := 227) hx hb (by omega) (by omega) dX0_jay_147 (by decide) (fun c_147 => ?_) (fun c_147 => ?_)
                            · skip
                              obtain rfl : ps = t := by omega
                              have hl : lv_has ls 10 [(0, .ref co), (1, .int (nI i)), (2, .int (nI k)), (3, .int (nI j)), (4, .int (nI (fullN (aV A)))), (5, .int (nI (jayUp (aV A) i k set))), (6, .int (nI (10 ^ onesN (fullN (aV A)) 9))), (7, .int (nI set)), (8, .int (nI (jayW (fullN (aV A)) set k ps))), (9, .int (nI ps))] := hl
                              have hw : zS G ((co, zo 0 (cF w (nI mn) bm sm lt)) :: (w 2, zo 1 (stF zn co (nI ps) (nI dy) (gg))) :: (zn 0, zc G 1 (zI 9 (vI pl))) :: (zn 1, zc G 1 (zI 9 (vI nu))) :: (zn 2, zc G 1 (zI 5 (vI ax))) :: (zn 3, zc G 1 (zI 5 (vI le))) :: (zn 4, zc G 2 (zI 5 (vI kn))) :: (w 3, zo 1 (stF zr co (nI ps) (nI dy) (q3))) :: (zr 0, zc G 1 (zI 9 (vI (cpN pl p1 9)))) :: (zr 1, zc G 1 (zI 9 (vI nq))) :: (zr 2, zc G 1 (zI 5 (vI (cpN ax p3 5)))) :: (zr 3, zc G 1 (zI 5 (vI (cpN le p4 5)))) :: (zr 4, zc G 2 (zI 5 (vI (cpN kn p5 5)))) :: (w 0, zc G 4 (zO 5 sf)) :: (sqW sq (aV A) ++ rest)) s H locs := hw
                              have hJ := jayH_Hw (set := set) hH ps hp9
                              have hJ0 : (jayH (aV A) set ps) 0 = aV A 0 := hJ.2 0 (fun t ht => by omega)
                              have hJ1 : (jayH (aV A) set ps) 1 = aV A 1 := hJ.2 1 (fun t ht => by omega)
                              have hJ2 : (jayH (aV A) set ps) 2 = aV A 2 := hJ.2 2 (fun t ht => by omega)
                              have hJg := jayH_Hg (set := set) hgv ps (Nat.le_of_eq hps)
                              have hUs : sqW sq (aV A) = sqW sq (jayH (aV A) set ps) := sqW_eq hJ1.symm (fun i hi => ⟨(hJ.2 _ (fun t ht => by omega)).symm, (hJ.2 _ (fun t ht => by omega)).symm⟩)
                              refine lv_aload_n hx hb dX0_jay_227 rfl (lv_at hl 0 rfl) ?_
                              refine z_get (v := .ref (w 3)) hC zf_X0_109_0 hw 0 rfl rfl dX0_jay_228 ?_
                              refine z_cv (z_runV (As := []) (rest := []) hC zv_X0_220 (m_X1_pass_2 G l kA (by first | assumption | (omega)) (w 3) co zr w bm sm lt ps dy mn q3 (jayH (aV A) set ps) (cpN pl p1 9) nq (cpN ax p3 5) (cpN le p4 5) (cpN kn p5 5) sf sq (hps.trans hJ0.symm) (hmn.trans hJ1.symm) (hdy.trans hJ2.symm) (by rw [hJ2]; omega) hJg hRq (fun i hi => hsf i (by rw [← hJ1]; exact hi)) (aV A) hUs (zrem [7, 8, 9, 10, 11, 12, 0, 13] [(co, zo 0 (cF w (nI mn) bm sm lt)), (w 2, zo 1 (stF zn co (nI ps) (nI dy) (gg))), (zn 0, zc G 1 (zI 9 (vI pl))), (zn 1, zc G 1 (zI 9 (vI nu))), (zn 2, zc G 1 (zI 5 (vI ax))), (zn 3, zc G 1 (zI 5 (vI le))), (zn 4, zc G 2 (zI 5 (vI kn))), (w 3, zo 1 (stF zr co (nI ps) (nI dy) (q3))), (zr 0, zc G 1 (zI 9 (vI (cpN pl p1 9)))), (zr 1, zc G 1 (zI 9 (vI nq))), (zr 2, zc G 1 (zI 5 (vI (cpN ax p3 5)))), (zr 3, zc G 1 (zI 5 (vI (cpN le p4 5)))), (zr 4, zc G 2 (zI 5 (vI (cpN kn p5 5)))), (w 0, zc G 4 (zO 5 sf))] ++ rest)) hw (hw.perm (z_cutP (z_cut (is := [7, 8, 9, 10, 11, 12, 0, 13]) (ws := [(co, zo 0 (cF w (nI mn) bm sm lt)), (w 2, zo 1 (stF zn co (nI ps) (nI dy) (gg))), (zn 0, zc G 1 (zI 9 (vI pl))), (zn 1, zc G 1 (zI 9 (vI nu))), (zn 2, zc G 1 (zI 5 (vI ax))), (zn 3, zc G 1 (zI 5 (vI le))), (zn 4, zc G 2 (zI 5 (vI kn))), (w 3, zo 1 (stF zr co (nI ps) (nI dy) (q3))), (zr 0, zc G 1 (zI 9 (vI (cpN pl p1 9)))), (zr 1, zc G 1 (zI 9 (vI nq))), (zr 2, zc G 1 (zI 5 (vI (cpN ax p3 5)))), (zr 3, zc G 1 (zI 5 (vI (cpN le p4 5)))), (zr 4, zc G 2 (zI 5 (vI (cpN kn p5 5)))), (w 0, zc G 4 (zO 5 sf))]) (cells := [(w 3, zo 1 (stF zr co (nI ps) (nI dy) (q3))), (zr 0, zc G 1 (zI 9 (vI (cpN pl p1 9)))), (zr 1, zc G 1 (zI 9 (vI nq))), (zr 2, zc G 1 (zI 5 (vI (cpN ax p3 5)))), (zr 3, zc G 1 (zI 5 (vI (cpN le p4 5)))), (zr 4, zc G 2 (zI 5 (vI (cpN kn p5 5)))), (co, zo 0 (cF w (nI mn) bm sm lt)), (w 0, zc G 4 (zO 5 sf))]) rfl rfl))) 7 rfl rfl rfl rfl rfl (Nat.le_of_ble_eq_true rfl) hl.1 ⟨Nat.le_of_ble_eq_true rfl, Nat.le_of_ble_eq_true rfl⟩ ⟨(Nat.le_of_ble_eq_true rfl), (Nat.le_of_ble_eq_true rfl)⟩ dX0_jay_231) hw (fun u => z_putP (z_pput (is := [7, 8, 9, 10, 11, 12, 0, 13]) (ws := [(co, zo 0 (cF w (nI mn) bm sm lt)), (w 2, zo 1 (stF zn co (nI ps) (nI dy) (gg))), (zn 0, zc G 1 (zI 9 (vI pl))), (zn 1, zc G 1 (zI 9 (vI nu))), (zn 2, zc G 1 (zI 5 (vI ax))), (zn 3, zc G 1 (zI 5 (vI le))), (zn 4, zc G 2 (zI 5 (vI kn))), (w 3, zo 1 (stF zr co (nI ps) (nI dy) (q3))), (zr 0, zc G 1 (zI 9 (vI (cpN pl p1 9)))), (zr 1, zc G 1 (zI 9 (vI nq))), (zr 2, zc G 1 (zI 5 (vI (cpN ax p3 5)))), (zr 3, zc G 1 (zI 5 (vI (cpN le p4 5)))), (zr 4, zc G 2 (zI 5 (vI (cpN kn p5 5)))), (w 0, zc G 4 (zO 5 sf))]) (cells := [(w 3, zo 1 (stF zr co (nI ps) (nI dy) (q3))), (zr 0, zc G 1 (zI 9 (vI (cpN pl p1 9)))), (zr 1, zc G 1 (zI 9 (vI nq))), (zr 2, zc G 1 (zI 5 (vI (cpN ax p3 5)))), (zr 3, zc G 1 (zI 5 (vI (cpN le p4 5)))), (zr 4, zc G 2 (zI 5 (vI (cpN kn p5 5)))), (co, zo 0 (cF w (nI mn) bm sm lt)), (w 0, zc G 4 (zO 5 sf))]) (cells' := [(w 3, zo 1 (stF zr co (nI ps) (nI (dy + 1)) (nI u.2.2.2.2))), (zr 0, zc G 1 (zI 9 (vI (cpN pl p1 9)))), (zr 1, zc G 1 (zI 9 (vI u.1))), (zr 2, zc G 1 (zI 5 (vI u.2.1))), (zr 3, zc G 1 (zI 5 (vI u.2.2.1))), (zr 4, zc G 2 (zI 5 (vI u.2.2.2.1))), (co, zo 0 (cF w (nI mn) bm sm lt)), (w 0, zc G 4 (zO 5 sf))]) rfl rfl rfl)) (fun u H locs hp hw => ?_)
                              obtain ⟨nu5, ax5, le5, kn5, hbq⟩ := u
                              have hw : zS G ((co, zo 0 (cF w (nI mn) bm sm lt)) :: (w 2, zo 1 (stF zn co (nI ps) (nI dy) (gg))) :: (zn 0, zc G 1 (zI 9 (vI pl))) :: (zn 1, zc G 1 (zI 9 (vI nu))) :: (zn 2, zc G 1 (zI 5 (vI ax))) :: (zn 3, zc G 1 (zI 5 (vI le))) :: (zn 4, zc G 2 (zI 5 (vI kn))) :: (w 3, zo 1 (stF zr co (nI ps) (nI (dy + 1)) (nI hbq))) :: (zr 0, zc G 1 (zI 9 (vI (cpN pl p1 9)))) :: (zr 1, zc G 1 (zI 9 (vI nu5))) :: (zr 2, zc G 1 (zI 5 (vI ax5))) :: (zr 3, zc G 1 (zI 5 (vI le5))) :: (zr 4, zc G 2 (zI 5 (vI kn5))) :: (w 0, zc G 4 (zO 5 sf)) :: (sqW sq (aV A) ++ rest)) s H locs := hw
                              obtain ⟨hpR, hpH⟩ := hp
                              have hbS := jay_bd2 (i := i) (q := k) (m := set) hH hk2
                              have hbS1 := jay_bd2 (i := i) (q := k) (m := set + 1) hH hk2
                              have hl5 : le5 i = passN (jayH (aV A) set ps) (21 + 5 * i + 3) := (hpR.2.2.1 i hi5).1
                              have hle5 : ∀ j, le5 j < 128 := fun j => (hpR.2.2.2 j).2.2.2.1
                              skip
                              have join_263 : ∀ (x6 : Nat), (x6 = if passN (jayH (aV A) set (aV A 0)) (21 + 5 * i + 3) ≤ aV A (21 + 5 * i + 3) then jayW (fullN (aV A)) set k (aV A 0) else 0) → ∀ (H : Heap) (locs : List Loc) (ls : Array Slot), zS G ((co, zo 0 (cF w (nI mn) bm sm lt)) :: (w 2, zo 1 (stF zn co (nI ps) (nI dy) (gg))) :: (zn 0, zc G 1 (zI 9 (vI pl))) :: (zn 1, zc G 1 (zI 9 (vI nu))) :: (zn 2, zc G 1 (zI 5 (vI ax))) :: (zn 3, zc G 1 (zI 5 (vI le))) :: (zn 4, zc G 2 (zI 5 (vI kn))) :: (w 3, zo 1 (stF zr co (nI ps) (nI (dy + 1)) (nI hbq))) :: (zr 0, zc G 1 (zI 9 (vI (cpN pl p1 9)))) :: (zr 1, zc G 1 (zI 9 (vI nu5))) :: (zr 2, zc G 1 (zI 5 (vI ax5))) :: (zr 3, zc G 1 (zI 5 (vI le5))) :: (zr 4, zc G 2 (zI 5 (vI kn5))) :: (w 0, zc G 4 (zO 5 sf)) :: (sqW sq (aV A) ++ rest)) s H locs → lv_has ls 10 [(0, .ref co), (1, .int (nI i)), (2, .int (nI k)), (3, .int (nI j)), (4, .int (nI (fullN (aV A)))), (5, .int (nI (jayUp (aV A) i k set))), (6, .int (nI (10 ^ onesN (fullN (aV A)) 9))), (7, .int (nI set)), (8, .int (nI (jayW (fullN (aV A)) set k ps))), (9, .int (nI ps))] → W p l e (zR 70 0 0) s m args below meth c H locs 0 0 Q (F0 m 263 ls [.int (nI x6), .int (nI (jayUp (aV A) i k set))]) := by
                                intro x6 hx6 H locs ls hw hl
                                subst hx6
                                refine zn_iadd hx hb dX0_jay_263 ?_
                                refine lv_istore (lv' := [(5, .int (nI (jayUp (aV A) i k set + (if passN (jayH (aV A) set (aV A 0)) (21 + 5 * i + 3) ≤ aV A (21 + 5 * i + 3) then jayW (fullN (aV A)) set k (aV A 0) else 0)))), (0, .ref co), (1, .int (nI i)), (2, .int (nI k)), (3, .int (nI j)), (4, .int (nI (fullN (aV A)))), (6, .int (nI (10 ^ onesN (fullN (aV A)) 9))), (7, .int (nI set)), (8, .int (nI (jayW (fullN (aV A)) set k ps))), (9, .int (nI ps))]) hx hb dX0_jay_264 hl (by decide) rfl (fun ls hl => ?_)
                                have hl : lv_has ls 10 [(5, .int (nI (jayUp (aV A) i k (set + 1)))), (0, .ref co), (1, .int (nI i)), (2, .int (nI k)), (3, .int (nI j)), (4, .int (nI (fullN (aV A)))), (6, .int (nI (10 ^ onesN (fullN (aV A)) 9))), (7, .int (nI set)), (8, .int (nI (jayW (fullN (aV A)) set k ps))), (9, .int (nI ps))] := by rw [jayUp_go hss]; exact hl
                                refine lv_iinc (v := (nI (set + 1))) (lv' := [(7, .int (nI (set + 1))), (5, .int (nI (jayUp (aV A) i k (set + 1)))), (0, .ref co), (1, .int (nI i)), (2, .int (nI k)), (3, .int (nI j)), (4, .int (nI (fullN (aV A)))), (6, .int (nI (10 ^ onesN (fullN (aV A)) 9))), (8, .int (nI (jayW (fullN (aV A)) set k ps))), (9, .int (nI ps))]) hx hb dX0_jay_266 hl (k := 7) rfl (zincn _ 1) (by decide) rfl (fun ls hl => ?_)
                                refine lv_goto (tgt := 93) hx hb dX0_jay_269 (by decide) ?_
                                exact ih_93 (set + 1) ps (dy + 1) (nI hbq) (cpN pl p1 9) nu5 ax5 le5 kn5 (by omega) hpR.2.2.2 (by omega) H locs ls hw (lv_sub hl [2, 3, 4, 5, 6, 1, 7, 0] rfl)
                              refine lv_iload hx hb dX0_jay_234 (lv_at hl 5 rfl) ?_
                              refine lv_aload_n hx hb dX0_jay_236 rfl (lv_at hl 0 rfl) ?_
                              refine z_get (v := .ref (w 3)) hC zf_X0_109_0 hw 0 rfl rfl dX0_jay_237 ?_
                              refine z_get (v := .ref (zr 3)) hC zf_X0_167_1 hw 7 rfl rfl dX0_jay_240 ?_
                              refine lv_iload_n hx hb dX0_jay_243 rfl (lv_at hl 1 rfl) ?_
                              refine z_bald (x := (nI (le5 i))) hC hw 11 rfl (by omega) (by decide) rfl dX0_jay_244 ?_
                              refine lv_aload_n hx hb dX0_jay_245 rfl (lv_at hl 0 rfl) ?_
                              refine z_get (v := .ref (w 2)) hC zf_X0_27_0 hw 0 rfl rfl dX0_jay_246 ?_
                              refine z_get (v := .ref (zn 3)) hC zf_X0_167_1 hw 1 rfl rfl dX0_jay_249 ?_
                              refine lv_iload_n hx hb dX0_jay_252 rfl (lv_at hl 1 rfl) ?_
                              refine z_bald (x := (nI (le i))) hC hw 5 rfl (by omega) (by decide) rfl dX0_jay_253 ?_
                              refine zi_gt (tgt := 262) hx hb (by have := hle5 i; omega) (by have := hle i; omega) dX0_jay_254 (by decide) (fun c_254 => ?_) (fun c_254 => ?_)
                              · skip
                                refine lv_iconst (v := (nI 0)) hx hb dX0_jay_262 zk_0 ?_
                                exact join_263 0 (by first | (rw [← hps]; exact (if_pos (by rw [← hl5, ← hRi.1]; omega)).symm) | (rw [← hps]; exact (if_neg (by rw [← hl5, ← hRi.1]; omega)).symm)) H locs ls hw (lv_sub hl [0, 1, 2, 3, 4, 5, 6, 7, 8, 9] rfl)
                              · skip
                                refine lv_iload hx hb dX0_jay_257 (lv_at hl 8 rfl) ?_
                                refine lv_goto (tgt := 263) hx hb dX0_jay_259 (by decide) ?_
                                exact join_263 (jayW (fullN (aV A)) set k ps) (by first | (rw [← hps]; exact (if_pos (by rw [← hl5, ← hRi.1]; omega)).symm) | (rw [← hps]; exact (if_neg (by rw [← hl5, ← hRi.1]; omega)).symm)) H locs ls hw (lv_sub hl [0, 1, 2, 3, 4, 5, 6, 7, 8, 9] rfl)
                            · skip
                              have hta : t < aV A 0 := by omega
                              have ht9 : t < 9 := by omega
                              have hJt := jayH_Hw (set := set) hH t (by omega)
                              have hJt0 : (jayH (aV A) set t) 0 = aV A 0 := hJt.2 0 (fun t ht => by omega)
                              have hnq := fun j => (hRq.2.2.2 j).2.1
                              have hnt : nq t = aV A (3 + 2 * t + 1) := (hRq.1 t (by omega)).2.trans (jayH_ge _ _ (Nat.le_refl _))
                              have hn9 := (hgv.2.1 t hta).2
                              have hRn := sRel_nu (t := t) (x := if set.testBit t = true then 0 else aV A (3 + 2 * t + 1)) (by omega) hRq (by omega) (by split <;> omega)
                              have join_184 : ∀ (x8 : Nat), (x8 = if (fullN (aV A)).testBit t = true then (if set.testBit t = true then k else 10 - k) else 1) → ∀ (H : Heap) (locs : List Loc) (ls : Array Slot), zS G ((co, zo 0 (cF w (nI mn) bm sm lt)) :: (w 2, zo 1 (stF zn co (nI ps) (nI dy) (gg))) :: (zn 0, zc G 1 (zI 9 (vI pl))) :: (zn 1, zc G 1 (zI 9 (vI nu))) :: (zn 2, zc G 1 (zI 5 (vI ax))) :: (zn 3, zc G 1 (zI 5 (vI le))) :: (zn 4, zc G 2 (zI 5 (vI kn))) :: (w 3, zo 1 (stF zr co (nI ps) (nI dy) (q3))) :: (zr 0, zc G 1 (zI 9 (vI (cpN pl p1 9)))) :: (zr 1, zc G 1 (zI 9 (vI nq))) :: (zr 2, zc G 1 (zI 5 (vI (cpN ax p3 5)))) :: (zr 3, zc G 1 (zI 5 (vI (cpN le p4 5)))) :: (zr 4, zc G 2 (zI 5 (vI (cpN kn p5 5)))) :: (w 0, zc G 4 (zO 5 sf)) :: (sqW sq (aV A) ++ rest)) s H locs → lv_has ls 10 [(0, .ref co), (1, .int (nI i)), (2, .int (nI k)), (3, .int (nI j)), (4, .int (nI (fullN (aV A)))), (5, .int (nI (jayUp (aV A) i k set))), (6, .int (nI (10 ^ onesN (fullN (aV A)) 9))), (7, .int (nI set)), (8, .int (nI (jayW (fullN (aV A)) set k t))), (9, .int (nI t))] → W p l e (zR 70 0 0) s m args below meth c H locs 0 0 Q (F0 m 184 ls [.int (nI x8), .int (nI (jayW (fullN (aV A)) set k t))]) := by
                                intro x8 hx8 H locs ls hw hl
                                subst hx8
                                refine zn_imul hx hb dX0_jay_184 ?_
                                refine lv_istore (lv' := [(8, .int (nI ((jayW (fullN (aV A)) set k t) * (if (fullN (aV A)).testBit t = true then (if set.testBit t = true then k else 10 - k) else 1)))), (0, .ref co), (1, .int (nI i)), (2, .int (nI k)), (3, .int (nI j)), (4, .int (nI (fullN (aV A)))), (5, .int (nI (jayUp (aV A) i k set))), (6, .int (nI (10 ^ onesN (fullN (aV A)) 9))), (7, .int (nI set)), (9, .int (nI t))]) hx hb dX0_jay_185 hl (by decide) rfl (fun ls hl => ?_)
                                have join_220 : ∀ (x7 : Nat), (x7 = if set.testBit t = true then 0 else aV A (3 + 2 * t + 1)) → ∀ (H : Heap) (locs : List Loc) (ls : Array Slot), zS G ((co, zo 0 (cF w (nI mn) bm sm lt)) :: (w 2, zo 1 (stF zn co (nI ps) (nI dy) (gg))) :: (zn 0, zc G 1 (zI 9 (vI pl))) :: (zn 1, zc G 1 (zI 9 (vI nu))) :: (zn 2, zc G 1 (zI 5 (vI ax))) :: (zn 3, zc G 1 (zI 5 (vI le))) :: (zn 4, zc G 2 (zI 5 (vI kn))) :: (w 3, zo 1 (stF zr co (nI ps) (nI dy) (q3))) :: (zr 0, zc G 1 (zI 9 (vI (cpN pl p1 9)))) :: (zr 1, zc G 1 (zI 9 (vI nq))) :: (zr 2, zc G 1 (zI 5 (vI (cpN ax p3 5)))) :: (zr 3, zc G 1 (zI 5 (vI (cpN le p4 5)))) :: (zr 4, zc G 2 (zI 5 (vI (cpN kn p5 5)))) :: (w 0, zc G 4 (zO 5 sf)) :: (sqW sq (aV A) ++ rest)) s H locs → lv_has ls 10 [(0, .ref co), (1, .int (nI i)), (2, .int (nI k)), (3, .int (nI j)), (4, .int (nI (fullN (aV A)))), (5, .int (nI (jayUp (aV A) i k set))), (6, .int (nI (10 ^ onesN (fullN (aV A)) 9))), (7, .int (nI set)), (8, .int (nI ((jayW (fullN (aV A)) set k t) * (if (fullN (aV A)).testBit t = true then (if set.testBit t = true then k else 10 - k) else 1)))), (9, .int (nI t))] → W p l e (zR 70 0 0) s m args below meth c H locs 0 0 Q (F0 m 220 ls [.int (nI x7), .int (nI t), .ref (zr 1)]) := by
                                  intro x7 hx7 H locs ls hw hl
                                  subst hx7
                                  refine z_bast (f' := vI (updN nq t (if set.testBit t = true then 0 else aV A (3 + 2 * t + 1)))) hC hw 9 rfl (by omega) (by decide) ((congrArg _ (znbyte (by split <;> omega))).trans (vI_upd _ _ _)) dX0_jay_220 (fun H locs hw => ?_)
                                  have hw : zS G ((co, zo 0 (cF w (nI mn) bm sm lt)) :: (w 2, zo 1 (stF zn co (nI ps) (nI dy) (gg))) :: (zn 0, zc G 1 (zI 9 (vI pl))) :: (zn 1, zc G 1 (zI 9 (vI nu))) :: (zn 2, zc G 1 (zI 5 (vI ax))) :: (zn 3, zc G 1 (zI 5 (vI le))) :: (zn 4, zc G 2 (zI 5 (vI kn))) :: (w 3, zo 1 (stF zr co (nI ps) (nI dy) (q3))) :: (zr 0, zc G 1 (zI 9 (vI (cpN pl p1 9)))) :: (zr 1, zc G 1 (zI 9 (vI (updN nq t (if set.testBit t = true then 0 else aV A (3 + 2 * t + 1)))))) :: (zr 2, zc G 1 (zI 5 (vI (cpN ax p3 5)))) :: (zr 3, zc G 1 (zI 5 (vI (cpN le p4 5)))) :: (zr 4, zc G 2 (zI 5 (vI (cpN kn p5 5)))) :: (w 0, zc G 4 (zO 5 sf)) :: (sqW sq (aV A) ++ rest)) s H locs := hw
                                  refine lv_iinc (v := (nI (t + 1))) (lv' := [(9, .int (nI (t + 1))), (0, .ref co), (1, .int (nI i)), (2, .int (nI k)), (3, .int (nI j)), (4, .int (nI (fullN (aV A)))), (5, .int (nI (jayUp (aV A) i k set))), (6, .int (nI (10 ^ onesN (fullN (aV A)) 9))), (7, .int (nI set)), (8, .int (nI ((jayW (fullN (aV A)) set k t) * (if (fullN (aV A)).testBit t = true then (if set.testBit t = true then k else 10 - k) else 1))))]) hx hb dX0_jay_221 hl (k := 9) rfl (zincn _ 1) (by decide) rfl (fun ls hl => ?_)
                                  refine lv_goto (tgt := 138) hx hb dX0_jay_224 (by decide) ?_
                                  exact ih_138 (t + 1) (updN nq t (if set.testBit t = true then 0 else aV A (3 + 2 * t + 1))) (by omega) hRn (by omega) H locs ls hw (lv_sub hl [1, 2, 3, 4, 5, 6, 7, 8, 9, 0] rfl)
                                refine lv_aload_n hx hb dX0_jay_187 rfl (lv_at hl 1 rfl) ?_
                                refine z_get (v := .ref (w 3)) hC zf_X0_109_0 hw 0 rfl rfl dX0_jay_188 ?_
                                refine z_get (v := .ref (zr 1)) hC zf_X0_90_1 hw 7 rfl rfl dX0_jay_191 ?_
                                refine lv_iload hx hb dX0_jay_194 (lv_at hl 9 rfl) ?_
                                refine lv_iload hx hb dX0_jay_196 (lv_at hl 8 rfl) ?_
                                refine lv_iload hx hb dX0_jay_198 (lv_at hl 9 rfl) ?_
                                refine z_ci (z_runS (As := [.int (nI set), .int (nI t)]) (rest := [.int (nI t), .ref (zr 1)]) hC zs_X0_155 (m_X0_has G l set t (by omega) (by omega) _) hw rfl rfl (Nat.le_of_ble_eq_true rfl) hl.1 ⟨Nat.le_of_ble_eq_true rfl, Nat.le_of_ble_eq_true rfl⟩ ⟨(Nat.le_of_ble_eq_true rfl), (Nat.le_of_ble_eq_true rfl)⟩ dX0_jay_200) hw (fun _ => List.Perm.refl _) (fun r u H locs hp hw => ?_)
                                obtain rfl : r = bI (set.testBit t = true) := hp
                                refine zb_eq (tgt := 210) hx hb dX0_jay_203 (by decide) (fun c_203 => ?_) (fun c_203 => ?_)
                                · skip
                                  refine lv_aload_n hx hb dX0_jay_210 rfl (lv_at hl 1 rfl) ?_
                                  refine z_get (v := .ref (w 3)) hC zf_X0_109_0 hw 0 rfl rfl dX0_jay_211 ?_
                                  refine z_get (v := .ref (zr 1)) hC zf_X0_90_1 hw 7 rfl rfl dX0_jay_214 ?_
                                  refine lv_iload hx hb dX0_jay_217 (lv_at hl 9 rfl) ?_
                                  refine z_bald (x := (nI (nq t))) hC hw 9 rfl (by omega) (by decide) rfl dX0_jay_219 ?_
                                  exact join_220 (nq t) (by first | rw [if_pos c_203] | rw [if_neg c_203, hnt]) H locs ls hw (lv_sub hl [1, 2, 3, 4, 5, 6, 7, 8, 0, 9] rfl)
                                · skip
                                  refine lv_iconst (v := (nI 0)) hx hb dX0_jay_206 zk_0 ?_
                                  refine lv_goto (tgt := 220) hx hb dX0_jay_207 (by decide) ?_
                                  exact join_220 0 (by first | rw [if_pos c_203] | rw [if_neg c_203, hnt]) H locs ls hw (lv_sub hl [1, 2, 3, 4, 5, 6, 7, 8, 0, 9] rfl)
                              refine lv_iload hx hb dX0_jay_150 (lv_at hl 8 rfl) ?_
                              refine lv_iload hx hb dX0_jay_152 (lv_at hl 4 rfl) ?_
                              refine lv_iload hx hb dX0_jay_154 (lv_at hl 9 rfl) ?_
                              refine z_ci (z_runS (As := [.int (nI (fullN (aV A))), .int (nI t)]) (rest := [.int (nI (jayW (fullN (aV A)) set k t))]) hC zs_X0_155 (m_X0_has G l (fullN (aV A)) t (Nat.lt_trans hf9 (by decide)) (by omega) _) hw rfl rfl (Nat.le_of_ble_eq_true rfl) hl.1 ⟨Nat.le_of_ble_eq_true rfl, Nat.le_of_ble_eq_true rfl⟩ ⟨(Nat.le_of_ble_eq_true rfl), (Nat.le_of_ble_eq_true rfl)⟩ dX0_jay_156) hw (fun _ => List.Perm.refl _) (fun r u H locs hp hw => ?_)
                              obtain rfl : r = bI ((fullN (aV A)).testBit t = true) := hp
                              refine zb_ne (tgt := 166) hx hb dX0_jay_159 (by decide) (fun c_159 => ?_) (fun c_159 => ?_)
                              · skip
                                refine lv_iload hx hb dX0_jay_166 (lv_at hl 7 rfl) ?_
                                refine lv_iload hx hb dX0_jay_168 (lv_at hl 9 rfl) ?_
                                refine z_ci (z_runS (As := [.int (nI set), .int (nI t)]) (rest := [.int (nI (jayW (fullN (aV A)) set k t))]) hC zs_X0_155 (m_X0_has G l set t (by omega) (by omega) _) hw rfl rfl (Nat.le_of_ble_eq_true rfl) hl.1 ⟨Nat.le_of_ble_eq_true rfl, Nat.le_of_ble_eq_true rfl⟩ ⟨(Nat.le_of_ble_eq_true rfl), (Nat.le_of_ble_eq_true rfl)⟩ dX0_jay_170) hw (fun _ => List.Perm.refl _) (fun r u H locs hp hw => ?_)
                                obtain rfl : r = bI (set.testBit t = true) := hp
                                refine zb_eq (tgt := 180) hx hb dX0_jay_173 (by decide) (fun c_173 => ?_) (fun c_173 => ?_)
                                · skip
                                  refine lv_bipush (v := (nI 10)) hx hb dX0_jay_180 zb_10 ?_
                                  refine lv_iload_n hx hb dX0_jay_182 rfl (lv_at hl 2 rfl) ?_
                                  refine zn_isub hx hb (by omega) dX0_jay_183 ?_
                                  exact join_184 (10 - k) (by first | rw [if_neg c_159] | rw [if_pos c_159, if_pos c_173] | rw [if_pos c_159, if_neg c_173]) H locs ls hw (lv_sub hl [0, 1, 2, 3, 4, 5, 6, 7, 8, 9] rfl)
                                · skip
                                  refine lv_iload_n hx hb dX0_jay_176 rfl (lv_at hl 2 rfl) ?_
                                  refine lv_goto (tgt := 184) hx hb dX0_jay_177 (by decide) ?_
                                  exact join_184 k (by first | rw [if_neg c_159] | rw [if_pos c_159, if_pos c_173] | rw [if_pos c_159, if_neg c_173]) H locs ls hw (lv_sub hl [0, 1, 2, 3, 4, 5, 6, 7, 8, 9] rfl)
                              · skip
                                refine lv_iconst (v := (nI 1)) hx hb dX0_jay_162 zk_1 ?_
                                refine lv_goto (tgt := 184) hx hb dX0_jay_163 (by decide) ?_
                                exact join_184 1 (by first | rw [if_neg c_159] | rw [if_pos c_159, if_pos c_173] | rw [if_pos c_159, if_neg c_173]) H locs ls hw (lv_sub hl [0, 1, 2, 3, 4, 5, 6, 7, 8, 9] rfl)
                        exact loop_138 ((ps - 0) + 1) 0 (cpN nu p2 9) (by omega) (sRel_cp hH hR hbd1) (Nat.lt_succ_self _) H locs ls hw (lv_sub hl [2, 3, 4, 5, 6, 7, 8, 9, 1, 0] rfl)
                      · skip
                        refine lv_goto (tgt := 266) hx hb dX0_jay_117 (by decide) ?_
                        have hl : lv_has ls 10 [(0, .ref co), (1, .int (nI i)), (2, .int (nI k)), (3, .int (nI j)), (4, .int (nI (fullN (aV A)))), (5, .int (nI (jayUp (aV A) i k (set + 1)))), (6, .int (nI (10 ^ onesN (fullN (aV A)) 9))), (7, .int (nI set))] := by rw [jayUp_skip (fun h => c_114 (sub_iff.mpr h))]; exact hl
                        refine lv_iinc (v := (nI (set + 1))) (lv' := [(7, .int (nI (set + 1))), (0, .ref co), (1, .int (nI i)), (2, .int (nI k)), (3, .int (nI j)), (4, .int (nI (fullN (aV A)))), (5, .int (nI (jayUp (aV A) i k (set + 1)))), (6, .int (nI (10 ^ onesN (fullN (aV A)) 9)))]) hx hb dX0_jay_266 hl (k := 7) rfl (zincn _ 1) (by decide) rfl (fun ls hl => ?_)
                        refine lv_goto (tgt := 93) hx hb dX0_jay_269 (by decide) ?_
                        exact ih_93 (set + 1) q1 q2 q3 p1 p2 p3 p4 p5 (by omega) hbd1 (by omega) H locs ls hw (lv_sub hl [1, 2, 3, 4, 5, 6, 7, 0] rfl)
                exact loop_93 ((2 ^ ps - 0) + 1) 0 rps rdy rg rpl rnu rax rle rkn (by omega) hbd (Nat.lt_succ_self _) H locs ls hw (lv_sub hl [1, 2, 3, 4, 5, 6, 7, 0] rfl)
              · skip
                have hd9 : 10 ^ (onesN (fullN (aV A)) 9 - d) ≤ 1000000000 := Nat.le_trans (Nat.pow_le_pow_right (n := 10) (by decide) (Nat.sub_le _ _)) hb10
                have hdd : 10 ^ (onesN (fullN (aV A)) 9 - (d - 1)) = 10 ^ (onesN (fullN (aV A)) 9 - d) * 10 := by rw [← Nat.pow_succ]; congr 1; omega
                refine lv_iload hx hb dX0_jay_77 (lv_at hl 6 rfl) ?_
                refine lv_bipush (v := (nI 10)) hx hb dX0_jay_79 zb_10 ?_
                refine zn_imul hx hb dX0_jay_81 ?_
                refine lv_istore (lv' := [(6, .int (nI ((10 ^ (onesN (fullN (aV A)) 9 - d)) * 10))), (0, .ref co), (1, .int (nI i)), (2, .int (nI k)), (3, .int (nI j)), (4, .int (nI (fullN (aV A)))), (5, .int (nI 0)), (7, .int (nI d))]) hx hb dX0_jay_82 hl (by decide) rfl (fun ls hl => ?_)
                have hl : lv_has ls 10 [(6, .int (nI (10 ^ (onesN (fullN (aV A)) 9 - (d - 1))))), (0, .ref co), (1, .int (nI i)), (2, .int (nI k)), (3, .int (nI j)), (4, .int (nI (fullN (aV A)))), (5, .int (nI 0)), (7, .int (nI d))] := by rw [hdd]; exact hl
                refine lv_iinc (v := (nI (d - 1))) (lv' := [(7, .int (nI (d - 1))), (6, .int (nI (10 ^ (onesN (fullN (aV A)) 9 - (d - 1))))), (0, .ref co), (1, .int (nI i)), (2, .int (nI k)), (3, .int (nI j)), (4, .int (nI (fullN (aV A)))), (5, .int (nI 0))]) hx hb dX0_jay_84 hl (k := 7) rfl (zdec1 (by omega)) (by decide) rfl (fun ls hl => ?_)
                refine lv_goto (tgt := 72) hx hb dX0_jay_87 (by decide) ?_
                exact ih_72 (d - 1) (by omega) (by omega) H locs ls hw (lv_sub hl [2, 3, 4, 5, 6, 7, 1, 0] rfl)
          exact loop_72 (((onesN (fullN (aV A)) 9)) + 1) (onesN (fullN (aV A)) 9) (by omega) (Nat.lt_succ_self _) H locs ls hw (lv_sub hl [4, 5, 6, 7, 3, 2, 1, 0] rfl)
        · skip
          refine lv_bipush (v := (-4)) hx hb dX0_jay_47 zb_m4 ?_
          exact hend _ _ _ _ _ _ _ (rps, rdy, rg, rpl, rnu, rax, rle, rkn) hw ⟨by unfold F_jay; rw [ifP_t ⟨i, hia, rfl⟩, ifP_t ⟨⟨k, hk1, hk2, rfl⟩, ⟨j, hj1, hj2, rfl⟩⟩, cl_nI (by omega), ifP_t (show goneN (aV A) i from hRi.1.symm.trans c_44)], hbd⟩ (Nat.le_of_ble_eq_true rfl) (Nat.le_of_ble_eq_true rfl) dX0_jay_49
      · skip
        refine lv_bipush (v := (-3)) hx hb dX0_jay_33 zb_m3 ?_
        exact hend _ _ _ _ _ _ _ (rps, rdy, rg, rpl, rnu, rax, rle, rkn) hw ⟨by first | exact ((ifP_t ⟨i, hia, rfl⟩).trans (ifP_f (fun h => c_20 h.1))).symm | exact ((ifP_t ⟨i, hia, rfl⟩).trans (ifP_f (fun h => c_30 h.2))).symm, hbd⟩ (Nat.le_of_ble_eq_true rfl) (Nat.le_of_ble_eq_true rfl) dX0_jay_35
  · skip
    refine lv_bipush (v := (-2)) hx hb dX0_jay_8 zb_m2 ?_
    exact hend _ _ _ _ _ _ _ (rps, rdy, rg, rpl, rnu, rax, rle, rkn) hw ⟨by exact (ifP_f (fun q => c_5 (by rw [hmn]; exact q))).symm, hbd⟩ (Nat.le_of_ble_eq_true rfl) (Nat.le_of_ble_eq_true rfl) dX0_jay_10
