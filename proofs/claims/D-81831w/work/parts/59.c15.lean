/-! COMPONENT: what is done -/
set_option maxRecDepth 100000
/-- now and what can be undone, as the state A has it -/
def nwR (G : zE) (co : Nat) (A : AS) (ps dy um : Nat) (pl nu ax le kn : Nat → Nat) (bf : Nat → Option Nat) (bs : Nat → va_W) : Prop := ps = aV A 0 ∧ dy = aV A 2 ∧ um = aU A ∧ sRel (aV A) pl nu ax le kn ∧ slB G co bf um (aUs A) bs
theorem nwR_note {G : zE} {co um um7 ps dy : Nat} {A : AS} {w pl nu ax le kn : Nat → Nat} {bf : Nat → Option Nat} {bs : Nat → va_W} (hu : um = aU A) (h0 : ps = w 0) (h2 : dy = w 2) (h3 : sRel w pl nu ax le kn) (hm : um7 = noteM um) (hb : slB G co bf um7 (noteU (aV A) um (aUs A)) bs) : nwR G co (sV (noteA A) w) ps dy um7 pl nu ax le kn bf bs := by
  subst hu
  exact ⟨h0, h2, hm, h3, hb⟩
theorem bury_rel {v pl nu ax le kn : Nat → Nat} {i k : Nat} (hH : Hw v) (hR : sRel v pl nu ax le kn) (hi : i < v 1) (hk : k < 128) (h9 : v 0 < 9) : sRel (buryN v i k) (updN pl (v 0) (ax i)) (updN nu (v 0) k) ax le (updN kn i (kn i ||| 2 ^ v 0)) := by
  have h1 := hH.2.1
  have e : ∀ j, j ≠ 3 + 2 * v 0 → j ≠ 3 + 2 * v 0 + 1 → j ≠ 21 + 5 * i + 4 → j ≠ 0 → buryN v i k j = v j := fun j a b c d => (updN_ne _ _ d).trans ((updN_ne _ _ c).trans ((updN_ne _ _ b).trans (updN_ne _ _ a)))
  have e0 : buryN v i k 0 = v 0 + 1 := updN_same _ _ _
  have ep : buryN v i k (3 + 2 * v 0) = v (21 + 5 * i + 1) := (updN_ne _ _ (by omega)).trans ((updN_ne _ _ (by omega)).trans ((updN_ne _ _ (by omega)).trans (updN_same _ _ _)))
  have en : buryN v i k (3 + 2 * v 0 + 1) = k := (updN_ne _ _ (by omega)).trans ((updN_ne _ _ (by omega)).trans (updN_same _ _ _))
  have ek : buryN v i k (21 + 5 * i + 4) = v (21 + 5 * i + 4) ||| 2 ^ v 0 := (updN_ne _ _ (by omega)).trans (updN_same _ _ _)
  refine ⟨fun t ht => ?_, fun j hj => ?_, fun j hj => ?_, fun j => ?_⟩
  · rw [e0] at ht
    by_cases q : t = v 0
    · subst q; rw [ep, en, updN_same, updN_same]; exact ⟨hR.2.1 i hi, rfl⟩
    · rw [updN_ne _ _ q, updN_ne _ _ q, e _ (by omega) (by omega) (by omega) (by omega), e _ (by omega) (by omega) (by omega) (by omega)]; exact hR.1 t (by omega)
  · rw [e 1 (by omega) (by omega) (by omega) (by omega)] at hj
    rw [e _ (by omega) (by omega) (by omega) (by omega)]; exact hR.2.1 j hj
  · rw [e (21 + 5 * j + 3) (by omega) (by omega) (by omega) (by omega)]
    refine ⟨(hR.2.2.1 j hj).1, ?_⟩
    by_cases q : j = i
    · subst q; rw [ek, updN_same, (hR.2.2.1 j hj).2]
    · rw [updN_ne _ _ q, e _ (by omega) (by omega) (by omega) (by omega)]; exact (hR.2.2.1 j hj).2
  · have ej := hR.2.2.2 j
    have ea := (hR.2.2.2 i).2.2.1
    have ek2 := or9 (hR.2.2.2 i).2.2.2.2 (pow512 h9)
    unfold updN
    refine ⟨?_, ?_, ej.2.2.1, ej.2.2.2.1, ?_⟩
    · split
      · exact ea
      · exact ej.1
    · split
      · exact hk
      · exact ej.2.1
    · split
      · exact ek2
      · exact ej.2.2.2.2
theorem zf_X0_201_1 : zFl 1 6 RX0 201 false .int := ⟨RX1, TX1, 9, tyX1, rfl, by decide, in_X1, q126, rfl, by decide +kernel, tyX1_ok, nmX1⟩
theorem zv_X0_204 : zVs RX0 204 yX0_note cX0_note 2 none 0 := ⟨lw_V q919 q921 qs13 q49 q922, ⟨by decide +kernel, by decide +kernel⟩, by decide +kernel⟩
set_option maxHeartbeats 4000000 in
theorem m_X0_day (G : zE) (l : Launch) (kA : Nat → Nat) (hG : zG G kA) (co : Nat) (w : Nat → Nat) (zn : Nat → Nat) (A : AS) (ps : Nat) (mn : Nat) (dy : Nat) (um : Nat) (sm : Int32) (lt : Int32) (gg : Int32) (pl : Nat → Nat) (nu : Nat → Nat) (ax : Nat → Nat) (le : Nat → Nat) (kn : Nat → Nat) (bf : Nat → Option Nat) (bs : Nat → va_W) (hA : AOk A) (hps : ps = aV A 0) (hmn : mn = aV A 1) (hdy : dy = aV A 2) (hum : um = aU A) (hR : sRel (aV A) pl nu ax le kn) (hbs : slB G co bf um (aUs A) bs) (x : Int32) (sf : Nat → Option Nat) (sq : Nat → Nat) (hsf : ∀ i, i < aV A 1 → sf i = some (sq i)) (rest : va_W) : zMi G l yX0_day cX0_day 2 (some .int) 7 6 42 [.ref co, .int x] ((co, zo 0 (cF w (nI mn) (nI um) sm lt)) :: (w 2, zo 1 (stF zn co (nI ps) (nI dy) (gg))) :: (zn 0, zc G 1 (zI 9 (vI pl))) :: (zn 1, zc G 1 (zI 9 (vI nu))) :: (zn 2, zc G 1 (zI 5 (vI ax))) :: (zn 3, zc G 1 (zI 5 (vI le))) :: (zn 4, zc G 2 (zI 5 (vI kn))) :: (w 5, zc G 5 (zO 8 bf)) :: (w 0, zc G 4 (zO 5 sf)) :: (sqW sq (aV A) ++ (pw 8 bs ++ rest))) (fun (r : Int32) u => r = (F_day A x).1 ∧ nwR G co (F_day A x).2 u.1 u.2.1 u.2.2.1 u.2.2.2.2.1 u.2.2.2.2.2.1 u.2.2.2.2.2.2.1 u.2.2.2.2.2.2.2.1 u.2.2.2.2.2.2.2.2.1 u.2.2.2.2.2.2.2.2.2.1 u.2.2.2.2.2.2.2.2.2.2) (fun (u : Nat × Nat × Nat × Int32 × (Nat → Nat) × (Nat → Nat) × (Nat → Nat) × (Nat → Nat) × (Nat → Nat) × (Nat → Option Nat) × (Nat → va_W)) => (co, zo 0 (cF w (nI mn) (nI u.2.2.1) sm lt)) :: (w 2, zo 1 (stF zn co (nI u.1) (nI u.2.1) (u.2.2.2.1))) :: (zn 0, zc G 1 (zI 9 (vI u.2.2.2.2.1))) :: (zn 1, zc G 1 (zI 9 (vI u.2.2.2.2.2.1))) :: (zn 2, zc G 1 (zI 5 (vI u.2.2.2.2.2.2.1))) :: (zn 3, zc G 1 (zI 5 (vI u.2.2.2.2.2.2.2.1))) :: (zn 4, zc G 2 (zI 5 (vI u.2.2.2.2.2.2.2.2.1))) :: (w 5, zc G 5 (zO 8 u.2.2.2.2.2.2.2.2.2.1)) :: (w 0, zc G 4 (zO 5 sf)) :: (sqW sq (aV A) ++ (pw 8 u.2.2.2.2.2.2.2.2.2.2 ++ rest))) := by
  refine z_begI (by decide) (Nat.le_of_ble_eq_true rfl) (fun p e s m args below meth c ls Q hC hl hw hend => ?_)
  have hx := hC.hx
  have hb := hC.hb
  have hl : lv_has ls 2 [(0, .ref co), (1, .int x)] := hl
  have hw : zS G ((co, zo 0 (cF w (nI mn) (nI um) sm lt)) :: (w 2, zo 1 (stF zn co (nI ps) (nI dy) (gg))) :: (zn 0, zc G 1 (zI 9 (vI pl))) :: (zn 1, zc G 1 (zI 9 (vI nu))) :: (zn 2, zc G 1 (zI 5 (vI ax))) :: (zn 3, zc G 1 (zI 5 (vI le))) :: (zn 4, zc G 2 (zI 5 (vI kn))) :: (w 5, zc G 5 (zO 8 bf)) :: (w 0, zc G 4 (zO 5 sf)) :: (sqW sq (aV A) ++ (pw 8 bs ++ rest))) s s.heap [] := hw
  have hz := hG s hC.hZ.1
  have hgv := hA.2.2.1.1
  have hH : Hw (aV A) := hgv.1
  have hpl := fun j => (hR.2.2.2 j).1
  have hnu := fun j => (hR.2.2.2 j).2.1
  have hax := fun j => (hR.2.2.2 j).2.2.1
  have hle := fun j => (hR.2.2.2 j).2.2.2.1
  have hkn := fun j => (hR.2.2.2 j).2.2.2.2
  have hp9 : ps ≤ 9 := by rw [hps]; exact hH.1
  have hm5 : mn ≤ 5 := by rw [hmn]; exact hH.2.1
  have hd999 : dy ≤ 999 := by rw [hdy]; exact hA.2.2.1.2.2
  have hu8 : um ≤ 8 := by rw [hum]; exact hA.2.2.2.1.1
  refine lv_iload_n hx hb dX0_day_0 rfl (lv_at hl 1 rfl) ?_
  refine lv_i2l (v := (iL x)) hx hb dX0_day_1 rfl ?_
  refine lv_lconst (v := lN 1) hx hb dX0_day_2 rfl ?_
  refine lv_ldc2 (v := (lN 12)) hx hb hC.hown (hC.hts _ q918) dX0_day_3 ?_
  refine z_ci (z_runS (As := [.long (iL x), .long (lN 1), .long (lN 12)]) (rest := []) hC zs_X0_126 (m_X0_in G l x 1 12 (by decide) (by decide) _) hw rfl rfl (Nat.le_of_ble_eq_true rfl) hl.1 ⟨Nat.le_of_ble_eq_true rfl, Nat.le_of_ble_eq_true rfl⟩ ⟨(Nat.le_of_ble_eq_true rfl), (Nat.le_of_ble_eq_true rfl)⟩ dX0_day_6) hw (fun _ => List.Perm.refl _) (fun r u H locs hp hw => ?_)
  obtain rfl : r = bI (inR x 1 12) := hp
  refine zb_ne (tgt := 15) hx hb dX0_day_9 (by decide) (fun c_9 => ?_) (fun c_9 => ?_)
  · skip
    obtain ⟨k, hk1, hk2, rfl⟩ := c_9
    have hl : lv_has ls 2 [(0, .ref co), (1, .int (nI k))] := hl
    refine lv_aload_n hx hb dX0_day_15 rfl (lv_at hl 0 rfl) ?_
    refine z_get (v := .ref (w 2)) hC zf_X0_27_0 hw 0 rfl rfl dX0_day_16 ?_
    refine z_get (v := .int (nI dy)) hC zf_X0_201_1 hw 1 rfl rfl dX0_day_19 ?_
    refine lv_iload_n hx hb dX0_day_22 rfl (lv_at hl 1 rfl) ?_
    refine zn_iadd hx hb dX0_day_23 ?_
    refine lv_sipush (v := (nI 999)) hx hb dX0_day_24 zs_999 ?_
    refine zi_le (tgt := 33) hx hb (by omega) (by decide) dX0_day_27 (by decide) (fun c_27 => ?_) (fun c_27 => ?_)
    · skip
      refine lv_aload_n hx hb dX0_day_33 rfl (lv_at hl 0 rfl) ?_
      refine z_cv (z_runV (As := []) (rest := []) hC zv_X0_204 (m_X0_note G l kA (by first | assumption | (omega)) co w zn (aV A) (aUs A) um mn ps dy sm lt gg pl nu ax le kn bf bs hu8 hps hdy (by first | assumption | (omega)) hR hbs (zrem [0, 1, 2, 3, 4, 5, 6, 7] [(co, zo 0 (cF w (nI mn) (nI um) sm lt)), (w 2, zo 1 (stF zn co (nI ps) (nI dy) (gg))), (zn 0, zc G 1 (zI 9 (vI pl))), (zn 1, zc G 1 (zI 9 (vI nu))), (zn 2, zc G 1 (zI 5 (vI ax))), (zn 3, zc G 1 (zI 5 (vI le))), (zn 4, zc G 2 (zI 5 (vI kn))), (w 5, zc G 5 (zO 8 bf)), (w 0, zc G 4 (zO 5 sf))] ++ (sqW sq (aV A) ++ rest))) hw (hw.perm ((((z_mv1 (sqW sq (aV A)) (pw 8 bs) rest)).append_left [(co, zo 0 (cF w (nI mn) (nI um) sm lt)), (w 2, zo 1 (stF zn co (nI ps) (nI dy) (gg))), (zn 0, zc G 1 (zI 9 (vI pl))), (zn 1, zc G 1 (zI 9 (vI nu))), (zn 2, zc G 1 (zI 5 (vI ax))), (zn 3, zc G 1 (zI 5 (vI le))), (zn 4, zc G 2 (zI 5 (vI kn))), (w 5, zc G 5 (zO 8 bf)), (w 0, zc G 4 (zO 5 sf))]).trans (z_cutP (z_cut (is := [0, 1, 2, 3, 4, 5, 6, 7]) (ws := [(co, zo 0 (cF w (nI mn) (nI um) sm lt)), (w 2, zo 1 (stF zn co (nI ps) (nI dy) (gg))), (zn 0, zc G 1 (zI 9 (vI pl))), (zn 1, zc G 1 (zI 9 (vI nu))), (zn 2, zc G 1 (zI 5 (vI ax))), (zn 3, zc G 1 (zI 5 (vI le))), (zn 4, zc G 2 (zI 5 (vI kn))), (w 5, zc G 5 (zO 8 bf)), (w 0, zc G 4 (zO 5 sf))]) (cells := [(co, zo 0 (cF w (nI mn) (nI um) sm lt)), (w 2, zo 1 (stF zn co (nI ps) (nI dy) (gg))), (zn 0, zc G 1 (zI 9 (vI pl))), (zn 1, zc G 1 (zI 9 (vI nu))), (zn 2, zc G 1 (zI 5 (vI ax))), (zn 3, zc G 1 (zI 5 (vI le))), (zn 4, zc G 2 (zI 5 (vI kn))), (w 5, zc G 5 (zO 8 bf))]) rfl rfl)))) 0 rfl rfl rfl rfl rfl (Nat.le_of_ble_eq_true rfl) hl.1 ⟨Nat.le_of_ble_eq_true rfl, Nat.le_of_ble_eq_true rfl⟩ ⟨(Nat.le_of_ble_eq_true rfl), (Nat.le_of_ble_eq_true rfl)⟩ dX0_day_34) hw (fun u => (z_putP (z_pput (is := [0, 1, 2, 3, 4, 5, 6, 7]) (ws := [(co, zo 0 (cF w (nI mn) (nI um) sm lt)), (w 2, zo 1 (stF zn co (nI ps) (nI dy) (gg))), (zn 0, zc G 1 (zI 9 (vI pl))), (zn 1, zc G 1 (zI 9 (vI nu))), (zn 2, zc G 1 (zI 5 (vI ax))), (zn 3, zc G 1 (zI 5 (vI le))), (zn 4, zc G 2 (zI 5 (vI kn))), (w 5, zc G 5 (zO 8 bf)), (w 0, zc G 4 (zO 5 sf))]) (cells := [(co, zo 0 (cF w (nI mn) (nI um) sm lt)), (w 2, zo 1 (stF zn co (nI ps) (nI dy) (gg))), (zn 0, zc G 1 (zI 9 (vI pl))), (zn 1, zc G 1 (zI 9 (vI nu))), (zn 2, zc G 1 (zI 5 (vI ax))), (zn 3, zc G 1 (zI 5 (vI le))), (zn 4, zc G 2 (zI 5 (vI kn))), (w 5, zc G 5 (zO 8 bf))]) (cells' := [(co, zo 0 (cF w (nI mn) (nI u.1) sm lt)), (w 2, zo 1 (stF zn co (nI ps) (nI dy) (gg))), (zn 0, zc G 1 (zI 9 (vI pl))), (zn 1, zc G 1 (zI 9 (vI nu))), (zn 2, zc G 1 (zI 5 (vI ax))), (zn 3, zc G 1 (zI 5 (vI le))), (zn 4, zc G 2 (zI 5 (vI kn))), (w 5, zc G 5 (zO 8 u.2.1))]) rfl rfl rfl)).trans (((z_mv1 (sqW sq (aV A)) (pw 8 u.2.2) rest)).symm.append_left [(co, zo 0 (cF w (nI mn) (nI u.1) sm lt)), (w 2, zo 1 (stF zn co (nI ps) (nI dy) (gg))), (zn 0, zc G 1 (zI 9 (vI pl))), (zn 1, zc G 1 (zI 9 (vI nu))), (zn 2, zc G 1 (zI 5 (vI ax))), (zn 3, zc G 1 (zI 5 (vI le))), (zn 4, zc G 2 (zI 5 (vI kn))), (w 5, zc G 5 (zO 8 u.2.1)), (w 0, zc G 4 (zO 5 sf))])) (fun u H locs hp hw => ?_)
      obtain ⟨um6, bf6, bs6⟩ := u
      have hw : zS G ((co, zo 0 (cF w (nI mn) (nI um6) sm lt)) :: (w 2, zo 1 (stF zn co (nI ps) (nI dy) (gg))) :: (zn 0, zc G 1 (zI 9 (vI pl))) :: (zn 1, zc G 1 (zI 9 (vI nu))) :: (zn 2, zc G 1 (zI 5 (vI ax))) :: (zn 3, zc G 1 (zI 5 (vI le))) :: (zn 4, zc G 2 (zI 5 (vI kn))) :: (w 5, zc G 5 (zO 8 bf6)) :: (w 0, zc G 4 (zO 5 sf)) :: (sqW sq (aV A) ++ (pw 8 bs6 ++ rest))) s H locs := hw
      obtain ⟨hnM, hnB⟩ := hp
      refine lv_aload_n hx hb dX0_day_37 rfl (lv_at hl 0 rfl) ?_
      refine z_get (v := .ref (w 2)) hC zf_X0_27_0 hw 0 rfl rfl dX0_day_38 ?_
      refine lv_iload_n hx hb dX0_day_41 rfl (lv_at hl 1 rfl) ?_
      refine z_cq (z_runV (As := [.int (nI k)]) (rest := []) hC zv_X0_207 (m_X1_pass G l kA (by first | assumption | (omega)) (w 2) co zn w (nI um6) sm lt ps dy mn gg (aV A) pl nu ax le kn sf sq hps hmn hdy k (by omega) hgv hR hsf (aV A) rfl (zrem [1, 2, 3, 4, 5, 6, 0, 8] [(co, zo 0 (cF w (nI mn) (nI um6) sm lt)), (w 2, zo 1 (stF zn co (nI ps) (nI dy) (gg))), (zn 0, zc G 1 (zI 9 (vI pl))), (zn 1, zc G 1 (zI 9 (vI nu))), (zn 2, zc G 1 (zI 5 (vI ax))), (zn 3, zc G 1 (zI 5 (vI le))), (zn 4, zc G 2 (zI 5 (vI kn))), (w 5, zc G 5 (zO 8 bf6)), (w 0, zc G 4 (zO 5 sf))] ++ (pw 8 bs6 ++ rest))) hw (hw.perm (z_cutP (z_cut (is := [1, 2, 3, 4, 5, 6, 0, 8]) (ws := [(co, zo 0 (cF w (nI mn) (nI um6) sm lt)), (w 2, zo 1 (stF zn co (nI ps) (nI dy) (gg))), (zn 0, zc G 1 (zI 9 (vI pl))), (zn 1, zc G 1 (zI 9 (vI nu))), (zn 2, zc G 1 (zI 5 (vI ax))), (zn 3, zc G 1 (zI 5 (vI le))), (zn 4, zc G 2 (zI 5 (vI kn))), (w 5, zc G 5 (zO 8 bf6)), (w 0, zc G 4 (zO 5 sf))]) (cells := [(w 2, zo 1 (stF zn co (nI ps) (nI dy) (gg))), (zn 0, zc G 1 (zI 9 (vI pl))), (zn 1, zc G 1 (zI 9 (vI nu))), (zn 2, zc G 1 (zI 5 (vI ax))), (zn 3, zc G 1 (zI 5 (vI le))), (zn 4, zc G 2 (zI 5 (vI kn))), (co, zo 0 (cF w (nI mn) (nI um6) sm lt)), (w 0, zc G 4 (zO 5 sf))]) rfl rfl))) 1 rfl rfl rfl rfl rfl (Nat.le_of_ble_eq_true rfl) hl.1 ⟨Nat.le_of_ble_eq_true rfl, Nat.le_of_ble_eq_true rfl⟩ ⟨(Nat.le_of_ble_eq_true rfl), (Nat.le_of_ble_eq_true rfl)⟩ dX0_day_42) hw (fun u => z_putP (z_pput (is := [1, 2, 3, 4, 5, 6, 0, 8]) (ws := [(co, zo 0 (cF w (nI mn) (nI um6) sm lt)), (w 2, zo 1 (stF zn co (nI ps) (nI dy) (gg))), (zn 0, zc G 1 (zI 9 (vI pl))), (zn 1, zc G 1 (zI 9 (vI nu))), (zn 2, zc G 1 (zI 5 (vI ax))), (zn 3, zc G 1 (zI 5 (vI le))), (zn 4, zc G 2 (zI 5 (vI kn))), (w 5, zc G 5 (zO 8 bf6)), (w 0, zc G 4 (zO 5 sf))]) (cells := [(w 2, zo 1 (stF zn co (nI ps) (nI dy) (gg))), (zn 0, zc G 1 (zI 9 (vI pl))), (zn 1, zc G 1 (zI 9 (vI nu))), (zn 2, zc G 1 (zI 5 (vI ax))), (zn 3, zc G 1 (zI 5 (vI le))), (zn 4, zc G 2 (zI 5 (vI kn))), (co, zo 0 (cF w (nI mn) (nI um6) sm lt)), (w 0, zc G 4 (zO 5 sf))]) (cells' := [(w 2, zo 1 (stF zn co (nI ps) (nI (dy + k)) (u.2.2.2.2))), (zn 0, zc G 1 (zI 9 (vI pl))), (zn 1, zc G 1 (zI 9 (vI u.1))), (zn 2, zc G 1 (zI 5 (vI u.2.1))), (zn 3, zc G 1 (zI 5 (vI u.2.2.1))), (zn 4, zc G 2 (zI 5 (vI u.2.2.2.1))), (co, zo 0 (cF w (nI mn) (nI um6) sm lt)), (w 0, zc G 4 (zO 5 sf))]) rfl rfl rfl)) (fun r u H locs hp hw => ?_)
      obtain ⟨nu6, ax6, le6, kn6, gg6⟩ := u
      have hw : zS G ((co, zo 0 (cF w (nI mn) (nI um6) sm lt)) :: (w 2, zo 1 (stF zn co (nI ps) (nI (dy + k)) (gg6))) :: (zn 0, zc G 1 (zI 9 (vI pl))) :: (zn 1, zc G 1 (zI 9 (vI nu6))) :: (zn 2, zc G 1 (zI 5 (vI ax6))) :: (zn 3, zc G 1 (zI 5 (vI le6))) :: (zn 4, zc G 2 (zI 5 (vI kn6))) :: (w 5, zc G 5 (zO 8 bf6)) :: (w 0, zc G 4 (zO 5 sf)) :: (sqW sq (aV A) ++ (pw 8 bs6 ++ rest))) s H locs := hw
      obtain ⟨rfl, hdR⟩ := hp
      have hdi := daysN_inv hH k (show aV A 2 + k < 65535 by omega)
      refine z_get (v := .int (nI (dy + k))) hC zf_X0_201_1 hw 1 rfl rfl dX0_day_45 ?_
      have hw : zS G ((co, zo 0 (cF w (nI mn) (nI um6) sm lt)) :: (w 2, zo 1 (stF zn co (nI ps) (nI (dy + k)) (gg6))) :: (zn 0, zc G 1 (zI 9 (vI pl))) :: (zn 1, zc G 1 (zI 9 (vI nu6))) :: (zn 2, zc G 1 (zI 5 (vI ax6))) :: (zn 3, zc G 1 (zI 5 (vI le6))) :: (zn 4, zc G 2 (zI 5 (vI kn6))) :: (w 5, zc G 5 (zO 8 bf6)) :: (w 0, zc G 4 (zO 5 sf)) :: (sqW sq (aV A) ++ (pw 8 bs6 ++ rest))) s H locs := hw.perm ((((z_mv1 (sqW sq (aV A)) (pw 8 bs6) rest).trans (z_mv1 (pw 8 bs6) (sqW sq (aV A)) rest))).append_left [(co, zo 0 (cF w (nI mn) (nI um6) sm lt)), (w 2, zo 1 (stF zn co (nI ps) (nI (dy + k)) (gg6))), (zn 0, zc G 1 (zI 9 (vI pl))), (zn 1, zc G 1 (zI 9 (vI nu6))), (zn 2, zc G 1 (zI 5 (vI ax6))), (zn 3, zc G 1 (zI 5 (vI le6))), (zn 4, zc G 2 (zI 5 (vI kn6))), (w 5, zc G 5 (zO 8 bf6)), (w 0, zc G 4 (zO 5 sf))])
      have hF : F_day A (nI k) = (nI (dy + k), sV (noteA A) (daysN k (aV A))) := by unfold F_day; rw [ifP_t ⟨k, hk1, hk2, rfl⟩, cl_nI (by omega), if_neg (by omega), hdy]
      exact hend _ _ _ _ _ _ _ (ps, dy + k, um6, gg6, pl, nu6, ax6, le6, kn6, bf6, bs6) hw (by rw [hF]; exact ⟨rfl, (nwR_note hum (hps.trans (hdi.2.2 0 still_0).symm) (by rw [hdi.2.1, hdy]) hdR hnM hnB)⟩) (Nat.le_of_ble_eq_true rfl) (Nat.le_of_ble_eq_true rfl) dX0_day_48
    · skip
      refine lv_bipush (v := (-5)) hx hb dX0_day_30 zb_m5 ?_
      have hw : zS G ((co, zo 0 (cF w (nI mn) (nI um) sm lt)) :: (w 2, zo 1 (stF zn co (nI ps) (nI dy) (gg))) :: (zn 0, zc G 1 (zI 9 (vI pl))) :: (zn 1, zc G 1 (zI 9 (vI nu))) :: (zn 2, zc G 1 (zI 5 (vI ax))) :: (zn 3, zc G 1 (zI 5 (vI le))) :: (zn 4, zc G 2 (zI 5 (vI kn))) :: (w 5, zc G 5 (zO 8 bf)) :: (w 0, zc G 4 (zO 5 sf)) :: (sqW sq (aV A) ++ (pw 8 bs ++ rest))) s H locs := hw.perm ((((z_mv1 (sqW sq (aV A)) (pw 8 bs) rest).trans (z_mv1 (pw 8 bs) (sqW sq (aV A)) rest))).append_left [(co, zo 0 (cF w (nI mn) (nI um) sm lt)), (w 2, zo 1 (stF zn co (nI ps) (nI dy) (gg))), (zn 0, zc G 1 (zI 9 (vI pl))), (zn 1, zc G 1 (zI 9 (vI nu))), (zn 2, zc G 1 (zI 5 (vI ax))), (zn 3, zc G 1 (zI 5 (vI le))), (zn 4, zc G 2 (zI 5 (vI kn))), (w 5, zc G 5 (zO 8 bf)), (w 0, zc G 4 (zO 5 sf))])
      have hF : F_day A (nI k) = (-5, A) := by unfold F_day; rw [ifP_t ⟨k, hk1, hk2, rfl⟩, cl_nI (by omega), if_pos (by omega)]
      exact hend _ _ _ _ _ _ _ (ps, dy, um, gg, pl, nu, ax, le, kn, bf, bs) hw (by rw [hF]; exact ⟨rfl, ⟨hps, hdy, hum, hR, hbs⟩⟩) (Nat.le_of_ble_eq_true rfl) (Nat.le_of_ble_eq_true rfl) dX0_day_32
  · skip
    refine lv_bipush (v := (-3)) hx hb dX0_day_12 zb_m3 ?_
    have hw : zS G ((co, zo 0 (cF w (nI mn) (nI um) sm lt)) :: (w 2, zo 1 (stF zn co (nI ps) (nI dy) (gg))) :: (zn 0, zc G 1 (zI 9 (vI pl))) :: (zn 1, zc G 1 (zI 9 (vI nu))) :: (zn 2, zc G 1 (zI 5 (vI ax))) :: (zn 3, zc G 1 (zI 5 (vI le))) :: (zn 4, zc G 2 (zI 5 (vI kn))) :: (w 5, zc G 5 (zO 8 bf)) :: (w 0, zc G 4 (zO 5 sf)) :: (sqW sq (aV A) ++ (pw 8 bs ++ rest))) s H locs := hw.perm ((((z_mv1 (sqW sq (aV A)) (pw 8 bs) rest).trans (z_mv1 (pw 8 bs) (sqW sq (aV A)) rest))).append_left [(co, zo 0 (cF w (nI mn) (nI um) sm lt)), (w 2, zo 1 (stF zn co (nI ps) (nI dy) (gg))), (zn 0, zc G 1 (zI 9 (vI pl))), (zn 1, zc G 1 (zI 9 (vI nu))), (zn 2, zc G 1 (zI 5 (vI ax))), (zn 3, zc G 1 (zI 5 (vI le))), (zn 4, zc G 2 (zI 5 (vI kn))), (w 5, zc G 5 (zO 8 bf)), (w 0, zc G 4 (zO 5 sf))])
    have hF : F_day A x = (-3, A) := by exact ifP_f c_9
    exact hend _ _ _ _ _ _ _ (ps, dy, um, gg, pl, nu, ax, le, kn, bf, bs) hw (by rw [hF]; exact ⟨rfl, ⟨hps, hdy, hum, hR, hbs⟩⟩) (Nat.le_of_ble_eq_true rfl) (Nat.le_of_ble_eq_true rfl) dX0_day_14
set_option maxHeartbeats 4000000 in
theorem m_X0_bury (G : zE) (l : Launch) (kA : Nat → Nat) (hG : zG G kA) (co : Nat) (w : Nat → Nat) (zn : Nat → Nat) (A : AS) (ps : Nat) (mn : Nat) (dy : Nat) (um : Nat) (sm : Int32) (lt : Int32) (gg : Int32) (pl : Nat → Nat) (nu : Nat → Nat) (ax : Nat → Nat) (le : Nat → Nat) (kn : Nat → Nat) (bf : Nat → Option Nat) (bs : Nat → va_W) (hA : AOk A) (hps : ps = aV A 0) (hmn : mn = aV A 1) (hdy : dy = aV A 2) (hum : um = aU A) (hR : sRel (aV A) pl nu ax le kn) (hbs : slB G co bf um (aUs A) bs) (x : Int32) (y : Int32) (rest : va_W) : zMi G l yX0_bury cX0_bury 4 (some .int) 3 6 42 [.ref co, .int x, .int y] ((co, zo 0 (cF w (nI mn) (nI um) sm lt)) :: (w 2, zo 1 (stF zn co (nI ps) (nI dy) (gg))) :: (zn 0, zc G 1 (zI 9 (vI pl))) :: (zn 1, zc G 1 (zI 9 (vI nu))) :: (zn 2, zc G 1 (zI 5 (vI ax))) :: (zn 3, zc G 1 (zI 5 (vI le))) :: (zn 4, zc G 2 (zI 5 (vI kn))) :: (w 5, zc G 5 (zO 8 bf)) :: (pw 8 bs ++ rest)) (fun (r : Int32) u => r = (F_bury A x y).1 ∧ nwR G co (F_bury A x y).2 u.1 u.2.1 u.2.2.1 u.2.2.2.2.1 u.2.2.2.2.2.1 u.2.2.2.2.2.2.1 u.2.2.2.2.2.2.2.1 u.2.2.2.2.2.2.2.2.1 u.2.2.2.2.2.2.2.2.2.1 u.2.2.2.2.2.2.2.2.2.2) (fun (u : Nat × Nat × Nat × Int32 × (Nat → Nat) × (Nat → Nat) × (Nat → Nat) × (Nat → Nat) × (Nat → Nat) × (Nat → Option Nat) × (Nat → va_W)) => (co, zo 0 (cF w (nI mn) (nI u.2.2.1) sm lt)) :: (w 2, zo 1 (stF zn co (nI u.1) (nI u.2.1) (u.2.2.2.1))) :: (zn 0, zc G 1 (zI 9 (vI u.2.2.2.2.1))) :: (zn 1, zc G 1 (zI 9 (vI u.2.2.2.2.2.1))) :: (zn 2, zc G 1 (zI 5 (vI u.2.2.2.2.2.2.1))) :: (zn 3, zc G 1 (zI 5 (vI u.2.2.2.2.2.2.2.1))) :: (zn 4, zc G 2 (zI 5 (vI u.2.2.2.2.2.2.2.2.1))) :: (w 5, zc G 5 (zO 8 u.2.2.2.2.2.2.2.2.2.1)) :: (pw 8 u.2.2.2.2.2.2.2.2.2.2 ++ rest)) := by
  refine z_begI (by decide) (Nat.le_of_ble_eq_true rfl) (fun p e s m args below meth c ls Q hC hl hw hend => ?_)
  have hx := hC.hx
  have hb := hC.hb
  have hl : lv_has ls 4 [(0, .ref co), (1, .int x), (2, .int y)] := hl
  have hw : zS G ((co, zo 0 (cF w (nI mn) (nI um) sm lt)) :: (w 2, zo 1 (stF zn co (nI ps) (nI dy) (gg))) :: (zn 0, zc G 1 (zI 9 (vI pl))) :: (zn 1, zc G 1 (zI 9 (vI nu))) :: (zn 2, zc G 1 (zI 5 (vI ax))) :: (zn 3, zc G 1 (zI 5 (vI le))) :: (zn 4, zc G 2 (zI 5 (vI kn))) :: (w 5, zc G 5 (zO 8 bf)) :: (pw 8 bs ++ rest)) s s.heap [] := hw
  have hz := hG s hC.hZ.1
  have hgv := hA.2.2.1.1
  have hH : Hw (aV A) := hgv.1
  have hpl := fun j => (hR.2.2.2 j).1
  have hnu := fun j => (hR.2.2.2 j).2.1
  have hax := fun j => (hR.2.2.2 j).2.2.1
  have hle := fun j => (hR.2.2.2 j).2.2.2.1
  have hkn := fun j => (hR.2.2.2 j).2.2.2.2
  have hp9 : ps ≤ 9 := by rw [hps]; exact hH.1
  have hm5 : mn ≤ 5 := by rw [hmn]; exact hH.2.1
  have hd999 : dy ≤ 999 := by rw [hdy]; exact hA.2.2.1.2.2
  have hu8 : um ≤ 8 := by rw [hum]; exact hA.2.2.2.1.1
  refine lv_aload_n hx hb dX0_bury_0 rfl (lv_at hl 0 rfl) ?_
  refine lv_iload_n hx hb dX0_bury_1 rfl (lv_at hl 1 rfl) ?_
  refine z_ci (z_runV (As := [.int x]) (rest := []) hC zv_X0_170 (m_X0_isSquirrel G l co w mn (nI um) sm lt x (by omega) (zrem [0] _)) hw (hw.perm (z_cut (is := [0]) (cells := [(co, zo 0 (cF w (nI mn) (nI um) sm lt))]) rfl rfl)) 0 rfl rfl rfl rfl rfl (Nat.le_of_ble_eq_true rfl) hl.1 ⟨Nat.le_of_ble_eq_true rfl, Nat.le_of_ble_eq_true rfl⟩ ⟨(Nat.le_of_ble_eq_true rfl), (Nat.le_of_ble_eq_true rfl)⟩ dX0_bury_2) hw (fun _ => z_keep (is := [0]) (cs := [(co, zo 0 (cF w (nI mn) (nI um) sm lt))]) rfl rfl) (fun r u H locs hp hw => ?_)
  obtain rfl : r = bI (isP mn x) := hp
  refine zb_ne (tgt := 11) hx hb dX0_bury_5 (by decide) (fun c_5 => ?_) (fun c_5 => ?_)
  · skip
    obtain ⟨i, hi, rfl⟩ := c_5
    have hl : lv_has ls 4 [(0, .ref co), (1, .int (nI i)), (2, .int y)] := hl
    have hia : i < aV A 1 := by omega
    have hi5 : i < 5 := by omega
    have hRi := hR.2.2.1 i hi5
    have hRa := hR.2.1 i hia
    refine lv_iload_n hx hb dX0_bury_11 rfl (lv_at hl 2 rfl) ?_
    refine lv_i2l (v := (iL y)) hx hb dX0_bury_12 rfl ?_
    refine lv_lconst (v := lN 1) hx hb dX0_bury_13 rfl ?_
    refine lv_ldc2 (v := (lN 99)) hx hb hC.hown (hC.hts _ q1003) dX0_bury_14 ?_
    refine z_ci (z_runS (As := [.long (iL y), .long (lN 1), .long (lN 99)]) (rest := []) hC zs_X0_126 (m_X0_in G l y 1 99 (by decide) (by decide) _) hw rfl rfl (Nat.le_of_ble_eq_true rfl) hl.1 ⟨Nat.le_of_ble_eq_true rfl, Nat.le_of_ble_eq_true rfl⟩ ⟨(Nat.le_of_ble_eq_true rfl), (Nat.le_of_ble_eq_true rfl)⟩ dX0_bury_17) hw (fun _ => List.Perm.refl _) (fun r u H locs hp hw => ?_)
    obtain rfl : r = bI (inR y 1 99) := hp
    refine zb_ne (tgt := 26) hx hb dX0_bury_20 (by decide) (fun c_20 => ?_) (fun c_20 => ?_)
    · skip
      obtain ⟨k, hk1, hk2, rfl⟩ := c_20
      have hl : lv_has ls 4 [(0, .ref co), (1, .int (nI i)), (2, .int (nI k))] := hl
      refine lv_aload_n hx hb dX0_bury_26 rfl (lv_at hl 0 rfl) ?_
      refine z_get (v := .ref (w 2)) hC zf_X0_27_0 hw 0 rfl rfl dX0_bury_27 ?_
      refine lv_iload_n hx hb dX0_bury_30 rfl (lv_at hl 1 rfl) ?_
      refine z_ci (z_runV (As := [.int (nI i)]) (rest := []) hC zv_X0_213 (m_X1_isGone G l (w 2) co zn ps dy gg le i (by omega) (by first | assumption | (have := hle j; omega)) (zrem [1, 5] _)) hw (hw.perm (z_cut (is := [1, 5]) (cells := [(w 2, zo 1 (stF zn co (nI ps) (nI dy) gg)), (zn 3, zc G 1 (zI 5 (vI le)))]) rfl rfl)) 1 rfl rfl rfl rfl rfl (Nat.le_of_ble_eq_true rfl) hl.1 ⟨Nat.le_of_ble_eq_true rfl, Nat.le_of_ble_eq_true rfl⟩ ⟨(Nat.le_of_ble_eq_true rfl), (Nat.le_of_ble_eq_true rfl)⟩ dX0_bury_31) hw (fun _ => z_keep (is := [1, 5]) (cs := [(w 2, zo 1 (stF zn co (nI ps) (nI dy) gg)), (zn 3, zc G 1 (zI 5 (vI le)))]) rfl rfl) (fun r u H locs hp hw => ?_)
      obtain rfl : r = bI (le i = 3) := hp
      refine zb_eq (tgt := 40) hx hb dX0_bury_34 (by decide) (fun c_34 => ?_) (fun c_34 => ?_)
      · skip
        refine lv_aload_n hx hb dX0_bury_40 rfl (lv_at hl 0 rfl) ?_
        refine z_get (v := .ref (w 2)) hC zf_X0_27_0 hw 0 rfl rfl dX0_bury_41 ?_
        refine z_get (v := .int (nI ps)) hC zf_X0_76_1 hw 1 rfl rfl dX0_bury_44 ?_
        refine lv_bipush (v := (nI 9)) hx hb dX0_bury_47 zb_9 ?_
        refine zi_ne (tgt := 55) hx hb (by omega) (by decide) dX0_bury_49 (by decide) (fun c_49 => ?_) (fun c_49 => ?_)
        · skip
          refine lv_aload_n hx hb dX0_bury_55 rfl (lv_at hl 0 rfl) ?_
          refine z_cv (z_runV (As := []) (rest := []) hC zv_X0_204 (m_X0_note G l kA (by first | assumption | (omega)) co w zn (aV A) (aUs A) um mn ps dy sm lt gg pl nu ax le kn bf bs hu8 hps hdy (by first | assumption | (omega)) hR hbs (zrem [0, 1, 2, 3, 4, 5, 6, 7] [(co, zo 0 (cF w (nI mn) (nI um) sm lt)), (w 2, zo 1 (stF zn co (nI ps) (nI dy) gg)), (zn 0, zc G 1 (zI 9 (vI pl))), (zn 1, zc G 1 (zI 9 (vI nu))), (zn 2, zc G 1 (zI 5 (vI ax))), (zn 3, zc G 1 (zI 5 (vI le))), (zn 4, zc G 2 (zI 5 (vI kn))), (w 5, zc G 5 (zO 8 bf))] ++ rest)) hw (hw.perm (z_cutP (z_cut (is := [0, 1, 2, 3, 4, 5, 6, 7]) (ws := [(co, zo 0 (cF w (nI mn) (nI um) sm lt)), (w 2, zo 1 (stF zn co (nI ps) (nI dy) gg)), (zn 0, zc G 1 (zI 9 (vI pl))), (zn 1, zc G 1 (zI 9 (vI nu))), (zn 2, zc G 1 (zI 5 (vI ax))), (zn 3, zc G 1 (zI 5 (vI le))), (zn 4, zc G 2 (zI 5 (vI kn))), (w 5, zc G 5 (zO 8 bf))]) (cells := [(co, zo 0 (cF w (nI mn) (nI um) sm lt)), (w 2, zo 1 (stF zn co (nI ps) (nI dy) (gg))), (zn 0, zc G 1 (zI 9 (vI pl))), (zn 1, zc G 1 (zI 9 (vI nu))), (zn 2, zc G 1 (zI 5 (vI ax))), (zn 3, zc G 1 (zI 5 (vI le))), (zn 4, zc G 2 (zI 5 (vI kn))), (w 5, zc G 5 (zO 8 bf))]) rfl rfl))) 0 rfl rfl rfl rfl rfl (Nat.le_of_ble_eq_true rfl) hl.1 ⟨Nat.le_of_ble_eq_true rfl, Nat.le_of_ble_eq_true rfl⟩ ⟨(Nat.le_of_ble_eq_true rfl), (Nat.le_of_ble_eq_true rfl)⟩ dX0_bury_56) hw (fun u => z_putP (z_pput (is := [0, 1, 2, 3, 4, 5, 6, 7]) (ws := [(co, zo 0 (cF w (nI mn) (nI um) sm lt)), (w 2, zo 1 (stF zn co (nI ps) (nI dy) gg)), (zn 0, zc G 1 (zI 9 (vI pl))), (zn 1, zc G 1 (zI 9 (vI nu))), (zn 2, zc G 1 (zI 5 (vI ax))), (zn 3, zc G 1 (zI 5 (vI le))), (zn 4, zc G 2 (zI 5 (vI kn))), (w 5, zc G 5 (zO 8 bf))]) (cells := [(co, zo 0 (cF w (nI mn) (nI um) sm lt)), (w 2, zo 1 (stF zn co (nI ps) (nI dy) (gg))), (zn 0, zc G 1 (zI 9 (vI pl))), (zn 1, zc G 1 (zI 9 (vI nu))), (zn 2, zc G 1 (zI 5 (vI ax))), (zn 3, zc G 1 (zI 5 (vI le))), (zn 4, zc G 2 (zI 5 (vI kn))), (w 5, zc G 5 (zO 8 bf))]) (cells' := [(co, zo 0 (cF w (nI mn) (nI u.1) sm lt)), (w 2, zo 1 (stF zn co (nI ps) (nI dy) (gg))), (zn 0, zc G 1 (zI 9 (vI pl))), (zn 1, zc G 1 (zI 9 (vI nu))), (zn 2, zc G 1 (zI 5 (vI ax))), (zn 3, zc G 1 (zI 5 (vI le))), (zn 4, zc G 2 (zI 5 (vI kn))), (w 5, zc G 5 (zO 8 u.2.1))]) rfl rfl rfl)) (fun u H locs hp hw => ?_)
          obtain ⟨um6, bf6, bs6⟩ := u
          have hw : zS G ((co, zo 0 (cF w (nI mn) (nI um6) sm lt)) :: (w 2, zo 1 (stF zn co (nI ps) (nI dy) (gg))) :: (zn 0, zc G 1 (zI 9 (vI pl))) :: (zn 1, zc G 1 (zI 9 (vI nu))) :: (zn 2, zc G 1 (zI 5 (vI ax))) :: (zn 3, zc G 1 (zI 5 (vI le))) :: (zn 4, zc G 2 (zI 5 (vI kn))) :: (w 5, zc G 5 (zO 8 bf6)) :: (pw 8 bs6 ++ rest)) s H locs := hw
          obtain ⟨hnM, hnB⟩ := hp
          have hb2 : buryN (aV A) i k 2 = aV A 2 := (updN_ne _ _ (by omega)).trans ((updN_ne _ _ (by omega)).trans ((updN_ne _ _ (by omega)).trans (updN_ne _ _ (by omega))))
          have hp512 := pow512 (show ps < 9 by omega)
          have hk512 := or9 (hkn i) hp512
          refine lv_aload_n hx hb dX0_bury_59 rfl (lv_at hl 0 rfl) ?_
          refine z_get (v := .ref (w 2)) hC zf_X0_27_0 hw 0 rfl rfl dX0_bury_60 ?_
          refine lv_dup hx hb dX0_bury_63 rfl ?_
          refine z_get (v := .int (nI ps)) hC zf_X0_76_1 hw 1 rfl rfl dX0_bury_64 ?_
          refine lv_dup_x1 hx hb dX0_bury_67 rfl rfl ?_
          refine lv_iconst (v := (nI 1)) hx hb dX0_bury_68 zk_1 ?_
          refine zn_iadd hx hb dX0_bury_69 ?_
          refine z_puti hC zf_X0_76_1 hw 1 rfl (Nat.le_of_ble_eq_true rfl) dX0_bury_70 (fun H locs hw => ?_)
          have hw : zS G ((co, zo 0 (cF w (nI mn) (nI um6) sm lt)) :: (w 2, zo 1 (stF zn co (nI (ps + 1)) (nI dy) gg)) :: (zn 0, zc G 1 (zI 9 (vI pl))) :: (zn 1, zc G 1 (zI 9 (vI nu))) :: (zn 2, zc G 1 (zI 5 (vI ax))) :: (zn 3, zc G 1 (zI 5 (vI le))) :: (zn 4, zc G 2 (zI 5 (vI kn))) :: (w 5, zc G 5 (zO 8 bf6)) :: (pw 8 bs6 ++ rest)) s H locs := hw
          refine lv_istore_n (lv' := [(3, .int (nI ps)), (0, .ref co), (1, .int (nI i)), (2, .int (nI k))]) hx hb dX0_bury_73 rfl hl (by decide) rfl (fun ls hl => ?_)
          refine lv_aload_n hx hb dX0_bury_74 rfl (lv_at hl 1 rfl) ?_
          refine z_get (v := .ref (w 2)) hC zf_X0_27_0 hw 0 rfl rfl dX0_bury_75 ?_
          refine z_get (v := .ref (zn 0)) hC zf_X0_86_1 hw 1 rfl rfl dX0_bury_78 ?_
          refine lv_iload_n hx hb dX0_bury_81 rfl (lv_at hl 0 rfl) ?_
          refine lv_aload_n hx hb dX0_bury_82 rfl (lv_at hl 1 rfl) ?_
          refine z_get (v := .ref (w 2)) hC zf_X0_27_0 hw 0 rfl rfl dX0_bury_83 ?_
          refine z_get (v := .ref (zn 2)) hC zf_X0_97_1 hw 1 rfl rfl dX0_bury_86 ?_
          refine lv_iload_n hx hb dX0_bury_89 rfl (lv_at hl 2 rfl) ?_
          refine z_bald (x := (nI (ax i))) hC hw 4 rfl (by omega) (by decide) rfl dX0_bury_90 ?_
          refine z_bast (f' := vI (updN pl ps (ax i))) hC hw 2 rfl (by omega) (by decide) ((congrArg _ (znbyte (by have := hax i; omega))).trans (vI_upd _ _ _)) dX0_bury_91 (fun H locs hw => ?_)
          have hw : zS G ((co, zo 0 (cF w (nI mn) (nI um6) sm lt)) :: (w 2, zo 1 (stF zn co (nI (ps + 1)) (nI dy) gg)) :: (zn 0, zc G 1 (zI 9 (vI (updN pl ps (ax i))))) :: (zn 1, zc G 1 (zI 9 (vI nu))) :: (zn 2, zc G 1 (zI 5 (vI ax))) :: (zn 3, zc G 1 (zI 5 (vI le))) :: (zn 4, zc G 2 (zI 5 (vI kn))) :: (w 5, zc G 5 (zO 8 bf6)) :: (pw 8 bs6 ++ rest)) s H locs := hw
          refine lv_aload_n hx hb dX0_bury_92 rfl (lv_at hl 1 rfl) ?_
          refine z_get (v := .ref (w 2)) hC zf_X0_27_0 hw 0 rfl rfl dX0_bury_93 ?_
          refine z_get (v := .ref (zn 1)) hC zf_X0_90_1 hw 1 rfl rfl dX0_bury_96 ?_
          refine lv_iload_n hx hb dX0_bury_99 rfl (lv_at hl 0 rfl) ?_
          refine lv_iload_n hx hb dX0_bury_100 rfl (lv_at hl 3 rfl) ?_
          refine lv_i2b (v := (nI k)) hx hb dX0_bury_101 (zi2b (by omega)) ?_
          refine z_bast (f' := vI (updN nu ps k)) hC hw 3 rfl (by omega) (by decide) ((congrArg _ (znbyte (by omega))).trans (vI_upd _ _ _)) dX0_bury_102 (fun H locs hw => ?_)
          have hw : zS G ((co, zo 0 (cF w (nI mn) (nI um6) sm lt)) :: (w 2, zo 1 (stF zn co (nI (ps + 1)) (nI dy) gg)) :: (zn 0, zc G 1 (zI 9 (vI (updN pl ps (ax i))))) :: (zn 1, zc G 1 (zI 9 (vI (updN nu ps k)))) :: (zn 2, zc G 1 (zI 5 (vI ax))) :: (zn 3, zc G 1 (zI 5 (vI le))) :: (zn 4, zc G 2 (zI 5 (vI kn))) :: (w 5, zc G 5 (zO 8 bf6)) :: (pw 8 bs6 ++ rest)) s H locs := hw
          refine lv_aload_n hx hb dX0_bury_103 rfl (lv_at hl 1 rfl) ?_
          refine z_get (v := .ref (w 2)) hC zf_X0_27_0 hw 0 rfl rfl dX0_bury_104 ?_
          refine z_get (v := .ref (zn 4)) hC zf_X0_79_1 hw 1 rfl rfl dX0_bury_107 ?_
          refine lv_iload_n hx hb dX0_bury_110 rfl (lv_at hl 2 rfl) ?_
          refine lv_dup2_11 hx hb dX0_bury_111 rfl rfl ?_
          refine z_sald (x := (nI (kn i))) hC hw 6 rfl (by omega) (by decide) rfl dX0_bury_112 ?_
          refine lv_iconst (v := (nI 1)) hx hb dX0_bury_113 zk_1 ?_
          refine lv_iload_n hx hb dX0_bury_114 rfl (lv_at hl 0 rfl) ?_
          refine zv_ishl (v := (nI (2 ^ ps))) hx hb (nI_shl1 (by omega)) dX0_bury_115 ?_
          refine lv_i2s (v := (nI (2 ^ ps))) hx hb dX0_bury_116 (zi2s (by omega)) ?_
          refine zv_ior (v := (nI ((kn i) ||| (2 ^ ps)))) hx hb (nI_or _ _) dX0_bury_117 ?_
          refine lv_i2s (v := (nI ((kn i) ||| (2 ^ ps)))) hx hb dX0_bury_118 (zi2s (by have := hkn i; omega)) ?_
          refine z_sast (f' := vI (updN kn i ((kn i) ||| (2 ^ ps)))) hC hw 6 rfl (by omega) (by decide) ((congrArg _ (znshort (by have := hkn i; omega))).trans (vI_upd _ _ _)) dX0_bury_119 (fun H locs hw => ?_)
          have hw : zS G ((co, zo 0 (cF w (nI mn) (nI um6) sm lt)) :: (w 2, zo 1 (stF zn co (nI (ps + 1)) (nI dy) gg)) :: (zn 0, zc G 1 (zI 9 (vI (updN pl ps (ax i))))) :: (zn 1, zc G 1 (zI 9 (vI (updN nu ps k)))) :: (zn 2, zc G 1 (zI 5 (vI ax))) :: (zn 3, zc G 1 (zI 5 (vI le))) :: (zn 4, zc G 2 (zI 5 (vI (updN kn i ((kn i) ||| (2 ^ ps)))))) :: (w 5, zc G 5 (zO 8 bf6)) :: (pw 8 bs6 ++ rest)) s H locs := hw
          refine lv_iload_n hx hb dX0_bury_120 rfl (lv_at hl 0 rfl) ?_
          have hF : F_bury A (nI i) (nI k) = (nI ps, sV (noteA A) (buryN (aV A) i k)) := by unfold F_bury; rw [ifP_t ⟨i, hia, rfl⟩, ifP_t ⟨k, hk1, hk2, rfl⟩, cl_nI (by omega), ifP_f (show ¬ goneN (aV A) i from fun q => c_34 (hRi.1.trans q)), if_neg (by omega), cl_nI (by omega), hps]
          exact hend _ _ _ _ _ _ _ (ps + 1, dy, um6, gg, (updN pl ps (ax i)), (updN nu ps k), ax, le, (updN kn i ((kn i) ||| (2 ^ ps))), bf6, bs6) hw (by rw [hF]; exact ⟨rfl, (nwR_note hum (by rw [hps]; exact (updN_same _ _ _).symm) (hdy.trans hb2.symm) (by rw [hps]; exact bury_rel hH hR hia (by omega) (by omega)) hnM hnB)⟩) (Nat.le_of_ble_eq_true rfl) (Nat.le_of_ble_eq_true rfl) dX0_bury_121
        · skip
          refine lv_bipush (v := (-5)) hx hb dX0_bury_52 zb_m5 ?_
          have hF : F_bury A (nI i) (nI k) = (-5, A) := by unfold F_bury; rw [ifP_t ⟨i, hia, rfl⟩, ifP_t ⟨k, hk1, hk2, rfl⟩, cl_nI (by omega), ifP_f (show ¬ goneN (aV A) i from fun q => c_34 (hRi.1.trans q)), if_pos (by omega)]
          exact hend _ _ _ _ _ _ _ (ps, dy, um, gg, pl, nu, ax, le, kn, bf, bs) hw (by rw [hF]; exact ⟨rfl, ⟨hps, hdy, hum, hR, hbs⟩⟩) (Nat.le_of_ble_eq_true rfl) (Nat.le_of_ble_eq_true rfl) dX0_bury_54
      · skip
        refine lv_bipush (v := (-4)) hx hb dX0_bury_37 zb_m4 ?_
        have hF : F_bury A (nI i) (nI k) = (-4, A) := by unfold F_bury; rw [ifP_t ⟨i, hia, rfl⟩, ifP_t ⟨k, hk1, hk2, rfl⟩, cl_nI (by omega), ifP_t (show goneN (aV A) i from hRi.1.symm.trans c_34)]
        exact hend _ _ _ _ _ _ _ (ps, dy, um, gg, pl, nu, ax, le, kn, bf, bs) hw (by rw [hF]; exact ⟨rfl, ⟨hps, hdy, hum, hR, hbs⟩⟩) (Nat.le_of_ble_eq_true rfl) (Nat.le_of_ble_eq_true rfl) dX0_bury_39
    · skip
      refine lv_bipush (v := (-3)) hx hb dX0_bury_23 zb_m3 ?_
      have hF : F_bury A (nI i) y = (-3, A) := by exact (ifP_t ⟨i, hia, rfl⟩).trans (ifP_f c_20)
      exact hend _ _ _ _ _ _ _ (ps, dy, um, gg, pl, nu, ax, le, kn, bf, bs) hw (by rw [hF]; exact ⟨rfl, ⟨hps, hdy, hum, hR, hbs⟩⟩) (Nat.le_of_ble_eq_true rfl) (Nat.le_of_ble_eq_true rfl) dX0_bury_25
  · skip
    refine lv_bipush (v := (-2)) hx hb dX0_bury_8 zb_m2 ?_
    have hF : F_bury A x y = (-2, A) := by exact ifP_f (fun q => c_5 (by rw [hmn]; exact q))
    exact hend _ _ _ _ _ _ _ (ps, dy, um, gg, pl, nu, ax, le, kn, bf, bs) hw (by rw [hF]; exact ⟨rfl, ⟨hps, hdy, hum, hR, hbs⟩⟩) (Nat.le_of_ble_eq_true rfl) (Nat.le_of_ble_eq_true rfl) dX0_bury_10
set_option maxHeartbeats 4000000 in
theorem m_X0_raid (G : zE) (l : Launch) (kA : Nat → Nat) (hG : zG G kA) (co : Nat) (w : Nat → Nat) (zn : Nat → Nat) (A : AS) (ps : Nat) (mn : Nat) (dy : Nat) (um : Nat) (sm : Int32) (lt : Int32) (gg : Int32) (pl : Nat → Nat) (nu : Nat → Nat) (ax : Nat → Nat) (le : Nat → Nat) (kn : Nat → Nat) (bf : Nat → Option Nat) (bs : Nat → va_W) (hA : AOk A) (hps : ps = aV A 0) (hmn : mn = aV A 1) (hdy : dy = aV A 2) (hum : um = aU A) (hR : sRel (aV A) pl nu ax le kn) (hbs : slB G co bf um (aUs A) bs) (x : Int32) (y : Int32) (rest : va_W) : zMi G l yX0_raid cX0_raid 3 (some .int) 3 6 42 [.ref co, .int x, .int y] ((co, zo 0 (cF w (nI mn) (nI um) sm lt)) :: (w 2, zo 1 (stF zn co (nI ps) (nI dy) (gg))) :: (zn 0, zc G 1 (zI 9 (vI pl))) :: (zn 1, zc G 1 (zI 9 (vI nu))) :: (zn 2, zc G 1 (zI 5 (vI ax))) :: (zn 3, zc G 1 (zI 5 (vI le))) :: (zn 4, zc G 2 (zI 5 (vI kn))) :: (w 5, zc G 5 (zO 8 bf)) :: (pw 8 bs ++ rest)) (fun (r : Int32) u => r = (F_raid A x y).1 ∧ nwR G co (F_raid A x y).2 u.1 u.2.1 u.2.2.1 u.2.2.2.2.1 u.2.2.2.2.2.1 u.2.2.2.2.2.2.1 u.2.2.2.2.2.2.2.1 u.2.2.2.2.2.2.2.2.1 u.2.2.2.2.2.2.2.2.2.1 u.2.2.2.2.2.2.2.2.2.2) (fun (u : Nat × Nat × Nat × Int32 × (Nat → Nat) × (Nat → Nat) × (Nat → Nat) × (Nat → Nat) × (Nat → Nat) × (Nat → Option Nat) × (Nat → va_W)) => (co, zo 0 (cF w (nI mn) (nI u.2.2.1) sm lt)) :: (w 2, zo 1 (stF zn co (nI u.1) (nI u.2.1) (u.2.2.2.1))) :: (zn 0, zc G 1 (zI 9 (vI u.2.2.2.2.1))) :: (zn 1, zc G 1 (zI 9 (vI u.2.2.2.2.2.1))) :: (zn 2, zc G 1 (zI 5 (vI u.2.2.2.2.2.2.1))) :: (zn 3, zc G 1 (zI 5 (vI u.2.2.2.2.2.2.2.1))) :: (zn 4, zc G 2 (zI 5 (vI u.2.2.2.2.2.2.2.2.1))) :: (w 5, zc G 5 (zO 8 u.2.2.2.2.2.2.2.2.2.1)) :: (pw 8 u.2.2.2.2.2.2.2.2.2.2 ++ rest)) := by
  refine z_begI (by decide) (Nat.le_of_ble_eq_true rfl) (fun p e s m args below meth c ls Q hC hl hw hend => ?_)
  have hx := hC.hx
  have hb := hC.hb
  have hl : lv_has ls 3 [(0, .ref co), (1, .int x), (2, .int y)] := hl
  have hw : zS G ((co, zo 0 (cF w (nI mn) (nI um) sm lt)) :: (w 2, zo 1 (stF zn co (nI ps) (nI dy) (gg))) :: (zn 0, zc G 1 (zI 9 (vI pl))) :: (zn 1, zc G 1 (zI 9 (vI nu))) :: (zn 2, zc G 1 (zI 5 (vI ax))) :: (zn 3, zc G 1 (zI 5 (vI le))) :: (zn 4, zc G 2 (zI 5 (vI kn))) :: (w 5, zc G 5 (zO 8 bf)) :: (pw 8 bs ++ rest)) s s.heap [] := hw
  have hz := hG s hC.hZ.1
  have hgv := hA.2.2.1.1
  have hH : Hw (aV A) := hgv.1
  have hpl := fun j => (hR.2.2.2 j).1
  have hnu := fun j => (hR.2.2.2 j).2.1
  have hax := fun j => (hR.2.2.2 j).2.2.1
  have hle := fun j => (hR.2.2.2 j).2.2.2.1
  have hkn := fun j => (hR.2.2.2 j).2.2.2.2
  have hp9 : ps ≤ 9 := by rw [hps]; exact hH.1
  have hm5 : mn ≤ 5 := by rw [hmn]; exact hH.2.1
  have hd999 : dy ≤ 999 := by rw [hdy]; exact hA.2.2.1.2.2
  have hu8 : um ≤ 8 := by rw [hum]; exact hA.2.2.2.1.1
  refine lv_aload_n hx hb dX0_raid_0 rfl (lv_at hl 0 rfl) ?_
  refine lv_iload_n hx hb dX0_raid_1 rfl (lv_at hl 1 rfl) ?_
  refine z_ci (z_runV (As := [.int x]) (rest := []) hC zv_X0_159 (m_X0_isPit G l co w (nI mn) (nI um) sm lt zn ps (nI dy) gg x (by omega) (zrem [0, 1] _)) hw (hw.perm (z_cut (is := [0, 1]) (cells := [(co, zo 0 (cF w (nI mn) (nI um) sm lt)), (w 2, zo 1 (stF zn co (nI ps) (nI dy) gg))]) rfl rfl)) 0 rfl rfl rfl rfl rfl (Nat.le_of_ble_eq_true rfl) hl.1 ⟨Nat.le_of_ble_eq_true rfl, Nat.le_of_ble_eq_true rfl⟩ ⟨(Nat.le_of_ble_eq_true rfl), (Nat.le_of_ble_eq_true rfl)⟩ dX0_raid_2) hw (fun _ => z_keep (is := [0, 1]) (cs := [(co, zo 0 (cF w (nI mn) (nI um) sm lt)), (w 2, zo 1 (stF zn co (nI ps) (nI dy) gg))]) rfl rfl) (fun r u H locs hp hw => ?_)
  obtain rfl : r = bI (isP ps x) := hp
  refine zb_ne (tgt := 11) hx hb dX0_raid_5 (by decide) (fun c_5 => ?_) (fun c_5 => ?_)
  · skip
    obtain ⟨t, ht, rfl⟩ := c_5
    have hl : lv_has ls 3 [(0, .ref co), (1, .int (nI t)), (2, .int y)] := hl
    have hta : t < aV A 0 := by omega
    have ht9 : t < 9 := by omega
    have hRt := hR.1 t hta
    refine lv_iload_n hx hb dX0_raid_11 rfl (lv_at hl 2 rfl) ?_
    refine lv_i2l (v := (iL y)) hx hb dX0_raid_12 rfl ?_
    refine lv_lconst (v := lN 1) hx hb dX0_raid_13 rfl ?_
    refine lv_ldc2 (v := (lN 99)) hx hb hC.hown (hC.hts _ q1003) dX0_raid_14 ?_
    refine z_ci (z_runS (As := [.long (iL y), .long (lN 1), .long (lN 99)]) (rest := []) hC zs_X0_126 (m_X0_in G l y 1 99 (by decide) (by decide) _) hw rfl rfl (Nat.le_of_ble_eq_true rfl) hl.1 ⟨Nat.le_of_ble_eq_true rfl, Nat.le_of_ble_eq_true rfl⟩ ⟨(Nat.le_of_ble_eq_true rfl), (Nat.le_of_ble_eq_true rfl)⟩ dX0_raid_17) hw (fun _ => List.Perm.refl _) (fun r u H locs hp hw => ?_)
    obtain rfl : r = bI (inR y 1 99) := hp
    refine zb_ne (tgt := 26) hx hb dX0_raid_20 (by decide) (fun c_20 => ?_) (fun c_20 => ?_)
    · skip
      obtain ⟨k, hk1, hk2, rfl⟩ := c_20
      have hl : lv_has ls 3 [(0, .ref co), (1, .int (nI t)), (2, .int (nI k))] := hl
      refine lv_aload_n hx hb dX0_raid_26 rfl (lv_at hl 0 rfl) ?_
      refine z_get (v := .ref (w 2)) hC zf_X0_27_0 hw 0 rfl rfl dX0_raid_27 ?_
      refine z_get (v := .ref (zn 1)) hC zf_X0_90_1 hw 1 rfl rfl dX0_raid_30 ?_
      refine lv_iload_n hx hb dX0_raid_33 rfl (lv_at hl 1 rfl) ?_
      refine z_bald (x := (nI (nu t))) hC hw 3 rfl (by omega) (by decide) rfl dX0_raid_34 ?_
      refine lv_iload_n hx hb dX0_raid_35 rfl (lv_at hl 2 rfl) ?_
      refine zi_ge (tgt := 42) hx hb (by have := hnu t; omega) (by omega) dX0_raid_36 (by decide) (fun c_36 => ?_) (fun c_36 => ?_)
      · skip
        refine lv_aload_n hx hb dX0_raid_42 rfl (lv_at hl 0 rfl) ?_
        refine z_cv (z_runV (As := []) (rest := []) hC zv_X0_204 (m_X0_note G l kA (by first | assumption | (omega)) co w zn (aV A) (aUs A) um mn ps dy sm lt gg pl nu ax le kn bf bs hu8 hps hdy (by first | assumption | (omega)) hR hbs (zrem [0, 1, 2, 3, 4, 5, 6, 7] [(co, zo 0 (cF w (nI mn) (nI um) sm lt)), (w 2, zo 1 (stF zn co (nI ps) (nI dy) gg)), (zn 0, zc G 1 (zI 9 (vI pl))), (zn 1, zc G 1 (zI 9 (vI nu))), (zn 2, zc G 1 (zI 5 (vI ax))), (zn 3, zc G 1 (zI 5 (vI le))), (zn 4, zc G 2 (zI 5 (vI kn))), (w 5, zc G 5 (zO 8 bf))] ++ rest)) hw (hw.perm (z_cutP (z_cut (is := [0, 1, 2, 3, 4, 5, 6, 7]) (ws := [(co, zo 0 (cF w (nI mn) (nI um) sm lt)), (w 2, zo 1 (stF zn co (nI ps) (nI dy) gg)), (zn 0, zc G 1 (zI 9 (vI pl))), (zn 1, zc G 1 (zI 9 (vI nu))), (zn 2, zc G 1 (zI 5 (vI ax))), (zn 3, zc G 1 (zI 5 (vI le))), (zn 4, zc G 2 (zI 5 (vI kn))), (w 5, zc G 5 (zO 8 bf))]) (cells := [(co, zo 0 (cF w (nI mn) (nI um) sm lt)), (w 2, zo 1 (stF zn co (nI ps) (nI dy) (gg))), (zn 0, zc G 1 (zI 9 (vI pl))), (zn 1, zc G 1 (zI 9 (vI nu))), (zn 2, zc G 1 (zI 5 (vI ax))), (zn 3, zc G 1 (zI 5 (vI le))), (zn 4, zc G 2 (zI 5 (vI kn))), (w 5, zc G 5 (zO 8 bf))]) rfl rfl))) 0 rfl rfl rfl rfl rfl (Nat.le_of_ble_eq_true rfl) hl.1 ⟨Nat.le_of_ble_eq_true rfl, Nat.le_of_ble_eq_true rfl⟩ ⟨(Nat.le_of_ble_eq_true rfl), (Nat.le_of_ble_eq_true rfl)⟩ dX0_raid_43) hw (fun u => z_putP (z_pput (is := [0, 1, 2, 3, 4, 5, 6, 7]) (ws := [(co, zo 0 (cF w (nI mn) (nI um) sm lt)), (w 2, zo 1 (stF zn co (nI ps) (nI dy) gg)), (zn 0, zc G 1 (zI 9 (vI pl))), (zn 1, zc G 1 (zI 9 (vI nu))), (zn 2, zc G 1 (zI 5 (vI ax))), (zn 3, zc G 1 (zI 5 (vI le))), (zn 4, zc G 2 (zI 5 (vI kn))), (w 5, zc G 5 (zO 8 bf))]) (cells := [(co, zo 0 (cF w (nI mn) (nI um) sm lt)), (w 2, zo 1 (stF zn co (nI ps) (nI dy) (gg))), (zn 0, zc G 1 (zI 9 (vI pl))), (zn 1, zc G 1 (zI 9 (vI nu))), (zn 2, zc G 1 (zI 5 (vI ax))), (zn 3, zc G 1 (zI 5 (vI le))), (zn 4, zc G 2 (zI 5 (vI kn))), (w 5, zc G 5 (zO 8 bf))]) (cells' := [(co, zo 0 (cF w (nI mn) (nI u.1) sm lt)), (w 2, zo 1 (stF zn co (nI ps) (nI dy) (gg))), (zn 0, zc G 1 (zI 9 (vI pl))), (zn 1, zc G 1 (zI 9 (vI nu))), (zn 2, zc G 1 (zI 5 (vI ax))), (zn 3, zc G 1 (zI 5 (vI le))), (zn 4, zc G 2 (zI 5 (vI kn))), (w 5, zc G 5 (zO 8 u.2.1))]) rfl rfl rfl)) (fun u H locs hp hw => ?_)
        obtain ⟨um6, bf6, bs6⟩ := u
        have hw : zS G ((co, zo 0 (cF w (nI mn) (nI um6) sm lt)) :: (w 2, zo 1 (stF zn co (nI ps) (nI dy) (gg))) :: (zn 0, zc G 1 (zI 9 (vI pl))) :: (zn 1, zc G 1 (zI 9 (vI nu))) :: (zn 2, zc G 1 (zI 5 (vI ax))) :: (zn 3, zc G 1 (zI 5 (vI le))) :: (zn 4, zc G 2 (zI 5 (vI kn))) :: (w 5, zc G 5 (zO 8 bf6)) :: (pw 8 bs6 ++ rest)) s H locs := hw
        obtain ⟨hnM, hnB⟩ := hp
        refine lv_aload_n hx hb dX0_raid_46 rfl (lv_at hl 0 rfl) ?_
        refine z_get (v := .ref (w 2)) hC zf_X0_27_0 hw 0 rfl rfl dX0_raid_47 ?_
        refine z_get (v := .ref (zn 1)) hC zf_X0_90_1 hw 1 rfl rfl dX0_raid_50 ?_
        refine lv_iload_n hx hb dX0_raid_53 rfl (lv_at hl 1 rfl) ?_
        refine lv_dup2_11 hx hb dX0_raid_54 rfl rfl ?_
        refine z_bald (x := (nI (nu t))) hC hw 3 rfl (by omega) (by decide) rfl dX0_raid_55 ?_
        refine lv_iload_n hx hb dX0_raid_56 rfl (lv_at hl 2 rfl) ?_
        refine lv_i2b (v := (nI k)) hx hb dX0_raid_57 (zi2b (by omega)) ?_
        refine zn_isub hx hb (by have := hnu t; omega) dX0_raid_58 ?_
        refine lv_i2b (v := (nI ((nu t) - k))) hx hb dX0_raid_59 (zi2b (by have := hnu t; omega)) ?_
        refine z_bast (f' := vI (updN nu t ((nu t) - k))) hC hw 3 rfl (by omega) (by decide) ((congrArg _ (znbyte (by have := hnu t; omega))).trans (vI_upd _ _ _)) dX0_raid_60 (fun H locs hw => ?_)
        have hw : zS G ((co, zo 0 (cF w (nI mn) (nI um6) sm lt)) :: (w 2, zo 1 (stF zn co (nI ps) (nI dy) (gg))) :: (zn 0, zc G 1 (zI 9 (vI pl))) :: (zn 1, zc G 1 (zI 9 (vI (updN nu t ((nu t) - k))))) :: (zn 2, zc G 1 (zI 5 (vI ax))) :: (zn 3, zc G 1 (zI 5 (vI le))) :: (zn 4, zc G 2 (zI 5 (vI kn))) :: (w 5, zc G 5 (zO 8 bf6)) :: (pw 8 bs6 ++ rest)) s H locs := hw
        refine lv_aload_n hx hb dX0_raid_61 rfl (lv_at hl 0 rfl) ?_
        refine z_get (v := .ref (w 2)) hC zf_X0_27_0 hw 0 rfl rfl dX0_raid_62 ?_
        refine z_get (v := .ref (zn 1)) hC zf_X0_90_1 hw 1 rfl rfl dX0_raid_65 ?_
        refine lv_iload_n hx hb dX0_raid_68 rfl (lv_at hl 1 rfl) ?_
        refine z_bald (x := (nI (nu t - k))) hC hw 3 rfl (by omega) (by decide) (congrArg nI (updN_same _ _ _)) dX0_raid_69 ?_
        have hF : F_raid A (nI t) (nI k) = (nI (nu t - k), sV (noteA A) (updN (aV A) (3 + 2 * t + 1) (nu t - k))) := by unfold F_raid; rw [ifP_t ⟨t, hta, rfl⟩, ifP_t ⟨k, hk1, hk2, rfl⟩, cl_nI (by omega), cl_nI (by omega), ← hRt.2, if_neg (by omega)]
        exact hend _ _ _ _ _ _ _ (ps, dy, um6, gg, pl, (updN nu t ((nu t) - k)), ax, le, kn, bf6, bs6) hw (by rw [hF]; exact ⟨rfl, (nwR_note hum (hps.trans (updN_ne _ _ (by omega)).symm) (hdy.trans (updN_ne _ _ (by omega)).symm) (sRel_nu hH.1 hR hta (by have := hnu t; omega)) hnM hnB)⟩) (Nat.le_of_ble_eq_true rfl) (Nat.le_of_ble_eq_true rfl) dX0_raid_70
      · skip
        refine lv_bipush (v := (-4)) hx hb dX0_raid_39 zb_m4 ?_
        have hF : F_raid A (nI t) (nI k) = (-4, A) := by unfold F_raid; rw [ifP_t ⟨t, hta, rfl⟩, ifP_t ⟨k, hk1, hk2, rfl⟩, cl_nI (by omega), cl_nI (by omega), ← hRt.2, if_pos (by omega)]
        exact hend _ _ _ _ _ _ _ (ps, dy, um, gg, pl, nu, ax, le, kn, bf, bs) hw (by rw [hF]; exact ⟨rfl, ⟨hps, hdy, hum, hR, hbs⟩⟩) (Nat.le_of_ble_eq_true rfl) (Nat.le_of_ble_eq_true rfl) dX0_raid_41
    · skip
      refine lv_bipush (v := (-3)) hx hb dX0_raid_23 zb_m3 ?_
      have hF : F_raid A (nI t) y = (-3, A) := by exact (ifP_t ⟨t, hta, rfl⟩).trans (ifP_f c_20)
      exact hend _ _ _ _ _ _ _ (ps, dy, um, gg, pl, nu, ax, le, kn, bf, bs) hw (by rw [hF]; exact ⟨rfl, ⟨hps, hdy, hum, hR, hbs⟩⟩) (Nat.le_of_ble_eq_true rfl) (Nat.le_of_ble_eq_true rfl) dX0_raid_25
  · skip
    refine lv_bipush (v := (-2)) hx hb dX0_raid_8 zb_m2 ?_
    have hF : F_raid A x y = (-2, A) := by exact ifP_f (fun q => c_5 (by rw [hps]; exact q))
    exact hend _ _ _ _ _ _ _ (ps, dy, um, gg, pl, nu, ax, le, kn, bf, bs) hw (by rw [hF]; exact ⟨rfl, ⟨hps, hdy, hum, hR, hbs⟩⟩) (Nat.le_of_ble_eq_true rfl) (Nat.le_of_ble_eq_true rfl) dX0_raid_10
set_option maxHeartbeats 4000000 in
theorem m_X0_tell_2 (G : zE) (l : Launch) (kA : Nat → Nat) (hG : zG G kA) (co : Nat) (w : Nat → Nat) (zn : Nat → Nat) (A : AS) (ps : Nat) (mn : Nat) (dy : Nat) (um : Nat) (sm : Int32) (lt : Int32) (gg : Int32) (pl : Nat → Nat) (nu : Nat → Nat) (ax : Nat → Nat) (le : Nat → Nat) (kn : Nat → Nat) (bf : Nat → Option Nat) (bs : Nat → va_W) (hA : AOk A) (hps : ps = aV A 0) (hmn : mn = aV A 1) (hdy : dy = aV A 2) (hum : um = aU A) (hR : sRel (aV A) pl nu ax le kn) (hbs : slB G co bf um (aUs A) bs) (x : Int32) (y : Int32) (rest : va_W) : zMi G l yX0_tell_2 cX0_tell_2 3 (some .int) 3 6 42 [.ref co, .int x, .int y] ((co, zo 0 (cF w (nI mn) (nI um) sm lt)) :: (w 2, zo 1 (stF zn co (nI ps) (nI dy) (gg))) :: (zn 0, zc G 1 (zI 9 (vI pl))) :: (zn 1, zc G 1 (zI 9 (vI nu))) :: (zn 2, zc G 1 (zI 5 (vI ax))) :: (zn 3, zc G 1 (zI 5 (vI le))) :: (zn 4, zc G 2 (zI 5 (vI kn))) :: (w 5, zc G 5 (zO 8 bf)) :: (pw 8 bs ++ rest)) (fun (r : Int32) u => r = (F_tell A x y).1 ∧ nwR G co (F_tell A x y).2 u.1 u.2.1 u.2.2.1 u.2.2.2.2.1 u.2.2.2.2.2.1 u.2.2.2.2.2.2.1 u.2.2.2.2.2.2.2.1 u.2.2.2.2.2.2.2.2.1 u.2.2.2.2.2.2.2.2.2.1 u.2.2.2.2.2.2.2.2.2.2) (fun (u : Nat × Nat × Nat × Int32 × (Nat → Nat) × (Nat → Nat) × (Nat → Nat) × (Nat → Nat) × (Nat → Nat) × (Nat → Option Nat) × (Nat → va_W)) => (co, zo 0 (cF w (nI mn) (nI u.2.2.1) sm lt)) :: (w 2, zo 1 (stF zn co (nI u.1) (nI u.2.1) (u.2.2.2.1))) :: (zn 0, zc G 1 (zI 9 (vI u.2.2.2.2.1))) :: (zn 1, zc G 1 (zI 9 (vI u.2.2.2.2.2.1))) :: (zn 2, zc G 1 (zI 5 (vI u.2.2.2.2.2.2.1))) :: (zn 3, zc G 1 (zI 5 (vI u.2.2.2.2.2.2.2.1))) :: (zn 4, zc G 2 (zI 5 (vI u.2.2.2.2.2.2.2.2.1))) :: (w 5, zc G 5 (zO 8 u.2.2.2.2.2.2.2.2.2.1)) :: (pw 8 u.2.2.2.2.2.2.2.2.2.2 ++ rest)) := by
  refine z_begI (by decide) (Nat.le_of_ble_eq_true rfl) (fun p e s m args below meth c ls Q hC hl hw hend => ?_)
  have hx := hC.hx
  have hb := hC.hb
  have hl : lv_has ls 3 [(0, .ref co), (1, .int x), (2, .int y)] := hl
  have hw : zS G ((co, zo 0 (cF w (nI mn) (nI um) sm lt)) :: (w 2, zo 1 (stF zn co (nI ps) (nI dy) (gg))) :: (zn 0, zc G 1 (zI 9 (vI pl))) :: (zn 1, zc G 1 (zI 9 (vI nu))) :: (zn 2, zc G 1 (zI 5 (vI ax))) :: (zn 3, zc G 1 (zI 5 (vI le))) :: (zn 4, zc G 2 (zI 5 (vI kn))) :: (w 5, zc G 5 (zO 8 bf)) :: (pw 8 bs ++ rest)) s s.heap [] := hw
  have hz := hG s hC.hZ.1
  have hgv := hA.2.2.1.1
  have hH : Hw (aV A) := hgv.1
  have hpl := fun j => (hR.2.2.2 j).1
  have hnu := fun j => (hR.2.2.2 j).2.1
  have hax := fun j => (hR.2.2.2 j).2.2.1
  have hle := fun j => (hR.2.2.2 j).2.2.2.1
  have hkn := fun j => (hR.2.2.2 j).2.2.2.2
  have hp9 : ps ≤ 9 := by rw [hps]; exact hH.1
  have hm5 : mn ≤ 5 := by rw [hmn]; exact hH.2.1
  have hd999 : dy ≤ 999 := by rw [hdy]; exact hA.2.2.1.2.2
  have hu8 : um ≤ 8 := by rw [hum]; exact hA.2.2.2.1.1
  refine lv_aload_n hx hb dX0_tell_2_0 rfl (lv_at hl 0 rfl) ?_
  refine lv_iload_n hx hb dX0_tell_2_1 rfl (lv_at hl 1 rfl) ?_
  refine z_ci (z_runV (As := [.int x]) (rest := []) hC zv_X0_170 (m_X0_isSquirrel G l co w mn (nI um) sm lt x (by omega) (zrem [0] _)) hw (hw.perm (z_cut (is := [0]) (cells := [(co, zo 0 (cF w (nI mn) (nI um) sm lt))]) rfl rfl)) 0 rfl rfl rfl rfl rfl (Nat.le_of_ble_eq_true rfl) hl.1 ⟨Nat.le_of_ble_eq_true rfl, Nat.le_of_ble_eq_true rfl⟩ ⟨(Nat.le_of_ble_eq_true rfl), (Nat.le_of_ble_eq_true rfl)⟩ dX0_tell_2_2) hw (fun _ => z_keep (is := [0]) (cs := [(co, zo 0 (cF w (nI mn) (nI um) sm lt))]) rfl rfl) (fun r u H locs hp hw => ?_)
  obtain rfl : r = bI (isP mn x) := hp
  refine zb_eq (tgt := 16) hx hb dX0_tell_2_5 (by decide) (fun c_5 => ?_) (fun c_5 => ?_)
  · skip
    refine lv_bipush (v := (-2)) hx hb dX0_tell_2_16 zb_m2 ?_
    have hF : F_tell A x y = (-2, A) := by exact ifP_f (fun q => by first | exact c_5 (by rw [hmn]; exact q.1) | exact c_13 (by rw [hps]; exact q.2))
    exact hend _ _ _ _ _ _ _ (ps, dy, um, gg, pl, nu, ax, le, kn, bf, bs) hw (by rw [hF]; exact ⟨rfl, ⟨hps, hdy, hum, hR, hbs⟩⟩) (Nat.le_of_ble_eq_true rfl) (Nat.le_of_ble_eq_true rfl) dX0_tell_2_18
  · skip
    obtain ⟨i, hi, rfl⟩ := c_5
    have hl : lv_has ls 3 [(0, .ref co), (1, .int (nI i)), (2, .int y)] := hl
    have hia : i < aV A 1 := by omega
    have hi5 : i < 5 := by omega
    have hRi := hR.2.2.1 i hi5
    have hRa := hR.2.1 i hia
    refine lv_aload_n hx hb dX0_tell_2_8 rfl (lv_at hl 0 rfl) ?_
    refine lv_iload_n hx hb dX0_tell_2_9 rfl (lv_at hl 2 rfl) ?_
    refine z_ci (z_runV (As := [.int y]) (rest := []) hC zv_X0_159 (m_X0_isPit G l co w (nI mn) (nI um) sm lt zn ps (nI dy) gg y (by omega) (zrem [0, 1] _)) hw (hw.perm (z_cut (is := [0, 1]) (cells := [(co, zo 0 (cF w (nI mn) (nI um) sm lt)), (w 2, zo 1 (stF zn co (nI ps) (nI dy) gg))]) rfl rfl)) 0 rfl rfl rfl rfl rfl (Nat.le_of_ble_eq_true rfl) hl.1 ⟨Nat.le_of_ble_eq_true rfl, Nat.le_of_ble_eq_true rfl⟩ ⟨(Nat.le_of_ble_eq_true rfl), (Nat.le_of_ble_eq_true rfl)⟩ dX0_tell_2_10) hw (fun _ => z_keep (is := [0, 1]) (cs := [(co, zo 0 (cF w (nI mn) (nI um) sm lt)), (w 2, zo 1 (stF zn co (nI ps) (nI dy) gg))]) rfl rfl) (fun r u H locs hp hw => ?_)
    obtain rfl : r = bI (isP ps y) := hp
    refine zb_ne (tgt := 19) hx hb dX0_tell_2_13 (by decide) (fun c_13 => ?_) (fun c_13 => ?_)
    · skip
      obtain ⟨t, ht, rfl⟩ := c_13
      have hl : lv_has ls 3 [(0, .ref co), (1, .int (nI i)), (2, .int (nI t))] := hl
      have hta : t < aV A 0 := by omega
      have ht9 : t < 9 := by omega
      have hRt := hR.1 t hta
      refine lv_aload_n hx hb dX0_tell_2_19 rfl (lv_at hl 0 rfl) ?_
      refine z_get (v := .ref (w 2)) hC zf_X0_27_0 hw 0 rfl rfl dX0_tell_2_20 ?_
      refine z_get (v := .ref (zn 4)) hC zf_X0_79_1 hw 1 rfl rfl dX0_tell_2_23 ?_
      refine lv_iload_n hx hb dX0_tell_2_26 rfl (lv_at hl 1 rfl) ?_
      refine z_sald (x := (nI (kn i))) hC hw 6 rfl (by omega) (by decide) rfl dX0_tell_2_27 ?_
      refine lv_iload_n hx hb dX0_tell_2_28 rfl (lv_at hl 2 rfl) ?_
      refine z_ci (z_runS (As := [.int (nI (kn i)), .int (nI t)]) (rest := []) hC zs_X0_155 (m_X0_has G l (kn i) t (by have := hkn i; omega) (by omega) _) hw rfl rfl (Nat.le_of_ble_eq_true rfl) hl.1 ⟨Nat.le_of_ble_eq_true rfl, Nat.le_of_ble_eq_true rfl⟩ ⟨(Nat.le_of_ble_eq_true rfl), (Nat.le_of_ble_eq_true rfl)⟩ dX0_tell_2_29) hw (fun _ => List.Perm.refl _) (fun r u H locs hp hw => ?_)
      obtain rfl : r = bI ((kn i).testBit t = true) := hp
      refine zb_ne (tgt := 46) hx hb dX0_tell_2_32 (by decide) (fun c_32 => ?_) (fun c_32 => ?_)
      · skip
        refine lv_bipush (v := (-4)) hx hb dX0_tell_2_46 zb_m4 ?_
        have hF : F_tell A (nI i) (nI t) = (-4, A) := by unfold F_tell; rw [ifP_t ⟨⟨i, hia, rfl⟩, ⟨t, hta, rfl⟩⟩, cl_nI (by omega), cl_nI (by omega), ifP_t (by first | exact Or.inl (by rw [← hRi.2]; exact c_32) | exact Or.inr (hRi.1.symm.trans c_43))]
        exact hend _ _ _ _ _ _ _ (ps, dy, um, gg, pl, nu, ax, le, kn, bf, bs) hw (by rw [hF]; exact ⟨rfl, ⟨hps, hdy, hum, hR, hbs⟩⟩) (Nat.le_of_ble_eq_true rfl) (Nat.le_of_ble_eq_true rfl) dX0_tell_2_48
      · skip
        refine lv_aload_n hx hb dX0_tell_2_35 rfl (lv_at hl 0 rfl) ?_
        refine z_get (v := .ref (w 2)) hC zf_X0_27_0 hw 0 rfl rfl dX0_tell_2_36 ?_
        refine lv_iload_n hx hb dX0_tell_2_39 rfl (lv_at hl 1 rfl) ?_
        refine z_ci (z_runV (As := [.int (nI i)]) (rest := []) hC zv_X0_213 (m_X1_isGone G l (w 2) co zn ps dy gg le i (by omega) hle (zrem [1, 5] _)) hw (hw.perm (z_cut (is := [1, 5]) (cells := [(w 2, zo 1 (stF zn co (nI ps) (nI dy) gg)), (zn 3, zc G 1 (zI 5 (vI le)))]) rfl rfl)) 1 rfl rfl rfl rfl rfl (Nat.le_of_ble_eq_true rfl) hl.1 ⟨Nat.le_of_ble_eq_true rfl, Nat.le_of_ble_eq_true rfl⟩ ⟨(Nat.le_of_ble_eq_true rfl), (Nat.le_of_ble_eq_true rfl)⟩ dX0_tell_2_40) hw (fun _ => z_keep (is := [1, 5]) (cs := [(w 2, zo 1 (stF zn co (nI ps) (nI dy) gg)), (zn 3, zc G 1 (zI 5 (vI le)))]) rfl rfl) (fun r u H locs hp hw => ?_)
        obtain rfl : r = bI (le i = 3) := hp
        refine zb_eq (tgt := 49) hx hb dX0_tell_2_43 (by decide) (fun c_43 => ?_) (fun c_43 => ?_)
        · skip
          have hp512 := pow512 ht9
          have hk512 := or9 (hkn i) hp512
          refine lv_aload_n hx hb dX0_tell_2_49 rfl (lv_at hl 0 rfl) ?_
          refine z_cv (z_runV (As := []) (rest := []) hC zv_X0_204 (m_X0_note G l kA (by first | assumption | (omega)) co w zn (aV A) (aUs A) um mn ps dy sm lt gg pl nu ax le kn bf bs hu8 hps hdy (by first | assumption | (omega)) hR hbs (zrem [0, 1, 2, 3, 4, 5, 6, 7] [(co, zo 0 (cF w (nI mn) (nI um) sm lt)), (w 2, zo 1 (stF zn co (nI ps) (nI dy) gg)), (zn 0, zc G 1 (zI 9 (vI pl))), (zn 1, zc G 1 (zI 9 (vI nu))), (zn 2, zc G 1 (zI 5 (vI ax))), (zn 3, zc G 1 (zI 5 (vI le))), (zn 4, zc G 2 (zI 5 (vI kn))), (w 5, zc G 5 (zO 8 bf))] ++ rest)) hw (hw.perm (z_cutP (z_cut (is := [0, 1, 2, 3, 4, 5, 6, 7]) (ws := [(co, zo 0 (cF w (nI mn) (nI um) sm lt)), (w 2, zo 1 (stF zn co (nI ps) (nI dy) gg)), (zn 0, zc G 1 (zI 9 (vI pl))), (zn 1, zc G 1 (zI 9 (vI nu))), (zn 2, zc G 1 (zI 5 (vI ax))), (zn 3, zc G 1 (zI 5 (vI le))), (zn 4, zc G 2 (zI 5 (vI kn))), (w 5, zc G 5 (zO 8 bf))]) (cells := [(co, zo 0 (cF w (nI mn) (nI um) sm lt)), (w 2, zo 1 (stF zn co (nI ps) (nI dy) (gg))), (zn 0, zc G 1 (zI 9 (vI pl))), (zn 1, zc G 1 (zI 9 (vI nu))), (zn 2, zc G 1 (zI 5 (vI ax))), (zn 3, zc G 1 (zI 5 (vI le))), (zn 4, zc G 2 (zI 5 (vI kn))), (w 5, zc G 5 (zO 8 bf))]) rfl rfl))) 0 rfl rfl rfl rfl rfl (Nat.le_of_ble_eq_true rfl) hl.1 ⟨Nat.le_of_ble_eq_true rfl, Nat.le_of_ble_eq_true rfl⟩ ⟨(Nat.le_of_ble_eq_true rfl), (Nat.le_of_ble_eq_true rfl)⟩ dX0_tell_2_50) hw (fun u => z_putP (z_pput (is := [0, 1, 2, 3, 4, 5, 6, 7]) (ws := [(co, zo 0 (cF w (nI mn) (nI um) sm lt)), (w 2, zo 1 (stF zn co (nI ps) (nI dy) gg)), (zn 0, zc G 1 (zI 9 (vI pl))), (zn 1, zc G 1 (zI 9 (vI nu))), (zn 2, zc G 1 (zI 5 (vI ax))), (zn 3, zc G 1 (zI 5 (vI le))), (zn 4, zc G 2 (zI 5 (vI kn))), (w 5, zc G 5 (zO 8 bf))]) (cells := [(co, zo 0 (cF w (nI mn) (nI um) sm lt)), (w 2, zo 1 (stF zn co (nI ps) (nI dy) (gg))), (zn 0, zc G 1 (zI 9 (vI pl))), (zn 1, zc G 1 (zI 9 (vI nu))), (zn 2, zc G 1 (zI 5 (vI ax))), (zn 3, zc G 1 (zI 5 (vI le))), (zn 4, zc G 2 (zI 5 (vI kn))), (w 5, zc G 5 (zO 8 bf))]) (cells' := [(co, zo 0 (cF w (nI mn) (nI u.1) sm lt)), (w 2, zo 1 (stF zn co (nI ps) (nI dy) (gg))), (zn 0, zc G 1 (zI 9 (vI pl))), (zn 1, zc G 1 (zI 9 (vI nu))), (zn 2, zc G 1 (zI 5 (vI ax))), (zn 3, zc G 1 (zI 5 (vI le))), (zn 4, zc G 2 (zI 5 (vI kn))), (w 5, zc G 5 (zO 8 u.2.1))]) rfl rfl rfl)) (fun u H locs hp hw => ?_)
          obtain ⟨um6, bf6, bs6⟩ := u
          have hw : zS G ((co, zo 0 (cF w (nI mn) (nI um6) sm lt)) :: (w 2, zo 1 (stF zn co (nI ps) (nI dy) (gg))) :: (zn 0, zc G 1 (zI 9 (vI pl))) :: (zn 1, zc G 1 (zI 9 (vI nu))) :: (zn 2, zc G 1 (zI 5 (vI ax))) :: (zn 3, zc G 1 (zI 5 (vI le))) :: (zn 4, zc G 2 (zI 5 (vI kn))) :: (w 5, zc G 5 (zO 8 bf6)) :: (pw 8 bs6 ++ rest)) s H locs := hw
          obtain ⟨hnM, hnB⟩ := hp
          refine lv_aload_n hx hb dX0_tell_2_53 rfl (lv_at hl 0 rfl) ?_
          refine z_get (v := .ref (w 2)) hC zf_X0_27_0 hw 0 rfl rfl dX0_tell_2_54 ?_
          refine z_get (v := .ref (zn 4)) hC zf_X0_79_1 hw 1 rfl rfl dX0_tell_2_57 ?_
          refine lv_iload_n hx hb dX0_tell_2_60 rfl (lv_at hl 1 rfl) ?_
          refine lv_dup2_11 hx hb dX0_tell_2_61 rfl rfl ?_
          refine z_sald (x := (nI (kn i))) hC hw 6 rfl (by omega) (by decide) rfl dX0_tell_2_62 ?_
          refine lv_iconst (v := (nI 1)) hx hb dX0_tell_2_63 zk_1 ?_
          refine lv_iload_n hx hb dX0_tell_2_64 rfl (lv_at hl 2 rfl) ?_
          refine zv_ishl (v := (nI (2 ^ t))) hx hb (nI_shl1 (by omega)) dX0_tell_2_65 ?_
          refine lv_i2s (v := (nI (2 ^ t))) hx hb dX0_tell_2_66 (zi2s (by omega)) ?_
          refine zv_ior (v := (nI ((kn i) ||| (2 ^ t)))) hx hb (nI_or _ _) dX0_tell_2_67 ?_
          refine lv_i2s (v := (nI ((kn i) ||| (2 ^ t)))) hx hb dX0_tell_2_68 (zi2s (by have := hkn i; omega)) ?_
          refine z_sast (f' := vI (updN kn i ((kn i) ||| (2 ^ t)))) hC hw 6 rfl (by omega) (by decide) ((congrArg _ (znshort (by have := hkn i; omega))).trans (vI_upd _ _ _)) dX0_tell_2_69 (fun H locs hw => ?_)
          have hw : zS G ((co, zo 0 (cF w (nI mn) (nI um6) sm lt)) :: (w 2, zo 1 (stF zn co (nI ps) (nI dy) (gg))) :: (zn 0, zc G 1 (zI 9 (vI pl))) :: (zn 1, zc G 1 (zI 9 (vI nu))) :: (zn 2, zc G 1 (zI 5 (vI ax))) :: (zn 3, zc G 1 (zI 5 (vI le))) :: (zn 4, zc G 2 (zI 5 (vI (updN kn i ((kn i) ||| (2 ^ t)))))) :: (w 5, zc G 5 (zO 8 bf6)) :: (pw 8 bs6 ++ rest)) s H locs := hw
          refine lv_aload_n hx hb dX0_tell_2_70 rfl (lv_at hl 0 rfl) ?_
          refine z_get (v := .ref (w 2)) hC zf_X0_27_0 hw 0 rfl rfl dX0_tell_2_71 ?_
          refine z_get (v := .ref (zn 4)) hC zf_X0_79_1 hw 1 rfl rfl dX0_tell_2_74 ?_
          refine lv_iload_n hx hb dX0_tell_2_77 rfl (lv_at hl 1 rfl) ?_
          refine z_sald (x := (nI (kn i ||| 2 ^ t))) hC hw 6 rfl (by omega) (by decide) (congrArg nI (updN_same _ _ _)) dX0_tell_2_78 ?_
          have hF : F_tell A (nI i) (nI t) = (nI (kn i ||| 2 ^ t), sV (noteA A) (updN (aV A) (21 + 5 * i + 4) (kn i ||| 2 ^ t))) := by unfold F_tell; rw [ifP_t ⟨⟨i, hia, rfl⟩, ⟨t, hta, rfl⟩⟩, cl_nI (by omega), cl_nI (by omega), ifP_f (fun q => q.elim (fun q => c_32 (by rw [hRi.2]; exact q)) (fun q => c_43 (hRi.1.trans q))), ← hRi.2]
          exact hend _ _ _ _ _ _ _ (ps, dy, um6, gg, pl, nu, ax, le, (updN kn i ((kn i) ||| (2 ^ t))), bf6, bs6) hw (by rw [hF]; exact ⟨rfl, (nwR_note hum (hps.trans (updN_ne _ _ (by omega)).symm) (hdy.trans (updN_ne _ _ (by omega)).symm) (sRel_kn hH.1 hR hk512) hnM hnB)⟩) (Nat.le_of_ble_eq_true rfl) (Nat.le_of_ble_eq_true rfl) dX0_tell_2_79
        · skip
          refine lv_bipush (v := (-4)) hx hb dX0_tell_2_46 zb_m4 ?_
          have hF : F_tell A (nI i) (nI t) = (-4, A) := by unfold F_tell; rw [ifP_t ⟨⟨i, hia, rfl⟩, ⟨t, hta, rfl⟩⟩, cl_nI (by omega), cl_nI (by omega), ifP_t (by first | exact Or.inl (by rw [← hRi.2]; exact c_32) | exact Or.inr (hRi.1.symm.trans c_43))]
          exact hend _ _ _ _ _ _ _ (ps, dy, um, gg, pl, nu, ax, le, kn, bf, bs) hw (by rw [hF]; exact ⟨rfl, ⟨hps, hdy, hum, hR, hbs⟩⟩) (Nat.le_of_ble_eq_true rfl) (Nat.le_of_ble_eq_true rfl) dX0_tell_2_48
    · skip
      refine lv_bipush (v := (-2)) hx hb dX0_tell_2_16 zb_m2 ?_
      have hF : F_tell A (nI i) y = (-2, A) := by exact ifP_f (fun q => by first | exact c_5 (by rw [hmn]; exact q.1) | exact c_13 (by rw [hps]; exact q.2))
      exact hend _ _ _ _ _ _ _ (ps, dy, um, gg, pl, nu, ax, le, kn, bf, bs) hw (by rw [hF]; exact ⟨rfl, ⟨hps, hdy, hum, hR, hbs⟩⟩) (Nat.le_of_ble_eq_true rfl) (Nat.le_of_ble_eq_true rfl) dX0_tell_2_18
theorem slB_put {G : zE} {co j um um' sa : Nat} {bf : Nat → Option Nat} {U : Nat → Nat → Nat} {bs : Nat → va_W} {x : va_W} (hj : um' = j) (hb : bf j = some sa) (hx : slS G co (some sa) none x) (h : slB G co bf um U bs) (hu : um = j + 1 := by omega) : slB G co bf um' U (va_up bs j x) := by
  intro i hi
  subst hj hu
  by_cases q : i = um'
  · subst q; rw [va_up_self, if_neg (by omega), hb]; exact hx
  · rw [va_up_ne _ _ q]
    have h1 := h i hi
    by_cases h2 : i < um'
    · rw [if_pos h2]; rw [if_pos (by omega)] at h1; exact h1
    · rw [if_neg h2]; rw [if_neg (by omega)] at h1; exact h1
set_option maxHeartbeats 4000000 in
theorem m_X0_undo (G : zE) (l : Launch) (kA : Nat → Nat) (hG : zG G kA) (co : Nat) (w : Nat → Nat) (zn : Nat → Nat) (A : AS) (ps : Nat) (mn : Nat) (dy : Nat) (um : Nat) (sm : Int32) (lt : Int32) (gg : Int32) (pl : Nat → Nat) (nu : Nat → Nat) (ax : Nat → Nat) (le : Nat → Nat) (kn : Nat → Nat) (bf : Nat → Option Nat) (bs : Nat → va_W) (hA : AOk A) (hps : ps = aV A 0) (hmn : mn = aV A 1) (hdy : dy = aV A 2) (hum : um = aU A) (hR : sRel (aV A) pl nu ax le kn) (hbs : slB G co bf um (aUs A) bs) (rest : va_W) : zMi G l yX0_undo cX0_undo 1 (some .int) 2 0 0 [.ref co] ((co, zo 0 (cF w (nI mn) (nI um) sm lt)) :: (w 2, zo 1 (stF zn co (nI ps) (nI dy) (gg))) :: (zn 0, zc G 1 (zI 9 (vI pl))) :: (zn 1, zc G 1 (zI 9 (vI nu))) :: (zn 2, zc G 1 (zI 5 (vI ax))) :: (zn 3, zc G 1 (zI 5 (vI le))) :: (zn 4, zc G 2 (zI 5 (vI kn))) :: (w 5, zc G 5 (zO 8 bf)) :: (pw 8 bs ++ rest)) (fun (r : Int32) u => r = (F_undo A).1 ∧ nwR G co (F_undo A).2 u.1 u.2.1 u.2.2.1 u.2.2.2.2.1 u.2.2.2.2.2.1 u.2.2.2.2.2.2.1 u.2.2.2.2.2.2.2.1 u.2.2.2.2.2.2.2.2.1 u.2.2.2.2.2.2.2.2.2.1 u.2.2.2.2.2.2.2.2.2.2) (fun (u : Nat × Nat × Nat × Int32 × (Nat → Nat) × (Nat → Nat) × (Nat → Nat) × (Nat → Nat) × (Nat → Nat) × (Nat → Option Nat) × (Nat → va_W)) => (co, zo 0 (cF w (nI mn) (nI u.2.2.1) sm lt)) :: (w 2, zo 1 (stF zn co (nI u.1) (nI u.2.1) (u.2.2.2.1))) :: (zn 0, zc G 1 (zI 9 (vI u.2.2.2.2.1))) :: (zn 1, zc G 1 (zI 9 (vI u.2.2.2.2.2.1))) :: (zn 2, zc G 1 (zI 5 (vI u.2.2.2.2.2.2.1))) :: (zn 3, zc G 1 (zI 5 (vI u.2.2.2.2.2.2.2.1))) :: (zn 4, zc G 2 (zI 5 (vI u.2.2.2.2.2.2.2.2.1))) :: (w 5, zc G 5 (zO 8 u.2.2.2.2.2.2.2.2.2.1)) :: (pw 8 u.2.2.2.2.2.2.2.2.2.2 ++ rest)) := by
  refine z_begI (by decide) (Nat.le_of_ble_eq_true rfl) (fun p e s m args below meth c ls Q hC hl hw hend => ?_)
  have hx := hC.hx
  have hb := hC.hb
  have hl : lv_has ls 1 [(0, .ref co)] := hl
  have hw : zS G ((co, zo 0 (cF w (nI mn) (nI um) sm lt)) :: (w 2, zo 1 (stF zn co (nI ps) (nI dy) (gg))) :: (zn 0, zc G 1 (zI 9 (vI pl))) :: (zn 1, zc G 1 (zI 9 (vI nu))) :: (zn 2, zc G 1 (zI 5 (vI ax))) :: (zn 3, zc G 1 (zI 5 (vI le))) :: (zn 4, zc G 2 (zI 5 (vI kn))) :: (w 5, zc G 5 (zO 8 bf)) :: (pw 8 bs ++ rest)) s s.heap [] := hw
  have hz := hG s hC.hZ.1
  have hgv := hA.2.2.1.1
  have hH : Hw (aV A) := hgv.1
  have hpl := fun j => (hR.2.2.2 j).1
  have hnu := fun j => (hR.2.2.2 j).2.1
  have hax := fun j => (hR.2.2.2 j).2.2.1
  have hle := fun j => (hR.2.2.2 j).2.2.2.1
  have hkn := fun j => (hR.2.2.2 j).2.2.2.2
  have hp9 : ps ≤ 9 := by rw [hps]; exact hH.1
  have hm5 : mn ≤ 5 := by rw [hmn]; exact hH.2.1
  have hd999 : dy ≤ 999 := by rw [hdy]; exact hA.2.2.1.2.2
  have hu8 : um ≤ 8 := by rw [hum]; exact hA.2.2.2.1.1
  refine lv_aload_n hx hb dX0_undo_0 rfl (lv_at hl 0 rfl) ?_
  refine z_get (v := .int (nI um)) hC zf_X0_40_0 hw 0 rfl rfl dX0_undo_1 ?_
  refine zj_ne (tgt := 10) hx hb (by omega) dX0_undo_4 (by decide) (fun c_4 => ?_) (fun c_4 => ?_)
  · skip
    have hju : um - 1 = um - 1 := rfl
    have hj8 : um - 1 < 8 := by omega
    have hju2 : um - 1 < um := by omega
    obtain ⟨sa, hsv⟩ := slB_some hu8 hju2 hbs
    have hsl := hbs _ hj8
    rw [hsv, if_pos hju2] at hsl
    have hHu := hA.2.2.2.1.2 (um - 1) (by omega)
    obtain ⟨zb, psb, dyb, hgb, b0, b1, b2, b3, b4, hxb, hbd, hvb⟩ := hsl
    have hvv := hvb _ rfl
    have hw := hw.perm (pl_get (E := [(co, zo 0 (cF w (nI mn) (nI um) sm lt)), (w 2, zo 1 (stF zn co (nI ps) (nI dy) (gg))), (zn 0, zc G 1 (zI 9 (vI pl))), (zn 1, zc G 1 (zI 9 (vI nu))), (zn 2, zc G 1 (zI 5 (vI ax))), (zn 3, zc G 1 (zI 5 (vI le))), (zn 4, zc G 2 (zI 5 (vI kn))), (w 5, zc G 5 (zO 8 bf))]) (sl := bs) hj8)
    rw [hxb] at hw
    have hw : zS G ((sa, zo 1 (stF zb co (nI psb) (nI dyb) (nI hgb))) :: (zb 0, zc G 1 (zI 9 (vI b0))) :: (zb 1, zc G 1 (zI 9 (vI b1))) :: (zb 2, zc G 1 (zI 5 (vI b2))) :: (zb 3, zc G 1 (zI 5 (vI b3))) :: (zb 4, zc G 2 (zI 5 (vI b4))) :: (co, zo 0 (cF w (nI mn) (nI um) sm lt)) :: (w 2, zo 1 (stF zn co (nI ps) (nI dy) (gg))) :: (zn 0, zc G 1 (zI 9 (vI pl))) :: (zn 1, zc G 1 (zI 9 (vI nu))) :: (zn 2, zc G 1 (zI 5 (vI ax))) :: (zn 3, zc G 1 (zI 5 (vI le))) :: (zn 4, zc G 2 (zI 5 (vI kn))) :: (w 5, zc G 5 (zO 8 bf)) :: (pwX 8 bs (um - 1) ++ rest)) s s.heap [] := hw
    refine lv_aload_n hx hb dX0_undo_10 rfl (lv_at hl 0 rfl) ?_
    refine z_get (v := .ref (w 2)) hC zf_X0_27_0 hw 6 rfl rfl dX0_undo_11 ?_
    refine lv_aload_n hx hb dX0_undo_14 rfl (lv_at hl 0 rfl) ?_
    refine z_get (v := .ref (w 5)) hC zf_X0_61_0 hw 6 rfl rfl dX0_undo_15 ?_
    refine lv_aload_n hx hb dX0_undo_18 rfl (lv_at hl 0 rfl) ?_
    refine lv_dup hx hb dX0_undo_19 rfl ?_
    refine z_get (v := .int (nI um)) hC zf_X0_40_0 hw 6 rfl rfl dX0_undo_20 ?_
    refine lv_iconst (v := (nI 1)) hx hb dX0_undo_23 zk_1 ?_
    refine zn_isub hx hb (by omega) dX0_undo_24 ?_
    refine lv_dup_x1 hx hb dX0_undo_25 rfl rfl ?_
    refine z_puti hC zf_X0_40_0 hw 6 rfl (Nat.le_of_ble_eq_true rfl) dX0_undo_26 (fun H locs hw => ?_)
    have hw : zS G ((sa, zo 1 (stF zb co (nI psb) (nI dyb) (nI hgb))) :: (zb 0, zc G 1 (zI 9 (vI b0))) :: (zb 1, zc G 1 (zI 9 (vI b1))) :: (zb 2, zc G 1 (zI 5 (vI b2))) :: (zb 3, zc G 1 (zI 5 (vI b3))) :: (zb 4, zc G 2 (zI 5 (vI b4))) :: (co, zo 0 (cF w (nI mn) (nI (um - 1)) sm lt)) :: (w 2, zo 1 (stF zn co (nI ps) (nI dy) (gg))) :: (zn 0, zc G 1 (zI 9 (vI pl))) :: (zn 1, zc G 1 (zI 9 (vI nu))) :: (zn 2, zc G 1 (zI 5 (vI ax))) :: (zn 3, zc G 1 (zI 5 (vI le))) :: (zn 4, zc G 2 (zI 5 (vI kn))) :: (w 5, zc G 5 (zO 8 bf)) :: (pwX 8 bs (um - 1) ++ rest)) s H locs := hw
    refine z_aald (x := .ref sa) (t := 5) hC hw 13 rfl (fun _ => rfl) (by omega) (by decide) (congrArg va_rf hsv) dX0_undo_29 ?_
    refine z_cq (z_runV (As := [.ref sa]) (rest := []) hC zv_X0_34 (m_X1_set G l (w 2) sa co zn zb ps dy psb dyb gg (nI hgb) pl nu ax le kn b0 b1 b2 b3 b4 (fun j => (hbd j).1) (fun j => (hbd j).2.1) (fun j => (hbd j).2.2.1) (fun j => (hbd j).2.2.2.1) (fun j => (hbd j).2.2.2.2) (zrem [7, 8, 9, 10, 11, 12, 0, 1, 2, 3, 4, 5] _)) hw (hw.perm (z_cut (is := [7, 8, 9, 10, 11, 12, 0, 1, 2, 3, 4, 5]) (cells := [(w 2, zo 1 (stF zn co (nI ps) (nI dy) (gg))), (zn 0, zc G 1 (zI 9 (vI pl))), (zn 1, zc G 1 (zI 9 (vI nu))), (zn 2, zc G 1 (zI 5 (vI ax))), (zn 3, zc G 1 (zI 5 (vI le))), (zn 4, zc G 2 (zI 5 (vI kn))), (sa, zo 1 (stF zb co (nI psb) (nI dyb) ((nI hgb)))), (zb 0, zc G 1 (zI 9 (vI b0))), (zb 1, zc G 1 (zI 9 (vI b1))), (zb 2, zc G 1 (zI 5 (vI b2))), (zb 3, zc G 1 (zI 5 (vI b3))), (zb 4, zc G 2 (zI 5 (vI b4)))]) rfl rfl)) 7 rfl rfl rfl rfl rfl (Nat.le_of_ble_eq_true rfl) hl.1 ⟨Nat.le_of_ble_eq_true rfl, Nat.le_of_ble_eq_true rfl⟩ ⟨(Nat.le_of_ble_eq_true rfl), (Nat.le_of_ble_eq_true rfl)⟩ dX0_undo_30) hw (fun _ => z_pput (is := [7, 8, 9, 10, 11, 12, 0, 1, 2, 3, 4, 5]) (cells := [(w 2, zo 1 (stF zn co (nI ps) (nI dy) (gg))), (zn 0, zc G 1 (zI 9 (vI pl))), (zn 1, zc G 1 (zI 9 (vI nu))), (zn 2, zc G 1 (zI 5 (vI ax))), (zn 3, zc G 1 (zI 5 (vI le))), (zn 4, zc G 2 (zI 5 (vI kn))), (sa, zo 1 (stF zb co (nI psb) (nI dyb) ((nI hgb)))), (zb 0, zc G 1 (zI 9 (vI b0))), (zb 1, zc G 1 (zI 9 (vI b1))), (zb 2, zc G 1 (zI 5 (vI b2))), (zb 3, zc G 1 (zI 5 (vI b3))), (zb 4, zc G 2 (zI 5 (vI b4)))]) (cells' := [(w 2, zo 1 (stF zn co (nI psb) (nI dyb) (gg))), (zn 0, zc G 1 (zI 9 (vI (cpN b0 pl 9)))), (zn 1, zc G 1 (zI 9 (vI (cpN b1 nu 9)))), (zn 2, zc G 1 (zI 5 (vI (cpN b2 ax 5)))), (zn 3, zc G 1 (zI 5 (vI (cpN b3 le 5)))), (zn 4, zc G 2 (zI 5 (vI (cpN b4 kn 5)))), (sa, zo 1 (stF zb co (nI psb) (nI dyb) ((nI hgb)))), (zb 0, zc G 1 (zI 9 (vI b0))), (zb 1, zc G 1 (zI 9 (vI b1))), (zb 2, zc G 1 (zI 5 (vI b2))), (zb 3, zc G 1 (zI 5 (vI b3))), (zb 4, zc G 2 (zI 5 (vI b4)))]) rfl rfl rfl) (fun r u H locs hp hw => ?_)
    have hw : zS G ((sa, zo 1 (stF zb co (nI psb) (nI dyb) ((nI hgb)))) :: (zb 0, zc G 1 (zI 9 (vI b0))) :: (zb 1, zc G 1 (zI 9 (vI b1))) :: (zb 2, zc G 1 (zI 5 (vI b2))) :: (zb 3, zc G 1 (zI 5 (vI b3))) :: (zb 4, zc G 2 (zI 5 (vI b4))) :: (co, zo 0 (cF w (nI mn) (nI (um - 1)) sm lt)) :: (w 2, zo 1 (stF zn co (nI psb) (nI dyb) (gg))) :: (zn 0, zc G 1 (zI 9 (vI (cpN b0 pl 9)))) :: (zn 1, zc G 1 (zI 9 (vI (cpN b1 nu 9)))) :: (zn 2, zc G 1 (zI 5 (vI (cpN b2 ax 5)))) :: (zn 3, zc G 1 (zI 5 (vI (cpN b3 le 5)))) :: (zn 4, zc G 2 (zI 5 (vI (cpN b4 kn 5)))) :: (w 5, zc G 5 (zO 8 bf)) :: (pwX 8 bs (um - 1) ++ rest)) s H locs := hw
    obtain rfl : r = some (w 2) := hp
    refine lv_pop hx hb dX0_undo_33 rfl ?_
    refine lv_aload_n hx hb dX0_undo_34 rfl (lv_at hl 0 rfl) ?_
    refine z_get (v := .int (nI (um - 1))) hC zf_X0_40_0 hw 6 rfl rfl dX0_undo_35 ?_
    have hsx : slS G co (some sa) none (stW G co sa zb psb dyb hgb b0 b1 b2 b3 b4) := ⟨_, _, _, _, _, _, _, _, _, rfl, hbd, fun w hw => nomatch hw⟩
    have hw : zS G ((co, zo 0 (cF w (nI mn) (nI (um - 1)) sm lt)) :: (w 2, zo 1 (stF zn co (nI psb) (nI dyb) (gg))) :: (zn 0, zc G 1 (zI 9 (vI (cpN b0 pl 9)))) :: (zn 1, zc G 1 (zI 9 (vI (cpN b1 nu 9)))) :: (zn 2, zc G 1 (zI 5 (vI (cpN b2 ax 5)))) :: (zn 3, zc G 1 (zI 5 (vI (cpN b3 le 5)))) :: (zn 4, zc G 2 (zI 5 (vI (cpN b4 kn 5)))) :: (w 5, zc G 5 (zO 8 bf)) :: (pw 8 (va_up bs (um - 1) (stW G co sa zb psb dyb hgb b0 b1 b2 b3 b4)) ++ rest)) s H locs := hw.perm (pl_put (x := stW G co sa zb psb dyb hgb b0 b1 b2 b3 b4) (E := [(co, zo 0 (cF w (nI mn) (nI (um - 1)) sm lt)), (w 2, zo 1 (stF zn co (nI psb) (nI dyb) (gg))), (zn 0, zc G 1 (zI 9 (vI (cpN b0 pl 9)))), (zn 1, zc G 1 (zI 9 (vI (cpN b1 nu 9)))), (zn 2, zc G 1 (zI 5 (vI (cpN b2 ax 5)))), (zn 3, zc G 1 (zI 5 (vI (cpN b3 le 5)))), (zn 4, zc G 2 (zI 5 (vI (cpN b4 kn 5)))), (w 5, zc G 5 (zO 8 bf))]) (sl := bs) hj8)
    have hF : F_undo A = (nI (um - 1), mkA (aT A) (aL A) (aV0 A) (aUs A (um - 1)) (um - 1) (aUs A) (aK A) (aS A) (aSg A) (aTr A)) := by unfold F_undo; rw [if_neg (by omega), hum]
    exact hend _ _ _ _ _ _ _ (psb, dyb, um - 1, gg, (cpN b0 pl 9), (cpN b1 nu 9), (cpN b2 ax 5), (cpN b3 le 5), (cpN b4 kn 5), bf, (va_up bs (um - 1) (stW G co sa zb psb dyb hgb b0 b1 b2 b3 b4))) hw (by rw [hF]; exact ⟨rfl, ⟨hvv.1, hvv.2.1, rfl, sRel_cp hHu.1.1 hvv.2.2 hR.2.2.2, slB_put hju hsv hsx hbs⟩⟩) (Nat.le_of_ble_eq_true rfl) (Nat.le_of_ble_eq_true rfl) dX0_undo_38
  · skip
    refine lv_bipush (v := (-4)) hx hb dX0_undo_7 zb_m4 ?_
    have hF : F_undo A = (-4, A) := by exact if_pos (by omega)
    exact hend _ _ _ _ _ _ _ (ps, dy, um, gg, pl, nu, ax, le, kn, bf, bs) hw (by rw [hF]; exact ⟨rfl, ⟨hps, hdy, hum, hR, hbs⟩⟩) (Nat.le_of_ble_eq_true rfl) (Nat.le_of_ble_eq_true rfl) dX0_undo_9
