/-! COMPONENT: back, as -/
set_option maxRecDepth 100000
set_option maxHeartbeats 4000000 in
theorem m_X1_set_N (G : zE) (l : Launch) (kA : Nat → Nat) (hG : zG G kA) (hY : zY G) (hlt : l.stackTraces = false) (st : Nat) (rest : va_W) : zTh G l yX1_set cX1_set 2 (some (.object "NutCaches$State")) 260 1 8 [.ref st, .null] (rest) "java/lang/NullPointerException" (fun _ => rest) := by
  refine z_begX (by decide) (Nat.le_of_ble_eq_true rfl) (fun p e s m args below meth c ls Q hQ hC htb hl hw hend => ?_)
  have hx := hC.hx
  have hb := hC.hb
  have hl : lv_has ls 2 [(0, .ref st), (1, .null)] := hl
  have hz := hG s hC.hZ.1
  have hzy := hY s hC.hZ.1
  refine lv_aload_nN hx hb dX1_set_0 rfl (lv_at hl 1 rfl) ?_
  refine z_getfX hC hlt hzy zf_X1_15_1 hw hl.1 (Nat.le_of_ble_eq_true rfl) ⟨Nat.le_of_ble_eq_true rfl, Nat.le_of_ble_eq_true rfl⟩ (Nat.le_of_ble_eq_true rfl) (Nat.le_of_ble_eq_true rfl) dX1_set_1 (fun q9 H ce9 hex => ?_)
  obtain ⟨hw, hx9⟩ := hex
  exact hend _ _ _ _ _ _ _ _ _ ⟨hw, hx9⟩ (by decide) (Nat.le_of_ble_eq_true rfl) (Nat.le_of_ble_eq_true rfl)
/-- now, as the state A has it, and how much can be undone -/
def nwK (A : AS) (ps dy um : Nat) (pl nu ax le kn : Nat → Nat) : Prop := ps = aV A 0 ∧ dy = aV A 2 ∧ um = aU A ∧ sRel (aV A) pl nu ax le kn
theorem kp_none {G : zE} {co k : Nat} {A : AS} {kf : Nat → Option Nat} {ks : Nat → va_W} (h : kpR G co A kf ks) (hk : k < 2) (hf : kf k = none) : aK A k = none := by
  have h1 := (h k hk).1
  rw [hf] at h1
  exact h1.2
theorem kp_some {G : zE} {co k sa : Nat} {A : AS} {kf : Nat → Option Nat} {ks : Nat → va_W} (h : kpR G co A kf ks) (hk : k < 2) (hf : kf k = some sa) : ∃ v, aK A k = some v := by
  cases hv : aK A k with
  | none => have h1 := (h k hk).2 hv; rw [hf] at h1; cases h1
  | some v => exact ⟨v, rfl⟩
set_option maxHeartbeats 4000000 in
theorem m_X0_back (G : zE) (l : Launch) (kA : Nat → Nat) (hG : zG G kA) (hY : zY G) (hlt : l.stackTraces = false) (co : Nat) (w : Nat → Nat) (zn : Nat → Nat) (A : AS) (ps : Nat) (mn : Nat) (dy : Nat) (um : Nat) (sm : Int32) (lt : Int32) (gg : Int32) (pl : Nat → Nat) (nu : Nat → Nat) (ax : Nat → Nat) (le : Nat → Nat) (kn : Nat → Nat) (hA : AOk A) (hps : ps = aV A 0) (hmn : mn = aV A 1) (hdy : dy = aV A 2) (hum : um = aU A) (hR : sRel (aV A) pl nu ax le kn) (kf : Nat → Option Nat) (ks : Nat → va_W) (hK : kpR G co A kf ks) (x : Int32) (rest : va_W) : zWi G l yX0_back cX0_back 3 (some .int) [(13, 27, 30, 216)] 262 1 8 [.ref co, .int x] ((co, zo 0 (cF w (nI mn) (nI um) sm lt)) :: (w 2, zo 1 (stF zn co (nI ps) (nI dy) (gg))) :: (zn 0, zc G 1 (zI 9 (vI pl))) :: (zn 1, zc G 1 (zI 9 (vI nu))) :: (zn 2, zc G 1 (zI 5 (vI ax))) :: (zn 3, zc G 1 (zI 5 (vI le))) :: (zn 4, zc G 2 (zI 5 (vI kn))) :: (w 4, zc G 5 (zO 2 kf)) :: (pw 2 ks ++ rest)) (fun (r : Int32) u => r = (F_back A x).1 ∧ nwK (F_back A x).2 u.1 u.2.1 u.2.2.1 u.2.2.2.2.1 u.2.2.2.2.2.1 u.2.2.2.2.2.2.1 u.2.2.2.2.2.2.2.1 u.2.2.2.2.2.2.2.2) (fun (u : Nat × Nat × Nat × Int32 × (Nat → Nat) × (Nat → Nat) × (Nat → Nat) × (Nat → Nat) × (Nat → Nat)) => (co, zo 0 (cF w (nI mn) (nI u.2.2.1) sm lt)) :: (w 2, zo 1 (stF zn co (nI u.1) (nI u.2.1) (u.2.2.2.1))) :: (zn 0, zc G 1 (zI 9 (vI u.2.2.2.2.1))) :: (zn 1, zc G 1 (zI 9 (vI u.2.2.2.2.2.1))) :: (zn 2, zc G 1 (zI 5 (vI u.2.2.2.2.2.2.1))) :: (zn 3, zc G 1 (zI 5 (vI u.2.2.2.2.2.2.2.1))) :: (zn 4, zc G 2 (zI 5 (vI u.2.2.2.2.2.2.2.2))) :: (w 4, zc G 5 (zO 2 kf)) :: (pw 2 ks ++ rest)) := by
  refine z_begIW (by decide) (Nat.le_of_ble_eq_true rfl) (fun p e s m args below meth c ls Q hC htb hl hw hend => ?_)
  have hx := hC.hx
  have hb := hC.hb
  have hl : lv_has ls 3 [(0, .ref co), (1, .int x)] := hl
  have hw : zS G ((co, zo 0 (cF w (nI mn) (nI um) sm lt)) :: (w 2, zo 1 (stF zn co (nI ps) (nI dy) (gg))) :: (zn 0, zc G 1 (zI 9 (vI pl))) :: (zn 1, zc G 1 (zI 9 (vI nu))) :: (zn 2, zc G 1 (zI 5 (vI ax))) :: (zn 3, zc G 1 (zI 5 (vI le))) :: (zn 4, zc G 2 (zI 5 (vI kn))) :: (w 4, zc G 5 (zO 2 kf)) :: (pw 2 ks ++ rest)) s s.heap [] := hw
  have hz := hG s hC.hZ.1
  have hzy := hY s hC.hZ.1
  have hgv := hA.2.2.1.1
  have hH : Hw (aV A) := hgv.1
  have hpl := fun j => (hR.2.2.2 j).1
  have hnu := fun j => (hR.2.2.2 j).2.1
  have hax := fun j => (hR.2.2.2 j).2.2.1
  have hle := fun j => (hR.2.2.2 j).2.2.2.1
  have hkn := fun j => (hR.2.2.2 j).2.2.2.2
  have hp9 : ps ≤ 9 := by rw [hps]; exact hH.1
  have hm5 : mn ≤ 5 := by rw [hmn]; exact hH.2.1
  have hd999 : dy ≤ 999 := by rw [hdy]; exact hA.2.2.1.2.2
  refine lv_iload_n hx hb dX0_back_0 rfl (lv_at hl 1 rfl) ?_
  refine lv_i2l (v := (iL x)) hx hb dX0_back_1 rfl ?_
  refine lv_lconst (v := lN 0) hx hb dX0_back_2 rfl ?_
  refine lv_lconst (v := lN 1) hx hb dX0_back_3 rfl ?_
  refine z_ci (z_runS (As := [.long (iL x), .long (lN 0), .long (lN 1)]) (rest := []) hC zs_X0_126 (m_X0_in G l x 0 1 (by decide) (by decide) _) hw rfl rfl (Nat.le_of_ble_eq_true rfl) hl.1 ⟨Nat.le_of_ble_eq_true rfl, Nat.le_of_ble_eq_true rfl⟩ ⟨(Nat.le_of_ble_eq_true rfl), (Nat.le_of_ble_eq_true rfl)⟩ dX0_back_4) hw (fun _ => List.Perm.refl _) (fun r u H locs hp hw => ?_)
  obtain rfl : r = bI (inR x 0 1) := hp
  refine zb_ne (tgt := 13) hx hb dX0_back_7 (by decide) (fun c_7 => ?_) (fun c_7 => ?_)
  · skip
    obtain ⟨k, hk1, hk2, rfl⟩ := c_7
    have hl : lv_has ls 3 [(0, .ref co), (1, .int (nI k))] := hl
    refine lv_aload_n hx hb dX0_back_13 rfl (lv_at hl 0 rfl) ?_
    refine z_get (v := .ref (w 2)) hC zf_X0_27_0 hw 0 rfl rfl dX0_back_14 ?_
    refine lv_aload_n hx hb dX0_back_17 rfl (lv_at hl 0 rfl) ?_
    refine z_get (v := .ref (w 4)) hC zf_X0_47_0 hw 0 rfl rfl dX0_back_18 ?_
    refine lv_iload_n hx hb dX0_back_21 rfl (lv_at hl 1 rfl) ?_
    refine z_aald (x := va_rf (kf k)) (t := 5) hC hw 7 rfl (fun _ => rfl) (by omega) (by decide) rfl dX0_back_22 ?_
    rcases hkf : kf k with _ | sa
    · skip
      show W p l e (zR 262 1 8) s m args below meth c H locs 0 0 Q (F0 m 23 ls [.null, .ref (w 2)])
      have hak := kp_none hK (show k < 2 by omega) hkf
      have hl : lv_has ls 3 [(0, .ref co), (1, .int (nI k))] := hl
      have hw : zS G ((co, zo 0 (cF w (nI mn) (nI um) sm lt)) :: (w 2, zo 1 (stF zn co (nI ps) (nI dy) (gg))) :: (zn 0, zc G 1 (zI 9 (vI pl))) :: (zn 1, zc G 1 (zI 9 (vI nu))) :: (zn 2, zc G 1 (zI 5 (vI ax))) :: (zn 3, zc G 1 (zI 5 (vI le))) :: (zn 4, zc G 2 (zI 5 (vI kn))) :: (w 4, zc G 5 (zO 2 kf)) :: (pw 2 ks ++ rest)) s H locs := hw
      refine z_ct (z_runVT (As := [.null]) (rest := []) hC zv_X0_34 (m_X1_set_N G l kA (by first | assumption | (omega)) (by first | assumption | (omega)) (by omega) (w 2) _) hw hw 1 rfl rfl rfl rfl rfl (Nat.le_of_ble_eq_true rfl) hl.1 ⟨Nat.le_of_ble_eq_true rfl, Nat.le_of_ble_eq_true rfl⟩ ⟨(Nat.le_of_ble_eq_true rfl), (Nat.le_of_ble_eq_true rfl)⟩ dX0_back_23) hw (fun q9 => List.Perm.refl _) (fun q9 H locs ce9 hex => ?_)
      obtain ⟨hw, hx9⟩ := hex
      have hw : zS G ((co, zo 0 (cF w (nI mn) (nI um) sm lt)) :: (w 2, zo 1 (stF zn co (nI ps) (nI dy) (gg))) :: (zn 0, zc G 1 (zI 9 (vI pl))) :: (zn 1, zc G 1 (zI 9 (vI nu))) :: (zn 2, zc G 1 (zI 5 (vI ax))) :: (zn 3, zc G 1 (zI 5 (vI le))) :: (zn 4, zc G 2 (zI 5 (vI kn))) :: (w 4, zc G 5 (zO 2 kf)) :: (pw 2 ks ++ rest)) s H locs := hw
      refine z_catch (ce := ce9) (hh := [(13, 27, 30, 216)]) (E := "java/lang/NullPointerException") hC htb (tableOf []) ⟨13, 27, 30, 216⟩ (tableOf []) rfl (fun z hz => nomatch hz) (by decide) (by decide) q1025 (hz.1 _ (cw_t q495 rfl)) ⟨hw, hx9⟩ ?_
      show W p l e (zR 262 1 8) s m args below meth c H locs 1 8 Q (F0 m 30 ls [.ref q9])
      refine lv_astore_n (lv' := [(2, .ref q9), (0, .ref co), (1, .int (nI k))]) hx hb dX0_back_30 rfl hl (by decide) rfl (fun ls hl => ?_)
      refine lv_bipush (v := (-4)) hx hb dX0_back_31 zb_m4 ?_
      have hF : F_back A (nI k) = (-4, A) := by unfold F_back; rw [ifP_t ⟨k, hk1, hk2, rfl⟩, cl_nI (by omega), hak]
      exact hend _ _ _ _ _ _ _ (ps, dy, um, gg, pl, nu, ax, le, kn) hw (by rw [hF]; exact ⟨rfl, ⟨hps, hdy, hum, hR⟩⟩) (Nat.le_of_ble_eq_true rfl) (Nat.le_of_ble_eq_true rfl) dX0_back_33
    · skip
      show W p l e (zR 262 1 8) s m args below meth c H locs 0 0 Q (F0 m 23 ls [.ref sa, .ref (w 2)])
      obtain ⟨v, hav⟩ := kp_some hK (show k < 2 by omega) hkf
      have hHk := hA.2.2.2.2.1 k v (by omega) hav
      have hsl := (hK k (by omega)).1
      rw [hkf, hav] at hsl
      obtain ⟨zb, psb, dyb, hgb, b0, b1, b2, b3, b4, hxb, hbd, hvb⟩ := hsl
      have hvv := hvb _ rfl
      have hw := hw.perm (pl_get (E := [(co, zo 0 (cF w (nI mn) (nI um) sm lt)), (w 2, zo 1 (stF zn co (nI ps) (nI dy) (gg))), (zn 0, zc G 1 (zI 9 (vI pl))), (zn 1, zc G 1 (zI 9 (vI nu))), (zn 2, zc G 1 (zI 5 (vI ax))), (zn 3, zc G 1 (zI 5 (vI le))), (zn 4, zc G 2 (zI 5 (vI kn))), (w 4, zc G 5 (zO 2 kf))]) (sl := ks) (show k < 2 by omega))
      rw [hxb] at hw
      have hw : zS G ((sa, zo 1 (stF zb co (nI psb) (nI dyb) (nI hgb))) :: (zb 0, zc G 1 (zI 9 (vI b0))) :: (zb 1, zc G 1 (zI 9 (vI b1))) :: (zb 2, zc G 1 (zI 5 (vI b2))) :: (zb 3, zc G 1 (zI 5 (vI b3))) :: (zb 4, zc G 2 (zI 5 (vI b4))) :: (co, zo 0 (cF w (nI mn) (nI um) sm lt)) :: (w 2, zo 1 (stF zn co (nI ps) (nI dy) (gg))) :: (zn 0, zc G 1 (zI 9 (vI pl))) :: (zn 1, zc G 1 (zI 9 (vI nu))) :: (zn 2, zc G 1 (zI 5 (vI ax))) :: (zn 3, zc G 1 (zI 5 (vI le))) :: (zn 4, zc G 2 (zI 5 (vI kn))) :: (w 4, zc G 5 (zO 2 kf)) :: (pwX 2 ks k ++ rest)) s H locs := hw
      have hl : lv_has ls 3 [(0, .ref co), (1, .int (nI k))] := hl
      have hw : zS G ((sa, zo 1 (stF zb co (nI psb) (nI dyb) (nI hgb))) :: (zb 0, zc G 1 (zI 9 (vI b0))) :: (zb 1, zc G 1 (zI 9 (vI b1))) :: (zb 2, zc G 1 (zI 5 (vI b2))) :: (zb 3, zc G 1 (zI 5 (vI b3))) :: (zb 4, zc G 2 (zI 5 (vI b4))) :: (co, zo 0 (cF w (nI mn) (nI um) sm lt)) :: (w 2, zo 1 (stF zn co (nI ps) (nI dy) (gg))) :: (zn 0, zc G 1 (zI 9 (vI pl))) :: (zn 1, zc G 1 (zI 9 (vI nu))) :: (zn 2, zc G 1 (zI 5 (vI ax))) :: (zn 3, zc G 1 (zI 5 (vI le))) :: (zn 4, zc G 2 (zI 5 (vI kn))) :: (w 4, zc G 5 (zO 2 kf)) :: (pwX 2 ks k ++ rest)) s H locs := hw
      refine z_cq (z_runV (As := [.ref sa]) (rest := []) hC zv_X0_34 (m_X1_set G l (w 2) sa co zn zb ps dy psb dyb gg (nI hgb) pl nu ax le kn b0 b1 b2 b3 b4 (fun j => (hbd j).1) (fun j => (hbd j).2.1) (fun j => (hbd j).2.2.1) (fun j => (hbd j).2.2.2.1) (fun j => (hbd j).2.2.2.2) (zrem [7, 8, 9, 10, 11, 12, 0, 1, 2, 3, 4, 5] _)) hw (hw.perm (z_cut (is := [7, 8, 9, 10, 11, 12, 0, 1, 2, 3, 4, 5]) (cells := [(w 2, zo 1 (stF zn co (nI ps) (nI dy) (gg))), (zn 0, zc G 1 (zI 9 (vI pl))), (zn 1, zc G 1 (zI 9 (vI nu))), (zn 2, zc G 1 (zI 5 (vI ax))), (zn 3, zc G 1 (zI 5 (vI le))), (zn 4, zc G 2 (zI 5 (vI kn))), (sa, zo 1 (stF zb co (nI psb) (nI dyb) ((nI hgb)))), (zb 0, zc G 1 (zI 9 (vI b0))), (zb 1, zc G 1 (zI 9 (vI b1))), (zb 2, zc G 1 (zI 5 (vI b2))), (zb 3, zc G 1 (zI 5 (vI b3))), (zb 4, zc G 2 (zI 5 (vI b4)))]) rfl rfl)) 7 rfl rfl rfl rfl rfl (Nat.le_of_ble_eq_true rfl) hl.1 ⟨Nat.le_of_ble_eq_true rfl, Nat.le_of_ble_eq_true rfl⟩ ⟨(Nat.le_of_ble_eq_true rfl), (Nat.le_of_ble_eq_true rfl)⟩ dX0_back_23) hw (fun _ => z_pput (is := [7, 8, 9, 10, 11, 12, 0, 1, 2, 3, 4, 5]) (cells := [(w 2, zo 1 (stF zn co (nI ps) (nI dy) (gg))), (zn 0, zc G 1 (zI 9 (vI pl))), (zn 1, zc G 1 (zI 9 (vI nu))), (zn 2, zc G 1 (zI 5 (vI ax))), (zn 3, zc G 1 (zI 5 (vI le))), (zn 4, zc G 2 (zI 5 (vI kn))), (sa, zo 1 (stF zb co (nI psb) (nI dyb) ((nI hgb)))), (zb 0, zc G 1 (zI 9 (vI b0))), (zb 1, zc G 1 (zI 9 (vI b1))), (zb 2, zc G 1 (zI 5 (vI b2))), (zb 3, zc G 1 (zI 5 (vI b3))), (zb 4, zc G 2 (zI 5 (vI b4)))]) (cells' := [(w 2, zo 1 (stF zn co (nI psb) (nI dyb) (gg))), (zn 0, zc G 1 (zI 9 (vI (cpN b0 pl 9)))), (zn 1, zc G 1 (zI 9 (vI (cpN b1 nu 9)))), (zn 2, zc G 1 (zI 5 (vI (cpN b2 ax 5)))), (zn 3, zc G 1 (zI 5 (vI (cpN b3 le 5)))), (zn 4, zc G 2 (zI 5 (vI (cpN b4 kn 5)))), (sa, zo 1 (stF zb co (nI psb) (nI dyb) ((nI hgb)))), (zb 0, zc G 1 (zI 9 (vI b0))), (zb 1, zc G 1 (zI 9 (vI b1))), (zb 2, zc G 1 (zI 5 (vI b2))), (zb 3, zc G 1 (zI 5 (vI b3))), (zb 4, zc G 2 (zI 5 (vI b4)))]) rfl rfl rfl) (fun r u H locs hp hw => ?_)
      have hw : zS G ((sa, zo 1 (stF zb co (nI psb) (nI dyb) ((nI hgb)))) :: (zb 0, zc G 1 (zI 9 (vI b0))) :: (zb 1, zc G 1 (zI 9 (vI b1))) :: (zb 2, zc G 1 (zI 5 (vI b2))) :: (zb 3, zc G 1 (zI 5 (vI b3))) :: (zb 4, zc G 2 (zI 5 (vI b4))) :: (co, zo 0 (cF w (nI mn) (nI um) sm lt)) :: (w 2, zo 1 (stF zn co (nI psb) (nI dyb) (gg))) :: (zn 0, zc G 1 (zI 9 (vI (cpN b0 pl 9)))) :: (zn 1, zc G 1 (zI 9 (vI (cpN b1 nu 9)))) :: (zn 2, zc G 1 (zI 5 (vI (cpN b2 ax 5)))) :: (zn 3, zc G 1 (zI 5 (vI (cpN b3 le 5)))) :: (zn 4, zc G 2 (zI 5 (vI (cpN b4 kn 5)))) :: (w 4, zc G 5 (zO 2 kf)) :: (pwX 2 ks k ++ rest)) s H locs := hw
      obtain rfl : r = some (w 2) := hp
      refine lv_pop hx hb dX0_back_26 rfl ?_
      refine lv_goto (tgt := 34) hx hb dX0_back_27 (by decide) ?_
      refine lv_aload_n hx hb dX0_back_34 rfl (lv_at hl 0 rfl) ?_
      refine lv_iconst (v := (nI 0)) hx hb dX0_back_35 zk_0 ?_
      refine z_puti hC zf_X0_40_0 hw 6 rfl (Nat.le_of_ble_eq_true rfl) dX0_back_36 (fun H locs hw => ?_)
      have hw : zS G ((sa, zo 1 (stF zb co (nI psb) (nI dyb) ((nI hgb)))) :: (zb 0, zc G 1 (zI 9 (vI b0))) :: (zb 1, zc G 1 (zI 9 (vI b1))) :: (zb 2, zc G 1 (zI 5 (vI b2))) :: (zb 3, zc G 1 (zI 5 (vI b3))) :: (zb 4, zc G 2 (zI 5 (vI b4))) :: (co, zo 0 (cF w (nI mn) (nI 0) sm lt)) :: (w 2, zo 1 (stF zn co (nI psb) (nI dyb) (gg))) :: (zn 0, zc G 1 (zI 9 (vI (cpN b0 pl 9)))) :: (zn 1, zc G 1 (zI 9 (vI (cpN b1 nu 9)))) :: (zn 2, zc G 1 (zI 5 (vI (cpN b2 ax 5)))) :: (zn 3, zc G 1 (zI 5 (vI (cpN b3 le 5)))) :: (zn 4, zc G 2 (zI 5 (vI (cpN b4 kn 5)))) :: (w 4, zc G 5 (zO 2 kf)) :: (pwX 2 ks k ++ rest)) s H locs := hw
      refine lv_aload_n hx hb dX0_back_39 rfl (lv_at hl 0 rfl) ?_
      refine z_get (v := .ref (w 2)) hC zf_X0_27_0 hw 6 rfl rfl dX0_back_40 ?_
      refine z_get (v := .int (nI dyb)) hC zf_X0_201_1 hw 7 rfl rfl dX0_back_43 ?_
      have hw : zS G ((co, zo 0 (cF w (nI mn) (nI 0) sm lt)) :: (w 2, zo 1 (stF zn co (nI psb) (nI dyb) (gg))) :: (zn 0, zc G 1 (zI 9 (vI (cpN b0 pl 9)))) :: (zn 1, zc G 1 (zI 9 (vI (cpN b1 nu 9)))) :: (zn 2, zc G 1 (zI 5 (vI (cpN b2 ax 5)))) :: (zn 3, zc G 1 (zI 5 (vI (cpN b3 le 5)))) :: (zn 4, zc G 2 (zI 5 (vI (cpN b4 kn 5)))) :: (w 4, zc G 5 (zO 2 kf)) :: (pw 2 ks ++ rest)) s H locs := (show zS G (ks k ++ ([(co, zo 0 (cF w (nI mn) (nI 0) sm lt)), (w 2, zo 1 (stF zn co (nI psb) (nI dyb) (gg))), (zn 0, zc G 1 (zI 9 (vI (cpN b0 pl 9)))), (zn 1, zc G 1 (zI 9 (vI (cpN b1 nu 9)))), (zn 2, zc G 1 (zI 5 (vI (cpN b2 ax 5)))), (zn 3, zc G 1 (zI 5 (vI (cpN b3 le 5)))), (zn 4, zc G 2 (zI 5 (vI (cpN b4 kn 5)))), (w 4, zc G 5 (zO 2 kf))] ++ (pwX 2 ks k ++ rest))) s H locs from by rw [hxb]; exact hw).perm (pl_get (E := [(co, zo 0 (cF w (nI mn) (nI 0) sm lt)), (w 2, zo 1 (stF zn co (nI psb) (nI dyb) (gg))), (zn 0, zc G 1 (zI 9 (vI (cpN b0 pl 9)))), (zn 1, zc G 1 (zI 9 (vI (cpN b1 nu 9)))), (zn 2, zc G 1 (zI 5 (vI (cpN b2 ax 5)))), (zn 3, zc G 1 (zI 5 (vI (cpN b3 le 5)))), (zn 4, zc G 2 (zI 5 (vI (cpN b4 kn 5)))), (w 4, zc G 5 (zO 2 kf))]) (sl := ks) (show k < 2 by omega)).symm
      have hF : F_back A (nI k) = (nI (v 2), mkA (aT A) (aL A) (aV0 A) v 0 (aUs A) (aK A) (aS A) (aSg A) (aTr A)) := by unfold F_back; rw [ifP_t ⟨k, hk1, hk2, rfl⟩, cl_nI (by omega), hav]
      exact hend _ _ _ _ _ _ _ (psb, dyb, 0, gg, (cpN b0 pl 9), (cpN b1 nu 9), (cpN b2 ax 5), (cpN b3 le 5), (cpN b4 kn 5)) hw (by rw [hF]; exact ⟨congrArg nI hvv.2.1, ⟨hvv.1, hvv.2.1, rfl, sRel_cp hHk.1.1 hvv.2.2 hR.2.2.2⟩⟩) (Nat.le_of_ble_eq_true rfl) (Nat.le_of_ble_eq_true rfl) dX0_back_46
  · skip
    refine lv_bipush (v := (-2)) hx hb dX0_back_10 zb_m2 ?_
    have hF : F_back A x = (-2, A) := by exact ifP_f c_7
    exact hend _ _ _ _ _ _ _ (ps, dy, um, gg, pl, nu, ax, le, kn) hw (by rw [hF]; exact ⟨rfl, ⟨hps, hdy, hum, hR⟩⟩) (Nat.le_of_ble_eq_true rfl) (Nat.le_of_ble_eq_true rfl) dX0_back_12
set_option maxHeartbeats 4000000 in
theorem m_X0_castTo_0_0 (G : zE) (l : Launch) (kA : Nat → Nat) (hG : zG G kA) (oq : Nat) (nm : Int32) (nd : Int32) (rest : va_W) : zMq G l yX0_castTo cX0_castTo 2 (some (.object "NutCaches$Squirrel")) 0 0 0 [.ref oq, .int (nI 0)] ((oq, zo 5 (sqF nm nd)) :: rest) (fun (r : Option Nat) (_ : Unit) => r = some oq) (fun (_ : Unit) => (oq, zo 5 (sqF nm nd)) :: rest) := by
  refine z_begQ (by first | exact Or.inl ⟨_, rfl⟩ | exact Or.inr ⟨_, rfl⟩) (by decide) (Nat.le_of_ble_eq_true rfl) (fun p e s m args below meth c ls Q hC hl hw hend => ?_)
  have hx := hC.hx
  have hb := hC.hb
  have hl : lv_has ls 2 [(0, .ref oq), (1, .int (nI 0))] := hl
  have hw : zS G ((oq, zo 5 (sqF nm nd)) :: rest) s s.heap [] := hw
  have hz := hG s hC.hZ.1
  refine lv_iload_n hx hb dX0_castTo_0 rfl (lv_at hl 1 rfl) ?_
  refine lv_tableIn (off := 35) (tgt := 36) hx hb dX0_castTo_1 (by decide) (by decide) (by decide) (by decide) ?_
  refine lv_aload_n hx hb dX0_castTo_36 rfl (lv_at hl 0 rfl) ?_
  refine z_castY hC q836 (hz.1 _ (cw_t q2199 rfl)) (z_recv hC hw 0 rfl rfl) dX0_castTo_37 ?_
  exact hend _ _ _ _ _ _ (some oq) () hw rfl (Nat.le_of_ble_eq_true rfl) (Nat.le_of_ble_eq_true rfl) dX0_castTo_40
set_option maxHeartbeats 4000000 in
theorem m_X0_castTo_0_1 (G : zE) (l : Launch) (kA : Nat → Nat) (hG : zG G kA) (oq : Nat) (nm : Int32) (nd : Int32) (rest : va_W) : zMq G l yX0_castTo cX0_castTo 2 (some (.object "NutCaches$Squirrel")) 0 0 0 [.ref oq, .int (nI 1)] ((oq, zo 5 (sqF nm nd)) :: rest) (fun (r : Option Nat) (_ : Unit) => r = some oq) (fun (_ : Unit) => (oq, zo 5 (sqF nm nd)) :: rest) := by
  refine z_begQ (by first | exact Or.inl ⟨_, rfl⟩ | exact Or.inr ⟨_, rfl⟩) (by decide) (Nat.le_of_ble_eq_true rfl) (fun p e s m args below meth c ls Q hC hl hw hend => ?_)
  have hx := hC.hx
  have hb := hC.hb
  have hl : lv_has ls 2 [(0, .ref oq), (1, .int (nI 1))] := hl
  have hw : zS G ((oq, zo 5 (sqF nm nd)) :: rest) s s.heap [] := hw
  have hz := hG s hC.hZ.1
  refine lv_iload_n hx hb dX0_castTo_0 rfl (lv_at hl 1 rfl) ?_
  refine lv_tableIn (off := 40) (tgt := 41) hx hb dX0_castTo_1 (by decide) (by decide) (by decide) (by decide) ?_
  refine lv_aload_n hx hb dX0_castTo_41 rfl (lv_at hl 0 rfl) ?_
  refine z_castE hC q754 (z_recv hC hw 0 rfl rfl) dX0_castTo_42 ?_
  exact hend _ _ _ _ _ _ (some oq) () hw rfl (Nat.le_of_ble_eq_true rfl) (Nat.le_of_ble_eq_true rfl) dX0_castTo_45
set_option maxHeartbeats 4000000 in
theorem m_X0_castTo_0_2 (G : zE) (l : Launch) (kA : Nat → Nat) (hG : zG G kA) (hY : zY G) (hlt : l.stackTraces = false) (oq : Nat) (nm : Int32) (nd : Int32) (rest : va_W) : zTh G l yX0_castTo cX0_castTo 2 (some (.object "NutCaches$Squirrel")) 260 3 890 [.ref oq, .int (nI 2)] ((oq, zo 5 (sqF nm nd)) :: rest) "java/lang/ClassCastException" (fun _ => (oq, zo 5 (sqF nm nd)) :: rest) := by
  refine z_begX (by decide) (Nat.le_of_ble_eq_true rfl) (fun p e s m args below meth c ls Q hQ hC htb hl hw hend => ?_)
  have hx := hC.hx
  have hb := hC.hb
  have hl : lv_has ls 2 [(0, .ref oq), (1, .int (nI 2))] := hl
  have hw : zS G ((oq, zo 5 (sqF nm nd)) :: rest) s s.heap [] := hw
  have hz := hG s hC.hZ.1
  have hzy := hY s hC.hZ.1
  refine lv_iload_n hx hb dX0_castTo_0 rfl (lv_at hl 1 rfl) ?_
  refine lv_tableIn (off := 45) (tgt := 46) hx hb dX0_castTo_1 (by decide) (by decide) (by decide) (by decide) ?_
  refine lv_aload_n hx hb dX0_castTo_46 rfl (lv_at hl 0 rfl) ?_
  refine z_castX hC hlt hzy q773 (hz.2.2.1 ("NutCaches$Plain", "NutCaches$Greedy") (by decide)) kNm_all.2.1 kNm_all.2.2.1 (z_recv hC hw 0 rfl rfl) hw hl.1 (Nat.le_of_ble_eq_true rfl) ⟨Nat.le_of_ble_eq_true rfl, Nat.le_of_ble_eq_true rfl⟩ (Nat.le_of_ble_eq_true rfl) (Nat.le_of_ble_eq_true rfl) dX0_castTo_47 (fun q9 H ce9 hex => ?_)
  obtain ⟨hw, hx9⟩ := hex
  exact hend _ _ _ _ _ _ _ _ _ ⟨hw, hx9⟩ (by decide) (Nat.le_of_ble_eq_true rfl) (Nat.le_of_ble_eq_true rfl)
set_option maxHeartbeats 4000000 in
theorem m_X0_castTo_0_3 (G : zE) (l : Launch) (kA : Nat → Nat) (hG : zG G kA) (hY : zY G) (hlt : l.stackTraces = false) (oq : Nat) (nm : Int32) (nd : Int32) (rest : va_W) : zTh G l yX0_castTo cX0_castTo 2 (some (.object "NutCaches$Squirrel")) 260 3 890 [.ref oq, .int (nI 3)] ((oq, zo 5 (sqF nm nd)) :: rest) "java/lang/ClassCastException" (fun _ => (oq, zo 5 (sqF nm nd)) :: rest) := by
  refine z_begX (by decide) (Nat.le_of_ble_eq_true rfl) (fun p e s m args below meth c ls Q hQ hC htb hl hw hend => ?_)
  have hx := hC.hx
  have hb := hC.hb
  have hl : lv_has ls 2 [(0, .ref oq), (1, .int (nI 3))] := hl
  have hw : zS G ((oq, zo 5 (sqF nm nd)) :: rest) s s.heap [] := hw
  have hz := hG s hC.hZ.1
  have hzy := hY s hC.hZ.1
  refine lv_iload_n hx hb dX0_castTo_0 rfl (lv_at hl 1 rfl) ?_
  refine lv_tableIn (off := 50) (tgt := 51) hx hb dX0_castTo_1 (by decide) (by decide) (by decide) (by decide) ?_
  refine lv_aload_n hx hb dX0_castTo_51 rfl (lv_at hl 0 rfl) ?_
  refine z_castX hC hlt hzy q782 (hz.2.2.1 ("NutCaches$Plain", "NutCaches$Neat") (by decide)) kNm_all.2.1 kNm_all.2.2.2.1 (z_recv hC hw 0 rfl rfl) hw hl.1 (Nat.le_of_ble_eq_true rfl) ⟨Nat.le_of_ble_eq_true rfl, Nat.le_of_ble_eq_true rfl⟩ (Nat.le_of_ble_eq_true rfl) (Nat.le_of_ble_eq_true rfl) dX0_castTo_52 (fun q9 H ce9 hex => ?_)
  obtain ⟨hw, hx9⟩ := hex
  exact hend _ _ _ _ _ _ _ _ _ ⟨hw, hx9⟩ (by decide) (Nat.le_of_ble_eq_true rfl) (Nat.le_of_ble_eq_true rfl)
set_option maxHeartbeats 4000000 in
theorem m_X0_castTo_0_4 (G : zE) (l : Launch) (kA : Nat → Nat) (hG : zG G kA) (hY : zY G) (hlt : l.stackTraces = false) (oq : Nat) (nm : Int32) (nd : Int32) (rest : va_W) : zTh G l yX0_castTo cX0_castTo 2 (some (.object "NutCaches$Squirrel")) 260 3 890 [.ref oq, .int (nI 4)] ((oq, zo 5 (sqF nm nd)) :: rest) "java/lang/ClassCastException" (fun _ => (oq, zo 5 (sqF nm nd)) :: rest) := by
  refine z_begX (by decide) (Nat.le_of_ble_eq_true rfl) (fun p e s m args below meth c ls Q hQ hC htb hl hw hend => ?_)
  have hx := hC.hx
  have hb := hC.hb
  have hl : lv_has ls 2 [(0, .ref oq), (1, .int (nI 4))] := hl
  have hw : zS G ((oq, zo 5 (sqF nm nd)) :: rest) s s.heap [] := hw
  have hz := hG s hC.hZ.1
  have hzy := hY s hC.hZ.1
  refine lv_iload_n hx hb dX0_castTo_0 rfl (lv_at hl 1 rfl) ?_
  refine lv_tableIn (off := 55) (tgt := 56) hx hb dX0_castTo_1 (by decide) (by decide) (by decide) (by decide) ?_
  refine lv_aload_n hx hb dX0_castTo_56 rfl (lv_at hl 0 rfl) ?_
  refine z_castX hC hlt hzy q791 (hz.2.2.1 ("NutCaches$Plain", "NutCaches$Dozy") (by decide)) kNm_all.2.1 kNm_all.2.2.2.2.1 (z_recv hC hw 0 rfl rfl) hw hl.1 (Nat.le_of_ble_eq_true rfl) ⟨Nat.le_of_ble_eq_true rfl, Nat.le_of_ble_eq_true rfl⟩ (Nat.le_of_ble_eq_true rfl) (Nat.le_of_ble_eq_true rfl) dX0_castTo_57 (fun q9 H ce9 hex => ?_)
  obtain ⟨hw, hx9⟩ := hex
  exact hend _ _ _ _ _ _ _ _ _ ⟨hw, hx9⟩ (by decide) (Nat.le_of_ble_eq_true rfl) (Nat.le_of_ble_eq_true rfl)
set_option maxHeartbeats 4000000 in
theorem m_X0_castTo_0_5 (G : zE) (l : Launch) (kA : Nat → Nat) (hG : zG G kA) (hY : zY G) (hlt : l.stackTraces = false) (oq : Nat) (nm : Int32) (nd : Int32) (rest : va_W) : zTh G l yX0_castTo cX0_castTo 2 (some (.object "NutCaches$Squirrel")) 260 3 890 [.ref oq, .int (nI 5)] ((oq, zo 5 (sqF nm nd)) :: rest) "java/lang/ClassCastException" (fun _ => (oq, zo 5 (sqF nm nd)) :: rest) := by
  refine z_begX (by decide) (Nat.le_of_ble_eq_true rfl) (fun p e s m args below meth c ls Q hQ hC htb hl hw hend => ?_)
  have hx := hC.hx
  have hb := hC.hb
  have hl : lv_has ls 2 [(0, .ref oq), (1, .int (nI 5))] := hl
  have hw : zS G ((oq, zo 5 (sqF nm nd)) :: rest) s s.heap [] := hw
  have hz := hG s hC.hZ.1
  have hzy := hY s hC.hZ.1
  refine lv_iload_n hx hb dX0_castTo_0 rfl (lv_at hl 1 rfl) ?_
  refine lv_tableOut (tgt := 61) hx hb dX0_castTo_1 (by decide) (by decide) ?_
  refine lv_aload_n hx hb dX0_castTo_61 rfl (lv_at hl 0 rfl) ?_
  refine z_castX hC hlt hzy q800 (hz.2.2.1 ("NutCaches$Plain", "NutCaches$Spy") (by decide)) kNm_all.2.1 kNm_all.2.2.2.2.2.1 (z_recv hC hw 0 rfl rfl) hw hl.1 (Nat.le_of_ble_eq_true rfl) ⟨Nat.le_of_ble_eq_true rfl, Nat.le_of_ble_eq_true rfl⟩ (Nat.le_of_ble_eq_true rfl) (Nat.le_of_ble_eq_true rfl) dX0_castTo_62 (fun q9 H ce9 hex => ?_)
  obtain ⟨hw, hx9⟩ := hex
  exact hend _ _ _ _ _ _ _ _ _ ⟨hw, hx9⟩ (by decide) (Nat.le_of_ble_eq_true rfl) (Nat.le_of_ble_eq_true rfl)
set_option maxHeartbeats 4000000 in
theorem m_X0_castTo_1_0 (G : zE) (l : Launch) (kA : Nat → Nat) (hG : zG G kA) (oq : Nat) (nm : Int32) (nd : Int32) (rest : va_W) : zMq G l yX0_castTo cX0_castTo 2 (some (.object "NutCaches$Squirrel")) 0 0 0 [.ref oq, .int (nI 0)] ((oq, zo 6 (sqF nm nd)) :: rest) (fun (r : Option Nat) (_ : Unit) => r = some oq) (fun (_ : Unit) => (oq, zo 6 (sqF nm nd)) :: rest) := by
  refine z_begQ (by first | exact Or.inl ⟨_, rfl⟩ | exact Or.inr ⟨_, rfl⟩) (by decide) (Nat.le_of_ble_eq_true rfl) (fun p e s m args below meth c ls Q hC hl hw hend => ?_)
  have hx := hC.hx
  have hb := hC.hb
  have hl : lv_has ls 2 [(0, .ref oq), (1, .int (nI 0))] := hl
  have hw : zS G ((oq, zo 6 (sqF nm nd)) :: rest) s s.heap [] := hw
  have hz := hG s hC.hZ.1
  refine lv_iload_n hx hb dX0_castTo_0 rfl (lv_at hl 1 rfl) ?_
  refine lv_tableIn (off := 35) (tgt := 36) hx hb dX0_castTo_1 (by decide) (by decide) (by decide) (by decide) ?_
  refine lv_aload_n hx hb dX0_castTo_36 rfl (lv_at hl 0 rfl) ?_
  refine z_castY hC q836 (hz.1 _ (cw_t q2197 rfl)) (z_recv hC hw 0 rfl rfl) dX0_castTo_37 ?_
  exact hend _ _ _ _ _ _ (some oq) () hw rfl (Nat.le_of_ble_eq_true rfl) (Nat.le_of_ble_eq_true rfl) dX0_castTo_40
set_option maxHeartbeats 4000000 in
theorem m_X0_castTo_1_1 (G : zE) (l : Launch) (kA : Nat → Nat) (hG : zG G kA) (oq : Nat) (nm : Int32) (nd : Int32) (rest : va_W) : zMq G l yX0_castTo cX0_castTo 2 (some (.object "NutCaches$Squirrel")) 0 0 0 [.ref oq, .int (nI 1)] ((oq, zo 6 (sqF nm nd)) :: rest) (fun (r : Option Nat) (_ : Unit) => r = some oq) (fun (_ : Unit) => (oq, zo 6 (sqF nm nd)) :: rest) := by
  refine z_begQ (by first | exact Or.inl ⟨_, rfl⟩ | exact Or.inr ⟨_, rfl⟩) (by decide) (Nat.le_of_ble_eq_true rfl) (fun p e s m args below meth c ls Q hC hl hw hend => ?_)
  have hx := hC.hx
  have hb := hC.hb
  have hl : lv_has ls 2 [(0, .ref oq), (1, .int (nI 1))] := hl
  have hw : zS G ((oq, zo 6 (sqF nm nd)) :: rest) s s.heap [] := hw
  have hz := hG s hC.hZ.1
  refine lv_iload_n hx hb dX0_castTo_0 rfl (lv_at hl 1 rfl) ?_
  refine lv_tableIn (off := 40) (tgt := 41) hx hb dX0_castTo_1 (by decide) (by decide) (by decide) (by decide) ?_
  refine lv_aload_n hx hb dX0_castTo_41 rfl (lv_at hl 0 rfl) ?_
  refine z_castY hC q754 (hz.1 _ (cw_t q2201 rfl)) (z_recv hC hw 0 rfl rfl) dX0_castTo_42 ?_
  exact hend _ _ _ _ _ _ (some oq) () hw rfl (Nat.le_of_ble_eq_true rfl) (Nat.le_of_ble_eq_true rfl) dX0_castTo_45
set_option maxHeartbeats 4000000 in
theorem m_X0_castTo_1_2 (G : zE) (l : Launch) (kA : Nat → Nat) (hG : zG G kA) (oq : Nat) (nm : Int32) (nd : Int32) (rest : va_W) : zMq G l yX0_castTo cX0_castTo 2 (some (.object "NutCaches$Squirrel")) 0 0 0 [.ref oq, .int (nI 2)] ((oq, zo 6 (sqF nm nd)) :: rest) (fun (r : Option Nat) (_ : Unit) => r = some oq) (fun (_ : Unit) => (oq, zo 6 (sqF nm nd)) :: rest) := by
  refine z_begQ (by first | exact Or.inl ⟨_, rfl⟩ | exact Or.inr ⟨_, rfl⟩) (by decide) (Nat.le_of_ble_eq_true rfl) (fun p e s m args below meth c ls Q hC hl hw hend => ?_)
  have hx := hC.hx
  have hb := hC.hb
  have hl : lv_has ls 2 [(0, .ref oq), (1, .int (nI 2))] := hl
  have hw : zS G ((oq, zo 6 (sqF nm nd)) :: rest) s s.heap [] := hw
  have hz := hG s hC.hZ.1
  refine lv_iload_n hx hb dX0_castTo_0 rfl (lv_at hl 1 rfl) ?_
  refine lv_tableIn (off := 45) (tgt := 46) hx hb dX0_castTo_1 (by decide) (by decide) (by decide) (by decide) ?_
  refine lv_aload_n hx hb dX0_castTo_46 rfl (lv_at hl 0 rfl) ?_
  refine z_castE hC q773 (z_recv hC hw 0 rfl rfl) dX0_castTo_47 ?_
  exact hend _ _ _ _ _ _ (some oq) () hw rfl (Nat.le_of_ble_eq_true rfl) (Nat.le_of_ble_eq_true rfl) dX0_castTo_50
set_option maxHeartbeats 4000000 in
theorem m_X0_castTo_1_3 (G : zE) (l : Launch) (kA : Nat → Nat) (hG : zG G kA) (hY : zY G) (hlt : l.stackTraces = false) (oq : Nat) (nm : Int32) (nd : Int32) (rest : va_W) : zTh G l yX0_castTo cX0_castTo 2 (some (.object "NutCaches$Squirrel")) 260 3 890 [.ref oq, .int (nI 3)] ((oq, zo 6 (sqF nm nd)) :: rest) "java/lang/ClassCastException" (fun _ => (oq, zo 6 (sqF nm nd)) :: rest) := by
  refine z_begX (by decide) (Nat.le_of_ble_eq_true rfl) (fun p e s m args below meth c ls Q hQ hC htb hl hw hend => ?_)
  have hx := hC.hx
  have hb := hC.hb
  have hl : lv_has ls 2 [(0, .ref oq), (1, .int (nI 3))] := hl
  have hw : zS G ((oq, zo 6 (sqF nm nd)) :: rest) s s.heap [] := hw
  have hz := hG s hC.hZ.1
  have hzy := hY s hC.hZ.1
  refine lv_iload_n hx hb dX0_castTo_0 rfl (lv_at hl 1 rfl) ?_
  refine lv_tableIn (off := 50) (tgt := 51) hx hb dX0_castTo_1 (by decide) (by decide) (by decide) (by decide) ?_
  refine lv_aload_n hx hb dX0_castTo_51 rfl (lv_at hl 0 rfl) ?_
  refine z_castX hC hlt hzy q782 (hz.2.2.1 ("NutCaches$Greedy", "NutCaches$Neat") (by decide)) kNm_all.2.2.1 kNm_all.2.2.2.1 (z_recv hC hw 0 rfl rfl) hw hl.1 (Nat.le_of_ble_eq_true rfl) ⟨Nat.le_of_ble_eq_true rfl, Nat.le_of_ble_eq_true rfl⟩ (Nat.le_of_ble_eq_true rfl) (Nat.le_of_ble_eq_true rfl) dX0_castTo_52 (fun q9 H ce9 hex => ?_)
  obtain ⟨hw, hx9⟩ := hex
  exact hend _ _ _ _ _ _ _ _ _ ⟨hw, hx9⟩ (by decide) (Nat.le_of_ble_eq_true rfl) (Nat.le_of_ble_eq_true rfl)
set_option maxHeartbeats 4000000 in
theorem m_X0_castTo_1_4 (G : zE) (l : Launch) (kA : Nat → Nat) (hG : zG G kA) (hY : zY G) (hlt : l.stackTraces = false) (oq : Nat) (nm : Int32) (nd : Int32) (rest : va_W) : zTh G l yX0_castTo cX0_castTo 2 (some (.object "NutCaches$Squirrel")) 260 3 890 [.ref oq, .int (nI 4)] ((oq, zo 6 (sqF nm nd)) :: rest) "java/lang/ClassCastException" (fun _ => (oq, zo 6 (sqF nm nd)) :: rest) := by
  refine z_begX (by decide) (Nat.le_of_ble_eq_true rfl) (fun p e s m args below meth c ls Q hQ hC htb hl hw hend => ?_)
  have hx := hC.hx
  have hb := hC.hb
  have hl : lv_has ls 2 [(0, .ref oq), (1, .int (nI 4))] := hl
  have hw : zS G ((oq, zo 6 (sqF nm nd)) :: rest) s s.heap [] := hw
  have hz := hG s hC.hZ.1
  have hzy := hY s hC.hZ.1
  refine lv_iload_n hx hb dX0_castTo_0 rfl (lv_at hl 1 rfl) ?_
  refine lv_tableIn (off := 55) (tgt := 56) hx hb dX0_castTo_1 (by decide) (by decide) (by decide) (by decide) ?_
  refine lv_aload_n hx hb dX0_castTo_56 rfl (lv_at hl 0 rfl) ?_
  refine z_castX hC hlt hzy q791 (hz.2.2.1 ("NutCaches$Greedy", "NutCaches$Dozy") (by decide)) kNm_all.2.2.1 kNm_all.2.2.2.2.1 (z_recv hC hw 0 rfl rfl) hw hl.1 (Nat.le_of_ble_eq_true rfl) ⟨Nat.le_of_ble_eq_true rfl, Nat.le_of_ble_eq_true rfl⟩ (Nat.le_of_ble_eq_true rfl) (Nat.le_of_ble_eq_true rfl) dX0_castTo_57 (fun q9 H ce9 hex => ?_)
  obtain ⟨hw, hx9⟩ := hex
  exact hend _ _ _ _ _ _ _ _ _ ⟨hw, hx9⟩ (by decide) (Nat.le_of_ble_eq_true rfl) (Nat.le_of_ble_eq_true rfl)
set_option maxHeartbeats 4000000 in
theorem m_X0_castTo_1_5 (G : zE) (l : Launch) (kA : Nat → Nat) (hG : zG G kA) (hY : zY G) (hlt : l.stackTraces = false) (oq : Nat) (nm : Int32) (nd : Int32) (rest : va_W) : zTh G l yX0_castTo cX0_castTo 2 (some (.object "NutCaches$Squirrel")) 260 3 890 [.ref oq, .int (nI 5)] ((oq, zo 6 (sqF nm nd)) :: rest) "java/lang/ClassCastException" (fun _ => (oq, zo 6 (sqF nm nd)) :: rest) := by
  refine z_begX (by decide) (Nat.le_of_ble_eq_true rfl) (fun p e s m args below meth c ls Q hQ hC htb hl hw hend => ?_)
  have hx := hC.hx
  have hb := hC.hb
  have hl : lv_has ls 2 [(0, .ref oq), (1, .int (nI 5))] := hl
  have hw : zS G ((oq, zo 6 (sqF nm nd)) :: rest) s s.heap [] := hw
  have hz := hG s hC.hZ.1
  have hzy := hY s hC.hZ.1
  refine lv_iload_n hx hb dX0_castTo_0 rfl (lv_at hl 1 rfl) ?_
  refine lv_tableOut (tgt := 61) hx hb dX0_castTo_1 (by decide) (by decide) ?_
  refine lv_aload_n hx hb dX0_castTo_61 rfl (lv_at hl 0 rfl) ?_
  refine z_castX hC hlt hzy q800 (hz.2.2.1 ("NutCaches$Greedy", "NutCaches$Spy") (by decide)) kNm_all.2.2.1 kNm_all.2.2.2.2.2.1 (z_recv hC hw 0 rfl rfl) hw hl.1 (Nat.le_of_ble_eq_true rfl) ⟨Nat.le_of_ble_eq_true rfl, Nat.le_of_ble_eq_true rfl⟩ (Nat.le_of_ble_eq_true rfl) (Nat.le_of_ble_eq_true rfl) dX0_castTo_62 (fun q9 H ce9 hex => ?_)
  obtain ⟨hw, hx9⟩ := hex
  exact hend _ _ _ _ _ _ _ _ _ ⟨hw, hx9⟩ (by decide) (Nat.le_of_ble_eq_true rfl) (Nat.le_of_ble_eq_true rfl)
set_option maxHeartbeats 4000000 in
theorem m_X0_castTo_2_0 (G : zE) (l : Launch) (kA : Nat → Nat) (hG : zG G kA) (oq : Nat) (nm : Int32) (nd : Int32) (rest : va_W) : zMq G l yX0_castTo cX0_castTo 2 (some (.object "NutCaches$Squirrel")) 0 0 0 [.ref oq, .int (nI 0)] ((oq, zo 7 (sqF nm nd)) :: rest) (fun (r : Option Nat) (_ : Unit) => r = some oq) (fun (_ : Unit) => (oq, zo 7 (sqF nm nd)) :: rest) := by
  refine z_begQ (by first | exact Or.inl ⟨_, rfl⟩ | exact Or.inr ⟨_, rfl⟩) (by decide) (Nat.le_of_ble_eq_true rfl) (fun p e s m args below meth c ls Q hC hl hw hend => ?_)
  have hx := hC.hx
  have hb := hC.hb
  have hl : lv_has ls 2 [(0, .ref oq), (1, .int (nI 0))] := hl
  have hw : zS G ((oq, zo 7 (sqF nm nd)) :: rest) s s.heap [] := hw
  have hz := hG s hC.hZ.1
  refine lv_iload_n hx hb dX0_castTo_0 rfl (lv_at hl 1 rfl) ?_
  refine lv_tableIn (off := 35) (tgt := 36) hx hb dX0_castTo_1 (by decide) (by decide) (by decide) (by decide) ?_
  refine lv_aload_n hx hb dX0_castTo_36 rfl (lv_at hl 0 rfl) ?_
  refine z_castY hC q836 (hz.1 _ (cw_t q2198 rfl)) (z_recv hC hw 0 rfl rfl) dX0_castTo_37 ?_
  exact hend _ _ _ _ _ _ (some oq) () hw rfl (Nat.le_of_ble_eq_true rfl) (Nat.le_of_ble_eq_true rfl) dX0_castTo_40
set_option maxHeartbeats 4000000 in
theorem m_X0_castTo_2_1 (G : zE) (l : Launch) (kA : Nat → Nat) (hG : zG G kA) (oq : Nat) (nm : Int32) (nd : Int32) (rest : va_W) : zMq G l yX0_castTo cX0_castTo 2 (some (.object "NutCaches$Squirrel")) 0 0 0 [.ref oq, .int (nI 1)] ((oq, zo 7 (sqF nm nd)) :: rest) (fun (r : Option Nat) (_ : Unit) => r = some oq) (fun (_ : Unit) => (oq, zo 7 (sqF nm nd)) :: rest) := by
  refine z_begQ (by first | exact Or.inl ⟨_, rfl⟩ | exact Or.inr ⟨_, rfl⟩) (by decide) (Nat.le_of_ble_eq_true rfl) (fun p e s m args below meth c ls Q hC hl hw hend => ?_)
  have hx := hC.hx
  have hb := hC.hb
  have hl : lv_has ls 2 [(0, .ref oq), (1, .int (nI 1))] := hl
  have hw : zS G ((oq, zo 7 (sqF nm nd)) :: rest) s s.heap [] := hw
  have hz := hG s hC.hZ.1
  refine lv_iload_n hx hb dX0_castTo_0 rfl (lv_at hl 1 rfl) ?_
  refine lv_tableIn (off := 40) (tgt := 41) hx hb dX0_castTo_1 (by decide) (by decide) (by decide) (by decide) ?_
  refine lv_aload_n hx hb dX0_castTo_41 rfl (lv_at hl 0 rfl) ?_
  refine z_castY hC q754 (hz.1 _ (cw_t q2202 rfl)) (z_recv hC hw 0 rfl rfl) dX0_castTo_42 ?_
  exact hend _ _ _ _ _ _ (some oq) () hw rfl (Nat.le_of_ble_eq_true rfl) (Nat.le_of_ble_eq_true rfl) dX0_castTo_45
set_option maxHeartbeats 4000000 in
theorem m_X0_castTo_2_2 (G : zE) (l : Launch) (kA : Nat → Nat) (hG : zG G kA) (hY : zY G) (hlt : l.stackTraces = false) (oq : Nat) (nm : Int32) (nd : Int32) (rest : va_W) : zTh G l yX0_castTo cX0_castTo 2 (some (.object "NutCaches$Squirrel")) 260 3 890 [.ref oq, .int (nI 2)] ((oq, zo 7 (sqF nm nd)) :: rest) "java/lang/ClassCastException" (fun _ => (oq, zo 7 (sqF nm nd)) :: rest) := by
  refine z_begX (by decide) (Nat.le_of_ble_eq_true rfl) (fun p e s m args below meth c ls Q hQ hC htb hl hw hend => ?_)
  have hx := hC.hx
  have hb := hC.hb
  have hl : lv_has ls 2 [(0, .ref oq), (1, .int (nI 2))] := hl
  have hw : zS G ((oq, zo 7 (sqF nm nd)) :: rest) s s.heap [] := hw
  have hz := hG s hC.hZ.1
  have hzy := hY s hC.hZ.1
  refine lv_iload_n hx hb dX0_castTo_0 rfl (lv_at hl 1 rfl) ?_
  refine lv_tableIn (off := 45) (tgt := 46) hx hb dX0_castTo_1 (by decide) (by decide) (by decide) (by decide) ?_
  refine lv_aload_n hx hb dX0_castTo_46 rfl (lv_at hl 0 rfl) ?_
  refine z_castX hC hlt hzy q773 (hz.2.2.1 ("NutCaches$Neat", "NutCaches$Greedy") (by decide)) kNm_all.2.2.2.1 kNm_all.2.2.1 (z_recv hC hw 0 rfl rfl) hw hl.1 (Nat.le_of_ble_eq_true rfl) ⟨Nat.le_of_ble_eq_true rfl, Nat.le_of_ble_eq_true rfl⟩ (Nat.le_of_ble_eq_true rfl) (Nat.le_of_ble_eq_true rfl) dX0_castTo_47 (fun q9 H ce9 hex => ?_)
  obtain ⟨hw, hx9⟩ := hex
  exact hend _ _ _ _ _ _ _ _ _ ⟨hw, hx9⟩ (by decide) (Nat.le_of_ble_eq_true rfl) (Nat.le_of_ble_eq_true rfl)
set_option maxHeartbeats 4000000 in
theorem m_X0_castTo_2_3 (G : zE) (l : Launch) (kA : Nat → Nat) (hG : zG G kA) (oq : Nat) (nm : Int32) (nd : Int32) (rest : va_W) : zMq G l yX0_castTo cX0_castTo 2 (some (.object "NutCaches$Squirrel")) 0 0 0 [.ref oq, .int (nI 3)] ((oq, zo 7 (sqF nm nd)) :: rest) (fun (r : Option Nat) (_ : Unit) => r = some oq) (fun (_ : Unit) => (oq, zo 7 (sqF nm nd)) :: rest) := by
  refine z_begQ (by first | exact Or.inl ⟨_, rfl⟩ | exact Or.inr ⟨_, rfl⟩) (by decide) (Nat.le_of_ble_eq_true rfl) (fun p e s m args below meth c ls Q hC hl hw hend => ?_)
  have hx := hC.hx
  have hb := hC.hb
  have hl : lv_has ls 2 [(0, .ref oq), (1, .int (nI 3))] := hl
  have hw : zS G ((oq, zo 7 (sqF nm nd)) :: rest) s s.heap [] := hw
  have hz := hG s hC.hZ.1
  refine lv_iload_n hx hb dX0_castTo_0 rfl (lv_at hl 1 rfl) ?_
  refine lv_tableIn (off := 50) (tgt := 51) hx hb dX0_castTo_1 (by decide) (by decide) (by decide) (by decide) ?_
  refine lv_aload_n hx hb dX0_castTo_51 rfl (lv_at hl 0 rfl) ?_
  refine z_castE hC q782 (z_recv hC hw 0 rfl rfl) dX0_castTo_52 ?_
  exact hend _ _ _ _ _ _ (some oq) () hw rfl (Nat.le_of_ble_eq_true rfl) (Nat.le_of_ble_eq_true rfl) dX0_castTo_55
set_option maxHeartbeats 4000000 in
theorem m_X0_castTo_2_4 (G : zE) (l : Launch) (kA : Nat → Nat) (hG : zG G kA) (hY : zY G) (hlt : l.stackTraces = false) (oq : Nat) (nm : Int32) (nd : Int32) (rest : va_W) : zTh G l yX0_castTo cX0_castTo 2 (some (.object "NutCaches$Squirrel")) 260 3 890 [.ref oq, .int (nI 4)] ((oq, zo 7 (sqF nm nd)) :: rest) "java/lang/ClassCastException" (fun _ => (oq, zo 7 (sqF nm nd)) :: rest) := by
  refine z_begX (by decide) (Nat.le_of_ble_eq_true rfl) (fun p e s m args below meth c ls Q hQ hC htb hl hw hend => ?_)
  have hx := hC.hx
  have hb := hC.hb
  have hl : lv_has ls 2 [(0, .ref oq), (1, .int (nI 4))] := hl
  have hw : zS G ((oq, zo 7 (sqF nm nd)) :: rest) s s.heap [] := hw
  have hz := hG s hC.hZ.1
  have hzy := hY s hC.hZ.1
  refine lv_iload_n hx hb dX0_castTo_0 rfl (lv_at hl 1 rfl) ?_
  refine lv_tableIn (off := 55) (tgt := 56) hx hb dX0_castTo_1 (by decide) (by decide) (by decide) (by decide) ?_
  refine lv_aload_n hx hb dX0_castTo_56 rfl (lv_at hl 0 rfl) ?_
  refine z_castX hC hlt hzy q791 (hz.2.2.1 ("NutCaches$Neat", "NutCaches$Dozy") (by decide)) kNm_all.2.2.2.1 kNm_all.2.2.2.2.1 (z_recv hC hw 0 rfl rfl) hw hl.1 (Nat.le_of_ble_eq_true rfl) ⟨Nat.le_of_ble_eq_true rfl, Nat.le_of_ble_eq_true rfl⟩ (Nat.le_of_ble_eq_true rfl) (Nat.le_of_ble_eq_true rfl) dX0_castTo_57 (fun q9 H ce9 hex => ?_)
  obtain ⟨hw, hx9⟩ := hex
  exact hend _ _ _ _ _ _ _ _ _ ⟨hw, hx9⟩ (by decide) (Nat.le_of_ble_eq_true rfl) (Nat.le_of_ble_eq_true rfl)
set_option maxHeartbeats 4000000 in
theorem m_X0_castTo_2_5 (G : zE) (l : Launch) (kA : Nat → Nat) (hG : zG G kA) (hY : zY G) (hlt : l.stackTraces = false) (oq : Nat) (nm : Int32) (nd : Int32) (rest : va_W) : zTh G l yX0_castTo cX0_castTo 2 (some (.object "NutCaches$Squirrel")) 260 3 890 [.ref oq, .int (nI 5)] ((oq, zo 7 (sqF nm nd)) :: rest) "java/lang/ClassCastException" (fun _ => (oq, zo 7 (sqF nm nd)) :: rest) := by
  refine z_begX (by decide) (Nat.le_of_ble_eq_true rfl) (fun p e s m args below meth c ls Q hQ hC htb hl hw hend => ?_)
  have hx := hC.hx
  have hb := hC.hb
  have hl : lv_has ls 2 [(0, .ref oq), (1, .int (nI 5))] := hl
  have hw : zS G ((oq, zo 7 (sqF nm nd)) :: rest) s s.heap [] := hw
  have hz := hG s hC.hZ.1
  have hzy := hY s hC.hZ.1
  refine lv_iload_n hx hb dX0_castTo_0 rfl (lv_at hl 1 rfl) ?_
  refine lv_tableOut (tgt := 61) hx hb dX0_castTo_1 (by decide) (by decide) ?_
  refine lv_aload_n hx hb dX0_castTo_61 rfl (lv_at hl 0 rfl) ?_
  refine z_castX hC hlt hzy q800 (hz.2.2.1 ("NutCaches$Neat", "NutCaches$Spy") (by decide)) kNm_all.2.2.2.1 kNm_all.2.2.2.2.2.1 (z_recv hC hw 0 rfl rfl) hw hl.1 (Nat.le_of_ble_eq_true rfl) ⟨Nat.le_of_ble_eq_true rfl, Nat.le_of_ble_eq_true rfl⟩ (Nat.le_of_ble_eq_true rfl) (Nat.le_of_ble_eq_true rfl) dX0_castTo_62 (fun q9 H ce9 hex => ?_)
  obtain ⟨hw, hx9⟩ := hex
  exact hend _ _ _ _ _ _ _ _ _ ⟨hw, hx9⟩ (by decide) (Nat.le_of_ble_eq_true rfl) (Nat.le_of_ble_eq_true rfl)
set_option maxHeartbeats 4000000 in
theorem m_X0_castTo_3_0 (G : zE) (l : Launch) (kA : Nat → Nat) (hG : zG G kA) (oq : Nat) (nm : Int32) (nd : Int32) (rest : va_W) : zMq G l yX0_castTo cX0_castTo 2 (some (.object "NutCaches$Squirrel")) 0 0 0 [.ref oq, .int (nI 0)] ((oq, zo 8 (sqF nm nd)) :: rest) (fun (r : Option Nat) (_ : Unit) => r = some oq) (fun (_ : Unit) => (oq, zo 8 (sqF nm nd)) :: rest) := by
  refine z_begQ (by first | exact Or.inl ⟨_, rfl⟩ | exact Or.inr ⟨_, rfl⟩) (by decide) (Nat.le_of_ble_eq_true rfl) (fun p e s m args below meth c ls Q hC hl hw hend => ?_)
  have hx := hC.hx
  have hb := hC.hb
  have hl : lv_has ls 2 [(0, .ref oq), (1, .int (nI 0))] := hl
  have hw : zS G ((oq, zo 8 (sqF nm nd)) :: rest) s s.heap [] := hw
  have hz := hG s hC.hZ.1
  refine lv_iload_n hx hb dX0_castTo_0 rfl (lv_at hl 1 rfl) ?_
  refine lv_tableIn (off := 35) (tgt := 36) hx hb dX0_castTo_1 (by decide) (by decide) (by decide) (by decide) ?_
  refine lv_aload_n hx hb dX0_castTo_36 rfl (lv_at hl 0 rfl) ?_
  refine z_castY hC q836 (hz.1 _ (cw_t q2196 rfl)) (z_recv hC hw 0 rfl rfl) dX0_castTo_37 ?_
  exact hend _ _ _ _ _ _ (some oq) () hw rfl (Nat.le_of_ble_eq_true rfl) (Nat.le_of_ble_eq_true rfl) dX0_castTo_40
set_option maxHeartbeats 4000000 in
theorem m_X0_castTo_3_1 (G : zE) (l : Launch) (kA : Nat → Nat) (hG : zG G kA) (hY : zY G) (hlt : l.stackTraces = false) (oq : Nat) (nm : Int32) (nd : Int32) (rest : va_W) : zTh G l yX0_castTo cX0_castTo 2 (some (.object "NutCaches$Squirrel")) 260 3 890 [.ref oq, .int (nI 1)] ((oq, zo 8 (sqF nm nd)) :: rest) "java/lang/ClassCastException" (fun _ => (oq, zo 8 (sqF nm nd)) :: rest) := by
  refine z_begX (by decide) (Nat.le_of_ble_eq_true rfl) (fun p e s m args below meth c ls Q hQ hC htb hl hw hend => ?_)
  have hx := hC.hx
  have hb := hC.hb
  have hl : lv_has ls 2 [(0, .ref oq), (1, .int (nI 1))] := hl
  have hw : zS G ((oq, zo 8 (sqF nm nd)) :: rest) s s.heap [] := hw
  have hz := hG s hC.hZ.1
  have hzy := hY s hC.hZ.1
  refine lv_iload_n hx hb dX0_castTo_0 rfl (lv_at hl 1 rfl) ?_
  refine lv_tableIn (off := 40) (tgt := 41) hx hb dX0_castTo_1 (by decide) (by decide) (by decide) (by decide) ?_
  refine lv_aload_n hx hb dX0_castTo_41 rfl (lv_at hl 0 rfl) ?_
  refine z_castX hC hlt hzy q754 (hz.2.2.1 ("NutCaches$Dozy", "NutCaches$Plain") (by decide)) kNm_all.2.2.2.2.1 kNm_all.2.1 (z_recv hC hw 0 rfl rfl) hw hl.1 (Nat.le_of_ble_eq_true rfl) ⟨Nat.le_of_ble_eq_true rfl, Nat.le_of_ble_eq_true rfl⟩ (Nat.le_of_ble_eq_true rfl) (Nat.le_of_ble_eq_true rfl) dX0_castTo_42 (fun q9 H ce9 hex => ?_)
  obtain ⟨hw, hx9⟩ := hex
  exact hend _ _ _ _ _ _ _ _ _ ⟨hw, hx9⟩ (by decide) (Nat.le_of_ble_eq_true rfl) (Nat.le_of_ble_eq_true rfl)
set_option maxHeartbeats 4000000 in
theorem m_X0_castTo_3_2 (G : zE) (l : Launch) (kA : Nat → Nat) (hG : zG G kA) (hY : zY G) (hlt : l.stackTraces = false) (oq : Nat) (nm : Int32) (nd : Int32) (rest : va_W) : zTh G l yX0_castTo cX0_castTo 2 (some (.object "NutCaches$Squirrel")) 260 3 890 [.ref oq, .int (nI 2)] ((oq, zo 8 (sqF nm nd)) :: rest) "java/lang/ClassCastException" (fun _ => (oq, zo 8 (sqF nm nd)) :: rest) := by
  refine z_begX (by decide) (Nat.le_of_ble_eq_true rfl) (fun p e s m args below meth c ls Q hQ hC htb hl hw hend => ?_)
  have hx := hC.hx
  have hb := hC.hb
  have hl : lv_has ls 2 [(0, .ref oq), (1, .int (nI 2))] := hl
  have hw : zS G ((oq, zo 8 (sqF nm nd)) :: rest) s s.heap [] := hw
  have hz := hG s hC.hZ.1
  have hzy := hY s hC.hZ.1
  refine lv_iload_n hx hb dX0_castTo_0 rfl (lv_at hl 1 rfl) ?_
  refine lv_tableIn (off := 45) (tgt := 46) hx hb dX0_castTo_1 (by decide) (by decide) (by decide) (by decide) ?_
  refine lv_aload_n hx hb dX0_castTo_46 rfl (lv_at hl 0 rfl) ?_
  refine z_castX hC hlt hzy q773 (hz.2.2.1 ("NutCaches$Dozy", "NutCaches$Greedy") (by decide)) kNm_all.2.2.2.2.1 kNm_all.2.2.1 (z_recv hC hw 0 rfl rfl) hw hl.1 (Nat.le_of_ble_eq_true rfl) ⟨Nat.le_of_ble_eq_true rfl, Nat.le_of_ble_eq_true rfl⟩ (Nat.le_of_ble_eq_true rfl) (Nat.le_of_ble_eq_true rfl) dX0_castTo_47 (fun q9 H ce9 hex => ?_)
  obtain ⟨hw, hx9⟩ := hex
  exact hend _ _ _ _ _ _ _ _ _ ⟨hw, hx9⟩ (by decide) (Nat.le_of_ble_eq_true rfl) (Nat.le_of_ble_eq_true rfl)
set_option maxHeartbeats 4000000 in
theorem m_X0_castTo_3_3 (G : zE) (l : Launch) (kA : Nat → Nat) (hG : zG G kA) (hY : zY G) (hlt : l.stackTraces = false) (oq : Nat) (nm : Int32) (nd : Int32) (rest : va_W) : zTh G l yX0_castTo cX0_castTo 2 (some (.object "NutCaches$Squirrel")) 260 3 890 [.ref oq, .int (nI 3)] ((oq, zo 8 (sqF nm nd)) :: rest) "java/lang/ClassCastException" (fun _ => (oq, zo 8 (sqF nm nd)) :: rest) := by
  refine z_begX (by decide) (Nat.le_of_ble_eq_true rfl) (fun p e s m args below meth c ls Q hQ hC htb hl hw hend => ?_)
  have hx := hC.hx
  have hb := hC.hb
  have hl : lv_has ls 2 [(0, .ref oq), (1, .int (nI 3))] := hl
  have hw : zS G ((oq, zo 8 (sqF nm nd)) :: rest) s s.heap [] := hw
  have hz := hG s hC.hZ.1
  have hzy := hY s hC.hZ.1
  refine lv_iload_n hx hb dX0_castTo_0 rfl (lv_at hl 1 rfl) ?_
  refine lv_tableIn (off := 50) (tgt := 51) hx hb dX0_castTo_1 (by decide) (by decide) (by decide) (by decide) ?_
  refine lv_aload_n hx hb dX0_castTo_51 rfl (lv_at hl 0 rfl) ?_
  refine z_castX hC hlt hzy q782 (hz.2.2.1 ("NutCaches$Dozy", "NutCaches$Neat") (by decide)) kNm_all.2.2.2.2.1 kNm_all.2.2.2.1 (z_recv hC hw 0 rfl rfl) hw hl.1 (Nat.le_of_ble_eq_true rfl) ⟨Nat.le_of_ble_eq_true rfl, Nat.le_of_ble_eq_true rfl⟩ (Nat.le_of_ble_eq_true rfl) (Nat.le_of_ble_eq_true rfl) dX0_castTo_52 (fun q9 H ce9 hex => ?_)
  obtain ⟨hw, hx9⟩ := hex
  exact hend _ _ _ _ _ _ _ _ _ ⟨hw, hx9⟩ (by decide) (Nat.le_of_ble_eq_true rfl) (Nat.le_of_ble_eq_true rfl)
set_option maxHeartbeats 4000000 in
theorem m_X0_castTo_3_4 (G : zE) (l : Launch) (kA : Nat → Nat) (hG : zG G kA) (oq : Nat) (nm : Int32) (nd : Int32) (rest : va_W) : zMq G l yX0_castTo cX0_castTo 2 (some (.object "NutCaches$Squirrel")) 0 0 0 [.ref oq, .int (nI 4)] ((oq, zo 8 (sqF nm nd)) :: rest) (fun (r : Option Nat) (_ : Unit) => r = some oq) (fun (_ : Unit) => (oq, zo 8 (sqF nm nd)) :: rest) := by
  refine z_begQ (by first | exact Or.inl ⟨_, rfl⟩ | exact Or.inr ⟨_, rfl⟩) (by decide) (Nat.le_of_ble_eq_true rfl) (fun p e s m args below meth c ls Q hC hl hw hend => ?_)
  have hx := hC.hx
  have hb := hC.hb
  have hl : lv_has ls 2 [(0, .ref oq), (1, .int (nI 4))] := hl
  have hw : zS G ((oq, zo 8 (sqF nm nd)) :: rest) s s.heap [] := hw
  have hz := hG s hC.hZ.1
  refine lv_iload_n hx hb dX0_castTo_0 rfl (lv_at hl 1 rfl) ?_
  refine lv_tableIn (off := 55) (tgt := 56) hx hb dX0_castTo_1 (by decide) (by decide) (by decide) (by decide) ?_
  refine lv_aload_n hx hb dX0_castTo_56 rfl (lv_at hl 0 rfl) ?_
  refine z_castE hC q791 (z_recv hC hw 0 rfl rfl) dX0_castTo_57 ?_
  exact hend _ _ _ _ _ _ (some oq) () hw rfl (Nat.le_of_ble_eq_true rfl) (Nat.le_of_ble_eq_true rfl) dX0_castTo_60
set_option maxHeartbeats 4000000 in
theorem m_X0_castTo_3_5 (G : zE) (l : Launch) (kA : Nat → Nat) (hG : zG G kA) (hY : zY G) (hlt : l.stackTraces = false) (oq : Nat) (nm : Int32) (nd : Int32) (rest : va_W) : zTh G l yX0_castTo cX0_castTo 2 (some (.object "NutCaches$Squirrel")) 260 3 890 [.ref oq, .int (nI 5)] ((oq, zo 8 (sqF nm nd)) :: rest) "java/lang/ClassCastException" (fun _ => (oq, zo 8 (sqF nm nd)) :: rest) := by
  refine z_begX (by decide) (Nat.le_of_ble_eq_true rfl) (fun p e s m args below meth c ls Q hQ hC htb hl hw hend => ?_)
  have hx := hC.hx
  have hb := hC.hb
  have hl : lv_has ls 2 [(0, .ref oq), (1, .int (nI 5))] := hl
  have hw : zS G ((oq, zo 8 (sqF nm nd)) :: rest) s s.heap [] := hw
  have hz := hG s hC.hZ.1
  have hzy := hY s hC.hZ.1
  refine lv_iload_n hx hb dX0_castTo_0 rfl (lv_at hl 1 rfl) ?_
  refine lv_tableOut (tgt := 61) hx hb dX0_castTo_1 (by decide) (by decide) ?_
  refine lv_aload_n hx hb dX0_castTo_61 rfl (lv_at hl 0 rfl) ?_
  refine z_castX hC hlt hzy q800 (hz.2.2.1 ("NutCaches$Dozy", "NutCaches$Spy") (by decide)) kNm_all.2.2.2.2.1 kNm_all.2.2.2.2.2.1 (z_recv hC hw 0 rfl rfl) hw hl.1 (Nat.le_of_ble_eq_true rfl) ⟨Nat.le_of_ble_eq_true rfl, Nat.le_of_ble_eq_true rfl⟩ (Nat.le_of_ble_eq_true rfl) (Nat.le_of_ble_eq_true rfl) dX0_castTo_62 (fun q9 H ce9 hex => ?_)
  obtain ⟨hw, hx9⟩ := hex
  exact hend _ _ _ _ _ _ _ _ _ ⟨hw, hx9⟩ (by decide) (Nat.le_of_ble_eq_true rfl) (Nat.le_of_ble_eq_true rfl)
set_option maxHeartbeats 4000000 in
theorem m_X0_castTo_4_0 (G : zE) (l : Launch) (kA : Nat → Nat) (hG : zG G kA) (oq : Nat) (nm : Int32) (nd : Int32) (rest : va_W) : zMq G l yX0_castTo cX0_castTo 2 (some (.object "NutCaches$Squirrel")) 0 0 0 [.ref oq, .int (nI 0)] ((oq, zo 9 (sqF nm nd)) :: rest) (fun (r : Option Nat) (_ : Unit) => r = some oq) (fun (_ : Unit) => (oq, zo 9 (sqF nm nd)) :: rest) := by
  refine z_begQ (by first | exact Or.inl ⟨_, rfl⟩ | exact Or.inr ⟨_, rfl⟩) (by decide) (Nat.le_of_ble_eq_true rfl) (fun p e s m args below meth c ls Q hC hl hw hend => ?_)
  have hx := hC.hx
  have hb := hC.hb
  have hl : lv_has ls 2 [(0, .ref oq), (1, .int (nI 0))] := hl
  have hw : zS G ((oq, zo 9 (sqF nm nd)) :: rest) s s.heap [] := hw
  have hz := hG s hC.hZ.1
  refine lv_iload_n hx hb dX0_castTo_0 rfl (lv_at hl 1 rfl) ?_
  refine lv_tableIn (off := 35) (tgt := 36) hx hb dX0_castTo_1 (by decide) (by decide) (by decide) (by decide) ?_
  refine lv_aload_n hx hb dX0_castTo_36 rfl (lv_at hl 0 rfl) ?_
  refine z_castY hC q836 (hz.1 _ (cw_t q2200 rfl)) (z_recv hC hw 0 rfl rfl) dX0_castTo_37 ?_
  exact hend _ _ _ _ _ _ (some oq) () hw rfl (Nat.le_of_ble_eq_true rfl) (Nat.le_of_ble_eq_true rfl) dX0_castTo_40
set_option maxHeartbeats 4000000 in
theorem m_X0_castTo_4_1 (G : zE) (l : Launch) (kA : Nat → Nat) (hG : zG G kA) (hY : zY G) (hlt : l.stackTraces = false) (oq : Nat) (nm : Int32) (nd : Int32) (rest : va_W) : zTh G l yX0_castTo cX0_castTo 2 (some (.object "NutCaches$Squirrel")) 260 3 890 [.ref oq, .int (nI 1)] ((oq, zo 9 (sqF nm nd)) :: rest) "java/lang/ClassCastException" (fun _ => (oq, zo 9 (sqF nm nd)) :: rest) := by
  refine z_begX (by decide) (Nat.le_of_ble_eq_true rfl) (fun p e s m args below meth c ls Q hQ hC htb hl hw hend => ?_)
  have hx := hC.hx
  have hb := hC.hb
  have hl : lv_has ls 2 [(0, .ref oq), (1, .int (nI 1))] := hl
  have hw : zS G ((oq, zo 9 (sqF nm nd)) :: rest) s s.heap [] := hw
  have hz := hG s hC.hZ.1
  have hzy := hY s hC.hZ.1
  refine lv_iload_n hx hb dX0_castTo_0 rfl (lv_at hl 1 rfl) ?_
  refine lv_tableIn (off := 40) (tgt := 41) hx hb dX0_castTo_1 (by decide) (by decide) (by decide) (by decide) ?_
  refine lv_aload_n hx hb dX0_castTo_41 rfl (lv_at hl 0 rfl) ?_
  refine z_castX hC hlt hzy q754 (hz.2.2.1 ("NutCaches$Spy", "NutCaches$Plain") (by decide)) kNm_all.2.2.2.2.2.1 kNm_all.2.1 (z_recv hC hw 0 rfl rfl) hw hl.1 (Nat.le_of_ble_eq_true rfl) ⟨Nat.le_of_ble_eq_true rfl, Nat.le_of_ble_eq_true rfl⟩ (Nat.le_of_ble_eq_true rfl) (Nat.le_of_ble_eq_true rfl) dX0_castTo_42 (fun q9 H ce9 hex => ?_)
  obtain ⟨hw, hx9⟩ := hex
  exact hend _ _ _ _ _ _ _ _ _ ⟨hw, hx9⟩ (by decide) (Nat.le_of_ble_eq_true rfl) (Nat.le_of_ble_eq_true rfl)
set_option maxHeartbeats 4000000 in
theorem m_X0_castTo_4_2 (G : zE) (l : Launch) (kA : Nat → Nat) (hG : zG G kA) (hY : zY G) (hlt : l.stackTraces = false) (oq : Nat) (nm : Int32) (nd : Int32) (rest : va_W) : zTh G l yX0_castTo cX0_castTo 2 (some (.object "NutCaches$Squirrel")) 260 3 890 [.ref oq, .int (nI 2)] ((oq, zo 9 (sqF nm nd)) :: rest) "java/lang/ClassCastException" (fun _ => (oq, zo 9 (sqF nm nd)) :: rest) := by
  refine z_begX (by decide) (Nat.le_of_ble_eq_true rfl) (fun p e s m args below meth c ls Q hQ hC htb hl hw hend => ?_)
  have hx := hC.hx
  have hb := hC.hb
  have hl : lv_has ls 2 [(0, .ref oq), (1, .int (nI 2))] := hl
  have hw : zS G ((oq, zo 9 (sqF nm nd)) :: rest) s s.heap [] := hw
  have hz := hG s hC.hZ.1
  have hzy := hY s hC.hZ.1
  refine lv_iload_n hx hb dX0_castTo_0 rfl (lv_at hl 1 rfl) ?_
  refine lv_tableIn (off := 45) (tgt := 46) hx hb dX0_castTo_1 (by decide) (by decide) (by decide) (by decide) ?_
  refine lv_aload_n hx hb dX0_castTo_46 rfl (lv_at hl 0 rfl) ?_
  refine z_castX hC hlt hzy q773 (hz.2.2.1 ("NutCaches$Spy", "NutCaches$Greedy") (by decide)) kNm_all.2.2.2.2.2.1 kNm_all.2.2.1 (z_recv hC hw 0 rfl rfl) hw hl.1 (Nat.le_of_ble_eq_true rfl) ⟨Nat.le_of_ble_eq_true rfl, Nat.le_of_ble_eq_true rfl⟩ (Nat.le_of_ble_eq_true rfl) (Nat.le_of_ble_eq_true rfl) dX0_castTo_47 (fun q9 H ce9 hex => ?_)
  obtain ⟨hw, hx9⟩ := hex
  exact hend _ _ _ _ _ _ _ _ _ ⟨hw, hx9⟩ (by decide) (Nat.le_of_ble_eq_true rfl) (Nat.le_of_ble_eq_true rfl)
set_option maxHeartbeats 4000000 in
theorem m_X0_castTo_4_3 (G : zE) (l : Launch) (kA : Nat → Nat) (hG : zG G kA) (hY : zY G) (hlt : l.stackTraces = false) (oq : Nat) (nm : Int32) (nd : Int32) (rest : va_W) : zTh G l yX0_castTo cX0_castTo 2 (some (.object "NutCaches$Squirrel")) 260 3 890 [.ref oq, .int (nI 3)] ((oq, zo 9 (sqF nm nd)) :: rest) "java/lang/ClassCastException" (fun _ => (oq, zo 9 (sqF nm nd)) :: rest) := by
  refine z_begX (by decide) (Nat.le_of_ble_eq_true rfl) (fun p e s m args below meth c ls Q hQ hC htb hl hw hend => ?_)
  have hx := hC.hx
  have hb := hC.hb
  have hl : lv_has ls 2 [(0, .ref oq), (1, .int (nI 3))] := hl
  have hw : zS G ((oq, zo 9 (sqF nm nd)) :: rest) s s.heap [] := hw
  have hz := hG s hC.hZ.1
  have hzy := hY s hC.hZ.1
  refine lv_iload_n hx hb dX0_castTo_0 rfl (lv_at hl 1 rfl) ?_
  refine lv_tableIn (off := 50) (tgt := 51) hx hb dX0_castTo_1 (by decide) (by decide) (by decide) (by decide) ?_
  refine lv_aload_n hx hb dX0_castTo_51 rfl (lv_at hl 0 rfl) ?_
  refine z_castX hC hlt hzy q782 (hz.2.2.1 ("NutCaches$Spy", "NutCaches$Neat") (by decide)) kNm_all.2.2.2.2.2.1 kNm_all.2.2.2.1 (z_recv hC hw 0 rfl rfl) hw hl.1 (Nat.le_of_ble_eq_true rfl) ⟨Nat.le_of_ble_eq_true rfl, Nat.le_of_ble_eq_true rfl⟩ (Nat.le_of_ble_eq_true rfl) (Nat.le_of_ble_eq_true rfl) dX0_castTo_52 (fun q9 H ce9 hex => ?_)
  obtain ⟨hw, hx9⟩ := hex
  exact hend _ _ _ _ _ _ _ _ _ ⟨hw, hx9⟩ (by decide) (Nat.le_of_ble_eq_true rfl) (Nat.le_of_ble_eq_true rfl)
set_option maxHeartbeats 4000000 in
theorem m_X0_castTo_4_4 (G : zE) (l : Launch) (kA : Nat → Nat) (hG : zG G kA) (oq : Nat) (nm : Int32) (nd : Int32) (rest : va_W) : zMq G l yX0_castTo cX0_castTo 2 (some (.object "NutCaches$Squirrel")) 0 0 0 [.ref oq, .int (nI 4)] ((oq, zo 9 (sqF nm nd)) :: rest) (fun (r : Option Nat) (_ : Unit) => r = some oq) (fun (_ : Unit) => (oq, zo 9 (sqF nm nd)) :: rest) := by
  refine z_begQ (by first | exact Or.inl ⟨_, rfl⟩ | exact Or.inr ⟨_, rfl⟩) (by decide) (Nat.le_of_ble_eq_true rfl) (fun p e s m args below meth c ls Q hC hl hw hend => ?_)
  have hx := hC.hx
  have hb := hC.hb
  have hl : lv_has ls 2 [(0, .ref oq), (1, .int (nI 4))] := hl
  have hw : zS G ((oq, zo 9 (sqF nm nd)) :: rest) s s.heap [] := hw
  have hz := hG s hC.hZ.1
  refine lv_iload_n hx hb dX0_castTo_0 rfl (lv_at hl 1 rfl) ?_
  refine lv_tableIn (off := 55) (tgt := 56) hx hb dX0_castTo_1 (by decide) (by decide) (by decide) (by decide) ?_
  refine lv_aload_n hx hb dX0_castTo_56 rfl (lv_at hl 0 rfl) ?_
  refine z_castY hC q791 (hz.1 _ (cw_t q2203 rfl)) (z_recv hC hw 0 rfl rfl) dX0_castTo_57 ?_
  exact hend _ _ _ _ _ _ (some oq) () hw rfl (Nat.le_of_ble_eq_true rfl) (Nat.le_of_ble_eq_true rfl) dX0_castTo_60
set_option maxHeartbeats 4000000 in
theorem m_X0_castTo_4_5 (G : zE) (l : Launch) (kA : Nat → Nat) (hG : zG G kA) (oq : Nat) (nm : Int32) (nd : Int32) (rest : va_W) : zMq G l yX0_castTo cX0_castTo 2 (some (.object "NutCaches$Squirrel")) 0 0 0 [.ref oq, .int (nI 5)] ((oq, zo 9 (sqF nm nd)) :: rest) (fun (r : Option Nat) (_ : Unit) => r = some oq) (fun (_ : Unit) => (oq, zo 9 (sqF nm nd)) :: rest) := by
  refine z_begQ (by first | exact Or.inl ⟨_, rfl⟩ | exact Or.inr ⟨_, rfl⟩) (by decide) (Nat.le_of_ble_eq_true rfl) (fun p e s m args below meth c ls Q hC hl hw hend => ?_)
  have hx := hC.hx
  have hb := hC.hb
  have hl : lv_has ls 2 [(0, .ref oq), (1, .int (nI 5))] := hl
  have hw : zS G ((oq, zo 9 (sqF nm nd)) :: rest) s s.heap [] := hw
  have hz := hG s hC.hZ.1
  refine lv_iload_n hx hb dX0_castTo_0 rfl (lv_at hl 1 rfl) ?_
  refine lv_tableOut (tgt := 61) hx hb dX0_castTo_1 (by decide) (by decide) ?_
  refine lv_aload_n hx hb dX0_castTo_61 rfl (lv_at hl 0 rfl) ?_
  refine z_castE hC q800 (z_recv hC hw 0 rfl rfl) dX0_castTo_62 ?_
  exact hend _ _ _ _ _ _ (some oq) () hw rfl (Nat.le_of_ble_eq_true rfl) (Nat.le_of_ble_eq_true rfl) dX0_castTo_65
theorem zs_X0_193 : zSs RX0 193 yX0_castTo cX0_castTo 2 (some (.object "NutCaches$Squirrel")) 2 := ⟨lw_S q911 q912 q49 q913, ⟨by decide +kernel, by decide +kernel⟩, by decide +kernel⟩
set_option maxHeartbeats 4000000 in
theorem m_X0_as (G : zE) (l : Launch) (kA : Nat → Nat) (hG : zG G kA) (hY : zY G) (hlt : l.stackTraces = false) (co : Nat) (w : Nat → Nat) (zn : Nat → Nat) (A : AS) (ps : Nat) (mn : Nat) (dy : Nat) (bm : Int32) (sm : Int32) (lt : Int32) (gg : Int32) (pl : Nat → Nat) (nu : Nat → Nat) (ax : Nat → Nat) (le : Nat → Nat) (kn : Nat → Nat) (hA : AOk A) (hps : ps = aV A 0) (hmn : mn = aV A 1) (hdy : dy = aV A 2) (hR : sRel (aV A) pl nu ax le kn) (sf : Nat → Option Nat) (sq : Nat → Nat) (hsf : ∀ i, i < aV A 1 → sf i = some (sq i)) (x : Int32) (y : Int32) (rest : va_W) : zWi G l yX0_as cX0_as 4 (some .int) [(26, 39, 40, 197)] 262 3 890 [.ref co, .int x, .int y] ((co, zo 0 (cF w (nI mn) bm sm lt)) :: (w 2, zo 1 (stF zn co (nI ps) (nI dy) (gg))) :: (zn 0, zc G 1 (zI 9 (vI pl))) :: (zn 1, zc G 1 (zI 9 (vI nu))) :: (zn 2, zc G 1 (zI 5 (vI ax))) :: (zn 3, zc G 1 (zI 5 (vI le))) :: (zn 4, zc G 2 (zI 5 (vI kn))) :: (w 0, zc G 4 (zO 5 sf)) :: (sqW sq (aV A) ++ rest)) (fun (r : Int32) (_ : Unit) => r = F_as A x y) (fun (_ : Unit) => (co, zo 0 (cF w (nI mn) bm sm lt)) :: (w 2, zo 1 (stF zn co (nI ps) (nI dy) (gg))) :: (zn 0, zc G 1 (zI 9 (vI pl))) :: (zn 1, zc G 1 (zI 9 (vI nu))) :: (zn 2, zc G 1 (zI 5 (vI ax))) :: (zn 3, zc G 1 (zI 5 (vI le))) :: (zn 4, zc G 2 (zI 5 (vI kn))) :: (w 0, zc G 4 (zO 5 sf)) :: (sqW sq (aV A) ++ rest)) := by
  refine z_begIW (by decide) (Nat.le_of_ble_eq_true rfl) (fun p e s m args below meth c ls Q hC htb hl hw hend => ?_)
  have hx := hC.hx
  have hb := hC.hb
  have hl : lv_has ls 4 [(0, .ref co), (1, .int x), (2, .int y)] := hl
  have hw : zS G ((co, zo 0 (cF w (nI mn) bm sm lt)) :: (w 2, zo 1 (stF zn co (nI ps) (nI dy) (gg))) :: (zn 0, zc G 1 (zI 9 (vI pl))) :: (zn 1, zc G 1 (zI 9 (vI nu))) :: (zn 2, zc G 1 (zI 5 (vI ax))) :: (zn 3, zc G 1 (zI 5 (vI le))) :: (zn 4, zc G 2 (zI 5 (vI kn))) :: (w 0, zc G 4 (zO 5 sf)) :: (sqW sq (aV A) ++ rest)) s s.heap [] := hw
  have hz := hG s hC.hZ.1
  have hzy := hY s hC.hZ.1
  have hgv := hA.2.2.1.1
  have hH : Hw (aV A) := hgv.1
  have hpl := fun j => (hR.2.2.2 j).1
  have hnu := fun j => (hR.2.2.2 j).2.1
  have hax := fun j => (hR.2.2.2 j).2.2.1
  have hle := fun j => (hR.2.2.2 j).2.2.2.1
  have hkn := fun j => (hR.2.2.2 j).2.2.2.2
  have hp9 : ps ≤ 9 := by rw [hps]; exact hH.1
  have hm5 : mn ≤ 5 := by rw [hmn]; exact hH.2.1
  have hd999 : dy ≤ 999 := by rw [hdy]; exact hA.2.2.1.2.2
  refine lv_aload_n hx hb dX0_as_0 rfl (lv_at hl 0 rfl) ?_
  refine lv_iload_n hx hb dX0_as_1 rfl (lv_at hl 1 rfl) ?_
  refine z_ci (z_runV (As := [.int x]) (rest := []) hC zv_X0_170 (m_X0_isSquirrel G l co w mn bm sm lt x (by omega) (zrem [0] _)) hw (hw.perm (z_cut (is := [0]) (cells := [(co, zo 0 (cF w (nI mn) bm sm lt))]) rfl rfl)) 0 rfl rfl rfl rfl rfl (Nat.le_of_ble_eq_true rfl) hl.1 ⟨Nat.le_of_ble_eq_true rfl, Nat.le_of_ble_eq_true rfl⟩ ⟨(Nat.le_of_ble_eq_true rfl), (Nat.le_of_ble_eq_true rfl)⟩ dX0_as_2) hw (fun _ => z_keep (is := [0]) (cs := [(co, zo 0 (cF w (nI mn) bm sm lt))]) rfl rfl) (fun r u H locs hp hw => ?_)
  obtain rfl : r = bI (isP mn x) := hp
  refine zb_ne (tgt := 11) hx hb dX0_as_5 (by decide) (fun c_5 => ?_) (fun c_5 => ?_)
  · skip
    obtain ⟨i, hi, rfl⟩ := c_5
    have hl : lv_has ls 4 [(0, .ref co), (1, .int (nI i)), (2, .int y)] := hl
    have hia : i < aV A 1 := by omega
    have hi5 : i < 5 := by omega
    have hRi := hR.2.2.1 i hi5
    have hRa := hR.2.1 i hia
    obtain ⟨kd, hkd⟩ : ∃ x, x = (aV A) (21 + 5 * i) := ⟨_, rfl⟩
    obtain ⟨nd, hnd⟩ : ∃ x, x = (aV A) (21 + 5 * i + 2) := ⟨_, rfl⟩
    have hw : zS G ((sq i, zo (5 + kd) (sqF (nI i) (nI nd))) :: (co, zo 0 (cF w (nI mn) bm sm lt)) :: (w 2, zo 1 (stF zn co (nI ps) (nI dy) (gg))) :: (zn 0, zc G 1 (zI 9 (vI pl))) :: (zn 1, zc G 1 (zI 9 (vI nu))) :: (zn 2, zc G 1 (zI 5 (vI ax))) :: (zn 3, zc G 1 (zI 5 (vI le))) :: (zn 4, zc G 2 (zI 5 (vI kn))) :: (w 0, zc G 4 (zO 5 sf)) :: (sqX sq (aV A) i ++ rest)) s H locs := by rw [hkd, hnd]; exact hw.perm (sq_get (E := [(co, zo 0 (cF w (nI mn) bm sm lt)), (w 2, zo 1 (stF zn co (nI ps) (nI dy) (gg))), (zn 0, zc G 1 (zI 9 (vI pl))), (zn 1, zc G 1 (zI 9 (vI nu))), (zn 2, zc G 1 (zI 5 (vI ax))), (zn 3, zc G 1 (zI 5 (vI le))), (zn 4, zc G 2 (zI 5 (vI kn))), (w 0, zc G 4 (zO 5 sf))]) hia)
    have hkd5 : kd < 5 := by rw [hkd]; exact (hgv.2.2 i hia).1
    have hk4 : kd = 0 ∨ kd = 1 ∨ kd = 2 ∨ kd = 3 ∨ kd = 4 := by omega
    refine lv_iload_n hx hb dX0_as_11 rfl (lv_at hl 2 rfl) ?_
    refine lv_i2l (v := (iL y)) hx hb dX0_as_12 rfl ?_
    refine lv_lconst (v := lN 0) hx hb dX0_as_13 rfl ?_
    refine lv_ldc2 (v := (lN 5)) hx hb hC.hown (hC.hts _ q910) dX0_as_14 ?_
    refine z_ci (z_runS (As := [.long (iL y), .long (lN 0), .long (lN 5)]) (rest := []) hC zs_X0_126 (m_X0_in G l y 0 5 (by decide) (by decide) _) hw rfl rfl (Nat.le_of_ble_eq_true rfl) hl.1 ⟨Nat.le_of_ble_eq_true rfl, Nat.le_of_ble_eq_true rfl⟩ ⟨(Nat.le_of_ble_eq_true rfl), (Nat.le_of_ble_eq_true rfl)⟩ dX0_as_17) hw (fun _ => List.Perm.refl _) (fun r u H locs hp hw => ?_)
    obtain rfl : r = bI (inR y 0 5) := hp
    refine zb_ne (tgt := 26) hx hb dX0_as_20 (by decide) (fun c_20 => ?_) (fun c_20 => ?_)
    · skip
      obtain ⟨k, hk1, hk2, rfl⟩ := c_20; rcases (show k = 0 ∨ k = 1 ∨ k = 2 ∨ k = 3 ∨ k = 4 ∨ k = 5 by omega) with rfl | rfl | rfl | rfl | rfl | rfl
      · skip
        have hl : lv_has ls 4 [(0, .ref co), (1, .int (nI i)), (2, .int (nI 0))] := hl
        have hl : lv_has ls 4 [(0, .ref co), (1, .int (nI i)), (2, .int (nI 0))] := hl
        have hw : zS G ((sq i, zo (5 + kd) (sqF (nI i) (nI nd))) :: (co, zo 0 (cF w (nI mn) bm sm lt)) :: (w 2, zo 1 (stF zn co (nI ps) (nI dy) (gg))) :: (zn 0, zc G 1 (zI 9 (vI pl))) :: (zn 1, zc G 1 (zI 9 (vI nu))) :: (zn 2, zc G 1 (zI 5 (vI ax))) :: (zn 3, zc G 1 (zI 5 (vI le))) :: (zn 4, zc G 2 (zI 5 (vI kn))) :: (w 0, zc G 4 (zO 5 sf)) :: (sqX sq (aV A) i ++ rest)) s H locs := hw
        refine lv_aload_n hx hb dX0_as_26 rfl (lv_at hl 0 rfl) ?_
        refine z_get (v := .ref (w 0)) hC zf_X0_21_0 hw 1 rfl rfl dX0_as_27 ?_
        refine lv_iload_n hx hb dX0_as_30 rfl (lv_at hl 1 rfl) ?_
        refine z_aald (x := .ref (sq i)) (t := 4) hC hw 8 rfl (fun _ => rfl) (by omega) (by decide) (congrArg va_rf (hsf i hia)) dX0_as_31 ?_
        refine lv_iload_n hx hb dX0_as_32 rfl (lv_at hl 2 rfl) ?_
        rcases hk4 with rfl | rfl | rfl | rfl | rfl
        · skip
          have hl : lv_has ls 4 [(0, .ref co), (1, .int (nI i)), (2, .int (nI 0))] := hl
          have hw : zS G ((sq i, zo 5 (sqF (nI i) (nI nd))) :: (co, zo 0 (cF w (nI mn) bm sm lt)) :: (w 2, zo 1 (stF zn co (nI ps) (nI dy) (gg))) :: (zn 0, zc G 1 (zI 9 (vI pl))) :: (zn 1, zc G 1 (zI 9 (vI nu))) :: (zn 2, zc G 1 (zI 5 (vI ax))) :: (zn 3, zc G 1 (zI 5 (vI le))) :: (zn 4, zc G 2 (zI 5 (vI kn))) :: (w 0, zc G 4 (zO 5 sf)) :: (sqX sq (aV A) i ++ rest)) s H locs := hw
          refine z_cq (z_runS (As := [.ref (sq i), .int (nI 0)]) (rest := []) hC zs_X0_193 (m_X0_castTo_0_0 G l kA (by first | assumption | (omega)) (sq i) (nI i) (nI nd) (zrem [0] _)) (hw.perm (z_cut (is := [0]) (cells := [(sq i, zo 5 (sqF (nI i) (nI nd)))]) rfl rfl)) rfl rfl (Nat.le_of_ble_eq_true rfl) hl.1 ⟨Nat.le_of_ble_eq_true rfl, Nat.le_of_ble_eq_true rfl⟩ ⟨(Nat.le_of_ble_eq_true rfl), (Nat.le_of_ble_eq_true rfl)⟩ dX0_as_33) hw (fun _ => z_keep (is := [0]) (cs := [(sq i, zo 5 (sqF (nI i) (nI nd)))]) rfl rfl) (fun r u H locs hp hw => ?_)
          obtain rfl : r = some (sq i) := hp
          refine z_ci (z_runB (x := (⟨"NutCaches$Squirrel", "wants", "()I"⟩ : MethodName)) (owner := "NutCaches$Squirrel") (C := "NutCaches$Plain") (n := 0) (As := []) (rest := []) hC ⟨zn_X5_wants, q862, q867, ⟨by decide +kernel, by decide +kernel⟩, by decide +kernel⟩ (hC.hts _ q861) (hC.hts _ q863) (z_declO hC q862 q869) (m_X5_wants_0 G l kA (by first | assumption | (omega)) (sq i) nd (nI i) (zrem [0] _)) hw (hw.perm (z_cut (is := [0]) (cells := [(sq i, zo 5 (sqF (nI i) (nI nd)))]) rfl rfl)) 0 rfl rfl rfl rfl rfl (Nat.le_of_ble_eq_true rfl) hl.1 ⟨Nat.le_of_ble_eq_true rfl, Nat.le_of_ble_eq_true rfl⟩ ⟨(Nat.le_of_ble_eq_true rfl), (Nat.le_of_ble_eq_true rfl)⟩ dX0_as_36) hw (fun _ => z_keep (is := [0]) (cs := [(sq i, zo 5 (sqF (nI i) (nI nd)))]) rfl rfl) (fun r u H locs hp hw => ?_)
          obtain rfl : r = nI nd := hp
          have hw : zS G ((co, zo 0 (cF w (nI mn) bm sm lt)) :: (w 2, zo 1 (stF zn co (nI ps) (nI dy) (gg))) :: (zn 0, zc G 1 (zI 9 (vI pl))) :: (zn 1, zc G 1 (zI 9 (vI nu))) :: (zn 2, zc G 1 (zI 5 (vI ax))) :: (zn 3, zc G 1 (zI 5 (vI le))) :: (zn 4, zc G 2 (zI 5 (vI kn))) :: (w 0, zc G 4 (zO 5 sf)) :: (sqW sq (aV A) ++ rest)) s H locs := hw.perm (by rw [← show sqC sq (aV A) i = (sq i, zo 5 (sqF (nI i) (nI nd))) from by unfold sqC; rw [← hkd, ← hnd]]; exact (sq_get (E := [(co, zo 0 (cF w (nI mn) bm sm lt)), (w 2, zo 1 (stF zn co (nI ps) (nI dy) (gg))), (zn 0, zc G 1 (zI 9 (vI pl))), (zn 1, zc G 1 (zI 9 (vI nu))), (zn 2, zc G 1 (zI 5 (vI ax))), (zn 3, zc G 1 (zI 5 (vI le))), (zn 4, zc G 2 (zI 5 (vI kn))), (w 0, zc G 4 (zO 5 sf))]) hia).symm)
          exact hend _ _ _ _ _ _ _ () hw (by unfold F_as; rw [ifP_t ⟨i, hia, rfl⟩, ifP_t ⟨0, by decide, by decide, rfl⟩, cl_nI (show i < 2147483648 by omega), cl_nI (show (0 : Nat) < 2147483648 by decide), ← hkd, ifP_t (by unfold castN; decide), ← hnd]; first | rfl | exact congrArg nI (Nat.add_comm _ _)) (Nat.le_of_ble_eq_true rfl) (Nat.le_of_ble_eq_true rfl) dX0_as_39
        · skip
          have hl : lv_has ls 4 [(0, .ref co), (1, .int (nI i)), (2, .int (nI 0))] := hl
          have hw : zS G ((sq i, zo 6 (sqF (nI i) (nI nd))) :: (co, zo 0 (cF w (nI mn) bm sm lt)) :: (w 2, zo 1 (stF zn co (nI ps) (nI dy) (gg))) :: (zn 0, zc G 1 (zI 9 (vI pl))) :: (zn 1, zc G 1 (zI 9 (vI nu))) :: (zn 2, zc G 1 (zI 5 (vI ax))) :: (zn 3, zc G 1 (zI 5 (vI le))) :: (zn 4, zc G 2 (zI 5 (vI kn))) :: (w 0, zc G 4 (zO 5 sf)) :: (sqX sq (aV A) i ++ rest)) s H locs := hw
          refine z_cq (z_runS (As := [.ref (sq i), .int (nI 0)]) (rest := []) hC zs_X0_193 (m_X0_castTo_1_0 G l kA (by first | assumption | (omega)) (sq i) (nI i) (nI nd) (zrem [0] _)) (hw.perm (z_cut (is := [0]) (cells := [(sq i, zo 6 (sqF (nI i) (nI nd)))]) rfl rfl)) rfl rfl (Nat.le_of_ble_eq_true rfl) hl.1 ⟨Nat.le_of_ble_eq_true rfl, Nat.le_of_ble_eq_true rfl⟩ ⟨(Nat.le_of_ble_eq_true rfl), (Nat.le_of_ble_eq_true rfl)⟩ dX0_as_33) hw (fun _ => z_keep (is := [0]) (cs := [(sq i, zo 6 (sqF (nI i) (nI nd)))]) rfl rfl) (fun r u H locs hp hw => ?_)
          obtain rfl : r = some (sq i) := hp
          refine z_ci (z_runB (x := (⟨"NutCaches$Squirrel", "wants", "()I"⟩ : MethodName)) (owner := "NutCaches$Squirrel") (C := "NutCaches$Greedy") (n := 0) (As := []) (rest := []) hC ⟨zn_X5_wants, q862, q865, ⟨by decide +kernel, by decide +kernel⟩, by decide +kernel⟩ (hC.hts _ q861) (hC.hts _ q863) (z_declO hC q862 q869) (m_X5_wants_1 G l kA (by first | assumption | (omega)) (sq i) nd (nI i) (zrem [0] _)) hw (hw.perm (z_cut (is := [0]) (cells := [(sq i, zo 6 (sqF (nI i) (nI nd)))]) rfl rfl)) 0 rfl rfl rfl rfl rfl (Nat.le_of_ble_eq_true rfl) hl.1 ⟨Nat.le_of_ble_eq_true rfl, Nat.le_of_ble_eq_true rfl⟩ ⟨(Nat.le_of_ble_eq_true rfl), (Nat.le_of_ble_eq_true rfl)⟩ dX0_as_36) hw (fun _ => z_keep (is := [0]) (cs := [(sq i, zo 6 (sqF (nI i) (nI nd)))]) rfl rfl) (fun r u H locs hp hw => ?_)
          obtain rfl : r = nI (2 * nd) := hp
          have hw : zS G ((co, zo 0 (cF w (nI mn) bm sm lt)) :: (w 2, zo 1 (stF zn co (nI ps) (nI dy) (gg))) :: (zn 0, zc G 1 (zI 9 (vI pl))) :: (zn 1, zc G 1 (zI 9 (vI nu))) :: (zn 2, zc G 1 (zI 5 (vI ax))) :: (zn 3, zc G 1 (zI 5 (vI le))) :: (zn 4, zc G 2 (zI 5 (vI kn))) :: (w 0, zc G 4 (zO 5 sf)) :: (sqW sq (aV A) ++ rest)) s H locs := hw.perm (by rw [← show sqC sq (aV A) i = (sq i, zo 6 (sqF (nI i) (nI nd))) from by unfold sqC; rw [← hkd, ← hnd]]; exact (sq_get (E := [(co, zo 0 (cF w (nI mn) bm sm lt)), (w 2, zo 1 (stF zn co (nI ps) (nI dy) (gg))), (zn 0, zc G 1 (zI 9 (vI pl))), (zn 1, zc G 1 (zI 9 (vI nu))), (zn 2, zc G 1 (zI 5 (vI ax))), (zn 3, zc G 1 (zI 5 (vI le))), (zn 4, zc G 2 (zI 5 (vI kn))), (w 0, zc G 4 (zO 5 sf))]) hia).symm)
          exact hend _ _ _ _ _ _ _ () hw (by unfold F_as; rw [ifP_t ⟨i, hia, rfl⟩, ifP_t ⟨0, by decide, by decide, rfl⟩, cl_nI (show i < 2147483648 by omega), cl_nI (show (0 : Nat) < 2147483648 by decide), ← hkd, ifP_t (by unfold castN; decide), ← hnd]; first | rfl | exact congrArg nI (Nat.add_comm _ _)) (Nat.le_of_ble_eq_true rfl) (Nat.le_of_ble_eq_true rfl) dX0_as_39
        · skip
          have hl : lv_has ls 4 [(0, .ref co), (1, .int (nI i)), (2, .int (nI 0))] := hl
          have hw : zS G ((sq i, zo 7 (sqF (nI i) (nI nd))) :: (co, zo 0 (cF w (nI mn) bm sm lt)) :: (w 2, zo 1 (stF zn co (nI ps) (nI dy) (gg))) :: (zn 0, zc G 1 (zI 9 (vI pl))) :: (zn 1, zc G 1 (zI 9 (vI nu))) :: (zn 2, zc G 1 (zI 5 (vI ax))) :: (zn 3, zc G 1 (zI 5 (vI le))) :: (zn 4, zc G 2 (zI 5 (vI kn))) :: (w 0, zc G 4 (zO 5 sf)) :: (sqX sq (aV A) i ++ rest)) s H locs := hw
          refine z_cq (z_runS (As := [.ref (sq i), .int (nI 0)]) (rest := []) hC zs_X0_193 (m_X0_castTo_2_0 G l kA (by first | assumption | (omega)) (sq i) (nI i) (nI nd) (zrem [0] _)) (hw.perm (z_cut (is := [0]) (cells := [(sq i, zo 7 (sqF (nI i) (nI nd)))]) rfl rfl)) rfl rfl (Nat.le_of_ble_eq_true rfl) hl.1 ⟨Nat.le_of_ble_eq_true rfl, Nat.le_of_ble_eq_true rfl⟩ ⟨(Nat.le_of_ble_eq_true rfl), (Nat.le_of_ble_eq_true rfl)⟩ dX0_as_33) hw (fun _ => z_keep (is := [0]) (cs := [(sq i, zo 7 (sqF (nI i) (nI nd)))]) rfl rfl) (fun r u H locs hp hw => ?_)
          obtain rfl : r = some (sq i) := hp
          refine z_ci (z_runB (x := (⟨"NutCaches$Squirrel", "wants", "()I"⟩ : MethodName)) (owner := "NutCaches$Squirrel") (C := "NutCaches$Neat") (n := 0) (As := []) (rest := []) hC ⟨zn_X5_wants, q862, q866, ⟨by decide +kernel, by decide +kernel⟩, by decide +kernel⟩ (hC.hts _ q861) (hC.hts _ q863) (z_declO hC q862 q869) (m_X5_wants_2 G l kA (by first | assumption | (omega)) (sq i) nd (nI i) (zrem [0] _)) hw (hw.perm (z_cut (is := [0]) (cells := [(sq i, zo 7 (sqF (nI i) (nI nd)))]) rfl rfl)) 0 rfl rfl rfl rfl rfl (Nat.le_of_ble_eq_true rfl) hl.1 ⟨Nat.le_of_ble_eq_true rfl, Nat.le_of_ble_eq_true rfl⟩ ⟨(Nat.le_of_ble_eq_true rfl), (Nat.le_of_ble_eq_true rfl)⟩ dX0_as_36) hw (fun _ => z_keep (is := [0]) (cs := [(sq i, zo 7 (sqF (nI i) (nI nd)))]) rfl rfl) (fun r u H locs hp hw => ?_)
          obtain rfl : r = nI nd := hp
          have hw : zS G ((co, zo 0 (cF w (nI mn) bm sm lt)) :: (w 2, zo 1 (stF zn co (nI ps) (nI dy) (gg))) :: (zn 0, zc G 1 (zI 9 (vI pl))) :: (zn 1, zc G 1 (zI 9 (vI nu))) :: (zn 2, zc G 1 (zI 5 (vI ax))) :: (zn 3, zc G 1 (zI 5 (vI le))) :: (zn 4, zc G 2 (zI 5 (vI kn))) :: (w 0, zc G 4 (zO 5 sf)) :: (sqW sq (aV A) ++ rest)) s H locs := hw.perm (by rw [← show sqC sq (aV A) i = (sq i, zo 7 (sqF (nI i) (nI nd))) from by unfold sqC; rw [← hkd, ← hnd]]; exact (sq_get (E := [(co, zo 0 (cF w (nI mn) bm sm lt)), (w 2, zo 1 (stF zn co (nI ps) (nI dy) (gg))), (zn 0, zc G 1 (zI 9 (vI pl))), (zn 1, zc G 1 (zI 9 (vI nu))), (zn 2, zc G 1 (zI 5 (vI ax))), (zn 3, zc G 1 (zI 5 (vI le))), (zn 4, zc G 2 (zI 5 (vI kn))), (w 0, zc G 4 (zO 5 sf))]) hia).symm)
          exact hend _ _ _ _ _ _ _ () hw (by unfold F_as; rw [ifP_t ⟨i, hia, rfl⟩, ifP_t ⟨0, by decide, by decide, rfl⟩, cl_nI (show i < 2147483648 by omega), cl_nI (show (0 : Nat) < 2147483648 by decide), ← hkd, ifP_t (by unfold castN; decide), ← hnd]; first | rfl | exact congrArg nI (Nat.add_comm _ _)) (Nat.le_of_ble_eq_true rfl) (Nat.le_of_ble_eq_true rfl) dX0_as_39
        · skip
          have hl : lv_has ls 4 [(0, .ref co), (1, .int (nI i)), (2, .int (nI 0))] := hl
          have hw : zS G ((sq i, zo 8 (sqF (nI i) (nI nd))) :: (co, zo 0 (cF w (nI mn) bm sm lt)) :: (w 2, zo 1 (stF zn co (nI ps) (nI dy) (gg))) :: (zn 0, zc G 1 (zI 9 (vI pl))) :: (zn 1, zc G 1 (zI 9 (vI nu))) :: (zn 2, zc G 1 (zI 5 (vI ax))) :: (zn 3, zc G 1 (zI 5 (vI le))) :: (zn 4, zc G 2 (zI 5 (vI kn))) :: (w 0, zc G 4 (zO 5 sf)) :: (sqX sq (aV A) i ++ rest)) s H locs := hw
          refine z_cq (z_runS (As := [.ref (sq i), .int (nI 0)]) (rest := []) hC zs_X0_193 (m_X0_castTo_3_0 G l kA (by first | assumption | (omega)) (sq i) (nI i) (nI nd) (zrem [0] _)) (hw.perm (z_cut (is := [0]) (cells := [(sq i, zo 8 (sqF (nI i) (nI nd)))]) rfl rfl)) rfl rfl (Nat.le_of_ble_eq_true rfl) hl.1 ⟨Nat.le_of_ble_eq_true rfl, Nat.le_of_ble_eq_true rfl⟩ ⟨(Nat.le_of_ble_eq_true rfl), (Nat.le_of_ble_eq_true rfl)⟩ dX0_as_33) hw (fun _ => z_keep (is := [0]) (cs := [(sq i, zo 8 (sqF (nI i) (nI nd)))]) rfl rfl) (fun r u H locs hp hw => ?_)
          obtain rfl : r = some (sq i) := hp
          refine z_ci (z_runB (x := (⟨"NutCaches$Squirrel", "wants", "()I"⟩ : MethodName)) (owner := "NutCaches$Squirrel") (C := "NutCaches$Dozy") (n := 0) (As := []) (rest := []) hC ⟨zn_X5_wants, q862, q864, ⟨by decide +kernel, by decide +kernel⟩, by decide +kernel⟩ (hC.hts _ q861) (hC.hts _ q863) (z_declO hC q862 q869) (m_X5_wants_3 G l kA (by first | assumption | (omega)) (sq i) nd (nI i) (zrem [0] _)) hw (hw.perm (z_cut (is := [0]) (cells := [(sq i, zo 8 (sqF (nI i) (nI nd)))]) rfl rfl)) 0 rfl rfl rfl rfl rfl (Nat.le_of_ble_eq_true rfl) hl.1 ⟨Nat.le_of_ble_eq_true rfl, Nat.le_of_ble_eq_true rfl⟩ ⟨(Nat.le_of_ble_eq_true rfl), (Nat.le_of_ble_eq_true rfl)⟩ dX0_as_36) hw (fun _ => z_keep (is := [0]) (cs := [(sq i, zo 8 (sqF (nI i) (nI nd)))]) rfl rfl) (fun r u H locs hp hw => ?_)
          obtain rfl : r = nI (1 + nd) := hp
          have hw : zS G ((co, zo 0 (cF w (nI mn) bm sm lt)) :: (w 2, zo 1 (stF zn co (nI ps) (nI dy) (gg))) :: (zn 0, zc G 1 (zI 9 (vI pl))) :: (zn 1, zc G 1 (zI 9 (vI nu))) :: (zn 2, zc G 1 (zI 5 (vI ax))) :: (zn 3, zc G 1 (zI 5 (vI le))) :: (zn 4, zc G 2 (zI 5 (vI kn))) :: (w 0, zc G 4 (zO 5 sf)) :: (sqW sq (aV A) ++ rest)) s H locs := hw.perm (by rw [← show sqC sq (aV A) i = (sq i, zo 8 (sqF (nI i) (nI nd))) from by unfold sqC; rw [← hkd, ← hnd]]; exact (sq_get (E := [(co, zo 0 (cF w (nI mn) bm sm lt)), (w 2, zo 1 (stF zn co (nI ps) (nI dy) (gg))), (zn 0, zc G 1 (zI 9 (vI pl))), (zn 1, zc G 1 (zI 9 (vI nu))), (zn 2, zc G 1 (zI 5 (vI ax))), (zn 3, zc G 1 (zI 5 (vI le))), (zn 4, zc G 2 (zI 5 (vI kn))), (w 0, zc G 4 (zO 5 sf))]) hia).symm)
          exact hend _ _ _ _ _ _ _ () hw (by unfold F_as; rw [ifP_t ⟨i, hia, rfl⟩, ifP_t ⟨0, by decide, by decide, rfl⟩, cl_nI (show i < 2147483648 by omega), cl_nI (show (0 : Nat) < 2147483648 by decide), ← hkd, ifP_t (by unfold castN; decide), ← hnd]; first | rfl | exact congrArg nI (Nat.add_comm _ _)) (Nat.le_of_ble_eq_true rfl) (Nat.le_of_ble_eq_true rfl) dX0_as_39
        · skip
          have hl : lv_has ls 4 [(0, .ref co), (1, .int (nI i)), (2, .int (nI 0))] := hl
          have hw : zS G ((sq i, zo 9 (sqF (nI i) (nI nd))) :: (co, zo 0 (cF w (nI mn) bm sm lt)) :: (w 2, zo 1 (stF zn co (nI ps) (nI dy) (gg))) :: (zn 0, zc G 1 (zI 9 (vI pl))) :: (zn 1, zc G 1 (zI 9 (vI nu))) :: (zn 2, zc G 1 (zI 5 (vI ax))) :: (zn 3, zc G 1 (zI 5 (vI le))) :: (zn 4, zc G 2 (zI 5 (vI kn))) :: (w 0, zc G 4 (zO 5 sf)) :: (sqX sq (aV A) i ++ rest)) s H locs := hw
          refine z_cq (z_runS (As := [.ref (sq i), .int (nI 0)]) (rest := []) hC zs_X0_193 (m_X0_castTo_4_0 G l kA (by first | assumption | (omega)) (sq i) (nI i) (nI nd) (zrem [0] _)) (hw.perm (z_cut (is := [0]) (cells := [(sq i, zo 9 (sqF (nI i) (nI nd)))]) rfl rfl)) rfl rfl (Nat.le_of_ble_eq_true rfl) hl.1 ⟨Nat.le_of_ble_eq_true rfl, Nat.le_of_ble_eq_true rfl⟩ ⟨(Nat.le_of_ble_eq_true rfl), (Nat.le_of_ble_eq_true rfl)⟩ dX0_as_33) hw (fun _ => z_keep (is := [0]) (cs := [(sq i, zo 9 (sqF (nI i) (nI nd)))]) rfl rfl) (fun r u H locs hp hw => ?_)
          obtain rfl : r = some (sq i) := hp
          refine z_ci (z_runB (x := (⟨"NutCaches$Squirrel", "wants", "()I"⟩ : MethodName)) (owner := "NutCaches$Squirrel") (C := "NutCaches$Spy") (n := 0) (As := []) (rest := []) hC ⟨zn_X5_wants, q862, q868, ⟨by decide +kernel, by decide +kernel⟩, by decide +kernel⟩ (hC.hts _ q861) (hC.hts _ q863) (z_declO hC q862 q869) (m_X5_wants_4 G l kA (by first | assumption | (omega)) (sq i) nd (nI i) (zrem [0] _)) hw (hw.perm (z_cut (is := [0]) (cells := [(sq i, zo 9 (sqF (nI i) (nI nd)))]) rfl rfl)) 0 rfl rfl rfl rfl rfl (Nat.le_of_ble_eq_true rfl) hl.1 ⟨Nat.le_of_ble_eq_true rfl, Nat.le_of_ble_eq_true rfl⟩ ⟨(Nat.le_of_ble_eq_true rfl), (Nat.le_of_ble_eq_true rfl)⟩ dX0_as_36) hw (fun _ => z_keep (is := [0]) (cs := [(sq i, zo 9 (sqF (nI i) (nI nd)))]) rfl rfl) (fun r u H locs hp hw => ?_)
          obtain rfl : r = nI (1 + nd) := hp
          have hw : zS G ((co, zo 0 (cF w (nI mn) bm sm lt)) :: (w 2, zo 1 (stF zn co (nI ps) (nI dy) (gg))) :: (zn 0, zc G 1 (zI 9 (vI pl))) :: (zn 1, zc G 1 (zI 9 (vI nu))) :: (zn 2, zc G 1 (zI 5 (vI ax))) :: (zn 3, zc G 1 (zI 5 (vI le))) :: (zn 4, zc G 2 (zI 5 (vI kn))) :: (w 0, zc G 4 (zO 5 sf)) :: (sqW sq (aV A) ++ rest)) s H locs := hw.perm (by rw [← show sqC sq (aV A) i = (sq i, zo 9 (sqF (nI i) (nI nd))) from by unfold sqC; rw [← hkd, ← hnd]]; exact (sq_get (E := [(co, zo 0 (cF w (nI mn) bm sm lt)), (w 2, zo 1 (stF zn co (nI ps) (nI dy) (gg))), (zn 0, zc G 1 (zI 9 (vI pl))), (zn 1, zc G 1 (zI 9 (vI nu))), (zn 2, zc G 1 (zI 5 (vI ax))), (zn 3, zc G 1 (zI 5 (vI le))), (zn 4, zc G 2 (zI 5 (vI kn))), (w 0, zc G 4 (zO 5 sf))]) hia).symm)
          exact hend _ _ _ _ _ _ _ () hw (by unfold F_as; rw [ifP_t ⟨i, hia, rfl⟩, ifP_t ⟨0, by decide, by decide, rfl⟩, cl_nI (show i < 2147483648 by omega), cl_nI (show (0 : Nat) < 2147483648 by decide), ← hkd, ifP_t (by unfold castN; decide), ← hnd]; first | rfl | exact congrArg nI (Nat.add_comm _ _)) (Nat.le_of_ble_eq_true rfl) (Nat.le_of_ble_eq_true rfl) dX0_as_39
      · skip
        have hl : lv_has ls 4 [(0, .ref co), (1, .int (nI i)), (2, .int (nI 1))] := hl
        have hl : lv_has ls 4 [(0, .ref co), (1, .int (nI i)), (2, .int (nI 1))] := hl
        have hw : zS G ((sq i, zo (5 + kd) (sqF (nI i) (nI nd))) :: (co, zo 0 (cF w (nI mn) bm sm lt)) :: (w 2, zo 1 (stF zn co (nI ps) (nI dy) (gg))) :: (zn 0, zc G 1 (zI 9 (vI pl))) :: (zn 1, zc G 1 (zI 9 (vI nu))) :: (zn 2, zc G 1 (zI 5 (vI ax))) :: (zn 3, zc G 1 (zI 5 (vI le))) :: (zn 4, zc G 2 (zI 5 (vI kn))) :: (w 0, zc G 4 (zO 5 sf)) :: (sqX sq (aV A) i ++ rest)) s H locs := hw
        refine lv_aload_n hx hb dX0_as_26 rfl (lv_at hl 0 rfl) ?_
        refine z_get (v := .ref (w 0)) hC zf_X0_21_0 hw 1 rfl rfl dX0_as_27 ?_
        refine lv_iload_n hx hb dX0_as_30 rfl (lv_at hl 1 rfl) ?_
        refine z_aald (x := .ref (sq i)) (t := 4) hC hw 8 rfl (fun _ => rfl) (by omega) (by decide) (congrArg va_rf (hsf i hia)) dX0_as_31 ?_
        refine lv_iload_n hx hb dX0_as_32 rfl (lv_at hl 2 rfl) ?_
        rcases hk4 with rfl | rfl | rfl | rfl | rfl
        · skip
          have hl : lv_has ls 4 [(0, .ref co), (1, .int (nI i)), (2, .int (nI 1))] := hl
          have hw : zS G ((sq i, zo 5 (sqF (nI i) (nI nd))) :: (co, zo 0 (cF w (nI mn) bm sm lt)) :: (w 2, zo 1 (stF zn co (nI ps) (nI dy) (gg))) :: (zn 0, zc G 1 (zI 9 (vI pl))) :: (zn 1, zc G 1 (zI 9 (vI nu))) :: (zn 2, zc G 1 (zI 5 (vI ax))) :: (zn 3, zc G 1 (zI 5 (vI le))) :: (zn 4, zc G 2 (zI 5 (vI kn))) :: (w 0, zc G 4 (zO 5 sf)) :: (sqX sq (aV A) i ++ rest)) s H locs := hw
          refine z_cq (z_runS (As := [.ref (sq i), .int (nI 1)]) (rest := []) hC zs_X0_193 (m_X0_castTo_0_1 G l kA (by first | assumption | (omega)) (sq i) (nI i) (nI nd) (zrem [0] _)) (hw.perm (z_cut (is := [0]) (cells := [(sq i, zo 5 (sqF (nI i) (nI nd)))]) rfl rfl)) rfl rfl (Nat.le_of_ble_eq_true rfl) hl.1 ⟨Nat.le_of_ble_eq_true rfl, Nat.le_of_ble_eq_true rfl⟩ ⟨(Nat.le_of_ble_eq_true rfl), (Nat.le_of_ble_eq_true rfl)⟩ dX0_as_33) hw (fun _ => z_keep (is := [0]) (cs := [(sq i, zo 5 (sqF (nI i) (nI nd)))]) rfl rfl) (fun r u H locs hp hw => ?_)
          obtain rfl : r = some (sq i) := hp
          refine z_ci (z_runB (x := (⟨"NutCaches$Squirrel", "wants", "()I"⟩ : MethodName)) (owner := "NutCaches$Squirrel") (C := "NutCaches$Plain") (n := 0) (As := []) (rest := []) hC ⟨zn_X5_wants, q862, q867, ⟨by decide +kernel, by decide +kernel⟩, by decide +kernel⟩ (hC.hts _ q861) (hC.hts _ q863) (z_declO hC q862 q869) (m_X5_wants_0 G l kA (by first | assumption | (omega)) (sq i) nd (nI i) (zrem [0] _)) hw (hw.perm (z_cut (is := [0]) (cells := [(sq i, zo 5 (sqF (nI i) (nI nd)))]) rfl rfl)) 0 rfl rfl rfl rfl rfl (Nat.le_of_ble_eq_true rfl) hl.1 ⟨Nat.le_of_ble_eq_true rfl, Nat.le_of_ble_eq_true rfl⟩ ⟨(Nat.le_of_ble_eq_true rfl), (Nat.le_of_ble_eq_true rfl)⟩ dX0_as_36) hw (fun _ => z_keep (is := [0]) (cs := [(sq i, zo 5 (sqF (nI i) (nI nd)))]) rfl rfl) (fun r u H locs hp hw => ?_)
          obtain rfl : r = nI nd := hp
          have hw : zS G ((co, zo 0 (cF w (nI mn) bm sm lt)) :: (w 2, zo 1 (stF zn co (nI ps) (nI dy) (gg))) :: (zn 0, zc G 1 (zI 9 (vI pl))) :: (zn 1, zc G 1 (zI 9 (vI nu))) :: (zn 2, zc G 1 (zI 5 (vI ax))) :: (zn 3, zc G 1 (zI 5 (vI le))) :: (zn 4, zc G 2 (zI 5 (vI kn))) :: (w 0, zc G 4 (zO 5 sf)) :: (sqW sq (aV A) ++ rest)) s H locs := hw.perm (by rw [← show sqC sq (aV A) i = (sq i, zo 5 (sqF (nI i) (nI nd))) from by unfold sqC; rw [← hkd, ← hnd]]; exact (sq_get (E := [(co, zo 0 (cF w (nI mn) bm sm lt)), (w 2, zo 1 (stF zn co (nI ps) (nI dy) (gg))), (zn 0, zc G 1 (zI 9 (vI pl))), (zn 1, zc G 1 (zI 9 (vI nu))), (zn 2, zc G 1 (zI 5 (vI ax))), (zn 3, zc G 1 (zI 5 (vI le))), (zn 4, zc G 2 (zI 5 (vI kn))), (w 0, zc G 4 (zO 5 sf))]) hia).symm)
          exact hend _ _ _ _ _ _ _ () hw (by unfold F_as; rw [ifP_t ⟨i, hia, rfl⟩, ifP_t ⟨1, by decide, by decide, rfl⟩, cl_nI (show i < 2147483648 by omega), cl_nI (show (1 : Nat) < 2147483648 by decide), ← hkd, ifP_t (by unfold castN; decide), ← hnd]; first | rfl | exact congrArg nI (Nat.add_comm _ _)) (Nat.le_of_ble_eq_true rfl) (Nat.le_of_ble_eq_true rfl) dX0_as_39
        · skip
          have hl : lv_has ls 4 [(0, .ref co), (1, .int (nI i)), (2, .int (nI 1))] := hl
          have hw : zS G ((sq i, zo 6 (sqF (nI i) (nI nd))) :: (co, zo 0 (cF w (nI mn) bm sm lt)) :: (w 2, zo 1 (stF zn co (nI ps) (nI dy) (gg))) :: (zn 0, zc G 1 (zI 9 (vI pl))) :: (zn 1, zc G 1 (zI 9 (vI nu))) :: (zn 2, zc G 1 (zI 5 (vI ax))) :: (zn 3, zc G 1 (zI 5 (vI le))) :: (zn 4, zc G 2 (zI 5 (vI kn))) :: (w 0, zc G 4 (zO 5 sf)) :: (sqX sq (aV A) i ++ rest)) s H locs := hw
          refine z_cq (z_runS (As := [.ref (sq i), .int (nI 1)]) (rest := []) hC zs_X0_193 (m_X0_castTo_1_1 G l kA (by first | assumption | (omega)) (sq i) (nI i) (nI nd) (zrem [0] _)) (hw.perm (z_cut (is := [0]) (cells := [(sq i, zo 6 (sqF (nI i) (nI nd)))]) rfl rfl)) rfl rfl (Nat.le_of_ble_eq_true rfl) hl.1 ⟨Nat.le_of_ble_eq_true rfl, Nat.le_of_ble_eq_true rfl⟩ ⟨(Nat.le_of_ble_eq_true rfl), (Nat.le_of_ble_eq_true rfl)⟩ dX0_as_33) hw (fun _ => z_keep (is := [0]) (cs := [(sq i, zo 6 (sqF (nI i) (nI nd)))]) rfl rfl) (fun r u H locs hp hw => ?_)
          obtain rfl : r = some (sq i) := hp
          refine z_ci (z_runB (x := (⟨"NutCaches$Squirrel", "wants", "()I"⟩ : MethodName)) (owner := "NutCaches$Squirrel") (C := "NutCaches$Greedy") (n := 0) (As := []) (rest := []) hC ⟨zn_X5_wants, q862, q865, ⟨by decide +kernel, by decide +kernel⟩, by decide +kernel⟩ (hC.hts _ q861) (hC.hts _ q863) (z_declO hC q862 q869) (m_X5_wants_1 G l kA (by first | assumption | (omega)) (sq i) nd (nI i) (zrem [0] _)) hw (hw.perm (z_cut (is := [0]) (cells := [(sq i, zo 6 (sqF (nI i) (nI nd)))]) rfl rfl)) 0 rfl rfl rfl rfl rfl (Nat.le_of_ble_eq_true rfl) hl.1 ⟨Nat.le_of_ble_eq_true rfl, Nat.le_of_ble_eq_true rfl⟩ ⟨(Nat.le_of_ble_eq_true rfl), (Nat.le_of_ble_eq_true rfl)⟩ dX0_as_36) hw (fun _ => z_keep (is := [0]) (cs := [(sq i, zo 6 (sqF (nI i) (nI nd)))]) rfl rfl) (fun r u H locs hp hw => ?_)
          obtain rfl : r = nI (2 * nd) := hp
          have hw : zS G ((co, zo 0 (cF w (nI mn) bm sm lt)) :: (w 2, zo 1 (stF zn co (nI ps) (nI dy) (gg))) :: (zn 0, zc G 1 (zI 9 (vI pl))) :: (zn 1, zc G 1 (zI 9 (vI nu))) :: (zn 2, zc G 1 (zI 5 (vI ax))) :: (zn 3, zc G 1 (zI 5 (vI le))) :: (zn 4, zc G 2 (zI 5 (vI kn))) :: (w 0, zc G 4 (zO 5 sf)) :: (sqW sq (aV A) ++ rest)) s H locs := hw.perm (by rw [← show sqC sq (aV A) i = (sq i, zo 6 (sqF (nI i) (nI nd))) from by unfold sqC; rw [← hkd, ← hnd]]; exact (sq_get (E := [(co, zo 0 (cF w (nI mn) bm sm lt)), (w 2, zo 1 (stF zn co (nI ps) (nI dy) (gg))), (zn 0, zc G 1 (zI 9 (vI pl))), (zn 1, zc G 1 (zI 9 (vI nu))), (zn 2, zc G 1 (zI 5 (vI ax))), (zn 3, zc G 1 (zI 5 (vI le))), (zn 4, zc G 2 (zI 5 (vI kn))), (w 0, zc G 4 (zO 5 sf))]) hia).symm)
          exact hend _ _ _ _ _ _ _ () hw (by unfold F_as; rw [ifP_t ⟨i, hia, rfl⟩, ifP_t ⟨1, by decide, by decide, rfl⟩, cl_nI (show i < 2147483648 by omega), cl_nI (show (1 : Nat) < 2147483648 by decide), ← hkd, ifP_t (by unfold castN; decide), ← hnd]; first | rfl | exact congrArg nI (Nat.add_comm _ _)) (Nat.le_of_ble_eq_true rfl) (Nat.le_of_ble_eq_true rfl) dX0_as_39
        · skip
          have hl : lv_has ls 4 [(0, .ref co), (1, .int (nI i)), (2, .int (nI 1))] := hl
          have hw : zS G ((sq i, zo 7 (sqF (nI i) (nI nd))) :: (co, zo 0 (cF w (nI mn) bm sm lt)) :: (w 2, zo 1 (stF zn co (nI ps) (nI dy) (gg))) :: (zn 0, zc G 1 (zI 9 (vI pl))) :: (zn 1, zc G 1 (zI 9 (vI nu))) :: (zn 2, zc G 1 (zI 5 (vI ax))) :: (zn 3, zc G 1 (zI 5 (vI le))) :: (zn 4, zc G 2 (zI 5 (vI kn))) :: (w 0, zc G 4 (zO 5 sf)) :: (sqX sq (aV A) i ++ rest)) s H locs := hw
          refine z_cq (z_runS (As := [.ref (sq i), .int (nI 1)]) (rest := []) hC zs_X0_193 (m_X0_castTo_2_1 G l kA (by first | assumption | (omega)) (sq i) (nI i) (nI nd) (zrem [0] _)) (hw.perm (z_cut (is := [0]) (cells := [(sq i, zo 7 (sqF (nI i) (nI nd)))]) rfl rfl)) rfl rfl (Nat.le_of_ble_eq_true rfl) hl.1 ⟨Nat.le_of_ble_eq_true rfl, Nat.le_of_ble_eq_true rfl⟩ ⟨(Nat.le_of_ble_eq_true rfl), (Nat.le_of_ble_eq_true rfl)⟩ dX0_as_33) hw (fun _ => z_keep (is := [0]) (cs := [(sq i, zo 7 (sqF (nI i) (nI nd)))]) rfl rfl) (fun r u H locs hp hw => ?_)
          obtain rfl : r = some (sq i) := hp
          refine z_ci (z_runB (x := (⟨"NutCaches$Squirrel", "wants", "()I"⟩ : MethodName)) (owner := "NutCaches$Squirrel") (C := "NutCaches$Neat") (n := 0) (As := []) (rest := []) hC ⟨zn_X5_wants, q862, q866, ⟨by decide +kernel, by decide +kernel⟩, by decide +kernel⟩ (hC.hts _ q861) (hC.hts _ q863) (z_declO hC q862 q869) (m_X5_wants_2 G l kA (by first | assumption | (omega)) (sq i) nd (nI i) (zrem [0] _)) hw (hw.perm (z_cut (is := [0]) (cells := [(sq i, zo 7 (sqF (nI i) (nI nd)))]) rfl rfl)) 0 rfl rfl rfl rfl rfl (Nat.le_of_ble_eq_true rfl) hl.1 ⟨Nat.le_of_ble_eq_true rfl, Nat.le_of_ble_eq_true rfl⟩ ⟨(Nat.le_of_ble_eq_true rfl), (Nat.le_of_ble_eq_true rfl)⟩ dX0_as_36) hw (fun _ => z_keep (is := [0]) (cs := [(sq i, zo 7 (sqF (nI i) (nI nd)))]) rfl rfl) (fun r u H locs hp hw => ?_)
          obtain rfl : r = nI nd := hp
          have hw : zS G ((co, zo 0 (cF w (nI mn) bm sm lt)) :: (w 2, zo 1 (stF zn co (nI ps) (nI dy) (gg))) :: (zn 0, zc G 1 (zI 9 (vI pl))) :: (zn 1, zc G 1 (zI 9 (vI nu))) :: (zn 2, zc G 1 (zI 5 (vI ax))) :: (zn 3, zc G 1 (zI 5 (vI le))) :: (zn 4, zc G 2 (zI 5 (vI kn))) :: (w 0, zc G 4 (zO 5 sf)) :: (sqW sq (aV A) ++ rest)) s H locs := hw.perm (by rw [← show sqC sq (aV A) i = (sq i, zo 7 (sqF (nI i) (nI nd))) from by unfold sqC; rw [← hkd, ← hnd]]; exact (sq_get (E := [(co, zo 0 (cF w (nI mn) bm sm lt)), (w 2, zo 1 (stF zn co (nI ps) (nI dy) (gg))), (zn 0, zc G 1 (zI 9 (vI pl))), (zn 1, zc G 1 (zI 9 (vI nu))), (zn 2, zc G 1 (zI 5 (vI ax))), (zn 3, zc G 1 (zI 5 (vI le))), (zn 4, zc G 2 (zI 5 (vI kn))), (w 0, zc G 4 (zO 5 sf))]) hia).symm)
          exact hend _ _ _ _ _ _ _ () hw (by unfold F_as; rw [ifP_t ⟨i, hia, rfl⟩, ifP_t ⟨1, by decide, by decide, rfl⟩, cl_nI (show i < 2147483648 by omega), cl_nI (show (1 : Nat) < 2147483648 by decide), ← hkd, ifP_t (by unfold castN; decide), ← hnd]; first | rfl | exact congrArg nI (Nat.add_comm _ _)) (Nat.le_of_ble_eq_true rfl) (Nat.le_of_ble_eq_true rfl) dX0_as_39
        · skip
          have hl : lv_has ls 4 [(0, .ref co), (1, .int (nI i)), (2, .int (nI 1))] := hl
          have hw : zS G ((sq i, zo 8 (sqF (nI i) (nI nd))) :: (co, zo 0 (cF w (nI mn) bm sm lt)) :: (w 2, zo 1 (stF zn co (nI ps) (nI dy) (gg))) :: (zn 0, zc G 1 (zI 9 (vI pl))) :: (zn 1, zc G 1 (zI 9 (vI nu))) :: (zn 2, zc G 1 (zI 5 (vI ax))) :: (zn 3, zc G 1 (zI 5 (vI le))) :: (zn 4, zc G 2 (zI 5 (vI kn))) :: (w 0, zc G 4 (zO 5 sf)) :: (sqX sq (aV A) i ++ rest)) s H locs := hw
          refine z_ct (z_runST (As := [.ref (sq i), .int (nI 1)]) (rest := []) hC zs_X0_193 (m_X0_castTo_3_1 G l kA (by first | assumption | (omega)) (by first | assumption | (omega)) (by omega) (sq i) (nI i) (nI nd) (zrem [0] _)) (hw.perm (z_cut (is := [0]) (cells := [(sq i, zo 8 (sqF (nI i) (nI nd)))]) rfl rfl)) rfl rfl (Nat.le_of_ble_eq_true rfl) hl.1 ⟨Nat.le_of_ble_eq_true rfl, Nat.le_of_ble_eq_true rfl⟩ ⟨(Nat.le_of_ble_eq_true rfl), (Nat.le_of_ble_eq_true rfl)⟩ dX0_as_33) hw (fun q9 => z_keep (is := [0]) (cs := [(sq i, zo 8 (sqF (nI i) (nI nd)))]) rfl rfl) (fun q9 H locs ce9 hex => ?_)
          obtain ⟨hw, hx9⟩ := hex
          have hw : zS G ((sq i, zo 8 (sqF (nI i) (nI nd))) :: (co, zo 0 (cF w (nI mn) bm sm lt)) :: (w 2, zo 1 (stF zn co (nI ps) (nI dy) (gg))) :: (zn 0, zc G 1 (zI 9 (vI pl))) :: (zn 1, zc G 1 (zI 9 (vI nu))) :: (zn 2, zc G 1 (zI 5 (vI ax))) :: (zn 3, zc G 1 (zI 5 (vI le))) :: (zn 4, zc G 2 (zI 5 (vI kn))) :: (w 0, zc G 4 (zO 5 sf)) :: (sqX sq (aV A) i ++ rest)) s H locs := hw
          refine z_catch (ce := ce9) (hh := [(26, 39, 40, 197)]) (E := "java/lang/ClassCastException") hC htb (tableOf []) ⟨26, 39, 40, 197⟩ (tableOf []) rfl (fun z hz => nomatch hz) (by decide) (by decide) q888 (hz.1 _ (cw_t q908 rfl)) ⟨hw, hx9⟩ ?_
          show W p l e (zR 262 3 890) s m args below meth c H locs 3 890 Q (F0 m 40 ls [.ref q9])
          refine lv_astore_n (lv' := [(3, .ref q9), (0, .ref co), (1, .int (nI i)), (2, .int (nI 1))]) hx hb dX0_as_40 rfl hl (by decide) rfl (fun ls hl => ?_)
          refine lv_bipush (v := (-4)) hx hb dX0_as_41 zb_m4 ?_
          have hw : zS G ((co, zo 0 (cF w (nI mn) bm sm lt)) :: (w 2, zo 1 (stF zn co (nI ps) (nI dy) (gg))) :: (zn 0, zc G 1 (zI 9 (vI pl))) :: (zn 1, zc G 1 (zI 9 (vI nu))) :: (zn 2, zc G 1 (zI 5 (vI ax))) :: (zn 3, zc G 1 (zI 5 (vI le))) :: (zn 4, zc G 2 (zI 5 (vI kn))) :: (w 0, zc G 4 (zO 5 sf)) :: (sqW sq (aV A) ++ rest)) s H locs := hw.perm (by rw [← show sqC sq (aV A) i = (sq i, zo 8 (sqF (nI i) (nI nd))) from by unfold sqC; rw [← hkd, ← hnd]]; exact (sq_get (E := [(co, zo 0 (cF w (nI mn) bm sm lt)), (w 2, zo 1 (stF zn co (nI ps) (nI dy) (gg))), (zn 0, zc G 1 (zI 9 (vI pl))), (zn 1, zc G 1 (zI 9 (vI nu))), (zn 2, zc G 1 (zI 5 (vI ax))), (zn 3, zc G 1 (zI 5 (vI le))), (zn 4, zc G 2 (zI 5 (vI kn))), (w 0, zc G 4 (zO 5 sf))]) hia).symm)
          exact hend _ _ _ _ _ _ _ () hw (by unfold F_as; rw [ifP_t ⟨i, hia, rfl⟩, ifP_t ⟨1, by decide, by decide, rfl⟩, cl_nI (show i < 2147483648 by omega), cl_nI (show (1 : Nat) < 2147483648 by decide), ← hkd, ifP_f (by unfold castN; decide)]) (Nat.le_of_ble_eq_true rfl) (Nat.le_of_ble_eq_true rfl) dX0_as_43
        · skip
          have hl : lv_has ls 4 [(0, .ref co), (1, .int (nI i)), (2, .int (nI 1))] := hl
          have hw : zS G ((sq i, zo 9 (sqF (nI i) (nI nd))) :: (co, zo 0 (cF w (nI mn) bm sm lt)) :: (w 2, zo 1 (stF zn co (nI ps) (nI dy) (gg))) :: (zn 0, zc G 1 (zI 9 (vI pl))) :: (zn 1, zc G 1 (zI 9 (vI nu))) :: (zn 2, zc G 1 (zI 5 (vI ax))) :: (zn 3, zc G 1 (zI 5 (vI le))) :: (zn 4, zc G 2 (zI 5 (vI kn))) :: (w 0, zc G 4 (zO 5 sf)) :: (sqX sq (aV A) i ++ rest)) s H locs := hw
          refine z_ct (z_runST (As := [.ref (sq i), .int (nI 1)]) (rest := []) hC zs_X0_193 (m_X0_castTo_4_1 G l kA (by first | assumption | (omega)) (by first | assumption | (omega)) (by omega) (sq i) (nI i) (nI nd) (zrem [0] _)) (hw.perm (z_cut (is := [0]) (cells := [(sq i, zo 9 (sqF (nI i) (nI nd)))]) rfl rfl)) rfl rfl (Nat.le_of_ble_eq_true rfl) hl.1 ⟨Nat.le_of_ble_eq_true rfl, Nat.le_of_ble_eq_true rfl⟩ ⟨(Nat.le_of_ble_eq_true rfl), (Nat.le_of_ble_eq_true rfl)⟩ dX0_as_33) hw (fun q9 => z_keep (is := [0]) (cs := [(sq i, zo 9 (sqF (nI i) (nI nd)))]) rfl rfl) (fun q9 H locs ce9 hex => ?_)
          obtain ⟨hw, hx9⟩ := hex
          have hw : zS G ((sq i, zo 9 (sqF (nI i) (nI nd))) :: (co, zo 0 (cF w (nI mn) bm sm lt)) :: (w 2, zo 1 (stF zn co (nI ps) (nI dy) (gg))) :: (zn 0, zc G 1 (zI 9 (vI pl))) :: (zn 1, zc G 1 (zI 9 (vI nu))) :: (zn 2, zc G 1 (zI 5 (vI ax))) :: (zn 3, zc G 1 (zI 5 (vI le))) :: (zn 4, zc G 2 (zI 5 (vI kn))) :: (w 0, zc G 4 (zO 5 sf)) :: (sqX sq (aV A) i ++ rest)) s H locs := hw
          refine z_catch (ce := ce9) (hh := [(26, 39, 40, 197)]) (E := "java/lang/ClassCastException") hC htb (tableOf []) ⟨26, 39, 40, 197⟩ (tableOf []) rfl (fun z hz => nomatch hz) (by decide) (by decide) q888 (hz.1 _ (cw_t q908 rfl)) ⟨hw, hx9⟩ ?_
          show W p l e (zR 262 3 890) s m args below meth c H locs 3 890 Q (F0 m 40 ls [.ref q9])
          refine lv_astore_n (lv' := [(3, .ref q9), (0, .ref co), (1, .int (nI i)), (2, .int (nI 1))]) hx hb dX0_as_40 rfl hl (by decide) rfl (fun ls hl => ?_)
          refine lv_bipush (v := (-4)) hx hb dX0_as_41 zb_m4 ?_
          have hw : zS G ((co, zo 0 (cF w (nI mn) bm sm lt)) :: (w 2, zo 1 (stF zn co (nI ps) (nI dy) (gg))) :: (zn 0, zc G 1 (zI 9 (vI pl))) :: (zn 1, zc G 1 (zI 9 (vI nu))) :: (zn 2, zc G 1 (zI 5 (vI ax))) :: (zn 3, zc G 1 (zI 5 (vI le))) :: (zn 4, zc G 2 (zI 5 (vI kn))) :: (w 0, zc G 4 (zO 5 sf)) :: (sqW sq (aV A) ++ rest)) s H locs := hw.perm (by rw [← show sqC sq (aV A) i = (sq i, zo 9 (sqF (nI i) (nI nd))) from by unfold sqC; rw [← hkd, ← hnd]]; exact (sq_get (E := [(co, zo 0 (cF w (nI mn) bm sm lt)), (w 2, zo 1 (stF zn co (nI ps) (nI dy) (gg))), (zn 0, zc G 1 (zI 9 (vI pl))), (zn 1, zc G 1 (zI 9 (vI nu))), (zn 2, zc G 1 (zI 5 (vI ax))), (zn 3, zc G 1 (zI 5 (vI le))), (zn 4, zc G 2 (zI 5 (vI kn))), (w 0, zc G 4 (zO 5 sf))]) hia).symm)
          exact hend _ _ _ _ _ _ _ () hw (by unfold F_as; rw [ifP_t ⟨i, hia, rfl⟩, ifP_t ⟨1, by decide, by decide, rfl⟩, cl_nI (show i < 2147483648 by omega), cl_nI (show (1 : Nat) < 2147483648 by decide), ← hkd, ifP_f (by unfold castN; decide)]) (Nat.le_of_ble_eq_true rfl) (Nat.le_of_ble_eq_true rfl) dX0_as_43
      · skip
        have hl : lv_has ls 4 [(0, .ref co), (1, .int (nI i)), (2, .int (nI 2))] := hl
        have hl : lv_has ls 4 [(0, .ref co), (1, .int (nI i)), (2, .int (nI 2))] := hl
        have hw : zS G ((sq i, zo (5 + kd) (sqF (nI i) (nI nd))) :: (co, zo 0 (cF w (nI mn) bm sm lt)) :: (w 2, zo 1 (stF zn co (nI ps) (nI dy) (gg))) :: (zn 0, zc G 1 (zI 9 (vI pl))) :: (zn 1, zc G 1 (zI 9 (vI nu))) :: (zn 2, zc G 1 (zI 5 (vI ax))) :: (zn 3, zc G 1 (zI 5 (vI le))) :: (zn 4, zc G 2 (zI 5 (vI kn))) :: (w 0, zc G 4 (zO 5 sf)) :: (sqX sq (aV A) i ++ rest)) s H locs := hw
        refine lv_aload_n hx hb dX0_as_26 rfl (lv_at hl 0 rfl) ?_
        refine z_get (v := .ref (w 0)) hC zf_X0_21_0 hw 1 rfl rfl dX0_as_27 ?_
        refine lv_iload_n hx hb dX0_as_30 rfl (lv_at hl 1 rfl) ?_
        refine z_aald (x := .ref (sq i)) (t := 4) hC hw 8 rfl (fun _ => rfl) (by omega) (by decide) (congrArg va_rf (hsf i hia)) dX0_as_31 ?_
        refine lv_iload_n hx hb dX0_as_32 rfl (lv_at hl 2 rfl) ?_
        rcases hk4 with rfl | rfl | rfl | rfl | rfl
        · skip
          have hl : lv_has ls 4 [(0, .ref co), (1, .int (nI i)), (2, .int (nI 2))] := hl
          have hw : zS G ((sq i, zo 5 (sqF (nI i) (nI nd))) :: (co, zo 0 (cF w (nI mn) bm sm lt)) :: (w 2, zo 1 (stF zn co (nI ps) (nI dy) (gg))) :: (zn 0, zc G 1 (zI 9 (vI pl))) :: (zn 1, zc G 1 (zI 9 (vI nu))) :: (zn 2, zc G 1 (zI 5 (vI ax))) :: (zn 3, zc G 1 (zI 5 (vI le))) :: (zn 4, zc G 2 (zI 5 (vI kn))) :: (w 0, zc G 4 (zO 5 sf)) :: (sqX sq (aV A) i ++ rest)) s H locs := hw
          refine z_ct (z_runST (As := [.ref (sq i), .int (nI 2)]) (rest := []) hC zs_X0_193 (m_X0_castTo_0_2 G l kA (by first | assumption | (omega)) (by first | assumption | (omega)) (by omega) (sq i) (nI i) (nI nd) (zrem [0] _)) (hw.perm (z_cut (is := [0]) (cells := [(sq i, zo 5 (sqF (nI i) (nI nd)))]) rfl rfl)) rfl rfl (Nat.le_of_ble_eq_true rfl) hl.1 ⟨Nat.le_of_ble_eq_true rfl, Nat.le_of_ble_eq_true rfl⟩ ⟨(Nat.le_of_ble_eq_true rfl), (Nat.le_of_ble_eq_true rfl)⟩ dX0_as_33) hw (fun q9 => z_keep (is := [0]) (cs := [(sq i, zo 5 (sqF (nI i) (nI nd)))]) rfl rfl) (fun q9 H locs ce9 hex => ?_)
          obtain ⟨hw, hx9⟩ := hex
          have hw : zS G ((sq i, zo 5 (sqF (nI i) (nI nd))) :: (co, zo 0 (cF w (nI mn) bm sm lt)) :: (w 2, zo 1 (stF zn co (nI ps) (nI dy) (gg))) :: (zn 0, zc G 1 (zI 9 (vI pl))) :: (zn 1, zc G 1 (zI 9 (vI nu))) :: (zn 2, zc G 1 (zI 5 (vI ax))) :: (zn 3, zc G 1 (zI 5 (vI le))) :: (zn 4, zc G 2 (zI 5 (vI kn))) :: (w 0, zc G 4 (zO 5 sf)) :: (sqX sq (aV A) i ++ rest)) s H locs := hw
          refine z_catch (ce := ce9) (hh := [(26, 39, 40, 197)]) (E := "java/lang/ClassCastException") hC htb (tableOf []) ⟨26, 39, 40, 197⟩ (tableOf []) rfl (fun z hz => nomatch hz) (by decide) (by decide) q888 (hz.1 _ (cw_t q908 rfl)) ⟨hw, hx9⟩ ?_
          show W p l e (zR 262 3 890) s m args below meth c H locs 3 890 Q (F0 m 40 ls [.ref q9])
          refine lv_astore_n (lv' := [(3, .ref q9), (0, .ref co), (1, .int (nI i)), (2, .int (nI 2))]) hx hb dX0_as_40 rfl hl (by decide) rfl (fun ls hl => ?_)
          refine lv_bipush (v := (-4)) hx hb dX0_as_41 zb_m4 ?_
          have hw : zS G ((co, zo 0 (cF w (nI mn) bm sm lt)) :: (w 2, zo 1 (stF zn co (nI ps) (nI dy) (gg))) :: (zn 0, zc G 1 (zI 9 (vI pl))) :: (zn 1, zc G 1 (zI 9 (vI nu))) :: (zn 2, zc G 1 (zI 5 (vI ax))) :: (zn 3, zc G 1 (zI 5 (vI le))) :: (zn 4, zc G 2 (zI 5 (vI kn))) :: (w 0, zc G 4 (zO 5 sf)) :: (sqW sq (aV A) ++ rest)) s H locs := hw.perm (by rw [← show sqC sq (aV A) i = (sq i, zo 5 (sqF (nI i) (nI nd))) from by unfold sqC; rw [← hkd, ← hnd]]; exact (sq_get (E := [(co, zo 0 (cF w (nI mn) bm sm lt)), (w 2, zo 1 (stF zn co (nI ps) (nI dy) (gg))), (zn 0, zc G 1 (zI 9 (vI pl))), (zn 1, zc G 1 (zI 9 (vI nu))), (zn 2, zc G 1 (zI 5 (vI ax))), (zn 3, zc G 1 (zI 5 (vI le))), (zn 4, zc G 2 (zI 5 (vI kn))), (w 0, zc G 4 (zO 5 sf))]) hia).symm)
          exact hend _ _ _ _ _ _ _ () hw (by unfold F_as; rw [ifP_t ⟨i, hia, rfl⟩, ifP_t ⟨2, by decide, by decide, rfl⟩, cl_nI (show i < 2147483648 by omega), cl_nI (show (2 : Nat) < 2147483648 by decide), ← hkd, ifP_f (by unfold castN; decide)]) (Nat.le_of_ble_eq_true rfl) (Nat.le_of_ble_eq_true rfl) dX0_as_43
        · skip
          have hl : lv_has ls 4 [(0, .ref co), (1, .int (nI i)), (2, .int (nI 2))] := hl
          have hw : zS G ((sq i, zo 6 (sqF (nI i) (nI nd))) :: (co, zo 0 (cF w (nI mn) bm sm lt)) :: (w 2, zo 1 (stF zn co (nI ps) (nI dy) (gg))) :: (zn 0, zc G 1 (zI 9 (vI pl))) :: (zn 1, zc G 1 (zI 9 (vI nu))) :: (zn 2, zc G 1 (zI 5 (vI ax))) :: (zn 3, zc G 1 (zI 5 (vI le))) :: (zn 4, zc G 2 (zI 5 (vI kn))) :: (w 0, zc G 4 (zO 5 sf)) :: (sqX sq (aV A) i ++ rest)) s H locs := hw
          refine z_cq (z_runS (As := [.ref (sq i), .int (nI 2)]) (rest := []) hC zs_X0_193 (m_X0_castTo_1_2 G l kA (by first | assumption | (omega)) (sq i) (nI i) (nI nd) (zrem [0] _)) (hw.perm (z_cut (is := [0]) (cells := [(sq i, zo 6 (sqF (nI i) (nI nd)))]) rfl rfl)) rfl rfl (Nat.le_of_ble_eq_true rfl) hl.1 ⟨Nat.le_of_ble_eq_true rfl, Nat.le_of_ble_eq_true rfl⟩ ⟨(Nat.le_of_ble_eq_true rfl), (Nat.le_of_ble_eq_true rfl)⟩ dX0_as_33) hw (fun _ => z_keep (is := [0]) (cs := [(sq i, zo 6 (sqF (nI i) (nI nd)))]) rfl rfl) (fun r u H locs hp hw => ?_)
          obtain rfl : r = some (sq i) := hp
          refine z_ci (z_runB (x := (⟨"NutCaches$Squirrel", "wants", "()I"⟩ : MethodName)) (owner := "NutCaches$Squirrel") (C := "NutCaches$Greedy") (n := 0) (As := []) (rest := []) hC ⟨zn_X5_wants, q862, q865, ⟨by decide +kernel, by decide +kernel⟩, by decide +kernel⟩ (hC.hts _ q861) (hC.hts _ q863) (z_declO hC q862 q869) (m_X5_wants_1 G l kA (by first | assumption | (omega)) (sq i) nd (nI i) (zrem [0] _)) hw (hw.perm (z_cut (is := [0]) (cells := [(sq i, zo 6 (sqF (nI i) (nI nd)))]) rfl rfl)) 0 rfl rfl rfl rfl rfl (Nat.le_of_ble_eq_true rfl) hl.1 ⟨Nat.le_of_ble_eq_true rfl, Nat.le_of_ble_eq_true rfl⟩ ⟨(Nat.le_of_ble_eq_true rfl), (Nat.le_of_ble_eq_true rfl)⟩ dX0_as_36) hw (fun _ => z_keep (is := [0]) (cs := [(sq i, zo 6 (sqF (nI i) (nI nd)))]) rfl rfl) (fun r u H locs hp hw => ?_)
          obtain rfl : r = nI (2 * nd) := hp
          have hw : zS G ((co, zo 0 (cF w (nI mn) bm sm lt)) :: (w 2, zo 1 (stF zn co (nI ps) (nI dy) (gg))) :: (zn 0, zc G 1 (zI 9 (vI pl))) :: (zn 1, zc G 1 (zI 9 (vI nu))) :: (zn 2, zc G 1 (zI 5 (vI ax))) :: (zn 3, zc G 1 (zI 5 (vI le))) :: (zn 4, zc G 2 (zI 5 (vI kn))) :: (w 0, zc G 4 (zO 5 sf)) :: (sqW sq (aV A) ++ rest)) s H locs := hw.perm (by rw [← show sqC sq (aV A) i = (sq i, zo 6 (sqF (nI i) (nI nd))) from by unfold sqC; rw [← hkd, ← hnd]]; exact (sq_get (E := [(co, zo 0 (cF w (nI mn) bm sm lt)), (w 2, zo 1 (stF zn co (nI ps) (nI dy) (gg))), (zn 0, zc G 1 (zI 9 (vI pl))), (zn 1, zc G 1 (zI 9 (vI nu))), (zn 2, zc G 1 (zI 5 (vI ax))), (zn 3, zc G 1 (zI 5 (vI le))), (zn 4, zc G 2 (zI 5 (vI kn))), (w 0, zc G 4 (zO 5 sf))]) hia).symm)
          exact hend _ _ _ _ _ _ _ () hw (by unfold F_as; rw [ifP_t ⟨i, hia, rfl⟩, ifP_t ⟨2, by decide, by decide, rfl⟩, cl_nI (show i < 2147483648 by omega), cl_nI (show (2 : Nat) < 2147483648 by decide), ← hkd, ifP_t (by unfold castN; decide), ← hnd]; first | rfl | exact congrArg nI (Nat.add_comm _ _)) (Nat.le_of_ble_eq_true rfl) (Nat.le_of_ble_eq_true rfl) dX0_as_39
        · skip
          have hl : lv_has ls 4 [(0, .ref co), (1, .int (nI i)), (2, .int (nI 2))] := hl
          have hw : zS G ((sq i, zo 7 (sqF (nI i) (nI nd))) :: (co, zo 0 (cF w (nI mn) bm sm lt)) :: (w 2, zo 1 (stF zn co (nI ps) (nI dy) (gg))) :: (zn 0, zc G 1 (zI 9 (vI pl))) :: (zn 1, zc G 1 (zI 9 (vI nu))) :: (zn 2, zc G 1 (zI 5 (vI ax))) :: (zn 3, zc G 1 (zI 5 (vI le))) :: (zn 4, zc G 2 (zI 5 (vI kn))) :: (w 0, zc G 4 (zO 5 sf)) :: (sqX sq (aV A) i ++ rest)) s H locs := hw
          refine z_ct (z_runST (As := [.ref (sq i), .int (nI 2)]) (rest := []) hC zs_X0_193 (m_X0_castTo_2_2 G l kA (by first | assumption | (omega)) (by first | assumption | (omega)) (by omega) (sq i) (nI i) (nI nd) (zrem [0] _)) (hw.perm (z_cut (is := [0]) (cells := [(sq i, zo 7 (sqF (nI i) (nI nd)))]) rfl rfl)) rfl rfl (Nat.le_of_ble_eq_true rfl) hl.1 ⟨Nat.le_of_ble_eq_true rfl, Nat.le_of_ble_eq_true rfl⟩ ⟨(Nat.le_of_ble_eq_true rfl), (Nat.le_of_ble_eq_true rfl)⟩ dX0_as_33) hw (fun q9 => z_keep (is := [0]) (cs := [(sq i, zo 7 (sqF (nI i) (nI nd)))]) rfl rfl) (fun q9 H locs ce9 hex => ?_)
          obtain ⟨hw, hx9⟩ := hex
          have hw : zS G ((sq i, zo 7 (sqF (nI i) (nI nd))) :: (co, zo 0 (cF w (nI mn) bm sm lt)) :: (w 2, zo 1 (stF zn co (nI ps) (nI dy) (gg))) :: (zn 0, zc G 1 (zI 9 (vI pl))) :: (zn 1, zc G 1 (zI 9 (vI nu))) :: (zn 2, zc G 1 (zI 5 (vI ax))) :: (zn 3, zc G 1 (zI 5 (vI le))) :: (zn 4, zc G 2 (zI 5 (vI kn))) :: (w 0, zc G 4 (zO 5 sf)) :: (sqX sq (aV A) i ++ rest)) s H locs := hw
          refine z_catch (ce := ce9) (hh := [(26, 39, 40, 197)]) (E := "java/lang/ClassCastException") hC htb (tableOf []) ⟨26, 39, 40, 197⟩ (tableOf []) rfl (fun z hz => nomatch hz) (by decide) (by decide) q888 (hz.1 _ (cw_t q908 rfl)) ⟨hw, hx9⟩ ?_
          show W p l e (zR 262 3 890) s m args below meth c H locs 3 890 Q (F0 m 40 ls [.ref q9])
          refine lv_astore_n (lv' := [(3, .ref q9), (0, .ref co), (1, .int (nI i)), (2, .int (nI 2))]) hx hb dX0_as_40 rfl hl (by decide) rfl (fun ls hl => ?_)
          refine lv_bipush (v := (-4)) hx hb dX0_as_41 zb_m4 ?_
          have hw : zS G ((co, zo 0 (cF w (nI mn) bm sm lt)) :: (w 2, zo 1 (stF zn co (nI ps) (nI dy) (gg))) :: (zn 0, zc G 1 (zI 9 (vI pl))) :: (zn 1, zc G 1 (zI 9 (vI nu))) :: (zn 2, zc G 1 (zI 5 (vI ax))) :: (zn 3, zc G 1 (zI 5 (vI le))) :: (zn 4, zc G 2 (zI 5 (vI kn))) :: (w 0, zc G 4 (zO 5 sf)) :: (sqW sq (aV A) ++ rest)) s H locs := hw.perm (by rw [← show sqC sq (aV A) i = (sq i, zo 7 (sqF (nI i) (nI nd))) from by unfold sqC; rw [← hkd, ← hnd]]; exact (sq_get (E := [(co, zo 0 (cF w (nI mn) bm sm lt)), (w 2, zo 1 (stF zn co (nI ps) (nI dy) (gg))), (zn 0, zc G 1 (zI 9 (vI pl))), (zn 1, zc G 1 (zI 9 (vI nu))), (zn 2, zc G 1 (zI 5 (vI ax))), (zn 3, zc G 1 (zI 5 (vI le))), (zn 4, zc G 2 (zI 5 (vI kn))), (w 0, zc G 4 (zO 5 sf))]) hia).symm)
          exact hend _ _ _ _ _ _ _ () hw (by unfold F_as; rw [ifP_t ⟨i, hia, rfl⟩, ifP_t ⟨2, by decide, by decide, rfl⟩, cl_nI (show i < 2147483648 by omega), cl_nI (show (2 : Nat) < 2147483648 by decide), ← hkd, ifP_f (by unfold castN; decide)]) (Nat.le_of_ble_eq_true rfl) (Nat.le_of_ble_eq_true rfl) dX0_as_43
        · skip
          have hl : lv_has ls 4 [(0, .ref co), (1, .int (nI i)), (2, .int (nI 2))] := hl
          have hw : zS G ((sq i, zo 8 (sqF (nI i) (nI nd))) :: (co, zo 0 (cF w (nI mn) bm sm lt)) :: (w 2, zo 1 (stF zn co (nI ps) (nI dy) (gg))) :: (zn 0, zc G 1 (zI 9 (vI pl))) :: (zn 1, zc G 1 (zI 9 (vI nu))) :: (zn 2, zc G 1 (zI 5 (vI ax))) :: (zn 3, zc G 1 (zI 5 (vI le))) :: (zn 4, zc G 2 (zI 5 (vI kn))) :: (w 0, zc G 4 (zO 5 sf)) :: (sqX sq (aV A) i ++ rest)) s H locs := hw
          refine z_ct (z_runST (As := [.ref (sq i), .int (nI 2)]) (rest := []) hC zs_X0_193 (m_X0_castTo_3_2 G l kA (by first | assumption | (omega)) (by first | assumption | (omega)) (by omega) (sq i) (nI i) (nI nd) (zrem [0] _)) (hw.perm (z_cut (is := [0]) (cells := [(sq i, zo 8 (sqF (nI i) (nI nd)))]) rfl rfl)) rfl rfl (Nat.le_of_ble_eq_true rfl) hl.1 ⟨Nat.le_of_ble_eq_true rfl, Nat.le_of_ble_eq_true rfl⟩ ⟨(Nat.le_of_ble_eq_true rfl), (Nat.le_of_ble_eq_true rfl)⟩ dX0_as_33) hw (fun q9 => z_keep (is := [0]) (cs := [(sq i, zo 8 (sqF (nI i) (nI nd)))]) rfl rfl) (fun q9 H locs ce9 hex => ?_)
          obtain ⟨hw, hx9⟩ := hex
          have hw : zS G ((sq i, zo 8 (sqF (nI i) (nI nd))) :: (co, zo 0 (cF w (nI mn) bm sm lt)) :: (w 2, zo 1 (stF zn co (nI ps) (nI dy) (gg))) :: (zn 0, zc G 1 (zI 9 (vI pl))) :: (zn 1, zc G 1 (zI 9 (vI nu))) :: (zn 2, zc G 1 (zI 5 (vI ax))) :: (zn 3, zc G 1 (zI 5 (vI le))) :: (zn 4, zc G 2 (zI 5 (vI kn))) :: (w 0, zc G 4 (zO 5 sf)) :: (sqX sq (aV A) i ++ rest)) s H locs := hw
          refine z_catch (ce := ce9) (hh := [(26, 39, 40, 197)]) (E := "java/lang/ClassCastException") hC htb (tableOf []) ⟨26, 39, 40, 197⟩ (tableOf []) rfl (fun z hz => nomatch hz) (by decide) (by decide) q888 (hz.1 _ (cw_t q908 rfl)) ⟨hw, hx9⟩ ?_
          show W p l e (zR 262 3 890) s m args below meth c H locs 3 890 Q (F0 m 40 ls [.ref q9])
          refine lv_astore_n (lv' := [(3, .ref q9), (0, .ref co), (1, .int (nI i)), (2, .int (nI 2))]) hx hb dX0_as_40 rfl hl (by decide) rfl (fun ls hl => ?_)
          refine lv_bipush (v := (-4)) hx hb dX0_as_41 zb_m4 ?_
          have hw : zS G ((co, zo 0 (cF w (nI mn) bm sm lt)) :: (w 2, zo 1 (stF zn co (nI ps) (nI dy) (gg))) :: (zn 0, zc G 1 (zI 9 (vI pl))) :: (zn 1, zc G 1 (zI 9 (vI nu))) :: (zn 2, zc G 1 (zI 5 (vI ax))) :: (zn 3, zc G 1 (zI 5 (vI le))) :: (zn 4, zc G 2 (zI 5 (vI kn))) :: (w 0, zc G 4 (zO 5 sf)) :: (sqW sq (aV A) ++ rest)) s H locs := hw.perm (by rw [← show sqC sq (aV A) i = (sq i, zo 8 (sqF (nI i) (nI nd))) from by unfold sqC; rw [← hkd, ← hnd]]; exact (sq_get (E := [(co, zo 0 (cF w (nI mn) bm sm lt)), (w 2, zo 1 (stF zn co (nI ps) (nI dy) (gg))), (zn 0, zc G 1 (zI 9 (vI pl))), (zn 1, zc G 1 (zI 9 (vI nu))), (zn 2, zc G 1 (zI 5 (vI ax))), (zn 3, zc G 1 (zI 5 (vI le))), (zn 4, zc G 2 (zI 5 (vI kn))), (w 0, zc G 4 (zO 5 sf))]) hia).symm)
          exact hend _ _ _ _ _ _ _ () hw (by unfold F_as; rw [ifP_t ⟨i, hia, rfl⟩, ifP_t ⟨2, by decide, by decide, rfl⟩, cl_nI (show i < 2147483648 by omega), cl_nI (show (2 : Nat) < 2147483648 by decide), ← hkd, ifP_f (by unfold castN; decide)]) (Nat.le_of_ble_eq_true rfl) (Nat.le_of_ble_eq_true rfl) dX0_as_43
        · skip
          have hl : lv_has ls 4 [(0, .ref co), (1, .int (nI i)), (2, .int (nI 2))] := hl
          have hw : zS G ((sq i, zo 9 (sqF (nI i) (nI nd))) :: (co, zo 0 (cF w (nI mn) bm sm lt)) :: (w 2, zo 1 (stF zn co (nI ps) (nI dy) (gg))) :: (zn 0, zc G 1 (zI 9 (vI pl))) :: (zn 1, zc G 1 (zI 9 (vI nu))) :: (zn 2, zc G 1 (zI 5 (vI ax))) :: (zn 3, zc G 1 (zI 5 (vI le))) :: (zn 4, zc G 2 (zI 5 (vI kn))) :: (w 0, zc G 4 (zO 5 sf)) :: (sqX sq (aV A) i ++ rest)) s H locs := hw
          refine z_ct (z_runST (As := [.ref (sq i), .int (nI 2)]) (rest := []) hC zs_X0_193 (m_X0_castTo_4_2 G l kA (by first | assumption | (omega)) (by first | assumption | (omega)) (by omega) (sq i) (nI i) (nI nd) (zrem [0] _)) (hw.perm (z_cut (is := [0]) (cells := [(sq i, zo 9 (sqF (nI i) (nI nd)))]) rfl rfl)) rfl rfl (Nat.le_of_ble_eq_true rfl) hl.1 ⟨Nat.le_of_ble_eq_true rfl, Nat.le_of_ble_eq_true rfl⟩ ⟨(Nat.le_of_ble_eq_true rfl), (Nat.le_of_ble_eq_true rfl)⟩ dX0_as_33) hw (fun q9 => z_keep (is := [0]) (cs := [(sq i, zo 9 (sqF (nI i) (nI nd)))]) rfl rfl) (fun q9 H locs ce9 hex => ?_)
          obtain ⟨hw, hx9⟩ := hex
          have hw : zS G ((sq i, zo 9 (sqF (nI i) (nI nd))) :: (co, zo 0 (cF w (nI mn) bm sm lt)) :: (w 2, zo 1 (stF zn co (nI ps) (nI dy) (gg))) :: (zn 0, zc G 1 (zI 9 (vI pl))) :: (zn 1, zc G 1 (zI 9 (vI nu))) :: (zn 2, zc G 1 (zI 5 (vI ax))) :: (zn 3, zc G 1 (zI 5 (vI le))) :: (zn 4, zc G 2 (zI 5 (vI kn))) :: (w 0, zc G 4 (zO 5 sf)) :: (sqX sq (aV A) i ++ rest)) s H locs := hw
          refine z_catch (ce := ce9) (hh := [(26, 39, 40, 197)]) (E := "java/lang/ClassCastException") hC htb (tableOf []) ⟨26, 39, 40, 197⟩ (tableOf []) rfl (fun z hz => nomatch hz) (by decide) (by decide) q888 (hz.1 _ (cw_t q908 rfl)) ⟨hw, hx9⟩ ?_
          show W p l e (zR 262 3 890) s m args below meth c H locs 3 890 Q (F0 m 40 ls [.ref q9])
          refine lv_astore_n (lv' := [(3, .ref q9), (0, .ref co), (1, .int (nI i)), (2, .int (nI 2))]) hx hb dX0_as_40 rfl hl (by decide) rfl (fun ls hl => ?_)
          refine lv_bipush (v := (-4)) hx hb dX0_as_41 zb_m4 ?_
          have hw : zS G ((co, zo 0 (cF w (nI mn) bm sm lt)) :: (w 2, zo 1 (stF zn co (nI ps) (nI dy) (gg))) :: (zn 0, zc G 1 (zI 9 (vI pl))) :: (zn 1, zc G 1 (zI 9 (vI nu))) :: (zn 2, zc G 1 (zI 5 (vI ax))) :: (zn 3, zc G 1 (zI 5 (vI le))) :: (zn 4, zc G 2 (zI 5 (vI kn))) :: (w 0, zc G 4 (zO 5 sf)) :: (sqW sq (aV A) ++ rest)) s H locs := hw.perm (by rw [← show sqC sq (aV A) i = (sq i, zo 9 (sqF (nI i) (nI nd))) from by unfold sqC; rw [← hkd, ← hnd]]; exact (sq_get (E := [(co, zo 0 (cF w (nI mn) bm sm lt)), (w 2, zo 1 (stF zn co (nI ps) (nI dy) (gg))), (zn 0, zc G 1 (zI 9 (vI pl))), (zn 1, zc G 1 (zI 9 (vI nu))), (zn 2, zc G 1 (zI 5 (vI ax))), (zn 3, zc G 1 (zI 5 (vI le))), (zn 4, zc G 2 (zI 5 (vI kn))), (w 0, zc G 4 (zO 5 sf))]) hia).symm)
          exact hend _ _ _ _ _ _ _ () hw (by unfold F_as; rw [ifP_t ⟨i, hia, rfl⟩, ifP_t ⟨2, by decide, by decide, rfl⟩, cl_nI (show i < 2147483648 by omega), cl_nI (show (2 : Nat) < 2147483648 by decide), ← hkd, ifP_f (by unfold castN; decide)]) (Nat.le_of_ble_eq_true rfl) (Nat.le_of_ble_eq_true rfl) dX0_as_43
      · skip
        have hl : lv_has ls 4 [(0, .ref co), (1, .int (nI i)), (2, .int (nI 3))] := hl
        have hl : lv_has ls 4 [(0, .ref co), (1, .int (nI i)), (2, .int (nI 3))] := hl
        have hw : zS G ((sq i, zo (5 + kd) (sqF (nI i) (nI nd))) :: (co, zo 0 (cF w (nI mn) bm sm lt)) :: (w 2, zo 1 (stF zn co (nI ps) (nI dy) (gg))) :: (zn 0, zc G 1 (zI 9 (vI pl))) :: (zn 1, zc G 1 (zI 9 (vI nu))) :: (zn 2, zc G 1 (zI 5 (vI ax))) :: (zn 3, zc G 1 (zI 5 (vI le))) :: (zn 4, zc G 2 (zI 5 (vI kn))) :: (w 0, zc G 4 (zO 5 sf)) :: (sqX sq (aV A) i ++ rest)) s H locs := hw
        refine lv_aload_n hx hb dX0_as_26 rfl (lv_at hl 0 rfl) ?_
        refine z_get (v := .ref (w 0)) hC zf_X0_21_0 hw 1 rfl rfl dX0_as_27 ?_
        refine lv_iload_n hx hb dX0_as_30 rfl (lv_at hl 1 rfl) ?_
        refine z_aald (x := .ref (sq i)) (t := 4) hC hw 8 rfl (fun _ => rfl) (by omega) (by decide) (congrArg va_rf (hsf i hia)) dX0_as_31 ?_
        refine lv_iload_n hx hb dX0_as_32 rfl (lv_at hl 2 rfl) ?_
        rcases hk4 with rfl | rfl | rfl | rfl | rfl
        · skip
          have hl : lv_has ls 4 [(0, .ref co), (1, .int (nI i)), (2, .int (nI 3))] := hl
          have hw : zS G ((sq i, zo 5 (sqF (nI i) (nI nd))) :: (co, zo 0 (cF w (nI mn) bm sm lt)) :: (w 2, zo 1 (stF zn co (nI ps) (nI dy) (gg))) :: (zn 0, zc G 1 (zI 9 (vI pl))) :: (zn 1, zc G 1 (zI 9 (vI nu))) :: (zn 2, zc G 1 (zI 5 (vI ax))) :: (zn 3, zc G 1 (zI 5 (vI le))) :: (zn 4, zc G 2 (zI 5 (vI kn))) :: (w 0, zc G 4 (zO 5 sf)) :: (sqX sq (aV A) i ++ rest)) s H locs := hw
          refine z_ct (z_runST (As := [.ref (sq i), .int (nI 3)]) (rest := []) hC zs_X0_193 (m_X0_castTo_0_3 G l kA (by first | assumption | (omega)) (by first | assumption | (omega)) (by omega) (sq i) (nI i) (nI nd) (zrem [0] _)) (hw.perm (z_cut (is := [0]) (cells := [(sq i, zo 5 (sqF (nI i) (nI nd)))]) rfl rfl)) rfl rfl (Nat.le_of_ble_eq_true rfl) hl.1 ⟨Nat.le_of_ble_eq_true rfl, Nat.le_of_ble_eq_true rfl⟩ ⟨(Nat.le_of_ble_eq_true rfl), (Nat.le_of_ble_eq_true rfl)⟩ dX0_as_33) hw (fun q9 => z_keep (is := [0]) (cs := [(sq i, zo 5 (sqF (nI i) (nI nd)))]) rfl rfl) (fun q9 H locs ce9 hex => ?_)
          obtain ⟨hw, hx9⟩ := hex
          have hw : zS G ((sq i, zo 5 (sqF (nI i) (nI nd))) :: (co, zo 0 (cF w (nI mn) bm sm lt)) :: (w 2, zo 1 (stF zn co (nI ps) (nI dy) (gg))) :: (zn 0, zc G 1 (zI 9 (vI pl))) :: (zn 1, zc G 1 (zI 9 (vI nu))) :: (zn 2, zc G 1 (zI 5 (vI ax))) :: (zn 3, zc G 1 (zI 5 (vI le))) :: (zn 4, zc G 2 (zI 5 (vI kn))) :: (w 0, zc G 4 (zO 5 sf)) :: (sqX sq (aV A) i ++ rest)) s H locs := hw
          refine z_catch (ce := ce9) (hh := [(26, 39, 40, 197)]) (E := "java/lang/ClassCastException") hC htb (tableOf []) ⟨26, 39, 40, 197⟩ (tableOf []) rfl (fun z hz => nomatch hz) (by decide) (by decide) q888 (hz.1 _ (cw_t q908 rfl)) ⟨hw, hx9⟩ ?_
          show W p l e (zR 262 3 890) s m args below meth c H locs 3 890 Q (F0 m 40 ls [.ref q9])
          refine lv_astore_n (lv' := [(3, .ref q9), (0, .ref co), (1, .int (nI i)), (2, .int (nI 3))]) hx hb dX0_as_40 rfl hl (by decide) rfl (fun ls hl => ?_)
          refine lv_bipush (v := (-4)) hx hb dX0_as_41 zb_m4 ?_
          have hw : zS G ((co, zo 0 (cF w (nI mn) bm sm lt)) :: (w 2, zo 1 (stF zn co (nI ps) (nI dy) (gg))) :: (zn 0, zc G 1 (zI 9 (vI pl))) :: (zn 1, zc G 1 (zI 9 (vI nu))) :: (zn 2, zc G 1 (zI 5 (vI ax))) :: (zn 3, zc G 1 (zI 5 (vI le))) :: (zn 4, zc G 2 (zI 5 (vI kn))) :: (w 0, zc G 4 (zO 5 sf)) :: (sqW sq (aV A) ++ rest)) s H locs := hw.perm (by rw [← show sqC sq (aV A) i = (sq i, zo 5 (sqF (nI i) (nI nd))) from by unfold sqC; rw [← hkd, ← hnd]]; exact (sq_get (E := [(co, zo 0 (cF w (nI mn) bm sm lt)), (w 2, zo 1 (stF zn co (nI ps) (nI dy) (gg))), (zn 0, zc G 1 (zI 9 (vI pl))), (zn 1, zc G 1 (zI 9 (vI nu))), (zn 2, zc G 1 (zI 5 (vI ax))), (zn 3, zc G 1 (zI 5 (vI le))), (zn 4, zc G 2 (zI 5 (vI kn))), (w 0, zc G 4 (zO 5 sf))]) hia).symm)
          exact hend _ _ _ _ _ _ _ () hw (by unfold F_as; rw [ifP_t ⟨i, hia, rfl⟩, ifP_t ⟨3, by decide, by decide, rfl⟩, cl_nI (show i < 2147483648 by omega), cl_nI (show (3 : Nat) < 2147483648 by decide), ← hkd, ifP_f (by unfold castN; decide)]) (Nat.le_of_ble_eq_true rfl) (Nat.le_of_ble_eq_true rfl) dX0_as_43
        · skip
          have hl : lv_has ls 4 [(0, .ref co), (1, .int (nI i)), (2, .int (nI 3))] := hl
          have hw : zS G ((sq i, zo 6 (sqF (nI i) (nI nd))) :: (co, zo 0 (cF w (nI mn) bm sm lt)) :: (w 2, zo 1 (stF zn co (nI ps) (nI dy) (gg))) :: (zn 0, zc G 1 (zI 9 (vI pl))) :: (zn 1, zc G 1 (zI 9 (vI nu))) :: (zn 2, zc G 1 (zI 5 (vI ax))) :: (zn 3, zc G 1 (zI 5 (vI le))) :: (zn 4, zc G 2 (zI 5 (vI kn))) :: (w 0, zc G 4 (zO 5 sf)) :: (sqX sq (aV A) i ++ rest)) s H locs := hw
          refine z_ct (z_runST (As := [.ref (sq i), .int (nI 3)]) (rest := []) hC zs_X0_193 (m_X0_castTo_1_3 G l kA (by first | assumption | (omega)) (by first | assumption | (omega)) (by omega) (sq i) (nI i) (nI nd) (zrem [0] _)) (hw.perm (z_cut (is := [0]) (cells := [(sq i, zo 6 (sqF (nI i) (nI nd)))]) rfl rfl)) rfl rfl (Nat.le_of_ble_eq_true rfl) hl.1 ⟨Nat.le_of_ble_eq_true rfl, Nat.le_of_ble_eq_true rfl⟩ ⟨(Nat.le_of_ble_eq_true rfl), (Nat.le_of_ble_eq_true rfl)⟩ dX0_as_33) hw (fun q9 => z_keep (is := [0]) (cs := [(sq i, zo 6 (sqF (nI i) (nI nd)))]) rfl rfl) (fun q9 H locs ce9 hex => ?_)
          obtain ⟨hw, hx9⟩ := hex
          have hw : zS G ((sq i, zo 6 (sqF (nI i) (nI nd))) :: (co, zo 0 (cF w (nI mn) bm sm lt)) :: (w 2, zo 1 (stF zn co (nI ps) (nI dy) (gg))) :: (zn 0, zc G 1 (zI 9 (vI pl))) :: (zn 1, zc G 1 (zI 9 (vI nu))) :: (zn 2, zc G 1 (zI 5 (vI ax))) :: (zn 3, zc G 1 (zI 5 (vI le))) :: (zn 4, zc G 2 (zI 5 (vI kn))) :: (w 0, zc G 4 (zO 5 sf)) :: (sqX sq (aV A) i ++ rest)) s H locs := hw
          refine z_catch (ce := ce9) (hh := [(26, 39, 40, 197)]) (E := "java/lang/ClassCastException") hC htb (tableOf []) ⟨26, 39, 40, 197⟩ (tableOf []) rfl (fun z hz => nomatch hz) (by decide) (by decide) q888 (hz.1 _ (cw_t q908 rfl)) ⟨hw, hx9⟩ ?_
          show W p l e (zR 262 3 890) s m args below meth c H locs 3 890 Q (F0 m 40 ls [.ref q9])
          refine lv_astore_n (lv' := [(3, .ref q9), (0, .ref co), (1, .int (nI i)), (2, .int (nI 3))]) hx hb dX0_as_40 rfl hl (by decide) rfl (fun ls hl => ?_)
          refine lv_bipush (v := (-4)) hx hb dX0_as_41 zb_m4 ?_
          have hw : zS G ((co, zo 0 (cF w (nI mn) bm sm lt)) :: (w 2, zo 1 (stF zn co (nI ps) (nI dy) (gg))) :: (zn 0, zc G 1 (zI 9 (vI pl))) :: (zn 1, zc G 1 (zI 9 (vI nu))) :: (zn 2, zc G 1 (zI 5 (vI ax))) :: (zn 3, zc G 1 (zI 5 (vI le))) :: (zn 4, zc G 2 (zI 5 (vI kn))) :: (w 0, zc G 4 (zO 5 sf)) :: (sqW sq (aV A) ++ rest)) s H locs := hw.perm (by rw [← show sqC sq (aV A) i = (sq i, zo 6 (sqF (nI i) (nI nd))) from by unfold sqC; rw [← hkd, ← hnd]]; exact (sq_get (E := [(co, zo 0 (cF w (nI mn) bm sm lt)), (w 2, zo 1 (stF zn co (nI ps) (nI dy) (gg))), (zn 0, zc G 1 (zI 9 (vI pl))), (zn 1, zc G 1 (zI 9 (vI nu))), (zn 2, zc G 1 (zI 5 (vI ax))), (zn 3, zc G 1 (zI 5 (vI le))), (zn 4, zc G 2 (zI 5 (vI kn))), (w 0, zc G 4 (zO 5 sf))]) hia).symm)
          exact hend _ _ _ _ _ _ _ () hw (by unfold F_as; rw [ifP_t ⟨i, hia, rfl⟩, ifP_t ⟨3, by decide, by decide, rfl⟩, cl_nI (show i < 2147483648 by omega), cl_nI (show (3 : Nat) < 2147483648 by decide), ← hkd, ifP_f (by unfold castN; decide)]) (Nat.le_of_ble_eq_true rfl) (Nat.le_of_ble_eq_true rfl) dX0_as_43
        · skip
          have hl : lv_has ls 4 [(0, .ref co), (1, .int (nI i)), (2, .int (nI 3))] := hl
          have hw : zS G ((sq i, zo 7 (sqF (nI i) (nI nd))) :: (co, zo 0 (cF w (nI mn) bm sm lt)) :: (w 2, zo 1 (stF zn co (nI ps) (nI dy) (gg))) :: (zn 0, zc G 1 (zI 9 (vI pl))) :: (zn 1, zc G 1 (zI 9 (vI nu))) :: (zn 2, zc G 1 (zI 5 (vI ax))) :: (zn 3, zc G 1 (zI 5 (vI le))) :: (zn 4, zc G 2 (zI 5 (vI kn))) :: (w 0, zc G 4 (zO 5 sf)) :: (sqX sq (aV A) i ++ rest)) s H locs := hw
          refine z_cq (z_runS (As := [.ref (sq i), .int (nI 3)]) (rest := []) hC zs_X0_193 (m_X0_castTo_2_3 G l kA (by first | assumption | (omega)) (sq i) (nI i) (nI nd) (zrem [0] _)) (hw.perm (z_cut (is := [0]) (cells := [(sq i, zo 7 (sqF (nI i) (nI nd)))]) rfl rfl)) rfl rfl (Nat.le_of_ble_eq_true rfl) hl.1 ⟨Nat.le_of_ble_eq_true rfl, Nat.le_of_ble_eq_true rfl⟩ ⟨(Nat.le_of_ble_eq_true rfl), (Nat.le_of_ble_eq_true rfl)⟩ dX0_as_33) hw (fun _ => z_keep (is := [0]) (cs := [(sq i, zo 7 (sqF (nI i) (nI nd)))]) rfl rfl) (fun r u H locs hp hw => ?_)
          obtain rfl : r = some (sq i) := hp
          refine z_ci (z_runB (x := (⟨"NutCaches$Squirrel", "wants", "()I"⟩ : MethodName)) (owner := "NutCaches$Squirrel") (C := "NutCaches$Neat") (n := 0) (As := []) (rest := []) hC ⟨zn_X5_wants, q862, q866, ⟨by decide +kernel, by decide +kernel⟩, by decide +kernel⟩ (hC.hts _ q861) (hC.hts _ q863) (z_declO hC q862 q869) (m_X5_wants_2 G l kA (by first | assumption | (omega)) (sq i) nd (nI i) (zrem [0] _)) hw (hw.perm (z_cut (is := [0]) (cells := [(sq i, zo 7 (sqF (nI i) (nI nd)))]) rfl rfl)) 0 rfl rfl rfl rfl rfl (Nat.le_of_ble_eq_true rfl) hl.1 ⟨Nat.le_of_ble_eq_true rfl, Nat.le_of_ble_eq_true rfl⟩ ⟨(Nat.le_of_ble_eq_true rfl), (Nat.le_of_ble_eq_true rfl)⟩ dX0_as_36) hw (fun _ => z_keep (is := [0]) (cs := [(sq i, zo 7 (sqF (nI i) (nI nd)))]) rfl rfl) (fun r u H locs hp hw => ?_)
          obtain rfl : r = nI nd := hp
          have hw : zS G ((co, zo 0 (cF w (nI mn) bm sm lt)) :: (w 2, zo 1 (stF zn co (nI ps) (nI dy) (gg))) :: (zn 0, zc G 1 (zI 9 (vI pl))) :: (zn 1, zc G 1 (zI 9 (vI nu))) :: (zn 2, zc G 1 (zI 5 (vI ax))) :: (zn 3, zc G 1 (zI 5 (vI le))) :: (zn 4, zc G 2 (zI 5 (vI kn))) :: (w 0, zc G 4 (zO 5 sf)) :: (sqW sq (aV A) ++ rest)) s H locs := hw.perm (by rw [← show sqC sq (aV A) i = (sq i, zo 7 (sqF (nI i) (nI nd))) from by unfold sqC; rw [← hkd, ← hnd]]; exact (sq_get (E := [(co, zo 0 (cF w (nI mn) bm sm lt)), (w 2, zo 1 (stF zn co (nI ps) (nI dy) (gg))), (zn 0, zc G 1 (zI 9 (vI pl))), (zn 1, zc G 1 (zI 9 (vI nu))), (zn 2, zc G 1 (zI 5 (vI ax))), (zn 3, zc G 1 (zI 5 (vI le))), (zn 4, zc G 2 (zI 5 (vI kn))), (w 0, zc G 4 (zO 5 sf))]) hia).symm)
          exact hend _ _ _ _ _ _ _ () hw (by unfold F_as; rw [ifP_t ⟨i, hia, rfl⟩, ifP_t ⟨3, by decide, by decide, rfl⟩, cl_nI (show i < 2147483648 by omega), cl_nI (show (3 : Nat) < 2147483648 by decide), ← hkd, ifP_t (by unfold castN; decide), ← hnd]; first | rfl | exact congrArg nI (Nat.add_comm _ _)) (Nat.le_of_ble_eq_true rfl) (Nat.le_of_ble_eq_true rfl) dX0_as_39
        · skip
          have hl : lv_has ls 4 [(0, .ref co), (1, .int (nI i)), (2, .int (nI 3))] := hl
          have hw : zS G ((sq i, zo 8 (sqF (nI i) (nI nd))) :: (co, zo 0 (cF w (nI mn) bm sm lt)) :: (w 2, zo 1 (stF zn co (nI ps) (nI dy) (gg))) :: (zn 0, zc G 1 (zI 9 (vI pl))) :: (zn 1, zc G 1 (zI 9 (vI nu))) :: (zn 2, zc G 1 (zI 5 (vI ax))) :: (zn 3, zc G 1 (zI 5 (vI le))) :: (zn 4, zc G 2 (zI 5 (vI kn))) :: (w 0, zc G 4 (zO 5 sf)) :: (sqX sq (aV A) i ++ rest)) s H locs := hw
          refine z_ct (z_runST (As := [.ref (sq i), .int (nI 3)]) (rest := []) hC zs_X0_193 (m_X0_castTo_3_3 G l kA (by first | assumption | (omega)) (by first | assumption | (omega)) (by omega) (sq i) (nI i) (nI nd) (zrem [0] _)) (hw.perm (z_cut (is := [0]) (cells := [(sq i, zo 8 (sqF (nI i) (nI nd)))]) rfl rfl)) rfl rfl (Nat.le_of_ble_eq_true rfl) hl.1 ⟨Nat.le_of_ble_eq_true rfl, Nat.le_of_ble_eq_true rfl⟩ ⟨(Nat.le_of_ble_eq_true rfl), (Nat.le_of_ble_eq_true rfl)⟩ dX0_as_33) hw (fun q9 => z_keep (is := [0]) (cs := [(sq i, zo 8 (sqF (nI i) (nI nd)))]) rfl rfl) (fun q9 H locs ce9 hex => ?_)
          obtain ⟨hw, hx9⟩ := hex
          have hw : zS G ((sq i, zo 8 (sqF (nI i) (nI nd))) :: (co, zo 0 (cF w (nI mn) bm sm lt)) :: (w 2, zo 1 (stF zn co (nI ps) (nI dy) (gg))) :: (zn 0, zc G 1 (zI 9 (vI pl))) :: (zn 1, zc G 1 (zI 9 (vI nu))) :: (zn 2, zc G 1 (zI 5 (vI ax))) :: (zn 3, zc G 1 (zI 5 (vI le))) :: (zn 4, zc G 2 (zI 5 (vI kn))) :: (w 0, zc G 4 (zO 5 sf)) :: (sqX sq (aV A) i ++ rest)) s H locs := hw
          refine z_catch (ce := ce9) (hh := [(26, 39, 40, 197)]) (E := "java/lang/ClassCastException") hC htb (tableOf []) ⟨26, 39, 40, 197⟩ (tableOf []) rfl (fun z hz => nomatch hz) (by decide) (by decide) q888 (hz.1 _ (cw_t q908 rfl)) ⟨hw, hx9⟩ ?_
          show W p l e (zR 262 3 890) s m args below meth c H locs 3 890 Q (F0 m 40 ls [.ref q9])
          refine lv_astore_n (lv' := [(3, .ref q9), (0, .ref co), (1, .int (nI i)), (2, .int (nI 3))]) hx hb dX0_as_40 rfl hl (by decide) rfl (fun ls hl => ?_)
          refine lv_bipush (v := (-4)) hx hb dX0_as_41 zb_m4 ?_
          have hw : zS G ((co, zo 0 (cF w (nI mn) bm sm lt)) :: (w 2, zo 1 (stF zn co (nI ps) (nI dy) (gg))) :: (zn 0, zc G 1 (zI 9 (vI pl))) :: (zn 1, zc G 1 (zI 9 (vI nu))) :: (zn 2, zc G 1 (zI 5 (vI ax))) :: (zn 3, zc G 1 (zI 5 (vI le))) :: (zn 4, zc G 2 (zI 5 (vI kn))) :: (w 0, zc G 4 (zO 5 sf)) :: (sqW sq (aV A) ++ rest)) s H locs := hw.perm (by rw [← show sqC sq (aV A) i = (sq i, zo 8 (sqF (nI i) (nI nd))) from by unfold sqC; rw [← hkd, ← hnd]]; exact (sq_get (E := [(co, zo 0 (cF w (nI mn) bm sm lt)), (w 2, zo 1 (stF zn co (nI ps) (nI dy) (gg))), (zn 0, zc G 1 (zI 9 (vI pl))), (zn 1, zc G 1 (zI 9 (vI nu))), (zn 2, zc G 1 (zI 5 (vI ax))), (zn 3, zc G 1 (zI 5 (vI le))), (zn 4, zc G 2 (zI 5 (vI kn))), (w 0, zc G 4 (zO 5 sf))]) hia).symm)
          exact hend _ _ _ _ _ _ _ () hw (by unfold F_as; rw [ifP_t ⟨i, hia, rfl⟩, ifP_t ⟨3, by decide, by decide, rfl⟩, cl_nI (show i < 2147483648 by omega), cl_nI (show (3 : Nat) < 2147483648 by decide), ← hkd, ifP_f (by unfold castN; decide)]) (Nat.le_of_ble_eq_true rfl) (Nat.le_of_ble_eq_true rfl) dX0_as_43
        · skip
          have hl : lv_has ls 4 [(0, .ref co), (1, .int (nI i)), (2, .int (nI 3))] := hl
          have hw : zS G ((sq i, zo 9 (sqF (nI i) (nI nd))) :: (co, zo 0 (cF w (nI mn) bm sm lt)) :: (w 2, zo 1 (stF zn co (nI ps) (nI dy) (gg))) :: (zn 0, zc G 1 (zI 9 (vI pl))) :: (zn 1, zc G 1 (zI 9 (vI nu))) :: (zn 2, zc G 1 (zI 5 (vI ax))) :: (zn 3, zc G 1 (zI 5 (vI le))) :: (zn 4, zc G 2 (zI 5 (vI kn))) :: (w 0, zc G 4 (zO 5 sf)) :: (sqX sq (aV A) i ++ rest)) s H locs := hw
          refine z_ct (z_runST (As := [.ref (sq i), .int (nI 3)]) (rest := []) hC zs_X0_193 (m_X0_castTo_4_3 G l kA (by first | assumption | (omega)) (by first | assumption | (omega)) (by omega) (sq i) (nI i) (nI nd) (zrem [0] _)) (hw.perm (z_cut (is := [0]) (cells := [(sq i, zo 9 (sqF (nI i) (nI nd)))]) rfl rfl)) rfl rfl (Nat.le_of_ble_eq_true rfl) hl.1 ⟨Nat.le_of_ble_eq_true rfl, Nat.le_of_ble_eq_true rfl⟩ ⟨(Nat.le_of_ble_eq_true rfl), (Nat.le_of_ble_eq_true rfl)⟩ dX0_as_33) hw (fun q9 => z_keep (is := [0]) (cs := [(sq i, zo 9 (sqF (nI i) (nI nd)))]) rfl rfl) (fun q9 H locs ce9 hex => ?_)
          obtain ⟨hw, hx9⟩ := hex
          have hw : zS G ((sq i, zo 9 (sqF (nI i) (nI nd))) :: (co, zo 0 (cF w (nI mn) bm sm lt)) :: (w 2, zo 1 (stF zn co (nI ps) (nI dy) (gg))) :: (zn 0, zc G 1 (zI 9 (vI pl))) :: (zn 1, zc G 1 (zI 9 (vI nu))) :: (zn 2, zc G 1 (zI 5 (vI ax))) :: (zn 3, zc G 1 (zI 5 (vI le))) :: (zn 4, zc G 2 (zI 5 (vI kn))) :: (w 0, zc G 4 (zO 5 sf)) :: (sqX sq (aV A) i ++ rest)) s H locs := hw
          refine z_catch (ce := ce9) (hh := [(26, 39, 40, 197)]) (E := "java/lang/ClassCastException") hC htb (tableOf []) ⟨26, 39, 40, 197⟩ (tableOf []) rfl (fun z hz => nomatch hz) (by decide) (by decide) q888 (hz.1 _ (cw_t q908 rfl)) ⟨hw, hx9⟩ ?_
          show W p l e (zR 262 3 890) s m args below meth c H locs 3 890 Q (F0 m 40 ls [.ref q9])
          refine lv_astore_n (lv' := [(3, .ref q9), (0, .ref co), (1, .int (nI i)), (2, .int (nI 3))]) hx hb dX0_as_40 rfl hl (by decide) rfl (fun ls hl => ?_)
          refine lv_bipush (v := (-4)) hx hb dX0_as_41 zb_m4 ?_
          have hw : zS G ((co, zo 0 (cF w (nI mn) bm sm lt)) :: (w 2, zo 1 (stF zn co (nI ps) (nI dy) (gg))) :: (zn 0, zc G 1 (zI 9 (vI pl))) :: (zn 1, zc G 1 (zI 9 (vI nu))) :: (zn 2, zc G 1 (zI 5 (vI ax))) :: (zn 3, zc G 1 (zI 5 (vI le))) :: (zn 4, zc G 2 (zI 5 (vI kn))) :: (w 0, zc G 4 (zO 5 sf)) :: (sqW sq (aV A) ++ rest)) s H locs := hw.perm (by rw [← show sqC sq (aV A) i = (sq i, zo 9 (sqF (nI i) (nI nd))) from by unfold sqC; rw [← hkd, ← hnd]]; exact (sq_get (E := [(co, zo 0 (cF w (nI mn) bm sm lt)), (w 2, zo 1 (stF zn co (nI ps) (nI dy) (gg))), (zn 0, zc G 1 (zI 9 (vI pl))), (zn 1, zc G 1 (zI 9 (vI nu))), (zn 2, zc G 1 (zI 5 (vI ax))), (zn 3, zc G 1 (zI 5 (vI le))), (zn 4, zc G 2 (zI 5 (vI kn))), (w 0, zc G 4 (zO 5 sf))]) hia).symm)
          exact hend _ _ _ _ _ _ _ () hw (by unfold F_as; rw [ifP_t ⟨i, hia, rfl⟩, ifP_t ⟨3, by decide, by decide, rfl⟩, cl_nI (show i < 2147483648 by omega), cl_nI (show (3 : Nat) < 2147483648 by decide), ← hkd, ifP_f (by unfold castN; decide)]) (Nat.le_of_ble_eq_true rfl) (Nat.le_of_ble_eq_true rfl) dX0_as_43
      · skip
        have hl : lv_has ls 4 [(0, .ref co), (1, .int (nI i)), (2, .int (nI 4))] := hl
        have hl : lv_has ls 4 [(0, .ref co), (1, .int (nI i)), (2, .int (nI 4))] := hl
        have hw : zS G ((sq i, zo (5 + kd) (sqF (nI i) (nI nd))) :: (co, zo 0 (cF w (nI mn) bm sm lt)) :: (w 2, zo 1 (stF zn co (nI ps) (nI dy) (gg))) :: (zn 0, zc G 1 (zI 9 (vI pl))) :: (zn 1, zc G 1 (zI 9 (vI nu))) :: (zn 2, zc G 1 (zI 5 (vI ax))) :: (zn 3, zc G 1 (zI 5 (vI le))) :: (zn 4, zc G 2 (zI 5 (vI kn))) :: (w 0, zc G 4 (zO 5 sf)) :: (sqX sq (aV A) i ++ rest)) s H locs := hw
        refine lv_aload_n hx hb dX0_as_26 rfl (lv_at hl 0 rfl) ?_
        refine z_get (v := .ref (w 0)) hC zf_X0_21_0 hw 1 rfl rfl dX0_as_27 ?_
        refine lv_iload_n hx hb dX0_as_30 rfl (lv_at hl 1 rfl) ?_
        refine z_aald (x := .ref (sq i)) (t := 4) hC hw 8 rfl (fun _ => rfl) (by omega) (by decide) (congrArg va_rf (hsf i hia)) dX0_as_31 ?_
        refine lv_iload_n hx hb dX0_as_32 rfl (lv_at hl 2 rfl) ?_
        rcases hk4 with rfl | rfl | rfl | rfl | rfl
        · skip
          have hl : lv_has ls 4 [(0, .ref co), (1, .int (nI i)), (2, .int (nI 4))] := hl
          have hw : zS G ((sq i, zo 5 (sqF (nI i) (nI nd))) :: (co, zo 0 (cF w (nI mn) bm sm lt)) :: (w 2, zo 1 (stF zn co (nI ps) (nI dy) (gg))) :: (zn 0, zc G 1 (zI 9 (vI pl))) :: (zn 1, zc G 1 (zI 9 (vI nu))) :: (zn 2, zc G 1 (zI 5 (vI ax))) :: (zn 3, zc G 1 (zI 5 (vI le))) :: (zn 4, zc G 2 (zI 5 (vI kn))) :: (w 0, zc G 4 (zO 5 sf)) :: (sqX sq (aV A) i ++ rest)) s H locs := hw
          refine z_ct (z_runST (As := [.ref (sq i), .int (nI 4)]) (rest := []) hC zs_X0_193 (m_X0_castTo_0_4 G l kA (by first | assumption | (omega)) (by first | assumption | (omega)) (by omega) (sq i) (nI i) (nI nd) (zrem [0] _)) (hw.perm (z_cut (is := [0]) (cells := [(sq i, zo 5 (sqF (nI i) (nI nd)))]) rfl rfl)) rfl rfl (Nat.le_of_ble_eq_true rfl) hl.1 ⟨Nat.le_of_ble_eq_true rfl, Nat.le_of_ble_eq_true rfl⟩ ⟨(Nat.le_of_ble_eq_true rfl), (Nat.le_of_ble_eq_true rfl)⟩ dX0_as_33) hw (fun q9 => z_keep (is := [0]) (cs := [(sq i, zo 5 (sqF (nI i) (nI nd)))]) rfl rfl) (fun q9 H locs ce9 hex => ?_)
          obtain ⟨hw, hx9⟩ := hex
          have hw : zS G ((sq i, zo 5 (sqF (nI i) (nI nd))) :: (co, zo 0 (cF w (nI mn) bm sm lt)) :: (w 2, zo 1 (stF zn co (nI ps) (nI dy) (gg))) :: (zn 0, zc G 1 (zI 9 (vI pl))) :: (zn 1, zc G 1 (zI 9 (vI nu))) :: (zn 2, zc G 1 (zI 5 (vI ax))) :: (zn 3, zc G 1 (zI 5 (vI le))) :: (zn 4, zc G 2 (zI 5 (vI kn))) :: (w 0, zc G 4 (zO 5 sf)) :: (sqX sq (aV A) i ++ rest)) s H locs := hw
          refine z_catch (ce := ce9) (hh := [(26, 39, 40, 197)]) (E := "java/lang/ClassCastException") hC htb (tableOf []) ⟨26, 39, 40, 197⟩ (tableOf []) rfl (fun z hz => nomatch hz) (by decide) (by decide) q888 (hz.1 _ (cw_t q908 rfl)) ⟨hw, hx9⟩ ?_
          show W p l e (zR 262 3 890) s m args below meth c H locs 3 890 Q (F0 m 40 ls [.ref q9])
          refine lv_astore_n (lv' := [(3, .ref q9), (0, .ref co), (1, .int (nI i)), (2, .int (nI 4))]) hx hb dX0_as_40 rfl hl (by decide) rfl (fun ls hl => ?_)
          refine lv_bipush (v := (-4)) hx hb dX0_as_41 zb_m4 ?_
          have hw : zS G ((co, zo 0 (cF w (nI mn) bm sm lt)) :: (w 2, zo 1 (stF zn co (nI ps) (nI dy) (gg))) :: (zn 0, zc G 1 (zI 9 (vI pl))) :: (zn 1, zc G 1 (zI 9 (vI nu))) :: (zn 2, zc G 1 (zI 5 (vI ax))) :: (zn 3, zc G 1 (zI 5 (vI le))) :: (zn 4, zc G 2 (zI 5 (vI kn))) :: (w 0, zc G 4 (zO 5 sf)) :: (sqW sq (aV A) ++ rest)) s H locs := hw.perm (by rw [← show sqC sq (aV A) i = (sq i, zo 5 (sqF (nI i) (nI nd))) from by unfold sqC; rw [← hkd, ← hnd]]; exact (sq_get (E := [(co, zo 0 (cF w (nI mn) bm sm lt)), (w 2, zo 1 (stF zn co (nI ps) (nI dy) (gg))), (zn 0, zc G 1 (zI 9 (vI pl))), (zn 1, zc G 1 (zI 9 (vI nu))), (zn 2, zc G 1 (zI 5 (vI ax))), (zn 3, zc G 1 (zI 5 (vI le))), (zn 4, zc G 2 (zI 5 (vI kn))), (w 0, zc G 4 (zO 5 sf))]) hia).symm)
          exact hend _ _ _ _ _ _ _ () hw (by unfold F_as; rw [ifP_t ⟨i, hia, rfl⟩, ifP_t ⟨4, by decide, by decide, rfl⟩, cl_nI (show i < 2147483648 by omega), cl_nI (show (4 : Nat) < 2147483648 by decide), ← hkd, ifP_f (by unfold castN; decide)]) (Nat.le_of_ble_eq_true rfl) (Nat.le_of_ble_eq_true rfl) dX0_as_43
        · skip
          have hl : lv_has ls 4 [(0, .ref co), (1, .int (nI i)), (2, .int (nI 4))] := hl
          have hw : zS G ((sq i, zo 6 (sqF (nI i) (nI nd))) :: (co, zo 0 (cF w (nI mn) bm sm lt)) :: (w 2, zo 1 (stF zn co (nI ps) (nI dy) (gg))) :: (zn 0, zc G 1 (zI 9 (vI pl))) :: (zn 1, zc G 1 (zI 9 (vI nu))) :: (zn 2, zc G 1 (zI 5 (vI ax))) :: (zn 3, zc G 1 (zI 5 (vI le))) :: (zn 4, zc G 2 (zI 5 (vI kn))) :: (w 0, zc G 4 (zO 5 sf)) :: (sqX sq (aV A) i ++ rest)) s H locs := hw
          refine z_ct (z_runST (As := [.ref (sq i), .int (nI 4)]) (rest := []) hC zs_X0_193 (m_X0_castTo_1_4 G l kA (by first | assumption | (omega)) (by first | assumption | (omega)) (by omega) (sq i) (nI i) (nI nd) (zrem [0] _)) (hw.perm (z_cut (is := [0]) (cells := [(sq i, zo 6 (sqF (nI i) (nI nd)))]) rfl rfl)) rfl rfl (Nat.le_of_ble_eq_true rfl) hl.1 ⟨Nat.le_of_ble_eq_true rfl, Nat.le_of_ble_eq_true rfl⟩ ⟨(Nat.le_of_ble_eq_true rfl), (Nat.le_of_ble_eq_true rfl)⟩ dX0_as_33) hw (fun q9 => z_keep (is := [0]) (cs := [(sq i, zo 6 (sqF (nI i) (nI nd)))]) rfl rfl) (fun q9 H locs ce9 hex => ?_)
          obtain ⟨hw, hx9⟩ := hex
          have hw : zS G ((sq i, zo 6 (sqF (nI i) (nI nd))) :: (co, zo 0 (cF w (nI mn) bm sm lt)) :: (w 2, zo 1 (stF zn co (nI ps) (nI dy) (gg))) :: (zn 0, zc G 1 (zI 9 (vI pl))) :: (zn 1, zc G 1 (zI 9 (vI nu))) :: (zn 2, zc G 1 (zI 5 (vI ax))) :: (zn 3, zc G 1 (zI 5 (vI le))) :: (zn 4, zc G 2 (zI 5 (vI kn))) :: (w 0, zc G 4 (zO 5 sf)) :: (sqX sq (aV A) i ++ rest)) s H locs := hw
          refine z_catch (ce := ce9) (hh := [(26, 39, 40, 197)]) (E := "java/lang/ClassCastException") hC htb (tableOf []) ⟨26, 39, 40, 197⟩ (tableOf []) rfl (fun z hz => nomatch hz) (by decide) (by decide) q888 (hz.1 _ (cw_t q908 rfl)) ⟨hw, hx9⟩ ?_
          show W p l e (zR 262 3 890) s m args below meth c H locs 3 890 Q (F0 m 40 ls [.ref q9])
          refine lv_astore_n (lv' := [(3, .ref q9), (0, .ref co), (1, .int (nI i)), (2, .int (nI 4))]) hx hb dX0_as_40 rfl hl (by decide) rfl (fun ls hl => ?_)
          refine lv_bipush (v := (-4)) hx hb dX0_as_41 zb_m4 ?_
          have hw : zS G ((co, zo 0 (cF w (nI mn) bm sm lt)) :: (w 2, zo 1 (stF zn co (nI ps) (nI dy) (gg))) :: (zn 0, zc G 1 (zI 9 (vI pl))) :: (zn 1, zc G 1 (zI 9 (vI nu))) :: (zn 2, zc G 1 (zI 5 (vI ax))) :: (zn 3, zc G 1 (zI 5 (vI le))) :: (zn 4, zc G 2 (zI 5 (vI kn))) :: (w 0, zc G 4 (zO 5 sf)) :: (sqW sq (aV A) ++ rest)) s H locs := hw.perm (by rw [← show sqC sq (aV A) i = (sq i, zo 6 (sqF (nI i) (nI nd))) from by unfold sqC; rw [← hkd, ← hnd]]; exact (sq_get (E := [(co, zo 0 (cF w (nI mn) bm sm lt)), (w 2, zo 1 (stF zn co (nI ps) (nI dy) (gg))), (zn 0, zc G 1 (zI 9 (vI pl))), (zn 1, zc G 1 (zI 9 (vI nu))), (zn 2, zc G 1 (zI 5 (vI ax))), (zn 3, zc G 1 (zI 5 (vI le))), (zn 4, zc G 2 (zI 5 (vI kn))), (w 0, zc G 4 (zO 5 sf))]) hia).symm)
          exact hend _ _ _ _ _ _ _ () hw (by unfold F_as; rw [ifP_t ⟨i, hia, rfl⟩, ifP_t ⟨4, by decide, by decide, rfl⟩, cl_nI (show i < 2147483648 by omega), cl_nI (show (4 : Nat) < 2147483648 by decide), ← hkd, ifP_f (by unfold castN; decide)]) (Nat.le_of_ble_eq_true rfl) (Nat.le_of_ble_eq_true rfl) dX0_as_43
        · skip
          have hl : lv_has ls 4 [(0, .ref co), (1, .int (nI i)), (2, .int (nI 4))] := hl
          have hw : zS G ((sq i, zo 7 (sqF (nI i) (nI nd))) :: (co, zo 0 (cF w (nI mn) bm sm lt)) :: (w 2, zo 1 (stF zn co (nI ps) (nI dy) (gg))) :: (zn 0, zc G 1 (zI 9 (vI pl))) :: (zn 1, zc G 1 (zI 9 (vI nu))) :: (zn 2, zc G 1 (zI 5 (vI ax))) :: (zn 3, zc G 1 (zI 5 (vI le))) :: (zn 4, zc G 2 (zI 5 (vI kn))) :: (w 0, zc G 4 (zO 5 sf)) :: (sqX sq (aV A) i ++ rest)) s H locs := hw
          refine z_ct (z_runST (As := [.ref (sq i), .int (nI 4)]) (rest := []) hC zs_X0_193 (m_X0_castTo_2_4 G l kA (by first | assumption | (omega)) (by first | assumption | (omega)) (by omega) (sq i) (nI i) (nI nd) (zrem [0] _)) (hw.perm (z_cut (is := [0]) (cells := [(sq i, zo 7 (sqF (nI i) (nI nd)))]) rfl rfl)) rfl rfl (Nat.le_of_ble_eq_true rfl) hl.1 ⟨Nat.le_of_ble_eq_true rfl, Nat.le_of_ble_eq_true rfl⟩ ⟨(Nat.le_of_ble_eq_true rfl), (Nat.le_of_ble_eq_true rfl)⟩ dX0_as_33) hw (fun q9 => z_keep (is := [0]) (cs := [(sq i, zo 7 (sqF (nI i) (nI nd)))]) rfl rfl) (fun q9 H locs ce9 hex => ?_)
          obtain ⟨hw, hx9⟩ := hex
          have hw : zS G ((sq i, zo 7 (sqF (nI i) (nI nd))) :: (co, zo 0 (cF w (nI mn) bm sm lt)) :: (w 2, zo 1 (stF zn co (nI ps) (nI dy) (gg))) :: (zn 0, zc G 1 (zI 9 (vI pl))) :: (zn 1, zc G 1 (zI 9 (vI nu))) :: (zn 2, zc G 1 (zI 5 (vI ax))) :: (zn 3, zc G 1 (zI 5 (vI le))) :: (zn 4, zc G 2 (zI 5 (vI kn))) :: (w 0, zc G 4 (zO 5 sf)) :: (sqX sq (aV A) i ++ rest)) s H locs := hw
          refine z_catch (ce := ce9) (hh := [(26, 39, 40, 197)]) (E := "java/lang/ClassCastException") hC htb (tableOf []) ⟨26, 39, 40, 197⟩ (tableOf []) rfl (fun z hz => nomatch hz) (by decide) (by decide) q888 (hz.1 _ (cw_t q908 rfl)) ⟨hw, hx9⟩ ?_
          show W p l e (zR 262 3 890) s m args below meth c H locs 3 890 Q (F0 m 40 ls [.ref q9])
          refine lv_astore_n (lv' := [(3, .ref q9), (0, .ref co), (1, .int (nI i)), (2, .int (nI 4))]) hx hb dX0_as_40 rfl hl (by decide) rfl (fun ls hl => ?_)
          refine lv_bipush (v := (-4)) hx hb dX0_as_41 zb_m4 ?_
          have hw : zS G ((co, zo 0 (cF w (nI mn) bm sm lt)) :: (w 2, zo 1 (stF zn co (nI ps) (nI dy) (gg))) :: (zn 0, zc G 1 (zI 9 (vI pl))) :: (zn 1, zc G 1 (zI 9 (vI nu))) :: (zn 2, zc G 1 (zI 5 (vI ax))) :: (zn 3, zc G 1 (zI 5 (vI le))) :: (zn 4, zc G 2 (zI 5 (vI kn))) :: (w 0, zc G 4 (zO 5 sf)) :: (sqW sq (aV A) ++ rest)) s H locs := hw.perm (by rw [← show sqC sq (aV A) i = (sq i, zo 7 (sqF (nI i) (nI nd))) from by unfold sqC; rw [← hkd, ← hnd]]; exact (sq_get (E := [(co, zo 0 (cF w (nI mn) bm sm lt)), (w 2, zo 1 (stF zn co (nI ps) (nI dy) (gg))), (zn 0, zc G 1 (zI 9 (vI pl))), (zn 1, zc G 1 (zI 9 (vI nu))), (zn 2, zc G 1 (zI 5 (vI ax))), (zn 3, zc G 1 (zI 5 (vI le))), (zn 4, zc G 2 (zI 5 (vI kn))), (w 0, zc G 4 (zO 5 sf))]) hia).symm)
          exact hend _ _ _ _ _ _ _ () hw (by unfold F_as; rw [ifP_t ⟨i, hia, rfl⟩, ifP_t ⟨4, by decide, by decide, rfl⟩, cl_nI (show i < 2147483648 by omega), cl_nI (show (4 : Nat) < 2147483648 by decide), ← hkd, ifP_f (by unfold castN; decide)]) (Nat.le_of_ble_eq_true rfl) (Nat.le_of_ble_eq_true rfl) dX0_as_43
        · skip
          have hl : lv_has ls 4 [(0, .ref co), (1, .int (nI i)), (2, .int (nI 4))] := hl
          have hw : zS G ((sq i, zo 8 (sqF (nI i) (nI nd))) :: (co, zo 0 (cF w (nI mn) bm sm lt)) :: (w 2, zo 1 (stF zn co (nI ps) (nI dy) (gg))) :: (zn 0, zc G 1 (zI 9 (vI pl))) :: (zn 1, zc G 1 (zI 9 (vI nu))) :: (zn 2, zc G 1 (zI 5 (vI ax))) :: (zn 3, zc G 1 (zI 5 (vI le))) :: (zn 4, zc G 2 (zI 5 (vI kn))) :: (w 0, zc G 4 (zO 5 sf)) :: (sqX sq (aV A) i ++ rest)) s H locs := hw
          refine z_cq (z_runS (As := [.ref (sq i), .int (nI 4)]) (rest := []) hC zs_X0_193 (m_X0_castTo_3_4 G l kA (by first | assumption | (omega)) (sq i) (nI i) (nI nd) (zrem [0] _)) (hw.perm (z_cut (is := [0]) (cells := [(sq i, zo 8 (sqF (nI i) (nI nd)))]) rfl rfl)) rfl rfl (Nat.le_of_ble_eq_true rfl) hl.1 ⟨Nat.le_of_ble_eq_true rfl, Nat.le_of_ble_eq_true rfl⟩ ⟨(Nat.le_of_ble_eq_true rfl), (Nat.le_of_ble_eq_true rfl)⟩ dX0_as_33) hw (fun _ => z_keep (is := [0]) (cs := [(sq i, zo 8 (sqF (nI i) (nI nd)))]) rfl rfl) (fun r u H locs hp hw => ?_)
          obtain rfl : r = some (sq i) := hp
          refine z_ci (z_runB (x := (⟨"NutCaches$Squirrel", "wants", "()I"⟩ : MethodName)) (owner := "NutCaches$Squirrel") (C := "NutCaches$Dozy") (n := 0) (As := []) (rest := []) hC ⟨zn_X5_wants, q862, q864, ⟨by decide +kernel, by decide +kernel⟩, by decide +kernel⟩ (hC.hts _ q861) (hC.hts _ q863) (z_declO hC q862 q869) (m_X5_wants_3 G l kA (by first | assumption | (omega)) (sq i) nd (nI i) (zrem [0] _)) hw (hw.perm (z_cut (is := [0]) (cells := [(sq i, zo 8 (sqF (nI i) (nI nd)))]) rfl rfl)) 0 rfl rfl rfl rfl rfl (Nat.le_of_ble_eq_true rfl) hl.1 ⟨Nat.le_of_ble_eq_true rfl, Nat.le_of_ble_eq_true rfl⟩ ⟨(Nat.le_of_ble_eq_true rfl), (Nat.le_of_ble_eq_true rfl)⟩ dX0_as_36) hw (fun _ => z_keep (is := [0]) (cs := [(sq i, zo 8 (sqF (nI i) (nI nd)))]) rfl rfl) (fun r u H locs hp hw => ?_)
          obtain rfl : r = nI (1 + nd) := hp
          have hw : zS G ((co, zo 0 (cF w (nI mn) bm sm lt)) :: (w 2, zo 1 (stF zn co (nI ps) (nI dy) (gg))) :: (zn 0, zc G 1 (zI 9 (vI pl))) :: (zn 1, zc G 1 (zI 9 (vI nu))) :: (zn 2, zc G 1 (zI 5 (vI ax))) :: (zn 3, zc G 1 (zI 5 (vI le))) :: (zn 4, zc G 2 (zI 5 (vI kn))) :: (w 0, zc G 4 (zO 5 sf)) :: (sqW sq (aV A) ++ rest)) s H locs := hw.perm (by rw [← show sqC sq (aV A) i = (sq i, zo 8 (sqF (nI i) (nI nd))) from by unfold sqC; rw [← hkd, ← hnd]]; exact (sq_get (E := [(co, zo 0 (cF w (nI mn) bm sm lt)), (w 2, zo 1 (stF zn co (nI ps) (nI dy) (gg))), (zn 0, zc G 1 (zI 9 (vI pl))), (zn 1, zc G 1 (zI 9 (vI nu))), (zn 2, zc G 1 (zI 5 (vI ax))), (zn 3, zc G 1 (zI 5 (vI le))), (zn 4, zc G 2 (zI 5 (vI kn))), (w 0, zc G 4 (zO 5 sf))]) hia).symm)
          exact hend _ _ _ _ _ _ _ () hw (by unfold F_as; rw [ifP_t ⟨i, hia, rfl⟩, ifP_t ⟨4, by decide, by decide, rfl⟩, cl_nI (show i < 2147483648 by omega), cl_nI (show (4 : Nat) < 2147483648 by decide), ← hkd, ifP_t (by unfold castN; decide), ← hnd]; first | rfl | exact congrArg nI (Nat.add_comm _ _)) (Nat.le_of_ble_eq_true rfl) (Nat.le_of_ble_eq_true rfl) dX0_as_39
        · skip
          have hl : lv_has ls 4 [(0, .ref co), (1, .int (nI i)), (2, .int (nI 4))] := hl
          have hw : zS G ((sq i, zo 9 (sqF (nI i) (nI nd))) :: (co, zo 0 (cF w (nI mn) bm sm lt)) :: (w 2, zo 1 (stF zn co (nI ps) (nI dy) (gg))) :: (zn 0, zc G 1 (zI 9 (vI pl))) :: (zn 1, zc G 1 (zI 9 (vI nu))) :: (zn 2, zc G 1 (zI 5 (vI ax))) :: (zn 3, zc G 1 (zI 5 (vI le))) :: (zn 4, zc G 2 (zI 5 (vI kn))) :: (w 0, zc G 4 (zO 5 sf)) :: (sqX sq (aV A) i ++ rest)) s H locs := hw
          refine z_cq (z_runS (As := [.ref (sq i), .int (nI 4)]) (rest := []) hC zs_X0_193 (m_X0_castTo_4_4 G l kA (by first | assumption | (omega)) (sq i) (nI i) (nI nd) (zrem [0] _)) (hw.perm (z_cut (is := [0]) (cells := [(sq i, zo 9 (sqF (nI i) (nI nd)))]) rfl rfl)) rfl rfl (Nat.le_of_ble_eq_true rfl) hl.1 ⟨Nat.le_of_ble_eq_true rfl, Nat.le_of_ble_eq_true rfl⟩ ⟨(Nat.le_of_ble_eq_true rfl), (Nat.le_of_ble_eq_true rfl)⟩ dX0_as_33) hw (fun _ => z_keep (is := [0]) (cs := [(sq i, zo 9 (sqF (nI i) (nI nd)))]) rfl rfl) (fun r u H locs hp hw => ?_)
          obtain rfl : r = some (sq i) := hp
          refine z_ci (z_runB (x := (⟨"NutCaches$Squirrel", "wants", "()I"⟩ : MethodName)) (owner := "NutCaches$Squirrel") (C := "NutCaches$Spy") (n := 0) (As := []) (rest := []) hC ⟨zn_X5_wants, q862, q868, ⟨by decide +kernel, by decide +kernel⟩, by decide +kernel⟩ (hC.hts _ q861) (hC.hts _ q863) (z_declO hC q862 q869) (m_X5_wants_4 G l kA (by first | assumption | (omega)) (sq i) nd (nI i) (zrem [0] _)) hw (hw.perm (z_cut (is := [0]) (cells := [(sq i, zo 9 (sqF (nI i) (nI nd)))]) rfl rfl)) 0 rfl rfl rfl rfl rfl (Nat.le_of_ble_eq_true rfl) hl.1 ⟨Nat.le_of_ble_eq_true rfl, Nat.le_of_ble_eq_true rfl⟩ ⟨(Nat.le_of_ble_eq_true rfl), (Nat.le_of_ble_eq_true rfl)⟩ dX0_as_36) hw (fun _ => z_keep (is := [0]) (cs := [(sq i, zo 9 (sqF (nI i) (nI nd)))]) rfl rfl) (fun r u H locs hp hw => ?_)
          obtain rfl : r = nI (1 + nd) := hp
          have hw : zS G ((co, zo 0 (cF w (nI mn) bm sm lt)) :: (w 2, zo 1 (stF zn co (nI ps) (nI dy) (gg))) :: (zn 0, zc G 1 (zI 9 (vI pl))) :: (zn 1, zc G 1 (zI 9 (vI nu))) :: (zn 2, zc G 1 (zI 5 (vI ax))) :: (zn 3, zc G 1 (zI 5 (vI le))) :: (zn 4, zc G 2 (zI 5 (vI kn))) :: (w 0, zc G 4 (zO 5 sf)) :: (sqW sq (aV A) ++ rest)) s H locs := hw.perm (by rw [← show sqC sq (aV A) i = (sq i, zo 9 (sqF (nI i) (nI nd))) from by unfold sqC; rw [← hkd, ← hnd]]; exact (sq_get (E := [(co, zo 0 (cF w (nI mn) bm sm lt)), (w 2, zo 1 (stF zn co (nI ps) (nI dy) (gg))), (zn 0, zc G 1 (zI 9 (vI pl))), (zn 1, zc G 1 (zI 9 (vI nu))), (zn 2, zc G 1 (zI 5 (vI ax))), (zn 3, zc G 1 (zI 5 (vI le))), (zn 4, zc G 2 (zI 5 (vI kn))), (w 0, zc G 4 (zO 5 sf))]) hia).symm)
          exact hend _ _ _ _ _ _ _ () hw (by unfold F_as; rw [ifP_t ⟨i, hia, rfl⟩, ifP_t ⟨4, by decide, by decide, rfl⟩, cl_nI (show i < 2147483648 by omega), cl_nI (show (4 : Nat) < 2147483648 by decide), ← hkd, ifP_t (by unfold castN; decide), ← hnd]; first | rfl | exact congrArg nI (Nat.add_comm _ _)) (Nat.le_of_ble_eq_true rfl) (Nat.le_of_ble_eq_true rfl) dX0_as_39
      · skip
        have hl : lv_has ls 4 [(0, .ref co), (1, .int (nI i)), (2, .int (nI 5))] := hl
        have hl : lv_has ls 4 [(0, .ref co), (1, .int (nI i)), (2, .int (nI 5))] := hl
        have hw : zS G ((sq i, zo (5 + kd) (sqF (nI i) (nI nd))) :: (co, zo 0 (cF w (nI mn) bm sm lt)) :: (w 2, zo 1 (stF zn co (nI ps) (nI dy) (gg))) :: (zn 0, zc G 1 (zI 9 (vI pl))) :: (zn 1, zc G 1 (zI 9 (vI nu))) :: (zn 2, zc G 1 (zI 5 (vI ax))) :: (zn 3, zc G 1 (zI 5 (vI le))) :: (zn 4, zc G 2 (zI 5 (vI kn))) :: (w 0, zc G 4 (zO 5 sf)) :: (sqX sq (aV A) i ++ rest)) s H locs := hw
        refine lv_aload_n hx hb dX0_as_26 rfl (lv_at hl 0 rfl) ?_
        refine z_get (v := .ref (w 0)) hC zf_X0_21_0 hw 1 rfl rfl dX0_as_27 ?_
        refine lv_iload_n hx hb dX0_as_30 rfl (lv_at hl 1 rfl) ?_
        refine z_aald (x := .ref (sq i)) (t := 4) hC hw 8 rfl (fun _ => rfl) (by omega) (by decide) (congrArg va_rf (hsf i hia)) dX0_as_31 ?_
        refine lv_iload_n hx hb dX0_as_32 rfl (lv_at hl 2 rfl) ?_
        rcases hk4 with rfl | rfl | rfl | rfl | rfl
        · skip
          have hl : lv_has ls 4 [(0, .ref co), (1, .int (nI i)), (2, .int (nI 5))] := hl
          have hw : zS G ((sq i, zo 5 (sqF (nI i) (nI nd))) :: (co, zo 0 (cF w (nI mn) bm sm lt)) :: (w 2, zo 1 (stF zn co (nI ps) (nI dy) (gg))) :: (zn 0, zc G 1 (zI 9 (vI pl))) :: (zn 1, zc G 1 (zI 9 (vI nu))) :: (zn 2, zc G 1 (zI 5 (vI ax))) :: (zn 3, zc G 1 (zI 5 (vI le))) :: (zn 4, zc G 2 (zI 5 (vI kn))) :: (w 0, zc G 4 (zO 5 sf)) :: (sqX sq (aV A) i ++ rest)) s H locs := hw
          refine z_ct (z_runST (As := [.ref (sq i), .int (nI 5)]) (rest := []) hC zs_X0_193 (m_X0_castTo_0_5 G l kA (by first | assumption | (omega)) (by first | assumption | (omega)) (by omega) (sq i) (nI i) (nI nd) (zrem [0] _)) (hw.perm (z_cut (is := [0]) (cells := [(sq i, zo 5 (sqF (nI i) (nI nd)))]) rfl rfl)) rfl rfl (Nat.le_of_ble_eq_true rfl) hl.1 ⟨Nat.le_of_ble_eq_true rfl, Nat.le_of_ble_eq_true rfl⟩ ⟨(Nat.le_of_ble_eq_true rfl), (Nat.le_of_ble_eq_true rfl)⟩ dX0_as_33) hw (fun q9 => z_keep (is := [0]) (cs := [(sq i, zo 5 (sqF (nI i) (nI nd)))]) rfl rfl) (fun q9 H locs ce9 hex => ?_)
          obtain ⟨hw, hx9⟩ := hex
          have hw : zS G ((sq i, zo 5 (sqF (nI i) (nI nd))) :: (co, zo 0 (cF w (nI mn) bm sm lt)) :: (w 2, zo 1 (stF zn co (nI ps) (nI dy) (gg))) :: (zn 0, zc G 1 (zI 9 (vI pl))) :: (zn 1, zc G 1 (zI 9 (vI nu))) :: (zn 2, zc G 1 (zI 5 (vI ax))) :: (zn 3, zc G 1 (zI 5 (vI le))) :: (zn 4, zc G 2 (zI 5 (vI kn))) :: (w 0, zc G 4 (zO 5 sf)) :: (sqX sq (aV A) i ++ rest)) s H locs := hw
          refine z_catch (ce := ce9) (hh := [(26, 39, 40, 197)]) (E := "java/lang/ClassCastException") hC htb (tableOf []) ⟨26, 39, 40, 197⟩ (tableOf []) rfl (fun z hz => nomatch hz) (by decide) (by decide) q888 (hz.1 _ (cw_t q908 rfl)) ⟨hw, hx9⟩ ?_
          show W p l e (zR 262 3 890) s m args below meth c H locs 3 890 Q (F0 m 40 ls [.ref q9])
          refine lv_astore_n (lv' := [(3, .ref q9), (0, .ref co), (1, .int (nI i)), (2, .int (nI 5))]) hx hb dX0_as_40 rfl hl (by decide) rfl (fun ls hl => ?_)
          refine lv_bipush (v := (-4)) hx hb dX0_as_41 zb_m4 ?_
          have hw : zS G ((co, zo 0 (cF w (nI mn) bm sm lt)) :: (w 2, zo 1 (stF zn co (nI ps) (nI dy) (gg))) :: (zn 0, zc G 1 (zI 9 (vI pl))) :: (zn 1, zc G 1 (zI 9 (vI nu))) :: (zn 2, zc G 1 (zI 5 (vI ax))) :: (zn 3, zc G 1 (zI 5 (vI le))) :: (zn 4, zc G 2 (zI 5 (vI kn))) :: (w 0, zc G 4 (zO 5 sf)) :: (sqW sq (aV A) ++ rest)) s H locs := hw.perm (by rw [← show sqC sq (aV A) i = (sq i, zo 5 (sqF (nI i) (nI nd))) from by unfold sqC; rw [← hkd, ← hnd]]; exact (sq_get (E := [(co, zo 0 (cF w (nI mn) bm sm lt)), (w 2, zo 1 (stF zn co (nI ps) (nI dy) (gg))), (zn 0, zc G 1 (zI 9 (vI pl))), (zn 1, zc G 1 (zI 9 (vI nu))), (zn 2, zc G 1 (zI 5 (vI ax))), (zn 3, zc G 1 (zI 5 (vI le))), (zn 4, zc G 2 (zI 5 (vI kn))), (w 0, zc G 4 (zO 5 sf))]) hia).symm)
          exact hend _ _ _ _ _ _ _ () hw (by unfold F_as; rw [ifP_t ⟨i, hia, rfl⟩, ifP_t ⟨5, by decide, by decide, rfl⟩, cl_nI (show i < 2147483648 by omega), cl_nI (show (5 : Nat) < 2147483648 by decide), ← hkd, ifP_f (by unfold castN; decide)]) (Nat.le_of_ble_eq_true rfl) (Nat.le_of_ble_eq_true rfl) dX0_as_43
        · skip
          have hl : lv_has ls 4 [(0, .ref co), (1, .int (nI i)), (2, .int (nI 5))] := hl
          have hw : zS G ((sq i, zo 6 (sqF (nI i) (nI nd))) :: (co, zo 0 (cF w (nI mn) bm sm lt)) :: (w 2, zo 1 (stF zn co (nI ps) (nI dy) (gg))) :: (zn 0, zc G 1 (zI 9 (vI pl))) :: (zn 1, zc G 1 (zI 9 (vI nu))) :: (zn 2, zc G 1 (zI 5 (vI ax))) :: (zn 3, zc G 1 (zI 5 (vI le))) :: (zn 4, zc G 2 (zI 5 (vI kn))) :: (w 0, zc G 4 (zO 5 sf)) :: (sqX sq (aV A) i ++ rest)) s H locs := hw
          refine z_ct (z_runST (As := [.ref (sq i), .int (nI 5)]) (rest := []) hC zs_X0_193 (m_X0_castTo_1_5 G l kA (by first | assumption | (omega)) (by first | assumption | (omega)) (by omega) (sq i) (nI i) (nI nd) (zrem [0] _)) (hw.perm (z_cut (is := [0]) (cells := [(sq i, zo 6 (sqF (nI i) (nI nd)))]) rfl rfl)) rfl rfl (Nat.le_of_ble_eq_true rfl) hl.1 ⟨Nat.le_of_ble_eq_true rfl, Nat.le_of_ble_eq_true rfl⟩ ⟨(Nat.le_of_ble_eq_true rfl), (Nat.le_of_ble_eq_true rfl)⟩ dX0_as_33) hw (fun q9 => z_keep (is := [0]) (cs := [(sq i, zo 6 (sqF (nI i) (nI nd)))]) rfl rfl) (fun q9 H locs ce9 hex => ?_)
          obtain ⟨hw, hx9⟩ := hex
          have hw : zS G ((sq i, zo 6 (sqF (nI i) (nI nd))) :: (co, zo 0 (cF w (nI mn) bm sm lt)) :: (w 2, zo 1 (stF zn co (nI ps) (nI dy) (gg))) :: (zn 0, zc G 1 (zI 9 (vI pl))) :: (zn 1, zc G 1 (zI 9 (vI nu))) :: (zn 2, zc G 1 (zI 5 (vI ax))) :: (zn 3, zc G 1 (zI 5 (vI le))) :: (zn 4, zc G 2 (zI 5 (vI kn))) :: (w 0, zc G 4 (zO 5 sf)) :: (sqX sq (aV A) i ++ rest)) s H locs := hw
          refine z_catch (ce := ce9) (hh := [(26, 39, 40, 197)]) (E := "java/lang/ClassCastException") hC htb (tableOf []) ⟨26, 39, 40, 197⟩ (tableOf []) rfl (fun z hz => nomatch hz) (by decide) (by decide) q888 (hz.1 _ (cw_t q908 rfl)) ⟨hw, hx9⟩ ?_
          show W p l e (zR 262 3 890) s m args below meth c H locs 3 890 Q (F0 m 40 ls [.ref q9])
          refine lv_astore_n (lv' := [(3, .ref q9), (0, .ref co), (1, .int (nI i)), (2, .int (nI 5))]) hx hb dX0_as_40 rfl hl (by decide) rfl (fun ls hl => ?_)
          refine lv_bipush (v := (-4)) hx hb dX0_as_41 zb_m4 ?_
          have hw : zS G ((co, zo 0 (cF w (nI mn) bm sm lt)) :: (w 2, zo 1 (stF zn co (nI ps) (nI dy) (gg))) :: (zn 0, zc G 1 (zI 9 (vI pl))) :: (zn 1, zc G 1 (zI 9 (vI nu))) :: (zn 2, zc G 1 (zI 5 (vI ax))) :: (zn 3, zc G 1 (zI 5 (vI le))) :: (zn 4, zc G 2 (zI 5 (vI kn))) :: (w 0, zc G 4 (zO 5 sf)) :: (sqW sq (aV A) ++ rest)) s H locs := hw.perm (by rw [← show sqC sq (aV A) i = (sq i, zo 6 (sqF (nI i) (nI nd))) from by unfold sqC; rw [← hkd, ← hnd]]; exact (sq_get (E := [(co, zo 0 (cF w (nI mn) bm sm lt)), (w 2, zo 1 (stF zn co (nI ps) (nI dy) (gg))), (zn 0, zc G 1 (zI 9 (vI pl))), (zn 1, zc G 1 (zI 9 (vI nu))), (zn 2, zc G 1 (zI 5 (vI ax))), (zn 3, zc G 1 (zI 5 (vI le))), (zn 4, zc G 2 (zI 5 (vI kn))), (w 0, zc G 4 (zO 5 sf))]) hia).symm)
          exact hend _ _ _ _ _ _ _ () hw (by unfold F_as; rw [ifP_t ⟨i, hia, rfl⟩, ifP_t ⟨5, by decide, by decide, rfl⟩, cl_nI (show i < 2147483648 by omega), cl_nI (show (5 : Nat) < 2147483648 by decide), ← hkd, ifP_f (by unfold castN; decide)]) (Nat.le_of_ble_eq_true rfl) (Nat.le_of_ble_eq_true rfl) dX0_as_43
        · skip
          have hl : lv_has ls 4 [(0, .ref co), (1, .int (nI i)), (2, .int (nI 5))] := hl
          have hw : zS G ((sq i, zo 7 (sqF (nI i) (nI nd))) :: (co, zo 0 (cF w (nI mn) bm sm lt)) :: (w 2, zo 1 (stF zn co (nI ps) (nI dy) (gg))) :: (zn 0, zc G 1 (zI 9 (vI pl))) :: (zn 1, zc G 1 (zI 9 (vI nu))) :: (zn 2, zc G 1 (zI 5 (vI ax))) :: (zn 3, zc G 1 (zI 5 (vI le))) :: (zn 4, zc G 2 (zI 5 (vI kn))) :: (w 0, zc G 4 (zO 5 sf)) :: (sqX sq (aV A) i ++ rest)) s H locs := hw
          refine z_ct (z_runST (As := [.ref (sq i), .int (nI 5)]) (rest := []) hC zs_X0_193 (m_X0_castTo_2_5 G l kA (by first | assumption | (omega)) (by first | assumption | (omega)) (by omega) (sq i) (nI i) (nI nd) (zrem [0] _)) (hw.perm (z_cut (is := [0]) (cells := [(sq i, zo 7 (sqF (nI i) (nI nd)))]) rfl rfl)) rfl rfl (Nat.le_of_ble_eq_true rfl) hl.1 ⟨Nat.le_of_ble_eq_true rfl, Nat.le_of_ble_eq_true rfl⟩ ⟨(Nat.le_of_ble_eq_true rfl), (Nat.le_of_ble_eq_true rfl)⟩ dX0_as_33) hw (fun q9 => z_keep (is := [0]) (cs := [(sq i, zo 7 (sqF (nI i) (nI nd)))]) rfl rfl) (fun q9 H locs ce9 hex => ?_)
          obtain ⟨hw, hx9⟩ := hex
          have hw : zS G ((sq i, zo 7 (sqF (nI i) (nI nd))) :: (co, zo 0 (cF w (nI mn) bm sm lt)) :: (w 2, zo 1 (stF zn co (nI ps) (nI dy) (gg))) :: (zn 0, zc G 1 (zI 9 (vI pl))) :: (zn 1, zc G 1 (zI 9 (vI nu))) :: (zn 2, zc G 1 (zI 5 (vI ax))) :: (zn 3, zc G 1 (zI 5 (vI le))) :: (zn 4, zc G 2 (zI 5 (vI kn))) :: (w 0, zc G 4 (zO 5 sf)) :: (sqX sq (aV A) i ++ rest)) s H locs := hw
          refine z_catch (ce := ce9) (hh := [(26, 39, 40, 197)]) (E := "java/lang/ClassCastException") hC htb (tableOf []) ⟨26, 39, 40, 197⟩ (tableOf []) rfl (fun z hz => nomatch hz) (by decide) (by decide) q888 (hz.1 _ (cw_t q908 rfl)) ⟨hw, hx9⟩ ?_
          show W p l e (zR 262 3 890) s m args below meth c H locs 3 890 Q (F0 m 40 ls [.ref q9])
          refine lv_astore_n (lv' := [(3, .ref q9), (0, .ref co), (1, .int (nI i)), (2, .int (nI 5))]) hx hb dX0_as_40 rfl hl (by decide) rfl (fun ls hl => ?_)
          refine lv_bipush (v := (-4)) hx hb dX0_as_41 zb_m4 ?_
          have hw : zS G ((co, zo 0 (cF w (nI mn) bm sm lt)) :: (w 2, zo 1 (stF zn co (nI ps) (nI dy) (gg))) :: (zn 0, zc G 1 (zI 9 (vI pl))) :: (zn 1, zc G 1 (zI 9 (vI nu))) :: (zn 2, zc G 1 (zI 5 (vI ax))) :: (zn 3, zc G 1 (zI 5 (vI le))) :: (zn 4, zc G 2 (zI 5 (vI kn))) :: (w 0, zc G 4 (zO 5 sf)) :: (sqW sq (aV A) ++ rest)) s H locs := hw.perm (by rw [← show sqC sq (aV A) i = (sq i, zo 7 (sqF (nI i) (nI nd))) from by unfold sqC; rw [← hkd, ← hnd]]; exact (sq_get (E := [(co, zo 0 (cF w (nI mn) bm sm lt)), (w 2, zo 1 (stF zn co (nI ps) (nI dy) (gg))), (zn 0, zc G 1 (zI 9 (vI pl))), (zn 1, zc G 1 (zI 9 (vI nu))), (zn 2, zc G 1 (zI 5 (vI ax))), (zn 3, zc G 1 (zI 5 (vI le))), (zn 4, zc G 2 (zI 5 (vI kn))), (w 0, zc G 4 (zO 5 sf))]) hia).symm)
          exact hend _ _ _ _ _ _ _ () hw (by unfold F_as; rw [ifP_t ⟨i, hia, rfl⟩, ifP_t ⟨5, by decide, by decide, rfl⟩, cl_nI (show i < 2147483648 by omega), cl_nI (show (5 : Nat) < 2147483648 by decide), ← hkd, ifP_f (by unfold castN; decide)]) (Nat.le_of_ble_eq_true rfl) (Nat.le_of_ble_eq_true rfl) dX0_as_43
        · skip
          have hl : lv_has ls 4 [(0, .ref co), (1, .int (nI i)), (2, .int (nI 5))] := hl
          have hw : zS G ((sq i, zo 8 (sqF (nI i) (nI nd))) :: (co, zo 0 (cF w (nI mn) bm sm lt)) :: (w 2, zo 1 (stF zn co (nI ps) (nI dy) (gg))) :: (zn 0, zc G 1 (zI 9 (vI pl))) :: (zn 1, zc G 1 (zI 9 (vI nu))) :: (zn 2, zc G 1 (zI 5 (vI ax))) :: (zn 3, zc G 1 (zI 5 (vI le))) :: (zn 4, zc G 2 (zI 5 (vI kn))) :: (w 0, zc G 4 (zO 5 sf)) :: (sqX sq (aV A) i ++ rest)) s H locs := hw
          refine z_ct (z_runST (As := [.ref (sq i), .int (nI 5)]) (rest := []) hC zs_X0_193 (m_X0_castTo_3_5 G l kA (by first | assumption | (omega)) (by first | assumption | (omega)) (by omega) (sq i) (nI i) (nI nd) (zrem [0] _)) (hw.perm (z_cut (is := [0]) (cells := [(sq i, zo 8 (sqF (nI i) (nI nd)))]) rfl rfl)) rfl rfl (Nat.le_of_ble_eq_true rfl) hl.1 ⟨Nat.le_of_ble_eq_true rfl, Nat.le_of_ble_eq_true rfl⟩ ⟨(Nat.le_of_ble_eq_true rfl), (Nat.le_of_ble_eq_true rfl)⟩ dX0_as_33) hw (fun q9 => z_keep (is := [0]) (cs := [(sq i, zo 8 (sqF (nI i) (nI nd)))]) rfl rfl) (fun q9 H locs ce9 hex => ?_)
          obtain ⟨hw, hx9⟩ := hex
          have hw : zS G ((sq i, zo 8 (sqF (nI i) (nI nd))) :: (co, zo 0 (cF w (nI mn) bm sm lt)) :: (w 2, zo 1 (stF zn co (nI ps) (nI dy) (gg))) :: (zn 0, zc G 1 (zI 9 (vI pl))) :: (zn 1, zc G 1 (zI 9 (vI nu))) :: (zn 2, zc G 1 (zI 5 (vI ax))) :: (zn 3, zc G 1 (zI 5 (vI le))) :: (zn 4, zc G 2 (zI 5 (vI kn))) :: (w 0, zc G 4 (zO 5 sf)) :: (sqX sq (aV A) i ++ rest)) s H locs := hw
          refine z_catch (ce := ce9) (hh := [(26, 39, 40, 197)]) (E := "java/lang/ClassCastException") hC htb (tableOf []) ⟨26, 39, 40, 197⟩ (tableOf []) rfl (fun z hz => nomatch hz) (by decide) (by decide) q888 (hz.1 _ (cw_t q908 rfl)) ⟨hw, hx9⟩ ?_
          show W p l e (zR 262 3 890) s m args below meth c H locs 3 890 Q (F0 m 40 ls [.ref q9])
          refine lv_astore_n (lv' := [(3, .ref q9), (0, .ref co), (1, .int (nI i)), (2, .int (nI 5))]) hx hb dX0_as_40 rfl hl (by decide) rfl (fun ls hl => ?_)
          refine lv_bipush (v := (-4)) hx hb dX0_as_41 zb_m4 ?_
          have hw : zS G ((co, zo 0 (cF w (nI mn) bm sm lt)) :: (w 2, zo 1 (stF zn co (nI ps) (nI dy) (gg))) :: (zn 0, zc G 1 (zI 9 (vI pl))) :: (zn 1, zc G 1 (zI 9 (vI nu))) :: (zn 2, zc G 1 (zI 5 (vI ax))) :: (zn 3, zc G 1 (zI 5 (vI le))) :: (zn 4, zc G 2 (zI 5 (vI kn))) :: (w 0, zc G 4 (zO 5 sf)) :: (sqW sq (aV A) ++ rest)) s H locs := hw.perm (by rw [← show sqC sq (aV A) i = (sq i, zo 8 (sqF (nI i) (nI nd))) from by unfold sqC; rw [← hkd, ← hnd]]; exact (sq_get (E := [(co, zo 0 (cF w (nI mn) bm sm lt)), (w 2, zo 1 (stF zn co (nI ps) (nI dy) (gg))), (zn 0, zc G 1 (zI 9 (vI pl))), (zn 1, zc G 1 (zI 9 (vI nu))), (zn 2, zc G 1 (zI 5 (vI ax))), (zn 3, zc G 1 (zI 5 (vI le))), (zn 4, zc G 2 (zI 5 (vI kn))), (w 0, zc G 4 (zO 5 sf))]) hia).symm)
          exact hend _ _ _ _ _ _ _ () hw (by unfold F_as; rw [ifP_t ⟨i, hia, rfl⟩, ifP_t ⟨5, by decide, by decide, rfl⟩, cl_nI (show i < 2147483648 by omega), cl_nI (show (5 : Nat) < 2147483648 by decide), ← hkd, ifP_f (by unfold castN; decide)]) (Nat.le_of_ble_eq_true rfl) (Nat.le_of_ble_eq_true rfl) dX0_as_43
        · skip
          have hl : lv_has ls 4 [(0, .ref co), (1, .int (nI i)), (2, .int (nI 5))] := hl
          have hw : zS G ((sq i, zo 9 (sqF (nI i) (nI nd))) :: (co, zo 0 (cF w (nI mn) bm sm lt)) :: (w 2, zo 1 (stF zn co (nI ps) (nI dy) (gg))) :: (zn 0, zc G 1 (zI 9 (vI pl))) :: (zn 1, zc G 1 (zI 9 (vI nu))) :: (zn 2, zc G 1 (zI 5 (vI ax))) :: (zn 3, zc G 1 (zI 5 (vI le))) :: (zn 4, zc G 2 (zI 5 (vI kn))) :: (w 0, zc G 4 (zO 5 sf)) :: (sqX sq (aV A) i ++ rest)) s H locs := hw
          refine z_cq (z_runS (As := [.ref (sq i), .int (nI 5)]) (rest := []) hC zs_X0_193 (m_X0_castTo_4_5 G l kA (by first | assumption | (omega)) (sq i) (nI i) (nI nd) (zrem [0] _)) (hw.perm (z_cut (is := [0]) (cells := [(sq i, zo 9 (sqF (nI i) (nI nd)))]) rfl rfl)) rfl rfl (Nat.le_of_ble_eq_true rfl) hl.1 ⟨Nat.le_of_ble_eq_true rfl, Nat.le_of_ble_eq_true rfl⟩ ⟨(Nat.le_of_ble_eq_true rfl), (Nat.le_of_ble_eq_true rfl)⟩ dX0_as_33) hw (fun _ => z_keep (is := [0]) (cs := [(sq i, zo 9 (sqF (nI i) (nI nd)))]) rfl rfl) (fun r u H locs hp hw => ?_)
          obtain rfl : r = some (sq i) := hp
          refine z_ci (z_runB (x := (⟨"NutCaches$Squirrel", "wants", "()I"⟩ : MethodName)) (owner := "NutCaches$Squirrel") (C := "NutCaches$Spy") (n := 0) (As := []) (rest := []) hC ⟨zn_X5_wants, q862, q868, ⟨by decide +kernel, by decide +kernel⟩, by decide +kernel⟩ (hC.hts _ q861) (hC.hts _ q863) (z_declO hC q862 q869) (m_X5_wants_4 G l kA (by first | assumption | (omega)) (sq i) nd (nI i) (zrem [0] _)) hw (hw.perm (z_cut (is := [0]) (cells := [(sq i, zo 9 (sqF (nI i) (nI nd)))]) rfl rfl)) 0 rfl rfl rfl rfl rfl (Nat.le_of_ble_eq_true rfl) hl.1 ⟨Nat.le_of_ble_eq_true rfl, Nat.le_of_ble_eq_true rfl⟩ ⟨(Nat.le_of_ble_eq_true rfl), (Nat.le_of_ble_eq_true rfl)⟩ dX0_as_36) hw (fun _ => z_keep (is := [0]) (cs := [(sq i, zo 9 (sqF (nI i) (nI nd)))]) rfl rfl) (fun r u H locs hp hw => ?_)
          obtain rfl : r = nI (1 + nd) := hp
          have hw : zS G ((co, zo 0 (cF w (nI mn) bm sm lt)) :: (w 2, zo 1 (stF zn co (nI ps) (nI dy) (gg))) :: (zn 0, zc G 1 (zI 9 (vI pl))) :: (zn 1, zc G 1 (zI 9 (vI nu))) :: (zn 2, zc G 1 (zI 5 (vI ax))) :: (zn 3, zc G 1 (zI 5 (vI le))) :: (zn 4, zc G 2 (zI 5 (vI kn))) :: (w 0, zc G 4 (zO 5 sf)) :: (sqW sq (aV A) ++ rest)) s H locs := hw.perm (by rw [← show sqC sq (aV A) i = (sq i, zo 9 (sqF (nI i) (nI nd))) from by unfold sqC; rw [← hkd, ← hnd]]; exact (sq_get (E := [(co, zo 0 (cF w (nI mn) bm sm lt)), (w 2, zo 1 (stF zn co (nI ps) (nI dy) (gg))), (zn 0, zc G 1 (zI 9 (vI pl))), (zn 1, zc G 1 (zI 9 (vI nu))), (zn 2, zc G 1 (zI 5 (vI ax))), (zn 3, zc G 1 (zI 5 (vI le))), (zn 4, zc G 2 (zI 5 (vI kn))), (w 0, zc G 4 (zO 5 sf))]) hia).symm)
          exact hend _ _ _ _ _ _ _ () hw (by unfold F_as; rw [ifP_t ⟨i, hia, rfl⟩, ifP_t ⟨5, by decide, by decide, rfl⟩, cl_nI (show i < 2147483648 by omega), cl_nI (show (5 : Nat) < 2147483648 by decide), ← hkd, ifP_t (by unfold castN; decide), ← hnd]; first | rfl | exact congrArg nI (Nat.add_comm _ _)) (Nat.le_of_ble_eq_true rfl) (Nat.le_of_ble_eq_true rfl) dX0_as_39
    · skip
      refine lv_bipush (v := (-3)) hx hb dX0_as_23 zb_m3 ?_
      have hw : zS G ((co, zo 0 (cF w (nI mn) bm sm lt)) :: (w 2, zo 1 (stF zn co (nI ps) (nI dy) (gg))) :: (zn 0, zc G 1 (zI 9 (vI pl))) :: (zn 1, zc G 1 (zI 9 (vI nu))) :: (zn 2, zc G 1 (zI 5 (vI ax))) :: (zn 3, zc G 1 (zI 5 (vI le))) :: (zn 4, zc G 2 (zI 5 (vI kn))) :: (w 0, zc G 4 (zO 5 sf)) :: (sqW sq (aV A) ++ rest)) s H locs := hw.perm (by rw [← show sqC sq (aV A) i = (sq i, zo (5 + kd) (sqF (nI i) (nI nd))) from by unfold sqC; rw [← hkd, ← hnd]]; exact (sq_get (E := [(co, zo 0 (cF w (nI mn) bm sm lt)), (w 2, zo 1 (stF zn co (nI ps) (nI dy) (gg))), (zn 0, zc G 1 (zI 9 (vI pl))), (zn 1, zc G 1 (zI 9 (vI nu))), (zn 2, zc G 1 (zI 5 (vI ax))), (zn 3, zc G 1 (zI 5 (vI le))), (zn 4, zc G 2 (zI 5 (vI kn))), (w 0, zc G 4 (zO 5 sf))]) hia).symm)
      exact hend _ _ _ _ _ _ _ () hw (by exact ((ifP_t ⟨i, hia, rfl⟩).trans (ifP_f c_20)).symm) (Nat.le_of_ble_eq_true rfl) (Nat.le_of_ble_eq_true rfl) dX0_as_25
  · skip
    refine lv_bipush (v := (-2)) hx hb dX0_as_8 zb_m2 ?_
    exact hend _ _ _ _ _ _ _ () hw (by exact (ifP_f (fun q => c_5 (by rw [hmn]; exact q))).symm) (Nat.le_of_ble_eq_true rfl) (Nat.le_of_ble_eq_true rfl) dX0_as_10
