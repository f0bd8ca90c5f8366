/-! READER: tokens -/
set_option maxRecDepth 100000
/-- a letter's kind, as the component's reader has it -/
def kdN (c : Nat) : Nat := if isSm c = true then 1 else if isDg c = true then 2 else 0
theorem kdN_le (c : Nat) : kdN c ≤ 2 := by unfold kdN; split <;> (try split) <;> decide
theorem bt_sm {c : Nat} (h : c < 256) : inR (btL c) 97 122 ↔ isSm c = true := by
  rw [← inR_iff (by decide) (by decide)]
  have key : ∀ c : Fin 256, (nI 97 ≤ btL c.1 ∧ btL c.1 ≤ nI 122) ↔ isSm c.1 = true := by decide +kernel
  exact key ⟨c, h⟩
theorem bt_dg {c : Nat} (h : c < 256) : inR (btL c) 48 57 ↔ isDg c = true := by
  rw [← inR_iff (by decide) (by decide)]
  have key : ∀ c : Fin 256, (nI 48 ≤ btL c.1 ∧ btL c.1 ≤ nI 57) ↔ isDg c.1 = true := by decide +kernel
  exact key ⟨c, h⟩
theorem bt_sp {c : Nat} (h : c < 256) : btL c = nI 32 ↔ isSp c = true := by
  have key : ∀ c : Fin 256, btL c.1 = nI 32 ↔ isSp c.1 = true := by decide +kernel
  exact key ⟨c, h⟩
theorem nI_sm {c : Nat} (h : c < 256) : inR (nI c) 97 122 ↔ isSm c = true := by
  rw [isSm_iff]
  exact ⟨fun ⟨k, h1, h2, h3⟩ => by rw [nI_eq (by omega) (by omega)] at h3; omega, fun q => ⟨c, q.1, q.2, rfl⟩⟩
theorem nI_dg {c : Nat} (h : c < 256) : inR (nI c) 48 57 ↔ isDg c = true := by
  rw [isDg_iff]
  exact ⟨fun ⟨k, h1, h2, h3⟩ => by rw [nI_eq (by omega) (by omega)] at h3; omega, fun q => ⟨c, q.1, q.2, rfl⟩⟩
def kdP (k : Nat) (c : Nat) : Bool := decide (0 < k) && decide (kdN c = k)
/-- where the component's reader ends a token that begins at f -/
def cEnd (tx : Nat → Nat) (n f : Nat) : Nat := if f < n then run tx n (kdP (kdN (tx f))) (f + 1) else f
theorem run_congr {tx : Nat → Nat} {n : Nat} {P P' : Nat → Bool} (h : ∀ c, P c = P' c) (i : Nat) : run tx n P i = run tx n P' i := by rw [funext h]
theorem kd_cls {c : Nat} : (kdN c = 1 ↔ clsN c = 1) ∧ (kdN c = 2 ↔ clsN c = 2) ∧ (kdN c = 0 ↔ clsN c = 3 ∨ clsN c = 4) := by
  unfold kdN clsN
  by_cases h1 : isSm c = true
  · simp [h1]
  · by_cases h2 : isDg c = true
    · simp [h1, h2]
    · by_cases h3 : c = 59
      · simp only [if_neg h1, if_neg h2, if_pos h3]; decide
      · simp only [if_neg h1, if_neg h2, if_neg h3]; decide
theorem cEnd_tS {tx : Nat → Nat} {n p : Nat} : cEnd tx n (tF tx n p) = tS tx n p := by
  unfold cEnd tS tE
  by_cases hf : tF tx n p < n
  · rw [if_pos hf, tK_c hf]
    generalize hc : tx (tF tx n p) = c
    obtain ⟨e1, e2, e0⟩ := @kd_cls c
    have hk3 : kdN c = 0 ∨ kdN c = 1 ∨ kdN c = 2 := by unfold kdN; split <;> (try split) <;> simp
    rcases hk3 with h0 | h1 | h2
    · have h34 := e0.mp h0
      rw [if_neg (by omega), if_pos h34, h0]
      exact run_stop (fun q => by simp [kdP] at q)
    · have h := e1.mp h1
      rw [if_pos (Or.inl h), if_neg (by omega), h, h1, Nat.add_zero, run_go hf (P := tP 1)]
      · exact run_congr (fun x => by unfold kdP tP kdN; by_cases q : isSm x = true <;> by_cases q2 : isDg x = true <;> simp [q, q2]) _
      · rw [hc]; unfold kdN at h1; show isSm c = true; by_cases q : isSm c = true; exact q; rw [if_neg q] at h1; split at h1 <;> cases h1
    · have h := e2.mp h2
      rw [if_pos (Or.inr h), if_neg (by omega), h, h2, Nat.add_zero, run_go hf (P := tP 2)]
      · exact run_congr (fun x => by unfold kdP tP kdN; by_cases q : isSm x = true <;> by_cases q2 : isDg x = true <;> simp [q, q2] <;> (rw [isSm_iff] at q; rw [isDg_iff] at q2; omega)) _
      · rw [hc]; unfold kdN at h2; show isDg c = true; by_cases q : isSm c = true; rw [if_pos q] at h2; cases h2; rw [if_neg q] at h2; by_cases q2 : isDg c = true; exact q2; rw [if_neg q2] at h2; cases h2
  · rw [if_neg hf, tK_0 hf, if_neg (by decide), if_neg (by decide)]; rfl
def wL (tx : Nat → Nat) (n p : Nat) : Nat := tS tx n p - tF tx n p
/-- where the reader is going, from the place i of a token that began at f -/
def goE (tx : Nat → Nat) (n f kd i : Nat) : Nat := if i = f then cEnd tx n f else run tx n (kdP kd) i
theorem goE_s {tx : Nat → Nat} {n f kd i : Nat} (hi : i < n) (hf : f ≤ i) (hk : f < n → kd = kdN (tx f)) (h : i = f ∨ (0 < kd ∧ kdN (tx i) = kd)) : goE tx n f kd (i + 1) = goE tx n f kd i := by
  unfold goE
  rw [if_neg (by omega)]
  by_cases e : i = f
  · subst e; rw [if_pos rfl]; unfold cEnd; rw [if_pos hi, hk hi]
  · rw [if_neg e]
    rcases h with h | ⟨h1, h2⟩
    · exact absurd h e
    · exact (run_go hi (by unfold kdP; simp [h1, h2])).symm
theorem goE_n {tx : Nat → Nat} {n f kd i : Nat} (hi : ¬ i < n) : goE tx n f kd i = i := by
  unfold goE
  by_cases e : i = f
  · subst e; rw [if_pos rfl]; unfold cEnd; rw [if_neg hi]
  · rw [if_neg e]; exact run_stop (fun q => hi q.1)
theorem goE_k {tx : Nat → Nat} {n f kd i : Nat} (hne : i ≠ f) (h : ¬ (0 < kd ∧ kdN (tx i) = kd)) : goE tx n f kd i = i := by
  unfold goE
  rw [if_neg hne]
  exact run_stop (fun q => h (by have := q.2; unfold kdP at this; simpa using this))
theorem zn_X0_in : zNs yX0_in cX0_in 6 (some .boolean) 3 := ⟨q222, q49, ⟨by decide +kernel, by decide +kernel⟩, by decide +kernel⟩
set_option maxHeartbeats 4000000 in
theorem m_X3_kindOf_b (G : zE) (l : Launch) (kA : Nat → Nat) (hG : zG G kA) (rd : Nat) (c9 : Nat) (hc9 : c9 < 256) (rest : va_W) : zMi G l yX3_kindOf cX3_kindOf 2 (some .int) 1 0 0 [.ref rd, .int (btL c9)] (rest) (fun (r : Int32) (_ : Unit) => r = nI (kdN c9)) (fun (_ : Unit) => rest) := by
  refine z_begI (by decide) (Nat.le_of_ble_eq_true rfl) (fun p e s m args below meth c ls Q hC hl hw hend => ?_)
  have hx := hC.hx
  have hb := hC.hb
  have hl : lv_has ls 2 [(0, .ref rd), (1, .int (btL c9))] := hl
  have hz := hG s hC.hZ.1
  refine lv_iload_n hx hb dX3_kindOf_0 rfl (lv_at hl 1 rfl) ?_
  refine lv_i2l (v := (iL (btL c9))) hx hb dX3_kindOf_1 rfl ?_
  refine lv_ldc2 (v := (lN 97)) hx hb hC.hown (hC.hts _ q283) dX3_kindOf_2 ?_
  refine lv_ldc2 (v := (lN 122)) hx hb hC.hown (hC.hts _ q284) dX3_kindOf_5 ?_
  refine z_ci (z_runSN (n := 3) (As := [.long (iL (btL c9)), .long (lN 97), .long (lN 122)]) (rest := []) hC ⟨zn_X0_in, q221⟩ (hz.1 _ (cw_t q285 rfl)) (m_X0_in G l (btL c9) 97 122 (by decide) (by decide) _) hw rfl rfl (Nat.le_of_ble_eq_true rfl) hl.1 ⟨Nat.le_of_ble_eq_true rfl, Nat.le_of_ble_eq_true rfl⟩ ⟨(Nat.le_of_ble_eq_true rfl), (Nat.le_of_ble_eq_true rfl)⟩ dX3_kindOf_8) hw (fun _ => List.Perm.refl _) (fun r u H locs hp hw => ?_)
  obtain rfl : r = bI (inR (btL c9) 97 122) := hp
  refine zb_eq (tgt := 18) hx hb dX3_kindOf_11 (by decide) (fun c_11 => ?_) (fun c_11 => ?_)
  · skip
    refine lv_iload_n hx hb dX3_kindOf_18 rfl (lv_at hl 1 rfl) ?_
    refine lv_i2l (v := (iL (btL c9))) hx hb dX3_kindOf_19 rfl ?_
    refine lv_ldc2 (v := (lN 48)) hx hb hC.hown (hC.hts _ q286) dX3_kindOf_20 ?_
    refine lv_ldc2 (v := (lN 57)) hx hb hC.hown (hC.hts _ q287) dX3_kindOf_23 ?_
    refine z_ci (z_runSN (n := 3) (As := [.long (iL (btL c9)), .long (lN 48), .long (lN 57)]) (rest := []) hC ⟨zn_X0_in, q221⟩ (hz.1 _ (cw_t q285 rfl)) (m_X0_in G l (btL c9) 48 57 (by decide) (by decide) _) hw rfl rfl (Nat.le_of_ble_eq_true rfl) hl.1 ⟨Nat.le_of_ble_eq_true rfl, Nat.le_of_ble_eq_true rfl⟩ ⟨(Nat.le_of_ble_eq_true rfl), (Nat.le_of_ble_eq_true rfl)⟩ dX3_kindOf_26) hw (fun _ => List.Perm.refl _) (fun r u H locs hp hw => ?_)
    obtain rfl : r = bI (inR (btL c9) 48 57) := hp
    refine zb_eq (tgt := 36) hx hb dX3_kindOf_29 (by decide) (fun c_29 => ?_) (fun c_29 => ?_)
    · skip
      refine lv_iconst (v := (nI 0)) hx hb dX3_kindOf_36 zk_0 ?_
      exact hend _ _ _ _ _ _ _ () hw (by first | exact congrArg nI (show (1 : Nat) = kdN c9 by unfold kdN; rw [if_pos ((bt_sm hc9).mp c_11)]) | exact congrArg nI (show (2 : Nat) = kdN c9 by unfold kdN; rw [if_neg (fun q => c_11 ((bt_sm hc9).mpr q)), if_pos ((bt_dg hc9).mp c_29)]) | exact congrArg nI (show (0 : Nat) = kdN c9 by unfold kdN; rw [if_neg (fun q => c_11 ((bt_sm hc9).mpr q)), if_neg (fun q => c_29 ((bt_dg hc9).mpr q))])) (Nat.le_of_ble_eq_true rfl) (Nat.le_of_ble_eq_true rfl) dX3_kindOf_37
    · skip
      refine lv_iconst (v := (nI 2)) hx hb dX3_kindOf_32 zk_2 ?_
      refine lv_goto (tgt := 37) hx hb dX3_kindOf_33 (by decide) ?_
      exact hend _ _ _ _ _ _ _ () hw (by first | exact congrArg nI (show (1 : Nat) = kdN c9 by unfold kdN; rw [if_pos ((bt_sm hc9).mp c_11)]) | exact congrArg nI (show (2 : Nat) = kdN c9 by unfold kdN; rw [if_neg (fun q => c_11 ((bt_sm hc9).mpr q)), if_pos ((bt_dg hc9).mp c_29)]) | exact congrArg nI (show (0 : Nat) = kdN c9 by unfold kdN; rw [if_neg (fun q => c_11 ((bt_sm hc9).mpr q)), if_neg (fun q => c_29 ((bt_dg hc9).mpr q))])) (Nat.le_of_ble_eq_true rfl) (Nat.le_of_ble_eq_true rfl) dX3_kindOf_37
  · skip
    refine lv_iconst (v := (nI 1)) hx hb dX3_kindOf_14 zk_1 ?_
    refine lv_goto (tgt := 37) hx hb dX3_kindOf_15 (by decide) ?_
    exact hend _ _ _ _ _ _ _ () hw (by first | exact congrArg nI (show (1 : Nat) = kdN c9 by unfold kdN; rw [if_pos ((bt_sm hc9).mp c_11)]) | exact congrArg nI (show (2 : Nat) = kdN c9 by unfold kdN; rw [if_neg (fun q => c_11 ((bt_sm hc9).mpr q)), if_pos ((bt_dg hc9).mp c_29)]) | exact congrArg nI (show (0 : Nat) = kdN c9 by unfold kdN; rw [if_neg (fun q => c_11 ((bt_sm hc9).mpr q)), if_neg (fun q => c_29 ((bt_dg hc9).mpr q))])) (Nat.le_of_ble_eq_true rfl) (Nat.le_of_ble_eq_true rfl) dX3_kindOf_37
set_option maxHeartbeats 4000000 in
theorem m_X3_kindOf_c (G : zE) (l : Launch) (kA : Nat → Nat) (hG : zG G kA) (rd : Nat) (c9 : Nat) (hc9 : c9 < 256) (rest : va_W) : zMi G l yX3_kindOf cX3_kindOf 2 (some .int) 1 0 0 [.ref rd, .int (nI c9)] (rest) (fun (r : Int32) (_ : Unit) => r = nI (kdN c9)) (fun (_ : Unit) => rest) := by
  refine z_begI (by decide) (Nat.le_of_ble_eq_true rfl) (fun p e s m args below meth c ls Q hC hl hw hend => ?_)
  have hx := hC.hx
  have hb := hC.hb
  have hl : lv_has ls 2 [(0, .ref rd), (1, .int (nI c9))] := hl
  have hz := hG s hC.hZ.1
  refine lv_iload_n hx hb dX3_kindOf_0 rfl (lv_at hl 1 rfl) ?_
  refine lv_i2l (v := (iL (nI c9))) hx hb dX3_kindOf_1 rfl ?_
  refine lv_ldc2 (v := (lN 97)) hx hb hC.hown (hC.hts _ q283) dX3_kindOf_2 ?_
  refine lv_ldc2 (v := (lN 122)) hx hb hC.hown (hC.hts _ q284) dX3_kindOf_5 ?_
  refine z_ci (z_runSN (n := 3) (As := [.long (iL (nI c9)), .long (lN 97), .long (lN 122)]) (rest := []) hC ⟨zn_X0_in, q221⟩ (hz.1 _ (cw_t q285 rfl)) (m_X0_in G l (nI c9) 97 122 (by decide) (by decide) _) hw rfl rfl (Nat.le_of_ble_eq_true rfl) hl.1 ⟨Nat.le_of_ble_eq_true rfl, Nat.le_of_ble_eq_true rfl⟩ ⟨(Nat.le_of_ble_eq_true rfl), (Nat.le_of_ble_eq_true rfl)⟩ dX3_kindOf_8) hw (fun _ => List.Perm.refl _) (fun r u H locs hp hw => ?_)
  obtain rfl : r = bI (inR (nI c9) 97 122) := hp
  refine zb_eq (tgt := 18) hx hb dX3_kindOf_11 (by decide) (fun c_11 => ?_) (fun c_11 => ?_)
  · skip
    refine lv_iload_n hx hb dX3_kindOf_18 rfl (lv_at hl 1 rfl) ?_
    refine lv_i2l (v := (iL (nI c9))) hx hb dX3_kindOf_19 rfl ?_
    refine lv_ldc2 (v := (lN 48)) hx hb hC.hown (hC.hts _ q286) dX3_kindOf_20 ?_
    refine lv_ldc2 (v := (lN 57)) hx hb hC.hown (hC.hts _ q287) dX3_kindOf_23 ?_
    refine z_ci (z_runSN (n := 3) (As := [.long (iL (nI c9)), .long (lN 48), .long (lN 57)]) (rest := []) hC ⟨zn_X0_in, q221⟩ (hz.1 _ (cw_t q285 rfl)) (m_X0_in G l (nI c9) 48 57 (by decide) (by decide) _) hw rfl rfl (Nat.le_of_ble_eq_true rfl) hl.1 ⟨Nat.le_of_ble_eq_true rfl, Nat.le_of_ble_eq_true rfl⟩ ⟨(Nat.le_of_ble_eq_true rfl), (Nat.le_of_ble_eq_true rfl)⟩ dX3_kindOf_26) hw (fun _ => List.Perm.refl _) (fun r u H locs hp hw => ?_)
    obtain rfl : r = bI (inR (nI c9) 48 57) := hp
    refine zb_eq (tgt := 36) hx hb dX3_kindOf_29 (by decide) (fun c_29 => ?_) (fun c_29 => ?_)
    · skip
      refine lv_iconst (v := (nI 0)) hx hb dX3_kindOf_36 zk_0 ?_
      exact hend _ _ _ _ _ _ _ () hw (by first | exact congrArg nI (show (1 : Nat) = kdN c9 by unfold kdN; rw [if_pos ((nI_sm hc9).mp c_11)]) | exact congrArg nI (show (2 : Nat) = kdN c9 by unfold kdN; rw [if_neg (fun q => c_11 ((nI_sm hc9).mpr q)), if_pos ((nI_dg hc9).mp c_29)]) | exact congrArg nI (show (0 : Nat) = kdN c9 by unfold kdN; rw [if_neg (fun q => c_11 ((nI_sm hc9).mpr q)), if_neg (fun q => c_29 ((nI_dg hc9).mpr q))])) (Nat.le_of_ble_eq_true rfl) (Nat.le_of_ble_eq_true rfl) dX3_kindOf_37
    · skip
      refine lv_iconst (v := (nI 2)) hx hb dX3_kindOf_32 zk_2 ?_
      refine lv_goto (tgt := 37) hx hb dX3_kindOf_33 (by decide) ?_
      exact hend _ _ _ _ _ _ _ () hw (by first | exact congrArg nI (show (1 : Nat) = kdN c9 by unfold kdN; rw [if_pos ((nI_sm hc9).mp c_11)]) | exact congrArg nI (show (2 : Nat) = kdN c9 by unfold kdN; rw [if_neg (fun q => c_11 ((nI_sm hc9).mpr q)), if_pos ((nI_dg hc9).mp c_29)]) | exact congrArg nI (show (0 : Nat) = kdN c9 by unfold kdN; rw [if_neg (fun q => c_11 ((nI_sm hc9).mpr q)), if_neg (fun q => c_29 ((nI_dg hc9).mpr q))])) (Nat.le_of_ble_eq_true rfl) (Nat.le_of_ble_eq_true rfl) dX3_kindOf_37
  · skip
    refine lv_iconst (v := (nI 1)) hx hb dX3_kindOf_14 zk_1 ?_
    refine lv_goto (tgt := 37) hx hb dX3_kindOf_15 (by decide) ?_
    exact hend _ _ _ _ _ _ _ () hw (by first | exact congrArg nI (show (1 : Nat) = kdN c9 by unfold kdN; rw [if_pos ((nI_sm hc9).mp c_11)]) | exact congrArg nI (show (2 : Nat) = kdN c9 by unfold kdN; rw [if_neg (fun q => c_11 ((nI_sm hc9).mpr q)), if_pos ((nI_dg hc9).mp c_29)]) | exact congrArg nI (show (0 : Nat) = kdN c9 by unfold kdN; rw [if_neg (fun q => c_11 ((nI_sm hc9).mpr q)), if_neg (fun q => c_29 ((nI_dg hc9).mpr q))])) (Nat.le_of_ble_eq_true rfl) (Nat.le_of_ble_eq_true rfl) dX3_kindOf_37
theorem zf_X3_58_3 : zFl 3 0 RX3 58 false .int := ⟨RX3, TX3, 8, tyX3, rfl, by decide, in_X3, q240, rfl, by decide +kernel, tyX3_ok, nmX3⟩
theorem zf_X3_3_3 : zFl 3 7 RX3 3 true (.object "NutCaches") := ⟨RX3, TX3, 8, tyX3, rfl, by decide, in_X3, q249, rfl, by decide +kernel, tyX3_ok, nmX3⟩
theorem zx_X3_77 : zIs RX3 77 yJ2_init cJ2_init 1 0 := ⟨⟨q292, q56, q290, q291, rfl⟩, ⟨by decide +kernel, by decide +kernel⟩, by decide +kernel⟩
theorem zv_X3_82 : zVs RX3 82 yJ2_toString cJ2_toString 1 (some (.object "java/lang/String")) 0 := ⟨lw_V q412 q413 q414 q56 q415, ⟨by decide +kernel, by decide +kernel⟩, by decide +kernel⟩
theorem zf_X3_17_3 : zFl 3 2 RX3 17 false (.object "java/lang/String") := ⟨RX3, TX3, 8, tyX3, rfl, by decide, in_X3, q242, rfl, by decide +kernel, tyX3_ok, nmX3⟩
theorem zf_X3_68_3 : zFl 3 1 RX3 68 false .int := ⟨RX3, TX3, 8, tyX3, rfl, by decide, in_X3, q241, rfl, by decide +kernel, tyX3_ok, nmX3⟩
theorem zv_X3_78 : zVs RX3 78 yJ2_append cJ2_append 2 (some (.object "java/lang/StringBuilder")) 1 := ⟨lw_V q319 q320 q321 q56 q322, ⟨by decide +kernel, by decide +kernel⟩, by decide +kernel⟩
theorem zv_X3_71 : zVs RX3 71 yX3_kindOf cX3_kindOf 2 (some .int) 1 := ⟨lw_V q279 q281 qs3 q54 q282, ⟨by decide +kernel, by decide +kernel⟩, by decide +kernel⟩
set_option maxHeartbeats 4000000 in
theorem m_X3_take (G : zE) (l : Launch) (kA : Nat → Nat) (hG : zG G kA) (hS : zS9 G kA) (rd : Nat) (co : Nat) (wd : Nat) (cl : Nat) (p0 : Nat) (n : Nat) (th : Nat) (dg : Nat) (re : Nat) (fs : Int32) (w : Nat → Nat) (mn : Int32) (bm : Int32) (sm : Int32) (xf : Nat → Int32) (tx : Nat → Nat) (hn2 : n ≤ 200) (htx : ∀ k, k < n → tx k < 256) (hxf : ∀ k, k < n → xf k = btL (tx k)) (hp : p0 ≤ n) (rest : va_W) : zMv G l yX3_take cX3_take 3 7 30 1100 [.ref rd] ((rd, zo 3 [.int (nI p0), .int fs, .ref wd, .int (nI th), .int (nI dg), .ref cl, .int (nI re), .ref co]) :: (co, zo 0 (cF w mn bm sm (nI n))) :: (w 8, zc G 1 (zI 200 xf)) :: rest) (fun u => ∀ j, j < wL tx n p0 → u.2.2 j = btL (tx (tF tx n p0 + j))) (fun (u : Nat × Nat × (Nat → Int32)) => (u.1, zo 12 [.ref u.2.1, .int (nI 0), .int 0, .int 0]) :: (u.2.1, zc G 1 (zI (wL tx n p0) u.2.2)) :: (rd, zo 3 [.int (nI (tS tx n p0)), .int (nI (tF tx n p0)), .ref u.1, .int (nI th), .int (nI dg), .ref cl, .int (nI re), .ref co]) :: (co, zo 0 (cF w mn bm sm (nI n))) :: (w 8, zc G 1 (zI 200 xf)) :: rest) := by
  refine z_begV (by decide) (Nat.le_of_ble_eq_true rfl) (fun p e s m args below meth c ls Q hC hnm hl hw hend => ?_)
  have hx := hC.hx
  have hb := hC.hb
  have hl : lv_has ls 3 [(0, .ref rd)] := hl
  have hw : zS G ((rd, zo 3 [.int (nI p0), .int fs, .ref wd, .int (nI th), .int (nI dg), .ref cl, .int (nI re), .ref co]) :: (co, zo 0 (cF w mn bm sm (nI n))) :: (w 8, zc G 1 (zI 200 xf)) :: rest) s s.heap [] := hw
  have hz := hG s hC.hZ.1
  have hzs := hS s hC.hZ.1
  have loop_0 : ∀ (fuel : Nat) (i : Nat), (p0 ≤ i) → (i ≤ n) → (tF tx n p0 = tF tx n i) → (n - i) < fuel → ∀ (H : Heap) (locs : List Loc) (ls : Array Slot), zS G ((rd, zo 3 [.int (nI i), .int fs, .ref wd, .int (nI th), .int (nI dg), .ref cl, .int (nI re), .ref co]) :: (co, zo 0 (cF w mn bm sm (nI n))) :: (w 8, zc G 1 (zI 200 xf)) :: rest) s H locs → lv_has ls 3 [(0, .ref rd)] → W p l e (zR 7 30 1100) s m args below meth c H locs 0 0 Q (F0 m 0 ls []) := by
    intro fuel
    induction fuel with
    | zero => intro i hi1 hi2 hfi hfuel; exact absurd hfuel (Nat.not_lt_zero _)
    | succ fuel_0 ih_0 =>
      intro i hi1 hi2 hfi hfuel_0 H locs ls hw hl
      refine lv_aload_n hx hb dX3_take_0 rfl (lv_at hl 0 rfl) ?_
      refine z_get (v := .int (nI i)) hC zf_X3_58_3 hw 0 rfl rfl dX3_take_1 ?_
      refine lv_aload_n hx hb dX3_take_4 rfl (lv_at hl 0 rfl) ?_
      refine z_get (v := .ref co) hC zf_X3_3_3 hw 0 rfl rfl dX3_take_5 ?_
      refine z_getN (v := .int (nI n)) (k := 12) hC (show zcl[0]? = some (RX0, TX0, 13) from rfl) in_X0 (by decide) rfl rfl rfl (hz.1 _ (cw_t q186 rfl)) hw 1 rfl rfl dX3_take_8 ?_
      refine zi_ge (tgt := 44) hx hb (by omega) (by omega) dX3_take_11 (by decide) (fun c_11 => ?_) (fun c_11 => ?_)
      · skip
        have hfi : tF tx n p0 = i := hfi.trans (run_stop (fun q => by first | exact absurd q.1 (by omega) | exact c_28 ((bt_sp (htx _ c_11)).mpr q.2)))
        have join_86 : ∀ (kd : Nat), (i < n → kd = kdN (tx i)) → (kd ≤ 2) → ∀ (H : Heap) (locs : List Loc) (ls : Array Slot), zS G ((rd, zo 3 [.int (nI i), .int (nI i), .ref wd, .int (nI th), .int (nI dg), .ref cl, .int (nI re), .ref co]) :: (co, zo 0 (cF w mn bm sm (nI n))) :: (w 8, zc G 1 (zI 200 xf)) :: rest) s H locs → lv_has ls 3 [(0, .ref rd)] → W p l e (zR 7 30 1100) s m args below meth c H locs 0 0 Q (F0 m 86 ls [.int (nI kd)]) := by
          intro kd hkd hkd3 H locs ls hw hl
          refine lv_istore_n (lv' := [(1, .int (nI kd)), (0, .ref rd)]) hx hb dX3_take_86 rfl hl (by decide) rfl (fun ls hl => ?_)
          refine z_new (ci := 11) (fs := [.null, .int 0, .int 0, .int 0]) hC rfl in_J2 tyJ2_ok q288 q289 q56 hw (fun j hj => by revert hj; revert j; decide) (Nat.le_of_ble_eq_true rfl) (Nat.le_of_ble_eq_true rfl) dX3_take_87 (fun q_87 H hw => ?_)
          have hw : zS G ((q_87, zo 11 [.null, .int 0, .int 0, .int 0]) :: (rd, zo 3 [.int (nI i), .int (nI i), .ref wd, .int (nI th), .int (nI dg), .ref cl, .int (nI re), .ref co]) :: (co, zo 0 (cF w mn bm sm (nI n))) :: (w 8, zc G 1 (zI 200 xf)) :: rest) s H locs := hw
          refine lv_dup hx hb dX3_take_90 rfl ?_
          refine z_cv (z_runI (As := []) (rest := [.ref q_87]) hC zx_X3_77 (m_J2_init G l kA (by first | assumption | (omega)) q_87 (zrem [0] _)) (hw.perm (z_cut (is := [0]) (cells := [(q_87, zo 11 [.null, .int 0, .int 0, .int 0])]) rfl rfl)) rfl rfl (Nat.le_of_ble_eq_true rfl) hl.1 ⟨Nat.le_of_ble_eq_true rfl, Nat.le_of_ble_eq_true rfl⟩ ⟨(Nat.le_of_ble_eq_true rfl), (Nat.le_of_ble_eq_true rfl)⟩ dX3_take_91) hw (fun u => z_new1 (is := [0]) (cs := [(q_87, zo 11 [.null, .int 0, .int 0, .int 0])]) (cs' := [(q_87, zo 11 [.ref u, .int (nI 0), .int 0, .int 0])]) (nw := [(u, zc G 1 (zI 16 (fun _ => 0)))]) rfl rfl rfl) (fun u H locs hp hw => ?_)
          obtain ⟨va0, rfl⟩ : ∃ z, z = u := ⟨_, rfl⟩
          have hw : zS G ((va0, zc G 1 (zI 16 (fun _ => 0))) :: (q_87, zo 11 [.ref va0, .int (nI 0), .int 0, .int 0]) :: (rd, zo 3 [.int (nI i), .int (nI i), .ref wd, .int (nI th), .int (nI dg), .ref cl, .int (nI re), .ref co]) :: (co, zo 0 (cF w mn bm sm (nI n))) :: (w 8, zc G 1 (zI 200 xf)) :: rest) s H locs := hw
          refine lv_astore_n (lv' := [(2, .ref q_87), (1, .int (nI kd)), (0, .ref rd)]) hx hb dX3_take_94 rfl hl (by decide) rfl (fun ls hl => ?_)
          have loop_95 : ∀ (fuel : Nat) (k : Nat) (cap : Nat) (va : Nat) (g : Nat → Int32), (i + k ≤ n) → (k ≤ cap) → (16 ≤ cap) → (cap ≤ 2 * k + 16) → (goE tx n i kd (i + k) = cEnd tx n i) → (∀ j, j < k → g j = btL (tx (i + j))) → (∀ j, fits .byte (.int (g j)) = true) → (n - (i + k)) < fuel → ∀ (H : Heap) (locs : List Loc) (ls : Array Slot), zS G ((va, zc G 1 (zI cap g)) :: (q_87, zo 11 [.ref va, .int (nI 0), .int 0, .int (nI k)]) :: (rd, zo 3 [.int (nI (i + k)), .int (nI i), .ref wd, .int (nI th), .int (nI dg), .ref cl, .int (nI re), .ref co]) :: (co, zo 0 (cF w mn bm sm (nI n))) :: (w 8, zc G 1 (zI 200 xf)) :: rest) s H locs → lv_has ls 3 [(0, .ref rd), (1, .int (nI kd)), (2, .ref q_87)] → W p l e (zR 7 30 1100) s m args below meth c H locs (2 + cap / 16) (4 + 2 * cap) Q (F0 m 95 ls []) := by
            intro fuel
            induction fuel with
            | zero => intro k cap va g hik hkc hc16 hc2 hgo hg hfit hfuel; exact absurd hfuel (Nat.not_lt_zero _)
            | succ fuel_95 ih_95 =>
              intro k cap va g hik hkc hc16 hc2 hgo hg hfit hfuel_95 H locs ls hw hl
              refine lv_aload_n hx hb dX3_take_95 rfl (lv_at hl 0 rfl) ?_
              refine z_get (v := .int (nI (i + k))) hC zf_X3_58_3 hw 2 rfl rfl dX3_take_96 ?_
              refine lv_aload_n hx hb dX3_take_99 rfl (lv_at hl 0 rfl) ?_
              refine z_get (v := .ref co) hC zf_X3_3_3 hw 2 rfl rfl dX3_take_100 ?_
              refine z_getN (v := .int (nI n)) (k := 12) hC (show zcl[0]? = some (RX0, TX0, 13) from rfl) in_X0 (by decide) rfl rfl rfl (hz.1 _ (cw_t q186 rfl)) hw 3 rfl rfl dX3_take_103 ?_
              refine zi_ge (tgt := 176) hx hb (by omega) (by omega) dX3_take_106 (by decide) (fun c_106 => ?_) (fun c_106 => ?_)
              · skip
                refine lv_aload_n hx hb dX3_take_176 rfl (lv_at hl 0 rfl) ?_
                refine lv_aload_n hx hb dX3_take_177 rfl (lv_at hl 2 rfl) ?_
                rcases Nat.lt_or_eq_of_le hkc with hkc | hkc
                · skip
                  have hl : lv_has ls 3 [(0, .ref rd), (1, .int (nI kd)), (2, .ref q_87)] := hl
                  refine z_cq (z_runV (As := []) (rest := [.ref rd]) hC zv_X3_82 (m_J2_toString_r G l kA (by first | assumption | (omega)) q_87 va k cap g (by omega) hfit (by omega) (zrem [1, 0] _)) hw (hw.perm (z_cut (is := [1, 0]) (cells := [(q_87, zo 11 [.ref va, .int (nI 0), .int 0, .int (nI k)]), (va, zc G 1 (zI cap g))]) rfl rfl)) 1 rfl rfl rfl rfl rfl (Nat.le_of_ble_eq_true rfl) hl.1 ⟨Nat.le_of_ble_eq_true rfl, Nat.le_of_ble_eq_true rfl⟩ ⟨(by show _ ≤ 30; omega), (by show _ ≤ 1100; omega)⟩ dX3_take_178) hw (fun u => z_new1 (is := [1, 0]) (cs := [(q_87, zo 11 [.ref va, .int (nI 0), .int 0, .int (nI k)]), (va, zc G 1 (zI cap g))]) (cs' := [(q_87, zo 11 [.ref va, .int (nI 0), .int 0, .int (nI k)]), (va, zc G 1 (zI cap g))]) (nw := [(u.2.1, zc G 1 (zI k u.2.2)), (u.1, zo 12 [.ref u.2.1, .int (nI 0), .int 0, .int 0])]) rfl rfl rfl) (fun r u H locs hp hw => ?_)
                  obtain ⟨sr, sv, g4⟩ := u
                  have hw : zS G ((sv, zc G 1 (zI k g4)) :: (sr, zo 12 [.ref sv, .int (nI 0), .int 0, .int 0]) :: (va, zc G 1 (zI cap g)) :: (q_87, zo 11 [.ref va, .int (nI 0), .int 0, .int (nI k)]) :: (rd, zo 3 [.int (nI (i + k)), .int (nI i), .ref wd, .int (nI th), .int (nI dg), .ref cl, .int (nI re), .ref co]) :: (co, zo 0 (cF w mn bm sm (nI n))) :: (w 8, zc G 1 (zI 200 xf)) :: rest) s H locs := hw
                  obtain ⟨rfl, hg4⟩ := hp
                  refine z_put hC zf_X3_17_3 hw 4 rfl rfl rfl (Nat.le_of_ble_eq_true rfl) dX3_take_181 (fun H locs hw => ?_)
                  have hw : zS G ((sv, zc G 1 (zI k g4)) :: (sr, zo 12 [.ref sv, .int (nI 0), .int 0, .int 0]) :: (va, zc G 1 (zI cap g)) :: (q_87, zo 11 [.ref va, .int (nI 0), .int 0, .int (nI k)]) :: (rd, zo 3 [.int (nI (i + k)), .int (nI i), .ref sr, .int (nI th), .int (nI dg), .ref cl, .int (nI re), .ref co]) :: (co, zo 0 (cF w mn bm sm (nI n))) :: (w 8, zc G 1 (zI 200 xf)) :: rest) s H locs := hw
                  have hw : zS G ((q_87, zo 11 [.ref va, .int (nI 0), .int 0, .int (nI k)]) :: (va, zc G 1 (zI cap g)) :: (sv, zc G 1 (zI k g4)) :: (sr, zo 12 [.ref sv, .int (nI 0), .int 0, .int 0]) :: (rd, zo 3 [.int (nI (i + k)), .int (nI i), .ref sr, .int (nI th), .int (nI dg), .ref cl, .int (nI re), .ref co]) :: (co, zo 0 (cF w mn bm sm (nI n))) :: (w 8, zc G 1 (zI 200 xf)) :: rest) s H locs := hw.perm (((z_cut (is := [3, 2, 0, 1, 4, 5, 6]) (ws := [(sv, zc G 1 (zI k g4)), (sr, zo 12 [.ref sv, .int (nI 0), .int 0, .int 0]), (va, zc G 1 (zI cap g)), (q_87, zo 11 [.ref va, .int (nI 0), .int 0, .int (nI k)]), (rd, zo 3 [.int (nI (i + k)), .int (nI i), .ref sr, .int (nI th), .int (nI dg), .ref cl, .int (nI re), .ref co]), (co, zo 0 (cF w mn bm sm (nI n))), (w 8, zc G 1 (zI 200 xf))]) (cells := [(q_87, zo 11 [.ref va, .int (nI 0), .int 0, .int (nI k)]), (va, zc G 1 (zI cap g)), (sv, zc G 1 (zI k g4)), (sr, zo 12 [.ref sv, .int (nI 0), .int 0, .int 0]), (rd, zo 3 [.int (nI (i + k)), .int (nI i), .ref sr, .int (nI th), .int (nI dg), .ref cl, .int (nI re), .ref co]), (co, zo 0 (cF w mn bm sm (nI n))), (w 8, zc G 1 (zI 200 xf))]) rfl rfl).append_right rest).trans (by rw [List.append_assoc]; exact List.Perm.refl _))
                  have hw := hw.drop
                  have hw := hw.drop
                  have e1 : tS tx n p0 = i + k := by rw [← cEnd_tS, hfi, ← hgo]; first | exact goE_n (by omega) | exact goE_k (by omega) (fun q => by have h1 := q.1; have h2 := q.2; omega)
                  have e3 : tF tx n p0 = i := hfi
                  have e2 : wL tx n p0 = k := by unfold wL; omega
                  have hw : zS G ((sr, zo 12 [.ref sv, .int (nI 0), .int 0, .int 0]) :: (sv, zc G 1 (zI k g4)) :: (rd, zo 3 [.int (nI (i + k)), .int (nI i), .ref sr, .int (nI th), .int (nI dg), .ref cl, .int (nI re), .ref co]) :: (co, zo 0 (cF w mn bm sm (nI n))) :: (w 8, zc G 1 (zI 200 xf)) :: rest) s H locs := hw.perm (((z_cut (is := [1, 0, 2, 3, 4]) (ws := [(sv, zc G 1 (zI k g4)), (sr, zo 12 [.ref sv, .int (nI 0), .int 0, .int 0]), (rd, zo 3 [.int (nI (i + k)), .int (nI i), .ref sr, .int (nI th), .int (nI dg), .ref cl, .int (nI re), .ref co]), (co, zo 0 (cF w mn bm sm (nI n))), (w 8, zc G 1 (zI 200 xf))]) (cells := [(sr, zo 12 [.ref sv, .int (nI 0), .int 0, .int 0]), (sv, zc G 1 (zI k g4)), (rd, zo 3 [.int (nI (i + k)), .int (nI i), .ref sr, .int (nI th), .int (nI dg), .ref cl, .int (nI re), .ref co]), (co, zo 0 (cF w mn bm sm (nI n))), (w 8, zc G 1 (zI 200 xf))]) rfl rfl).append_right rest).trans (by rw [List.append_assoc]; exact List.Perm.refl _))
                  have hw : zS G ((sr, zo 12 [.ref sv, .int (nI 0), .int 0, .int 0]) :: (sv, zc G 1 (zI (wL tx n p0) g4)) :: (rd, zo 3 [.int (nI (tS tx n p0)), .int (nI (tF tx n p0)), .ref sr, .int (nI th), .int (nI dg), .ref cl, .int (nI re), .ref co]) :: (co, zo 0 (cF w mn bm sm (nI n))) :: (w 8, zc G 1 (zI 200 xf)) :: rest) s H locs := by rw [e1, e2, e3]; exact hw
                  exact hend _ _ _ _ _ _ (sr, sv, g4) hw (fun j hj => by rw [e3]; rw [e2] at hj; rw [hg4 j hj]; exact hg j hj) (by omega) (by omega) dX3_take_184
                · skip
                  have hl : lv_has ls 3 [(0, .ref rd), (1, .int (nI kd)), (2, .ref q_87)] := hl
                  refine z_cq (z_runV (As := []) (rest := [.ref rd]) hC zv_X3_82 (m_J2_toString_c G l kA (by first | assumption | (omega)) q_87 va k cap g (by omega) hfit (by omega) (zrem [1, 0] _)) hw (hw.perm (z_cut (is := [1, 0]) (cells := [(q_87, zo 11 [.ref va, .int (nI 0), .int 0, .int (nI k)]), (va, zc G 1 (zI cap g))]) rfl rfl)) 1 rfl rfl rfl rfl rfl (Nat.le_of_ble_eq_true rfl) hl.1 ⟨Nat.le_of_ble_eq_true rfl, Nat.le_of_ble_eq_true rfl⟩ ⟨(by show _ ≤ 30; omega), (by show _ ≤ 1100; omega)⟩ dX3_take_178) hw (fun u => z_new1 (is := [1, 0]) (cs := [(q_87, zo 11 [.ref va, .int (nI 0), .int 0, .int (nI k)]), (va, zc G 1 (zI cap g))]) (cs' := [(q_87, zo 11 [.ref va, .int (nI 0), .int 0, .int (nI k)]), (va, zc G 1 (zI cap g))]) (nw := [(u.2.1, zc G 1 (zI k u.2.2)), (u.1, zo 12 [.ref u.2.1, .int (nI 0), .int 0, .int 0])]) rfl rfl rfl) (fun r u H locs hp hw => ?_)
                  obtain ⟨sr, sv, g4⟩ := u
                  have hw : zS G ((sv, zc G 1 (zI k g4)) :: (sr, zo 12 [.ref sv, .int (nI 0), .int 0, .int 0]) :: (va, zc G 1 (zI cap g)) :: (q_87, zo 11 [.ref va, .int (nI 0), .int 0, .int (nI k)]) :: (rd, zo 3 [.int (nI (i + k)), .int (nI i), .ref wd, .int (nI th), .int (nI dg), .ref cl, .int (nI re), .ref co]) :: (co, zo 0 (cF w mn bm sm (nI n))) :: (w 8, zc G 1 (zI 200 xf)) :: rest) s H locs := hw
                  obtain ⟨rfl, hg4⟩ := hp
                  refine z_put hC zf_X3_17_3 hw 4 rfl rfl rfl (Nat.le_of_ble_eq_true rfl) dX3_take_181 (fun H locs hw => ?_)
                  have hw : zS G ((sv, zc G 1 (zI k g4)) :: (sr, zo 12 [.ref sv, .int (nI 0), .int 0, .int 0]) :: (va, zc G 1 (zI cap g)) :: (q_87, zo 11 [.ref va, .int (nI 0), .int 0, .int (nI k)]) :: (rd, zo 3 [.int (nI (i + k)), .int (nI i), .ref sr, .int (nI th), .int (nI dg), .ref cl, .int (nI re), .ref co]) :: (co, zo 0 (cF w mn bm sm (nI n))) :: (w 8, zc G 1 (zI 200 xf)) :: rest) s H locs := hw
                  have hw : zS G ((q_87, zo 11 [.ref va, .int (nI 0), .int 0, .int (nI k)]) :: (va, zc G 1 (zI cap g)) :: (sv, zc G 1 (zI k g4)) :: (sr, zo 12 [.ref sv, .int (nI 0), .int 0, .int 0]) :: (rd, zo 3 [.int (nI (i + k)), .int (nI i), .ref sr, .int (nI th), .int (nI dg), .ref cl, .int (nI re), .ref co]) :: (co, zo 0 (cF w mn bm sm (nI n))) :: (w 8, zc G 1 (zI 200 xf)) :: rest) s H locs := hw.perm (((z_cut (is := [3, 2, 0, 1, 4, 5, 6]) (ws := [(sv, zc G 1 (zI k g4)), (sr, zo 12 [.ref sv, .int (nI 0), .int 0, .int 0]), (va, zc G 1 (zI cap g)), (q_87, zo 11 [.ref va, .int (nI 0), .int 0, .int (nI k)]), (rd, zo 3 [.int (nI (i + k)), .int (nI i), .ref sr, .int (nI th), .int (nI dg), .ref cl, .int (nI re), .ref co]), (co, zo 0 (cF w mn bm sm (nI n))), (w 8, zc G 1 (zI 200 xf))]) (cells := [(q_87, zo 11 [.ref va, .int (nI 0), .int 0, .int (nI k)]), (va, zc G 1 (zI cap g)), (sv, zc G 1 (zI k g4)), (sr, zo 12 [.ref sv, .int (nI 0), .int 0, .int 0]), (rd, zo 3 [.int (nI (i + k)), .int (nI i), .ref sr, .int (nI th), .int (nI dg), .ref cl, .int (nI re), .ref co]), (co, zo 0 (cF w mn bm sm (nI n))), (w 8, zc G 1 (zI 200 xf))]) rfl rfl).append_right rest).trans (by rw [List.append_assoc]; exact List.Perm.refl _))
                  have hw := hw.drop
                  have hw := hw.drop
                  have e1 : tS tx n p0 = i + k := by rw [← cEnd_tS, hfi, ← hgo]; first | exact goE_n (by omega) | exact goE_k (by omega) (fun q => by have h1 := q.1; have h2 := q.2; omega)
                  have e3 : tF tx n p0 = i := hfi
                  have e2 : wL tx n p0 = k := by unfold wL; omega
                  have hw : zS G ((sr, zo 12 [.ref sv, .int (nI 0), .int 0, .int 0]) :: (sv, zc G 1 (zI k g4)) :: (rd, zo 3 [.int (nI (i + k)), .int (nI i), .ref sr, .int (nI th), .int (nI dg), .ref cl, .int (nI re), .ref co]) :: (co, zo 0 (cF w mn bm sm (nI n))) :: (w 8, zc G 1 (zI 200 xf)) :: rest) s H locs := hw.perm (((z_cut (is := [1, 0, 2, 3, 4]) (ws := [(sv, zc G 1 (zI k g4)), (sr, zo 12 [.ref sv, .int (nI 0), .int 0, .int 0]), (rd, zo 3 [.int (nI (i + k)), .int (nI i), .ref sr, .int (nI th), .int (nI dg), .ref cl, .int (nI re), .ref co]), (co, zo 0 (cF w mn bm sm (nI n))), (w 8, zc G 1 (zI 200 xf))]) (cells := [(sr, zo 12 [.ref sv, .int (nI 0), .int 0, .int 0]), (sv, zc G 1 (zI k g4)), (rd, zo 3 [.int (nI (i + k)), .int (nI i), .ref sr, .int (nI th), .int (nI dg), .ref cl, .int (nI re), .ref co]), (co, zo 0 (cF w mn bm sm (nI n))), (w 8, zc G 1 (zI 200 xf))]) rfl rfl).append_right rest).trans (by rw [List.append_assoc]; exact List.Perm.refl _))
                  have hw : zS G ((sr, zo 12 [.ref sv, .int (nI 0), .int 0, .int 0]) :: (sv, zc G 1 (zI (wL tx n p0) g4)) :: (rd, zo 3 [.int (nI (tS tx n p0)), .int (nI (tF tx n p0)), .ref sr, .int (nI th), .int (nI dg), .ref cl, .int (nI re), .ref co]) :: (co, zo 0 (cF w mn bm sm (nI n))) :: (w 8, zc G 1 (zI 200 xf)) :: rest) s H locs := by rw [e1, e2, e3]; exact hw
                  exact hend _ _ _ _ _ _ (sr, sv, g4) hw (fun j hj => by rw [e3]; rw [e2] at hj; rw [hg4 j hj]; exact hg j hj) (by omega) (by omega) dX3_take_184
              · skip
                refine lv_aload_n hx hb dX3_take_109 rfl (lv_at hl 0 rfl) ?_
                refine z_get (v := .int (nI i)) hC zf_X3_68_3 hw 2 rfl rfl dX3_take_110 ?_
                refine lv_aload_n hx hb dX3_take_113 rfl (lv_at hl 0 rfl) ?_
                refine z_get (v := .int (nI (i + k))) hC zf_X3_58_3 hw 2 rfl rfl dX3_take_114 ?_
                refine zi_eq (tgt := 144) hx hb (by omega) (by omega) dX3_take_117 (by decide) (fun c_117 => ?_) (fun c_117 => ?_)
                · skip
                  refine lv_aload_n hx hb dX3_take_144 rfl (lv_at hl 2 rfl) ?_
                  refine lv_aload_n hx hb dX3_take_145 rfl (lv_at hl 0 rfl) ?_
                  refine z_get (v := .ref co) hC zf_X3_3_3 hw 2 rfl rfl dX3_take_146 ?_
                  refine z_getN (v := .ref (w 8)) (k := 11) hC (show zcl[0]? = some (RX0, TX0, 13) from rfl) in_X0 (by decide) rfl rfl rfl (hz.1 _ (cw_t q184 rfl)) hw 3 rfl rfl dX3_take_149 ?_
                  refine lv_aload_n hx hb dX3_take_152 rfl (lv_at hl 0 rfl) ?_
                  refine lv_dup hx hb dX3_take_153 rfl ?_
                  refine z_get (v := .int (nI (i + k))) hC zf_X3_58_3 hw 2 rfl rfl dX3_take_154 ?_
                  refine lv_dup_x1 hx hb dX3_take_157 rfl rfl ?_
                  refine lv_iconst (v := (nI 1)) hx hb dX3_take_158 zk_1 ?_
                  refine zn_iadd hx hb dX3_take_159 ?_
                  refine z_puti hC zf_X3_58_3 hw 2 rfl (Nat.le_of_ble_eq_true rfl) dX3_take_160 (fun H locs hw => ?_)
                  have hw : zS G ((va, zc G 1 (zI cap g)) :: (q_87, zo 11 [.ref va, .int (nI 0), .int 0, .int (nI k)]) :: (rd, zo 3 [.int (nI (i + k + 1)), .int (nI i), .ref wd, .int (nI th), .int (nI dg), .ref cl, .int (nI re), .ref co]) :: (co, zo 0 (cF w mn bm sm (nI n))) :: (w 8, zc G 1 (zI 200 xf)) :: rest) s H locs := hw
                  refine z_bald (x := (btL (tx (i + k)))) hC hw 4 rfl (by omega) (by decide) (hxf _ (by omega)) dX3_take_163 ?_
                  refine lv_sipush (v := (nI 255)) hx hb dX3_take_164 zs_255 ?_
                  refine zv_iand (v := (nI (tx (i + k)))) hx hb (btL_and (htx _ c_106)) dX3_take_167 ?_
                  refine lv_i2c (v := (nI (tx (i + k)))) hx hb dX3_take_168 (zi2c (by have := htx _ c_106; omega)) ?_
                  rcases Nat.lt_or_eq_of_le hkc with hkc | hkc
                  · skip
                    have hl : lv_has ls 3 [(0, .ref rd), (1, .int (nI kd)), (2, .ref q_87)] := hl
                    refine z_cq (z_runV (As := [.int (nI (tx (i + k)))]) (rest := []) hC zv_X3_78 (m_J2_append_n G l kA (by first | assumption | (omega)) (by first | assumption | (omega)) q_87 va k cap g (tx (i + k)) (htx _ c_106) (by omega) hfit (by omega) (zrem [1, 0] _)) hw (hw.perm (z_cut (is := [1, 0]) (cells := [(q_87, zo 11 [.ref va, .int (nI 0), .int 0, .int (nI k)]), (va, zc G 1 (zI cap g))]) rfl rfl)) 1 rfl rfl rfl rfl rfl (Nat.le_of_ble_eq_true rfl) hl.1 ⟨Nat.le_of_ble_eq_true rfl, Nat.le_of_ble_eq_true rfl⟩ ⟨(by show _ ≤ 30; omega), (by show _ ≤ 1100; omega)⟩ dX3_take_169) hw (fun u => z_pput (is := [1, 0]) (cells := [(q_87, zo 11 [.ref va, .int (nI 0), .int 0, .int (nI k)]), (va, zc G 1 (zI cap g))]) (cells' := [(q_87, zo 11 [.ref u.1, .int (nI 0), .int 0, .int (nI (k + 1))]), (u.1, zc G 1 (zI u.2.1 u.2.2))]) rfl rfl rfl) (fun r u H locs hp hw => ?_)
                    obtain ⟨va7, cap7, g7⟩ := u
                    have hw : zS G ((va7, zc G 1 (zI cap7 g7)) :: (q_87, zo 11 [.ref va7, .int (nI 0), .int 0, .int (nI (k + 1))]) :: (rd, zo 3 [.int (nI (i + k + 1)), .int (nI i), .ref wd, .int (nI th), .int (nI dg), .ref cl, .int (nI re), .ref co]) :: (co, zo 0 (cF w mn bm sm (nI n))) :: (w 8, zc G 1 (zI 200 xf)) :: rest) s H locs := hw
                    obtain ⟨rfl, hg7, hfit7, hcap7⟩ := hp
                    have hc7 : (cap7 = cap ∧ k < cap) ∨ (cap7 = 2 * cap + 2 ∧ k = cap) := hcap7.imp (fun q => q.2) id
                    refine lv_pop hx hb dX3_take_172 rfl ?_
                    refine lv_goto (tgt := 95) hx hb dX3_take_173 (by decide) ?_
                    have hw : zS G ((va7, zc G 1 (zI cap7 g7)) :: (q_87, zo 11 [.ref va7, .int (nI 0), .int 0, .int (nI (k + 1))]) :: (rd, zo 3 [.int (nI (i + (k + 1))), .int (nI i), .ref wd, .int (nI th), .int (nI dg), .ref cl, .int (nI re), .ref co]) :: (co, zo 0 (cF w mn bm sm (nI n))) :: (w 8, zc G 1 (zI 200 xf)) :: rest) s H locs := hw
                    refine W.widen (k := (2 + cap7 / 16)) (n := (4 + 2 * cap7)) (by omega) (by omega) ?_
                    exact ih_95 (k + 1) cap7 va7 g7 (by omega) (by omega) (by omega) (by omega) ((goE_s c_106 (by omega) hkd (by first | exact Or.inl (by omega) | exact Or.inr ⟨by omega, by omega⟩)).trans hgo) (fun j hj => (hg7 j hj).trans (by split; (next e => rw [e]); exact hg j (by omega))) hfit7 (by omega) H locs ls hw (lv_sub hl [0, 1, 2] rfl)
                  · skip
                    have hl : lv_has ls 3 [(0, .ref rd), (1, .int (nI kd)), (2, .ref q_87)] := hl
                    refine z_cq (z_runV (As := [.int (nI (tx (i + k)))]) (rest := []) hC zv_X3_78 (m_J2_append_g G l kA (by first | assumption | (omega)) (by first | assumption | (omega)) q_87 va k cap g (tx (i + k)) (htx _ c_106) (by omega) hfit (by omega) (by omega) (zrem [1, 0] _)) hw (hw.perm (z_cut (is := [1, 0]) (cells := [(q_87, zo 11 [.ref va, .int (nI 0), .int 0, .int (nI k)]), (va, zc G 1 (zI cap g))]) rfl rfl)) 1 rfl rfl rfl rfl rfl (Nat.le_of_ble_eq_true rfl) hl.1 ⟨Nat.le_of_ble_eq_true rfl, Nat.le_of_ble_eq_true rfl⟩ ⟨(by show _ ≤ 30; omega), (by show _ ≤ 1100; omega)⟩ dX3_take_169) hw (fun u => z_pput (is := [1, 0]) (cells := [(q_87, zo 11 [.ref va, .int (nI 0), .int 0, .int (nI k)]), (va, zc G 1 (zI cap g))]) (cells' := [(q_87, zo 11 [.ref u.1, .int (nI 0), .int 0, .int (nI (k + 1))]), (u.1, zc G 1 (zI u.2.1 u.2.2))]) rfl rfl rfl) (fun r u H locs hp hw => ?_)
                    obtain ⟨va7, cap7, g7⟩ := u
                    have hw : zS G ((va7, zc G 1 (zI cap7 g7)) :: (q_87, zo 11 [.ref va7, .int (nI 0), .int 0, .int (nI (k + 1))]) :: (rd, zo 3 [.int (nI (i + k + 1)), .int (nI i), .ref wd, .int (nI th), .int (nI dg), .ref cl, .int (nI re), .ref co]) :: (co, zo 0 (cF w mn bm sm (nI n))) :: (w 8, zc G 1 (zI 200 xf)) :: rest) s H locs := hw
                    obtain ⟨rfl, hg7, hfit7, hcap7⟩ := hp
                    have hc7 : (cap7 = cap ∧ k < cap) ∨ (cap7 = 2 * cap + 2 ∧ k = cap) := hcap7.imp (fun q => q.2) id
                    refine lv_pop hx hb dX3_take_172 rfl ?_
                    refine lv_goto (tgt := 95) hx hb dX3_take_173 (by decide) ?_
                    have hw : zS G ((va7, zc G 1 (zI cap7 g7)) :: (q_87, zo 11 [.ref va7, .int (nI 0), .int 0, .int (nI (k + 1))]) :: (rd, zo 3 [.int (nI (i + (k + 1))), .int (nI i), .ref wd, .int (nI th), .int (nI dg), .ref cl, .int (nI re), .ref co]) :: (co, zo 0 (cF w mn bm sm (nI n))) :: (w 8, zc G 1 (zI 200 xf)) :: rest) s H locs := hw
                    refine W.widen (k := (2 + cap7 / 16)) (n := (4 + 2 * cap7)) (by omega) (by omega) ?_
                    exact ih_95 (k + 1) cap7 va7 g7 (by omega) (by omega) (by omega) (by omega) ((goE_s c_106 (by omega) hkd (by first | exact Or.inl (by omega) | exact Or.inr ⟨by omega, by omega⟩)).trans hgo) (fun j hj => (hg7 j hj).trans (by split; (next e => rw [e]); exact hg j (by omega))) hfit7 (by omega) H locs ls hw (lv_sub hl [0, 1, 2] rfl)
                · skip
                  refine lv_iload_n hx hb dX3_take_120 rfl (lv_at hl 1 rfl) ?_
                  refine zj_le (tgt := 176) hx hb (by omega) dX3_take_121 (by decide) (fun c_121 => ?_) (fun c_121 => ?_)
                  · skip
                    refine lv_aload_n hx hb dX3_take_176 rfl (lv_at hl 0 rfl) ?_
                    refine lv_aload_n hx hb dX3_take_177 rfl (lv_at hl 2 rfl) ?_
                    rcases Nat.lt_or_eq_of_le hkc with hkc | hkc
                    · skip
                      have hl : lv_has ls 3 [(0, .ref rd), (1, .int (nI kd)), (2, .ref q_87)] := hl
                      refine z_cq (z_runV (As := []) (rest := [.ref rd]) hC zv_X3_82 (m_J2_toString_r G l kA (by first | assumption | (omega)) q_87 va k cap g (by omega) hfit (by omega) (zrem [1, 0] _)) hw (hw.perm (z_cut (is := [1, 0]) (cells := [(q_87, zo 11 [.ref va, .int (nI 0), .int 0, .int (nI k)]), (va, zc G 1 (zI cap g))]) rfl rfl)) 1 rfl rfl rfl rfl rfl (Nat.le_of_ble_eq_true rfl) hl.1 ⟨Nat.le_of_ble_eq_true rfl, Nat.le_of_ble_eq_true rfl⟩ ⟨(by show _ ≤ 30; omega), (by show _ ≤ 1100; omega)⟩ dX3_take_178) hw (fun u => z_new1 (is := [1, 0]) (cs := [(q_87, zo 11 [.ref va, .int (nI 0), .int 0, .int (nI k)]), (va, zc G 1 (zI cap g))]) (cs' := [(q_87, zo 11 [.ref va, .int (nI 0), .int 0, .int (nI k)]), (va, zc G 1 (zI cap g))]) (nw := [(u.2.1, zc G 1 (zI k u.2.2)), (u.1, zo 12 [.ref u.2.1, .int (nI 0), .int 0, .int 0])]) rfl rfl rfl) (fun r u H locs hp hw => ?_)
                      obtain ⟨sr, sv, g4⟩ := u
                      have hw : zS G ((sv, zc G 1 (zI k g4)) :: (sr, zo 12 [.ref sv, .int (nI 0), .int 0, .int 0]) :: (va, zc G 1 (zI cap g)) :: (q_87, zo 11 [.ref va, .int (nI 0), .int 0, .int (nI k)]) :: (rd, zo 3 [.int (nI (i + k)), .int (nI i), .ref wd, .int (nI th), .int (nI dg), .ref cl, .int (nI re), .ref co]) :: (co, zo 0 (cF w mn bm sm (nI n))) :: (w 8, zc G 1 (zI 200 xf)) :: rest) s H locs := hw
                      obtain ⟨rfl, hg4⟩ := hp
                      refine z_put hC zf_X3_17_3 hw 4 rfl rfl rfl (Nat.le_of_ble_eq_true rfl) dX3_take_181 (fun H locs hw => ?_)
                      have hw : zS G ((sv, zc G 1 (zI k g4)) :: (sr, zo 12 [.ref sv, .int (nI 0), .int 0, .int 0]) :: (va, zc G 1 (zI cap g)) :: (q_87, zo 11 [.ref va, .int (nI 0), .int 0, .int (nI k)]) :: (rd, zo 3 [.int (nI (i + k)), .int (nI i), .ref sr, .int (nI th), .int (nI dg), .ref cl, .int (nI re), .ref co]) :: (co, zo 0 (cF w mn bm sm (nI n))) :: (w 8, zc G 1 (zI 200 xf)) :: rest) s H locs := hw
                      have hw : zS G ((q_87, zo 11 [.ref va, .int (nI 0), .int 0, .int (nI k)]) :: (va, zc G 1 (zI cap g)) :: (sv, zc G 1 (zI k g4)) :: (sr, zo 12 [.ref sv, .int (nI 0), .int 0, .int 0]) :: (rd, zo 3 [.int (nI (i + k)), .int (nI i), .ref sr, .int (nI th), .int (nI dg), .ref cl, .int (nI re), .ref co]) :: (co, zo 0 (cF w mn bm sm (nI n))) :: (w 8, zc G 1 (zI 200 xf)) :: rest) s H locs := hw.perm (((z_cut (is := [3, 2, 0, 1, 4, 5, 6]) (ws := [(sv, zc G 1 (zI k g4)), (sr, zo 12 [.ref sv, .int (nI 0), .int 0, .int 0]), (va, zc G 1 (zI cap g)), (q_87, zo 11 [.ref va, .int (nI 0), .int 0, .int (nI k)]), (rd, zo 3 [.int (nI (i + k)), .int (nI i), .ref sr, .int (nI th), .int (nI dg), .ref cl, .int (nI re), .ref co]), (co, zo 0 (cF w mn bm sm (nI n))), (w 8, zc G 1 (zI 200 xf))]) (cells := [(q_87, zo 11 [.ref va, .int (nI 0), .int 0, .int (nI k)]), (va, zc G 1 (zI cap g)), (sv, zc G 1 (zI k g4)), (sr, zo 12 [.ref sv, .int (nI 0), .int 0, .int 0]), (rd, zo 3 [.int (nI (i + k)), .int (nI i), .ref sr, .int (nI th), .int (nI dg), .ref cl, .int (nI re), .ref co]), (co, zo 0 (cF w mn bm sm (nI n))), (w 8, zc G 1 (zI 200 xf))]) rfl rfl).append_right rest).trans (by rw [List.append_assoc]; exact List.Perm.refl _))
                      have hw := hw.drop
                      have hw := hw.drop
                      have e1 : tS tx n p0 = i + k := by rw [← cEnd_tS, hfi, ← hgo]; first | exact goE_n (by omega) | exact goE_k (by omega) (fun q => by have h1 := q.1; have h2 := q.2; omega)
                      have e3 : tF tx n p0 = i := hfi
                      have e2 : wL tx n p0 = k := by unfold wL; omega
                      have hw : zS G ((sr, zo 12 [.ref sv, .int (nI 0), .int 0, .int 0]) :: (sv, zc G 1 (zI k g4)) :: (rd, zo 3 [.int (nI (i + k)), .int (nI i), .ref sr, .int (nI th), .int (nI dg), .ref cl, .int (nI re), .ref co]) :: (co, zo 0 (cF w mn bm sm (nI n))) :: (w 8, zc G 1 (zI 200 xf)) :: rest) s H locs := hw.perm (((z_cut (is := [1, 0, 2, 3, 4]) (ws := [(sv, zc G 1 (zI k g4)), (sr, zo 12 [.ref sv, .int (nI 0), .int 0, .int 0]), (rd, zo 3 [.int (nI (i + k)), .int (nI i), .ref sr, .int (nI th), .int (nI dg), .ref cl, .int (nI re), .ref co]), (co, zo 0 (cF w mn bm sm (nI n))), (w 8, zc G 1 (zI 200 xf))]) (cells := [(sr, zo 12 [.ref sv, .int (nI 0), .int 0, .int 0]), (sv, zc G 1 (zI k g4)), (rd, zo 3 [.int (nI (i + k)), .int (nI i), .ref sr, .int (nI th), .int (nI dg), .ref cl, .int (nI re), .ref co]), (co, zo 0 (cF w mn bm sm (nI n))), (w 8, zc G 1 (zI 200 xf))]) rfl rfl).append_right rest).trans (by rw [List.append_assoc]; exact List.Perm.refl _))
                      have hw : zS G ((sr, zo 12 [.ref sv, .int (nI 0), .int 0, .int 0]) :: (sv, zc G 1 (zI (wL tx n p0) g4)) :: (rd, zo 3 [.int (nI (tS tx n p0)), .int (nI (tF tx n p0)), .ref sr, .int (nI th), .int (nI dg), .ref cl, .int (nI re), .ref co]) :: (co, zo 0 (cF w mn bm sm (nI n))) :: (w 8, zc G 1 (zI 200 xf)) :: rest) s H locs := by rw [e1, e2, e3]; exact hw
                      exact hend _ _ _ _ _ _ (sr, sv, g4) hw (fun j hj => by rw [e3]; rw [e2] at hj; rw [hg4 j hj]; exact hg j hj) (by omega) (by omega) dX3_take_184
                    · skip
                      have hl : lv_has ls 3 [(0, .ref rd), (1, .int (nI kd)), (2, .ref q_87)] := hl
                      refine z_cq (z_runV (As := []) (rest := [.ref rd]) hC zv_X3_82 (m_J2_toString_c G l kA (by first | assumption | (omega)) q_87 va k cap g (by omega) hfit (by omega) (zrem [1, 0] _)) hw (hw.perm (z_cut (is := [1, 0]) (cells := [(q_87, zo 11 [.ref va, .int (nI 0), .int 0, .int (nI k)]), (va, zc G 1 (zI cap g))]) rfl rfl)) 1 rfl rfl rfl rfl rfl (Nat.le_of_ble_eq_true rfl) hl.1 ⟨Nat.le_of_ble_eq_true rfl, Nat.le_of_ble_eq_true rfl⟩ ⟨(by show _ ≤ 30; omega), (by show _ ≤ 1100; omega)⟩ dX3_take_178) hw (fun u => z_new1 (is := [1, 0]) (cs := [(q_87, zo 11 [.ref va, .int (nI 0), .int 0, .int (nI k)]), (va, zc G 1 (zI cap g))]) (cs' := [(q_87, zo 11 [.ref va, .int (nI 0), .int 0, .int (nI k)]), (va, zc G 1 (zI cap g))]) (nw := [(u.2.1, zc G 1 (zI k u.2.2)), (u.1, zo 12 [.ref u.2.1, .int (nI 0), .int 0, .int 0])]) rfl rfl rfl) (fun r u H locs hp hw => ?_)
                      obtain ⟨sr, sv, g4⟩ := u
                      have hw : zS G ((sv, zc G 1 (zI k g4)) :: (sr, zo 12 [.ref sv, .int (nI 0), .int 0, .int 0]) :: (va, zc G 1 (zI cap g)) :: (q_87, zo 11 [.ref va, .int (nI 0), .int 0, .int (nI k)]) :: (rd, zo 3 [.int (nI (i + k)), .int (nI i), .ref wd, .int (nI th), .int (nI dg), .ref cl, .int (nI re), .ref co]) :: (co, zo 0 (cF w mn bm sm (nI n))) :: (w 8, zc G 1 (zI 200 xf)) :: rest) s H locs := hw
                      obtain ⟨rfl, hg4⟩ := hp
                      refine z_put hC zf_X3_17_3 hw 4 rfl rfl rfl (Nat.le_of_ble_eq_true rfl) dX3_take_181 (fun H locs hw => ?_)
                      have hw : zS G ((sv, zc G 1 (zI k g4)) :: (sr, zo 12 [.ref sv, .int (nI 0), .int 0, .int 0]) :: (va, zc G 1 (zI cap g)) :: (q_87, zo 11 [.ref va, .int (nI 0), .int 0, .int (nI k)]) :: (rd, zo 3 [.int (nI (i + k)), .int (nI i), .ref sr, .int (nI th), .int (nI dg), .ref cl, .int (nI re), .ref co]) :: (co, zo 0 (cF w mn bm sm (nI n))) :: (w 8, zc G 1 (zI 200 xf)) :: rest) s H locs := hw
                      have hw : zS G ((q_87, zo 11 [.ref va, .int (nI 0), .int 0, .int (nI k)]) :: (va, zc G 1 (zI cap g)) :: (sv, zc G 1 (zI k g4)) :: (sr, zo 12 [.ref sv, .int (nI 0), .int 0, .int 0]) :: (rd, zo 3 [.int (nI (i + k)), .int (nI i), .ref sr, .int (nI th), .int (nI dg), .ref cl, .int (nI re), .ref co]) :: (co, zo 0 (cF w mn bm sm (nI n))) :: (w 8, zc G 1 (zI 200 xf)) :: rest) s H locs := hw.perm (((z_cut (is := [3, 2, 0, 1, 4, 5, 6]) (ws := [(sv, zc G 1 (zI k g4)), (sr, zo 12 [.ref sv, .int (nI 0), .int 0, .int 0]), (va, zc G 1 (zI cap g)), (q_87, zo 11 [.ref va, .int (nI 0), .int 0, .int (nI k)]), (rd, zo 3 [.int (nI (i + k)), .int (nI i), .ref sr, .int (nI th), .int (nI dg), .ref cl, .int (nI re), .ref co]), (co, zo 0 (cF w mn bm sm (nI n))), (w 8, zc G 1 (zI 200 xf))]) (cells := [(q_87, zo 11 [.ref va, .int (nI 0), .int 0, .int (nI k)]), (va, zc G 1 (zI cap g)), (sv, zc G 1 (zI k g4)), (sr, zo 12 [.ref sv, .int (nI 0), .int 0, .int 0]), (rd, zo 3 [.int (nI (i + k)), .int (nI i), .ref sr, .int (nI th), .int (nI dg), .ref cl, .int (nI re), .ref co]), (co, zo 0 (cF w mn bm sm (nI n))), (w 8, zc G 1 (zI 200 xf))]) rfl rfl).append_right rest).trans (by rw [List.append_assoc]; exact List.Perm.refl _))
                      have hw := hw.drop
                      have hw := hw.drop
                      have e1 : tS tx n p0 = i + k := by rw [← cEnd_tS, hfi, ← hgo]; first | exact goE_n (by omega) | exact goE_k (by omega) (fun q => by have h1 := q.1; have h2 := q.2; omega)
                      have e3 : tF tx n p0 = i := hfi
                      have e2 : wL tx n p0 = k := by unfold wL; omega
                      have hw : zS G ((sr, zo 12 [.ref sv, .int (nI 0), .int 0, .int 0]) :: (sv, zc G 1 (zI k g4)) :: (rd, zo 3 [.int (nI (i + k)), .int (nI i), .ref sr, .int (nI th), .int (nI dg), .ref cl, .int (nI re), .ref co]) :: (co, zo 0 (cF w mn bm sm (nI n))) :: (w 8, zc G 1 (zI 200 xf)) :: rest) s H locs := hw.perm (((z_cut (is := [1, 0, 2, 3, 4]) (ws := [(sv, zc G 1 (zI k g4)), (sr, zo 12 [.ref sv, .int (nI 0), .int 0, .int 0]), (rd, zo 3 [.int (nI (i + k)), .int (nI i), .ref sr, .int (nI th), .int (nI dg), .ref cl, .int (nI re), .ref co]), (co, zo 0 (cF w mn bm sm (nI n))), (w 8, zc G 1 (zI 200 xf))]) (cells := [(sr, zo 12 [.ref sv, .int (nI 0), .int 0, .int 0]), (sv, zc G 1 (zI k g4)), (rd, zo 3 [.int (nI (i + k)), .int (nI i), .ref sr, .int (nI th), .int (nI dg), .ref cl, .int (nI re), .ref co]), (co, zo 0 (cF w mn bm sm (nI n))), (w 8, zc G 1 (zI 200 xf))]) rfl rfl).append_right rest).trans (by rw [List.append_assoc]; exact List.Perm.refl _))
                      have hw : zS G ((sr, zo 12 [.ref sv, .int (nI 0), .int 0, .int 0]) :: (sv, zc G 1 (zI (wL tx n p0) g4)) :: (rd, zo 3 [.int (nI (tS tx n p0)), .int (nI (tF tx n p0)), .ref sr, .int (nI th), .int (nI dg), .ref cl, .int (nI re), .ref co]) :: (co, zo 0 (cF w mn bm sm (nI n))) :: (w 8, zc G 1 (zI 200 xf)) :: rest) s H locs := by rw [e1, e2, e3]; exact hw
                      exact hend _ _ _ _ _ _ (sr, sv, g4) hw (fun j hj => by rw [e3]; rw [e2] at hj; rw [hg4 j hj]; exact hg j hj) (by omega) (by omega) dX3_take_184
                  · skip
                    refine lv_aload_n hx hb dX3_take_124 rfl (lv_at hl 0 rfl) ?_
                    refine lv_aload_n hx hb dX3_take_125 rfl (lv_at hl 0 rfl) ?_
                    refine z_get (v := .ref co) hC zf_X3_3_3 hw 2 rfl rfl dX3_take_126 ?_
                    refine z_getN (v := .ref (w 8)) (k := 11) hC (show zcl[0]? = some (RX0, TX0, 13) from rfl) in_X0 (by decide) rfl rfl rfl (hz.1 _ (cw_t q184 rfl)) hw 3 rfl rfl dX3_take_129 ?_
                    refine lv_aload_n hx hb dX3_take_132 rfl (lv_at hl 0 rfl) ?_
                    refine z_get (v := .int (nI (i + k))) hC zf_X3_58_3 hw 2 rfl rfl dX3_take_133 ?_
                    refine z_bald (x := (btL (tx (i + k)))) hC hw 4 rfl (by omega) (by decide) (hxf _ (by omega)) dX3_take_136 ?_
                    refine z_ci (z_runV (As := [.int (btL (tx (i + k)))]) (rest := []) hC zv_X3_71 (m_X3_kindOf_b G l kA (by first | assumption | (omega)) rd (tx (i + k)) (htx _ c_106) _) hw hw 2 rfl rfl rfl rfl rfl (Nat.le_of_ble_eq_true rfl) hl.1 ⟨Nat.le_of_ble_eq_true rfl, Nat.le_of_ble_eq_true rfl⟩ ⟨(by show _ ≤ 30; omega), (by show _ ≤ 1100; omega)⟩ dX3_take_137) hw (fun _ => List.Perm.refl _) (fun r u H locs hp hw => ?_)
                    obtain rfl : r = nI (kdN (tx (i + k))) := hp
                    refine lv_iload_n hx hb dX3_take_140 rfl (lv_at hl 1 rfl) ?_
                    refine zi_ne (tgt := 176) hx hb (by have := kdN_le (tx (i + k)); omega) (by omega) dX3_take_141 (by decide) (fun c_141 => ?_) (fun c_141 => ?_)
                    · skip
                      refine lv_aload_n hx hb dX3_take_176 rfl (lv_at hl 0 rfl) ?_
                      refine lv_aload_n hx hb dX3_take_177 rfl (lv_at hl 2 rfl) ?_
                      rcases Nat.lt_or_eq_of_le hkc with hkc | hkc
                      · skip
                        have hl : lv_has ls 3 [(0, .ref rd), (1, .int (nI kd)), (2, .ref q_87)] := hl
                        refine z_cq (z_runV (As := []) (rest := [.ref rd]) hC zv_X3_82 (m_J2_toString_r G l kA (by first | assumption | (omega)) q_87 va k cap g (by omega) hfit (by omega) (zrem [1, 0] _)) hw (hw.perm (z_cut (is := [1, 0]) (cells := [(q_87, zo 11 [.ref va, .int (nI 0), .int 0, .int (nI k)]), (va, zc G 1 (zI cap g))]) rfl rfl)) 1 rfl rfl rfl rfl rfl (Nat.le_of_ble_eq_true rfl) hl.1 ⟨Nat.le_of_ble_eq_true rfl, Nat.le_of_ble_eq_true rfl⟩ ⟨(by show _ ≤ 30; omega), (by show _ ≤ 1100; omega)⟩ dX3_take_178) hw (fun u => z_new1 (is := [1, 0]) (cs := [(q_87, zo 11 [.ref va, .int (nI 0), .int 0, .int (nI k)]), (va, zc G 1 (zI cap g))]) (cs' := [(q_87, zo 11 [.ref va, .int (nI 0), .int 0, .int (nI k)]), (va, zc G 1 (zI cap g))]) (nw := [(u.2.1, zc G 1 (zI k u.2.2)), (u.1, zo 12 [.ref u.2.1, .int (nI 0), .int 0, .int 0])]) rfl rfl rfl) (fun r u H locs hp hw => ?_)
                        obtain ⟨sr, sv, g4⟩ := u
                        have hw : zS G ((sv, zc G 1 (zI k g4)) :: (sr, zo 12 [.ref sv, .int (nI 0), .int 0, .int 0]) :: (va, zc G 1 (zI cap g)) :: (q_87, zo 11 [.ref va, .int (nI 0), .int 0, .int (nI k)]) :: (rd, zo 3 [.int (nI (i + k)), .int (nI i), .ref wd, .int (nI th), .int (nI dg), .ref cl, .int (nI re), .ref co]) :: (co, zo 0 (cF w mn bm sm (nI n))) :: (w 8, zc G 1 (zI 200 xf)) :: rest) s H locs := hw
                        obtain ⟨rfl, hg4⟩ := hp
                        refine z_put hC zf_X3_17_3 hw 4 rfl rfl rfl (Nat.le_of_ble_eq_true rfl) dX3_take_181 (fun H locs hw => ?_)
                        have hw : zS G ((sv, zc G 1 (zI k g4)) :: (sr, zo 12 [.ref sv, .int (nI 0), .int 0, .int 0]) :: (va, zc G 1 (zI cap g)) :: (q_87, zo 11 [.ref va, .int (nI 0), .int 0, .int (nI k)]) :: (rd, zo 3 [.int (nI (i + k)), .int (nI i), .ref sr, .int (nI th), .int (nI dg), .ref cl, .int (nI re), .ref co]) :: (co, zo 0 (cF w mn bm sm (nI n))) :: (w 8, zc G 1 (zI 200 xf)) :: rest) s H locs := hw
                        have hw : zS G ((q_87, zo 11 [.ref va, .int (nI 0), .int 0, .int (nI k)]) :: (va, zc G 1 (zI cap g)) :: (sv, zc G 1 (zI k g4)) :: (sr, zo 12 [.ref sv, .int (nI 0), .int 0, .int 0]) :: (rd, zo 3 [.int (nI (i + k)), .int (nI i), .ref sr, .int (nI th), .int (nI dg), .ref cl, .int (nI re), .ref co]) :: (co, zo 0 (cF w mn bm sm (nI n))) :: (w 8, zc G 1 (zI 200 xf)) :: rest) s H locs := hw.perm (((z_cut (is := [3, 2, 0, 1, 4, 5, 6]) (ws := [(sv, zc G 1 (zI k g4)), (sr, zo 12 [.ref sv, .int (nI 0), .int 0, .int 0]), (va, zc G 1 (zI cap g)), (q_87, zo 11 [.ref va, .int (nI 0), .int 0, .int (nI k)]), (rd, zo 3 [.int (nI (i + k)), .int (nI i), .ref sr, .int (nI th), .int (nI dg), .ref cl, .int (nI re), .ref co]), (co, zo 0 (cF w mn bm sm (nI n))), (w 8, zc G 1 (zI 200 xf))]) (cells := [(q_87, zo 11 [.ref va, .int (nI 0), .int 0, .int (nI k)]), (va, zc G 1 (zI cap g)), (sv, zc G 1 (zI k g4)), (sr, zo 12 [.ref sv, .int (nI 0), .int 0, .int 0]), (rd, zo 3 [.int (nI (i + k)), .int (nI i), .ref sr, .int (nI th), .int (nI dg), .ref cl, .int (nI re), .ref co]), (co, zo 0 (cF w mn bm sm (nI n))), (w 8, zc G 1 (zI 200 xf))]) rfl rfl).append_right rest).trans (by rw [List.append_assoc]; exact List.Perm.refl _))
                        have hw := hw.drop
                        have hw := hw.drop
                        have e1 : tS tx n p0 = i + k := by rw [← cEnd_tS, hfi, ← hgo]; first | exact goE_n (by omega) | exact goE_k (by omega) (fun q => by have h1 := q.1; have h2 := q.2; omega)
                        have e3 : tF tx n p0 = i := hfi
                        have e2 : wL tx n p0 = k := by unfold wL; omega
                        have hw : zS G ((sr, zo 12 [.ref sv, .int (nI 0), .int 0, .int 0]) :: (sv, zc G 1 (zI k g4)) :: (rd, zo 3 [.int (nI (i + k)), .int (nI i), .ref sr, .int (nI th), .int (nI dg), .ref cl, .int (nI re), .ref co]) :: (co, zo 0 (cF w mn bm sm (nI n))) :: (w 8, zc G 1 (zI 200 xf)) :: rest) s H locs := hw.perm (((z_cut (is := [1, 0, 2, 3, 4]) (ws := [(sv, zc G 1 (zI k g4)), (sr, zo 12 [.ref sv, .int (nI 0), .int 0, .int 0]), (rd, zo 3 [.int (nI (i + k)), .int (nI i), .ref sr, .int (nI th), .int (nI dg), .ref cl, .int (nI re), .ref co]), (co, zo 0 (cF w mn bm sm (nI n))), (w 8, zc G 1 (zI 200 xf))]) (cells := [(sr, zo 12 [.ref sv, .int (nI 0), .int 0, .int 0]), (sv, zc G 1 (zI k g4)), (rd, zo 3 [.int (nI (i + k)), .int (nI i), .ref sr, .int (nI th), .int (nI dg), .ref cl, .int (nI re), .ref co]), (co, zo 0 (cF w mn bm sm (nI n))), (w 8, zc G 1 (zI 200 xf))]) rfl rfl).append_right rest).trans (by rw [List.append_assoc]; exact List.Perm.refl _))
                        have hw : zS G ((sr, zo 12 [.ref sv, .int (nI 0), .int 0, .int 0]) :: (sv, zc G 1 (zI (wL tx n p0) g4)) :: (rd, zo 3 [.int (nI (tS tx n p0)), .int (nI (tF tx n p0)), .ref sr, .int (nI th), .int (nI dg), .ref cl, .int (nI re), .ref co]) :: (co, zo 0 (cF w mn bm sm (nI n))) :: (w 8, zc G 1 (zI 200 xf)) :: rest) s H locs := by rw [e1, e2, e3]; exact hw
                        exact hend _ _ _ _ _ _ (sr, sv, g4) hw (fun j hj => by rw [e3]; rw [e2] at hj; rw [hg4 j hj]; exact hg j hj) (by omega) (by omega) dX3_take_184
                      · skip
                        have hl : lv_has ls 3 [(0, .ref rd), (1, .int (nI kd)), (2, .ref q_87)] := hl
                        refine z_cq (z_runV (As := []) (rest := [.ref rd]) hC zv_X3_82 (m_J2_toString_c G l kA (by first | assumption | (omega)) q_87 va k cap g (by omega) hfit (by omega) (zrem [1, 0] _)) hw (hw.perm (z_cut (is := [1, 0]) (cells := [(q_87, zo 11 [.ref va, .int (nI 0), .int 0, .int (nI k)]), (va, zc G 1 (zI cap g))]) rfl rfl)) 1 rfl rfl rfl rfl rfl (Nat.le_of_ble_eq_true rfl) hl.1 ⟨Nat.le_of_ble_eq_true rfl, Nat.le_of_ble_eq_true rfl⟩ ⟨(by show _ ≤ 30; omega), (by show _ ≤ 1100; omega)⟩ dX3_take_178) hw (fun u => z_new1 (is := [1, 0]) (cs := [(q_87, zo 11 [.ref va, .int (nI 0), .int 0, .int (nI k)]), (va, zc G 1 (zI cap g))]) (cs' := [(q_87, zo 11 [.ref va, .int (nI 0), .int 0, .int (nI k)]), (va, zc G 1 (zI cap g))]) (nw := [(u.2.1, zc G 1 (zI k u.2.2)), (u.1, zo 12 [.ref u.2.1, .int (nI 0), .int 0, .int 0])]) rfl rfl rfl) (fun r u H locs hp hw => ?_)
                        obtain ⟨sr, sv, g4⟩ := u
                        have hw : zS G ((sv, zc G 1 (zI k g4)) :: (sr, zo 12 [.ref sv, .int (nI 0), .int 0, .int 0]) :: (va, zc G 1 (zI cap g)) :: (q_87, zo 11 [.ref va, .int (nI 0), .int 0, .int (nI k)]) :: (rd, zo 3 [.int (nI (i + k)), .int (nI i), .ref wd, .int (nI th), .int (nI dg), .ref cl, .int (nI re), .ref co]) :: (co, zo 0 (cF w mn bm sm (nI n))) :: (w 8, zc G 1 (zI 200 xf)) :: rest) s H locs := hw
                        obtain ⟨rfl, hg4⟩ := hp
                        refine z_put hC zf_X3_17_3 hw 4 rfl rfl rfl (Nat.le_of_ble_eq_true rfl) dX3_take_181 (fun H locs hw => ?_)
                        have hw : zS G ((sv, zc G 1 (zI k g4)) :: (sr, zo 12 [.ref sv, .int (nI 0), .int 0, .int 0]) :: (va, zc G 1 (zI cap g)) :: (q_87, zo 11 [.ref va, .int (nI 0), .int 0, .int (nI k)]) :: (rd, zo 3 [.int (nI (i + k)), .int (nI i), .ref sr, .int (nI th), .int (nI dg), .ref cl, .int (nI re), .ref co]) :: (co, zo 0 (cF w mn bm sm (nI n))) :: (w 8, zc G 1 (zI 200 xf)) :: rest) s H locs := hw
                        have hw : zS G ((q_87, zo 11 [.ref va, .int (nI 0), .int 0, .int (nI k)]) :: (va, zc G 1 (zI cap g)) :: (sv, zc G 1 (zI k g4)) :: (sr, zo 12 [.ref sv, .int (nI 0), .int 0, .int 0]) :: (rd, zo 3 [.int (nI (i + k)), .int (nI i), .ref sr, .int (nI th), .int (nI dg), .ref cl, .int (nI re), .ref co]) :: (co, zo 0 (cF w mn bm sm (nI n))) :: (w 8, zc G 1 (zI 200 xf)) :: rest) s H locs := hw.perm (((z_cut (is := [3, 2, 0, 1, 4, 5, 6]) (ws := [(sv, zc G 1 (zI k g4)), (sr, zo 12 [.ref sv, .int (nI 0), .int 0, .int 0]), (va, zc G 1 (zI cap g)), (q_87, zo 11 [.ref va, .int (nI 0), .int 0, .int (nI k)]), (rd, zo 3 [.int (nI (i + k)), .int (nI i), .ref sr, .int (nI th), .int (nI dg), .ref cl, .int (nI re), .ref co]), (co, zo 0 (cF w mn bm sm (nI n))), (w 8, zc G 1 (zI 200 xf))]) (cells := [(q_87, zo 11 [.ref va, .int (nI 0), .int 0, .int (nI k)]), (va, zc G 1 (zI cap g)), (sv, zc G 1 (zI k g4)), (sr, zo 12 [.ref sv, .int (nI 0), .int 0, .int 0]), (rd, zo 3 [.int (nI (i + k)), .int (nI i), .ref sr, .int (nI th), .int (nI dg), .ref cl, .int (nI re), .ref co]), (co, zo 0 (cF w mn bm sm (nI n))), (w 8, zc G 1 (zI 200 xf))]) rfl rfl).append_right rest).trans (by rw [List.append_assoc]; exact List.Perm.refl _))
                        have hw := hw.drop
                        have hw := hw.drop
                        have e1 : tS tx n p0 = i + k := by rw [← cEnd_tS, hfi, ← hgo]; first | exact goE_n (by omega) | exact goE_k (by omega) (fun q => by have h1 := q.1; have h2 := q.2; omega)
                        have e3 : tF tx n p0 = i := hfi
                        have e2 : wL tx n p0 = k := by unfold wL; omega
                        have hw : zS G ((sr, zo 12 [.ref sv, .int (nI 0), .int 0, .int 0]) :: (sv, zc G 1 (zI k g4)) :: (rd, zo 3 [.int (nI (i + k)), .int (nI i), .ref sr, .int (nI th), .int (nI dg), .ref cl, .int (nI re), .ref co]) :: (co, zo 0 (cF w mn bm sm (nI n))) :: (w 8, zc G 1 (zI 200 xf)) :: rest) s H locs := hw.perm (((z_cut (is := [1, 0, 2, 3, 4]) (ws := [(sv, zc G 1 (zI k g4)), (sr, zo 12 [.ref sv, .int (nI 0), .int 0, .int 0]), (rd, zo 3 [.int (nI (i + k)), .int (nI i), .ref sr, .int (nI th), .int (nI dg), .ref cl, .int (nI re), .ref co]), (co, zo 0 (cF w mn bm sm (nI n))), (w 8, zc G 1 (zI 200 xf))]) (cells := [(sr, zo 12 [.ref sv, .int (nI 0), .int 0, .int 0]), (sv, zc G 1 (zI k g4)), (rd, zo 3 [.int (nI (i + k)), .int (nI i), .ref sr, .int (nI th), .int (nI dg), .ref cl, .int (nI re), .ref co]), (co, zo 0 (cF w mn bm sm (nI n))), (w 8, zc G 1 (zI 200 xf))]) rfl rfl).append_right rest).trans (by rw [List.append_assoc]; exact List.Perm.refl _))
                        have hw : zS G ((sr, zo 12 [.ref sv, .int (nI 0), .int 0, .int 0]) :: (sv, zc G 1 (zI (wL tx n p0) g4)) :: (rd, zo 3 [.int (nI (tS tx n p0)), .int (nI (tF tx n p0)), .ref sr, .int (nI th), .int (nI dg), .ref cl, .int (nI re), .ref co]) :: (co, zo 0 (cF w mn bm sm (nI n))) :: (w 8, zc G 1 (zI 200 xf)) :: rest) s H locs := by rw [e1, e2, e3]; exact hw
                        exact hend _ _ _ _ _ _ (sr, sv, g4) hw (fun j hj => by rw [e3]; rw [e2] at hj; rw [hg4 j hj]; exact hg j hj) (by omega) (by omega) dX3_take_184
                    · skip
                      refine lv_aload_n hx hb dX3_take_144 rfl (lv_at hl 2 rfl) ?_
                      refine lv_aload_n hx hb dX3_take_145 rfl (lv_at hl 0 rfl) ?_
                      refine z_get (v := .ref co) hC zf_X3_3_3 hw 2 rfl rfl dX3_take_146 ?_
                      refine z_getN (v := .ref (w 8)) (k := 11) hC (show zcl[0]? = some (RX0, TX0, 13) from rfl) in_X0 (by decide) rfl rfl rfl (hz.1 _ (cw_t q184 rfl)) hw 3 rfl rfl dX3_take_149 ?_
                      refine lv_aload_n hx hb dX3_take_152 rfl (lv_at hl 0 rfl) ?_
                      refine lv_dup hx hb dX3_take_153 rfl ?_
                      refine z_get (v := .int (nI (i + k))) hC zf_X3_58_3 hw 2 rfl rfl dX3_take_154 ?_
                      refine lv_dup_x1 hx hb dX3_take_157 rfl rfl ?_
                      refine lv_iconst (v := (nI 1)) hx hb dX3_take_158 zk_1 ?_
                      refine zn_iadd hx hb dX3_take_159 ?_
                      refine z_puti hC zf_X3_58_3 hw 2 rfl (Nat.le_of_ble_eq_true rfl) dX3_take_160 (fun H locs hw => ?_)
                      have hw : zS G ((va, zc G 1 (zI cap g)) :: (q_87, zo 11 [.ref va, .int (nI 0), .int 0, .int (nI k)]) :: (rd, zo 3 [.int (nI (i + k + 1)), .int (nI i), .ref wd, .int (nI th), .int (nI dg), .ref cl, .int (nI re), .ref co]) :: (co, zo 0 (cF w mn bm sm (nI n))) :: (w 8, zc G 1 (zI 200 xf)) :: rest) s H locs := hw
                      refine z_bald (x := (btL (tx (i + k)))) hC hw 4 rfl (by omega) (by decide) (hxf _ (by omega)) dX3_take_163 ?_
                      refine lv_sipush (v := (nI 255)) hx hb dX3_take_164 zs_255 ?_
                      refine zv_iand (v := (nI (tx (i + k)))) hx hb (btL_and (htx _ c_106)) dX3_take_167 ?_
                      refine lv_i2c (v := (nI (tx (i + k)))) hx hb dX3_take_168 (zi2c (by have := htx _ c_106; omega)) ?_
                      rcases Nat.lt_or_eq_of_le hkc with hkc | hkc
                      · skip
                        have hl : lv_has ls 3 [(0, .ref rd), (1, .int (nI kd)), (2, .ref q_87)] := hl
                        refine z_cq (z_runV (As := [.int (nI (tx (i + k)))]) (rest := []) hC zv_X3_78 (m_J2_append_n G l kA (by first | assumption | (omega)) (by first | assumption | (omega)) q_87 va k cap g (tx (i + k)) (htx _ c_106) (by omega) hfit (by omega) (zrem [1, 0] _)) hw (hw.perm (z_cut (is := [1, 0]) (cells := [(q_87, zo 11 [.ref va, .int (nI 0), .int 0, .int (nI k)]), (va, zc G 1 (zI cap g))]) rfl rfl)) 1 rfl rfl rfl rfl rfl (Nat.le_of_ble_eq_true rfl) hl.1 ⟨Nat.le_of_ble_eq_true rfl, Nat.le_of_ble_eq_true rfl⟩ ⟨(by show _ ≤ 30; omega), (by show _ ≤ 1100; omega)⟩ dX3_take_169) hw (fun u => z_pput (is := [1, 0]) (cells := [(q_87, zo 11 [.ref va, .int (nI 0), .int 0, .int (nI k)]), (va, zc G 1 (zI cap g))]) (cells' := [(q_87, zo 11 [.ref u.1, .int (nI 0), .int 0, .int (nI (k + 1))]), (u.1, zc G 1 (zI u.2.1 u.2.2))]) rfl rfl rfl) (fun r u H locs hp hw => ?_)
                        obtain ⟨va7, cap7, g7⟩ := u
                        have hw : zS G ((va7, zc G 1 (zI cap7 g7)) :: (q_87, zo 11 [.ref va7, .int (nI 0), .int 0, .int (nI (k + 1))]) :: (rd, zo 3 [.int (nI (i + k + 1)), .int (nI i), .ref wd, .int (nI th), .int (nI dg), .ref cl, .int (nI re), .ref co]) :: (co, zo 0 (cF w mn bm sm (nI n))) :: (w 8, zc G 1 (zI 200 xf)) :: rest) s H locs := hw
                        obtain ⟨rfl, hg7, hfit7, hcap7⟩ := hp
                        have hc7 : (cap7 = cap ∧ k < cap) ∨ (cap7 = 2 * cap + 2 ∧ k = cap) := hcap7.imp (fun q => q.2) id
                        refine lv_pop hx hb dX3_take_172 rfl ?_
                        refine lv_goto (tgt := 95) hx hb dX3_take_173 (by decide) ?_
                        have hw : zS G ((va7, zc G 1 (zI cap7 g7)) :: (q_87, zo 11 [.ref va7, .int (nI 0), .int 0, .int (nI (k + 1))]) :: (rd, zo 3 [.int (nI (i + (k + 1))), .int (nI i), .ref wd, .int (nI th), .int (nI dg), .ref cl, .int (nI re), .ref co]) :: (co, zo 0 (cF w mn bm sm (nI n))) :: (w 8, zc G 1 (zI 200 xf)) :: rest) s H locs := hw
                        refine W.widen (k := (2 + cap7 / 16)) (n := (4 + 2 * cap7)) (by omega) (by omega) ?_
                        exact ih_95 (k + 1) cap7 va7 g7 (by omega) (by omega) (by omega) (by omega) ((goE_s c_106 (by omega) hkd (by first | exact Or.inl (by omega) | exact Or.inr ⟨by omega, by omega⟩)).trans hgo) (fun j hj => (hg7 j hj).trans (by split; (next e => rw [e]); exact hg j (by omega))) hfit7 (by omega) H locs ls hw (lv_sub hl [0, 1, 2] rfl)
                      · skip
                        have hl : lv_has ls 3 [(0, .ref rd), (1, .int (nI kd)), (2, .ref q_87)] := hl
                        refine z_cq (z_runV (As := [.int (nI (tx (i + k)))]) (rest := []) hC zv_X3_78 (m_J2_append_g G l kA (by first | assumption | (omega)) (by first | assumption | (omega)) q_87 va k cap g (tx (i + k)) (htx _ c_106) (by omega) hfit (by omega) (by omega) (zrem [1, 0] _)) hw (hw.perm (z_cut (is := [1, 0]) (cells := [(q_87, zo 11 [.ref va, .int (nI 0), .int 0, .int (nI k)]), (va, zc G 1 (zI cap g))]) rfl rfl)) 1 rfl rfl rfl rfl rfl (Nat.le_of_ble_eq_true rfl) hl.1 ⟨Nat.le_of_ble_eq_true rfl, Nat.le_of_ble_eq_true rfl⟩ ⟨(by show _ ≤ 30; omega), (by show _ ≤ 1100; omega)⟩ dX3_take_169) hw (fun u => z_pput (is := [1, 0]) (cells := [(q_87, zo 11 [.ref va, .int (nI 0), .int 0, .int (nI k)]), (va, zc G 1 (zI cap g))]) (cells' := [(q_87, zo 11 [.ref u.1, .int (nI 0), .int 0, .int (nI (k + 1))]), (u.1, zc G 1 (zI u.2.1 u.2.2))]) rfl rfl rfl) (fun r u H locs hp hw => ?_)
                        obtain ⟨va7, cap7, g7⟩ := u
                        have hw : zS G ((va7, zc G 1 (zI cap7 g7)) :: (q_87, zo 11 [.ref va7, .int (nI 0), .int 0, .int (nI (k + 1))]) :: (rd, zo 3 [.int (nI (i + k + 1)), .int (nI i), .ref wd, .int (nI th), .int (nI dg), .ref cl, .int (nI re), .ref co]) :: (co, zo 0 (cF w mn bm sm (nI n))) :: (w 8, zc G 1 (zI 200 xf)) :: rest) s H locs := hw
                        obtain ⟨rfl, hg7, hfit7, hcap7⟩ := hp
                        have hc7 : (cap7 = cap ∧ k < cap) ∨ (cap7 = 2 * cap + 2 ∧ k = cap) := hcap7.imp (fun q => q.2) id
                        refine lv_pop hx hb dX3_take_172 rfl ?_
                        refine lv_goto (tgt := 95) hx hb dX3_take_173 (by decide) ?_
                        have hw : zS G ((va7, zc G 1 (zI cap7 g7)) :: (q_87, zo 11 [.ref va7, .int (nI 0), .int 0, .int (nI (k + 1))]) :: (rd, zo 3 [.int (nI (i + (k + 1))), .int (nI i), .ref wd, .int (nI th), .int (nI dg), .ref cl, .int (nI re), .ref co]) :: (co, zo 0 (cF w mn bm sm (nI n))) :: (w 8, zc G 1 (zI 200 xf)) :: rest) s H locs := hw
                        refine W.widen (k := (2 + cap7 / 16)) (n := (4 + 2 * cap7)) (by omega) (by omega) ?_
                        exact ih_95 (k + 1) cap7 va7 g7 (by omega) (by omega) (by omega) (by omega) ((goE_s c_106 (by omega) hkd (by first | exact Or.inl (by omega) | exact Or.inr ⟨by omega, by omega⟩)).trans hgo) (fun j hj => (hg7 j hj).trans (by split; (next e => rw [e]); exact hg j (by omega))) hfit7 (by omega) H locs ls hw (lv_sub hl [0, 1, 2] rfl)
          have hw : zS G ((va0, zc G 1 (zI 16 (fun _ => 0))) :: (q_87, zo 11 [.ref va0, .int (nI 0), .int 0, .int (nI 0)]) :: (rd, zo 3 [.int (nI (i + 0)), .int (nI i), .ref wd, .int (nI th), .int (nI dg), .ref cl, .int (nI re), .ref co]) :: (co, zo 0 (cF w mn bm sm (nI n))) :: (w 8, zc G 1 (zI 200 xf)) :: rest) s H locs := hw
          refine W.widen (k := (2 + 16 / 16)) (n := (4 + 2 * 16)) (by omega) (by omega) ?_
          exact loop_95 ((n - (i + 0)) + 1) 0 16 va0 (fun _ => 0) (by omega) (by decide) (by decide) (by omega) (by unfold goE; rw [if_pos (Nat.add_zero i)]) (fun j hj => absurd hj (Nat.not_lt_zero _)) (fun j => by show fits .byte (.int (0 : Int32)) = true; decide) (Nat.lt_succ_self _) H locs ls hw (lv_sub hl [2, 1, 0] rfl)
        refine lv_aload_n hx hb dX3_take_44 rfl (lv_at hl 0 rfl) ?_
        refine lv_aload_n hx hb dX3_take_45 rfl (lv_at hl 0 rfl) ?_
        refine z_get (v := .int (nI i)) hC zf_X3_58_3 hw 0 rfl rfl dX3_take_46 ?_
        refine z_puti hC zf_X3_68_3 hw 0 rfl (Nat.le_of_ble_eq_true rfl) dX3_take_49 (fun H locs hw => ?_)
        have hw : zS G ((rd, zo 3 [.int (nI i), .int (nI i), .ref wd, .int (nI th), .int (nI dg), .ref cl, .int (nI re), .ref co]) :: (co, zo 0 (cF w mn bm sm (nI n))) :: (w 8, zc G 1 (zI 200 xf)) :: rest) s H locs := hw
        refine lv_aload_n hx hb dX3_take_52 rfl (lv_at hl 0 rfl) ?_
        refine z_get (v := .int (nI i)) hC zf_X3_58_3 hw 0 rfl rfl dX3_take_53 ?_
        refine lv_aload_n hx hb dX3_take_56 rfl (lv_at hl 0 rfl) ?_
        refine z_get (v := .ref co) hC zf_X3_3_3 hw 0 rfl rfl dX3_take_57 ?_
        refine z_getN (v := .int (nI n)) (k := 12) hC (show zcl[0]? = some (RX0, TX0, 13) from rfl) in_X0 (by decide) rfl rfl rfl (hz.1 _ (cw_t q186 rfl)) hw 1 rfl rfl dX3_take_60 ?_
        refine zi_ge (tgt := 85) hx hb (by omega) (by omega) dX3_take_63 (by decide) (fun c_63 => ?_) (fun c_63 => ?_)
        · skip
          refine lv_iconst (v := (nI 0)) hx hb dX3_take_85 zk_0 ?_
          exact join_86 0 (by first | exact fun _ => rfl | exact fun q => absurd q (by omega)) (by first | exact kdN_le _ | decide) H locs ls hw (lv_sub hl [0] rfl)
        · skip
          refine lv_aload_n hx hb dX3_take_66 rfl (lv_at hl 0 rfl) ?_
          refine lv_aload_n hx hb dX3_take_67 rfl (lv_at hl 0 rfl) ?_
          refine z_get (v := .ref co) hC zf_X3_3_3 hw 0 rfl rfl dX3_take_68 ?_
          refine z_getN (v := .ref (w 8)) (k := 11) hC (show zcl[0]? = some (RX0, TX0, 13) from rfl) in_X0 (by decide) rfl rfl rfl (hz.1 _ (cw_t q184 rfl)) hw 1 rfl rfl dX3_take_71 ?_
          refine lv_aload_n hx hb dX3_take_74 rfl (lv_at hl 0 rfl) ?_
          refine z_get (v := .int (nI i)) hC zf_X3_58_3 hw 0 rfl rfl dX3_take_75 ?_
          refine z_bald (x := (btL (tx i))) hC hw 2 rfl (by omega) (by decide) (hxf _ (by omega)) dX3_take_78 ?_
          refine z_ci (z_runV (As := [.int (btL (tx i))]) (rest := []) hC zv_X3_71 (m_X3_kindOf_b G l kA (by first | assumption | (omega)) rd (tx i) (htx _ c_63) _) hw hw 0 rfl rfl rfl rfl rfl (Nat.le_of_ble_eq_true rfl) hl.1 ⟨Nat.le_of_ble_eq_true rfl, Nat.le_of_ble_eq_true rfl⟩ ⟨(Nat.le_of_ble_eq_true rfl), (Nat.le_of_ble_eq_true rfl)⟩ dX3_take_79) hw (fun _ => List.Perm.refl _) (fun r u H locs hp hw => ?_)
          obtain rfl : r = nI (kdN (tx i)) := hp
          refine lv_goto (tgt := 86) hx hb dX3_take_82 (by decide) ?_
          exact join_86 (kdN (tx i)) (by first | exact fun _ => rfl | exact fun q => absurd q (by omega)) (by first | exact kdN_le _ | decide) H locs ls hw (lv_sub hl [0] rfl)
      · skip
        refine lv_aload_n hx hb dX3_take_14 rfl (lv_at hl 0 rfl) ?_
        refine z_get (v := .ref co) hC zf_X3_3_3 hw 0 rfl rfl dX3_take_15 ?_
        refine z_getN (v := .ref (w 8)) (k := 11) hC (show zcl[0]? = some (RX0, TX0, 13) from rfl) in_X0 (by decide) rfl rfl rfl (hz.1 _ (cw_t q184 rfl)) hw 1 rfl rfl dX3_take_18 ?_
        refine lv_aload_n hx hb dX3_take_21 rfl (lv_at hl 0 rfl) ?_
        refine z_get (v := .int (nI i)) hC zf_X3_58_3 hw 0 rfl rfl dX3_take_22 ?_
        refine z_bald (x := (btL (tx i))) hC hw 2 rfl (by omega) (by decide) (hxf _ (by omega)) dX3_take_25 ?_
        refine lv_bipush (v := (nI 32)) hx hb dX3_take_26 zb_32 ?_
        refine lv_icmp_ne (tgt := 44) hx hb dX3_take_28 (by decide) (fun c_28 => ?_) (fun c_28 => ?_)
        · skip
          have hfi : tF tx n p0 = i := hfi.trans (run_stop (fun q => by first | exact absurd q.1 (by omega) | exact c_28 ((bt_sp (htx _ c_11)).mpr q.2)))
          have join_86 : ∀ (kd : Nat), (i < n → kd = kdN (tx i)) → (kd ≤ 2) → ∀ (H : Heap) (locs : List Loc) (ls : Array Slot), zS G ((rd, zo 3 [.int (nI i), .int (nI i), .ref wd, .int (nI th), .int (nI dg), .ref cl, .int (nI re), .ref co]) :: (co, zo 0 (cF w mn bm sm (nI n))) :: (w 8, zc G 1 (zI 200 xf)) :: rest) s H locs → lv_has ls 3 [(0, .ref rd)] → W p l e (zR 7 30 1100) s m args below meth c H locs 0 0 Q (F0 m 86 ls [.int (nI kd)]) := by
            intro kd hkd hkd3 H locs ls hw hl
            refine lv_istore_n (lv' := [(1, .int (nI kd)), (0, .ref rd)]) hx hb dX3_take_86 rfl hl (by decide) rfl (fun ls hl => ?_)
            refine z_new (ci := 11) (fs := [.null, .int 0, .int 0, .int 0]) hC rfl in_J2 tyJ2_ok q288 q289 q56 hw (fun j hj => by revert hj; revert j; decide) (Nat.le_of_ble_eq_true rfl) (Nat.le_of_ble_eq_true rfl) dX3_take_87 (fun q_87 H hw => ?_)
            have hw : zS G ((q_87, zo 11 [.null, .int 0, .int 0, .int 0]) :: (rd, zo 3 [.int (nI i), .int (nI i), .ref wd, .int (nI th), .int (nI dg), .ref cl, .int (nI re), .ref co]) :: (co, zo 0 (cF w mn bm sm (nI n))) :: (w 8, zc G 1 (zI 200 xf)) :: rest) s H locs := hw
            refine lv_dup hx hb dX3_take_90 rfl ?_
            refine z_cv (z_runI (As := []) (rest := [.ref q_87]) hC zx_X3_77 (m_J2_init G l kA (by first | assumption | (omega)) q_87 (zrem [0] _)) (hw.perm (z_cut (is := [0]) (cells := [(q_87, zo 11 [.null, .int 0, .int 0, .int 0])]) rfl rfl)) rfl rfl (Nat.le_of_ble_eq_true rfl) hl.1 ⟨Nat.le_of_ble_eq_true rfl, Nat.le_of_ble_eq_true rfl⟩ ⟨(Nat.le_of_ble_eq_true rfl), (Nat.le_of_ble_eq_true rfl)⟩ dX3_take_91) hw (fun u => z_new1 (is := [0]) (cs := [(q_87, zo 11 [.null, .int 0, .int 0, .int 0])]) (cs' := [(q_87, zo 11 [.ref u, .int (nI 0), .int 0, .int 0])]) (nw := [(u, zc G 1 (zI 16 (fun _ => 0)))]) rfl rfl rfl) (fun u H locs hp hw => ?_)
            obtain ⟨va0, rfl⟩ : ∃ z, z = u := ⟨_, rfl⟩
            have hw : zS G ((va0, zc G 1 (zI 16 (fun _ => 0))) :: (q_87, zo 11 [.ref va0, .int (nI 0), .int 0, .int 0]) :: (rd, zo 3 [.int (nI i), .int (nI i), .ref wd, .int (nI th), .int (nI dg), .ref cl, .int (nI re), .ref co]) :: (co, zo 0 (cF w mn bm sm (nI n))) :: (w 8, zc G 1 (zI 200 xf)) :: rest) s H locs := hw
            refine lv_astore_n (lv' := [(2, .ref q_87), (1, .int (nI kd)), (0, .ref rd)]) hx hb dX3_take_94 rfl hl (by decide) rfl (fun ls hl => ?_)
            have loop_95 : ∀ (fuel : Nat) (k : Nat) (cap : Nat) (va : Nat) (g : Nat → Int32), (i + k ≤ n) → (k ≤ cap) → (16 ≤ cap) → (cap ≤ 2 * k + 16) → (goE tx n i kd (i + k) = cEnd tx n i) → (∀ j, j < k → g j = btL (tx (i + j))) → (∀ j, fits .byte (.int (g j)) = true) → (n - (i + k)) < fuel → ∀ (H : Heap) (locs : List Loc) (ls : Array Slot), zS G ((va, zc G 1 (zI cap g)) :: (q_87, zo 11 [.ref va, .int (nI 0), .int 0, .int (nI k)]) :: (rd, zo 3 [.int (nI (i + k)), .int (nI i), .ref wd, .int (nI th), .int (nI dg), .ref cl, .int (nI re), .ref co]) :: (co, zo 0 (cF w mn bm sm (nI n))) :: (w 8, zc G 1 (zI 200 xf)) :: rest) s H locs → lv_has ls 3 [(0, .ref rd), (1, .int (nI kd)), (2, .ref q_87)] → W p l e (zR 7 30 1100) s m args below meth c H locs (2 + cap / 16) (4 + 2 * cap) Q (F0 m 95 ls []) := by
              intro fuel
              induction fuel with
              | zero => intro k cap va g hik hkc hc16 hc2 hgo hg hfit hfuel; exact absurd hfuel (Nat.not_lt_zero _)
              | succ fuel_95 ih_95 =>
                intro k cap va g hik hkc hc16 hc2 hgo hg hfit hfuel_95 H locs ls hw hl
                refine lv_aload_n hx hb dX3_take_95 rfl (lv_at hl 0 rfl) ?_
                refine z_get (v := .int (nI (i + k))) hC zf_X3_58_3 hw 2 rfl rfl dX3_take_96 ?_
                refine lv_aload_n hx hb dX3_take_99 rfl (lv_at hl 0 rfl) ?_
                refine z_get (v := .ref co) hC zf_X3_3_3 hw 2 rfl rfl dX3_take_100 ?_
                refine z_getN (v := .int (nI n)) (k := 12) hC (show zcl[0]? = some (RX0, TX0, 13) from rfl) in_X0 (by decide) rfl rfl rfl (hz.1 _ (cw_t q186 rfl)) hw 3 rfl rfl dX3_take_103 ?_
                refine zi_ge (tgt := 176) hx hb (by omega) (by omega) dX3_take_106 (by decide) (fun c_106 => ?_) (fun c_106 => ?_)
                · skip
                  refine lv_aload_n hx hb dX3_take_176 rfl (lv_at hl 0 rfl) ?_
                  refine lv_aload_n hx hb dX3_take_177 rfl (lv_at hl 2 rfl) ?_
                  rcases Nat.lt_or_eq_of_le hkc with hkc | hkc
                  · skip
                    have hl : lv_has ls 3 [(0, .ref rd), (1, .int (nI kd)), (2, .ref q_87)] := hl
                    refine z_cq (z_runV (As := []) (rest := [.ref rd]) hC zv_X3_82 (m_J2_toString_r G l kA (by first | assumption | (omega)) q_87 va k cap g (by omega) hfit (by omega) (zrem [1, 0] _)) hw (hw.perm (z_cut (is := [1, 0]) (cells := [(q_87, zo 11 [.ref va, .int (nI 0), .int 0, .int (nI k)]), (va, zc G 1 (zI cap g))]) rfl rfl)) 1 rfl rfl rfl rfl rfl (Nat.le_of_ble_eq_true rfl) hl.1 ⟨Nat.le_of_ble_eq_true rfl, Nat.le_of_ble_eq_true rfl⟩ ⟨(by show _ ≤ 30; omega), (by show _ ≤ 1100; omega)⟩ dX3_take_178) hw (fun u => z_new1 (is := [1, 0]) (cs := [(q_87, zo 11 [.ref va, .int (nI 0), .int 0, .int (nI k)]), (va, zc G 1 (zI cap g))]) (cs' := [(q_87, zo 11 [.ref va, .int (nI 0), .int 0, .int (nI k)]), (va, zc G 1 (zI cap g))]) (nw := [(u.2.1, zc G 1 (zI k u.2.2)), (u.1, zo 12 [.ref u.2.1, .int (nI 0), .int 0, .int 0])]) rfl rfl rfl) (fun r u H locs hp hw => ?_)
                    obtain ⟨sr, sv, g4⟩ := u
                    have hw : zS G ((sv, zc G 1 (zI k g4)) :: (sr, zo 12 [.ref sv, .int (nI 0), .int 0, .int 0]) :: (va, zc G 1 (zI cap g)) :: (q_87, zo 11 [.ref va, .int (nI 0), .int 0, .int (nI k)]) :: (rd, zo 3 [.int (nI (i + k)), .int (nI i), .ref wd, .int (nI th), .int (nI dg), .ref cl, .int (nI re), .ref co]) :: (co, zo 0 (cF w mn bm sm (nI n))) :: (w 8, zc G 1 (zI 200 xf)) :: rest) s H locs := hw
                    obtain ⟨rfl, hg4⟩ := hp
                    refine z_put hC zf_X3_17_3 hw 4 rfl rfl rfl (Nat.le_of_ble_eq_true rfl) dX3_take_181 (fun H locs hw => ?_)
                    have hw : zS G ((sv, zc G 1 (zI k g4)) :: (sr, zo 12 [.ref sv, .int (nI 0), .int 0, .int 0]) :: (va, zc G 1 (zI cap g)) :: (q_87, zo 11 [.ref va, .int (nI 0), .int 0, .int (nI k)]) :: (rd, zo 3 [.int (nI (i + k)), .int (nI i), .ref sr, .int (nI th), .int (nI dg), .ref cl, .int (nI re), .ref co]) :: (co, zo 0 (cF w mn bm sm (nI n))) :: (w 8, zc G 1 (zI 200 xf)) :: rest) s H locs := hw
                    have hw : zS G ((q_87, zo 11 [.ref va, .int (nI 0), .int 0, .int (nI k)]) :: (va, zc G 1 (zI cap g)) :: (sv, zc G 1 (zI k g4)) :: (sr, zo 12 [.ref sv, .int (nI 0), .int 0, .int 0]) :: (rd, zo 3 [.int (nI (i + k)), .int (nI i), .ref sr, .int (nI th), .int (nI dg), .ref cl, .int (nI re), .ref co]) :: (co, zo 0 (cF w mn bm sm (nI n))) :: (w 8, zc G 1 (zI 200 xf)) :: rest) s H locs := hw.perm (((z_cut (is := [3, 2, 0, 1, 4, 5, 6]) (ws := [(sv, zc G 1 (zI k g4)), (sr, zo 12 [.ref sv, .int (nI 0), .int 0, .int 0]), (va, zc G 1 (zI cap g)), (q_87, zo 11 [.ref va, .int (nI 0), .int 0, .int (nI k)]), (rd, zo 3 [.int (nI (i + k)), .int (nI i), .ref sr, .int (nI th), .int (nI dg), .ref cl, .int (nI re), .ref co]), (co, zo 0 (cF w mn bm sm (nI n))), (w 8, zc G 1 (zI 200 xf))]) (cells := [(q_87, zo 11 [.ref va, .int (nI 0), .int 0, .int (nI k)]), (va, zc G 1 (zI cap g)), (sv, zc G 1 (zI k g4)), (sr, zo 12 [.ref sv, .int (nI 0), .int 0, .int 0]), (rd, zo 3 [.int (nI (i + k)), .int (nI i), .ref sr, .int (nI th), .int (nI dg), .ref cl, .int (nI re), .ref co]), (co, zo 0 (cF w mn bm sm (nI n))), (w 8, zc G 1 (zI 200 xf))]) rfl rfl).append_right rest).trans (by rw [List.append_assoc]; exact List.Perm.refl _))
                    have hw := hw.drop
                    have hw := hw.drop
                    have e1 : tS tx n p0 = i + k := by rw [← cEnd_tS, hfi, ← hgo]; first | exact goE_n (by omega) | exact goE_k (by omega) (fun q => by have h1 := q.1; have h2 := q.2; omega)
                    have e3 : tF tx n p0 = i := hfi
                    have e2 : wL tx n p0 = k := by unfold wL; omega
                    have hw : zS G ((sr, zo 12 [.ref sv, .int (nI 0), .int 0, .int 0]) :: (sv, zc G 1 (zI k g4)) :: (rd, zo 3 [.int (nI (i + k)), .int (nI i), .ref sr, .int (nI th), .int (nI dg), .ref cl, .int (nI re), .ref co]) :: (co, zo 0 (cF w mn bm sm (nI n))) :: (w 8, zc G 1 (zI 200 xf)) :: rest) s H locs := hw.perm (((z_cut (is := [1, 0, 2, 3, 4]) (ws := [(sv, zc G 1 (zI k g4)), (sr, zo 12 [.ref sv, .int (nI 0), .int 0, .int 0]), (rd, zo 3 [.int (nI (i + k)), .int (nI i), .ref sr, .int (nI th), .int (nI dg), .ref cl, .int (nI re), .ref co]), (co, zo 0 (cF w mn bm sm (nI n))), (w 8, zc G 1 (zI 200 xf))]) (cells := [(sr, zo 12 [.ref sv, .int (nI 0), .int 0, .int 0]), (sv, zc G 1 (zI k g4)), (rd, zo 3 [.int (nI (i + k)), .int (nI i), .ref sr, .int (nI th), .int (nI dg), .ref cl, .int (nI re), .ref co]), (co, zo 0 (cF w mn bm sm (nI n))), (w 8, zc G 1 (zI 200 xf))]) rfl rfl).append_right rest).trans (by rw [List.append_assoc]; exact List.Perm.refl _))
                    have hw : zS G ((sr, zo 12 [.ref sv, .int (nI 0), .int 0, .int 0]) :: (sv, zc G 1 (zI (wL tx n p0) g4)) :: (rd, zo 3 [.int (nI (tS tx n p0)), .int (nI (tF tx n p0)), .ref sr, .int (nI th), .int (nI dg), .ref cl, .int (nI re), .ref co]) :: (co, zo 0 (cF w mn bm sm (nI n))) :: (w 8, zc G 1 (zI 200 xf)) :: rest) s H locs := by rw [e1, e2, e3]; exact hw
                    exact hend _ _ _ _ _ _ (sr, sv, g4) hw (fun j hj => by rw [e3]; rw [e2] at hj; rw [hg4 j hj]; exact hg j hj) (by omega) (by omega) dX3_take_184
                  · skip
                    have hl : lv_has ls 3 [(0, .ref rd), (1, .int (nI kd)), (2, .ref q_87)] := hl
                    refine z_cq (z_runV (As := []) (rest := [.ref rd]) hC zv_X3_82 (m_J2_toString_c G l kA (by first | assumption | (omega)) q_87 va k cap g (by omega) hfit (by omega) (zrem [1, 0] _)) hw (hw.perm (z_cut (is := [1, 0]) (cells := [(q_87, zo 11 [.ref va, .int (nI 0), .int 0, .int (nI k)]), (va, zc G 1 (zI cap g))]) rfl rfl)) 1 rfl rfl rfl rfl rfl (Nat.le_of_ble_eq_true rfl) hl.1 ⟨Nat.le_of_ble_eq_true rfl, Nat.le_of_ble_eq_true rfl⟩ ⟨(by show _ ≤ 30; omega), (by show _ ≤ 1100; omega)⟩ dX3_take_178) hw (fun u => z_new1 (is := [1, 0]) (cs := [(q_87, zo 11 [.ref va, .int (nI 0), .int 0, .int (nI k)]), (va, zc G 1 (zI cap g))]) (cs' := [(q_87, zo 11 [.ref va, .int (nI 0), .int 0, .int (nI k)]), (va, zc G 1 (zI cap g))]) (nw := [(u.2.1, zc G 1 (zI k u.2.2)), (u.1, zo 12 [.ref u.2.1, .int (nI 0), .int 0, .int 0])]) rfl rfl rfl) (fun r u H locs hp hw => ?_)
                    obtain ⟨sr, sv, g4⟩ := u
                    have hw : zS G ((sv, zc G 1 (zI k g4)) :: (sr, zo 12 [.ref sv, .int (nI 0), .int 0, .int 0]) :: (va, zc G 1 (zI cap g)) :: (q_87, zo 11 [.ref va, .int (nI 0), .int 0, .int (nI k)]) :: (rd, zo 3 [.int (nI (i + k)), .int (nI i), .ref wd, .int (nI th), .int (nI dg), .ref cl, .int (nI re), .ref co]) :: (co, zo 0 (cF w mn bm sm (nI n))) :: (w 8, zc G 1 (zI 200 xf)) :: rest) s H locs := hw
                    obtain ⟨rfl, hg4⟩ := hp
                    refine z_put hC zf_X3_17_3 hw 4 rfl rfl rfl (Nat.le_of_ble_eq_true rfl) dX3_take_181 (fun H locs hw => ?_)
                    have hw : zS G ((sv, zc G 1 (zI k g4)) :: (sr, zo 12 [.ref sv, .int (nI 0), .int 0, .int 0]) :: (va, zc G 1 (zI cap g)) :: (q_87, zo 11 [.ref va, .int (nI 0), .int 0, .int (nI k)]) :: (rd, zo 3 [.int (nI (i + k)), .int (nI i), .ref sr, .int (nI th), .int (nI dg), .ref cl, .int (nI re), .ref co]) :: (co, zo 0 (cF w mn bm sm (nI n))) :: (w 8, zc G 1 (zI 200 xf)) :: rest) s H locs := hw
                    have hw : zS G ((q_87, zo 11 [.ref va, .int (nI 0), .int 0, .int (nI k)]) :: (va, zc G 1 (zI cap g)) :: (sv, zc G 1 (zI k g4)) :: (sr, zo 12 [.ref sv, .int (nI 0), .int 0, .int 0]) :: (rd, zo 3 [.int (nI (i + k)), .int (nI i), .ref sr, .int (nI th), .int (nI dg), .ref cl, .int (nI re), .ref co]) :: (co, zo 0 (cF w mn bm sm (nI n))) :: (w 8, zc G 1 (zI 200 xf)) :: rest) s H locs := hw.perm (((z_cut (is := [3, 2, 0, 1, 4, 5, 6]) (ws := [(sv, zc G 1 (zI k g4)), (sr, zo 12 [.ref sv, .int (nI 0), .int 0, .int 0]), (va, zc G 1 (zI cap g)), (q_87, zo 11 [.ref va, .int (nI 0), .int 0, .int (nI k)]), (rd, zo 3 [.int (nI (i + k)), .int (nI i), .ref sr, .int (nI th), .int (nI dg), .ref cl, .int (nI re), .ref co]), (co, zo 0 (cF w mn bm sm (nI n))), (w 8, zc G 1 (zI 200 xf))]) (cells := [(q_87, zo 11 [.ref va, .int (nI 0), .int 0, .int (nI k)]), (va, zc G 1 (zI cap g)), (sv, zc G 1 (zI k g4)), (sr, zo 12 [.ref sv, .int (nI 0), .int 0, .int 0]), (rd, zo 3 [.int (nI (i + k)), .int (nI i), .ref sr, .int (nI th), .int (nI dg), .ref cl, .int (nI re), .ref co]), (co, zo 0 (cF w mn bm sm (nI n))), (w 8, zc G 1 (zI 200 xf))]) rfl rfl).append_right rest).trans (by rw [List.append_assoc]; exact List.Perm.refl _))
                    have hw := hw.drop
                    have hw := hw.drop
                    have e1 : tS tx n p0 = i + k := by rw [← cEnd_tS, hfi, ← hgo]; first | exact goE_n (by omega) | exact goE_k (by omega) (fun q => by have h1 := q.1; have h2 := q.2; omega)
                    have e3 : tF tx n p0 = i := hfi
                    have e2 : wL tx n p0 = k := by unfold wL; omega
                    have hw : zS G ((sr, zo 12 [.ref sv, .int (nI 0), .int 0, .int 0]) :: (sv, zc G 1 (zI k g4)) :: (rd, zo 3 [.int (nI (i + k)), .int (nI i), .ref sr, .int (nI th), .int (nI dg), .ref cl, .int (nI re), .ref co]) :: (co, zo 0 (cF w mn bm sm (nI n))) :: (w 8, zc G 1 (zI 200 xf)) :: rest) s H locs := hw.perm (((z_cut (is := [1, 0, 2, 3, 4]) (ws := [(sv, zc G 1 (zI k g4)), (sr, zo 12 [.ref sv, .int (nI 0), .int 0, .int 0]), (rd, zo 3 [.int (nI (i + k)), .int (nI i), .ref sr, .int (nI th), .int (nI dg), .ref cl, .int (nI re), .ref co]), (co, zo 0 (cF w mn bm sm (nI n))), (w 8, zc G 1 (zI 200 xf))]) (cells := [(sr, zo 12 [.ref sv, .int (nI 0), .int 0, .int 0]), (sv, zc G 1 (zI k g4)), (rd, zo 3 [.int (nI (i + k)), .int (nI i), .ref sr, .int (nI th), .int (nI dg), .ref cl, .int (nI re), .ref co]), (co, zo 0 (cF w mn bm sm (nI n))), (w 8, zc G 1 (zI 200 xf))]) rfl rfl).append_right rest).trans (by rw [List.append_assoc]; exact List.Perm.refl _))
                    have hw : zS G ((sr, zo 12 [.ref sv, .int (nI 0), .int 0, .int 0]) :: (sv, zc G 1 (zI (wL tx n p0) g4)) :: (rd, zo 3 [.int (nI (tS tx n p0)), .int (nI (tF tx n p0)), .ref sr, .int (nI th), .int (nI dg), .ref cl, .int (nI re), .ref co]) :: (co, zo 0 (cF w mn bm sm (nI n))) :: (w 8, zc G 1 (zI 200 xf)) :: rest) s H locs := by rw [e1, e2, e3]; exact hw
                    exact hend _ _ _ _ _ _ (sr, sv, g4) hw (fun j hj => by rw [e3]; rw [e2] at hj; rw [hg4 j hj]; exact hg j hj) (by omega) (by omega) dX3_take_184
                · skip
                  refine lv_aload_n hx hb dX3_take_109 rfl (lv_at hl 0 rfl) ?_
                  refine z_get (v := .int (nI i)) hC zf_X3_68_3 hw 2 rfl rfl dX3_take_110 ?_
                  refine lv_aload_n hx hb dX3_take_113 rfl (lv_at hl 0 rfl) ?_
                  refine z_get (v := .int (nI (i + k))) hC zf_X3_58_3 hw 2 rfl rfl dX3_take_114 ?_
                  refine zi_eq (tgt := 144) hx hb (by omega) (by omega) dX3_take_117 (by decide) (fun c_117 => ?_) (fun c_117 => ?_)
                  · skip
                    refine lv_aload_n hx hb dX3_take_144 rfl (lv_at hl 2 rfl) ?_
                    refine lv_aload_n hx hb dX3_take_145 rfl (lv_at hl 0 rfl) ?_
                    refine z_get (v := .ref co) hC zf_X3_3_3 hw 2 rfl rfl dX3_take_146 ?_
                    refine z_getN (v := .ref (w 8)) (k := 11) hC (show zcl[0]? = some (RX0, TX0, 13) from rfl) in_X0 (by decide) rfl rfl rfl (hz.1 _ (cw_t q184 rfl)) hw 3 rfl rfl dX3_take_149 ?_
                    refine lv_aload_n hx hb dX3_take_152 rfl (lv_at hl 0 rfl) ?_
                    refine lv_dup hx hb dX3_take_153 rfl ?_
                    refine z_get (v := .int (nI (i + k))) hC zf_X3_58_3 hw 2 rfl rfl dX3_take_154 ?_
                    refine lv_dup_x1 hx hb dX3_take_157 rfl rfl ?_
                    refine lv_iconst (v := (nI 1)) hx hb dX3_take_158 zk_1 ?_
                    refine zn_iadd hx hb dX3_take_159 ?_
                    refine z_puti hC zf_X3_58_3 hw 2 rfl (Nat.le_of_ble_eq_true rfl) dX3_take_160 (fun H locs hw => ?_)
                    have hw : zS G ((va, zc G 1 (zI cap g)) :: (q_87, zo 11 [.ref va, .int (nI 0), .int 0, .int (nI k)]) :: (rd, zo 3 [.int (nI (i + k + 1)), .int (nI i), .ref wd, .int (nI th), .int (nI dg), .ref cl, .int (nI re), .ref co]) :: (co, zo 0 (cF w mn bm sm (nI n))) :: (w 8, zc G 1 (zI 200 xf)) :: rest) s H locs := hw
                    refine z_bald (x := (btL (tx (i + k)))) hC hw 4 rfl (by omega) (by decide) (hxf _ (by omega)) dX3_take_163 ?_
                    refine lv_sipush (v := (nI 255)) hx hb dX3_take_164 zs_255 ?_
                    refine zv_iand (v := (nI (tx (i + k)))) hx hb (btL_and (htx _ c_106)) dX3_take_167 ?_
                    refine lv_i2c (v := (nI (tx (i + k)))) hx hb dX3_take_168 (zi2c (by have := htx _ c_106; omega)) ?_
                    rcases Nat.lt_or_eq_of_le hkc with hkc | hkc
                    · skip
                      have hl : lv_has ls 3 [(0, .ref rd), (1, .int (nI kd)), (2, .ref q_87)] := hl
                      refine z_cq (z_runV (As := [.int (nI (tx (i + k)))]) (rest := []) hC zv_X3_78 (m_J2_append_n G l kA (by first | assumption | (omega)) (by first | assumption | (omega)) q_87 va k cap g (tx (i + k)) (htx _ c_106) (by omega) hfit (by omega) (zrem [1, 0] _)) hw (hw.perm (z_cut (is := [1, 0]) (cells := [(q_87, zo 11 [.ref va, .int (nI 0), .int 0, .int (nI k)]), (va, zc G 1 (zI cap g))]) rfl rfl)) 1 rfl rfl rfl rfl rfl (Nat.le_of_ble_eq_true rfl) hl.1 ⟨Nat.le_of_ble_eq_true rfl, Nat.le_of_ble_eq_true rfl⟩ ⟨(by show _ ≤ 30; omega), (by show _ ≤ 1100; omega)⟩ dX3_take_169) hw (fun u => z_pput (is := [1, 0]) (cells := [(q_87, zo 11 [.ref va, .int (nI 0), .int 0, .int (nI k)]), (va, zc G 1 (zI cap g))]) (cells' := [(q_87, zo 11 [.ref u.1, .int (nI 0), .int 0, .int (nI (k + 1))]), (u.1, zc G 1 (zI u.2.1 u.2.2))]) rfl rfl rfl) (fun r u H locs hp hw => ?_)
                      obtain ⟨va7, cap7, g7⟩ := u
                      have hw : zS G ((va7, zc G 1 (zI cap7 g7)) :: (q_87, zo 11 [.ref va7, .int (nI 0), .int 0, .int (nI (k + 1))]) :: (rd, zo 3 [.int (nI (i + k + 1)), .int (nI i), .ref wd, .int (nI th), .int (nI dg), .ref cl, .int (nI re), .ref co]) :: (co, zo 0 (cF w mn bm sm (nI n))) :: (w 8, zc G 1 (zI 200 xf)) :: rest) s H locs := hw
                      obtain ⟨rfl, hg7, hfit7, hcap7⟩ := hp
                      have hc7 : (cap7 = cap ∧ k < cap) ∨ (cap7 = 2 * cap + 2 ∧ k = cap) := hcap7.imp (fun q => q.2) id
                      refine lv_pop hx hb dX3_take_172 rfl ?_
                      refine lv_goto (tgt := 95) hx hb dX3_take_173 (by decide) ?_
                      have hw : zS G ((va7, zc G 1 (zI cap7 g7)) :: (q_87, zo 11 [.ref va7, .int (nI 0), .int 0, .int (nI (k + 1))]) :: (rd, zo 3 [.int (nI (i + (k + 1))), .int (nI i), .ref wd, .int (nI th), .int (nI dg), .ref cl, .int (nI re), .ref co]) :: (co, zo 0 (cF w mn bm sm (nI n))) :: (w 8, zc G 1 (zI 200 xf)) :: rest) s H locs := hw
                      refine W.widen (k := (2 + cap7 / 16)) (n := (4 + 2 * cap7)) (by omega) (by omega) ?_
                      exact ih_95 (k + 1) cap7 va7 g7 (by omega) (by omega) (by omega) (by omega) ((goE_s c_106 (by omega) hkd (by first | exact Or.inl (by omega) | exact Or.inr ⟨by omega, by omega⟩)).trans hgo) (fun j hj => (hg7 j hj).trans (by split; (next e => rw [e]); exact hg j (by omega))) hfit7 (by omega) H locs ls hw (lv_sub hl [0, 1, 2] rfl)
                    · skip
                      have hl : lv_has ls 3 [(0, .ref rd), (1, .int (nI kd)), (2, .ref q_87)] := hl
                      refine z_cq (z_runV (As := [.int (nI (tx (i + k)))]) (rest := []) hC zv_X3_78 (m_J2_append_g G l kA (by first | assumption | (omega)) (by first | assumption | (omega)) q_87 va k cap g (tx (i + k)) (htx _ c_106) (by omega) hfit (by omega) (by omega) (zrem [1, 0] _)) hw (hw.perm (z_cut (is := [1, 0]) (cells := [(q_87, zo 11 [.ref va, .int (nI 0), .int 0, .int (nI k)]), (va, zc G 1 (zI cap g))]) rfl rfl)) 1 rfl rfl rfl rfl rfl (Nat.le_of_ble_eq_true rfl) hl.1 ⟨Nat.le_of_ble_eq_true rfl, Nat.le_of_ble_eq_true rfl⟩ ⟨(by show _ ≤ 30; omega), (by show _ ≤ 1100; omega)⟩ dX3_take_169) hw (fun u => z_pput (is := [1, 0]) (cells := [(q_87, zo 11 [.ref va, .int (nI 0), .int 0, .int (nI k)]), (va, zc G 1 (zI cap g))]) (cells' := [(q_87, zo 11 [.ref u.1, .int (nI 0), .int 0, .int (nI (k + 1))]), (u.1, zc G 1 (zI u.2.1 u.2.2))]) rfl rfl rfl) (fun r u H locs hp hw => ?_)
                      obtain ⟨va7, cap7, g7⟩ := u
                      have hw : zS G ((va7, zc G 1 (zI cap7 g7)) :: (q_87, zo 11 [.ref va7, .int (nI 0), .int 0, .int (nI (k + 1))]) :: (rd, zo 3 [.int (nI (i + k + 1)), .int (nI i), .ref wd, .int (nI th), .int (nI dg), .ref cl, .int (nI re), .ref co]) :: (co, zo 0 (cF w mn bm sm (nI n))) :: (w 8, zc G 1 (zI 200 xf)) :: rest) s H locs := hw
                      obtain ⟨rfl, hg7, hfit7, hcap7⟩ := hp
                      have hc7 : (cap7 = cap ∧ k < cap) ∨ (cap7 = 2 * cap + 2 ∧ k = cap) := hcap7.imp (fun q => q.2) id
                      refine lv_pop hx hb dX3_take_172 rfl ?_
                      refine lv_goto (tgt := 95) hx hb dX3_take_173 (by decide) ?_
                      have hw : zS G ((va7, zc G 1 (zI cap7 g7)) :: (q_87, zo 11 [.ref va7, .int (nI 0), .int 0, .int (nI (k + 1))]) :: (rd, zo 3 [.int (nI (i + (k + 1))), .int (nI i), .ref wd, .int (nI th), .int (nI dg), .ref cl, .int (nI re), .ref co]) :: (co, zo 0 (cF w mn bm sm (nI n))) :: (w 8, zc G 1 (zI 200 xf)) :: rest) s H locs := hw
                      refine W.widen (k := (2 + cap7 / 16)) (n := (4 + 2 * cap7)) (by omega) (by omega) ?_
                      exact ih_95 (k + 1) cap7 va7 g7 (by omega) (by omega) (by omega) (by omega) ((goE_s c_106 (by omega) hkd (by first | exact Or.inl (by omega) | exact Or.inr ⟨by omega, by omega⟩)).trans hgo) (fun j hj => (hg7 j hj).trans (by split; (next e => rw [e]); exact hg j (by omega))) hfit7 (by omega) H locs ls hw (lv_sub hl [0, 1, 2] rfl)
                  · skip
                    refine lv_iload_n hx hb dX3_take_120 rfl (lv_at hl 1 rfl) ?_
                    refine zj_le (tgt := 176) hx hb (by omega) dX3_take_121 (by decide) (fun c_121 => ?_) (fun c_121 => ?_)
                    · skip
                      refine lv_aload_n hx hb dX3_take_176 rfl (lv_at hl 0 rfl) ?_
                      refine lv_aload_n hx hb dX3_take_177 rfl (lv_at hl 2 rfl) ?_
                      rcases Nat.lt_or_eq_of_le hkc with hkc | hkc
                      · skip
                        have hl : lv_has ls 3 [(0, .ref rd), (1, .int (nI kd)), (2, .ref q_87)] := hl
                        refine z_cq (z_runV (As := []) (rest := [.ref rd]) hC zv_X3_82 (m_J2_toString_r G l kA (by first | assumption | (omega)) q_87 va k cap g (by omega) hfit (by omega) (zrem [1, 0] _)) hw (hw.perm (z_cut (is := [1, 0]) (cells := [(q_87, zo 11 [.ref va, .int (nI 0), .int 0, .int (nI k)]), (va, zc G 1 (zI cap g))]) rfl rfl)) 1 rfl rfl rfl rfl rfl (Nat.le_of_ble_eq_true rfl) hl.1 ⟨Nat.le_of_ble_eq_true rfl, Nat.le_of_ble_eq_true rfl⟩ ⟨(by show _ ≤ 30; omega), (by show _ ≤ 1100; omega)⟩ dX3_take_178) hw (fun u => z_new1 (is := [1, 0]) (cs := [(q_87, zo 11 [.ref va, .int (nI 0), .int 0, .int (nI k)]), (va, zc G 1 (zI cap g))]) (cs' := [(q_87, zo 11 [.ref va, .int (nI 0), .int 0, .int (nI k)]), (va, zc G 1 (zI cap g))]) (nw := [(u.2.1, zc G 1 (zI k u.2.2)), (u.1, zo 12 [.ref u.2.1, .int (nI 0), .int 0, .int 0])]) rfl rfl rfl) (fun r u H locs hp hw => ?_)
                        obtain ⟨sr, sv, g4⟩ := u
                        have hw : zS G ((sv, zc G 1 (zI k g4)) :: (sr, zo 12 [.ref sv, .int (nI 0), .int 0, .int 0]) :: (va, zc G 1 (zI cap g)) :: (q_87, zo 11 [.ref va, .int (nI 0), .int 0, .int (nI k)]) :: (rd, zo 3 [.int (nI (i + k)), .int (nI i), .ref wd, .int (nI th), .int (nI dg), .ref cl, .int (nI re), .ref co]) :: (co, zo 0 (cF w mn bm sm (nI n))) :: (w 8, zc G 1 (zI 200 xf)) :: rest) s H locs := hw
                        obtain ⟨rfl, hg4⟩ := hp
                        refine z_put hC zf_X3_17_3 hw 4 rfl rfl rfl (Nat.le_of_ble_eq_true rfl) dX3_take_181 (fun H locs hw => ?_)
                        have hw : zS G ((sv, zc G 1 (zI k g4)) :: (sr, zo 12 [.ref sv, .int (nI 0), .int 0, .int 0]) :: (va, zc G 1 (zI cap g)) :: (q_87, zo 11 [.ref va, .int (nI 0), .int 0, .int (nI k)]) :: (rd, zo 3 [.int (nI (i + k)), .int (nI i), .ref sr, .int (nI th), .int (nI dg), .ref cl, .int (nI re), .ref co]) :: (co, zo 0 (cF w mn bm sm (nI n))) :: (w 8, zc G 1 (zI 200 xf)) :: rest) s H locs := hw
                        have hw : zS G ((q_87, zo 11 [.ref va, .int (nI 0), .int 0, .int (nI k)]) :: (va, zc G 1 (zI cap g)) :: (sv, zc G 1 (zI k g4)) :: (sr, zo 12 [.ref sv, .int (nI 0), .int 0, .int 0]) :: (rd, zo 3 [.int (nI (i + k)), .int (nI i), .ref sr, .int (nI th), .int (nI dg), .ref cl, .int (nI re), .ref co]) :: (co, zo 0 (cF w mn bm sm (nI n))) :: (w 8, zc G 1 (zI 200 xf)) :: rest) s H locs := hw.perm (((z_cut (is := [3, 2, 0, 1, 4, 5, 6]) (ws := [(sv, zc G 1 (zI k g4)), (sr, zo 12 [.ref sv, .int (nI 0), .int 0, .int 0]), (va, zc G 1 (zI cap g)), (q_87, zo 11 [.ref va, .int (nI 0), .int 0, .int (nI k)]), (rd, zo 3 [.int (nI (i + k)), .int (nI i), .ref sr, .int (nI th), .int (nI dg), .ref cl, .int (nI re), .ref co]), (co, zo 0 (cF w mn bm sm (nI n))), (w 8, zc G 1 (zI 200 xf))]) (cells := [(q_87, zo 11 [.ref va, .int (nI 0), .int 0, .int (nI k)]), (va, zc G 1 (zI cap g)), (sv, zc G 1 (zI k g4)), (sr, zo 12 [.ref sv, .int (nI 0), .int 0, .int 0]), (rd, zo 3 [.int (nI (i + k)), .int (nI i), .ref sr, .int (nI th), .int (nI dg), .ref cl, .int (nI re), .ref co]), (co, zo 0 (cF w mn bm sm (nI n))), (w 8, zc G 1 (zI 200 xf))]) rfl rfl).append_right rest).trans (by rw [List.append_assoc]; exact List.Perm.refl _))
                        have hw := hw.drop
                        have hw := hw.drop
                        have e1 : tS tx n p0 = i + k := by rw [← cEnd_tS, hfi, ← hgo]; first | exact goE_n (by omega) | exact goE_k (by omega) (fun q => by have h1 := q.1; have h2 := q.2; omega)
                        have e3 : tF tx n p0 = i := hfi
                        have e2 : wL tx n p0 = k := by unfold wL; omega
                        have hw : zS G ((sr, zo 12 [.ref sv, .int (nI 0), .int 0, .int 0]) :: (sv, zc G 1 (zI k g4)) :: (rd, zo 3 [.int (nI (i + k)), .int (nI i), .ref sr, .int (nI th), .int (nI dg), .ref cl, .int (nI re), .ref co]) :: (co, zo 0 (cF w mn bm sm (nI n))) :: (w 8, zc G 1 (zI 200 xf)) :: rest) s H locs := hw.perm (((z_cut (is := [1, 0, 2, 3, 4]) (ws := [(sv, zc G 1 (zI k g4)), (sr, zo 12 [.ref sv, .int (nI 0), .int 0, .int 0]), (rd, zo 3 [.int (nI (i + k)), .int (nI i), .ref sr, .int (nI th), .int (nI dg), .ref cl, .int (nI re), .ref co]), (co, zo 0 (cF w mn bm sm (nI n))), (w 8, zc G 1 (zI 200 xf))]) (cells := [(sr, zo 12 [.ref sv, .int (nI 0), .int 0, .int 0]), (sv, zc G 1 (zI k g4)), (rd, zo 3 [.int (nI (i + k)), .int (nI i), .ref sr, .int (nI th), .int (nI dg), .ref cl, .int (nI re), .ref co]), (co, zo 0 (cF w mn bm sm (nI n))), (w 8, zc G 1 (zI 200 xf))]) rfl rfl).append_right rest).trans (by rw [List.append_assoc]; exact List.Perm.refl _))
                        have hw : zS G ((sr, zo 12 [.ref sv, .int (nI 0), .int 0, .int 0]) :: (sv, zc G 1 (zI (wL tx n p0) g4)) :: (rd, zo 3 [.int (nI (tS tx n p0)), .int (nI (tF tx n p0)), .ref sr, .int (nI th), .int (nI dg), .ref cl, .int (nI re), .ref co]) :: (co, zo 0 (cF w mn bm sm (nI n))) :: (w 8, zc G 1 (zI 200 xf)) :: rest) s H locs := by rw [e1, e2, e3]; exact hw
                        exact hend _ _ _ _ _ _ (sr, sv, g4) hw (fun j hj => by rw [e3]; rw [e2] at hj; rw [hg4 j hj]; exact hg j hj) (by omega) (by omega) dX3_take_184
                      · skip
                        have hl : lv_has ls 3 [(0, .ref rd), (1, .int (nI kd)), (2, .ref q_87)] := hl
                        refine z_cq (z_runV (As := []) (rest := [.ref rd]) hC zv_X3_82 (m_J2_toString_c G l kA (by first | assumption | (omega)) q_87 va k cap g (by omega) hfit (by omega) (zrem [1, 0] _)) hw (hw.perm (z_cut (is := [1, 0]) (cells := [(q_87, zo 11 [.ref va, .int (nI 0), .int 0, .int (nI k)]), (va, zc G 1 (zI cap g))]) rfl rfl)) 1 rfl rfl rfl rfl rfl (Nat.le_of_ble_eq_true rfl) hl.1 ⟨Nat.le_of_ble_eq_true rfl, Nat.le_of_ble_eq_true rfl⟩ ⟨(by show _ ≤ 30; omega), (by show _ ≤ 1100; omega)⟩ dX3_take_178) hw (fun u => z_new1 (is := [1, 0]) (cs := [(q_87, zo 11 [.ref va, .int (nI 0), .int 0, .int (nI k)]), (va, zc G 1 (zI cap g))]) (cs' := [(q_87, zo 11 [.ref va, .int (nI 0), .int 0, .int (nI k)]), (va, zc G 1 (zI cap g))]) (nw := [(u.2.1, zc G 1 (zI k u.2.2)), (u.1, zo 12 [.ref u.2.1, .int (nI 0), .int 0, .int 0])]) rfl rfl rfl) (fun r u H locs hp hw => ?_)
                        obtain ⟨sr, sv, g4⟩ := u
                        have hw : zS G ((sv, zc G 1 (zI k g4)) :: (sr, zo 12 [.ref sv, .int (nI 0), .int 0, .int 0]) :: (va, zc G 1 (zI cap g)) :: (q_87, zo 11 [.ref va, .int (nI 0), .int 0, .int (nI k)]) :: (rd, zo 3 [.int (nI (i + k)), .int (nI i), .ref wd, .int (nI th), .int (nI dg), .ref cl, .int (nI re), .ref co]) :: (co, zo 0 (cF w mn bm sm (nI n))) :: (w 8, zc G 1 (zI 200 xf)) :: rest) s H locs := hw
                        obtain ⟨rfl, hg4⟩ := hp
                        refine z_put hC zf_X3_17_3 hw 4 rfl rfl rfl (Nat.le_of_ble_eq_true rfl) dX3_take_181 (fun H locs hw => ?_)
                        have hw : zS G ((sv, zc G 1 (zI k g4)) :: (sr, zo 12 [.ref sv, .int (nI 0), .int 0, .int 0]) :: (va, zc G 1 (zI cap g)) :: (q_87, zo 11 [.ref va, .int (nI 0), .int 0, .int (nI k)]) :: (rd, zo 3 [.int (nI (i + k)), .int (nI i), .ref sr, .int (nI th), .int (nI dg), .ref cl, .int (nI re), .ref co]) :: (co, zo 0 (cF w mn bm sm (nI n))) :: (w 8, zc G 1 (zI 200 xf)) :: rest) s H locs := hw
                        have hw : zS G ((q_87, zo 11 [.ref va, .int (nI 0), .int 0, .int (nI k)]) :: (va, zc G 1 (zI cap g)) :: (sv, zc G 1 (zI k g4)) :: (sr, zo 12 [.ref sv, .int (nI 0), .int 0, .int 0]) :: (rd, zo 3 [.int (nI (i + k)), .int (nI i), .ref sr, .int (nI th), .int (nI dg), .ref cl, .int (nI re), .ref co]) :: (co, zo 0 (cF w mn bm sm (nI n))) :: (w 8, zc G 1 (zI 200 xf)) :: rest) s H locs := hw.perm (((z_cut (is := [3, 2, 0, 1, 4, 5, 6]) (ws := [(sv, zc G 1 (zI k g4)), (sr, zo 12 [.ref sv, .int (nI 0), .int 0, .int 0]), (va, zc G 1 (zI cap g)), (q_87, zo 11 [.ref va, .int (nI 0), .int 0, .int (nI k)]), (rd, zo 3 [.int (nI (i + k)), .int (nI i), .ref sr, .int (nI th), .int (nI dg), .ref cl, .int (nI re), .ref co]), (co, zo 0 (cF w mn bm sm (nI n))), (w 8, zc G 1 (zI 200 xf))]) (cells := [(q_87, zo 11 [.ref va, .int (nI 0), .int 0, .int (nI k)]), (va, zc G 1 (zI cap g)), (sv, zc G 1 (zI k g4)), (sr, zo 12 [.ref sv, .int (nI 0), .int 0, .int 0]), (rd, zo 3 [.int (nI (i + k)), .int (nI i), .ref sr, .int (nI th), .int (nI dg), .ref cl, .int (nI re), .ref co]), (co, zo 0 (cF w mn bm sm (nI n))), (w 8, zc G 1 (zI 200 xf))]) rfl rfl).append_right rest).trans (by rw [List.append_assoc]; exact List.Perm.refl _))
                        have hw := hw.drop
                        have hw := hw.drop
                        have e1 : tS tx n p0 = i + k := by rw [← cEnd_tS, hfi, ← hgo]; first | exact goE_n (by omega) | exact goE_k (by omega) (fun q => by have h1 := q.1; have h2 := q.2; omega)
                        have e3 : tF tx n p0 = i := hfi
                        have e2 : wL tx n p0 = k := by unfold wL; omega
                        have hw : zS G ((sr, zo 12 [.ref sv, .int (nI 0), .int 0, .int 0]) :: (sv, zc G 1 (zI k g4)) :: (rd, zo 3 [.int (nI (i + k)), .int (nI i), .ref sr, .int (nI th), .int (nI dg), .ref cl, .int (nI re), .ref co]) :: (co, zo 0 (cF w mn bm sm (nI n))) :: (w 8, zc G 1 (zI 200 xf)) :: rest) s H locs := hw.perm (((z_cut (is := [1, 0, 2, 3, 4]) (ws := [(sv, zc G 1 (zI k g4)), (sr, zo 12 [.ref sv, .int (nI 0), .int 0, .int 0]), (rd, zo 3 [.int (nI (i + k)), .int (nI i), .ref sr, .int (nI th), .int (nI dg), .ref cl, .int (nI re), .ref co]), (co, zo 0 (cF w mn bm sm (nI n))), (w 8, zc G 1 (zI 200 xf))]) (cells := [(sr, zo 12 [.ref sv, .int (nI 0), .int 0, .int 0]), (sv, zc G 1 (zI k g4)), (rd, zo 3 [.int (nI (i + k)), .int (nI i), .ref sr, .int (nI th), .int (nI dg), .ref cl, .int (nI re), .ref co]), (co, zo 0 (cF w mn bm sm (nI n))), (w 8, zc G 1 (zI 200 xf))]) rfl rfl).append_right rest).trans (by rw [List.append_assoc]; exact List.Perm.refl _))
                        have hw : zS G ((sr, zo 12 [.ref sv, .int (nI 0), .int 0, .int 0]) :: (sv, zc G 1 (zI (wL tx n p0) g4)) :: (rd, zo 3 [.int (nI (tS tx n p0)), .int (nI (tF tx n p0)), .ref sr, .int (nI th), .int (nI dg), .ref cl, .int (nI re), .ref co]) :: (co, zo 0 (cF w mn bm sm (nI n))) :: (w 8, zc G 1 (zI 200 xf)) :: rest) s H locs := by rw [e1, e2, e3]; exact hw
                        exact hend _ _ _ _ _ _ (sr, sv, g4) hw (fun j hj => by rw [e3]; rw [e2] at hj; rw [hg4 j hj]; exact hg j hj) (by omega) (by omega) dX3_take_184
                    · skip
                      refine lv_aload_n hx hb dX3_take_124 rfl (lv_at hl 0 rfl) ?_
                      refine lv_aload_n hx hb dX3_take_125 rfl (lv_at hl 0 rfl) ?_
                      refine z_get (v := .ref co) hC zf_X3_3_3 hw 2 rfl rfl dX3_take_126 ?_
                      refine z_getN (v := .ref (w 8)) (k := 11) hC (show zcl[0]? = some (RX0, TX0, 13) from rfl) in_X0 (by decide) rfl rfl rfl (hz.1 _ (cw_t q184 rfl)) hw 3 rfl rfl dX3_take_129 ?_
                      refine lv_aload_n hx hb dX3_take_132 rfl (lv_at hl 0 rfl) ?_
                      refine z_get (v := .int (nI (i + k))) hC zf_X3_58_3 hw 2 rfl rfl dX3_take_133 ?_
                      refine z_bald (x := (btL (tx (i + k)))) hC hw 4 rfl (by omega) (by decide) (hxf _ (by omega)) dX3_take_136 ?_
                      refine z_ci (z_runV (As := [.int (btL (tx (i + k)))]) (rest := []) hC zv_X3_71 (m_X3_kindOf_b G l kA (by first | assumption | (omega)) rd (tx (i + k)) (htx _ c_106) _) hw hw 2 rfl rfl rfl rfl rfl (Nat.le_of_ble_eq_true rfl) hl.1 ⟨Nat.le_of_ble_eq_true rfl, Nat.le_of_ble_eq_true rfl⟩ ⟨(by show _ ≤ 30; omega), (by show _ ≤ 1100; omega)⟩ dX3_take_137) hw (fun _ => List.Perm.refl _) (fun r u H locs hp hw => ?_)
                      obtain rfl : r = nI (kdN (tx (i + k))) := hp
                      refine lv_iload_n hx hb dX3_take_140 rfl (lv_at hl 1 rfl) ?_
                      refine zi_ne (tgt := 176) hx hb (by have := kdN_le (tx (i + k)); omega) (by omega) dX3_take_141 (by decide) (fun c_141 => ?_) (fun c_141 => ?_)
                      · skip
                        refine lv_aload_n hx hb dX3_take_176 rfl (lv_at hl 0 rfl) ?_
                        refine lv_aload_n hx hb dX3_take_177 rfl (lv_at hl 2 rfl) ?_
                        rcases Nat.lt_or_eq_of_le hkc with hkc | hkc
                        · skip
                          have hl : lv_has ls 3 [(0, .ref rd), (1, .int (nI kd)), (2, .ref q_87)] := hl
                          refine z_cq (z_runV (As := []) (rest := [.ref rd]) hC zv_X3_82 (m_J2_toString_r G l kA (by first | assumption | (omega)) q_87 va k cap g (by omega) hfit (by omega) (zrem [1, 0] _)) hw (hw.perm (z_cut (is := [1, 0]) (cells := [(q_87, zo 11 [.ref va, .int (nI 0), .int 0, .int (nI k)]), (va, zc G 1 (zI cap g))]) rfl rfl)) 1 rfl rfl rfl rfl rfl (Nat.le_of_ble_eq_true rfl) hl.1 ⟨Nat.le_of_ble_eq_true rfl, Nat.le_of_ble_eq_true rfl⟩ ⟨(by show _ ≤ 30; omega), (by show _ ≤ 1100; omega)⟩ dX3_take_178) hw (fun u => z_new1 (is := [1, 0]) (cs := [(q_87, zo 11 [.ref va, .int (nI 0), .int 0, .int (nI k)]), (va, zc G 1 (zI cap g))]) (cs' := [(q_87, zo 11 [.ref va, .int (nI 0), .int 0, .int (nI k)]), (va, zc G 1 (zI cap g))]) (nw := [(u.2.1, zc G 1 (zI k u.2.2)), (u.1, zo 12 [.ref u.2.1, .int (nI 0), .int 0, .int 0])]) rfl rfl rfl) (fun r u H locs hp hw => ?_)
                          obtain ⟨sr, sv, g4⟩ := u
                          have hw : zS G ((sv, zc G 1 (zI k g4)) :: (sr, zo 12 [.ref sv, .int (nI 0), .int 0, .int 0]) :: (va, zc G 1 (zI cap g)) :: (q_87, zo 11 [.ref va, .int (nI 0), .int 0, .int (nI k)]) :: (rd, zo 3 [.int (nI (i + k)), .int (nI i), .ref wd, .int (nI th), .int (nI dg), .ref cl, .int (nI re), .ref co]) :: (co, zo 0 (cF w mn bm sm (nI n))) :: (w 8, zc G 1 (zI 200 xf)) :: rest) s H locs := hw
                          obtain ⟨rfl, hg4⟩ := hp
                          refine z_put hC zf_X3_17_3 hw 4 rfl rfl rfl (Nat.le_of_ble_eq_true rfl) dX3_take_181 (fun H locs hw => ?_)
                          have hw : zS G ((sv, zc G 1 (zI k g4)) :: (sr, zo 12 [.ref sv, .int (nI 0), .int 0, .int 0]) :: (va, zc G 1 (zI cap g)) :: (q_87, zo 11 [.ref va, .int (nI 0), .int 0, .int (nI k)]) :: (rd, zo 3 [.int (nI (i + k)), .int (nI i), .ref sr, .int (nI th), .int (nI dg), .ref cl, .int (nI re), .ref co]) :: (co, zo 0 (cF w mn bm sm (nI n))) :: (w 8, zc G 1 (zI 200 xf)) :: rest) s H locs := hw
                          have hw : zS G ((q_87, zo 11 [.ref va, .int (nI 0), .int 0, .int (nI k)]) :: (va, zc G 1 (zI cap g)) :: (sv, zc G 1 (zI k g4)) :: (sr, zo 12 [.ref sv, .int (nI 0), .int 0, .int 0]) :: (rd, zo 3 [.int (nI (i + k)), .int (nI i), .ref sr, .int (nI th), .int (nI dg), .ref cl, .int (nI re), .ref co]) :: (co, zo 0 (cF w mn bm sm (nI n))) :: (w 8, zc G 1 (zI 200 xf)) :: rest) s H locs := hw.perm (((z_cut (is := [3, 2, 0, 1, 4, 5, 6]) (ws := [(sv, zc G 1 (zI k g4)), (sr, zo 12 [.ref sv, .int (nI 0), .int 0, .int 0]), (va, zc G 1 (zI cap g)), (q_87, zo 11 [.ref va, .int (nI 0), .int 0, .int (nI k)]), (rd, zo 3 [.int (nI (i + k)), .int (nI i), .ref sr, .int (nI th), .int (nI dg), .ref cl, .int (nI re), .ref co]), (co, zo 0 (cF w mn bm sm (nI n))), (w 8, zc G 1 (zI 200 xf))]) (cells := [(q_87, zo 11 [.ref va, .int (nI 0), .int 0, .int (nI k)]), (va, zc G 1 (zI cap g)), (sv, zc G 1 (zI k g4)), (sr, zo 12 [.ref sv, .int (nI 0), .int 0, .int 0]), (rd, zo 3 [.int (nI (i + k)), .int (nI i), .ref sr, .int (nI th), .int (nI dg), .ref cl, .int (nI re), .ref co]), (co, zo 0 (cF w mn bm sm (nI n))), (w 8, zc G 1 (zI 200 xf))]) rfl rfl).append_right rest).trans (by rw [List.append_assoc]; exact List.Perm.refl _))
                          have hw := hw.drop
                          have hw := hw.drop
                          have e1 : tS tx n p0 = i + k := by rw [← cEnd_tS, hfi, ← hgo]; first | exact goE_n (by omega) | exact goE_k (by omega) (fun q => by have h1 := q.1; have h2 := q.2; omega)
                          have e3 : tF tx n p0 = i := hfi
                          have e2 : wL tx n p0 = k := by unfold wL; omega
                          have hw : zS G ((sr, zo 12 [.ref sv, .int (nI 0), .int 0, .int 0]) :: (sv, zc G 1 (zI k g4)) :: (rd, zo 3 [.int (nI (i + k)), .int (nI i), .ref sr, .int (nI th), .int (nI dg), .ref cl, .int (nI re), .ref co]) :: (co, zo 0 (cF w mn bm sm (nI n))) :: (w 8, zc G 1 (zI 200 xf)) :: rest) s H locs := hw.perm (((z_cut (is := [1, 0, 2, 3, 4]) (ws := [(sv, zc G 1 (zI k g4)), (sr, zo 12 [.ref sv, .int (nI 0), .int 0, .int 0]), (rd, zo 3 [.int (nI (i + k)), .int (nI i), .ref sr, .int (nI th), .int (nI dg), .ref cl, .int (nI re), .ref co]), (co, zo 0 (cF w mn bm sm (nI n))), (w 8, zc G 1 (zI 200 xf))]) (cells := [(sr, zo 12 [.ref sv, .int (nI 0), .int 0, .int 0]), (sv, zc G 1 (zI k g4)), (rd, zo 3 [.int (nI (i + k)), .int (nI i), .ref sr, .int (nI th), .int (nI dg), .ref cl, .int (nI re), .ref co]), (co, zo 0 (cF w mn bm sm (nI n))), (w 8, zc G 1 (zI 200 xf))]) rfl rfl).append_right rest).trans (by rw [List.append_assoc]; exact List.Perm.refl _))
                          have hw : zS G ((sr, zo 12 [.ref sv, .int (nI 0), .int 0, .int 0]) :: (sv, zc G 1 (zI (wL tx n p0) g4)) :: (rd, zo 3 [.int (nI (tS tx n p0)), .int (nI (tF tx n p0)), .ref sr, .int (nI th), .int (nI dg), .ref cl, .int (nI re), .ref co]) :: (co, zo 0 (cF w mn bm sm (nI n))) :: (w 8, zc G 1 (zI 200 xf)) :: rest) s H locs := by rw [e1, e2, e3]; exact hw
                          exact hend _ _ _ _ _ _ (sr, sv, g4) hw (fun j hj => by rw [e3]; rw [e2] at hj; rw [hg4 j hj]; exact hg j hj) (by omega) (by omega) dX3_take_184
                        · skip
                          have hl : lv_has ls 3 [(0, .ref rd), (1, .int (nI kd)), (2, .ref q_87)] := hl
                          refine z_cq (z_runV (As := []) (rest := [.ref rd]) hC zv_X3_82 (m_J2_toString_c G l kA (by first | assumption | (omega)) q_87 va k cap g (by omega) hfit (by omega) (zrem [1, 0] _)) hw (hw.perm (z_cut (is := [1, 0]) (cells := [(q_87, zo 11 [.ref va, .int (nI 0), .int 0, .int (nI k)]), (va, zc G 1 (zI cap g))]) rfl rfl)) 1 rfl rfl rfl rfl rfl (Nat.le_of_ble_eq_true rfl) hl.1 ⟨Nat.le_of_ble_eq_true rfl, Nat.le_of_ble_eq_true rfl⟩ ⟨(by show _ ≤ 30; omega), (by show _ ≤ 1100; omega)⟩ dX3_take_178) hw (fun u => z_new1 (is := [1, 0]) (cs := [(q_87, zo 11 [.ref va, .int (nI 0), .int 0, .int (nI k)]), (va, zc G 1 (zI cap g))]) (cs' := [(q_87, zo 11 [.ref va, .int (nI 0), .int 0, .int (nI k)]), (va, zc G 1 (zI cap g))]) (nw := [(u.2.1, zc G 1 (zI k u.2.2)), (u.1, zo 12 [.ref u.2.1, .int (nI 0), .int 0, .int 0])]) rfl rfl rfl) (fun r u H locs hp hw => ?_)
                          obtain ⟨sr, sv, g4⟩ := u
                          have hw : zS G ((sv, zc G 1 (zI k g4)) :: (sr, zo 12 [.ref sv, .int (nI 0), .int 0, .int 0]) :: (va, zc G 1 (zI cap g)) :: (q_87, zo 11 [.ref va, .int (nI 0), .int 0, .int (nI k)]) :: (rd, zo 3 [.int (nI (i + k)), .int (nI i), .ref wd, .int (nI th), .int (nI dg), .ref cl, .int (nI re), .ref co]) :: (co, zo 0 (cF w mn bm sm (nI n))) :: (w 8, zc G 1 (zI 200 xf)) :: rest) s H locs := hw
                          obtain ⟨rfl, hg4⟩ := hp
                          refine z_put hC zf_X3_17_3 hw 4 rfl rfl rfl (Nat.le_of_ble_eq_true rfl) dX3_take_181 (fun H locs hw => ?_)
                          have hw : zS G ((sv, zc G 1 (zI k g4)) :: (sr, zo 12 [.ref sv, .int (nI 0), .int 0, .int 0]) :: (va, zc G 1 (zI cap g)) :: (q_87, zo 11 [.ref va, .int (nI 0), .int 0, .int (nI k)]) :: (rd, zo 3 [.int (nI (i + k)), .int (nI i), .ref sr, .int (nI th), .int (nI dg), .ref cl, .int (nI re), .ref co]) :: (co, zo 0 (cF w mn bm sm (nI n))) :: (w 8, zc G 1 (zI 200 xf)) :: rest) s H locs := hw
                          have hw : zS G ((q_87, zo 11 [.ref va, .int (nI 0), .int 0, .int (nI k)]) :: (va, zc G 1 (zI cap g)) :: (sv, zc G 1 (zI k g4)) :: (sr, zo 12 [.ref sv, .int (nI 0), .int 0, .int 0]) :: (rd, zo 3 [.int (nI (i + k)), .int (nI i), .ref sr, .int (nI th), .int (nI dg), .ref cl, .int (nI re), .ref co]) :: (co, zo 0 (cF w mn bm sm (nI n))) :: (w 8, zc G 1 (zI 200 xf)) :: rest) s H locs := hw.perm (((z_cut (is := [3, 2, 0, 1, 4, 5, 6]) (ws := [(sv, zc G 1 (zI k g4)), (sr, zo 12 [.ref sv, .int (nI 0), .int 0, .int 0]), (va, zc G 1 (zI cap g)), (q_87, zo 11 [.ref va, .int (nI 0), .int 0, .int (nI k)]), (rd, zo 3 [.int (nI (i + k)), .int (nI i), .ref sr, .int (nI th), .int (nI dg), .ref cl, .int (nI re), .ref co]), (co, zo 0 (cF w mn bm sm (nI n))), (w 8, zc G 1 (zI 200 xf))]) (cells := [(q_87, zo 11 [.ref va, .int (nI 0), .int 0, .int (nI k)]), (va, zc G 1 (zI cap g)), (sv, zc G 1 (zI k g4)), (sr, zo 12 [.ref sv, .int (nI 0), .int 0, .int 0]), (rd, zo 3 [.int (nI (i + k)), .int (nI i), .ref sr, .int (nI th), .int (nI dg), .ref cl, .int (nI re), .ref co]), (co, zo 0 (cF w mn bm sm (nI n))), (w 8, zc G 1 (zI 200 xf))]) rfl rfl).append_right rest).trans (by rw [List.append_assoc]; exact List.Perm.refl _))
                          have hw := hw.drop
                          have hw := hw.drop
                          have e1 : tS tx n p0 = i + k := by rw [← cEnd_tS, hfi, ← hgo]; first | exact goE_n (by omega) | exact goE_k (by omega) (fun q => by have h1 := q.1; have h2 := q.2; omega)
                          have e3 : tF tx n p0 = i := hfi
                          have e2 : wL tx n p0 = k := by unfold wL; omega
                          have hw : zS G ((sr, zo 12 [.ref sv, .int (nI 0), .int 0, .int 0]) :: (sv, zc G 1 (zI k g4)) :: (rd, zo 3 [.int (nI (i + k)), .int (nI i), .ref sr, .int (nI th), .int (nI dg), .ref cl, .int (nI re), .ref co]) :: (co, zo 0 (cF w mn bm sm (nI n))) :: (w 8, zc G 1 (zI 200 xf)) :: rest) s H locs := hw.perm (((z_cut (is := [1, 0, 2, 3, 4]) (ws := [(sv, zc G 1 (zI k g4)), (sr, zo 12 [.ref sv, .int (nI 0), .int 0, .int 0]), (rd, zo 3 [.int (nI (i + k)), .int (nI i), .ref sr, .int (nI th), .int (nI dg), .ref cl, .int (nI re), .ref co]), (co, zo 0 (cF w mn bm sm (nI n))), (w 8, zc G 1 (zI 200 xf))]) (cells := [(sr, zo 12 [.ref sv, .int (nI 0), .int 0, .int 0]), (sv, zc G 1 (zI k g4)), (rd, zo 3 [.int (nI (i + k)), .int (nI i), .ref sr, .int (nI th), .int (nI dg), .ref cl, .int (nI re), .ref co]), (co, zo 0 (cF w mn bm sm (nI n))), (w 8, zc G 1 (zI 200 xf))]) rfl rfl).append_right rest).trans (by rw [List.append_assoc]; exact List.Perm.refl _))
                          have hw : zS G ((sr, zo 12 [.ref sv, .int (nI 0), .int 0, .int 0]) :: (sv, zc G 1 (zI (wL tx n p0) g4)) :: (rd, zo 3 [.int (nI (tS tx n p0)), .int (nI (tF tx n p0)), .ref sr, .int (nI th), .int (nI dg), .ref cl, .int (nI re), .ref co]) :: (co, zo 0 (cF w mn bm sm (nI n))) :: (w 8, zc G 1 (zI 200 xf)) :: rest) s H locs := by rw [e1, e2, e3]; exact hw
                          exact hend _ _ _ _ _ _ (sr, sv, g4) hw (fun j hj => by rw [e3]; rw [e2] at hj; rw [hg4 j hj]; exact hg j hj) (by omega) (by omega) dX3_take_184
                      · skip
                        refine lv_aload_n hx hb dX3_take_144 rfl (lv_at hl 2 rfl) ?_
                        refine lv_aload_n hx hb dX3_take_145 rfl (lv_at hl 0 rfl) ?_
                        refine z_get (v := .ref co) hC zf_X3_3_3 hw 2 rfl rfl dX3_take_146 ?_
                        refine z_getN (v := .ref (w 8)) (k := 11) hC (show zcl[0]? = some (RX0, TX0, 13) from rfl) in_X0 (by decide) rfl rfl rfl (hz.1 _ (cw_t q184 rfl)) hw 3 rfl rfl dX3_take_149 ?_
                        refine lv_aload_n hx hb dX3_take_152 rfl (lv_at hl 0 rfl) ?_
                        refine lv_dup hx hb dX3_take_153 rfl ?_
                        refine z_get (v := .int (nI (i + k))) hC zf_X3_58_3 hw 2 rfl rfl dX3_take_154 ?_
                        refine lv_dup_x1 hx hb dX3_take_157 rfl rfl ?_
                        refine lv_iconst (v := (nI 1)) hx hb dX3_take_158 zk_1 ?_
                        refine zn_iadd hx hb dX3_take_159 ?_
                        refine z_puti hC zf_X3_58_3 hw 2 rfl (Nat.le_of_ble_eq_true rfl) dX3_take_160 (fun H locs hw => ?_)
                        have hw : zS G ((va, zc G 1 (zI cap g)) :: (q_87, zo 11 [.ref va, .int (nI 0), .int 0, .int (nI k)]) :: (rd, zo 3 [.int (nI (i + k + 1)), .int (nI i), .ref wd, .int (nI th), .int (nI dg), .ref cl, .int (nI re), .ref co]) :: (co, zo 0 (cF w mn bm sm (nI n))) :: (w 8, zc G 1 (zI 200 xf)) :: rest) s H locs := hw
                        refine z_bald (x := (btL (tx (i + k)))) hC hw 4 rfl (by omega) (by decide) (hxf _ (by omega)) dX3_take_163 ?_
                        refine lv_sipush (v := (nI 255)) hx hb dX3_take_164 zs_255 ?_
                        refine zv_iand (v := (nI (tx (i + k)))) hx hb (btL_and (htx _ c_106)) dX3_take_167 ?_
                        refine lv_i2c (v := (nI (tx (i + k)))) hx hb dX3_take_168 (zi2c (by have := htx _ c_106; omega)) ?_
                        rcases Nat.lt_or_eq_of_le hkc with hkc | hkc
                        · skip
                          have hl : lv_has ls 3 [(0, .ref rd), (1, .int (nI kd)), (2, .ref q_87)] := hl
                          refine z_cq (z_runV (As := [.int (nI (tx (i + k)))]) (rest := []) hC zv_X3_78 (m_J2_append_n G l kA (by first | assumption | (omega)) (by first | assumption | (omega)) q_87 va k cap g (tx (i + k)) (htx _ c_106) (by omega) hfit (by omega) (zrem [1, 0] _)) hw (hw.perm (z_cut (is := [1, 0]) (cells := [(q_87, zo 11 [.ref va, .int (nI 0), .int 0, .int (nI k)]), (va, zc G 1 (zI cap g))]) rfl rfl)) 1 rfl rfl rfl rfl rfl (Nat.le_of_ble_eq_true rfl) hl.1 ⟨Nat.le_of_ble_eq_true rfl, Nat.le_of_ble_eq_true rfl⟩ ⟨(by show _ ≤ 30; omega), (by show _ ≤ 1100; omega)⟩ dX3_take_169) hw (fun u => z_pput (is := [1, 0]) (cells := [(q_87, zo 11 [.ref va, .int (nI 0), .int 0, .int (nI k)]), (va, zc G 1 (zI cap g))]) (cells' := [(q_87, zo 11 [.ref u.1, .int (nI 0), .int 0, .int (nI (k + 1))]), (u.1, zc G 1 (zI u.2.1 u.2.2))]) rfl rfl rfl) (fun r u H locs hp hw => ?_)
                          obtain ⟨va7, cap7, g7⟩ := u
                          have hw : zS G ((va7, zc G 1 (zI cap7 g7)) :: (q_87, zo 11 [.ref va7, .int (nI 0), .int 0, .int (nI (k + 1))]) :: (rd, zo 3 [.int (nI (i + k + 1)), .int (nI i), .ref wd, .int (nI th), .int (nI dg), .ref cl, .int (nI re), .ref co]) :: (co, zo 0 (cF w mn bm sm (nI n))) :: (w 8, zc G 1 (zI 200 xf)) :: rest) s H locs := hw
                          obtain ⟨rfl, hg7, hfit7, hcap7⟩ := hp
                          have hc7 : (cap7 = cap ∧ k < cap) ∨ (cap7 = 2 * cap + 2 ∧ k = cap) := hcap7.imp (fun q => q.2) id
                          refine lv_pop hx hb dX3_take_172 rfl ?_
                          refine lv_goto (tgt := 95) hx hb dX3_take_173 (by decide) ?_
                          have hw : zS G ((va7, zc G 1 (zI cap7 g7)) :: (q_87, zo 11 [.ref va7, .int (nI 0), .int 0, .int (nI (k + 1))]) :: (rd, zo 3 [.int (nI (i + (k + 1))), .int (nI i), .ref wd, .int (nI th), .int (nI dg), .ref cl, .int (nI re), .ref co]) :: (co, zo 0 (cF w mn bm sm (nI n))) :: (w 8, zc G 1 (zI 200 xf)) :: rest) s H locs := hw
                          refine W.widen (k := (2 + cap7 / 16)) (n := (4 + 2 * cap7)) (by omega) (by omega) ?_
                          exact ih_95 (k + 1) cap7 va7 g7 (by omega) (by omega) (by omega) (by omega) ((goE_s c_106 (by omega) hkd (by first | exact Or.inl (by omega) | exact Or.inr ⟨by omega, by omega⟩)).trans hgo) (fun j hj => (hg7 j hj).trans (by split; (next e => rw [e]); exact hg j (by omega))) hfit7 (by omega) H locs ls hw (lv_sub hl [0, 1, 2] rfl)
                        · skip
                          have hl : lv_has ls 3 [(0, .ref rd), (1, .int (nI kd)), (2, .ref q_87)] := hl
                          refine z_cq (z_runV (As := [.int (nI (tx (i + k)))]) (rest := []) hC zv_X3_78 (m_J2_append_g G l kA (by first | assumption | (omega)) (by first | assumption | (omega)) q_87 va k cap g (tx (i + k)) (htx _ c_106) (by omega) hfit (by omega) (by omega) (zrem [1, 0] _)) hw (hw.perm (z_cut (is := [1, 0]) (cells := [(q_87, zo 11 [.ref va, .int (nI 0), .int 0, .int (nI k)]), (va, zc G 1 (zI cap g))]) rfl rfl)) 1 rfl rfl rfl rfl rfl (Nat.le_of_ble_eq_true rfl) hl.1 ⟨Nat.le_of_ble_eq_true rfl, Nat.le_of_ble_eq_true rfl⟩ ⟨(by show _ ≤ 30; omega), (by show _ ≤ 1100; omega)⟩ dX3_take_169) hw (fun u => z_pput (is := [1, 0]) (cells := [(q_87, zo 11 [.ref va, .int (nI 0), .int 0, .int (nI k)]), (va, zc G 1 (zI cap g))]) (cells' := [(q_87, zo 11 [.ref u.1, .int (nI 0), .int 0, .int (nI (k + 1))]), (u.1, zc G 1 (zI u.2.1 u.2.2))]) rfl rfl rfl) (fun r u H locs hp hw => ?_)
                          obtain ⟨va7, cap7, g7⟩ := u
                          have hw : zS G ((va7, zc G 1 (zI cap7 g7)) :: (q_87, zo 11 [.ref va7, .int (nI 0), .int 0, .int (nI (k + 1))]) :: (rd, zo 3 [.int (nI (i + k + 1)), .int (nI i), .ref wd, .int (nI th), .int (nI dg), .ref cl, .int (nI re), .ref co]) :: (co, zo 0 (cF w mn bm sm (nI n))) :: (w 8, zc G 1 (zI 200 xf)) :: rest) s H locs := hw
                          obtain ⟨rfl, hg7, hfit7, hcap7⟩ := hp
                          have hc7 : (cap7 = cap ∧ k < cap) ∨ (cap7 = 2 * cap + 2 ∧ k = cap) := hcap7.imp (fun q => q.2) id
                          refine lv_pop hx hb dX3_take_172 rfl ?_
                          refine lv_goto (tgt := 95) hx hb dX3_take_173 (by decide) ?_
                          have hw : zS G ((va7, zc G 1 (zI cap7 g7)) :: (q_87, zo 11 [.ref va7, .int (nI 0), .int 0, .int (nI (k + 1))]) :: (rd, zo 3 [.int (nI (i + (k + 1))), .int (nI i), .ref wd, .int (nI th), .int (nI dg), .ref cl, .int (nI re), .ref co]) :: (co, zo 0 (cF w mn bm sm (nI n))) :: (w 8, zc G 1 (zI 200 xf)) :: rest) s H locs := hw
                          refine W.widen (k := (2 + cap7 / 16)) (n := (4 + 2 * cap7)) (by omega) (by omega) ?_
                          exact ih_95 (k + 1) cap7 va7 g7 (by omega) (by omega) (by omega) (by omega) ((goE_s c_106 (by omega) hkd (by first | exact Or.inl (by omega) | exact Or.inr ⟨by omega, by omega⟩)).trans hgo) (fun j hj => (hg7 j hj).trans (by split; (next e => rw [e]); exact hg j (by omega))) hfit7 (by omega) H locs ls hw (lv_sub hl [0, 1, 2] rfl)
            have hw : zS G ((va0, zc G 1 (zI 16 (fun _ => 0))) :: (q_87, zo 11 [.ref va0, .int (nI 0), .int 0, .int (nI 0)]) :: (rd, zo 3 [.int (nI (i + 0)), .int (nI i), .ref wd, .int (nI th), .int (nI dg), .ref cl, .int (nI re), .ref co]) :: (co, zo 0 (cF w mn bm sm (nI n))) :: (w 8, zc G 1 (zI 200 xf)) :: rest) s H locs := hw
            refine W.widen (k := (2 + 16 / 16)) (n := (4 + 2 * 16)) (by omega) (by omega) ?_
            exact loop_95 ((n - (i + 0)) + 1) 0 16 va0 (fun _ => 0) (by omega) (by decide) (by decide) (by omega) (by unfold goE; rw [if_pos (Nat.add_zero i)]) (fun j hj => absurd hj (Nat.not_lt_zero _)) (fun j => by show fits .byte (.int (0 : Int32)) = true; decide) (Nat.lt_succ_self _) H locs ls hw (lv_sub hl [2, 1, 0] rfl)
          refine lv_aload_n hx hb dX3_take_44 rfl (lv_at hl 0 rfl) ?_
          refine lv_aload_n hx hb dX3_take_45 rfl (lv_at hl 0 rfl) ?_
          refine z_get (v := .int (nI i)) hC zf_X3_58_3 hw 0 rfl rfl dX3_take_46 ?_
          refine z_puti hC zf_X3_68_3 hw 0 rfl (Nat.le_of_ble_eq_true rfl) dX3_take_49 (fun H locs hw => ?_)
          have hw : zS G ((rd, zo 3 [.int (nI i), .int (nI i), .ref wd, .int (nI th), .int (nI dg), .ref cl, .int (nI re), .ref co]) :: (co, zo 0 (cF w mn bm sm (nI n))) :: (w 8, zc G 1 (zI 200 xf)) :: rest) s H locs := hw
          refine lv_aload_n hx hb dX3_take_52 rfl (lv_at hl 0 rfl) ?_
          refine z_get (v := .int (nI i)) hC zf_X3_58_3 hw 0 rfl rfl dX3_take_53 ?_
          refine lv_aload_n hx hb dX3_take_56 rfl (lv_at hl 0 rfl) ?_
          refine z_get (v := .ref co) hC zf_X3_3_3 hw 0 rfl rfl dX3_take_57 ?_
          refine z_getN (v := .int (nI n)) (k := 12) hC (show zcl[0]? = some (RX0, TX0, 13) from rfl) in_X0 (by decide) rfl rfl rfl (hz.1 _ (cw_t q186 rfl)) hw 1 rfl rfl dX3_take_60 ?_
          refine zi_ge (tgt := 85) hx hb (by omega) (by omega) dX3_take_63 (by decide) (fun c_63 => ?_) (fun c_63 => ?_)
          · skip
            refine lv_iconst (v := (nI 0)) hx hb dX3_take_85 zk_0 ?_
            exact join_86 0 (by first | exact fun _ => rfl | exact fun q => absurd q (by omega)) (by first | exact kdN_le _ | decide) H locs ls hw (lv_sub hl [0] rfl)
          · skip
            refine lv_aload_n hx hb dX3_take_66 rfl (lv_at hl 0 rfl) ?_
            refine lv_aload_n hx hb dX3_take_67 rfl (lv_at hl 0 rfl) ?_
            refine z_get (v := .ref co) hC zf_X3_3_3 hw 0 rfl rfl dX3_take_68 ?_
            refine z_getN (v := .ref (w 8)) (k := 11) hC (show zcl[0]? = some (RX0, TX0, 13) from rfl) in_X0 (by decide) rfl rfl rfl (hz.1 _ (cw_t q184 rfl)) hw 1 rfl rfl dX3_take_71 ?_
            refine lv_aload_n hx hb dX3_take_74 rfl (lv_at hl 0 rfl) ?_
            refine z_get (v := .int (nI i)) hC zf_X3_58_3 hw 0 rfl rfl dX3_take_75 ?_
            refine z_bald (x := (btL (tx i))) hC hw 2 rfl (by omega) (by decide) (hxf _ (by omega)) dX3_take_78 ?_
            refine z_ci (z_runV (As := [.int (btL (tx i))]) (rest := []) hC zv_X3_71 (m_X3_kindOf_b G l kA (by first | assumption | (omega)) rd (tx i) (htx _ c_63) _) hw hw 0 rfl rfl rfl rfl rfl (Nat.le_of_ble_eq_true rfl) hl.1 ⟨Nat.le_of_ble_eq_true rfl, Nat.le_of_ble_eq_true rfl⟩ ⟨(Nat.le_of_ble_eq_true rfl), (Nat.le_of_ble_eq_true rfl)⟩ dX3_take_79) hw (fun _ => List.Perm.refl _) (fun r u H locs hp hw => ?_)
            obtain rfl : r = nI (kdN (tx i)) := hp
            refine lv_goto (tgt := 86) hx hb dX3_take_82 (by decide) ?_
            exact join_86 (kdN (tx i)) (by first | exact fun _ => rfl | exact fun q => absurd q (by omega)) (by first | exact kdN_le _ | decide) H locs ls hw (lv_sub hl [0] rfl)
        · skip
          refine lv_aload_n hx hb dX3_take_31 rfl (lv_at hl 0 rfl) ?_
          refine lv_dup hx hb dX3_take_32 rfl ?_
          refine z_get (v := .int (nI i)) hC zf_X3_58_3 hw 0 rfl rfl dX3_take_33 ?_
          refine lv_iconst (v := (nI 1)) hx hb dX3_take_36 zk_1 ?_
          refine zn_iadd hx hb dX3_take_37 ?_
          refine z_puti hC zf_X3_58_3 hw 0 rfl (Nat.le_of_ble_eq_true rfl) dX3_take_38 (fun H locs hw => ?_)
          have hw : zS G ((rd, zo 3 [.int (nI (i + 1)), .int fs, .ref wd, .int (nI th), .int (nI dg), .ref cl, .int (nI re), .ref co]) :: (co, zo 0 (cF w mn bm sm (nI n))) :: (w 8, zc G 1 (zI 200 xf)) :: rest) s H locs := hw
          refine lv_goto (tgt := 0) hx hb dX3_take_41 (by decide) ?_
          exact ih_0 (i + 1) (by omega) (by omega) (hfi.trans (run_go c_11 ((bt_sp (htx _ c_11)).mp c_28))) (by omega) H locs ls hw (lv_sub hl [0] rfl)
  exact loop_0 ((n - p0) + 1) p0 (by omega) (by omega) rfl (Nat.lt_succ_self _) s.heap [] ls hw (lv_sub hl [0] rfl)
