/-! MODEL: foretold -/
set_option maxRecDepth 100000
theorem ateI_at {k i : Nat} {af : Nat → Int32} (a : Nat → Option Nat) (hi : i < k) : ateI a k af i = optI (a i) := by
  unfold ateI; rw [if_pos hi]
theorem hungN_no {i f n : Nat} {v : Nat → Nat} (h : ¬ ∃ e, ateN v i = some e ∧ e < passN v (21 + 5 * i + 2)) : hungN i (f + 1) v n = hungN i f (passN v) (n + 1) := by
  rw [hungN, if_neg (by rw [dB_f h]; decide)]
theorem hungN_yes {i f n e : Nat} {v : Nat → Nat} (h : ateN v i = some e) (h2 : e < passN v (21 + 5 * i + 2)) : hungN i (f + 1) v n = some n := by
  rw [hungN, if_pos (dB_t ⟨e, h, h2⟩)]
theorem ateTo_le {v : Nat → Nat} (hH : Hw v) (hd : v 2 < 65535) : ∀ k, k ≤ v 1 → ∀ i e, (passTo v k).2 i = some e → e ≤ 19
  | 0, _, i, e, h => by cases h
  | k + 1, hk, i, e, h => by
    have ih := ateTo_le hH hd k (by omega)
    have h1 := hH.2.1
    obtain ⟨i1, i2, i3, i4⟩ := passTo_inv hH hd k (by omega)
    rcases hp : passTo v k with ⟨v1, a1⟩
    rw [hp] at ih i1
    by_cases hg : goneN v1 k
    · rw [passTo_gone hp hg] at h; exact ih i e h
    · by_cases hw : wakesN (v1 (21 + 5 * k)) (v1 2)
      · rw [passTo_wake hp hg hw] at h
        dsimp only at h
        by_cases hik : i = k
        · subst hik
          rw [va_up_self] at h
          cases h
          have hks := i1.2.2.2.1 i (by omega)
          have hxx : (if v1 (21 + 5 * i) = 4 then nearN v1 i else 0) < 512 := ite_lt (nearN_lt i1) (by decide)
          exact eatN_le (Hw_upd i1 (by omega) (by omega) (Nat.lt_trans (or9 hks hxx) (by decide)) (fun _ _ _ => or9 hks hxx) (fun i hi h => by omega) (fun i hi h => by omega)) (by omega)
        · rw [va_up_ne _ _ hik] at h; exact ih i e h
      · rw [passTo_sleep hp hg hw] at h; exact ih i e h
theorem ateN_le {v : Nat → Nat} (hH : Hw v) (hd : v 2 < 65535) {i e : Nat} (h : ateN v i = some e) : e ≤ 19 := ateTo_le hH hd _ (Nat.le_refl _) i e h
set_option maxHeartbeats 4000000 in
theorem m_X2_hungry (G : zE) (l : Launch) (mo : Nat) (q : Nat → Nat) (A : AS) (b : Nat → Nat → Int32) (f : Nat → Int32) (hA : AOk A) (hM : MRel A b f) (x : Int32) (rest : va_W) : zMi G l yX2_hungry cX2_hungry 3 (some .int) 5 0 0 [.ref mo, .int x] ((mo, zo 2 (mF q (f 1) (f 2) (f 3) (f 4) (f 5) (f 6) (f 7) (f 8) (f 14) (f 19))) :: (q 0, zc G 0 (zI 200 (b 0))) :: (q 9, zc G 0 (zI 46 (b 9))) :: (q 10, zc G 0 (zI 46 (b 10))) :: (q 11, zc G 0 (zI 46 (b 11))) :: (q 12, zc G 0 (zI 46 (b 12))) :: (q 13, zc G 0 (zI 368 (b 13))) :: (q 15, zc G 0 (zI 92 (b 15))) :: (q 16, zc G 3 (zI 2 (b 16))) :: (q 17, zc G 0 (zI 5 (b 17))) :: (q 18, zc G 0 (zI 24 (b 18))) :: (q 20, zc G 0 (zI 3 (b 20))) :: (q 21, zc G 0 (zI 3 (b 21))) :: (q 22, zc G 0 (zI 3 (b 22))) :: (q 23, zc G 0 (zI 36 (b 23))) :: (q 24, zc G 0 (zI 36 (b 24))) :: rest) (fun (r : Int32) (u : MB) => r = F_hungry A x ∧ MRel A u.1 u.2) (fun (u : MB) => (mo, zo 2 (mF q (u.2 1) (u.2 2) (u.2 3) (u.2 4) (u.2 5) (u.2 6) (u.2 7) (u.2 8) (u.2 14) (u.2 19))) :: (q 0, zc G 0 (zI 200 (u.1 0))) :: (q 9, zc G 0 (zI 46 (u.1 9))) :: (q 10, zc G 0 (zI 46 (u.1 10))) :: (q 11, zc G 0 (zI 46 (u.1 11))) :: (q 12, zc G 0 (zI 46 (u.1 12))) :: (q 13, zc G 0 (zI 368 (u.1 13))) :: (q 15, zc G 0 (zI 92 (u.1 15))) :: (q 16, zc G 3 (zI 2 (u.1 16))) :: (q 17, zc G 0 (zI 5 (u.1 17))) :: (q 18, zc G 0 (zI 24 (u.1 18))) :: (q 20, zc G 0 (zI 3 (u.1 20))) :: (q 21, zc G 0 (zI 3 (u.1 21))) :: (q 22, zc G 0 (zI 3 (u.1 22))) :: (q 23, zc G 0 (zI 36 (u.1 23))) :: (q 24, zc G 0 (zI 36 (u.1 24))) :: rest) := by
  refine z_begI (by decide) (Nat.le_of_ble_eq_true rfl) (fun p e s m args below meth c ls Q hC hl hw hend => ?_)
  have hx := hC.hx
  have hb := hC.hb
  have hl : lv_has ls 3 [(0, .ref mo), (1, .int x)] := hl
  have hw : zS G ((mo, zo 2 (mF q (f 1) (f 2) (f 3) (f 4) (f 5) (f 6) (f 7) (f 8) (f 14) (f 19))) :: (q 0, zc G 0 (zI 200 (b 0))) :: (q 9, zc G 0 (zI 46 (b 9))) :: (q 10, zc G 0 (zI 46 (b 10))) :: (q 11, zc G 0 (zI 46 (b 11))) :: (q 12, zc G 0 (zI 46 (b 12))) :: (q 13, zc G 0 (zI 368 (b 13))) :: (q 15, zc G 0 (zI 92 (b 15))) :: (q 16, zc G 3 (zI 2 (b 16))) :: (q 17, zc G 0 (zI 5 (b 17))) :: (q 18, zc G 0 (zI 24 (b 18))) :: (q 20, zc G 0 (zI 3 (b 20))) :: (q 21, zc G 0 (zI 3 (b 21))) :: (q 22, zc G 0 (zI 3 (b 22))) :: (q 23, zc G 0 (zI 36 (b 23))) :: (q 24, zc G 0 (zI 36 (b 24))) :: rest) s s.heap [] := hw
  have hA9 := hA
  obtain ⟨⟨hT, hL⟩, hV0, hV, ⟨hU, hUs⟩, hKp, ⟨hSi, hSg⟩, hTr⟩ := hM
  obtain ⟨⟨hL2, hT2⟩, hB0, hBv, ⟨hU8, hUb⟩, hKb, ⟨hS6, hSb⟩, hTb⟩ := hA
  have hH : Hw (aV A) := hBv.1.1
  have hday := hBv.2.2
  have hw := hw.cellI 4 rfl (g := vI (aV A)) (fun j hj => by have := hV j hj; rwa [Nat.zero_add] at this)
  have hw : zS G ((mo, zo 2 (mF q (f 1) (f 2) (f 3) (f 4) (f 5) (f 6) (f 7) (f 8) (f 14) (f 19))) :: (q 0, zc G 0 (zI 200 (b 0))) :: (q 9, zc G 0 (zI 46 (b 9))) :: (q 10, zc G 0 (zI 46 (b 10))) :: (q 11, zc G 0 (zI 46 (vI (aV A)))) :: (q 12, zc G 0 (zI 46 (b 12))) :: (q 13, zc G 0 (zI 368 (b 13))) :: (q 15, zc G 0 (zI 92 (b 15))) :: (q 16, zc G 3 (zI 2 (b 16))) :: (q 17, zc G 0 (zI 5 (b 17))) :: (q 18, zc G 0 (zI 24 (b 18))) :: (q 20, zc G 0 (zI 3 (b 20))) :: (q 21, zc G 0 (zI 3 (b 21))) :: (q 22, zc G 0 (zI 3 (b 22))) :: (q 23, zc G 0 (zI 36 (b 23))) :: (q 24, zc G 0 (zI 36 (b 24))) :: rest) s s.heap [] := hw
  refine lv_aload_n hx hb dX2_hungry_0 rfl (lv_at hl 0 rfl) ?_
  refine lv_iload_n hx hb dX2_hungry_1 rfl (lv_at hl 1 rfl) ?_
  refine z_ci (z_runV (As := [.int x]) (rest := []) hC zv_X2_194 (m_X2_isSquirrel G l mo q (f 1) (f 2) (f 3) (f 4) (f 5) (f 6) (f 7) (f 8) (f 14) (f 19) x (aV A) (by first | assumption | (omega)) (zrem [0, 4] _)) hw (hw.perm (z_cut (is := [0, 4]) (cells := [(mo, zo 2 (mF q (f 1) (f 2) (f 3) (f 4) (f 5) (f 6) (f 7) (f 8) (f 14) (f 19))), (q 11, zc G 0 (zI 46 (vI (aV A))))]) rfl rfl)) 0 rfl rfl rfl rfl rfl (Nat.le_of_ble_eq_true rfl) hl.1 ⟨Nat.le_of_ble_eq_true rfl, Nat.le_of_ble_eq_true rfl⟩ ⟨(Nat.le_of_ble_eq_true rfl), (Nat.le_of_ble_eq_true rfl)⟩ dX2_hungry_2) hw (fun _ => z_keep (is := [0, 4]) (cs := [(mo, zo 2 (mF q (f 1) (f 2) (f 3) (f 4) (f 5) (f 6) (f 7) (f 8) (f 14) (f 19))), (q 11, zc G 0 (zI 46 (vI (aV A))))]) rfl rfl) (fun r u H locs hp hw => ?_)
  obtain rfl : r = bI (isP ((aV A) 1) x) := hp
  refine zb_ne (tgt := 11) hx hb dX2_hungry_5 (by decide) (fun c_5 => ?_) (fun c_5 => ?_)
  · skip
    obtain ⟨i, hi, rfl⟩ := c_5
    have hl : lv_has ls 3 [(0, .ref mo), (1, .int (nI i))] := hl
    have hp5 := hH.2.1
    refine lv_aload_n hx hb dX2_hungry_11 rfl (lv_at hl 0 rfl) ?_
    refine z_get (v := .ref (q 11)) hC zf_X2_19_2 hw 0 rfl rfl dX2_hungry_12 ?_
    refine lv_iconst (v := (nI 0)) hx hb dX2_hungry_15 zk_0 ?_
    refine lv_aload_n hx hb dX2_hungry_16 rfl (lv_at hl 0 rfl) ?_
    refine z_get (v := .ref (q 12)) hC zf_X2_22_2 hw 0 rfl rfl dX2_hungry_17 ?_
    refine lv_iconst (v := (nI 0)) hx hb dX2_hungry_20 zk_0 ?_
    refine z_cv (z_runS (As := [.ref (q 11), .int (nI 0), .ref (q 12), .int (nI 0)]) (rest := []) hC zs_X2_130 (m_X2_copies G l (q 11) (q 12) 0 0 46 46 (vI (aV A)) (b 12) (by omega) (by omega) (by decide) (by decide) (zrem [4, 5] _)) (hw.perm (z_cut (is := [4, 5]) (cells := [(q 11, zc G 0 (zI 46 (vI (aV A)))), (q 12, zc G 0 (zI 46 (b 12)))]) rfl rfl)) rfl rfl (Nat.le_of_ble_eq_true rfl) hl.1 ⟨Nat.le_of_ble_eq_true rfl, Nat.le_of_ble_eq_true rfl⟩ ⟨(Nat.le_of_ble_eq_true rfl), (Nat.le_of_ble_eq_true rfl)⟩ dX2_hungry_21) hw (fun _ => z_pput (is := [4, 5]) (cells := [(q 11, zc G 0 (zI 46 (vI (aV A)))), (q 12, zc G 0 (zI 46 (b 12)))]) (cells' := [(q 11, zc G 0 (zI 46 (vI (aV A)))), (q 12, zc G 0 (zI 46 (va_cpy (vI (aV A)) (b 12) 0 0 46)))]) rfl rfl rfl) (fun u H locs hp hw => ?_)
    have hw : zS G ((mo, zo 2 (mF q (f 1) (f 2) (f 3) (f 4) (f 5) (f 6) (f 7) (f 8) (f 14) (f 19))) :: (q 0, zc G 0 (zI 200 (b 0))) :: (q 9, zc G 0 (zI 46 (b 9))) :: (q 10, zc G 0 (zI 46 (b 10))) :: (q 11, zc G 0 (zI 46 (vI (aV A)))) :: (q 12, zc G 0 (zI 46 (va_cpy (vI (aV A)) (b 12) 0 0 46))) :: (q 13, zc G 0 (zI 368 (b 13))) :: (q 15, zc G 0 (zI 92 (b 15))) :: (q 16, zc G 3 (zI 2 (b 16))) :: (q 17, zc G 0 (zI 5 (b 17))) :: (q 18, zc G 0 (zI 24 (b 18))) :: (q 20, zc G 0 (zI 3 (b 20))) :: (q 21, zc G 0 (zI 3 (b 21))) :: (q 22, zc G 0 (zI 3 (b 22))) :: (q 23, zc G 0 (zI 36 (b 23))) :: (q 24, zc G 0 (zI 36 (b 24))) :: rest) s H locs := hw
    have hw := hw.cellI 5 rfl (g := vI (aV A)) (fun j hj => cpy_hedge hj)
    have hw : zS G ((mo, zo 2 (mF q (f 1) (f 2) (f 3) (f 4) (f 5) (f 6) (f 7) (f 8) (f 14) (f 19))) :: (q 0, zc G 0 (zI 200 (b 0))) :: (q 9, zc G 0 (zI 46 (b 9))) :: (q 10, zc G 0 (zI 46 (b 10))) :: (q 11, zc G 0 (zI 46 (vI (aV A)))) :: (q 12, zc G 0 (zI 46 (vI (aV A)))) :: (q 13, zc G 0 (zI 368 (b 13))) :: (q 15, zc G 0 (zI 92 (b 15))) :: (q 16, zc G 3 (zI 2 (b 16))) :: (q 17, zc G 0 (zI 5 (b 17))) :: (q 18, zc G 0 (zI 24 (b 18))) :: (q 20, zc G 0 (zI 3 (b 20))) :: (q 21, zc G 0 (zI 3 (b 21))) :: (q 22, zc G 0 (zI 3 (b 22))) :: (q 23, zc G 0 (zI 36 (b 23))) :: (q 24, zc G 0 (zI 36 (b 24))) :: rest) s H locs := hw
    refine lv_iconst (v := (nI 1)) hx hb dX2_hungry_24 zk_1 ?_
    refine lv_istore_n (lv' := [(2, .int (nI 1)), (0, .ref mo), (1, .int (nI i))]) hx hb dX2_hungry_25 rfl hl (by decide) rfl (fun ls hl => ?_)
    have loop_26 : ∀ (fuel : Nat) (fu : Nat) (n : Nat) (v1 : Nat → Nat) (af1 : Nat → Int32), (Hw v1) → (n + fu = 61) → (v1 2 + fu < 64000) → (v1 1 = aV A 1) → (hungN i fu v1 n = hungN i 60 (aV A) 1) → (fu) < fuel → ∀ (H : Heap) (locs : List Loc) (ls : Array Slot), zS G ((mo, zo 2 (mF q (f 1) (f 2) (f 3) (f 4) (f 5) (f 6) (f 7) (f 8) (f 14) (f 19))) :: (q 0, zc G 0 (zI 200 (b 0))) :: (q 9, zc G 0 (zI 46 (b 9))) :: (q 10, zc G 0 (zI 46 (b 10))) :: (q 11, zc G 0 (zI 46 (vI (aV A)))) :: (q 12, zc G 0 (zI 46 (vI v1))) :: (q 13, zc G 0 (zI 368 (b 13))) :: (q 15, zc G 0 (zI 92 (b 15))) :: (q 16, zc G 3 (zI 2 (b 16))) :: (q 17, zc G 0 (zI 5 af1)) :: (q 18, zc G 0 (zI 24 (b 18))) :: (q 20, zc G 0 (zI 3 (b 20))) :: (q 21, zc G 0 (zI 3 (b 21))) :: (q 22, zc G 0 (zI 3 (b 22))) :: (q 23, zc G 0 (zI 36 (b 23))) :: (q 24, zc G 0 (zI 36 (b 24))) :: rest) s H locs → lv_has ls 3 [(0, .ref mo), (1, .int (nI i)), (2, .int (nI n))] → W p l e (zR 5 0 0) s m args below meth c H locs 0 0 Q (F0 m 26 ls []) := by
      intro fuel
      induction fuel with
      | zero => intro fu n v1 af1 hH1 hn hv2 hst heq hfuel; exact absurd hfuel (Nat.not_lt_zero _)
      | succ fuel_26 ih_26 =>
        intro fu n v1 af1 hH1 hn hv2 hst heq hfuel_26 H locs ls hw hl
        refine lv_iload_n hx hb dX2_hungry_26 rfl (lv_at hl 2 rfl) ?_
        refine lv_bipush (v := (nI 61)) hx hb dX2_hungry_27 zb_61 ?_
        refine zi_ge (tgt := 80) hx hb (by omega) (by decide) dX2_hungry_29 (by decide) (fun c_29 => ?_) (fun c_29 => ?_)
        · skip
          refine lv_iconst (v := -1) hx hb dX2_hungry_80 zk_m1 ?_
          exact hend _ _ _ _ _ _ _ ((bU (bU (bU b 11 (vI (aV A))) 12 (vI v1)) 17 af1), mf (f 1) (f 2) (f 3) (f 4) (f 5) (f 6) (f 7) (f 8) (f 14) (f 19)) hw ⟨(by unfold F_hungry; rw [ifP_t ⟨i, hi, rfl⟩, cl_nI (by omega), ← heq, show fu = 0 by omega]; rfl), ⟨⟨hT, hL⟩, hV0, rH_vI, ⟨hU, hUs⟩, hKp, ⟨hSi, hSg⟩, (fun t ht => tRel_of rfl rfl rfl rfl rfl (hTr t ht))⟩⟩ (by omega) (by omega) dX2_hungry_81
        · skip
          obtain ⟨fu, rfl⟩ : ∃ g, fu = g + 1 := ⟨fu - 1, by omega⟩
          refine lv_aload_n hx hb dX2_hungry_32 rfl (lv_at hl 0 rfl) ?_
          refine lv_aload_n hx hb dX2_hungry_33 rfl (lv_at hl 0 rfl) ?_
          refine z_get (v := .ref (q 12)) hC zf_X2_22_2 hw 0 rfl rfl dX2_hungry_34 ?_
          refine z_cv (z_runV (As := [.ref (q 12)]) (rest := []) hC zv_X2_203 (m_X2_passes G l mo q (f 1) (f 2) (f 3) (f 4) (f 5) (f 6) (f 7) (f 8) (f 14) (f 19) (q 12) v1 af1 hH1 (by omega) (zrem [0, 5, 9] _)) hw (hw.perm (z_cut (is := [0, 5, 9]) (cells := [(mo, zo 2 (mF q (f 1) (f 2) (f 3) (f 4) (f 5) (f 6) (f 7) (f 8) (f 14) (f 19))), (q 12, zc G 0 (zI 46 (vI v1))), (q 17, zc G 0 (zI 5 af1))]) rfl rfl)) 0 rfl rfl rfl rfl rfl (Nat.le_of_ble_eq_true rfl) hl.1 ⟨Nat.le_of_ble_eq_true rfl, Nat.le_of_ble_eq_true rfl⟩ ⟨(Nat.le_of_ble_eq_true rfl), (Nat.le_of_ble_eq_true rfl)⟩ dX2_hungry_37) hw (fun _ => z_pput (is := [0, 5, 9]) (cells := [(mo, zo 2 (mF q (f 1) (f 2) (f 3) (f 4) (f 5) (f 6) (f 7) (f 8) (f 14) (f 19))), (q 12, zc G 0 (zI 46 (vI v1))), (q 17, zc G 0 (zI 5 af1))]) (cells' := [(mo, zo 2 (mF q (f 1) (f 2) (f 3) (f 4) (f 5) (f 6) (f 7) (f 8) (f 14) (f 19))), (q 12, zc G 0 (zI 46 (vI (passN v1)))), (q 17, zc G 0 (zI 5 (ateI (ateN v1) (v1 1) af1)))]) rfl rfl rfl) (fun u H locs hp hw => ?_)
          have hw : zS G ((mo, zo 2 (mF q (f 1) (f 2) (f 3) (f 4) (f 5) (f 6) (f 7) (f 8) (f 14) (f 19))) :: (q 0, zc G 0 (zI 200 (b 0))) :: (q 9, zc G 0 (zI 46 (b 9))) :: (q 10, zc G 0 (zI 46 (b 10))) :: (q 11, zc G 0 (zI 46 (vI (aV A)))) :: (q 12, zc G 0 (zI 46 (vI (passN v1)))) :: (q 13, zc G 0 (zI 368 (b 13))) :: (q 15, zc G 0 (zI 92 (b 15))) :: (q 16, zc G 3 (zI 2 (b 16))) :: (q 17, zc G 0 (zI 5 (ateI (ateN v1) (v1 1) af1))) :: (q 18, zc G 0 (zI 24 (b 18))) :: (q 20, zc G 0 (zI 3 (b 20))) :: (q 21, zc G 0 (zI 3 (b 21))) :: (q 22, zc G 0 (zI 3 (b 22))) :: (q 23, zc G 0 (zI 36 (b 23))) :: (q 24, zc G 0 (zI 36 (b 24))) :: rest) s H locs := hw
          refine lv_aload_n hx hb dX2_hungry_40 rfl (lv_at hl 0 rfl) ?_
          have hHp := passN_Hw hH1 (by omega)
          refine z_get (v := .ref (q 17)) hC zf_X2_35_2 hw 0 rfl rfl dX2_hungry_41 ?_
          refine lv_iload_n hx hb dX2_hungry_44 rfl (lv_at hl 1 rfl) ?_
          refine z_iald (x := (optI (ateN v1 i))) hC hw 9 rfl (by omega) (by decide) (ateI_at _ (by omega)) dX2_hungry_45 ?_
          rcases hat : ateN v1 i with _ | ae
          · skip
            have hl : lv_has ls 3 [(0, .ref mo), (1, .int (nI i)), (2, .int (nI n))] := hl
            have hw : zS G ((mo, zo 2 (mF q (f 1) (f 2) (f 3) (f 4) (f 5) (f 6) (f 7) (f 8) (f 14) (f 19))) :: (q 0, zc G 0 (zI 200 (b 0))) :: (q 9, zc G 0 (zI 46 (b 9))) :: (q 10, zc G 0 (zI 46 (b 10))) :: (q 11, zc G 0 (zI 46 (vI (aV A)))) :: (q 12, zc G 0 (zI 46 (vI (passN v1)))) :: (q 13, zc G 0 (zI 368 (b 13))) :: (q 15, zc G 0 (zI 92 (b 15))) :: (q 16, zc G 3 (zI 2 (b 16))) :: (q 17, zc G 0 (zI 5 (ateI (ateN v1) (v1 1) af1))) :: (q 18, zc G 0 (zI 24 (b 18))) :: (q 20, zc G 0 (zI 3 (b 20))) :: (q 21, zc G 0 (zI 3 (b 21))) :: (q 22, zc G 0 (zI 3 (b 22))) :: (q 23, zc G 0 (zI 36 (b 23))) :: (q 24, zc G 0 (zI 36 (b 24))) :: rest) s H locs := hw
            refine lv_iconst (v := -1) hx hb dX2_hungry_46 zk_m1 ?_
            refine lv_icmp_eq (tgt := 74) hx hb dX2_hungry_47 (by decide) (fun _ => ?_) (fun h => absurd h (by decide))
            refine lv_iinc (v := (nI (n + 1))) (lv' := [(2, .int (nI (n + 1))), (0, .ref mo), (1, .int (nI i))]) hx hb dX2_hungry_74 hl (k := 2) rfl (zincn _ 1) (by decide) rfl (fun ls hl => ?_)
            refine lv_goto (tgt := 26) hx hb dX2_hungry_77 (by decide) ?_
            exact ih_26 fu (n + 1) (passN v1) (ateI (ateN v1) (v1 1) af1) hHp (by omega) (by rw [passN_2 hH1 (by omega)]; omega) ((passN_still hH1 (by omega) still_1).trans hst) (by rw [← heq]; exact (hungN_no (by rintro ⟨e9, he9, he8⟩; rw [hat] at he9; cases he9; try omega)).symm) (by omega) H locs ls hw (lv_sub hl [1, 2, 0] rfl)
          · skip
            have hae := ateN_le hH1 (by omega) hat
            have hpn := hHp.2.2.2.2.1 i (by omega)
            have hl : lv_has ls 3 [(0, .ref mo), (1, .int (nI i)), (2, .int (nI n))] := hl
            have hw : zS G ((mo, zo 2 (mF q (f 1) (f 2) (f 3) (f 4) (f 5) (f 6) (f 7) (f 8) (f 14) (f 19))) :: (q 0, zc G 0 (zI 200 (b 0))) :: (q 9, zc G 0 (zI 46 (b 9))) :: (q 10, zc G 0 (zI 46 (b 10))) :: (q 11, zc G 0 (zI 46 (vI (aV A)))) :: (q 12, zc G 0 (zI 46 (vI (passN v1)))) :: (q 13, zc G 0 (zI 368 (b 13))) :: (q 15, zc G 0 (zI 92 (b 15))) :: (q 16, zc G 3 (zI 2 (b 16))) :: (q 17, zc G 0 (zI 5 (ateI (ateN v1) (v1 1) af1))) :: (q 18, zc G 0 (zI 24 (b 18))) :: (q 20, zc G 0 (zI 3 (b 20))) :: (q 21, zc G 0 (zI 3 (b 21))) :: (q 22, zc G 0 (zI 3 (b 22))) :: (q 23, zc G 0 (zI 36 (b 23))) :: (q 24, zc G 0 (zI 36 (b 24))) :: rest) s H locs := hw
            refine lv_iconst (v := -1) hx hb dX2_hungry_46 zk_m1 ?_
            refine lv_icmp_eq (tgt := 74) hx hb dX2_hungry_47 (by decide) (fun h => absurd h (nI_nm1 (by omega))) (fun _ => ?_)
            refine lv_aload_n hx hb dX2_hungry_50 rfl (lv_at hl 0 rfl) ?_
            refine z_get (v := .ref (q 17)) hC zf_X2_35_2 hw 0 rfl rfl dX2_hungry_51 ?_
            refine lv_iload_n hx hb dX2_hungry_54 rfl (lv_at hl 1 rfl) ?_
            refine z_iald (x := (nI ae)) hC hw 9 rfl (by omega) (by decide) ((ateI_at _ (by omega)).trans (congrArg optI hat)) dX2_hungry_55 ?_
            refine lv_aload_n hx hb dX2_hungry_56 rfl (lv_at hl 0 rfl) ?_
            refine z_get (v := .ref (q 12)) hC zf_X2_22_2 hw 0 rfl rfl dX2_hungry_57 ?_
            refine lv_bipush (v := (nI 21)) hx hb dX2_hungry_60 zb_21 ?_
            refine lv_iconst (v := (nI 5)) hx hb dX2_hungry_62 zk_5 ?_
            refine lv_iload_n hx hb dX2_hungry_63 rfl (lv_at hl 1 rfl) ?_
            refine zn_imul hx hb dX2_hungry_64 ?_
            refine zn_iadd hx hb dX2_hungry_65 ?_
            refine lv_iconst (v := (nI 2)) hx hb dX2_hungry_66 zk_2 ?_
            refine zn_iadd hx hb dX2_hungry_67 ?_
            refine z_iald (x := (nI ((passN v1) (21 + 5 * i + 2)))) hC hw 5 rfl (by omega) (by decide) rfl dX2_hungry_68 ?_
            refine zi_ge (tgt := 74) hx hb (by omega) (by omega) dX2_hungry_69 (by decide) (fun c_69 => ?_) (fun c_69 => ?_)
            · skip
              refine lv_iinc (v := (nI (n + 1))) (lv' := [(2, .int (nI (n + 1))), (0, .ref mo), (1, .int (nI i))]) hx hb dX2_hungry_74 hl (k := 2) rfl (zincn _ 1) (by decide) rfl (fun ls hl => ?_)
              refine lv_goto (tgt := 26) hx hb dX2_hungry_77 (by decide) ?_
              exact ih_26 fu (n + 1) (passN v1) (ateI (ateN v1) (v1 1) af1) hHp (by omega) (by rw [passN_2 hH1 (by omega)]; omega) ((passN_still hH1 (by omega) still_1).trans hst) (by rw [← heq]; exact (hungN_no (by rintro ⟨e9, he9, he8⟩; rw [hat] at he9; cases he9; try omega)).symm) (by omega) H locs ls hw (lv_sub hl [1, 2, 0] rfl)
            · skip
              refine lv_iload_n hx hb dX2_hungry_72 rfl (lv_at hl 2 rfl) ?_
              exact hend _ _ _ _ _ _ _ ((bU (bU (bU b 11 (vI (aV A))) 12 (vI (passN v1))) 17 (ateI (ateN v1) (v1 1) af1)), mf (f 1) (f 2) (f 3) (f 4) (f 5) (f 6) (f 7) (f 8) (f 14) (f 19)) hw ⟨(by unfold F_hungry; rw [ifP_t ⟨i, hi, rfl⟩, cl_nI (by omega), ← heq, hungN_yes hat c_69]; rfl), ⟨⟨hT, hL⟩, hV0, rH_vI, ⟨hU, hUs⟩, hKp, ⟨hSi, hSg⟩, (fun t ht => tRel_of rfl rfl rfl rfl rfl (hTr t ht))⟩⟩ (by omega) (by omega) dX2_hungry_73
    exact loop_26 ((60) + 1) 60 1 (aV A) (b 17) hH (by omega) (by omega) rfl rfl (Nat.lt_succ_self _) H locs ls hw (lv_sub hl [1, 2, 0] rfl)
  · skip
    refine lv_bipush (v := (-2)) hx hb dX2_hungry_8 zb_m2 ?_
    exact hend _ _ _ _ _ _ _ ((bU b 11 (vI (aV A))), mf (f 1) (f 2) (f 3) (f 4) (f 5) (f 6) (f 7) (f 8) (f 14) (f 19)) hw ⟨(ifP_f c_5).symm, ⟨⟨hT, hL⟩, hV0, rH_vI, ⟨hU, hUs⟩, hKp, ⟨hSi, hSg⟩, (fun t ht => tRel_of rfl rfl rfl rfl rfl (hTr t ht))⟩⟩ (by omega) (by omega) dX2_hungry_10
set_option maxHeartbeats 4000000 in
theorem m_X2_lasts (G : zE) (l : Launch) (mo : Nat) (q : Nat → Nat) (A : AS) (b : Nat → Nat → Int32) (f : Nat → Int32) (hA : AOk A) (hM : MRel A b f) (x : Int32) (rest : va_W) : zMi G l yX2_lasts cX2_lasts 3 (some .int) 5 0 0 [.ref mo, .int x] ((mo, zo 2 (mF q (f 1) (f 2) (f 3) (f 4) (f 5) (f 6) (f 7) (f 8) (f 14) (f 19))) :: (q 0, zc G 0 (zI 200 (b 0))) :: (q 9, zc G 0 (zI 46 (b 9))) :: (q 10, zc G 0 (zI 46 (b 10))) :: (q 11, zc G 0 (zI 46 (b 11))) :: (q 12, zc G 0 (zI 46 (b 12))) :: (q 13, zc G 0 (zI 368 (b 13))) :: (q 15, zc G 0 (zI 92 (b 15))) :: (q 16, zc G 3 (zI 2 (b 16))) :: (q 17, zc G 0 (zI 5 (b 17))) :: (q 18, zc G 0 (zI 24 (b 18))) :: (q 20, zc G 0 (zI 3 (b 20))) :: (q 21, zc G 0 (zI 3 (b 21))) :: (q 22, zc G 0 (zI 3 (b 22))) :: (q 23, zc G 0 (zI 36 (b 23))) :: (q 24, zc G 0 (zI 36 (b 24))) :: rest) (fun (r : Int32) (u : MB) => r = F_lasts A x ∧ MRel A u.1 u.2) (fun (u : MB) => (mo, zo 2 (mF q (u.2 1) (u.2 2) (u.2 3) (u.2 4) (u.2 5) (u.2 6) (u.2 7) (u.2 8) (u.2 14) (u.2 19))) :: (q 0, zc G 0 (zI 200 (u.1 0))) :: (q 9, zc G 0 (zI 46 (u.1 9))) :: (q 10, zc G 0 (zI 46 (u.1 10))) :: (q 11, zc G 0 (zI 46 (u.1 11))) :: (q 12, zc G 0 (zI 46 (u.1 12))) :: (q 13, zc G 0 (zI 368 (u.1 13))) :: (q 15, zc G 0 (zI 92 (u.1 15))) :: (q 16, zc G 3 (zI 2 (u.1 16))) :: (q 17, zc G 0 (zI 5 (u.1 17))) :: (q 18, zc G 0 (zI 24 (u.1 18))) :: (q 20, zc G 0 (zI 3 (u.1 20))) :: (q 21, zc G 0 (zI 3 (u.1 21))) :: (q 22, zc G 0 (zI 3 (u.1 22))) :: (q 23, zc G 0 (zI 36 (u.1 23))) :: (q 24, zc G 0 (zI 36 (u.1 24))) :: rest) := by
  refine z_begI (by decide) (Nat.le_of_ble_eq_true rfl) (fun p e s m args below meth c ls Q hC hl hw hend => ?_)
  have hx := hC.hx
  have hb := hC.hb
  have hl : lv_has ls 3 [(0, .ref mo), (1, .int x)] := hl
  have hw : zS G ((mo, zo 2 (mF q (f 1) (f 2) (f 3) (f 4) (f 5) (f 6) (f 7) (f 8) (f 14) (f 19))) :: (q 0, zc G 0 (zI 200 (b 0))) :: (q 9, zc G 0 (zI 46 (b 9))) :: (q 10, zc G 0 (zI 46 (b 10))) :: (q 11, zc G 0 (zI 46 (b 11))) :: (q 12, zc G 0 (zI 46 (b 12))) :: (q 13, zc G 0 (zI 368 (b 13))) :: (q 15, zc G 0 (zI 92 (b 15))) :: (q 16, zc G 3 (zI 2 (b 16))) :: (q 17, zc G 0 (zI 5 (b 17))) :: (q 18, zc G 0 (zI 24 (b 18))) :: (q 20, zc G 0 (zI 3 (b 20))) :: (q 21, zc G 0 (zI 3 (b 21))) :: (q 22, zc G 0 (zI 3 (b 22))) :: (q 23, zc G 0 (zI 36 (b 23))) :: (q 24, zc G 0 (zI 36 (b 24))) :: rest) s s.heap [] := hw
  have hA9 := hA
  obtain ⟨⟨hT, hL⟩, hV0, hV, ⟨hU, hUs⟩, hKp, ⟨hSi, hSg⟩, hTr⟩ := hM
  obtain ⟨⟨hL2, hT2⟩, hB0, hBv, ⟨hU8, hUb⟩, hKb, ⟨hS6, hSb⟩, hTb⟩ := hA
  have hH : Hw (aV A) := hBv.1.1
  have hday := hBv.2.2
  have hw := hw.cellI 4 rfl (g := vI (aV A)) (fun j hj => by have := hV j hj; rwa [Nat.zero_add] at this)
  have hw : zS G ((mo, zo 2 (mF q (f 1) (f 2) (f 3) (f 4) (f 5) (f 6) (f 7) (f 8) (f 14) (f 19))) :: (q 0, zc G 0 (zI 200 (b 0))) :: (q 9, zc G 0 (zI 46 (b 9))) :: (q 10, zc G 0 (zI 46 (b 10))) :: (q 11, zc G 0 (zI 46 (vI (aV A)))) :: (q 12, zc G 0 (zI 46 (b 12))) :: (q 13, zc G 0 (zI 368 (b 13))) :: (q 15, zc G 0 (zI 92 (b 15))) :: (q 16, zc G 3 (zI 2 (b 16))) :: (q 17, zc G 0 (zI 5 (b 17))) :: (q 18, zc G 0 (zI 24 (b 18))) :: (q 20, zc G 0 (zI 3 (b 20))) :: (q 21, zc G 0 (zI 3 (b 21))) :: (q 22, zc G 0 (zI 3 (b 22))) :: (q 23, zc G 0 (zI 36 (b 23))) :: (q 24, zc G 0 (zI 36 (b 24))) :: rest) s s.heap [] := hw
  refine lv_aload_n hx hb dX2_lasts_0 rfl (lv_at hl 0 rfl) ?_
  refine lv_iload_n hx hb dX2_lasts_1 rfl (lv_at hl 1 rfl) ?_
  refine z_ci (z_runV (As := [.int x]) (rest := []) hC zv_X2_194 (m_X2_isSquirrel G l mo q (f 1) (f 2) (f 3) (f 4) (f 5) (f 6) (f 7) (f 8) (f 14) (f 19) x (aV A) (by first | assumption | (omega)) (zrem [0, 4] _)) hw (hw.perm (z_cut (is := [0, 4]) (cells := [(mo, zo 2 (mF q (f 1) (f 2) (f 3) (f 4) (f 5) (f 6) (f 7) (f 8) (f 14) (f 19))), (q 11, zc G 0 (zI 46 (vI (aV A))))]) rfl rfl)) 0 rfl rfl rfl rfl rfl (Nat.le_of_ble_eq_true rfl) hl.1 ⟨Nat.le_of_ble_eq_true rfl, Nat.le_of_ble_eq_true rfl⟩ ⟨(Nat.le_of_ble_eq_true rfl), (Nat.le_of_ble_eq_true rfl)⟩ dX2_lasts_2) hw (fun _ => z_keep (is := [0, 4]) (cs := [(mo, zo 2 (mF q (f 1) (f 2) (f 3) (f 4) (f 5) (f 6) (f 7) (f 8) (f 14) (f 19))), (q 11, zc G 0 (zI 46 (vI (aV A))))]) rfl rfl) (fun r u H locs hp hw => ?_)
  obtain rfl : r = bI (isP ((aV A) 1) x) := hp
  refine zb_ne (tgt := 11) hx hb dX2_lasts_5 (by decide) (fun c_5 => ?_) (fun c_5 => ?_)
  · skip
    obtain ⟨i, hi, rfl⟩ := c_5
    have hl : lv_has ls 3 [(0, .ref mo), (1, .int (nI i))] := hl
    have hp5 := hH.2.1
    refine lv_aload_n hx hb dX2_lasts_11 rfl (lv_at hl 0 rfl) ?_
    refine z_get (v := .ref (q 11)) hC zf_X2_19_2 hw 0 rfl rfl dX2_lasts_12 ?_
    refine lv_iconst (v := (nI 0)) hx hb dX2_lasts_15 zk_0 ?_
    refine lv_aload_n hx hb dX2_lasts_16 rfl (lv_at hl 0 rfl) ?_
    refine z_get (v := .ref (q 12)) hC zf_X2_22_2 hw 0 rfl rfl dX2_lasts_17 ?_
    refine lv_iconst (v := (nI 0)) hx hb dX2_lasts_20 zk_0 ?_
    refine z_cv (z_runS (As := [.ref (q 11), .int (nI 0), .ref (q 12), .int (nI 0)]) (rest := []) hC zs_X2_130 (m_X2_copies G l (q 11) (q 12) 0 0 46 46 (vI (aV A)) (b 12) (by omega) (by omega) (by decide) (by decide) (zrem [4, 5] _)) (hw.perm (z_cut (is := [4, 5]) (cells := [(q 11, zc G 0 (zI 46 (vI (aV A)))), (q 12, zc G 0 (zI 46 (b 12)))]) rfl rfl)) rfl rfl (Nat.le_of_ble_eq_true rfl) hl.1 ⟨Nat.le_of_ble_eq_true rfl, Nat.le_of_ble_eq_true rfl⟩ ⟨(Nat.le_of_ble_eq_true rfl), (Nat.le_of_ble_eq_true rfl)⟩ dX2_lasts_21) hw (fun _ => z_pput (is := [4, 5]) (cells := [(q 11, zc G 0 (zI 46 (vI (aV A)))), (q 12, zc G 0 (zI 46 (b 12)))]) (cells' := [(q 11, zc G 0 (zI 46 (vI (aV A)))), (q 12, zc G 0 (zI 46 (va_cpy (vI (aV A)) (b 12) 0 0 46)))]) rfl rfl rfl) (fun u H locs hp hw => ?_)
    have hw : zS G ((mo, zo 2 (mF q (f 1) (f 2) (f 3) (f 4) (f 5) (f 6) (f 7) (f 8) (f 14) (f 19))) :: (q 0, zc G 0 (zI 200 (b 0))) :: (q 9, zc G 0 (zI 46 (b 9))) :: (q 10, zc G 0 (zI 46 (b 10))) :: (q 11, zc G 0 (zI 46 (vI (aV A)))) :: (q 12, zc G 0 (zI 46 (va_cpy (vI (aV A)) (b 12) 0 0 46))) :: (q 13, zc G 0 (zI 368 (b 13))) :: (q 15, zc G 0 (zI 92 (b 15))) :: (q 16, zc G 3 (zI 2 (b 16))) :: (q 17, zc G 0 (zI 5 (b 17))) :: (q 18, zc G 0 (zI 24 (b 18))) :: (q 20, zc G 0 (zI 3 (b 20))) :: (q 21, zc G 0 (zI 3 (b 21))) :: (q 22, zc G 0 (zI 3 (b 22))) :: (q 23, zc G 0 (zI 36 (b 23))) :: (q 24, zc G 0 (zI 36 (b 24))) :: rest) s H locs := hw
    have hw := hw.cellI 5 rfl (g := vI (aV A)) (fun j hj => cpy_hedge hj)
    have hw : zS G ((mo, zo 2 (mF q (f 1) (f 2) (f 3) (f 4) (f 5) (f 6) (f 7) (f 8) (f 14) (f 19))) :: (q 0, zc G 0 (zI 200 (b 0))) :: (q 9, zc G 0 (zI 46 (b 9))) :: (q 10, zc G 0 (zI 46 (b 10))) :: (q 11, zc G 0 (zI 46 (vI (aV A)))) :: (q 12, zc G 0 (zI 46 (vI (aV A)))) :: (q 13, zc G 0 (zI 368 (b 13))) :: (q 15, zc G 0 (zI 92 (b 15))) :: (q 16, zc G 3 (zI 2 (b 16))) :: (q 17, zc G 0 (zI 5 (b 17))) :: (q 18, zc G 0 (zI 24 (b 18))) :: (q 20, zc G 0 (zI 3 (b 20))) :: (q 21, zc G 0 (zI 3 (b 21))) :: (q 22, zc G 0 (zI 3 (b 22))) :: (q 23, zc G 0 (zI 36 (b 23))) :: (q 24, zc G 0 (zI 36 (b 24))) :: rest) s H locs := hw
    refine lv_iconst (v := (nI 0)) hx hb dX2_lasts_24 zk_0 ?_
    refine lv_istore_n (lv' := [(2, .int (nI 0)), (0, .ref mo), (1, .int (nI i))]) hx hb dX2_lasts_25 rfl hl (by decide) rfl (fun ls hl => ?_)
    have loop_26 : ∀ (fuel : Nat) (fu : Nat) (n : Nat) (v1 : Nat → Nat) (af1 : Nat → Int32), (Hw v1) → (n + fu = 61) → (v1 2 + fu < 64000) → (lastN i fu v1 n = lastN i 61 (aV A) 0) → (fu) < fuel → ∀ (H : Heap) (locs : List Loc) (ls : Array Slot), zS G ((mo, zo 2 (mF q (f 1) (f 2) (f 3) (f 4) (f 5) (f 6) (f 7) (f 8) (f 14) (f 19))) :: (q 0, zc G 0 (zI 200 (b 0))) :: (q 9, zc G 0 (zI 46 (b 9))) :: (q 10, zc G 0 (zI 46 (b 10))) :: (q 11, zc G 0 (zI 46 (vI (aV A)))) :: (q 12, zc G 0 (zI 46 (vI v1))) :: (q 13, zc G 0 (zI 368 (b 13))) :: (q 15, zc G 0 (zI 92 (b 15))) :: (q 16, zc G 3 (zI 2 (b 16))) :: (q 17, zc G 0 (zI 5 af1)) :: (q 18, zc G 0 (zI 24 (b 18))) :: (q 20, zc G 0 (zI 3 (b 20))) :: (q 21, zc G 0 (zI 3 (b 21))) :: (q 22, zc G 0 (zI 3 (b 22))) :: (q 23, zc G 0 (zI 36 (b 23))) :: (q 24, zc G 0 (zI 36 (b 24))) :: rest) s H locs → lv_has ls 3 [(0, .ref mo), (1, .int (nI i)), (2, .int (nI n))] → W p l e (zR 5 0 0) s m args below meth c H locs 0 0 Q (F0 m 26 ls []) := by
      intro fuel
      induction fuel with
      | zero => intro fu n v1 af1 hH1 hn hv2 heq hfuel; exact absurd hfuel (Nat.not_lt_zero _)
      | succ fuel_26 ih_26 =>
        intro fu n v1 af1 hH1 hn hv2 heq hfuel_26 H locs ls hw hl
        refine lv_iload_n hx hb dX2_lasts_26 rfl (lv_at hl 2 rfl) ?_
        refine lv_bipush (v := (nI 61)) hx hb dX2_lasts_27 zb_61 ?_
        refine zi_ge (tgt := 59) hx hb (by omega) (by decide) dX2_lasts_29 (by decide) (fun c_29 => ?_) (fun c_29 => ?_)
        · skip
          refine lv_iconst (v := -1) hx hb dX2_lasts_59 zk_m1 ?_
          exact hend _ _ _ _ _ _ _ ((bU (bU (bU b 11 (vI (aV A))) 12 (vI v1)) 17 af1), mf (f 1) (f 2) (f 3) (f 4) (f 5) (f 6) (f 7) (f 8) (f 14) (f 19)) hw ⟨(by unfold F_lasts; rw [ifP_t ⟨i, hi, rfl⟩, cl_nI (by omega), ← heq, show fu = 0 by omega]; rfl), ⟨⟨hT, hL⟩, hV0, rH_vI, ⟨hU, hUs⟩, hKp, ⟨hSi, hSg⟩, (fun t ht => tRel_of rfl rfl rfl rfl rfl (hTr t ht))⟩⟩ (by omega) (by omega) dX2_lasts_60
        · skip
          obtain ⟨fu, rfl⟩ : ∃ g, fu = g + 1 := ⟨fu - 1, by omega⟩
          refine lv_aload_n hx hb dX2_lasts_32 rfl (lv_at hl 0 rfl) ?_
          refine z_get (v := .ref (q 12)) hC zf_X2_22_2 hw 0 rfl rfl dX2_lasts_33 ?_
          refine lv_iload_n hx hb dX2_lasts_36 rfl (lv_at hl 1 rfl) ?_
          refine z_ci (z_runS (As := [.ref (q 12), .int (nI i)]) (rest := []) hC zs_X2_174 (m_X2_isGone G l (q 12) v1 i hH1 (by omega) (zrem [5] _)) (hw.perm (z_cut (is := [5]) (cells := [(q 12, zc G 0 (zI 46 (vI v1)))]) rfl rfl)) rfl rfl (Nat.le_of_ble_eq_true rfl) hl.1 ⟨Nat.le_of_ble_eq_true rfl, Nat.le_of_ble_eq_true rfl⟩ ⟨(Nat.le_of_ble_eq_true rfl), (Nat.le_of_ble_eq_true rfl)⟩ dX2_lasts_37) hw (fun _ => z_keep (is := [5]) (cs := [(q 12, zc G 0 (zI 46 (vI v1)))]) rfl rfl) (fun r u H locs hp hw => ?_)
          obtain rfl : r = bI (goneN v1 i) := hp
          refine zb_eq (tgt := 45) hx hb dX2_lasts_40 (by decide) (fun c_40 => ?_) (fun c_40 => ?_)
          · skip
            refine lv_aload_n hx hb dX2_lasts_45 rfl (lv_at hl 0 rfl) ?_
            refine lv_aload_n hx hb dX2_lasts_46 rfl (lv_at hl 0 rfl) ?_
            refine z_get (v := .ref (q 12)) hC zf_X2_22_2 hw 0 rfl rfl dX2_lasts_47 ?_
            refine z_cv (z_runV (As := [.ref (q 12)]) (rest := []) hC zv_X2_203 (m_X2_passes G l mo q (f 1) (f 2) (f 3) (f 4) (f 5) (f 6) (f 7) (f 8) (f 14) (f 19) (q 12) v1 af1 hH1 (by omega) (zrem [0, 5, 9] _)) hw (hw.perm (z_cut (is := [0, 5, 9]) (cells := [(mo, zo 2 (mF q (f 1) (f 2) (f 3) (f 4) (f 5) (f 6) (f 7) (f 8) (f 14) (f 19))), (q 12, zc G 0 (zI 46 (vI v1))), (q 17, zc G 0 (zI 5 af1))]) rfl rfl)) 0 rfl rfl rfl rfl rfl (Nat.le_of_ble_eq_true rfl) hl.1 ⟨Nat.le_of_ble_eq_true rfl, Nat.le_of_ble_eq_true rfl⟩ ⟨(Nat.le_of_ble_eq_true rfl), (Nat.le_of_ble_eq_true rfl)⟩ dX2_lasts_50) hw (fun _ => z_pput (is := [0, 5, 9]) (cells := [(mo, zo 2 (mF q (f 1) (f 2) (f 3) (f 4) (f 5) (f 6) (f 7) (f 8) (f 14) (f 19))), (q 12, zc G 0 (zI 46 (vI v1))), (q 17, zc G 0 (zI 5 af1))]) (cells' := [(mo, zo 2 (mF q (f 1) (f 2) (f 3) (f 4) (f 5) (f 6) (f 7) (f 8) (f 14) (f 19))), (q 12, zc G 0 (zI 46 (vI (passN v1)))), (q 17, zc G 0 (zI 5 (ateI (ateN v1) (v1 1) af1)))]) rfl rfl rfl) (fun u H locs hp hw => ?_)
            have hw : zS G ((mo, zo 2 (mF q (f 1) (f 2) (f 3) (f 4) (f 5) (f 6) (f 7) (f 8) (f 14) (f 19))) :: (q 0, zc G 0 (zI 200 (b 0))) :: (q 9, zc G 0 (zI 46 (b 9))) :: (q 10, zc G 0 (zI 46 (b 10))) :: (q 11, zc G 0 (zI 46 (vI (aV A)))) :: (q 12, zc G 0 (zI 46 (vI (passN v1)))) :: (q 13, zc G 0 (zI 368 (b 13))) :: (q 15, zc G 0 (zI 92 (b 15))) :: (q 16, zc G 3 (zI 2 (b 16))) :: (q 17, zc G 0 (zI 5 (ateI (ateN v1) (v1 1) af1))) :: (q 18, zc G 0 (zI 24 (b 18))) :: (q 20, zc G 0 (zI 3 (b 20))) :: (q 21, zc G 0 (zI 3 (b 21))) :: (q 22, zc G 0 (zI 3 (b 22))) :: (q 23, zc G 0 (zI 36 (b 23))) :: (q 24, zc G 0 (zI 36 (b 24))) :: rest) s H locs := hw
            refine lv_iinc (v := (nI (n + 1))) (lv' := [(2, .int (nI (n + 1))), (0, .ref mo), (1, .int (nI i))]) hx hb dX2_lasts_53 hl (k := 2) rfl (zincn _ 1) (by decide) rfl (fun ls hl => ?_)
            refine lv_goto (tgt := 26) hx hb dX2_lasts_56 (by decide) ?_
            exact ih_26 fu (n + 1) (passN v1) (ateI (ateN v1) (v1 1) af1) (passN_Hw hH1 (by omega)) (by omega) (by rw [passN_2 hH1 (by omega)]; omega) (by rw [← heq]; exact (if_neg c_40).symm) (by omega) H locs ls hw (lv_sub hl [1, 2, 0] rfl)
          · skip
            refine lv_iload_n hx hb dX2_lasts_43 rfl (lv_at hl 2 rfl) ?_
            exact hend _ _ _ _ _ _ _ ((bU (bU (bU b 11 (vI (aV A))) 12 (vI v1)) 17 af1), mf (f 1) (f 2) (f 3) (f 4) (f 5) (f 6) (f 7) (f 8) (f 14) (f 19)) hw ⟨(by unfold F_lasts; rw [ifP_t ⟨i, hi, rfl⟩, cl_nI (by omega), ← heq, show lastN i (fu + 1) v1 n = some n from if_pos c_40]; rfl), ⟨⟨hT, hL⟩, hV0, rH_vI, ⟨hU, hUs⟩, hKp, ⟨hSi, hSg⟩, (fun t ht => tRel_of rfl rfl rfl rfl rfl (hTr t ht))⟩⟩ (by omega) (by omega) dX2_lasts_44
    exact loop_26 ((61) + 1) 61 0 (aV A) (b 17) hH (by omega) (by omega) rfl (Nat.lt_succ_self _) H locs ls hw (lv_sub hl [1, 2, 0] rfl)
  · skip
    refine lv_bipush (v := (-2)) hx hb dX2_lasts_8 zb_m2 ?_
    exact hend _ _ _ _ _ _ _ ((bU b 11 (vI (aV A))), mf (f 1) (f 2) (f 3) (f 4) (f 5) (f 6) (f 7) (f 8) (f 14) (f 19)) hw ⟨(ifP_f c_5).symm, ⟨⟨hT, hL⟩, hV0, rH_vI, ⟨hU, hUs⟩, hKp, ⟨hSi, hSg⟩, (fun t ht => tRel_of rfl rfl rfl rfl rfl (hTr t ht))⟩⟩ (by omega) (by omega) dX2_lasts_10
theorem aliveN_lt {v : Nat → Nat} (hH : Hw v) : aliveN v < 2147483648 := by
  have h1 : aliveN v < 2 ^ v 1 := orB_lt _ _
  have h2 : (2 : Nat) ^ v 1 ≤ 2 ^ 5 := Nat.pow_le_pow_right (by decide) hH.2.1
  omega
theorem fullN_lt {v : Nat → Nat} (hH : Hw v) : fullN v < 512 := by
  have h1 : fullN v < 2 ^ v 0 := orB_lt _ _
  have h2 : (2 : Nat) ^ v 0 ≤ 2 ^ 9 := Nat.pow_le_pow_right (by decide) hH.1
  omega
theorem liveN_le (v : Nat → Nat) (n : Nat) : liveN v n ≤ 9 := onesN_le _ _
theorem zs_X2_210 : zSs RX2 210 yX2_alive cX2_alive 3 (some .int) 1 := ⟨lw_S q2073 q2074 q53 q2075, ⟨by decide +kernel, by decide +kernel⟩, by decide +kernel⟩
theorem zs_X2_213 : zSs RX2 213 yX2_ones cX2_ones 3 (some .int) 1 := ⟨lw_S q2076 q2077 q53 q2078, ⟨by decide +kernel, by decide +kernel⟩, by decide +kernel⟩
set_option maxHeartbeats 4000000 in
theorem m_X2_live (G : zE) (l : Launch) (mo : Nat) (q : Nat → Nat) (A : AS) (b : Nat → Nat → Int32) (f : Nat → Int32) (hA : AOk A) (hM : MRel A b f) (x : Int32) (rest : va_W) : zMi G l yX2_live cX2_live 2 (some .int) 6 0 0 [.ref mo, .int x] ((mo, zo 2 (mF q (f 1) (f 2) (f 3) (f 4) (f 5) (f 6) (f 7) (f 8) (f 14) (f 19))) :: (q 0, zc G 0 (zI 200 (b 0))) :: (q 9, zc G 0 (zI 46 (b 9))) :: (q 10, zc G 0 (zI 46 (b 10))) :: (q 11, zc G 0 (zI 46 (b 11))) :: (q 12, zc G 0 (zI 46 (b 12))) :: (q 13, zc G 0 (zI 368 (b 13))) :: (q 15, zc G 0 (zI 92 (b 15))) :: (q 16, zc G 3 (zI 2 (b 16))) :: (q 17, zc G 0 (zI 5 (b 17))) :: (q 18, zc G 0 (zI 24 (b 18))) :: (q 20, zc G 0 (zI 3 (b 20))) :: (q 21, zc G 0 (zI 3 (b 21))) :: (q 22, zc G 0 (zI 3 (b 22))) :: (q 23, zc G 0 (zI 36 (b 23))) :: (q 24, zc G 0 (zI 36 (b 24))) :: rest) (fun (r : Int32) (u : MB) => r = F_live A x ∧ MRel A u.1 u.2) (fun (u : MB) => (mo, zo 2 (mF q (u.2 1) (u.2 2) (u.2 3) (u.2 4) (u.2 5) (u.2 6) (u.2 7) (u.2 8) (u.2 14) (u.2 19))) :: (q 0, zc G 0 (zI 200 (u.1 0))) :: (q 9, zc G 0 (zI 46 (u.1 9))) :: (q 10, zc G 0 (zI 46 (u.1 10))) :: (q 11, zc G 0 (zI 46 (u.1 11))) :: (q 12, zc G 0 (zI 46 (u.1 12))) :: (q 13, zc G 0 (zI 368 (u.1 13))) :: (q 15, zc G 0 (zI 92 (u.1 15))) :: (q 16, zc G 3 (zI 2 (u.1 16))) :: (q 17, zc G 0 (zI 5 (u.1 17))) :: (q 18, zc G 0 (zI 24 (u.1 18))) :: (q 20, zc G 0 (zI 3 (u.1 20))) :: (q 21, zc G 0 (zI 3 (u.1 21))) :: (q 22, zc G 0 (zI 3 (u.1 22))) :: (q 23, zc G 0 (zI 36 (u.1 23))) :: (q 24, zc G 0 (zI 36 (u.1 24))) :: rest) := by
  refine z_begI (by decide) (Nat.le_of_ble_eq_true rfl) (fun p e s m args below meth c ls Q hC hl hw hend => ?_)
  have hx := hC.hx
  have hb := hC.hb
  have hl : lv_has ls 2 [(0, .ref mo), (1, .int x)] := hl
  have hw : zS G ((mo, zo 2 (mF q (f 1) (f 2) (f 3) (f 4) (f 5) (f 6) (f 7) (f 8) (f 14) (f 19))) :: (q 0, zc G 0 (zI 200 (b 0))) :: (q 9, zc G 0 (zI 46 (b 9))) :: (q 10, zc G 0 (zI 46 (b 10))) :: (q 11, zc G 0 (zI 46 (b 11))) :: (q 12, zc G 0 (zI 46 (b 12))) :: (q 13, zc G 0 (zI 368 (b 13))) :: (q 15, zc G 0 (zI 92 (b 15))) :: (q 16, zc G 3 (zI 2 (b 16))) :: (q 17, zc G 0 (zI 5 (b 17))) :: (q 18, zc G 0 (zI 24 (b 18))) :: (q 20, zc G 0 (zI 3 (b 20))) :: (q 21, zc G 0 (zI 3 (b 21))) :: (q 22, zc G 0 (zI 3 (b 22))) :: (q 23, zc G 0 (zI 36 (b 23))) :: (q 24, zc G 0 (zI 36 (b 24))) :: rest) s s.heap [] := hw
  have hA9 := hA
  obtain ⟨⟨hT, hL⟩, hV0, hV, ⟨hU, hUs⟩, hKp, ⟨hSi, hSg⟩, hTr⟩ := hM
  obtain ⟨⟨hL2, hT2⟩, hB0, hBv, ⟨hU8, hUb⟩, hKb, ⟨hS6, hSb⟩, hTb⟩ := hA
  have hH : Hw (aV A) := hBv.1.1
  have hday := hBv.2.2
  have hw := hw.cellI 4 rfl (g := vI (aV A)) (fun j hj => by have := hV j hj; rwa [Nat.zero_add] at this)
  have hw : zS G ((mo, zo 2 (mF q (f 1) (f 2) (f 3) (f 4) (f 5) (f 6) (f 7) (f 8) (f 14) (f 19))) :: (q 0, zc G 0 (zI 200 (b 0))) :: (q 9, zc G 0 (zI 46 (b 9))) :: (q 10, zc G 0 (zI 46 (b 10))) :: (q 11, zc G 0 (zI 46 (vI (aV A)))) :: (q 12, zc G 0 (zI 46 (b 12))) :: (q 13, zc G 0 (zI 368 (b 13))) :: (q 15, zc G 0 (zI 92 (b 15))) :: (q 16, zc G 3 (zI 2 (b 16))) :: (q 17, zc G 0 (zI 5 (b 17))) :: (q 18, zc G 0 (zI 24 (b 18))) :: (q 20, zc G 0 (zI 3 (b 20))) :: (q 21, zc G 0 (zI 3 (b 21))) :: (q 22, zc G 0 (zI 3 (b 22))) :: (q 23, zc G 0 (zI 36 (b 23))) :: (q 24, zc G 0 (zI 36 (b 24))) :: rest) s s.heap [] := hw
  refine lv_iload_n hx hb dX2_live_0 rfl (lv_at hl 1 rfl) ?_
  refine lv_iconst (v := (nI 0)) hx hb dX2_live_1 zk_0 ?_
  refine lv_bipush (v := (nI 60)) hx hb dX2_live_2 zb_60 ?_
  refine z_ci (z_runS (As := [.int x, .int (nI 0), .int (nI 60)]) (rest := []) hC zs_X2_59 (m_X2_in_n G l x 0 60 (by decide) (by decide) _) hw rfl rfl (Nat.le_of_ble_eq_true rfl) hl.1 ⟨Nat.le_of_ble_eq_true rfl, Nat.le_of_ble_eq_true rfl⟩ ⟨(Nat.le_of_ble_eq_true rfl), (Nat.le_of_ble_eq_true rfl)⟩ dX2_live_4) hw (fun _ => List.Perm.refl _) (fun r u H locs hp hw => ?_)
  obtain rfl : r = bI (inR x 0 60) := hp
  refine zb_ne (tgt := 13) hx hb dX2_live_7 (by decide) (fun c_7 => ?_) (fun c_7 => ?_)
  · skip
    obtain ⟨k, hk1, hk2, rfl⟩ := c_7
    have hl : lv_has ls 2 [(0, .ref mo), (1, .int (nI k))] := hl
    have hdk := daysN_inv hH k (by omega)
    refine lv_aload_n hx hb dX2_live_13 rfl (lv_at hl 0 rfl) ?_
    refine z_get (v := .ref (q 11)) hC zf_X2_19_2 hw 0 rfl rfl dX2_live_14 ?_
    refine lv_iconst (v := (nI 0)) hx hb dX2_live_17 zk_0 ?_
    refine lv_aload_n hx hb dX2_live_18 rfl (lv_at hl 0 rfl) ?_
    refine z_get (v := .ref (q 12)) hC zf_X2_22_2 hw 0 rfl rfl dX2_live_19 ?_
    refine lv_iconst (v := (nI 0)) hx hb dX2_live_22 zk_0 ?_
    refine z_cv (z_runS (As := [.ref (q 11), .int (nI 0), .ref (q 12), .int (nI 0)]) (rest := []) hC zs_X2_130 (m_X2_copies G l (q 11) (q 12) 0 0 46 46 (vI (aV A)) (b 12) (by omega) (by omega) (by decide) (by decide) (zrem [4, 5] _)) (hw.perm (z_cut (is := [4, 5]) (cells := [(q 11, zc G 0 (zI 46 (vI (aV A)))), (q 12, zc G 0 (zI 46 (b 12)))]) rfl rfl)) rfl rfl (Nat.le_of_ble_eq_true rfl) hl.1 ⟨Nat.le_of_ble_eq_true rfl, Nat.le_of_ble_eq_true rfl⟩ ⟨(Nat.le_of_ble_eq_true rfl), (Nat.le_of_ble_eq_true rfl)⟩ dX2_live_23) hw (fun _ => z_pput (is := [4, 5]) (cells := [(q 11, zc G 0 (zI 46 (vI (aV A)))), (q 12, zc G 0 (zI 46 (b 12)))]) (cells' := [(q 11, zc G 0 (zI 46 (vI (aV A)))), (q 12, zc G 0 (zI 46 (va_cpy (vI (aV A)) (b 12) 0 0 46)))]) rfl rfl rfl) (fun u H locs hp hw => ?_)
    have hw : zS G ((mo, zo 2 (mF q (f 1) (f 2) (f 3) (f 4) (f 5) (f 6) (f 7) (f 8) (f 14) (f 19))) :: (q 0, zc G 0 (zI 200 (b 0))) :: (q 9, zc G 0 (zI 46 (b 9))) :: (q 10, zc G 0 (zI 46 (b 10))) :: (q 11, zc G 0 (zI 46 (vI (aV A)))) :: (q 12, zc G 0 (zI 46 (va_cpy (vI (aV A)) (b 12) 0 0 46))) :: (q 13, zc G 0 (zI 368 (b 13))) :: (q 15, zc G 0 (zI 92 (b 15))) :: (q 16, zc G 3 (zI 2 (b 16))) :: (q 17, zc G 0 (zI 5 (b 17))) :: (q 18, zc G 0 (zI 24 (b 18))) :: (q 20, zc G 0 (zI 3 (b 20))) :: (q 21, zc G 0 (zI 3 (b 21))) :: (q 22, zc G 0 (zI 3 (b 22))) :: (q 23, zc G 0 (zI 36 (b 23))) :: (q 24, zc G 0 (zI 36 (b 24))) :: rest) s H locs := hw
    have hw := hw.cellI 5 rfl (g := vI (aV A)) (fun j hj => cpy_hedge hj)
    have hw : zS G ((mo, zo 2 (mF q (f 1) (f 2) (f 3) (f 4) (f 5) (f 6) (f 7) (f 8) (f 14) (f 19))) :: (q 0, zc G 0 (zI 200 (b 0))) :: (q 9, zc G 0 (zI 46 (b 9))) :: (q 10, zc G 0 (zI 46 (b 10))) :: (q 11, zc G 0 (zI 46 (vI (aV A)))) :: (q 12, zc G 0 (zI 46 (vI (aV A)))) :: (q 13, zc G 0 (zI 368 (b 13))) :: (q 15, zc G 0 (zI 92 (b 15))) :: (q 16, zc G 3 (zI 2 (b 16))) :: (q 17, zc G 0 (zI 5 (b 17))) :: (q 18, zc G 0 (zI 24 (b 18))) :: (q 20, zc G 0 (zI 3 (b 20))) :: (q 21, zc G 0 (zI 3 (b 21))) :: (q 22, zc G 0 (zI 3 (b 22))) :: (q 23, zc G 0 (zI 36 (b 23))) :: (q 24, zc G 0 (zI 36 (b 24))) :: rest) s H locs := hw
    refine lv_aload_n hx hb dX2_live_26 rfl (lv_at hl 0 rfl) ?_
    refine lv_iload_n hx hb dX2_live_27 rfl (lv_at hl 1 rfl) ?_
    refine z_cv (z_runV (As := [.int (nI k)]) (rest := []) hC zv_X2_207 (m_X2_goesOn G l mo q (f 1) (f 2) (f 3) (f 4) (f 5) (f 6) (f 7) (f 8) (f 14) (f 19) k (aV A) hH (b 17) (by omega) (by omega) (zrem [0, 5, 9] _)) hw (hw.perm (z_cut (is := [0, 5, 9]) (cells := [(mo, zo 2 (mF q (f 1) (f 2) (f 3) (f 4) (f 5) (f 6) (f 7) (f 8) (f 14) (f 19))), (q 12, zc G 0 (zI 46 (vI (aV A)))), (q 17, zc G 0 (zI 5 (b 17)))]) rfl rfl)) 0 rfl rfl rfl rfl rfl (Nat.le_of_ble_eq_true rfl) hl.1 ⟨Nat.le_of_ble_eq_true rfl, Nat.le_of_ble_eq_true rfl⟩ ⟨(Nat.le_of_ble_eq_true rfl), (Nat.le_of_ble_eq_true rfl)⟩ dX2_live_28) hw (fun u => z_pput (is := [0, 5, 9]) (cells := [(mo, zo 2 (mF q (f 1) (f 2) (f 3) (f 4) (f 5) (f 6) (f 7) (f 8) (f 14) (f 19))), (q 12, zc G 0 (zI 46 (vI (aV A)))), (q 17, zc G 0 (zI 5 (b 17)))]) (cells' := [(mo, zo 2 (mF q (f 1) (f 2) (f 3) (f 4) (f 5) (f 6) (f 7) (f 8) (f 14) (f 19))), (q 12, zc G 0 (zI 46 (vI (daysN k (aV A))))), (q 17, zc G 0 (zI 5 u))]) rfl rfl rfl) (fun u H locs hp hw => ?_)
    obtain ⟨af1_1, rfl⟩ : ∃ z, z = u := ⟨_, rfl⟩
    have hw : zS G ((mo, zo 2 (mF q (f 1) (f 2) (f 3) (f 4) (f 5) (f 6) (f 7) (f 8) (f 14) (f 19))) :: (q 0, zc G 0 (zI 200 (b 0))) :: (q 9, zc G 0 (zI 46 (b 9))) :: (q 10, zc G 0 (zI 46 (b 10))) :: (q 11, zc G 0 (zI 46 (vI (aV A)))) :: (q 12, zc G 0 (zI 46 (vI (daysN k (aV A))))) :: (q 13, zc G 0 (zI 368 (b 13))) :: (q 15, zc G 0 (zI 92 (b 15))) :: (q 16, zc G 3 (zI 2 (b 16))) :: (q 17, zc G 0 (zI 5 af1_1)) :: (q 18, zc G 0 (zI 24 (b 18))) :: (q 20, zc G 0 (zI 3 (b 20))) :: (q 21, zc G 0 (zI 3 (b 21))) :: (q 22, zc G 0 (zI 3 (b 22))) :: (q 23, zc G 0 (zI 36 (b 23))) :: (q 24, zc G 0 (zI 36 (b 24))) :: rest) s H locs := hw
    refine lv_aload_n hx hb dX2_live_31 rfl (lv_at hl 0 rfl) ?_
    refine z_get (v := .ref (q 12)) hC zf_X2_22_2 hw 0 rfl rfl dX2_live_32 ?_
    refine z_ci (z_runS (As := [.ref (q 12)]) (rest := []) hC zs_X2_210 (m_X2_alive G l (q 12) (daysN k (aV A)) hdk.1 (zrem [5] _)) (hw.perm (z_cut (is := [5]) (cells := [(q 12, zc G 0 (zI 46 (vI (daysN k (aV A)))))]) rfl rfl)) rfl rfl (Nat.le_of_ble_eq_true rfl) hl.1 ⟨Nat.le_of_ble_eq_true rfl, Nat.le_of_ble_eq_true rfl⟩ ⟨(Nat.le_of_ble_eq_true rfl), (Nat.le_of_ble_eq_true rfl)⟩ dX2_live_35) hw (fun _ => z_keep (is := [5]) (cs := [(q 12, zc G 0 (zI 46 (vI (daysN k (aV A)))))]) rfl rfl) (fun r u H locs hp hw => ?_)
    obtain rfl : r = nI (aliveN (daysN k (aV A))) := hp
    refine z_ci (z_runS (As := [.int (nI (aliveN (daysN k (aV A))))]) (rest := []) hC zs_X2_213 (m_X2_ones G l (aliveN (daysN k (aV A))) (aliveN_lt hdk.1) _) hw rfl rfl (Nat.le_of_ble_eq_true rfl) hl.1 ⟨Nat.le_of_ble_eq_true rfl, Nat.le_of_ble_eq_true rfl⟩ ⟨(Nat.le_of_ble_eq_true rfl), (Nat.le_of_ble_eq_true rfl)⟩ dX2_live_38) hw (fun _ => List.Perm.refl _) (fun r u H locs hp hw => ?_)
    obtain rfl : r = nI (onesN (aliveN (daysN k (aV A))) 9) := hp
    exact hend _ _ _ _ _ _ _ ((bU (bU (bU b 11 (vI (aV A))) 12 (vI (daysN k (aV A)))) 17 af1_1), mf (f 1) (f 2) (f 3) (f 4) (f 5) (f 6) (f 7) (f 8) (f 14) (f 19)) hw ⟨(by unfold F_live; rw [ifP_t ⟨k, hk1, hk2, rfl⟩, cl_nI (by omega)]; rfl), ⟨⟨hT, hL⟩, hV0, rH_vI, ⟨hU, hUs⟩, hKp, ⟨hSi, hSg⟩, (fun t ht => tRel_of rfl rfl rfl rfl rfl (hTr t ht))⟩⟩ (by omega) (by omega) dX2_live_41
  · skip
    refine lv_bipush (v := (-3)) hx hb dX2_live_10 zb_m3 ?_
    exact hend _ _ _ _ _ _ _ ((bU b 11 (vI (aV A))), mf (f 1) (f 2) (f 3) (f 4) (f 5) (f 6) (f 7) (f 8) (f 14) (f 19)) hw ⟨(ifP_f c_7).symm, ⟨⟨hT, hL⟩, hV0, rH_vI, ⟨hU, hUs⟩, hKp, ⟨hSi, hSg⟩, (fun t ht => tRel_of rfl rfl rfl rfl rfl (hTr t ht))⟩⟩ (by omega) (by omega) dX2_live_12
set_option maxHeartbeats 4000000 in
theorem m_X2_isNear (G : zE) (l : Launch) (x : Int32) (rest : va_W) : zMi G l yX2_isNear cX2_isNear 1 (some .boolean) 1 0 0 [.int x] (rest) (fun (r : Int32) (_ : Unit) => r = bI (inR x 1 20)) (fun (_ : Unit) => rest) := by
  refine z_begZ (by decide) (Nat.le_of_ble_eq_true rfl) (fun p e s m args below meth c ls Q hC hl hw hend => ?_)
  have hx := hC.hx
  have hb := hC.hb
  have hl : lv_has ls 1 [(0, .int x)] := hl
  refine lv_iload_n hx hb dX2_isNear_0 rfl (lv_at hl 0 rfl) ?_
  refine lv_iconst (v := (nI 1)) hx hb dX2_isNear_1 zk_1 ?_
  refine lv_bipush (v := (nI 20)) hx hb dX2_isNear_2 zb_20 ?_
  refine z_ci (z_runS (As := [.int x, .int (nI 1), .int (nI 20)]) (rest := []) hC zs_X2_59 (m_X2_in_n G l x 1 20 (by decide) (by decide) _) hw rfl rfl (Nat.le_of_ble_eq_true rfl) hl.1 ⟨Nat.le_of_ble_eq_true rfl, Nat.le_of_ble_eq_true rfl⟩ ⟨(Nat.le_of_ble_eq_true rfl), (Nat.le_of_ble_eq_true rfl)⟩ dX2_isNear_4) hw (fun _ => List.Perm.refl _) (fun r u H locs hp hw => ?_)
  obtain rfl : r = bI (inR x 1 20) := hp
  exact hend _ _ _ _ _ _ _ () (bI_nar _) hw rfl (Nat.le_of_ble_eq_true rfl) (Nat.le_of_ble_eq_true rfl) dX2_isNear_7
theorem enN_stop {v : Nat → Nat} {t n f more : Nat} (h : ¬ v (3 + 2 * t + 1) + more < 100) : enN v t n f more = none := by
  cases f with
  | zero => rfl
  | succ f => exact if_neg h
theorem zs_X2_216 : zSs RX2 216 yX2_isNear cX2_isNear 1 (some .boolean) 1 := ⟨lw_S q2083 q2084 q53 q2085, ⟨by decide +kernel, by decide +kernel⟩, by decide +kernel⟩
set_option maxHeartbeats 4000000 in
theorem m_X2_enough (G : zE) (l : Launch) (mo : Nat) (q : Nat → Nat) (A : AS) (b : Nat → Nat → Int32) (f : Nat → Int32) (hA : AOk A) (hM : MRel A b f) (x : Int32) (y : Int32) (rest : va_W) : zMi G l yX2_enough cX2_enough 5 (some .int) 6 0 0 [.ref mo, .int x, .int y] ((mo, zo 2 (mF q (f 1) (f 2) (f 3) (f 4) (f 5) (f 6) (f 7) (f 8) (f 14) (f 19))) :: (q 0, zc G 0 (zI 200 (b 0))) :: (q 9, zc G 0 (zI 46 (b 9))) :: (q 10, zc G 0 (zI 46 (b 10))) :: (q 11, zc G 0 (zI 46 (b 11))) :: (q 12, zc G 0 (zI 46 (b 12))) :: (q 13, zc G 0 (zI 368 (b 13))) :: (q 15, zc G 0 (zI 92 (b 15))) :: (q 16, zc G 3 (zI 2 (b 16))) :: (q 17, zc G 0 (zI 5 (b 17))) :: (q 18, zc G 0 (zI 24 (b 18))) :: (q 20, zc G 0 (zI 3 (b 20))) :: (q 21, zc G 0 (zI 3 (b 21))) :: (q 22, zc G 0 (zI 3 (b 22))) :: (q 23, zc G 0 (zI 36 (b 23))) :: (q 24, zc G 0 (zI 36 (b 24))) :: rest) (fun (r : Int32) (u : MB) => r = F_enough A x y ∧ MRel A u.1 u.2) (fun (u : MB) => (mo, zo 2 (mF q (u.2 1) (u.2 2) (u.2 3) (u.2 4) (u.2 5) (u.2 6) (u.2 7) (u.2 8) (u.2 14) (u.2 19))) :: (q 0, zc G 0 (zI 200 (u.1 0))) :: (q 9, zc G 0 (zI 46 (u.1 9))) :: (q 10, zc G 0 (zI 46 (u.1 10))) :: (q 11, zc G 0 (zI 46 (u.1 11))) :: (q 12, zc G 0 (zI 46 (u.1 12))) :: (q 13, zc G 0 (zI 368 (u.1 13))) :: (q 15, zc G 0 (zI 92 (u.1 15))) :: (q 16, zc G 3 (zI 2 (u.1 16))) :: (q 17, zc G 0 (zI 5 (u.1 17))) :: (q 18, zc G 0 (zI 24 (u.1 18))) :: (q 20, zc G 0 (zI 3 (u.1 20))) :: (q 21, zc G 0 (zI 3 (u.1 21))) :: (q 22, zc G 0 (zI 3 (u.1 22))) :: (q 23, zc G 0 (zI 36 (u.1 23))) :: (q 24, zc G 0 (zI 36 (u.1 24))) :: rest) := by
  refine z_begI (by decide) (Nat.le_of_ble_eq_true rfl) (fun p e s m args below meth c ls Q hC hl hw hend => ?_)
  have hx := hC.hx
  have hb := hC.hb
  have hl : lv_has ls 5 [(0, .ref mo), (1, .int x), (2, .int y)] := hl
  have hw : zS G ((mo, zo 2 (mF q (f 1) (f 2) (f 3) (f 4) (f 5) (f 6) (f 7) (f 8) (f 14) (f 19))) :: (q 0, zc G 0 (zI 200 (b 0))) :: (q 9, zc G 0 (zI 46 (b 9))) :: (q 10, zc G 0 (zI 46 (b 10))) :: (q 11, zc G 0 (zI 46 (b 11))) :: (q 12, zc G 0 (zI 46 (b 12))) :: (q 13, zc G 0 (zI 368 (b 13))) :: (q 15, zc G 0 (zI 92 (b 15))) :: (q 16, zc G 3 (zI 2 (b 16))) :: (q 17, zc G 0 (zI 5 (b 17))) :: (q 18, zc G 0 (zI 24 (b 18))) :: (q 20, zc G 0 (zI 3 (b 20))) :: (q 21, zc G 0 (zI 3 (b 21))) :: (q 22, zc G 0 (zI 3 (b 22))) :: (q 23, zc G 0 (zI 36 (b 23))) :: (q 24, zc G 0 (zI 36 (b 24))) :: rest) s s.heap [] := hw
  have hA9 := hA
  obtain ⟨⟨hT, hL⟩, hV0, hV, ⟨hU, hUs⟩, hKp, ⟨hSi, hSg⟩, hTr⟩ := hM
  obtain ⟨⟨hL2, hT2⟩, hB0, hBv, ⟨hU8, hUb⟩, hKb, ⟨hS6, hSb⟩, hTb⟩ := hA
  have hH : Hw (aV A) := hBv.1.1
  have hday := hBv.2.2
  have hw := hw.cellI 4 rfl (g := vI (aV A)) (fun j hj => by have := hV j hj; rwa [Nat.zero_add] at this)
  have hw : zS G ((mo, zo 2 (mF q (f 1) (f 2) (f 3) (f 4) (f 5) (f 6) (f 7) (f 8) (f 14) (f 19))) :: (q 0, zc G 0 (zI 200 (b 0))) :: (q 9, zc G 0 (zI 46 (b 9))) :: (q 10, zc G 0 (zI 46 (b 10))) :: (q 11, zc G 0 (zI 46 (vI (aV A)))) :: (q 12, zc G 0 (zI 46 (b 12))) :: (q 13, zc G 0 (zI 368 (b 13))) :: (q 15, zc G 0 (zI 92 (b 15))) :: (q 16, zc G 3 (zI 2 (b 16))) :: (q 17, zc G 0 (zI 5 (b 17))) :: (q 18, zc G 0 (zI 24 (b 18))) :: (q 20, zc G 0 (zI 3 (b 20))) :: (q 21, zc G 0 (zI 3 (b 21))) :: (q 22, zc G 0 (zI 3 (b 22))) :: (q 23, zc G 0 (zI 36 (b 23))) :: (q 24, zc G 0 (zI 36 (b 24))) :: rest) s s.heap [] := hw
  refine lv_aload_n hx hb dX2_enough_0 rfl (lv_at hl 0 rfl) ?_
  refine lv_iload_n hx hb dX2_enough_1 rfl (lv_at hl 1 rfl) ?_
  refine z_ci (z_runV (As := [.int x]) (rest := []) hC zv_X2_188 (m_X2_isPit G l mo q (f 1) (f 2) (f 3) (f 4) (f 5) (f 6) (f 7) (f 8) (f 14) (f 19) x (aV A) (by first | assumption | (omega)) (zrem [0, 4] _)) hw (hw.perm (z_cut (is := [0, 4]) (cells := [(mo, zo 2 (mF q (f 1) (f 2) (f 3) (f 4) (f 5) (f 6) (f 7) (f 8) (f 14) (f 19))), (q 11, zc G 0 (zI 46 (vI (aV A))))]) rfl rfl)) 0 rfl rfl rfl rfl rfl (Nat.le_of_ble_eq_true rfl) hl.1 ⟨Nat.le_of_ble_eq_true rfl, Nat.le_of_ble_eq_true rfl⟩ ⟨(Nat.le_of_ble_eq_true rfl), (Nat.le_of_ble_eq_true rfl)⟩ dX2_enough_2) hw (fun _ => z_keep (is := [0, 4]) (cs := [(mo, zo 2 (mF q (f 1) (f 2) (f 3) (f 4) (f 5) (f 6) (f 7) (f 8) (f 14) (f 19))), (q 11, zc G 0 (zI 46 (vI (aV A))))]) rfl rfl) (fun r u H locs hp hw => ?_)
  obtain rfl : r = bI (isP ((aV A) 0) x) := hp
  refine zb_ne (tgt := 11) hx hb dX2_enough_5 (by decide) (fun c_5 => ?_) (fun c_5 => ?_)
  · skip
    obtain ⟨t, ht, rfl⟩ := c_5
    have hl : lv_has ls 5 [(0, .ref mo), (1, .int (nI t)), (2, .int y)] := hl
    have hp9 := hH.1
    refine lv_iload_n hx hb dX2_enough_11 rfl (lv_at hl 2 rfl) ?_
    refine z_ci (z_runS (As := [.int y]) (rest := []) hC zs_X2_216 (m_X2_isNear G l y _) hw rfl rfl (Nat.le_of_ble_eq_true rfl) hl.1 ⟨Nat.le_of_ble_eq_true rfl, Nat.le_of_ble_eq_true rfl⟩ ⟨(Nat.le_of_ble_eq_true rfl), (Nat.le_of_ble_eq_true rfl)⟩ dX2_enough_12) hw (fun _ => List.Perm.refl _) (fun r u H locs hp hw => ?_)
    obtain rfl : r = bI (inR y 1 20) := hp
    refine zb_ne (tgt := 21) hx hb dX2_enough_15 (by decide) (fun c_15 => ?_) (fun c_15 => ?_)
    · skip
      obtain ⟨k, hk1, hk2, rfl⟩ := c_15
      have hl : lv_has ls 5 [(0, .ref mo), (1, .int (nI t)), (2, .int (nI k))] := hl
      refine lv_iconst (v := (nI 3)) hx hb dX2_enough_21 zk_3 ?_
      refine lv_iconst (v := (nI 2)) hx hb dX2_enough_22 zk_2 ?_
      refine lv_iload_n hx hb dX2_enough_23 rfl (lv_at hl 1 rfl) ?_
      refine zn_imul hx hb dX2_enough_24 ?_
      refine zn_iadd hx hb dX2_enough_25 ?_
      refine lv_iconst (v := (nI 1)) hx hb dX2_enough_26 zk_1 ?_
      refine zn_iadd hx hb dX2_enough_27 ?_
      refine lv_istore_n (lv' := [(3, .int (nI (3 + 2 * t + 1))), (0, .ref mo), (1, .int (nI t)), (2, .int (nI k))]) hx hb dX2_enough_28 rfl hl (by decide) rfl (fun ls hl => ?_)
      refine lv_iconst (v := (nI 0)) hx hb dX2_enough_29 zk_0 ?_
      refine lv_istore (lv' := [(4, .int (nI 0)), (3, .int (nI (3 + 2 * t + 1))), (0, .ref mo), (1, .int (nI t)), (2, .int (nI k))]) hx hb dX2_enough_30 hl (by decide) rfl (fun ls hl => ?_)
      have loop_32 : ∀ (fuel : Nat) (fu : Nat) (more : Nat) (tf : Nat → Int32) (af1 : Nat → Int32), (more + fu = 61) → (enN (aV A) t k fu more = enN (aV A) t k 61 0) → (fu) < fuel → ∀ (H : Heap) (locs : List Loc) (ls : Array Slot), zS G ((mo, zo 2 (mF q (f 1) (f 2) (f 3) (f 4) (f 5) (f 6) (f 7) (f 8) (f 14) (f 19))) :: (q 0, zc G 0 (zI 200 (b 0))) :: (q 9, zc G 0 (zI 46 (b 9))) :: (q 10, zc G 0 (zI 46 (b 10))) :: (q 11, zc G 0 (zI 46 (vI (aV A)))) :: (q 12, zc G 0 (zI 46 tf)) :: (q 13, zc G 0 (zI 368 (b 13))) :: (q 15, zc G 0 (zI 92 (b 15))) :: (q 16, zc G 3 (zI 2 (b 16))) :: (q 17, zc G 0 (zI 5 af1)) :: (q 18, zc G 0 (zI 24 (b 18))) :: (q 20, zc G 0 (zI 3 (b 20))) :: (q 21, zc G 0 (zI 3 (b 21))) :: (q 22, zc G 0 (zI 3 (b 22))) :: (q 23, zc G 0 (zI 36 (b 23))) :: (q 24, zc G 0 (zI 36 (b 24))) :: rest) s H locs → lv_has ls 5 [(0, .ref mo), (1, .int (nI t)), (2, .int (nI k)), (3, .int (nI (3 + 2 * t + 1))), (4, .int (nI more))] → W p l e (zR 6 0 0) s m args below meth c H locs 0 0 Q (F0 m 32 ls []) := by
        intro fuel
        induction fuel with
        | zero => intro fu more tf af1 hn heq hfuel; exact absurd hfuel (Nat.not_lt_zero _)
        | succ fuel_32 ih_32 =>
          intro fu more tf af1 hn heq hfuel_32 H locs ls hw hl
          refine lv_iload hx hb dX2_enough_32 (lv_at hl 4 rfl) ?_
          refine lv_bipush (v := (nI 61)) hx hb dX2_enough_34 zb_61 ?_
          refine zi_ge (tgt := 108) hx hb (by omega) (by decide) dX2_enough_36 (by decide) (fun c_36 => ?_) (fun c_36 => ?_)
          · skip
            refine lv_iconst (v := -1) hx hb dX2_enough_108 zk_m1 ?_
            exact hend _ _ _ _ _ _ _ ((bU (bU (bU b 11 (vI (aV A))) 12 tf) 17 af1), mf (f 1) (f 2) (f 3) (f 4) (f 5) (f 6) (f 7) (f 8) (f 14) (f 19)) hw ⟨(by unfold F_enough; rw [ifP_t ⟨t, ht, rfl⟩, ifP_t ⟨k, hk1, hk2, rfl⟩, cl_nI (by omega), cl_nI (by omega), ← heq]; first | (rw [show fu = 0 by omega]; rfl) | (rw [enN_stop (by omega)]; rfl)), ⟨⟨hT, hL⟩, hV0, rH_vI, ⟨hU, hUs⟩, hKp, ⟨hSi, hSg⟩, (fun t ht => tRel_of rfl rfl rfl rfl rfl (hTr t ht))⟩⟩ (by omega) (by omega) dX2_enough_109
          · skip
            refine lv_aload_n hx hb dX2_enough_39 rfl (lv_at hl 0 rfl) ?_
            refine z_get (v := .ref (q 11)) hC zf_X2_19_2 hw 0 rfl rfl dX2_enough_40 ?_
            refine lv_iload_n hx hb dX2_enough_43 rfl (lv_at hl 3 rfl) ?_
            refine z_iald (x := (nI ((aV A) (3 + 2 * t + 1)))) hC hw 4 rfl (by omega) (by decide) rfl dX2_enough_44 ?_
            refine lv_iload hx hb dX2_enough_45 (lv_at hl 4 rfl) ?_
            refine zn_iadd hx hb dX2_enough_47 ?_
            refine lv_bipush (v := (nI 100)) hx hb dX2_enough_48 zb_100 ?_
            refine zi_ge (tgt := 108) hx hb (by have := hH.2.2.1 (3 + 2 * t + 1); omega) (by decide) dX2_enough_50 (by decide) (fun c_50 => ?_) (fun c_50 => ?_)
            · skip
              refine lv_iconst (v := -1) hx hb dX2_enough_108 zk_m1 ?_
              exact hend _ _ _ _ _ _ _ ((bU (bU (bU b 11 (vI (aV A))) 12 tf) 17 af1), mf (f 1) (f 2) (f 3) (f 4) (f 5) (f 6) (f 7) (f 8) (f 14) (f 19)) hw ⟨(by unfold F_enough; rw [ifP_t ⟨t, ht, rfl⟩, ifP_t ⟨k, hk1, hk2, rfl⟩, cl_nI (by omega), cl_nI (by omega), ← heq]; first | (rw [show fu = 0 by omega]; rfl) | (rw [enN_stop (by omega)]; rfl)), ⟨⟨hT, hL⟩, hV0, rH_vI, ⟨hU, hUs⟩, hKp, ⟨hSi, hSg⟩, (fun t ht => tRel_of rfl rfl rfl rfl rfl (hTr t ht))⟩⟩ (by omega) (by omega) dX2_enough_109
            · skip
              obtain ⟨fu, rfl⟩ : ∃ g, fu = g + 1 := ⟨fu - 1, by omega⟩
              have hU1 : Hw (updN (aV A) (3 + 2 * t + 1) ((aV A) (3 + 2 * t + 1) + more)) := Hw_upd hH (by omega) (by omega) (by omega) (fun i hi h => by omega) (fun i hi h => by omega) (fun i hi h => by omega)
              have hdk := daysN_inv hU1 k (by rw [updN_ne _ _ (by omega)]; omega)
              refine lv_aload_n hx hb dX2_enough_53 rfl (lv_at hl 0 rfl) ?_
              refine z_get (v := .ref (q 11)) hC zf_X2_19_2 hw 0 rfl rfl dX2_enough_54 ?_
              refine lv_iconst (v := (nI 0)) hx hb dX2_enough_57 zk_0 ?_
              refine lv_aload_n hx hb dX2_enough_58 rfl (lv_at hl 0 rfl) ?_
              refine z_get (v := .ref (q 12)) hC zf_X2_22_2 hw 0 rfl rfl dX2_enough_59 ?_
              refine lv_iconst (v := (nI 0)) hx hb dX2_enough_62 zk_0 ?_
              refine z_cv (z_runS (As := [.ref (q 11), .int (nI 0), .ref (q 12), .int (nI 0)]) (rest := []) hC zs_X2_130 (m_X2_copies G l (q 11) (q 12) 0 0 46 46 (vI (aV A)) tf (by omega) (by omega) (by decide) (by decide) (zrem [4, 5] _)) (hw.perm (z_cut (is := [4, 5]) (cells := [(q 11, zc G 0 (zI 46 (vI (aV A)))), (q 12, zc G 0 (zI 46 tf))]) rfl rfl)) rfl rfl (Nat.le_of_ble_eq_true rfl) hl.1 ⟨Nat.le_of_ble_eq_true rfl, Nat.le_of_ble_eq_true rfl⟩ ⟨(Nat.le_of_ble_eq_true rfl), (Nat.le_of_ble_eq_true rfl)⟩ dX2_enough_63) hw (fun _ => z_pput (is := [4, 5]) (cells := [(q 11, zc G 0 (zI 46 (vI (aV A)))), (q 12, zc G 0 (zI 46 tf))]) (cells' := [(q 11, zc G 0 (zI 46 (vI (aV A)))), (q 12, zc G 0 (zI 46 (va_cpy (vI (aV A)) tf 0 0 46)))]) rfl rfl rfl) (fun u H locs hp hw => ?_)
              have hw : zS G ((mo, zo 2 (mF q (f 1) (f 2) (f 3) (f 4) (f 5) (f 6) (f 7) (f 8) (f 14) (f 19))) :: (q 0, zc G 0 (zI 200 (b 0))) :: (q 9, zc G 0 (zI 46 (b 9))) :: (q 10, zc G 0 (zI 46 (b 10))) :: (q 11, zc G 0 (zI 46 (vI (aV A)))) :: (q 12, zc G 0 (zI 46 (va_cpy (vI (aV A)) tf 0 0 46))) :: (q 13, zc G 0 (zI 368 (b 13))) :: (q 15, zc G 0 (zI 92 (b 15))) :: (q 16, zc G 3 (zI 2 (b 16))) :: (q 17, zc G 0 (zI 5 af1)) :: (q 18, zc G 0 (zI 24 (b 18))) :: (q 20, zc G 0 (zI 3 (b 20))) :: (q 21, zc G 0 (zI 3 (b 21))) :: (q 22, zc G 0 (zI 3 (b 22))) :: (q 23, zc G 0 (zI 36 (b 23))) :: (q 24, zc G 0 (zI 36 (b 24))) :: rest) s H locs := hw
              have hw := hw.cellI 5 rfl (g := vI (aV A)) (fun j hj => cpy_hedge hj)
              have hw : zS G ((mo, zo 2 (mF q (f 1) (f 2) (f 3) (f 4) (f 5) (f 6) (f 7) (f 8) (f 14) (f 19))) :: (q 0, zc G 0 (zI 200 (b 0))) :: (q 9, zc G 0 (zI 46 (b 9))) :: (q 10, zc G 0 (zI 46 (b 10))) :: (q 11, zc G 0 (zI 46 (vI (aV A)))) :: (q 12, zc G 0 (zI 46 (vI (aV A)))) :: (q 13, zc G 0 (zI 368 (b 13))) :: (q 15, zc G 0 (zI 92 (b 15))) :: (q 16, zc G 3 (zI 2 (b 16))) :: (q 17, zc G 0 (zI 5 af1)) :: (q 18, zc G 0 (zI 24 (b 18))) :: (q 20, zc G 0 (zI 3 (b 20))) :: (q 21, zc G 0 (zI 3 (b 21))) :: (q 22, zc G 0 (zI 3 (b 22))) :: (q 23, zc G 0 (zI 36 (b 23))) :: (q 24, zc G 0 (zI 36 (b 24))) :: rest) s H locs := hw
              refine lv_aload_n hx hb dX2_enough_66 rfl (lv_at hl 0 rfl) ?_
              refine z_get (v := .ref (q 12)) hC zf_X2_22_2 hw 0 rfl rfl dX2_enough_67 ?_
              refine lv_iload_n hx hb dX2_enough_70 rfl (lv_at hl 3 rfl) ?_
              refine lv_dup2_11 hx hb dX2_enough_71 rfl rfl ?_
              refine z_iald (x := (nI ((aV A) (3 + 2 * t + 1)))) hC hw 5 rfl (by omega) (by decide) rfl dX2_enough_72 ?_
              refine lv_iload hx hb dX2_enough_73 (lv_at hl 4 rfl) ?_
              refine zn_iadd hx hb dX2_enough_75 ?_
              refine z_iast (f' := vI (updN (aV A) (3 + 2 * t + 1) ((aV A) (3 + 2 * t + 1) + more))) hC hw 5 rfl (by omega) (by decide) (vI_upd _ _ _) dX2_enough_76 (fun H locs hw => ?_)
              have hw : zS G ((mo, zo 2 (mF q (f 1) (f 2) (f 3) (f 4) (f 5) (f 6) (f 7) (f 8) (f 14) (f 19))) :: (q 0, zc G 0 (zI 200 (b 0))) :: (q 9, zc G 0 (zI 46 (b 9))) :: (q 10, zc G 0 (zI 46 (b 10))) :: (q 11, zc G 0 (zI 46 (vI (aV A)))) :: (q 12, zc G 0 (zI 46 (vI (updN (aV A) (3 + 2 * t + 1) ((aV A) (3 + 2 * t + 1) + more))))) :: (q 13, zc G 0 (zI 368 (b 13))) :: (q 15, zc G 0 (zI 92 (b 15))) :: (q 16, zc G 3 (zI 2 (b 16))) :: (q 17, zc G 0 (zI 5 af1)) :: (q 18, zc G 0 (zI 24 (b 18))) :: (q 20, zc G 0 (zI 3 (b 20))) :: (q 21, zc G 0 (zI 3 (b 21))) :: (q 22, zc G 0 (zI 3 (b 22))) :: (q 23, zc G 0 (zI 36 (b 23))) :: (q 24, zc G 0 (zI 36 (b 24))) :: rest) s H locs := hw
              refine lv_aload_n hx hb dX2_enough_77 rfl (lv_at hl 0 rfl) ?_
              refine lv_iload_n hx hb dX2_enough_78 rfl (lv_at hl 2 rfl) ?_
              refine z_cv (z_runV (As := [.int (nI k)]) (rest := []) hC zv_X2_207 (m_X2_goesOn G l mo q (f 1) (f 2) (f 3) (f 4) (f 5) (f 6) (f 7) (f 8) (f 14) (f 19) k (updN (aV A) (3 + 2 * t + 1) ((aV A) (3 + 2 * t + 1) + more)) hU1 af1 (by rw [updN_ne _ _ (by omega)]; omega) (by omega) (zrem [0, 5, 9] _)) hw (hw.perm (z_cut (is := [0, 5, 9]) (cells := [(mo, zo 2 (mF q (f 1) (f 2) (f 3) (f 4) (f 5) (f 6) (f 7) (f 8) (f 14) (f 19))), (q 12, zc G 0 (zI 46 (vI (updN (aV A) (3 + 2 * t + 1) ((aV A) (3 + 2 * t + 1) + more))))), (q 17, zc G 0 (zI 5 af1))]) rfl rfl)) 0 rfl rfl rfl rfl rfl (Nat.le_of_ble_eq_true rfl) hl.1 ⟨Nat.le_of_ble_eq_true rfl, Nat.le_of_ble_eq_true rfl⟩ ⟨(Nat.le_of_ble_eq_true rfl), (Nat.le_of_ble_eq_true rfl)⟩ dX2_enough_79) hw (fun u => z_pput (is := [0, 5, 9]) (cells := [(mo, zo 2 (mF q (f 1) (f 2) (f 3) (f 4) (f 5) (f 6) (f 7) (f 8) (f 14) (f 19))), (q 12, zc G 0 (zI 46 (vI (updN (aV A) (3 + 2 * t + 1) ((aV A) (3 + 2 * t + 1) + more))))), (q 17, zc G 0 (zI 5 af1))]) (cells' := [(mo, zo 2 (mF q (f 1) (f 2) (f 3) (f 4) (f 5) (f 6) (f 7) (f 8) (f 14) (f 19))), (q 12, zc G 0 (zI 46 (vI (daysN k (updN (aV A) (3 + 2 * t + 1) ((aV A) (3 + 2 * t + 1) + more)))))), (q 17, zc G 0 (zI 5 u))]) rfl rfl rfl) (fun u H locs hp hw => ?_)
              obtain ⟨af1_1, rfl⟩ : ∃ z, z = u := ⟨_, rfl⟩
              have hw : zS G ((mo, zo 2 (mF q (f 1) (f 2) (f 3) (f 4) (f 5) (f 6) (f 7) (f 8) (f 14) (f 19))) :: (q 0, zc G 0 (zI 200 (b 0))) :: (q 9, zc G 0 (zI 46 (b 9))) :: (q 10, zc G 0 (zI 46 (b 10))) :: (q 11, zc G 0 (zI 46 (vI (aV A)))) :: (q 12, zc G 0 (zI 46 (vI (daysN k (updN (aV A) (3 + 2 * t + 1) ((aV A) (3 + 2 * t + 1) + more)))))) :: (q 13, zc G 0 (zI 368 (b 13))) :: (q 15, zc G 0 (zI 92 (b 15))) :: (q 16, zc G 3 (zI 2 (b 16))) :: (q 17, zc G 0 (zI 5 af1_1)) :: (q 18, zc G 0 (zI 24 (b 18))) :: (q 20, zc G 0 (zI 3 (b 20))) :: (q 21, zc G 0 (zI 3 (b 21))) :: (q 22, zc G 0 (zI 3 (b 22))) :: (q 23, zc G 0 (zI 36 (b 23))) :: (q 24, zc G 0 (zI 36 (b 24))) :: rest) s H locs := hw
              refine lv_aload_n hx hb dX2_enough_82 rfl (lv_at hl 0 rfl) ?_
              refine z_get (v := .ref (q 12)) hC zf_X2_22_2 hw 0 rfl rfl dX2_enough_83 ?_
              refine z_ci (z_runS (As := [.ref (q 12)]) (rest := []) hC zs_X2_210 (m_X2_alive G l (q 12) (daysN k (updN (aV A) (3 + 2 * t + 1) ((aV A) (3 + 2 * t + 1) + more))) hdk.1 (zrem [5] _)) (hw.perm (z_cut (is := [5]) (cells := [(q 12, zc G 0 (zI 46 (vI (daysN k (updN (aV A) (3 + 2 * t + 1) ((aV A) (3 + 2 * t + 1) + more))))))]) rfl rfl)) rfl rfl (Nat.le_of_ble_eq_true rfl) hl.1 ⟨Nat.le_of_ble_eq_true rfl, Nat.le_of_ble_eq_true rfl⟩ ⟨(Nat.le_of_ble_eq_true rfl), (Nat.le_of_ble_eq_true rfl)⟩ dX2_enough_86) hw (fun _ => z_keep (is := [5]) (cs := [(q 12, zc G 0 (zI 46 (vI (daysN k (updN (aV A) (3 + 2 * t + 1) ((aV A) (3 + 2 * t + 1) + more))))))]) rfl rfl) (fun r u H locs hp hw => ?_)
              obtain rfl : r = nI (aliveN (daysN k (updN (aV A) (3 + 2 * t + 1) ((aV A) (3 + 2 * t + 1) + more)))) := hp
              refine lv_aload_n hx hb dX2_enough_89 rfl (lv_at hl 0 rfl) ?_
              refine z_get (v := .ref (q 11)) hC zf_X2_19_2 hw 0 rfl rfl dX2_enough_90 ?_
              refine z_ci (z_runS (As := [.ref (q 11)]) (rest := [.int (nI (aliveN (daysN k (updN (aV A) (3 + 2 * t + 1) ((aV A) (3 + 2 * t + 1) + more)))))]) hC zs_X2_210 (m_X2_alive G l (q 11) (aV A) hH (zrem [4] _)) (hw.perm (z_cut (is := [4]) (cells := [(q 11, zc G 0 (zI 46 (vI (aV A))))]) rfl rfl)) rfl rfl (Nat.le_of_ble_eq_true rfl) hl.1 ⟨Nat.le_of_ble_eq_true rfl, Nat.le_of_ble_eq_true rfl⟩ ⟨(Nat.le_of_ble_eq_true rfl), (Nat.le_of_ble_eq_true rfl)⟩ dX2_enough_93) hw (fun _ => z_keep (is := [4]) (cs := [(q 11, zc G 0 (zI 46 (vI (aV A))))]) rfl rfl) (fun r u H locs hp hw => ?_)
              obtain rfl : r = nI (aliveN (aV A)) := hp
              refine zi_ne (tgt := 102) hx hb (aliveN_lt hdk.1) (aliveN_lt hH) dX2_enough_96 (by decide) (fun c_96 => ?_) (fun c_96 => ?_)
              · skip
                refine lv_iinc (v := (nI (more + 1))) (lv' := [(4, .int (nI (more + 1))), (0, .ref mo), (1, .int (nI t)), (2, .int (nI k)), (3, .int (nI (3 + 2 * t + 1)))]) hx hb dX2_enough_102 hl (k := 4) rfl (zincn _ 1) (by decide) rfl (fun ls hl => ?_)
                refine lv_goto (tgt := 32) hx hb dX2_enough_105 (by decide) ?_
                exact ih_32 fu (more + 1) (vI (daysN k (updN (aV A) (3 + 2 * t + 1) ((aV A) (3 + 2 * t + 1) + more)))) af1_1 (by omega) (by rw [← heq]; exact ((if_pos c_50).trans (if_neg c_96)).symm) (by omega) H locs ls hw (lv_sub hl [1, 2, 3, 4, 0] rfl)
              · skip
                refine lv_iload hx hb dX2_enough_99 (lv_at hl 4 rfl) ?_
                exact hend _ _ _ _ _ _ _ ((bU (bU (bU b 11 (vI (aV A))) 12 (vI (daysN k (updN (aV A) (3 + 2 * t + 1) ((aV A) (3 + 2 * t + 1) + more))))) 17 af1_1), mf (f 1) (f 2) (f 3) (f 4) (f 5) (f 6) (f 7) (f 8) (f 14) (f 19)) hw ⟨(by unfold F_enough; rw [ifP_t ⟨t, ht, rfl⟩, ifP_t ⟨k, hk1, hk2, rfl⟩, cl_nI (by omega), cl_nI (by omega), ← heq, show enN (aV A) t k (fu + 1) more = some more from (if_pos c_50).trans (if_pos c_96)]; rfl), ⟨⟨hT, hL⟩, hV0, rH_vI, ⟨hU, hUs⟩, hKp, ⟨hSi, hSg⟩, (fun t ht => tRel_of rfl rfl rfl rfl rfl (hTr t ht))⟩⟩ (by omega) (by omega) dX2_enough_101
      exact loop_32 ((61) + 1) 61 0 (b 12) (b 17) (by omega) rfl (Nat.lt_succ_self _) H locs ls hw (lv_sub hl [2, 3, 4, 1, 0] rfl)
    · skip
      refine lv_bipush (v := (-3)) hx hb dX2_enough_18 zb_m3 ?_
      exact hend _ _ _ _ _ _ _ ((bU b 11 (vI (aV A))), mf (f 1) (f 2) (f 3) (f 4) (f 5) (f 6) (f 7) (f 8) (f 14) (f 19)) hw ⟨((ifP_t ⟨t, ht, rfl⟩).trans (ifP_f c_15)).symm, ⟨⟨hT, hL⟩, hV0, rH_vI, ⟨hU, hUs⟩, hKp, ⟨hSi, hSg⟩, (fun t ht => tRel_of rfl rfl rfl rfl rfl (hTr t ht))⟩⟩ (by omega) (by omega) dX2_enough_20
  · skip
    refine lv_bipush (v := (-2)) hx hb dX2_enough_8 zb_m2 ?_
    exact hend _ _ _ _ _ _ _ ((bU b 11 (vI (aV A))), mf (f 1) (f 2) (f 3) (f 4) (f 5) (f 6) (f 7) (f 8) (f 14) (f 19)) hw ⟨(ifP_f c_5).symm, ⟨⟨hT, hL⟩, hV0, rH_vI, ⟨hU, hUs⟩, hKp, ⟨hSi, hSg⟩, (fun t ht => tRel_of rfl rfl rfl rfl rfl (hTr t ht))⟩⟩ (by omega) (by omega) dX2_enough_10
theorem woN_0 {v : Nat → Nat} {n t : Nat} (h : woN v n t = (none, none)) : woN v n (t + 1) = (some t, some (liveN (updN v (3 + 2 * t + 1) 0) n)) := by rw [woN, h]
theorem woN_t {v : Nat → Nat} {n t w few : Nat} (h : woN v n t = (some w, some few)) (hl : liveN (updN v (3 + 2 * t + 1) 0) n < few) : woN v n (t + 1) = (some t, some (liveN (updN v (3 + 2 * t + 1) 0) n)) := by rw [woN, h]; exact if_pos hl
theorem woN_f {v : Nat → Nat} {n t w few : Nat} (h : woN v n t = (some w, some few)) (hl : ¬ liveN (updN v (3 + 2 * t + 1) 0) n < few) : woN v n (t + 1) = (some w, some few) := by rw [woN, h]; exact if_neg hl
set_option maxHeartbeats 4000000 in
theorem m_X2_worst (G : zE) (l : Launch) (mo : Nat) (q : Nat → Nat) (A : AS) (b : Nat → Nat → Int32) (f : Nat → Int32) (hA : AOk A) (hM : MRel A b f) (x : Int32) (y : Int32) (rest : va_W) : zMi G l yX2_worst cX2_worst 8 (some .int) 6 0 0 [.ref mo, .int x, .int y] ((mo, zo 2 (mF q (f 1) (f 2) (f 3) (f 4) (f 5) (f 6) (f 7) (f 8) (f 14) (f 19))) :: (q 0, zc G 0 (zI 200 (b 0))) :: (q 9, zc G 0 (zI 46 (b 9))) :: (q 10, zc G 0 (zI 46 (b 10))) :: (q 11, zc G 0 (zI 46 (b 11))) :: (q 12, zc G 0 (zI 46 (b 12))) :: (q 13, zc G 0 (zI 368 (b 13))) :: (q 15, zc G 0 (zI 92 (b 15))) :: (q 16, zc G 3 (zI 2 (b 16))) :: (q 17, zc G 0 (zI 5 (b 17))) :: (q 18, zc G 0 (zI 24 (b 18))) :: (q 20, zc G 0 (zI 3 (b 20))) :: (q 21, zc G 0 (zI 3 (b 21))) :: (q 22, zc G 0 (zI 3 (b 22))) :: (q 23, zc G 0 (zI 36 (b 23))) :: (q 24, zc G 0 (zI 36 (b 24))) :: rest) (fun (r : Int32) (u : MB) => r = F_worst A x y ∧ MRel A u.1 u.2) (fun (u : MB) => (mo, zo 2 (mF q (u.2 1) (u.2 2) (u.2 3) (u.2 4) (u.2 5) (u.2 6) (u.2 7) (u.2 8) (u.2 14) (u.2 19))) :: (q 0, zc G 0 (zI 200 (u.1 0))) :: (q 9, zc G 0 (zI 46 (u.1 9))) :: (q 10, zc G 0 (zI 46 (u.1 10))) :: (q 11, zc G 0 (zI 46 (u.1 11))) :: (q 12, zc G 0 (zI 46 (u.1 12))) :: (q 13, zc G 0 (zI 368 (u.1 13))) :: (q 15, zc G 0 (zI 92 (u.1 15))) :: (q 16, zc G 3 (zI 2 (u.1 16))) :: (q 17, zc G 0 (zI 5 (u.1 17))) :: (q 18, zc G 0 (zI 24 (u.1 18))) :: (q 20, zc G 0 (zI 3 (u.1 20))) :: (q 21, zc G 0 (zI 3 (u.1 21))) :: (q 22, zc G 0 (zI 3 (u.1 22))) :: (q 23, zc G 0 (zI 36 (u.1 23))) :: (q 24, zc G 0 (zI 36 (u.1 24))) :: rest) := by
  refine z_begI (by decide) (Nat.le_of_ble_eq_true rfl) (fun p e s m args below meth c ls Q hC hl hw hend => ?_)
  have hx := hC.hx
  have hb := hC.hb
  have hl : lv_has ls 8 [(0, .ref mo), (1, .int x), (2, .int y)] := hl
  have hw : zS G ((mo, zo 2 (mF q (f 1) (f 2) (f 3) (f 4) (f 5) (f 6) (f 7) (f 8) (f 14) (f 19))) :: (q 0, zc G 0 (zI 200 (b 0))) :: (q 9, zc G 0 (zI 46 (b 9))) :: (q 10, zc G 0 (zI 46 (b 10))) :: (q 11, zc G 0 (zI 46 (b 11))) :: (q 12, zc G 0 (zI 46 (b 12))) :: (q 13, zc G 0 (zI 368 (b 13))) :: (q 15, zc G 0 (zI 92 (b 15))) :: (q 16, zc G 3 (zI 2 (b 16))) :: (q 17, zc G 0 (zI 5 (b 17))) :: (q 18, zc G 0 (zI 24 (b 18))) :: (q 20, zc G 0 (zI 3 (b 20))) :: (q 21, zc G 0 (zI 3 (b 21))) :: (q 22, zc G 0 (zI 3 (b 22))) :: (q 23, zc G 0 (zI 36 (b 23))) :: (q 24, zc G 0 (zI 36 (b 24))) :: rest) s s.heap [] := hw
  have hA9 := hA
  obtain ⟨⟨hT, hL⟩, hV0, hV, ⟨hU, hUs⟩, hKp, ⟨hSi, hSg⟩, hTr⟩ := hM
  obtain ⟨⟨hL2, hT2⟩, hB0, hBv, ⟨hU8, hUb⟩, hKb, ⟨hS6, hSb⟩, hTb⟩ := hA
  have hH : Hw (aV A) := hBv.1.1
  have hday := hBv.2.2
  have hw := hw.cellI 4 rfl (g := vI (aV A)) (fun j hj => by have := hV j hj; rwa [Nat.zero_add] at this)
  have hw : zS G ((mo, zo 2 (mF q (f 1) (f 2) (f 3) (f 4) (f 5) (f 6) (f 7) (f 8) (f 14) (f 19))) :: (q 0, zc G 0 (zI 200 (b 0))) :: (q 9, zc G 0 (zI 46 (b 9))) :: (q 10, zc G 0 (zI 46 (b 10))) :: (q 11, zc G 0 (zI 46 (vI (aV A)))) :: (q 12, zc G 0 (zI 46 (b 12))) :: (q 13, zc G 0 (zI 368 (b 13))) :: (q 15, zc G 0 (zI 92 (b 15))) :: (q 16, zc G 3 (zI 2 (b 16))) :: (q 17, zc G 0 (zI 5 (b 17))) :: (q 18, zc G 0 (zI 24 (b 18))) :: (q 20, zc G 0 (zI 3 (b 20))) :: (q 21, zc G 0 (zI 3 (b 21))) :: (q 22, zc G 0 (zI 3 (b 22))) :: (q 23, zc G 0 (zI 36 (b 23))) :: (q 24, zc G 0 (zI 36 (b 24))) :: rest) s s.heap [] := hw
  refine lv_iload_n hx hb dX2_worst_0 rfl (lv_at hl 1 rfl) ?_
  refine z_ci (z_runS (As := [.int x]) (rest := []) hC zs_X2_216 (m_X2_isNear G l x _) hw rfl rfl (Nat.le_of_ble_eq_true rfl) hl.1 ⟨Nat.le_of_ble_eq_true rfl, Nat.le_of_ble_eq_true rfl⟩ ⟨(Nat.le_of_ble_eq_true rfl), (Nat.le_of_ble_eq_true rfl)⟩ dX2_worst_1) hw (fun _ => List.Perm.refl _) (fun r u H locs hp hw => ?_)
  obtain rfl : r = bI (inR x 1 20) := hp
  refine zb_eq (tgt := 16) hx hb dX2_worst_4 (by decide) (fun c_4 => ?_) (fun c_4 => ?_)
  · skip
    refine lv_bipush (v := (-3)) hx hb dX2_worst_16 zb_m3 ?_
    exact hend _ _ _ _ _ _ _ ((bU b 11 (vI (aV A))), mf (f 1) (f 2) (f 3) (f 4) (f 5) (f 6) (f 7) (f 8) (f 14) (f 19)) hw ⟨(by first | exact (ifP_f (fun h => c_4 h.1)).symm | exact (ifP_f (fun h => c_13 h.2)).symm), ⟨⟨hT, hL⟩, hV0, rH_vI, ⟨hU, hUs⟩, hKp, ⟨hSi, hSg⟩, (fun t ht => tRel_of rfl rfl rfl rfl rfl (hTr t ht))⟩⟩ (by omega) (by omega) dX2_worst_18
  · skip
    obtain ⟨k, hk1, hk2, rfl⟩ := c_4
    have hl : lv_has ls 8 [(0, .ref mo), (1, .int (nI k)), (2, .int y)] := hl
    refine lv_iload_n hx hb dX2_worst_7 rfl (lv_at hl 2 rfl) ?_
    refine lv_iconst (v := (nI 0)) hx hb dX2_worst_8 zk_0 ?_
    refine lv_iconst (v := (nI 1)) hx hb dX2_worst_9 zk_1 ?_
    refine z_ci (z_runS (As := [.int y, .int (nI 0), .int (nI 1)]) (rest := []) hC zs_X2_59 (m_X2_in_n G l y 0 1 (by decide) (by decide) _) hw rfl rfl (Nat.le_of_ble_eq_true rfl) hl.1 ⟨Nat.le_of_ble_eq_true rfl, Nat.le_of_ble_eq_true rfl⟩ ⟨(Nat.le_of_ble_eq_true rfl), (Nat.le_of_ble_eq_true rfl)⟩ dX2_worst_10) hw (fun _ => List.Perm.refl _) (fun r u H locs hp hw => ?_)
    obtain rfl : r = bI (inR y 0 1) := hp
    refine zb_ne (tgt := 19) hx hb dX2_worst_13 (by decide) (fun c_13 => ?_) (fun c_13 => ?_)
    · skip
      obtain ⟨j, hj1, hj2, rfl⟩ := c_13
      have hl : lv_has ls 8 [(0, .ref mo), (1, .int (nI k)), (2, .int (nI j))] := hl
      have hp9 := hH.1
      refine lv_iconst (v := -1) hx hb dX2_worst_19 zk_m1 ?_
      refine lv_istore_n (lv' := [(3, .int (-1)), (0, .ref mo), (1, .int (nI k)), (2, .int (nI j))]) hx hb dX2_worst_20 rfl hl (by decide) rfl (fun ls hl => ?_)
      refine lv_iconst (v := -1) hx hb dX2_worst_21 zk_m1 ?_
      refine lv_istore (lv' := [(4, .int (-1)), (3, .int (-1)), (0, .ref mo), (1, .int (nI k)), (2, .int (nI j))]) hx hb dX2_worst_22 hl (by decide) rfl (fun ls hl => ?_)
      refine lv_iconst (v := (nI 0)) hx hb dX2_worst_24 zk_0 ?_
      refine lv_istore (lv' := [(5, .int (nI 0)), (4, .int (-1)), (3, .int (-1)), (0, .ref mo), (1, .int (nI k)), (2, .int (nI j))]) hx hb dX2_worst_25 hl (by decide) rfl (fun ls hl => ?_)
      have loop_27 : ∀ (fuel : Nat) (t : Nat) (wh : Option Nat) (fe : Option Nat) (tf : Nat → Int32) (af1 : Nat → Int32), (t ≤ (aV A) 0) → (woN (aV A) k t = (wh, fe)) → ((wh = none ∧ fe = none) ∨ ∃ w9 f9, wh = some w9 ∧ fe = some f9 ∧ w9 < 9 ∧ f9 ≤ 9) → ((aV A) 0 - t) < fuel → ∀ (H : Heap) (locs : List Loc) (ls : Array Slot), zS G ((mo, zo 2 (mF q (f 1) (f 2) (f 3) (f 4) (f 5) (f 6) (f 7) (f 8) (f 14) (f 19))) :: (q 0, zc G 0 (zI 200 (b 0))) :: (q 9, zc G 0 (zI 46 (b 9))) :: (q 10, zc G 0 (zI 46 (b 10))) :: (q 11, zc G 0 (zI 46 (vI (aV A)))) :: (q 12, zc G 0 (zI 46 tf)) :: (q 13, zc G 0 (zI 368 (b 13))) :: (q 15, zc G 0 (zI 92 (b 15))) :: (q 16, zc G 3 (zI 2 (b 16))) :: (q 17, zc G 0 (zI 5 af1)) :: (q 18, zc G 0 (zI 24 (b 18))) :: (q 20, zc G 0 (zI 3 (b 20))) :: (q 21, zc G 0 (zI 3 (b 21))) :: (q 22, zc G 0 (zI 3 (b 22))) :: (q 23, zc G 0 (zI 36 (b 23))) :: (q 24, zc G 0 (zI 36 (b 24))) :: rest) s H locs → lv_has ls 8 [(0, .ref mo), (1, .int (nI k)), (2, .int (nI j)), (3, .int (optI wh)), (4, .int (optI fe)), (5, .int (nI t))] → W p l e (zR 6 0 0) s m args below meth c H locs 0 0 Q (F0 m 27 ls []) := by
        intro fuel
        induction fuel with
        | zero => intro t wh fe tf af1 ht hwo hso hfuel; exact absurd hfuel (Nat.not_lt_zero _)
        | succ fuel_27 ih_27 =>
          intro t wh fe tf af1 ht hwo hso hfuel_27 H locs ls hw hl
          refine lv_iload hx hb dX2_worst_27 (lv_at hl 5 rfl) ?_
          refine lv_aload_n hx hb dX2_worst_29 rfl (lv_at hl 0 rfl) ?_
          refine z_get (v := .ref (q 11)) hC zf_X2_19_2 hw 0 rfl rfl dX2_worst_30 ?_
          refine lv_iconst (v := (nI 0)) hx hb dX2_worst_33 zk_0 ?_
          refine z_iald (x := (nI ((aV A) 0))) hC hw 4 rfl (by decide) (by decide) rfl dX2_worst_34 ?_
          refine zi_ge (tgt := 133) hx hb (by omega) (by have := hH.2.2.1 0; omega) dX2_worst_35 (by decide) (fun c_35 => ?_) (fun c_35 => ?_)
          · skip
            refine lv_iload_n hx hb dX2_worst_133 rfl (lv_at hl 2 rfl) ?_
            refine zj_ne (tgt := 141) hx hb (by omega) dX2_worst_134 (by decide) (fun c_134 => ?_) (fun c_134 => ?_)
            · skip
              refine lv_iload hx hb dX2_worst_141 (lv_at hl 4 rfl) ?_
              exact hend _ _ _ _ _ _ _ ((bU (bU (bU b 11 (vI (aV A))) 12 tf) 17 af1), mf (f 1) (f 2) (f 3) (f 4) (f 5) (f 6) (f 7) (f 8) (f 14) (f 19)) hw ⟨(by unfold F_worst; rw [ifP_t ⟨⟨k, hk1, hk2, rfl⟩, ⟨j, hj1, hj2, rfl⟩⟩, cl_nI (by omega), cl_nI (by omega), show aV A 0 = t by omega, hwo]; first | rw [if_pos c_134] | rw [if_neg c_134]), ⟨⟨hT, hL⟩, hV0, rH_vI, ⟨hU, hUs⟩, hKp, ⟨hSi, hSg⟩, (fun t ht => tRel_of rfl rfl rfl rfl rfl (hTr t ht))⟩⟩ (by omega) (by omega) dX2_worst_143
            · skip
              refine lv_iload_n hx hb dX2_worst_137 rfl (lv_at hl 3 rfl) ?_
              refine lv_goto (tgt := 143) hx hb dX2_worst_138 (by decide) ?_
              exact hend _ _ _ _ _ _ _ ((bU (bU (bU b 11 (vI (aV A))) 12 tf) 17 af1), mf (f 1) (f 2) (f 3) (f 4) (f 5) (f 6) (f 7) (f 8) (f 14) (f 19)) hw ⟨(by unfold F_worst; rw [ifP_t ⟨⟨k, hk1, hk2, rfl⟩, ⟨j, hj1, hj2, rfl⟩⟩, cl_nI (by omega), cl_nI (by omega), show aV A 0 = t by omega, hwo]; first | rw [if_pos c_134] | rw [if_neg c_134]), ⟨⟨hT, hL⟩, hV0, rH_vI, ⟨hU, hUs⟩, hKp, ⟨hSi, hSg⟩, (fun t ht => tRel_of rfl rfl rfl rfl rfl (hTr t ht))⟩⟩ (by omega) (by omega) dX2_worst_143
          · skip
            have hU1 : Hw (updN (aV A) (3 + 2 * t + 1) 0) := Hw_upd hH (by omega) (by omega) (by omega) (fun i hi h => by omega) (fun i hi h => by omega) (fun i hi h => by omega)
            have hdk := daysN_inv hU1 k (by rw [updN_ne _ _ (by omega)]; omega)
            refine lv_aload_n hx hb dX2_worst_38 rfl (lv_at hl 0 rfl) ?_
            refine z_get (v := .ref (q 11)) hC zf_X2_19_2 hw 0 rfl rfl dX2_worst_39 ?_
            refine lv_iconst (v := (nI 0)) hx hb dX2_worst_42 zk_0 ?_
            refine lv_aload_n hx hb dX2_worst_43 rfl (lv_at hl 0 rfl) ?_
            refine z_get (v := .ref (q 12)) hC zf_X2_22_2 hw 0 rfl rfl dX2_worst_44 ?_
            refine lv_iconst (v := (nI 0)) hx hb dX2_worst_47 zk_0 ?_
            refine z_cv (z_runS (As := [.ref (q 11), .int (nI 0), .ref (q 12), .int (nI 0)]) (rest := []) hC zs_X2_130 (m_X2_copies G l (q 11) (q 12) 0 0 46 46 (vI (aV A)) tf (by omega) (by omega) (by decide) (by decide) (zrem [4, 5] _)) (hw.perm (z_cut (is := [4, 5]) (cells := [(q 11, zc G 0 (zI 46 (vI (aV A)))), (q 12, zc G 0 (zI 46 tf))]) rfl rfl)) rfl rfl (Nat.le_of_ble_eq_true rfl) hl.1 ⟨Nat.le_of_ble_eq_true rfl, Nat.le_of_ble_eq_true rfl⟩ ⟨(Nat.le_of_ble_eq_true rfl), (Nat.le_of_ble_eq_true rfl)⟩ dX2_worst_48) hw (fun _ => z_pput (is := [4, 5]) (cells := [(q 11, zc G 0 (zI 46 (vI (aV A)))), (q 12, zc G 0 (zI 46 tf))]) (cells' := [(q 11, zc G 0 (zI 46 (vI (aV A)))), (q 12, zc G 0 (zI 46 (va_cpy (vI (aV A)) tf 0 0 46)))]) rfl rfl rfl) (fun u H locs hp hw => ?_)
            have hw : zS G ((mo, zo 2 (mF q (f 1) (f 2) (f 3) (f 4) (f 5) (f 6) (f 7) (f 8) (f 14) (f 19))) :: (q 0, zc G 0 (zI 200 (b 0))) :: (q 9, zc G 0 (zI 46 (b 9))) :: (q 10, zc G 0 (zI 46 (b 10))) :: (q 11, zc G 0 (zI 46 (vI (aV A)))) :: (q 12, zc G 0 (zI 46 (va_cpy (vI (aV A)) tf 0 0 46))) :: (q 13, zc G 0 (zI 368 (b 13))) :: (q 15, zc G 0 (zI 92 (b 15))) :: (q 16, zc G 3 (zI 2 (b 16))) :: (q 17, zc G 0 (zI 5 af1)) :: (q 18, zc G 0 (zI 24 (b 18))) :: (q 20, zc G 0 (zI 3 (b 20))) :: (q 21, zc G 0 (zI 3 (b 21))) :: (q 22, zc G 0 (zI 3 (b 22))) :: (q 23, zc G 0 (zI 36 (b 23))) :: (q 24, zc G 0 (zI 36 (b 24))) :: rest) s H locs := hw
            have hw := hw.cellI 5 rfl (g := vI (aV A)) (fun j hj => cpy_hedge hj)
            have hw : zS G ((mo, zo 2 (mF q (f 1) (f 2) (f 3) (f 4) (f 5) (f 6) (f 7) (f 8) (f 14) (f 19))) :: (q 0, zc G 0 (zI 200 (b 0))) :: (q 9, zc G 0 (zI 46 (b 9))) :: (q 10, zc G 0 (zI 46 (b 10))) :: (q 11, zc G 0 (zI 46 (vI (aV A)))) :: (q 12, zc G 0 (zI 46 (vI (aV A)))) :: (q 13, zc G 0 (zI 368 (b 13))) :: (q 15, zc G 0 (zI 92 (b 15))) :: (q 16, zc G 3 (zI 2 (b 16))) :: (q 17, zc G 0 (zI 5 af1)) :: (q 18, zc G 0 (zI 24 (b 18))) :: (q 20, zc G 0 (zI 3 (b 20))) :: (q 21, zc G 0 (zI 3 (b 21))) :: (q 22, zc G 0 (zI 3 (b 22))) :: (q 23, zc G 0 (zI 36 (b 23))) :: (q 24, zc G 0 (zI 36 (b 24))) :: rest) s H locs := hw
            refine lv_aload_n hx hb dX2_worst_51 rfl (lv_at hl 0 rfl) ?_
            refine z_get (v := .ref (q 12)) hC zf_X2_22_2 hw 0 rfl rfl dX2_worst_52 ?_
            refine lv_iconst (v := (nI 3)) hx hb dX2_worst_55 zk_3 ?_
            refine lv_iconst (v := (nI 2)) hx hb dX2_worst_56 zk_2 ?_
            refine lv_iload hx hb dX2_worst_57 (lv_at hl 5 rfl) ?_
            refine zn_imul hx hb dX2_worst_59 ?_
            refine zn_iadd hx hb dX2_worst_60 ?_
            refine lv_iconst (v := (nI 1)) hx hb dX2_worst_61 zk_1 ?_
            refine zn_iadd hx hb dX2_worst_62 ?_
            refine lv_iconst (v := (nI 0)) hx hb dX2_worst_63 zk_0 ?_
            refine z_iast (f' := vI (updN (aV A) (3 + 2 * t + 1) 0)) hC hw 5 rfl (by omega) (by decide) (vI_upd _ _ _) dX2_worst_64 (fun H locs hw => ?_)
            have hw : zS G ((mo, zo 2 (mF q (f 1) (f 2) (f 3) (f 4) (f 5) (f 6) (f 7) (f 8) (f 14) (f 19))) :: (q 0, zc G 0 (zI 200 (b 0))) :: (q 9, zc G 0 (zI 46 (b 9))) :: (q 10, zc G 0 (zI 46 (b 10))) :: (q 11, zc G 0 (zI 46 (vI (aV A)))) :: (q 12, zc G 0 (zI 46 (vI (updN (aV A) (3 + 2 * t + 1) 0)))) :: (q 13, zc G 0 (zI 368 (b 13))) :: (q 15, zc G 0 (zI 92 (b 15))) :: (q 16, zc G 3 (zI 2 (b 16))) :: (q 17, zc G 0 (zI 5 af1)) :: (q 18, zc G 0 (zI 24 (b 18))) :: (q 20, zc G 0 (zI 3 (b 20))) :: (q 21, zc G 0 (zI 3 (b 21))) :: (q 22, zc G 0 (zI 3 (b 22))) :: (q 23, zc G 0 (zI 36 (b 23))) :: (q 24, zc G 0 (zI 36 (b 24))) :: rest) s H locs := hw
            refine lv_aload_n hx hb dX2_worst_65 rfl (lv_at hl 0 rfl) ?_
            refine lv_iload_n hx hb dX2_worst_66 rfl (lv_at hl 1 rfl) ?_
            refine z_cv (z_runV (As := [.int (nI k)]) (rest := []) hC zv_X2_207 (m_X2_goesOn G l mo q (f 1) (f 2) (f 3) (f 4) (f 5) (f 6) (f 7) (f 8) (f 14) (f 19) k (updN (aV A) (3 + 2 * t + 1) 0) hU1 af1 (by rw [updN_ne _ _ (by omega)]; omega) (by omega) (zrem [0, 5, 9] _)) hw (hw.perm (z_cut (is := [0, 5, 9]) (cells := [(mo, zo 2 (mF q (f 1) (f 2) (f 3) (f 4) (f 5) (f 6) (f 7) (f 8) (f 14) (f 19))), (q 12, zc G 0 (zI 46 (vI (updN (aV A) (3 + 2 * t + 1) 0)))), (q 17, zc G 0 (zI 5 af1))]) rfl rfl)) 0 rfl rfl rfl rfl rfl (Nat.le_of_ble_eq_true rfl) hl.1 ⟨Nat.le_of_ble_eq_true rfl, Nat.le_of_ble_eq_true rfl⟩ ⟨(Nat.le_of_ble_eq_true rfl), (Nat.le_of_ble_eq_true rfl)⟩ dX2_worst_67) hw (fun u => z_pput (is := [0, 5, 9]) (cells := [(mo, zo 2 (mF q (f 1) (f 2) (f 3) (f 4) (f 5) (f 6) (f 7) (f 8) (f 14) (f 19))), (q 12, zc G 0 (zI 46 (vI (updN (aV A) (3 + 2 * t + 1) 0)))), (q 17, zc G 0 (zI 5 af1))]) (cells' := [(mo, zo 2 (mF q (f 1) (f 2) (f 3) (f 4) (f 5) (f 6) (f 7) (f 8) (f 14) (f 19))), (q 12, zc G 0 (zI 46 (vI (daysN k (updN (aV A) (3 + 2 * t + 1) 0))))), (q 17, zc G 0 (zI 5 u))]) rfl rfl rfl) (fun u H locs hp hw => ?_)
            obtain ⟨af1_1, rfl⟩ : ∃ z, z = u := ⟨_, rfl⟩
            have hw : zS G ((mo, zo 2 (mF q (f 1) (f 2) (f 3) (f 4) (f 5) (f 6) (f 7) (f 8) (f 14) (f 19))) :: (q 0, zc G 0 (zI 200 (b 0))) :: (q 9, zc G 0 (zI 46 (b 9))) :: (q 10, zc G 0 (zI 46 (b 10))) :: (q 11, zc G 0 (zI 46 (vI (aV A)))) :: (q 12, zc G 0 (zI 46 (vI (daysN k (updN (aV A) (3 + 2 * t + 1) 0))))) :: (q 13, zc G 0 (zI 368 (b 13))) :: (q 15, zc G 0 (zI 92 (b 15))) :: (q 16, zc G 3 (zI 2 (b 16))) :: (q 17, zc G 0 (zI 5 af1_1)) :: (q 18, zc G 0 (zI 24 (b 18))) :: (q 20, zc G 0 (zI 3 (b 20))) :: (q 21, zc G 0 (zI 3 (b 21))) :: (q 22, zc G 0 (zI 3 (b 22))) :: (q 23, zc G 0 (zI 36 (b 23))) :: (q 24, zc G 0 (zI 36 (b 24))) :: rest) s H locs := hw
            refine lv_aload_n hx hb dX2_worst_70 rfl (lv_at hl 0 rfl) ?_
            refine z_get (v := .ref (q 12)) hC zf_X2_22_2 hw 0 rfl rfl dX2_worst_71 ?_
            refine z_ci (z_runS (As := [.ref (q 12)]) (rest := []) hC zs_X2_210 (m_X2_alive G l (q 12) (daysN k (updN (aV A) (3 + 2 * t + 1) 0)) hdk.1 (zrem [5] _)) (hw.perm (z_cut (is := [5]) (cells := [(q 12, zc G 0 (zI 46 (vI (daysN k (updN (aV A) (3 + 2 * t + 1) 0)))))]) rfl rfl)) rfl rfl (Nat.le_of_ble_eq_true rfl) hl.1 ⟨Nat.le_of_ble_eq_true rfl, Nat.le_of_ble_eq_true rfl⟩ ⟨(Nat.le_of_ble_eq_true rfl), (Nat.le_of_ble_eq_true rfl)⟩ dX2_worst_74) hw (fun _ => z_keep (is := [5]) (cs := [(q 12, zc G 0 (zI 46 (vI (daysN k (updN (aV A) (3 + 2 * t + 1) 0)))))]) rfl rfl) (fun r u H locs hp hw => ?_)
            obtain rfl : r = nI (aliveN (daysN k (updN (aV A) (3 + 2 * t + 1) 0))) := hp
            refine z_ci (z_runS (As := [.int (nI (aliveN (daysN k (updN (aV A) (3 + 2 * t + 1) 0))))]) (rest := []) hC zs_X2_213 (m_X2_ones G l (aliveN (daysN k (updN (aV A) (3 + 2 * t + 1) 0))) (aliveN_lt hdk.1) _) hw rfl rfl (Nat.le_of_ble_eq_true rfl) hl.1 ⟨Nat.le_of_ble_eq_true rfl, Nat.le_of_ble_eq_true rfl⟩ ⟨(Nat.le_of_ble_eq_true rfl), (Nat.le_of_ble_eq_true rfl)⟩ dX2_worst_77) hw (fun _ => List.Perm.refl _) (fun r u H locs hp hw => ?_)
            obtain rfl : r = nI (onesN (aliveN (daysN k (updN (aV A) (3 + 2 * t + 1) 0))) 9) := hp
            have hlv := liveN_le (updN (aV A) (3 + 2 * t + 1) 0) k
            refine lv_istore (lv' := [(6, .int (nI (liveN (updN (aV A) (3 + 2 * t + 1) 0) k))), (0, .ref mo), (1, .int (nI k)), (2, .int (nI j)), (3, .int (optI wh)), (4, .int (optI fe)), (5, .int (nI t))]) hx hb dX2_worst_80 hl (by decide) rfl (fun ls hl => ?_)
            rcases hso with ⟨rfl, rfl⟩ | ⟨w9, f9, rfl, rfl, hw9, hf9⟩
            · skip
              have hl : lv_has ls 8 [(6, .int (nI (liveN (updN (aV A) (3 + 2 * t + 1) 0) k))), (0, .ref mo), (1, .int (nI k)), (2, .int (nI j)), (3, .int (-1)), (4, .int (-1)), (5, .int (nI t))] := hl
              have hw : zS G ((mo, zo 2 (mF q (f 1) (f 2) (f 3) (f 4) (f 5) (f 6) (f 7) (f 8) (f 14) (f 19))) :: (q 0, zc G 0 (zI 200 (b 0))) :: (q 9, zc G 0 (zI 46 (b 9))) :: (q 10, zc G 0 (zI 46 (b 10))) :: (q 11, zc G 0 (zI 46 (vI (aV A)))) :: (q 12, zc G 0 (zI 46 (vI (daysN k (updN (aV A) (3 + 2 * t + 1) 0))))) :: (q 13, zc G 0 (zI 368 (b 13))) :: (q 15, zc G 0 (zI 92 (b 15))) :: (q 16, zc G 3 (zI 2 (b 16))) :: (q 17, zc G 0 (zI 5 af1_1)) :: (q 18, zc G 0 (zI 24 (b 18))) :: (q 20, zc G 0 (zI 3 (b 20))) :: (q 21, zc G 0 (zI 3 (b 21))) :: (q 22, zc G 0 (zI 3 (b 22))) :: (q 23, zc G 0 (zI 36 (b 23))) :: (q 24, zc G 0 (zI 36 (b 24))) :: rest) s H locs := hw
              refine lv_iload_n hx hb dX2_worst_82 rfl (lv_at hl 4 rfl) ?_
              refine lv_iconst (v := -1) hx hb dX2_worst_83 zk_m1 ?_
              refine lv_icmp_eq (tgt := 94) hx hb dX2_worst_84 (by decide) (fun _ => ?_) (fun h => absurd h (by decide))
              refine lv_iconst (v := (nI 1)) hx hb dX2_worst_94 zk_1 ?_
              refine lv_goto (tgt := 99) hx hb dX2_worst_95 (by decide) ?_
              refine lv_istore (lv' := [(7, .int (nI 1)), (6, .int (nI (liveN (updN (aV A) (3 + 2 * t + 1) 0) k))), (0, .ref mo), (1, .int (nI k)), (2, .int (nI j)), (3, .int (-1)), (4, .int (-1)), (5, .int (nI t))]) hx hb dX2_worst_99 hl (by decide) rfl (fun ls hl => ?_)
              refine lv_iload hx hb dX2_worst_101 (lv_at hl 0 rfl) ?_
              refine zj_eq (tgt := 111) hx hb (by decide) dX2_worst_103 (by decide) (fun h => absurd h (by decide)) (fun _ => ?_)
              refine lv_iload hx hb dX2_worst_106 (lv_at hl 7 rfl) ?_
              refine lv_goto (tgt := 112) hx hb dX2_worst_108 (by decide) ?_
              refine lv_istore_n (lv' := [(3, .int (nI t)), (7, .int (nI 1)), (6, .int (nI (liveN (updN (aV A) (3 + 2 * t + 1) 0) k))), (0, .ref mo), (1, .int (nI k)), (2, .int (nI j)), (4, .int (-1)), (5, .int (nI t))]) hx hb dX2_worst_112 rfl hl (by decide) rfl (fun ls hl => ?_)
              refine lv_iload hx hb dX2_worst_113 (lv_at hl 1 rfl) ?_
              refine zj_eq (tgt := 123) hx hb (by decide) dX2_worst_115 (by decide) (fun h => absurd h (by decide)) (fun _ => ?_)
              refine lv_iload hx hb dX2_worst_118 (lv_at hl 2 rfl) ?_
              refine lv_goto (tgt := 125) hx hb dX2_worst_120 (by decide) ?_
              refine lv_istore (lv' := [(4, .int (nI (liveN (updN (aV A) (3 + 2 * t + 1) 0) k))), (3, .int (nI t)), (7, .int (nI 1)), (6, .int (nI (liveN (updN (aV A) (3 + 2 * t + 1) 0) k))), (0, .ref mo), (1, .int (nI k)), (2, .int (nI j)), (5, .int (nI t))]) hx hb dX2_worst_125 hl (by decide) rfl (fun ls hl => ?_)
              refine lv_iinc (v := (nI (t + 1))) (lv' := [(5, .int (nI (t + 1))), (4, .int (nI (liveN (updN (aV A) (3 + 2 * t + 1) 0) k))), (3, .int (nI t)), (7, .int (nI 1)), (6, .int (nI (liveN (updN (aV A) (3 + 2 * t + 1) 0) k))), (0, .ref mo), (1, .int (nI k)), (2, .int (nI j))]) hx hb dX2_worst_127 hl (k := 7) rfl (zincn _ 1) (by decide) rfl (fun ls hl => ?_)
              refine lv_goto (tgt := 27) hx hb dX2_worst_130 (by decide) ?_
              exact ih_27 (t + 1) (some t) (some (liveN (updN (aV A) (3 + 2 * t + 1) 0) k)) (vI (daysN k (updN (aV A) (3 + 2 * t + 1) 0))) af1_1 (by have := hH.2.2.1 0; omega) (by first | exact woN_0 hwo | exact woN_t hwo c_91 | exact woN_f hwo (Nat.not_lt.mpr c_91)) (Or.inr ⟨_, _, rfl, rfl, by omega, by first | exact hlv | exact hf9⟩) (by have := hH.2.2.1 0; omega) H locs ls hw (lv_sub hl [5, 6, 7, 2, 1, 0] rfl)
            · skip
              have hl : lv_has ls 8 [(6, .int (nI (liveN (updN (aV A) (3 + 2 * t + 1) 0) k))), (0, .ref mo), (1, .int (nI k)), (2, .int (nI j)), (3, .int (nI w9)), (4, .int (nI f9)), (5, .int (nI t))] := hl
              have hw : zS G ((mo, zo 2 (mF q (f 1) (f 2) (f 3) (f 4) (f 5) (f 6) (f 7) (f 8) (f 14) (f 19))) :: (q 0, zc G 0 (zI 200 (b 0))) :: (q 9, zc G 0 (zI 46 (b 9))) :: (q 10, zc G 0 (zI 46 (b 10))) :: (q 11, zc G 0 (zI 46 (vI (aV A)))) :: (q 12, zc G 0 (zI 46 (vI (daysN k (updN (aV A) (3 + 2 * t + 1) 0))))) :: (q 13, zc G 0 (zI 368 (b 13))) :: (q 15, zc G 0 (zI 92 (b 15))) :: (q 16, zc G 3 (zI 2 (b 16))) :: (q 17, zc G 0 (zI 5 af1_1)) :: (q 18, zc G 0 (zI 24 (b 18))) :: (q 20, zc G 0 (zI 3 (b 20))) :: (q 21, zc G 0 (zI 3 (b 21))) :: (q 22, zc G 0 (zI 3 (b 22))) :: (q 23, zc G 0 (zI 36 (b 23))) :: (q 24, zc G 0 (zI 36 (b 24))) :: rest) s H locs := hw
              refine lv_iload_n hx hb dX2_worst_82 rfl (lv_at hl 4 rfl) ?_
              refine lv_iconst (v := -1) hx hb dX2_worst_83 zk_m1 ?_
              refine lv_icmp_eq (tgt := 94) hx hb dX2_worst_84 (by decide) (fun h => absurd h (nI_nm1 (by omega))) (fun _ => ?_)
              refine lv_iload hx hb dX2_worst_87 (lv_at hl 0 rfl) ?_
              refine lv_iload hx hb dX2_worst_89 (lv_at hl 5 rfl) ?_
              refine zi_ge (tgt := 98) hx hb (by have := hH.2.2.1 (3 + 2 * t + 1); omega) (by omega) dX2_worst_91 (by decide) (fun c_91 => ?_) (fun c_91 => ?_)
              · skip
                refine lv_iconst (v := (nI 0)) hx hb dX2_worst_98 zk_0 ?_
                refine lv_istore (lv' := [(7, .int (nI 0)), (6, .int (nI (liveN (updN (aV A) (3 + 2 * t + 1) 0) k))), (0, .ref mo), (1, .int (nI k)), (2, .int (nI j)), (3, .int (nI w9)), (4, .int (nI f9)), (5, .int (nI t))]) hx hb dX2_worst_99 hl (by decide) rfl (fun ls hl => ?_)
                refine lv_iload hx hb dX2_worst_101 (lv_at hl 0 rfl) ?_
                refine zj_eq (tgt := 111) hx hb (by decide) dX2_worst_103 (by decide) (fun _ => ?_) (fun h => absurd h (by decide))
                refine lv_iload_n hx hb dX2_worst_111 rfl (lv_at hl 5 rfl) ?_
                refine lv_istore_n (lv' := [(3, .int (nI w9)), (7, .int (nI 0)), (6, .int (nI (liveN (updN (aV A) (3 + 2 * t + 1) 0) k))), (0, .ref mo), (1, .int (nI k)), (2, .int (nI j)), (4, .int (nI f9)), (5, .int (nI t))]) hx hb dX2_worst_112 rfl hl (by decide) rfl (fun ls hl => ?_)
                refine lv_iload hx hb dX2_worst_113 (lv_at hl 1 rfl) ?_
                refine zj_eq (tgt := 123) hx hb (by decide) dX2_worst_115 (by decide) (fun _ => ?_) (fun h => absurd h (by decide))
                refine lv_iload hx hb dX2_worst_123 (lv_at hl 6 rfl) ?_
                refine lv_istore (lv' := [(4, .int (nI f9)), (3, .int (nI w9)), (7, .int (nI 0)), (6, .int (nI (liveN (updN (aV A) (3 + 2 * t + 1) 0) k))), (0, .ref mo), (1, .int (nI k)), (2, .int (nI j)), (5, .int (nI t))]) hx hb dX2_worst_125 hl (by decide) rfl (fun ls hl => ?_)
                refine lv_iinc (v := (nI (t + 1))) (lv' := [(5, .int (nI (t + 1))), (4, .int (nI f9)), (3, .int (nI w9)), (7, .int (nI 0)), (6, .int (nI (liveN (updN (aV A) (3 + 2 * t + 1) 0) k))), (0, .ref mo), (1, .int (nI k)), (2, .int (nI j))]) hx hb dX2_worst_127 hl (k := 7) rfl (zincn _ 1) (by decide) rfl (fun ls hl => ?_)
                refine lv_goto (tgt := 27) hx hb dX2_worst_130 (by decide) ?_
                exact ih_27 (t + 1) (some w9) (some f9) (vI (daysN k (updN (aV A) (3 + 2 * t + 1) 0))) af1_1 (by have := hH.2.2.1 0; omega) (by first | exact woN_0 hwo | exact woN_t hwo c_91 | exact woN_f hwo (Nat.not_lt.mpr c_91)) (Or.inr ⟨_, _, rfl, rfl, by omega, by first | exact hlv | exact hf9⟩) (by have := hH.2.2.1 0; omega) H locs ls hw (lv_sub hl [5, 6, 7, 2, 1, 0] rfl)
              · skip
                refine lv_iconst (v := (nI 1)) hx hb dX2_worst_94 zk_1 ?_
                refine lv_goto (tgt := 99) hx hb dX2_worst_95 (by decide) ?_
                refine lv_istore (lv' := [(7, .int (nI 1)), (6, .int (nI (liveN (updN (aV A) (3 + 2 * t + 1) 0) k))), (0, .ref mo), (1, .int (nI k)), (2, .int (nI j)), (3, .int (nI w9)), (4, .int (nI f9)), (5, .int (nI t))]) hx hb dX2_worst_99 hl (by decide) rfl (fun ls hl => ?_)
                refine lv_iload hx hb dX2_worst_101 (lv_at hl 0 rfl) ?_
                refine zj_eq (tgt := 111) hx hb (by decide) dX2_worst_103 (by decide) (fun h => absurd h (by decide)) (fun _ => ?_)
                refine lv_iload hx hb dX2_worst_106 (lv_at hl 7 rfl) ?_
                refine lv_goto (tgt := 112) hx hb dX2_worst_108 (by decide) ?_
                refine lv_istore_n (lv' := [(3, .int (nI t)), (7, .int (nI 1)), (6, .int (nI (liveN (updN (aV A) (3 + 2 * t + 1) 0) k))), (0, .ref mo), (1, .int (nI k)), (2, .int (nI j)), (4, .int (nI f9)), (5, .int (nI t))]) hx hb dX2_worst_112 rfl hl (by decide) rfl (fun ls hl => ?_)
                refine lv_iload hx hb dX2_worst_113 (lv_at hl 1 rfl) ?_
                refine zj_eq (tgt := 123) hx hb (by decide) dX2_worst_115 (by decide) (fun h => absurd h (by decide)) (fun _ => ?_)
                refine lv_iload hx hb dX2_worst_118 (lv_at hl 2 rfl) ?_
                refine lv_goto (tgt := 125) hx hb dX2_worst_120 (by decide) ?_
                refine lv_istore (lv' := [(4, .int (nI (liveN (updN (aV A) (3 + 2 * t + 1) 0) k))), (3, .int (nI t)), (7, .int (nI 1)), (6, .int (nI (liveN (updN (aV A) (3 + 2 * t + 1) 0) k))), (0, .ref mo), (1, .int (nI k)), (2, .int (nI j)), (5, .int (nI t))]) hx hb dX2_worst_125 hl (by decide) rfl (fun ls hl => ?_)
                refine lv_iinc (v := (nI (t + 1))) (lv' := [(5, .int (nI (t + 1))), (4, .int (nI (liveN (updN (aV A) (3 + 2 * t + 1) 0) k))), (3, .int (nI t)), (7, .int (nI 1)), (6, .int (nI (liveN (updN (aV A) (3 + 2 * t + 1) 0) k))), (0, .ref mo), (1, .int (nI k)), (2, .int (nI j))]) hx hb dX2_worst_127 hl (k := 7) rfl (zincn _ 1) (by decide) rfl (fun ls hl => ?_)
                refine lv_goto (tgt := 27) hx hb dX2_worst_130 (by decide) ?_
                exact ih_27 (t + 1) (some t) (some (liveN (updN (aV A) (3 + 2 * t + 1) 0) k)) (vI (daysN k (updN (aV A) (3 + 2 * t + 1) 0))) af1_1 (by have := hH.2.2.1 0; omega) (by first | exact woN_0 hwo | exact woN_t hwo c_91 | exact woN_f hwo (Nat.not_lt.mpr c_91)) (Or.inr ⟨_, _, rfl, rfl, by omega, by first | exact hlv | exact hf9⟩) (by have := hH.2.2.1 0; omega) H locs ls hw (lv_sub hl [5, 6, 7, 2, 1, 0] rfl)
      exact loop_27 (((aV A) 0 - 0) + 1) 0 none none (b 12) (b 17) (by have := hH.2.2.1 0; omega) rfl (Or.inl ⟨rfl, rfl⟩) (Nat.lt_succ_self _) H locs ls hw (lv_sub hl [3, 4, 5, 2, 1, 0] rfl)
    · skip
      refine lv_bipush (v := (-3)) hx hb dX2_worst_16 zb_m3 ?_
      exact hend _ _ _ _ _ _ _ ((bU b 11 (vI (aV A))), mf (f 1) (f 2) (f 3) (f 4) (f 5) (f 6) (f 7) (f 8) (f 14) (f 19)) hw ⟨(by first | exact (ifP_f (fun h => c_4 h.1)).symm | exact (ifP_f (fun h => c_13 h.2)).symm), ⟨⟨hT, hL⟩, hV0, rH_vI, ⟨hU, hUs⟩, hKp, ⟨hSi, hSg⟩, (fun t ht => tRel_of rfl rfl rfl rfl rfl (hTr t ht))⟩⟩ (by omega) (by omega) dX2_worst_18
theorem whIn_skip {v : Nat → Nat} {n i t : Nat} {st : Option Nat × Nat} (h : goneN v i ∨ (v (21 + 5 * i + 4)).testBit t = true) : whIn v n i st (t + 1) = whIn v n i st t := by
  rw [whIn, if_neg]
  rintro ⟨a, b⟩
  exact h.elim (fun h => a h) b
theorem whIn_go {v : Nat → Nat} {n i t : Nat} {st : Option Nat × Nat} {w : Option Nat} {mo : Nat} (hst : whIn v n i st t = (w, mo)) (h1 : ¬ goneN v i) (h2 : ¬ (v (21 + 5 * i + 4)).testBit t = true) : whIn v n i st (t + 1) = (if mo < liveN (updN v (21 + 5 * i + 4) (v (21 + 5 * i + 4) ||| 2 ^ t)) n then some (10 * i + t) else w, if mo < liveN (updN v (21 + 5 * i + 4) (v (21 + 5 * i + 4) ||| 2 ^ t)) n then liveN (updN v (21 + 5 * i + 4) (v (21 + 5 * i + 4) ||| 2 ^ t)) n else mo) := by
  rw [whIn, if_pos ⟨h1, h2⟩, hst]
  split <;> rfl
set_option maxHeartbeats 4000000 in
theorem m_X2_whisper (G : zE) (l : Launch) (mo : Nat) (q : Nat → Nat) (A : AS) (b : Nat → Nat → Int32) (f : Nat → Int32) (hA : AOk A) (hM : MRel A b f) (x : Int32) (rest : va_W) : zMi G l yX2_whisper cX2_whisper 7 (some .int) 6 0 0 [.ref mo, .int x] ((mo, zo 2 (mF q (f 1) (f 2) (f 3) (f 4) (f 5) (f 6) (f 7) (f 8) (f 14) (f 19))) :: (q 0, zc G 0 (zI 200 (b 0))) :: (q 9, zc G 0 (zI 46 (b 9))) :: (q 10, zc G 0 (zI 46 (b 10))) :: (q 11, zc G 0 (zI 46 (b 11))) :: (q 12, zc G 0 (zI 46 (b 12))) :: (q 13, zc G 0 (zI 368 (b 13))) :: (q 15, zc G 0 (zI 92 (b 15))) :: (q 16, zc G 3 (zI 2 (b 16))) :: (q 17, zc G 0 (zI 5 (b 17))) :: (q 18, zc G 0 (zI 24 (b 18))) :: (q 20, zc G 0 (zI 3 (b 20))) :: (q 21, zc G 0 (zI 3 (b 21))) :: (q 22, zc G 0 (zI 3 (b 22))) :: (q 23, zc G 0 (zI 36 (b 23))) :: (q 24, zc G 0 (zI 36 (b 24))) :: rest) (fun (r : Int32) (u : MB) => r = F_whisper A x ∧ MRel A u.1 u.2) (fun (u : MB) => (mo, zo 2 (mF q (u.2 1) (u.2 2) (u.2 3) (u.2 4) (u.2 5) (u.2 6) (u.2 7) (u.2 8) (u.2 14) (u.2 19))) :: (q 0, zc G 0 (zI 200 (u.1 0))) :: (q 9, zc G 0 (zI 46 (u.1 9))) :: (q 10, zc G 0 (zI 46 (u.1 10))) :: (q 11, zc G 0 (zI 46 (u.1 11))) :: (q 12, zc G 0 (zI 46 (u.1 12))) :: (q 13, zc G 0 (zI 368 (u.1 13))) :: (q 15, zc G 0 (zI 92 (u.1 15))) :: (q 16, zc G 3 (zI 2 (u.1 16))) :: (q 17, zc G 0 (zI 5 (u.1 17))) :: (q 18, zc G 0 (zI 24 (u.1 18))) :: (q 20, zc G 0 (zI 3 (u.1 20))) :: (q 21, zc G 0 (zI 3 (u.1 21))) :: (q 22, zc G 0 (zI 3 (u.1 22))) :: (q 23, zc G 0 (zI 36 (u.1 23))) :: (q 24, zc G 0 (zI 36 (u.1 24))) :: rest) := by
  refine z_begI (by decide) (Nat.le_of_ble_eq_true rfl) (fun p e s m args below meth c ls Q hC hl hw hend => ?_)
  have hx := hC.hx
  have hb := hC.hb
  have hl : lv_has ls 7 [(0, .ref mo), (1, .int x)] := hl
  have hw : zS G ((mo, zo 2 (mF q (f 1) (f 2) (f 3) (f 4) (f 5) (f 6) (f 7) (f 8) (f 14) (f 19))) :: (q 0, zc G 0 (zI 200 (b 0))) :: (q 9, zc G 0 (zI 46 (b 9))) :: (q 10, zc G 0 (zI 46 (b 10))) :: (q 11, zc G 0 (zI 46 (b 11))) :: (q 12, zc G 0 (zI 46 (b 12))) :: (q 13, zc G 0 (zI 368 (b 13))) :: (q 15, zc G 0 (zI 92 (b 15))) :: (q 16, zc G 3 (zI 2 (b 16))) :: (q 17, zc G 0 (zI 5 (b 17))) :: (q 18, zc G 0 (zI 24 (b 18))) :: (q 20, zc G 0 (zI 3 (b 20))) :: (q 21, zc G 0 (zI 3 (b 21))) :: (q 22, zc G 0 (zI 3 (b 22))) :: (q 23, zc G 0 (zI 36 (b 23))) :: (q 24, zc G 0 (zI 36 (b 24))) :: rest) s s.heap [] := hw
  have hA9 := hA
  obtain ⟨⟨hT, hL⟩, hV0, hV, ⟨hU, hUs⟩, hKp, ⟨hSi, hSg⟩, hTr⟩ := hM
  obtain ⟨⟨hL2, hT2⟩, hB0, hBv, ⟨hU8, hUb⟩, hKb, ⟨hS6, hSb⟩, hTb⟩ := hA
  have hH : Hw (aV A) := hBv.1.1
  have hday := hBv.2.2
  have hw := hw.cellI 4 rfl (g := vI (aV A)) (fun j hj => by have := hV j hj; rwa [Nat.zero_add] at this)
  have hw : zS G ((mo, zo 2 (mF q (f 1) (f 2) (f 3) (f 4) (f 5) (f 6) (f 7) (f 8) (f 14) (f 19))) :: (q 0, zc G 0 (zI 200 (b 0))) :: (q 9, zc G 0 (zI 46 (b 9))) :: (q 10, zc G 0 (zI 46 (b 10))) :: (q 11, zc G 0 (zI 46 (vI (aV A)))) :: (q 12, zc G 0 (zI 46 (b 12))) :: (q 13, zc G 0 (zI 368 (b 13))) :: (q 15, zc G 0 (zI 92 (b 15))) :: (q 16, zc G 3 (zI 2 (b 16))) :: (q 17, zc G 0 (zI 5 (b 17))) :: (q 18, zc G 0 (zI 24 (b 18))) :: (q 20, zc G 0 (zI 3 (b 20))) :: (q 21, zc G 0 (zI 3 (b 21))) :: (q 22, zc G 0 (zI 3 (b 22))) :: (q 23, zc G 0 (zI 36 (b 23))) :: (q 24, zc G 0 (zI 36 (b 24))) :: rest) s s.heap [] := hw
  refine lv_iload_n hx hb dX2_whisper_0 rfl (lv_at hl 1 rfl) ?_
  refine z_ci (z_runS (As := [.int x]) (rest := []) hC zs_X2_216 (m_X2_isNear G l x _) hw rfl rfl (Nat.le_of_ble_eq_true rfl) hl.1 ⟨Nat.le_of_ble_eq_true rfl, Nat.le_of_ble_eq_true rfl⟩ ⟨(Nat.le_of_ble_eq_true rfl), (Nat.le_of_ble_eq_true rfl)⟩ dX2_whisper_1) hw (fun _ => List.Perm.refl _) (fun r u H locs hp hw => ?_)
  obtain rfl : r = bI (inR x 1 20) := hp
  refine zb_ne (tgt := 10) hx hb dX2_whisper_4 (by decide) (fun c_4 => ?_) (fun c_4 => ?_)
  · skip
    obtain ⟨k, hk1, hk2, rfl⟩ := c_4
    have hl : lv_has ls 7 [(0, .ref mo), (1, .int (nI k))] := hl
    have hp9 := hH.1
    have hp5 := hH.2.1
    have hd0 := daysN_inv hH k (by omega)
    refine lv_aload_n hx hb dX2_whisper_10 rfl (lv_at hl 0 rfl) ?_
    refine z_get (v := .ref (q 11)) hC zf_X2_19_2 hw 0 rfl rfl dX2_whisper_11 ?_
    refine lv_iconst (v := (nI 0)) hx hb dX2_whisper_14 zk_0 ?_
    refine lv_aload_n hx hb dX2_whisper_15 rfl (lv_at hl 0 rfl) ?_
    refine z_get (v := .ref (q 12)) hC zf_X2_22_2 hw 0 rfl rfl dX2_whisper_16 ?_
    refine lv_iconst (v := (nI 0)) hx hb dX2_whisper_19 zk_0 ?_
    refine z_cv (z_runS (As := [.ref (q 11), .int (nI 0), .ref (q 12), .int (nI 0)]) (rest := []) hC zs_X2_130 (m_X2_copies G l (q 11) (q 12) 0 0 46 46 (vI (aV A)) (b 12) (by omega) (by omega) (by decide) (by decide) (zrem [4, 5] _)) (hw.perm (z_cut (is := [4, 5]) (cells := [(q 11, zc G 0 (zI 46 (vI (aV A)))), (q 12, zc G 0 (zI 46 (b 12)))]) rfl rfl)) rfl rfl (Nat.le_of_ble_eq_true rfl) hl.1 ⟨Nat.le_of_ble_eq_true rfl, Nat.le_of_ble_eq_true rfl⟩ ⟨(Nat.le_of_ble_eq_true rfl), (Nat.le_of_ble_eq_true rfl)⟩ dX2_whisper_20) hw (fun _ => z_pput (is := [4, 5]) (cells := [(q 11, zc G 0 (zI 46 (vI (aV A)))), (q 12, zc G 0 (zI 46 (b 12)))]) (cells' := [(q 11, zc G 0 (zI 46 (vI (aV A)))), (q 12, zc G 0 (zI 46 (va_cpy (vI (aV A)) (b 12) 0 0 46)))]) rfl rfl rfl) (fun u H locs hp hw => ?_)
    have hw : zS G ((mo, zo 2 (mF q (f 1) (f 2) (f 3) (f 4) (f 5) (f 6) (f 7) (f 8) (f 14) (f 19))) :: (q 0, zc G 0 (zI 200 (b 0))) :: (q 9, zc G 0 (zI 46 (b 9))) :: (q 10, zc G 0 (zI 46 (b 10))) :: (q 11, zc G 0 (zI 46 (vI (aV A)))) :: (q 12, zc G 0 (zI 46 (va_cpy (vI (aV A)) (b 12) 0 0 46))) :: (q 13, zc G 0 (zI 368 (b 13))) :: (q 15, zc G 0 (zI 92 (b 15))) :: (q 16, zc G 3 (zI 2 (b 16))) :: (q 17, zc G 0 (zI 5 (b 17))) :: (q 18, zc G 0 (zI 24 (b 18))) :: (q 20, zc G 0 (zI 3 (b 20))) :: (q 21, zc G 0 (zI 3 (b 21))) :: (q 22, zc G 0 (zI 3 (b 22))) :: (q 23, zc G 0 (zI 36 (b 23))) :: (q 24, zc G 0 (zI 36 (b 24))) :: rest) s H locs := hw
    have hw := hw.cellI 5 rfl (g := vI (aV A)) (fun j hj => cpy_hedge hj)
    have hw : zS G ((mo, zo 2 (mF q (f 1) (f 2) (f 3) (f 4) (f 5) (f 6) (f 7) (f 8) (f 14) (f 19))) :: (q 0, zc G 0 (zI 200 (b 0))) :: (q 9, zc G 0 (zI 46 (b 9))) :: (q 10, zc G 0 (zI 46 (b 10))) :: (q 11, zc G 0 (zI 46 (vI (aV A)))) :: (q 12, zc G 0 (zI 46 (vI (aV A)))) :: (q 13, zc G 0 (zI 368 (b 13))) :: (q 15, zc G 0 (zI 92 (b 15))) :: (q 16, zc G 3 (zI 2 (b 16))) :: (q 17, zc G 0 (zI 5 (b 17))) :: (q 18, zc G 0 (zI 24 (b 18))) :: (q 20, zc G 0 (zI 3 (b 20))) :: (q 21, zc G 0 (zI 3 (b 21))) :: (q 22, zc G 0 (zI 3 (b 22))) :: (q 23, zc G 0 (zI 36 (b 23))) :: (q 24, zc G 0 (zI 36 (b 24))) :: rest) s H locs := hw
    refine lv_aload_n hx hb dX2_whisper_23 rfl (lv_at hl 0 rfl) ?_
    refine lv_iload_n hx hb dX2_whisper_24 rfl (lv_at hl 1 rfl) ?_
    refine z_cv (z_runV (As := [.int (nI k)]) (rest := []) hC zv_X2_207 (m_X2_goesOn G l mo q (f 1) (f 2) (f 3) (f 4) (f 5) (f 6) (f 7) (f 8) (f 14) (f 19) k (aV A) hH (b 17) (by omega) (by omega) (zrem [0, 5, 9] _)) hw (hw.perm (z_cut (is := [0, 5, 9]) (cells := [(mo, zo 2 (mF q (f 1) (f 2) (f 3) (f 4) (f 5) (f 6) (f 7) (f 8) (f 14) (f 19))), (q 12, zc G 0 (zI 46 (vI (aV A)))), (q 17, zc G 0 (zI 5 (b 17)))]) rfl rfl)) 0 rfl rfl rfl rfl rfl (Nat.le_of_ble_eq_true rfl) hl.1 ⟨Nat.le_of_ble_eq_true rfl, Nat.le_of_ble_eq_true rfl⟩ ⟨(Nat.le_of_ble_eq_true rfl), (Nat.le_of_ble_eq_true rfl)⟩ dX2_whisper_25) hw (fun u => z_pput (is := [0, 5, 9]) (cells := [(mo, zo 2 (mF q (f 1) (f 2) (f 3) (f 4) (f 5) (f 6) (f 7) (f 8) (f 14) (f 19))), (q 12, zc G 0 (zI 46 (vI (aV A)))), (q 17, zc G 0 (zI 5 (b 17)))]) (cells' := [(mo, zo 2 (mF q (f 1) (f 2) (f 3) (f 4) (f 5) (f 6) (f 7) (f 8) (f 14) (f 19))), (q 12, zc G 0 (zI 46 (vI (daysN k (aV A))))), (q 17, zc G 0 (zI 5 u))]) rfl rfl rfl) (fun u H locs hp hw => ?_)
    obtain ⟨af1_1, rfl⟩ : ∃ z, z = u := ⟨_, rfl⟩
    have hw : zS G ((mo, zo 2 (mF q (f 1) (f 2) (f 3) (f 4) (f 5) (f 6) (f 7) (f 8) (f 14) (f 19))) :: (q 0, zc G 0 (zI 200 (b 0))) :: (q 9, zc G 0 (zI 46 (b 9))) :: (q 10, zc G 0 (zI 46 (b 10))) :: (q 11, zc G 0 (zI 46 (vI (aV A)))) :: (q 12, zc G 0 (zI 46 (vI (daysN k (aV A))))) :: (q 13, zc G 0 (zI 368 (b 13))) :: (q 15, zc G 0 (zI 92 (b 15))) :: (q 16, zc G 3 (zI 2 (b 16))) :: (q 17, zc G 0 (zI 5 af1_1)) :: (q 18, zc G 0 (zI 24 (b 18))) :: (q 20, zc G 0 (zI 3 (b 20))) :: (q 21, zc G 0 (zI 3 (b 21))) :: (q 22, zc G 0 (zI 3 (b 22))) :: (q 23, zc G 0 (zI 36 (b 23))) :: (q 24, zc G 0 (zI 36 (b 24))) :: rest) s H locs := hw
    refine lv_aload_n hx hb dX2_whisper_28 rfl (lv_at hl 0 rfl) ?_
    refine z_get (v := .ref (q 12)) hC zf_X2_22_2 hw 0 rfl rfl dX2_whisper_29 ?_
    refine z_ci (z_runS (As := [.ref (q 12)]) (rest := []) hC zs_X2_210 (m_X2_alive G l (q 12) (daysN k (aV A)) hd0.1 (zrem [5] _)) (hw.perm (z_cut (is := [5]) (cells := [(q 12, zc G 0 (zI 46 (vI (daysN k (aV A)))))]) rfl rfl)) rfl rfl (Nat.le_of_ble_eq_true rfl) hl.1 ⟨Nat.le_of_ble_eq_true rfl, Nat.le_of_ble_eq_true rfl⟩ ⟨(Nat.le_of_ble_eq_true rfl), (Nat.le_of_ble_eq_true rfl)⟩ dX2_whisper_32) hw (fun _ => z_keep (is := [5]) (cs := [(q 12, zc G 0 (zI 46 (vI (daysN k (aV A)))))]) rfl rfl) (fun r u H locs hp hw => ?_)
    obtain rfl : r = nI (aliveN (daysN k (aV A))) := hp
    refine z_ci (z_runS (As := [.int (nI (aliveN (daysN k (aV A))))]) (rest := []) hC zs_X2_213 (m_X2_ones G l (aliveN (daysN k (aV A))) (aliveN_lt hd0.1) _) hw rfl rfl (Nat.le_of_ble_eq_true rfl) hl.1 ⟨Nat.le_of_ble_eq_true rfl, Nat.le_of_ble_eq_true rfl⟩ ⟨(Nat.le_of_ble_eq_true rfl), (Nat.le_of_ble_eq_true rfl)⟩ dX2_whisper_35) hw (fun _ => List.Perm.refl _) (fun r u H locs hp hw => ?_)
    obtain rfl : r = nI (onesN (aliveN (daysN k (aV A))) 9) := hp
    have hlv := liveN_le (aV A) k
    refine lv_istore_n (lv' := [(2, .int (nI ((liveN (aV A) k)))), (0, .ref mo), (1, .int (nI k))]) hx hb dX2_whisper_38 rfl hl (by decide) rfl (fun ls hl => ?_)
    refine lv_iconst (v := -1) hx hb dX2_whisper_39 zk_m1 ?_
    refine lv_istore_n (lv' := [(3, .int (-1)), (2, .int (nI ((liveN (aV A) k)))), (0, .ref mo), (1, .int (nI k))]) hx hb dX2_whisper_40 rfl hl (by decide) rfl (fun ls hl => ?_)
    refine lv_iconst (v := (nI 0)) hx hb dX2_whisper_41 zk_0 ?_
    refine lv_istore (lv' := [(4, .int (nI 0)), (3, .int (-1)), (2, .int (nI ((liveN (aV A) k)))), (0, .ref mo), (1, .int (nI k))]) hx hb dX2_whisper_42 hl (by decide) rfl (fun ls hl => ?_)
    have loop_44 : ∀ (fuel : Nat) (i : Nat) (wh : Option Nat) (most : Nat) (tf : Nat → Int32) (af1 : Nat → Int32), (i ≤ (aV A) 1) → (most ≤ 9) → (whOut (aV A) k i = (wh, most)) → ((aV A) 1 - i) < fuel → ∀ (H : Heap) (locs : List Loc) (ls : Array Slot), zS G ((mo, zo 2 (mF q (f 1) (f 2) (f 3) (f 4) (f 5) (f 6) (f 7) (f 8) (f 14) (f 19))) :: (q 0, zc G 0 (zI 200 (b 0))) :: (q 9, zc G 0 (zI 46 (b 9))) :: (q 10, zc G 0 (zI 46 (b 10))) :: (q 11, zc G 0 (zI 46 (vI (aV A)))) :: (q 12, zc G 0 (zI 46 tf)) :: (q 13, zc G 0 (zI 368 (b 13))) :: (q 15, zc G 0 (zI 92 (b 15))) :: (q 16, zc G 3 (zI 2 (b 16))) :: (q 17, zc G 0 (zI 5 af1)) :: (q 18, zc G 0 (zI 24 (b 18))) :: (q 20, zc G 0 (zI 3 (b 20))) :: (q 21, zc G 0 (zI 3 (b 21))) :: (q 22, zc G 0 (zI 3 (b 22))) :: (q 23, zc G 0 (zI 36 (b 23))) :: (q 24, zc G 0 (zI 36 (b 24))) :: rest) s H locs → lv_has ls 7 [(0, .ref mo), (1, .int (nI k)), (2, .int (nI most)), (3, .int (optI wh)), (4, .int (nI i))] → W p l e (zR 6 0 0) s m args below meth c H locs 0 0 Q (F0 m 44 ls []) := by
      intro fuel
      induction fuel with
      | zero => intro i wh most tf af1 hi hm9 hwo hfuel; exact absurd hfuel (Nat.not_lt_zero _)
      | succ fuel_44 ih_44 =>
        intro i wh most tf af1 hi hm9 hwo hfuel_44 H locs ls hw hl
        refine lv_iload hx hb dX2_whisper_44 (lv_at hl 4 rfl) ?_
        refine lv_aload_n hx hb dX2_whisper_46 rfl (lv_at hl 0 rfl) ?_
        refine z_get (v := .ref (q 11)) hC zf_X2_19_2 hw 0 rfl rfl dX2_whisper_47 ?_
        refine lv_iconst (v := (nI 1)) hx hb dX2_whisper_50 zk_1 ?_
        refine z_iald (x := (nI ((aV A) 1))) hC hw 4 rfl (by decide) (by decide) rfl dX2_whisper_51 ?_
        refine zi_ge (tgt := 198) hx hb (by omega) (by have := hH.2.2.1 1; omega) dX2_whisper_52 (by decide) (fun c_52 => ?_) (fun c_52 => ?_)
        · skip
          refine lv_iload_n hx hb dX2_whisper_198 rfl (lv_at hl 3 rfl) ?_
          exact hend _ _ _ _ _ _ _ ((bU (bU (bU b 11 (vI (aV A))) 12 tf) 17 af1), mf (f 1) (f 2) (f 3) (f 4) (f 5) (f 6) (f 7) (f 8) (f 14) (f 19)) hw ⟨(by unfold F_whisper; rw [ifP_t ⟨k, hk1, hk2, rfl⟩, cl_nI (by omega), show aV A 1 = i by omega, hwo]), ⟨⟨hT, hL⟩, hV0, rH_vI, ⟨hU, hUs⟩, hKp, ⟨hSi, hSg⟩, (fun t ht => tRel_of rfl rfl rfl rfl rfl (hTr t ht))⟩⟩ (by omega) (by omega) dX2_whisper_199
        · skip
          refine lv_iconst (v := (nI 0)) hx hb dX2_whisper_55 zk_0 ?_
          refine lv_istore (lv' := [(5, .int (nI 0)), (0, .ref mo), (1, .int (nI k)), (2, .int (nI most)), (3, .int (optI wh)), (4, .int (nI i))]) hx hb dX2_whisper_56 hl (by decide) rfl (fun ls hl => ?_)
          have loop_58 : ∀ (fuel : Nat) (t : Nat) (wh1 : Option Nat) (most1 : Nat) (tf1 : Nat → Int32) (af2 : Nat → Int32), (t ≤ (aV A) 0) → (most1 ≤ 9) → (whIn (aV A) k i (wh, most) t = (wh1, most1)) → ((aV A) 0 - t) < fuel → ∀ (H : Heap) (locs : List Loc) (ls : Array Slot), zS G ((mo, zo 2 (mF q (f 1) (f 2) (f 3) (f 4) (f 5) (f 6) (f 7) (f 8) (f 14) (f 19))) :: (q 0, zc G 0 (zI 200 (b 0))) :: (q 9, zc G 0 (zI 46 (b 9))) :: (q 10, zc G 0 (zI 46 (b 10))) :: (q 11, zc G 0 (zI 46 (vI (aV A)))) :: (q 12, zc G 0 (zI 46 tf1)) :: (q 13, zc G 0 (zI 368 (b 13))) :: (q 15, zc G 0 (zI 92 (b 15))) :: (q 16, zc G 3 (zI 2 (b 16))) :: (q 17, zc G 0 (zI 5 af2)) :: (q 18, zc G 0 (zI 24 (b 18))) :: (q 20, zc G 0 (zI 3 (b 20))) :: (q 21, zc G 0 (zI 3 (b 21))) :: (q 22, zc G 0 (zI 3 (b 22))) :: (q 23, zc G 0 (zI 36 (b 23))) :: (q 24, zc G 0 (zI 36 (b 24))) :: rest) s H locs → lv_has ls 7 [(0, .ref mo), (1, .int (nI k)), (2, .int (nI most1)), (3, .int (optI wh1)), (4, .int (nI i)), (5, .int (nI t))] → W p l e (zR 6 0 0) s m args below meth c H locs 0 0 Q (F0 m 58 ls []) := by
            intro fuel
            induction fuel with
            | zero => intro t wh1 most1 tf1 af2 ht hm8 hin hfuel; exact absurd hfuel (Nat.not_lt_zero _)
            | succ fuel_58 ih_58 =>
              intro t wh1 most1 tf1 af2 ht hm8 hin hfuel_58 H locs ls hw hl
              refine lv_iload hx hb dX2_whisper_58 (lv_at hl 5 rfl) ?_
              refine lv_aload_n hx hb dX2_whisper_60 rfl (lv_at hl 0 rfl) ?_
              refine z_get (v := .ref (q 11)) hC zf_X2_19_2 hw 0 rfl rfl dX2_whisper_61 ?_
              refine lv_iconst (v := (nI 0)) hx hb dX2_whisper_64 zk_0 ?_
              refine z_iald (x := (nI ((aV A) 0))) hC hw 4 rfl (by decide) (by decide) rfl dX2_whisper_65 ?_
              refine zi_ge (tgt := 192) hx hb (by omega) (by have := hH.2.2.1 0; omega) dX2_whisper_66 (by decide) (fun c_66 => ?_) (fun c_66 => ?_)
              · skip
                refine lv_iinc (v := (nI (i + 1))) (lv' := [(4, .int (nI (i + 1))), (0, .ref mo), (1, .int (nI k)), (2, .int (nI most1)), (3, .int (optI wh1)), (5, .int (nI t))]) hx hb dX2_whisper_192 hl (k := 4) rfl (zincn _ 1) (by decide) rfl (fun ls hl => ?_)
                refine lv_goto (tgt := 44) hx hb dX2_whisper_195 (by decide) ?_
                exact ih_44 (i + 1) wh1 most1 tf1 af2 (by have := hH.2.2.1 1; omega) hm8 (by rw [whOut, hwo, show aV A 0 = t by omega]; exact hin) (by have := hH.2.2.1 1; omega) H locs ls hw (lv_sub hl [1, 2, 3, 4, 0] rfl)
              · skip
                refine lv_aload_n hx hb dX2_whisper_69 rfl (lv_at hl 0 rfl) ?_
                refine z_get (v := .ref (q 11)) hC zf_X2_19_2 hw 0 rfl rfl dX2_whisper_70 ?_
                refine lv_iload hx hb dX2_whisper_73 (lv_at hl 4 rfl) ?_
                refine z_ci (z_runS (As := [.ref (q 11), .int (nI i)]) (rest := []) hC zs_X2_174 (m_X2_isGone G l (q 11) (aV A) i hH (by omega) (zrem [4] _)) (hw.perm (z_cut (is := [4]) (cells := [(q 11, zc G 0 (zI 46 (vI (aV A))))]) rfl rfl)) rfl rfl (Nat.le_of_ble_eq_true rfl) hl.1 ⟨Nat.le_of_ble_eq_true rfl, Nat.le_of_ble_eq_true rfl⟩ ⟨(Nat.le_of_ble_eq_true rfl), (Nat.le_of_ble_eq_true rfl)⟩ dX2_whisper_75) hw (fun _ => z_keep (is := [4]) (cs := [(q 11, zc G 0 (zI 46 (vI (aV A))))]) rfl rfl) (fun r u H locs hp hw => ?_)
                obtain rfl : r = bI (goneN (aV A) i) := hp
                refine zb_ne (tgt := 186) hx hb dX2_whisper_78 (by decide) (fun c_78 => ?_) (fun c_78 => ?_)
                · skip
                  refine lv_iinc (v := (nI (t + 1))) (lv' := [(5, .int (nI (t + 1))), (0, .ref mo), (1, .int (nI k)), (2, .int (nI most1)), (3, .int (optI wh1)), (4, .int (nI i))]) hx hb dX2_whisper_186 hl (k := 5) rfl (zincn _ 1) (by decide) rfl (fun ls hl => ?_)
                  refine lv_goto (tgt := 58) hx hb dX2_whisper_189 (by decide) ?_
                  exact ih_58 (t + 1) wh1 most1 tf1 af2 (by have := hH.2.2.1 0; omega) (by first | exact hm8 | exact hy) (by first | exact (whIn_skip (Or.inl c_78)).trans hin | exact (whIn_skip (Or.inr c_100)).trans hin | (rw [hyx]; exact whIn_go hin c_78 c_100)) (by have := hH.2.2.1 0; omega) H locs ls hw (lv_sub hl [1, 2, 3, 4, 5, 0] rfl)
                · skip
                  refine lv_aload_n hx hb dX2_whisper_81 rfl (lv_at hl 0 rfl) ?_
                  refine z_get (v := .ref (q 11)) hC zf_X2_19_2 hw 0 rfl rfl dX2_whisper_82 ?_
                  refine lv_bipush (v := (nI 21)) hx hb dX2_whisper_85 zb_21 ?_
                  refine lv_iconst (v := (nI 5)) hx hb dX2_whisper_87 zk_5 ?_
                  refine lv_iload hx hb dX2_whisper_88 (lv_at hl 4 rfl) ?_
                  refine zn_imul hx hb dX2_whisper_90 ?_
                  refine zn_iadd hx hb dX2_whisper_91 ?_
                  refine lv_iconst (v := (nI 4)) hx hb dX2_whisper_92 zk_4 ?_
                  refine zn_iadd hx hb dX2_whisper_93 ?_
                  refine z_iald (x := (nI ((aV A) (21 + 5 * i + 4)))) hC hw 4 rfl (by omega) (by decide) rfl dX2_whisper_94 ?_
                  refine lv_iload hx hb dX2_whisper_95 (lv_at hl 5 rfl) ?_
                  refine z_ci (z_runS (As := [.int (nI ((aV A) (21 + 5 * i + 4))), .int (nI t)]) (rest := []) hC zs_X2_152 (m_X2_has G l ((aV A) (21 + 5 * i + 4)) t (by have := hH.2.2.1 (21 + 5 * i + 4); omega) (by omega) _) hw rfl rfl (Nat.le_of_ble_eq_true rfl) hl.1 ⟨Nat.le_of_ble_eq_true rfl, Nat.le_of_ble_eq_true rfl⟩ ⟨(Nat.le_of_ble_eq_true rfl), (Nat.le_of_ble_eq_true rfl)⟩ dX2_whisper_97) hw (fun _ => List.Perm.refl _) (fun r u H locs hp hw => ?_)
                  obtain rfl : r = bI (((aV A) (21 + 5 * i + 4)).testBit t = true) := hp
                  refine zb_ne (tgt := 186) hx hb dX2_whisper_100 (by decide) (fun c_100 => ?_) (fun c_100 => ?_)
                  · skip
                    refine lv_iinc (v := (nI (t + 1))) (lv' := [(5, .int (nI (t + 1))), (0, .ref mo), (1, .int (nI k)), (2, .int (nI most1)), (3, .int (optI wh1)), (4, .int (nI i))]) hx hb dX2_whisper_186 hl (k := 5) rfl (zincn _ 1) (by decide) rfl (fun ls hl => ?_)
                    refine lv_goto (tgt := 58) hx hb dX2_whisper_189 (by decide) ?_
                    exact ih_58 (t + 1) wh1 most1 tf1 af2 (by have := hH.2.2.1 0; omega) (by first | exact hm8 | exact hy) (by first | exact (whIn_skip (Or.inl c_78)).trans hin | exact (whIn_skip (Or.inr c_100)).trans hin | (rw [hyx]; exact whIn_go hin c_78 c_100)) (by have := hH.2.2.1 0; omega) H locs ls hw (lv_sub hl [1, 2, 3, 4, 5, 0] rfl)
                  · skip
                    have hks := hH.2.2.2.1 i (by omega)
                    have h2t : 2 ^ t < 512 := show 2 ^ t < 2 ^ 9 from Nat.pow_lt_pow_right (by decide) (by omega)
                    have hU1 : Hw (updN (aV A) (21 + 5 * i + 4) (((aV A) (21 + 5 * i + 4)) ||| (2 ^ t))) := Hw_upd hH (by omega) (by omega) (Nat.lt_trans (or9 hks h2t) (by decide)) (fun i hi h => or9 hks h2t) (fun i hi h => by omega) (fun i hi h => by omega)
                    have hdk := daysN_inv hU1 k (by rw [updN_ne _ _ (by omega)]; omega)
                    refine lv_aload_n hx hb dX2_whisper_103 rfl (lv_at hl 0 rfl) ?_
                    refine z_get (v := .ref (q 11)) hC zf_X2_19_2 hw 0 rfl rfl dX2_whisper_104 ?_
                    refine lv_iconst (v := (nI 0)) hx hb dX2_whisper_107 zk_0 ?_
                    refine lv_aload_n hx hb dX2_whisper_108 rfl (lv_at hl 0 rfl) ?_
                    refine z_get (v := .ref (q 12)) hC zf_X2_22_2 hw 0 rfl rfl dX2_whisper_109 ?_
                    refine lv_iconst (v := (nI 0)) hx hb dX2_whisper_112 zk_0 ?_
                    refine z_cv (z_runS (As := [.ref (q 11), .int (nI 0), .ref (q 12), .int (nI 0)]) (rest := []) hC zs_X2_130 (m_X2_copies G l (q 11) (q 12) 0 0 46 46 (vI (aV A)) tf1 (by omega) (by omega) (by decide) (by decide) (zrem [4, 5] _)) (hw.perm (z_cut (is := [4, 5]) (cells := [(q 11, zc G 0 (zI 46 (vI (aV A)))), (q 12, zc G 0 (zI 46 tf1))]) rfl rfl)) rfl rfl (Nat.le_of_ble_eq_true rfl) hl.1 ⟨Nat.le_of_ble_eq_true rfl, Nat.le_of_ble_eq_true rfl⟩ ⟨(Nat.le_of_ble_eq_true rfl), (Nat.le_of_ble_eq_true rfl)⟩ dX2_whisper_113) hw (fun _ => z_pput (is := [4, 5]) (cells := [(q 11, zc G 0 (zI 46 (vI (aV A)))), (q 12, zc G 0 (zI 46 tf1))]) (cells' := [(q 11, zc G 0 (zI 46 (vI (aV A)))), (q 12, zc G 0 (zI 46 (va_cpy (vI (aV A)) tf1 0 0 46)))]) rfl rfl rfl) (fun u H locs hp hw => ?_)
                    have hw : zS G ((mo, zo 2 (mF q (f 1) (f 2) (f 3) (f 4) (f 5) (f 6) (f 7) (f 8) (f 14) (f 19))) :: (q 0, zc G 0 (zI 200 (b 0))) :: (q 9, zc G 0 (zI 46 (b 9))) :: (q 10, zc G 0 (zI 46 (b 10))) :: (q 11, zc G 0 (zI 46 (vI (aV A)))) :: (q 12, zc G 0 (zI 46 (va_cpy (vI (aV A)) tf1 0 0 46))) :: (q 13, zc G 0 (zI 368 (b 13))) :: (q 15, zc G 0 (zI 92 (b 15))) :: (q 16, zc G 3 (zI 2 (b 16))) :: (q 17, zc G 0 (zI 5 af2)) :: (q 18, zc G 0 (zI 24 (b 18))) :: (q 20, zc G 0 (zI 3 (b 20))) :: (q 21, zc G 0 (zI 3 (b 21))) :: (q 22, zc G 0 (zI 3 (b 22))) :: (q 23, zc G 0 (zI 36 (b 23))) :: (q 24, zc G 0 (zI 36 (b 24))) :: rest) s H locs := hw
                    have hw := hw.cellI 5 rfl (g := vI (aV A)) (fun j hj => cpy_hedge hj)
                    have hw : zS G ((mo, zo 2 (mF q (f 1) (f 2) (f 3) (f 4) (f 5) (f 6) (f 7) (f 8) (f 14) (f 19))) :: (q 0, zc G 0 (zI 200 (b 0))) :: (q 9, zc G 0 (zI 46 (b 9))) :: (q 10, zc G 0 (zI 46 (b 10))) :: (q 11, zc G 0 (zI 46 (vI (aV A)))) :: (q 12, zc G 0 (zI 46 (vI (aV A)))) :: (q 13, zc G 0 (zI 368 (b 13))) :: (q 15, zc G 0 (zI 92 (b 15))) :: (q 16, zc G 3 (zI 2 (b 16))) :: (q 17, zc G 0 (zI 5 af2)) :: (q 18, zc G 0 (zI 24 (b 18))) :: (q 20, zc G 0 (zI 3 (b 20))) :: (q 21, zc G 0 (zI 3 (b 21))) :: (q 22, zc G 0 (zI 3 (b 22))) :: (q 23, zc G 0 (zI 36 (b 23))) :: (q 24, zc G 0 (zI 36 (b 24))) :: rest) s H locs := hw
                    refine lv_aload_n hx hb dX2_whisper_116 rfl (lv_at hl 0 rfl) ?_
                    refine z_get (v := .ref (q 12)) hC zf_X2_22_2 hw 0 rfl rfl dX2_whisper_117 ?_
                    refine lv_bipush (v := (nI 21)) hx hb dX2_whisper_120 zb_21 ?_
                    refine lv_iconst (v := (nI 5)) hx hb dX2_whisper_122 zk_5 ?_
                    refine lv_iload hx hb dX2_whisper_123 (lv_at hl 4 rfl) ?_
                    refine zn_imul hx hb dX2_whisper_125 ?_
                    refine zn_iadd hx hb dX2_whisper_126 ?_
                    refine lv_iconst (v := (nI 4)) hx hb dX2_whisper_127 zk_4 ?_
                    refine zn_iadd hx hb dX2_whisper_128 ?_
                    refine lv_dup2_11 hx hb dX2_whisper_129 rfl rfl ?_
                    refine z_iald (x := (nI ((aV A) (21 + 5 * i + 4)))) hC hw 5 rfl (by omega) (by decide) rfl dX2_whisper_130 ?_
                    refine lv_iconst (v := (nI 1)) hx hb dX2_whisper_131 zk_1 ?_
                    refine lv_iload hx hb dX2_whisper_132 (lv_at hl 5 rfl) ?_
                    refine zv_ishl (v := (nI (2 ^ t))) hx hb (nI_shl1 (by omega)) dX2_whisper_134 ?_
                    refine zv_ior (v := (nI (((aV A) (21 + 5 * i + 4)) ||| (2 ^ t)))) hx hb (nI_or _ _) dX2_whisper_135 ?_
                    refine z_iast (f' := vI (updN (aV A) (21 + 5 * i + 4) (((aV A) (21 + 5 * i + 4)) ||| (2 ^ t)))) hC hw 5 rfl (by omega) (by decide) (vI_upd _ _ _) dX2_whisper_136 (fun H locs hw => ?_)
                    have hw : zS G ((mo, zo 2 (mF q (f 1) (f 2) (f 3) (f 4) (f 5) (f 6) (f 7) (f 8) (f 14) (f 19))) :: (q 0, zc G 0 (zI 200 (b 0))) :: (q 9, zc G 0 (zI 46 (b 9))) :: (q 10, zc G 0 (zI 46 (b 10))) :: (q 11, zc G 0 (zI 46 (vI (aV A)))) :: (q 12, zc G 0 (zI 46 (vI (updN (aV A) (21 + 5 * i + 4) (((aV A) (21 + 5 * i + 4)) ||| (2 ^ t)))))) :: (q 13, zc G 0 (zI 368 (b 13))) :: (q 15, zc G 0 (zI 92 (b 15))) :: (q 16, zc G 3 (zI 2 (b 16))) :: (q 17, zc G 0 (zI 5 af2)) :: (q 18, zc G 0 (zI 24 (b 18))) :: (q 20, zc G 0 (zI 3 (b 20))) :: (q 21, zc G 0 (zI 3 (b 21))) :: (q 22, zc G 0 (zI 3 (b 22))) :: (q 23, zc G 0 (zI 36 (b 23))) :: (q 24, zc G 0 (zI 36 (b 24))) :: rest) s H locs := hw
                    refine lv_aload_n hx hb dX2_whisper_137 rfl (lv_at hl 0 rfl) ?_
                    refine lv_iload_n hx hb dX2_whisper_138 rfl (lv_at hl 1 rfl) ?_
                    refine z_cv (z_runV (As := [.int (nI k)]) (rest := []) hC zv_X2_207 (m_X2_goesOn G l mo q (f 1) (f 2) (f 3) (f 4) (f 5) (f 6) (f 7) (f 8) (f 14) (f 19) k (updN (aV A) (21 + 5 * i + 4) (((aV A) (21 + 5 * i + 4)) ||| (2 ^ t))) hU1 af2 (by rw [updN_ne _ _ (by omega)]; omega) (by omega) (zrem [0, 5, 9] _)) hw (hw.perm (z_cut (is := [0, 5, 9]) (cells := [(mo, zo 2 (mF q (f 1) (f 2) (f 3) (f 4) (f 5) (f 6) (f 7) (f 8) (f 14) (f 19))), (q 12, zc G 0 (zI 46 (vI (updN (aV A) (21 + 5 * i + 4) (((aV A) (21 + 5 * i + 4)) ||| (2 ^ t)))))), (q 17, zc G 0 (zI 5 af2))]) rfl rfl)) 0 rfl rfl rfl rfl rfl (Nat.le_of_ble_eq_true rfl) hl.1 ⟨Nat.le_of_ble_eq_true rfl, Nat.le_of_ble_eq_true rfl⟩ ⟨(Nat.le_of_ble_eq_true rfl), (Nat.le_of_ble_eq_true rfl)⟩ dX2_whisper_139) hw (fun u => z_pput (is := [0, 5, 9]) (cells := [(mo, zo 2 (mF q (f 1) (f 2) (f 3) (f 4) (f 5) (f 6) (f 7) (f 8) (f 14) (f 19))), (q 12, zc G 0 (zI 46 (vI (updN (aV A) (21 + 5 * i + 4) (((aV A) (21 + 5 * i + 4)) ||| (2 ^ t)))))), (q 17, zc G 0 (zI 5 af2))]) (cells' := [(mo, zo 2 (mF q (f 1) (f 2) (f 3) (f 4) (f 5) (f 6) (f 7) (f 8) (f 14) (f 19))), (q 12, zc G 0 (zI 46 (vI (daysN k (updN (aV A) (21 + 5 * i + 4) (((aV A) (21 + 5 * i + 4)) ||| (2 ^ t))))))), (q 17, zc G 0 (zI 5 u))]) rfl rfl rfl) (fun u H locs hp hw => ?_)
                    obtain ⟨af1_2, rfl⟩ : ∃ z, z = u := ⟨_, rfl⟩
                    have hw : zS G ((mo, zo 2 (mF q (f 1) (f 2) (f 3) (f 4) (f 5) (f 6) (f 7) (f 8) (f 14) (f 19))) :: (q 0, zc G 0 (zI 200 (b 0))) :: (q 9, zc G 0 (zI 46 (b 9))) :: (q 10, zc G 0 (zI 46 (b 10))) :: (q 11, zc G 0 (zI 46 (vI (aV A)))) :: (q 12, zc G 0 (zI 46 (vI (daysN k (updN (aV A) (21 + 5 * i + 4) (((aV A) (21 + 5 * i + 4)) ||| (2 ^ t))))))) :: (q 13, zc G 0 (zI 368 (b 13))) :: (q 15, zc G 0 (zI 92 (b 15))) :: (q 16, zc G 3 (zI 2 (b 16))) :: (q 17, zc G 0 (zI 5 af1_2)) :: (q 18, zc G 0 (zI 24 (b 18))) :: (q 20, zc G 0 (zI 3 (b 20))) :: (q 21, zc G 0 (zI 3 (b 21))) :: (q 22, zc G 0 (zI 3 (b 22))) :: (q 23, zc G 0 (zI 36 (b 23))) :: (q 24, zc G 0 (zI 36 (b 24))) :: rest) s H locs := hw
                    refine lv_aload_n hx hb dX2_whisper_142 rfl (lv_at hl 0 rfl) ?_
                    refine z_get (v := .ref (q 12)) hC zf_X2_22_2 hw 0 rfl rfl dX2_whisper_143 ?_
                    refine z_ci (z_runS (As := [.ref (q 12)]) (rest := []) hC zs_X2_210 (m_X2_alive G l (q 12) (daysN k (updN (aV A) (21 + 5 * i + 4) (((aV A) (21 + 5 * i + 4)) ||| (2 ^ t)))) hdk.1 (zrem [5] _)) (hw.perm (z_cut (is := [5]) (cells := [(q 12, zc G 0 (zI 46 (vI (daysN k (updN (aV A) (21 + 5 * i + 4) (((aV A) (21 + 5 * i + 4)) ||| (2 ^ t)))))))]) rfl rfl)) rfl rfl (Nat.le_of_ble_eq_true rfl) hl.1 ⟨Nat.le_of_ble_eq_true rfl, Nat.le_of_ble_eq_true rfl⟩ ⟨(Nat.le_of_ble_eq_true rfl), (Nat.le_of_ble_eq_true rfl)⟩ dX2_whisper_146) hw (fun _ => z_keep (is := [5]) (cs := [(q 12, zc G 0 (zI 46 (vI (daysN k (updN (aV A) (21 + 5 * i + 4) (((aV A) (21 + 5 * i + 4)) ||| (2 ^ t)))))))]) rfl rfl) (fun r u H locs hp hw => ?_)
                    obtain rfl : r = nI (aliveN (daysN k (updN (aV A) (21 + 5 * i + 4) (((aV A) (21 + 5 * i + 4)) ||| (2 ^ t))))) := hp
                    refine z_ci (z_runS (As := [.int (nI (aliveN (daysN k (updN (aV A) (21 + 5 * i + 4) (((aV A) (21 + 5 * i + 4)) ||| (2 ^ t))))))]) (rest := []) hC zs_X2_213 (m_X2_ones G l (aliveN (daysN k (updN (aV A) (21 + 5 * i + 4) (((aV A) (21 + 5 * i + 4)) ||| (2 ^ t))))) (aliveN_lt hdk.1) _) hw rfl rfl (Nat.le_of_ble_eq_true rfl) hl.1 ⟨Nat.le_of_ble_eq_true rfl, Nat.le_of_ble_eq_true rfl⟩ ⟨(Nat.le_of_ble_eq_true rfl), (Nat.le_of_ble_eq_true rfl)⟩ dX2_whisper_149) hw (fun _ => List.Perm.refl _) (fun r u H locs hp hw => ?_)
                    obtain rfl : r = nI (onesN (aliveN (daysN k (updN (aV A) (21 + 5 * i + 4) (((aV A) (21 + 5 * i + 4)) ||| (2 ^ t))))) 9) := hp
                    have hlw := liveN_le (updN (aV A) (21 + 5 * i + 4) (((aV A) (21 + 5 * i + 4)) ||| (2 ^ t))) k
                    refine lv_istore (lv' := [(6, .int (nI ((liveN (updN (aV A) (21 + 5 * i + 4) (((aV A) (21 + 5 * i + 4)) ||| (2 ^ t))) k)))), (0, .ref mo), (1, .int (nI k)), (2, .int (nI most1)), (3, .int (optI wh1)), (4, .int (nI i)), (5, .int (nI t))]) hx hb dX2_whisper_152 hl (by decide) rfl (fun ls hl => ?_)
                    have join_172 : ∀ (z : Option Nat), (z = (if most1 < (liveN (updN (aV A) (21 + 5 * i + 4) (((aV A) (21 + 5 * i + 4)) ||| (2 ^ t))) k) then some (10 * i + t) else wh1)) → ∀ (H : Heap) (locs : List Loc) (ls : Array Slot), zS G ((mo, zo 2 (mF q (f 1) (f 2) (f 3) (f 4) (f 5) (f 6) (f 7) (f 8) (f 14) (f 19))) :: (q 0, zc G 0 (zI 200 (b 0))) :: (q 9, zc G 0 (zI 46 (b 9))) :: (q 10, zc G 0 (zI 46 (b 10))) :: (q 11, zc G 0 (zI 46 (vI (aV A)))) :: (q 12, zc G 0 (zI 46 (vI (daysN k (updN (aV A) (21 + 5 * i + 4) (((aV A) (21 + 5 * i + 4)) ||| (2 ^ t))))))) :: (q 13, zc G 0 (zI 368 (b 13))) :: (q 15, zc G 0 (zI 92 (b 15))) :: (q 16, zc G 3 (zI 2 (b 16))) :: (q 17, zc G 0 (zI 5 af1_2)) :: (q 18, zc G 0 (zI 24 (b 18))) :: (q 20, zc G 0 (zI 3 (b 20))) :: (q 21, zc G 0 (zI 3 (b 21))) :: (q 22, zc G 0 (zI 3 (b 22))) :: (q 23, zc G 0 (zI 36 (b 23))) :: (q 24, zc G 0 (zI 36 (b 24))) :: rest) s H locs → lv_has ls 7 [(0, .ref mo), (1, .int (nI k)), (2, .int (nI most1)), (3, .int (optI wh1)), (4, .int (nI i)), (5, .int (nI t)), (6, .int (nI ((liveN (updN (aV A) (21 + 5 * i + 4) (((aV A) (21 + 5 * i + 4)) ||| (2 ^ t))) k))))] → W p l e (zR 6 0 0) s m args below meth c H locs 0 0 Q (F0 m 172 ls [.int (optI z)]) := by
                      intro z hz H locs ls hw hl
                      subst hz
                      refine lv_istore_n (lv' := [(3, .int (optI (if most1 < (liveN (updN (aV A) (21 + 5 * i + 4) (((aV A) (21 + 5 * i + 4)) ||| (2 ^ t))) k) then some (10 * i + t) else wh1))), (0, .ref mo), (1, .int (nI k)), (2, .int (nI most1)), (4, .int (nI i)), (5, .int (nI t)), (6, .int (nI ((liveN (updN (aV A) (21 + 5 * i + 4) (((aV A) (21 + 5 * i + 4)) ||| (2 ^ t))) k))))]) hx hb dX2_whisper_172 rfl hl (by decide) rfl (fun ls hl => ?_)
                      have join_185 : ∀ (y9 : Nat), (y9 = (if most1 < (liveN (updN (aV A) (21 + 5 * i + 4) (((aV A) (21 + 5 * i + 4)) ||| (2 ^ t))) k) then (liveN (updN (aV A) (21 + 5 * i + 4) (((aV A) (21 + 5 * i + 4)) ||| (2 ^ t))) k) else most1)) → (y9 ≤ 9) → ∀ (H : Heap) (locs : List Loc) (ls : Array Slot), zS G ((mo, zo 2 (mF q (f 1) (f 2) (f 3) (f 4) (f 5) (f 6) (f 7) (f 8) (f 14) (f 19))) :: (q 0, zc G 0 (zI 200 (b 0))) :: (q 9, zc G 0 (zI 46 (b 9))) :: (q 10, zc G 0 (zI 46 (b 10))) :: (q 11, zc G 0 (zI 46 (vI (aV A)))) :: (q 12, zc G 0 (zI 46 (vI (daysN k (updN (aV A) (21 + 5 * i + 4) (((aV A) (21 + 5 * i + 4)) ||| (2 ^ t))))))) :: (q 13, zc G 0 (zI 368 (b 13))) :: (q 15, zc G 0 (zI 92 (b 15))) :: (q 16, zc G 3 (zI 2 (b 16))) :: (q 17, zc G 0 (zI 5 af1_2)) :: (q 18, zc G 0 (zI 24 (b 18))) :: (q 20, zc G 0 (zI 3 (b 20))) :: (q 21, zc G 0 (zI 3 (b 21))) :: (q 22, zc G 0 (zI 3 (b 22))) :: (q 23, zc G 0 (zI 36 (b 23))) :: (q 24, zc G 0 (zI 36 (b 24))) :: rest) s H locs → lv_has ls 7 [(0, .ref mo), (1, .int (nI k)), (2, .int (nI most1)), (3, .int (optI (if most1 < (liveN (updN (aV A) (21 + 5 * i + 4) (((aV A) (21 + 5 * i + 4)) ||| (2 ^ t))) k) then some (10 * i + t) else wh1))), (4, .int (nI i)), (5, .int (nI t)), (6, .int (nI ((liveN (updN (aV A) (21 + 5 * i + 4) (((aV A) (21 + 5 * i + 4)) ||| (2 ^ t))) k))))] → W p l e (zR 6 0 0) s m args below meth c H locs 0 0 Q (F0 m 185 ls [.int (nI y9)]) := by
                        intro y9 hyx hy H locs ls hw hl
                        refine lv_istore_n (lv' := [(2, .int (nI y9)), (0, .ref mo), (1, .int (nI k)), (3, .int (optI (if most1 < (liveN (updN (aV A) (21 + 5 * i + 4) (((aV A) (21 + 5 * i + 4)) ||| (2 ^ t))) k) then some (10 * i + t) else wh1))), (4, .int (nI i)), (5, .int (nI t)), (6, .int (nI ((liveN (updN (aV A) (21 + 5 * i + 4) (((aV A) (21 + 5 * i + 4)) ||| (2 ^ t))) k))))]) hx hb dX2_whisper_185 rfl hl (by decide) rfl (fun ls hl => ?_)
                        refine lv_iinc (v := (nI (t + 1))) (lv' := [(5, .int (nI (t + 1))), (2, .int (nI y9)), (0, .ref mo), (1, .int (nI k)), (3, .int (optI (if most1 < (liveN (updN (aV A) (21 + 5 * i + 4) (((aV A) (21 + 5 * i + 4)) ||| (2 ^ t))) k) then some (10 * i + t) else wh1))), (4, .int (nI i)), (6, .int (nI ((liveN (updN (aV A) (21 + 5 * i + 4) (((aV A) (21 + 5 * i + 4)) ||| (2 ^ t))) k))))]) hx hb dX2_whisper_186 hl (k := 5) rfl (zincn _ 1) (by decide) rfl (fun ls hl => ?_)
                        refine lv_goto (tgt := 58) hx hb dX2_whisper_189 (by decide) ?_
                        exact ih_58 (t + 1) (if most1 < (liveN (updN (aV A) (21 + 5 * i + 4) (((aV A) (21 + 5 * i + 4)) ||| (2 ^ t))) k) then some (10 * i + t) else wh1) y9 (vI (daysN k (updN (aV A) (21 + 5 * i + 4) (((aV A) (21 + 5 * i + 4)) ||| (2 ^ t))))) af1_2 (by have := hH.2.2.1 0; omega) (by first | exact hm8 | exact hy) (by first | exact (whIn_skip (Or.inl c_78)).trans hin | exact (whIn_skip (Or.inr c_100)).trans hin | (rw [hyx]; exact whIn_go hin c_78 c_100)) (by have := hH.2.2.1 0; omega) H locs ls hw (lv_sub hl [2, 3, 1, 4, 5, 0] rfl)
                      refine lv_iload hx hb dX2_whisper_173 (lv_at hl 6 rfl) ?_
                      refine lv_iload_n hx hb dX2_whisper_175 rfl (lv_at hl 3 rfl) ?_
                      refine zi_le (tgt := 184) hx hb (by have := hH.2.2.1 (21 + 5 * i + 4); omega) (by omega) dX2_whisper_176 (by decide) (fun c_176 => ?_) (fun c_176 => ?_)
                      · skip
                        refine lv_iload_n hx hb dX2_whisper_184 rfl (lv_at hl 3 rfl) ?_
                        exact join_185 most1 (by first | rw [if_pos c_176] | rw [if_neg (Nat.not_lt.mpr c_176)]) (by first | exact hlw | exact hm8) H locs ls hw (lv_sub hl [1, 2, 3, 0, 4, 5, 6] rfl)
                      · skip
                        refine lv_iload hx hb dX2_whisper_179 (lv_at hl 6 rfl) ?_
                        refine lv_goto (tgt := 185) hx hb dX2_whisper_181 (by decide) ?_
                        exact join_185 (liveN (updN (aV A) (21 + 5 * i + 4) (((aV A) (21 + 5 * i + 4)) ||| (2 ^ t))) k) (by first | rw [if_pos c_176] | rw [if_neg (Nat.not_lt.mpr c_176)]) (by first | exact hlw | exact hm8) H locs ls hw (lv_sub hl [1, 2, 3, 0, 4, 5, 6] rfl)
                    refine lv_iload hx hb dX2_whisper_154 (lv_at hl 0 rfl) ?_
                    refine lv_iload_n hx hb dX2_whisper_156 rfl (lv_at hl 3 rfl) ?_
                    refine zi_le (tgt := 171) hx hb (by have := hH.2.2.1 (21 + 5 * i + 4); omega) (by omega) dX2_whisper_157 (by decide) (fun c_157 => ?_) (fun c_157 => ?_)
                    · skip
                      refine lv_iload_n hx hb dX2_whisper_171 rfl (lv_at hl 4 rfl) ?_
                      exact join_172 wh1 (by first | rw [if_pos c_157] | rw [if_neg (Nat.not_lt.mpr c_157)]) H locs ls hw (lv_sub hl [1, 2, 3, 4, 5, 6, 0] rfl)
                    · skip
                      refine lv_bipush (v := (nI 10)) hx hb dX2_whisper_160 zb_10 ?_
                      refine lv_iload hx hb dX2_whisper_162 (lv_at hl 5 rfl) ?_
                      refine zn_imul hx hb dX2_whisper_164 ?_
                      refine lv_iload hx hb dX2_whisper_165 (lv_at hl 6 rfl) ?_
                      refine zn_iadd hx hb dX2_whisper_167 ?_
                      refine lv_goto (tgt := 172) hx hb dX2_whisper_168 (by decide) ?_
                      exact join_172 (some (10 * i + t)) (by first | rw [if_pos c_157] | rw [if_neg (Nat.not_lt.mpr c_157)]) H locs ls hw (lv_sub hl [1, 2, 3, 4, 5, 6, 0] rfl)
          exact loop_58 (((aV A) 0 - 0) + 1) 0 wh most tf af1 (by have := hH.2.2.1 0; omega) hm9 rfl (Nat.lt_succ_self _) H locs ls hw (lv_sub hl [1, 2, 3, 4, 5, 0] rfl)
    exact loop_44 (((aV A) 1 - 0) + 1) 0 none (liveN (aV A) k) (vI (daysN k (aV A))) af1_1 (by have := hH.2.2.1 1; omega) hlv rfl (Nat.lt_succ_self _) H locs ls hw (lv_sub hl [3, 4, 2, 1, 0] rfl)
  · skip
    refine lv_bipush (v := (-3)) hx hb dX2_whisper_7 zb_m3 ?_
    exact hend _ _ _ _ _ _ _ ((bU b 11 (vI (aV A))), mf (f 1) (f 2) (f 3) (f 4) (f 5) (f 6) (f 7) (f 8) (f 14) (f 19)) hw ⟨(ifP_f c_4).symm, ⟨⟨hT, hL⟩, hV0, rH_vI, ⟨hU, hUs⟩, hKp, ⟨hSi, hSg⟩, (fun t ht => tRel_of rfl rfl rfl rfl rfl (hTr t ht))⟩⟩ (by omega) (by omega) dX2_whisper_9
