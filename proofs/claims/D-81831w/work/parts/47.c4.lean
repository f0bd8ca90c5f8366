/-! COMPONENT: one eats -/
set_option maxRecDepth 100000
theorem eatOne_at (v : Nat → Nat) (s p its j : Nat) : eatOne v s p its j = if j = 21 + 5 * s + 4 then (if v (3 + 2 * p + 1) - its = 0 then clrN (v (21 + 5 * s + 4)) p else v (21 + 5 * s + 4)) else if j = 3 + 2 * p + 1 then v (3 + 2 * p + 1) - its else if j = 21 + 5 * s + 1 then v (3 + 2 * p) else v j := rfl
theorem sRel_eat {v pl nu ax le kn : Nat → Nat} {i t its : Nat} (hH : Hw v) (hR : sRel v pl nu ax le kn) (hi : i < v 1) (ht : t < v 0) : sRel (eatOne v i t its) pl (updN nu t (nu t - its)) (updN ax i (pl t)) le (updN kn i (if nu t - its = 0 then clrN (kn i) t else kn i)) := by
  have h0 := hH.1
  have h1 := hH.2.1
  have e0 : eatOne v i t its 0 = v 0 := by rw [eatOne_at, if_neg (by omega), if_neg (by omega), if_neg (by omega)]
  have e1 : eatOne v i t its 1 = v 1 := by rw [eatOne_at, if_neg (by omega), if_neg (by omega), if_neg (by omega)]
  have ept := hR.1 t ht
  have eki := (hR.2.2.1 i (by omega)).2
  refine ⟨fun j hj => ?_, fun j hj => ?_, fun j hj => ?_, fun j => ?_⟩
  · rw [e0] at hj
    have ej := hR.1 j hj
    rw [eatOne_at, if_neg (by omega), if_neg (by omega), if_neg (by omega), eatOne_at, if_neg (by omega)]
    refine ⟨ej.1, ?_⟩
    unfold updN
    by_cases q : j = t
    · subst q; rw [if_pos rfl, if_pos rfl, ej.2]
    · rw [if_neg q, if_neg (by omega), if_neg (by omega)]; exact ej.2
  · rw [e1] at hj
    rw [eatOne_at, if_neg (by omega), if_neg (by omega)]
    unfold updN
    by_cases q : j = i
    · subst q; rw [if_pos rfl, if_pos rfl]; exact ept.1
    · rw [if_neg q, if_neg (by omega)]; exact hR.2.1 j hj
  · have ej := hR.2.2.1 j hj
    rw [eatOne_at, if_neg (by omega), if_neg (by omega), if_neg (by omega), eatOne_at]
    refine ⟨ej.1, ?_⟩
    unfold updN
    by_cases q : j = i
    · subst q; rw [if_pos rfl, if_pos rfl, ept.2, ej.2]
    · rw [if_neg q, if_neg (by omega), if_neg (by omega), if_neg (by omega)]; exact ej.2
  · have ej := hR.2.2.2 j
    have et := hR.2.2.2 t
    have ei := hR.2.2.2 i
    refine ⟨ej.1, ?_, ?_, ej.2.2.2.1, ?_⟩
    · unfold updN; split <;> omega
    · unfold updN; split
      · exact et.1
      · exact ej.2.2.1
    · unfold updN; split
      · split
        · exact (clr_int t (by omega) (kn i) ei.2.2.2.2).2
        · exact ei.2.2.2.2
      · exact ej.2.2.2.2
theorem eatOne_Hg {v : Nat → Nat} {i t its : Nat} (hg : Hg v) (hi : i < v 1) (ht : t < v 0) : Hg (eatOne v i t its) := by
  have h0 := hg.1.1
  have h1 := hg.1.2.1
  have e0 : eatOne v i t its 0 = v 0 := by rw [eatOne_at, if_neg (by omega), if_neg (by omega), if_neg (by omega)]
  have e1 : eatOne v i t its 1 = v 1 := by rw [eatOne_at, if_neg (by omega), if_neg (by omega), if_neg (by omega)]
  refine ⟨eatOne_Hw hg.1 (by omega) ht, fun j hj => ?_, fun j hj => ?_⟩
  · rw [e0] at hj
    have ej := hg.2.1 j hj
    rw [eatOne_at, if_neg (by omega), if_neg (by omega), if_neg (by omega), eatOne_at, if_neg (by omega)]
    refine ⟨ej.1, ?_⟩
    by_cases q : j = t
    · subst q; rw [if_pos rfl]; omega
    · rw [if_neg (by omega), if_neg (by omega)]; exact ej.2
  · rw [e1] at hj
    have ej := hg.2.2 j hj
    have a1 : eatOne v i t its (21 + 5 * j) = v (21 + 5 * j) := eatOne_ne (by omega) (by omega) (by omega)
    have a3 : eatOne v i t its (21 + 5 * j + 2) = v (21 + 5 * j + 2) := eatOne_ne (by omega) (by omega) (by omega)
    rw [a1, a3, eatOne_at, if_neg (by omega), if_neg (by omega)]
    refine ⟨ej.1, ?_, ej.2.2⟩
    split
    · exact (hg.2.1 t ht).1
    · exact ej.2.1
theorem opt_some {o : Option Nat} (h : ¬ optI o = -1) : ∃ t, o = some t := by
  cases o with
  | none => exact absurd rfl h
  | some t => exact ⟨t, rfl⟩
theorem opt_none {o : Option Nat} (h : optI o = -1) (hb : ∀ t, o = some t → t < 9) : o = none := by
  cases o with
  | none => rfl
  | some t => exact absurd h.symm (fun q => nI_nm1 (by have := hb t rfl; omega) q.symm)
theorem x16 : ∀ t, t < 9 → ((nI (2 ^ t)) ^^^ (-1)).toInt16.toInt32 = (nI (2 ^ t)) ^^^ (-1) := by decide +kernel
theorem eats_none {v : Nat → Nat} {i : Nat} (h : picksN v i (mayN v i) (v 0) = none) : ¬ mayN v i ≠ 0 := by
  intro q
  obtain ⟨t, ht, -⟩ := may_picks q
  rw [h] at ht; cases ht
theorem zv_X1_77 : zVs RX1 77 yX1_picks cX1_picks 6 (some .int) 1 := ⟨lw_V q978 q980 qs17 q50 q981, ⟨by decide +kernel, by decide +kernel⟩, by decide +kernel⟩
theorem zn_X5_wants : zNs yX5_wants cX5_wants 1 (some .int) 0 := ⟨q869, q77, ⟨by decide +kernel, by decide +kernel⟩, by decide +kernel⟩
set_option maxHeartbeats 4000000 in
theorem m_X1_eats (G : zE) (l : Launch) (kA : Nat → Nat) (hG : zG G kA) (st : Nat) (co : Nat) (z : Nat → Nat) (w : Nat → Nat) (bm : Int32) (sm : Int32) (lt : Int32) (ps : Nat) (dy : Nat) (mn : Nat) (gg : Int32) (v : Nat → Nat) (pl : Nat → Nat) (nu : Nat → Nat) (ax : Nat → Nat) (le : Nat → Nat) (kn : Nat → Nat) (sf : Nat → Option Nat) (oq : Nat) (kd : Nat) (nd : Nat) (nm : Int32) (i : Nat) (hps : ps = v 0) (hg : Hg v) (hR : sRel v pl nu ax le kn) (hi : i < v 1) (hkd : kd = v (21 + 5 * i)) (hnd : nd = v (21 + 5 * i + 2)) (hsf : sf i = some oq) (rest : va_W) : zMi G l yX1_eats cX1_eats 6 (some .int) 4 0 0 [.ref st, .int (nI i)] ((st, zo 1 (stF z co (nI ps) (nI dy) (gg))) :: (z 0, zc G 1 (zI 9 (vI pl))) :: (z 1, zc G 1 (zI 9 (vI nu))) :: (z 2, zc G 1 (zI 5 (vI ax))) :: (z 3, zc G 1 (zI 5 (vI le))) :: (z 4, zc G 2 (zI 5 (vI kn))) :: (co, zo 0 (cF w (nI mn) bm sm lt)) :: (w 0, zc G 4 (zO 5 sf)) :: (oq, zo (5 + kd) (sqF nm (nI nd))) :: rest) (fun (r : Int32) u => r = nI (eatN v i).1 ∧ sRel (eatN v i).2 pl u.1 u.2.1 le u.2.2) (fun (u : (Nat → Nat) × (Nat → Nat) × (Nat → Nat)) => (st, zo 1 (stF z co (nI ps) (nI dy) (gg))) :: (z 0, zc G 1 (zI 9 (vI pl))) :: (z 1, zc G 1 (zI 9 (vI u.1))) :: (z 2, zc G 1 (zI 5 (vI u.2.1))) :: (z 3, zc G 1 (zI 5 (vI le))) :: (z 4, zc G 2 (zI 5 (vI u.2.2))) :: (co, zo 0 (cF w (nI mn) bm sm lt)) :: (w 0, zc G 4 (zO 5 sf)) :: (oq, zo (5 + kd) (sqF nm (nI nd))) :: rest) := by
  refine z_begI (by decide) (Nat.le_of_ble_eq_true rfl) (fun p e s m args below meth c ls Q hC hl hw hend => ?_)
  have hx := hC.hx
  have hb := hC.hb
  have hl : lv_has ls 6 [(0, .ref st), (1, .int (nI i))] := hl
  have hw : zS G ((st, zo 1 (stF z co (nI ps) (nI dy) (gg))) :: (z 0, zc G 1 (zI 9 (vI pl))) :: (z 1, zc G 1 (zI 9 (vI nu))) :: (z 2, zc G 1 (zI 5 (vI ax))) :: (z 3, zc G 1 (zI 5 (vI le))) :: (z 4, zc G 2 (zI 5 (vI kn))) :: (co, zo 0 (cF w (nI mn) bm sm lt)) :: (w 0, zc G 4 (zO 5 sf)) :: (oq, zo (5 + kd) (sqF nm (nI nd))) :: rest) s s.heap [] := hw
  have hz := hG s hC.hZ.1
  have hpl := fun j => (hR.2.2.2 j).1
  have hnu := fun j => (hR.2.2.2 j).2.1
  have hax := fun j => (hR.2.2.2 j).2.2.1
  have hle := fun j => (hR.2.2.2 j).2.2.2.1
  have hkn := fun j => (hR.2.2.2 j).2.2.2.2
  have hv0 := hg.1.1
  have hv1 := hg.1.2.1
  have hkd5 : kd < 5 := by rw [hkd]; exact (hg.2.2 i hi).1
  have hk5 : kd = 0 ∨ kd = 1 ∨ kd = 2 ∨ kd = 3 ∨ kd = 4 := by omega
  have hn9 := hg.1.2.2.2.2.1 i (by omega)
  have hwl : wantsN (v (21 + 5 * i)) (v (21 + 5 * i + 2)) ≤ 19 := Nat.le_trans wantsN_le (by omega)
  have join_11 : ∀ (r9 : Nat), (r9 = wantsN kd nd) → ∀ (H : Heap) (locs : List Loc) (ls : Array Slot), zS G ((st, zo 1 (stF z co (nI ps) (nI dy) (gg))) :: (z 0, zc G 1 (zI 9 (vI pl))) :: (z 1, zc G 1 (zI 9 (vI nu))) :: (z 2, zc G 1 (zI 5 (vI ax))) :: (z 3, zc G 1 (zI 5 (vI le))) :: (z 4, zc G 2 (zI 5 (vI kn))) :: (co, zo 0 (cF w (nI mn) bm sm lt)) :: (w 0, zc G 4 (zO 5 sf)) :: (oq, zo (5 + kd) (sqF nm (nI nd))) :: rest) s H locs → lv_has ls 6 [(0, .ref st), (1, .int (nI i))] → W p l e (zR 4 0 0) s m args below meth c H locs 0 0 Q (F0 m 11 ls [.int (nI r9)]) := by
    intro r9 hr9 H locs ls hw hl
    have hrk : r9 = wantsN (v (21 + 5 * i)) (v (21 + 5 * i + 2)) := by rw [hr9, hkd, hnd]
    subst hrk
    refine lv_istore_n (lv' := [(2, .int (nI (wantsN (v (21 + 5 * i)) (v (21 + 5 * i + 2))))), (0, .ref st), (1, .int (nI i))]) hx hb dX1_eats_11 rfl hl (by decide) rfl (fun ls hl => ?_)
    refine lv_iconst (v := (nI 0)) hx hb dX1_eats_12 zk_0 ?_
    refine lv_istore_n (lv' := [(3, .int (nI 0)), (2, .int (nI (wantsN (v (21 + 5 * i)) (v (21 + 5 * i + 2))))), (0, .ref st), (1, .int (nI i))]) hx hb dX1_eats_13 rfl hl (by decide) rfl (fun ls hl => ?_)
    refine lv_aload_n hx hb dX1_eats_14 rfl (lv_at hl 2 rfl) ?_
    refine lv_iload_n hx hb dX1_eats_15 rfl (lv_at hl 3 rfl) ?_
    refine z_ci (z_runV (As := [.int (nI i)]) (rest := []) hC zv_X1_77 (m_X1_picks G l kA (by first | assumption | (omega)) st co z w bm sm lt ps dy mn gg v pl nu ax le kn sf oq kd nd nm i hps hg hR hi hkd hsf (zrem [0, 1, 2, 3, 4, 5, 6, 7, 8] _)) hw (hw.perm (z_cut (is := [0, 1, 2, 3, 4, 5, 6, 7, 8]) (cells := [(st, zo 1 (stF z co (nI ps) (nI dy) (gg))), (z 0, zc G 1 (zI 9 (vI pl))), (z 1, zc G 1 (zI 9 (vI nu))), (z 2, zc G 1 (zI 5 (vI ax))), (z 3, zc G 1 (zI 5 (vI le))), (z 4, zc G 2 (zI 5 (vI kn))), (co, zo 0 (cF w (nI mn) bm sm lt)), (w 0, zc G 4 (zO 5 sf)), (oq, zo (5 + kd) (sqF nm (nI nd)))]) rfl rfl)) 0 rfl rfl rfl rfl rfl (Nat.le_of_ble_eq_true rfl) hl.1 ⟨Nat.le_of_ble_eq_true rfl, Nat.le_of_ble_eq_true rfl⟩ ⟨(Nat.le_of_ble_eq_true rfl), (Nat.le_of_ble_eq_true rfl)⟩ dX1_eats_16) hw (fun _ => z_keep (is := [0, 1, 2, 3, 4, 5, 6, 7, 8]) (cs := [(st, zo 1 (stF z co (nI ps) (nI dy) (gg))), (z 0, zc G 1 (zI 9 (vI pl))), (z 1, zc G 1 (zI 9 (vI nu))), (z 2, zc G 1 (zI 5 (vI ax))), (z 3, zc G 1 (zI 5 (vI le))), (z 4, zc G 2 (zI 5 (vI kn))), (co, zo 0 (cF w (nI mn) bm sm lt)), (w 0, zc G 4 (zO 5 sf)), (oq, zo (5 + kd) (sqF nm (nI nd)))]) rfl rfl) (fun r u H locs hp hw => ?_)
    obtain rfl : r = optI (picksN v i (mayN v i) (v 0)) := hp
    refine lv_istore (lv' := [(4, .int (optI (picksN v i (mayN v i) (v 0)))), (3, .int (nI 0)), (2, .int (nI (wantsN (v (21 + 5 * i)) (v (21 + 5 * i + 2))))), (0, .ref st), (1, .int (nI i))]) hx hb dX1_eats_19 hl (by decide) rfl (fun ls hl => ?_)
    have loop_21 : ∀ (fuel : Nat) (f : Nat) (sum : Nat) (v1 : Nat → Nat) (nu1 : Nat → Nat) (ax1 : Nat → Nat) (kn1 : Nat → Nat), (Hg v1) → (sRel v1 pl nu1 ax1 le kn1) → (v1 0 = v 0) → (v1 1 = v 1) → (v1 (21 + 5 * i) = v (21 + 5 * i)) → (v1 (21 + 5 * i + 2) = v (21 + 5 * i + 2)) → (wantsN (v (21 + 5 * i)) (v (21 + 5 * i + 2)) ≤ sum + f) → (sum ≤ wantsN (v (21 + 5 * i)) (v (21 + 5 * i + 2))) → (eatsN i f v1 sum = eatN v i) → (f) < fuel → ∀ (H : Heap) (locs : List Loc) (ls : Array Slot), zS G ((st, zo 1 (stF z co (nI ps) (nI dy) (gg))) :: (z 0, zc G 1 (zI 9 (vI pl))) :: (z 1, zc G 1 (zI 9 (vI nu1))) :: (z 2, zc G 1 (zI 5 (vI ax1))) :: (z 3, zc G 1 (zI 5 (vI le))) :: (z 4, zc G 2 (zI 5 (vI kn1))) :: (co, zo 0 (cF w (nI mn) bm sm lt)) :: (w 0, zc G 4 (zO 5 sf)) :: (oq, zo (5 + kd) (sqF nm (nI nd))) :: rest) s H locs → lv_has ls 6 [(0, .ref st), (1, .int (nI i)), (2, .int (nI (wantsN (v (21 + 5 * i)) (v (21 + 5 * i + 2))))), (3, .int (nI sum)), (4, .int (optI (picksN v1 i (mayN v1 i) (v1 0))))] → W p l e (zR 4 0 0) s m args below meth c H locs 0 0 Q (F0 m 21 ls []) := by
      intro fuel
      induction fuel with
      | zero => intro f sum v1 nu1 ax1 kn1 hg1 hR1 h00 h01 hk1 hk2 hf hsu heq hfuel; exact absurd hfuel (Nat.not_lt_zero _)
      | succ fuel_21 ih_21 =>
        intro f sum v1 nu1 ax1 kn1 hg1 hR1 h00 h01 hk1 hk2 hf hsu heq hfuel_21 H locs ls hw hl
        have hnu1 := fun j => (hR1.2.2.2 j).2.1
        have hax1 := fun j => (hR1.2.2.2 j).2.2.1
        have hkn1 := fun j => (hR1.2.2.2 j).2.2.2.2
        refine lv_iload_n hx hb dX1_eats_21 rfl (lv_at hl 3 rfl) ?_
        refine lv_iload_n hx hb dX1_eats_22 rfl (lv_at hl 2 rfl) ?_
        refine zi_ge (tgt := 116) hx hb (by omega) (by omega) dX1_eats_23 (by decide) (fun c_23 => ?_) (fun c_23 => ?_)
        · skip
          refine lv_iload_n hx hb dX1_eats_116 rfl (lv_at hl 3 rfl) ?_
          have he : eatN v i = (sum, v1) := by rw [← heq]; exact eatsN_stop (fun h => by first | exact absurd h.1 (by rw [hk1, hk2]; omega) | exact absurd h.2 (eats_none (opt_none c_29 (fun t ht => by have := (picksN_lt ht).1; omega)))) _
          exact hend _ _ _ _ _ _ _ (nu1, ax1, kn1) hw ⟨by rw [he], by rw [he]; exact hR1⟩ (Nat.le_of_ble_eq_true rfl) (Nat.le_of_ble_eq_true rfl) dX1_eats_117
        · skip
          refine lv_iload hx hb dX1_eats_26 (lv_at hl 4 rfl) ?_
          refine lv_iconst (v := -1) hx hb dX1_eats_28 zk_m1 ?_
          refine lv_icmp_eq (tgt := 116) hx hb dX1_eats_29 (by decide) (fun c_29 => ?_) (fun c_29 => ?_)
          · skip
            refine lv_iload_n hx hb dX1_eats_116 rfl (lv_at hl 3 rfl) ?_
            have he : eatN v i = (sum, v1) := by rw [← heq]; exact eatsN_stop (fun h => by first | exact absurd h.1 (by rw [hk1, hk2]; omega) | exact absurd h.2 (eats_none (opt_none c_29 (fun t ht => by have := (picksN_lt ht).1; omega)))) _
            exact hend _ _ _ _ _ _ _ (nu1, ax1, kn1) hw ⟨by rw [he], by rw [he]; exact hR1⟩ (Nat.le_of_ble_eq_true rfl) (Nat.le_of_ble_eq_true rfl) dX1_eats_117
          · skip
            obtain ⟨t, hp1⟩ := opt_some c_29
            have htp := picksN_lt hp1
            have ht0 := htp.1
            have ht9 : t < 9 := by omega
            have hpt1 := hR1.1 t ht0
            have hm1 := (may_iff ht0).mp htp.2
            have hm0 : mayN v1 i ≠ 0 := fun q => by have := htp.2; rw [q] at this; simp at this
            have hn0 : 0 < nu1 t := by rw [hpt1.2]; omega
            obtain ⟨f, rfl⟩ : ∃ g, f = g + 1 := ⟨f - 1, by omega⟩
            have hl : lv_has ls 6 [(0, .ref st), (1, .int (nI i)), (2, .int (nI (wantsN (v (21 + 5 * i)) (v (21 + 5 * i + 2))))), (3, .int (nI sum)), (4, .int (nI t))] := by rw [hp1] at hl; exact hl
            refine lv_iload_n hx hb dX1_eats_32 rfl (lv_at hl 2 rfl) ?_
            refine lv_iload_n hx hb dX1_eats_33 rfl (lv_at hl 3 rfl) ?_
            refine zn_isub hx hb (by have := hg.1.2.2.1 (21 + 5 * i + 2); have := hg.1.2.2.1 (21 + 5 * i); omega) dX1_eats_34 ?_
            refine lv_aload_n hx hb dX1_eats_35 rfl (lv_at hl 0 rfl) ?_
            refine z_get (v := .ref (z 1)) hC zf_X1_19_1 hw 0 rfl rfl dX1_eats_36 ?_
            refine lv_iload hx hb dX1_eats_39 (lv_at hl 4 rfl) ?_
            refine z_bald (x := (nI (nu1 t))) hC hw 2 rfl (by omega) (by decide) rfl dX1_eats_41 ?_
            refine z_mmin (v := nI (min ((wantsN (v (21 + 5 * i)) (v (21 + 5 * i + 2))) - sum) (nu1 t))) hC hl.1 q997 zm_min (zm_min_d (by have := hg.1.2.2.1 (21 + 5 * i + 2); have := hg.1.2.2.1 (21 + 5 * i); omega) (by have := hnu1 t; omega)) (Nat.le_of_ble_eq_true rfl) ⟨Nat.le_of_ble_eq_true rfl, Nat.le_of_ble_eq_true rfl⟩ (Nat.le_of_ble_eq_true rfl) (Nat.le_of_ble_eq_true rfl) dX1_eats_42 ?_
            refine lv_istore (lv' := [(5, .int (nI (min ((wantsN (v (21 + 5 * i)) (v (21 + 5 * i + 2))) - sum) (nu1 t)))), (0, .ref st), (1, .int (nI i)), (2, .int (nI (wantsN (v (21 + 5 * i)) (v (21 + 5 * i + 2))))), (3, .int (nI sum)), (4, .int (nI t))]) hx hb dX1_eats_45 hl (by decide) rfl (fun ls hl => ?_)
            refine lv_aload_n hx hb dX1_eats_47 rfl (lv_at hl 1 rfl) ?_
            refine z_get (v := .ref (z 2)) hC zf_X1_22_1 hw 0 rfl rfl dX1_eats_48 ?_
            refine lv_iload_n hx hb dX1_eats_51 rfl (lv_at hl 2 rfl) ?_
            refine lv_aload_n hx hb dX1_eats_52 rfl (lv_at hl 1 rfl) ?_
            refine z_get (v := .ref (z 0)) hC zf_X1_15_1 hw 0 rfl rfl dX1_eats_53 ?_
            refine lv_iload hx hb dX1_eats_56 (lv_at hl 5 rfl) ?_
            refine z_bald (x := (nI (pl t))) hC hw 1 rfl (by omega) (by decide) rfl dX1_eats_58 ?_
            refine z_bast (f' := vI (updN ax1 i (pl t))) hC hw 3 rfl (by omega) (by decide) ((congrArg _ (znbyte (by have := hpl t; omega))).trans (vI_upd _ _ _)) dX1_eats_59 (fun H locs hw => ?_)
            have hw : zS G ((st, zo 1 (stF z co (nI ps) (nI dy) (gg))) :: (z 0, zc G 1 (zI 9 (vI pl))) :: (z 1, zc G 1 (zI 9 (vI nu1))) :: (z 2, zc G 1 (zI 5 (vI (updN ax1 i (pl t))))) :: (z 3, zc G 1 (zI 5 (vI le))) :: (z 4, zc G 2 (zI 5 (vI kn1))) :: (co, zo 0 (cF w (nI mn) bm sm lt)) :: (w 0, zc G 4 (zO 5 sf)) :: (oq, zo (5 + kd) (sqF nm (nI nd))) :: rest) s H locs := hw
            refine lv_aload_n hx hb dX1_eats_60 rfl (lv_at hl 1 rfl) ?_
            refine z_get (v := .ref (z 1)) hC zf_X1_19_1 hw 0 rfl rfl dX1_eats_61 ?_
            refine lv_iload hx hb dX1_eats_64 (lv_at hl 5 rfl) ?_
            refine lv_dup2_11 hx hb dX1_eats_66 rfl rfl ?_
            refine z_bald (x := (nI (nu1 t))) hC hw 2 rfl (by omega) (by decide) rfl dX1_eats_67 ?_
            refine lv_iload hx hb dX1_eats_68 (lv_at hl 0 rfl) ?_
            refine lv_i2b (v := (nI (min ((wantsN (v (21 + 5 * i)) (v (21 + 5 * i + 2))) - sum) (nu1 t)))) hx hb dX1_eats_70 (zi2b (by have := hg.1.2.2.1 (21 + 5 * i + 2); have := hg.1.2.2.1 (21 + 5 * i); have := hnu1 t; omega)) ?_
            refine zn_isub hx hb (by have := hg.1.2.2.1 (21 + 5 * i + 2); have := hg.1.2.2.1 (21 + 5 * i); have := hnu1 t; omega) dX1_eats_71 ?_
            refine lv_i2b (v := (nI ((nu1 t) - (min ((wantsN (v (21 + 5 * i)) (v (21 + 5 * i + 2))) - sum) (nu1 t))))) hx hb dX1_eats_72 (zi2b (by have := hg.1.2.2.1 (21 + 5 * i + 2); have := hg.1.2.2.1 (21 + 5 * i); have := hnu1 t; omega)) ?_
            refine z_bast (f' := vI (updN nu1 t ((nu1 t) - (min ((wantsN (v (21 + 5 * i)) (v (21 + 5 * i + 2))) - sum) (nu1 t))))) hC hw 2 rfl (by omega) (by decide) ((congrArg _ (znbyte (by have := hg.1.2.2.1 (21 + 5 * i + 2); have := hg.1.2.2.1 (21 + 5 * i); have := hnu1 t; omega))).trans (vI_upd _ _ _)) dX1_eats_73 (fun H locs hw => ?_)
            have hw : zS G ((st, zo 1 (stF z co (nI ps) (nI dy) (gg))) :: (z 0, zc G 1 (zI 9 (vI pl))) :: (z 1, zc G 1 (zI 9 (vI (updN nu1 t ((nu1 t) - (min ((wantsN (v (21 + 5 * i)) (v (21 + 5 * i + 2))) - sum) (nu1 t))))))) :: (z 2, zc G 1 (zI 5 (vI (updN ax1 i (pl t))))) :: (z 3, zc G 1 (zI 5 (vI le))) :: (z 4, zc G 2 (zI 5 (vI kn1))) :: (co, zo 0 (cF w (nI mn) bm sm lt)) :: (w 0, zc G 4 (zO 5 sf)) :: (oq, zo (5 + kd) (sqF nm (nI nd))) :: rest) s H locs := hw
            refine lv_iload_n hx hb dX1_eats_74 rfl (lv_at hl 4 rfl) ?_
            refine lv_iload hx hb dX1_eats_75 (lv_at hl 0 rfl) ?_
            refine zn_iadd hx hb dX1_eats_77 ?_
            refine lv_istore_n (lv' := [(3, .int (nI (sum + (min ((wantsN (v (21 + 5 * i)) (v (21 + 5 * i + 2))) - sum) (nu1 t))))), (5, .int (nI (min ((wantsN (v (21 + 5 * i)) (v (21 + 5 * i + 2))) - sum) (nu1 t)))), (0, .ref st), (1, .int (nI i)), (2, .int (nI (wantsN (v (21 + 5 * i)) (v (21 + 5 * i + 2))))), (4, .int (nI t))]) hx hb dX1_eats_78 rfl hl (by decide) rfl (fun ls hl => ?_)
            refine lv_aload_n hx hb dX1_eats_79 rfl (lv_at hl 2 rfl) ?_
            have join_106 : ∀ (k9 : Nat → Nat), (k9 = updN kn1 i (if nu1 t - (min (wantsN (v (21 + 5 * i)) (v (21 + 5 * i + 2)) - sum) (nu1 t)) = 0 then clrN (kn1 i) t else kn1 i)) → ∀ (H : Heap) (locs : List Loc) (ls : Array Slot), zS G ((st, zo 1 (stF z co (nI ps) (nI dy) (gg))) :: (z 0, zc G 1 (zI 9 (vI pl))) :: (z 1, zc G 1 (zI 9 (vI (updN nu1 t ((nu1 t) - (min ((wantsN (v (21 + 5 * i)) (v (21 + 5 * i + 2))) - sum) (nu1 t))))))) :: (z 2, zc G 1 (zI 5 (vI (updN ax1 i (pl t))))) :: (z 3, zc G 1 (zI 5 (vI le))) :: (z 4, zc G 2 (zI 5 (vI k9))) :: (co, zo 0 (cF w (nI mn) bm sm lt)) :: (w 0, zc G 4 (zO 5 sf)) :: (oq, zo (5 + kd) (sqF nm (nI nd))) :: rest) s H locs → lv_has ls 6 [(0, .ref st), (1, .int (nI i)), (2, .int (nI (wantsN (v (21 + 5 * i)) (v (21 + 5 * i + 2))))), (3, .int (nI (sum + (min ((wantsN (v (21 + 5 * i)) (v (21 + 5 * i + 2))) - sum) (nu1 t))))), (4, .int (nI t)), (5, .int (nI (min ((wantsN (v (21 + 5 * i)) (v (21 + 5 * i + 2))) - sum) (nu1 t))))] → W p l e (zR 4 0 0) s m args below meth c H locs 0 0 Q (F0 m 106 ls []) := by
              intro k9 hk9 H locs ls hw hl
              subst hk9
              have hg2 := eatOne_Hg (i := i) (its := min (wantsN (v (21 + 5 * i)) (v (21 + 5 * i + 2)) - sum) (nu1 t)) hg1 (by omega) ht0
              have hR2 := sRel_eat (its := min (wantsN (v (21 + 5 * i)) (v (21 + 5 * i + 2)) - sum) (nu1 t)) hg1.1 hR1 (show i < v1 1 by omega) ht0
              have h011 : eatOne v1 i t (min (wantsN (v (21 + 5 * i)) (v (21 + 5 * i + 2)) - sum) (nu1 t)) 1 = v 1 := (eatOne_ne (by omega) (by omega) (by omega)).trans h01
              have hi2 : i < eatOne v1 i t (min (wantsN (v (21 + 5 * i)) (v (21 + 5 * i + 2)) - sum) (nu1 t)) 1 := by rw [h011]; exact hi
              have hps2 : ps = eatOne v1 i t (min (wantsN (v (21 + 5 * i)) (v (21 + 5 * i + 2)) - sum) (nu1 t)) 0 := by rw [(eatOne_kind ht9).2.2, h00]; exact hps
              have hkd2 : kd = eatOne v1 i t (min (wantsN (v (21 + 5 * i)) (v (21 + 5 * i + 2)) - sum) (nu1 t)) (21 + 5 * i) := by rw [(eatOne_kind ht9).1, hk1]; exact hkd
              refine lv_aload_n hx hb dX1_eats_106 rfl (lv_at hl 0 rfl) ?_
              refine lv_iload_n hx hb dX1_eats_107 rfl (lv_at hl 1 rfl) ?_
              refine z_ci (z_runV (As := [.int (nI i)]) (rest := []) hC zv_X1_77 (m_X1_picks G l kA (by first | assumption | (omega)) st co z w bm sm lt ps dy mn gg (eatOne v1 i t (min (wantsN (v (21 + 5 * i)) (v (21 + 5 * i + 2)) - sum) (nu1 t))) pl (updN nu1 t ((nu1 t) - (min ((wantsN (v (21 + 5 * i)) (v (21 + 5 * i + 2))) - sum) (nu1 t)))) (updN ax1 i (pl t)) le (updN kn1 i (if nu1 t - (min (wantsN (v (21 + 5 * i)) (v (21 + 5 * i + 2)) - sum) (nu1 t)) = 0 then clrN (kn1 i) t else kn1 i)) sf oq kd nd nm i hps2 hg2 hR2 hi2 hkd2 hsf (zrem [0, 1, 2, 3, 4, 5, 6, 7, 8] _)) hw (hw.perm (z_cut (is := [0, 1, 2, 3, 4, 5, 6, 7, 8]) (cells := [(st, zo 1 (stF z co (nI ps) (nI dy) (gg))), (z 0, zc G 1 (zI 9 (vI pl))), (z 1, zc G 1 (zI 9 (vI (updN nu1 t ((nu1 t) - (min ((wantsN (v (21 + 5 * i)) (v (21 + 5 * i + 2))) - sum) (nu1 t))))))), (z 2, zc G 1 (zI 5 (vI (updN ax1 i (pl t))))), (z 3, zc G 1 (zI 5 (vI le))), (z 4, zc G 2 (zI 5 (vI (updN kn1 i (if nu1 t - (min (wantsN (v (21 + 5 * i)) (v (21 + 5 * i + 2)) - sum) (nu1 t)) = 0 then clrN (kn1 i) t else kn1 i))))), (co, zo 0 (cF w (nI mn) bm sm lt)), (w 0, zc G 4 (zO 5 sf)), (oq, zo (5 + kd) (sqF nm (nI nd)))]) rfl rfl)) 0 rfl rfl rfl rfl rfl (Nat.le_of_ble_eq_true rfl) hl.1 ⟨Nat.le_of_ble_eq_true rfl, Nat.le_of_ble_eq_true rfl⟩ ⟨(Nat.le_of_ble_eq_true rfl), (Nat.le_of_ble_eq_true rfl)⟩ dX1_eats_108) hw (fun _ => z_keep (is := [0, 1, 2, 3, 4, 5, 6, 7, 8]) (cs := [(st, zo 1 (stF z co (nI ps) (nI dy) (gg))), (z 0, zc G 1 (zI 9 (vI pl))), (z 1, zc G 1 (zI 9 (vI (updN nu1 t ((nu1 t) - (min ((wantsN (v (21 + 5 * i)) (v (21 + 5 * i + 2))) - sum) (nu1 t))))))), (z 2, zc G 1 (zI 5 (vI (updN ax1 i (pl t))))), (z 3, zc G 1 (zI 5 (vI le))), (z 4, zc G 2 (zI 5 (vI (updN kn1 i (if nu1 t - (min (wantsN (v (21 + 5 * i)) (v (21 + 5 * i + 2)) - sum) (nu1 t)) = 0 then clrN (kn1 i) t else kn1 i))))), (co, zo 0 (cF w (nI mn) bm sm lt)), (w 0, zc G 4 (zO 5 sf)), (oq, zo (5 + kd) (sqF nm (nI nd)))]) rfl rfl) (fun r u H locs hp hw => ?_)
              obtain rfl : r = optI (picksN (eatOne v1 i t (min (wantsN (v (21 + 5 * i)) (v (21 + 5 * i + 2)) - sum) (nu1 t))) i (mayN (eatOne v1 i t (min (wantsN (v (21 + 5 * i)) (v (21 + 5 * i + 2)) - sum) (nu1 t))) i) ((eatOne v1 i t (min (wantsN (v (21 + 5 * i)) (v (21 + 5 * i + 2)) - sum) (nu1 t))) 0)) := hp
              refine lv_istore (lv' := [(4, .int (optI (picksN (eatOne v1 i t (min (wantsN (v (21 + 5 * i)) (v (21 + 5 * i + 2)) - sum) (nu1 t))) i (mayN (eatOne v1 i t (min (wantsN (v (21 + 5 * i)) (v (21 + 5 * i + 2)) - sum) (nu1 t))) i) ((eatOne v1 i t (min (wantsN (v (21 + 5 * i)) (v (21 + 5 * i + 2)) - sum) (nu1 t))) 0)))), (0, .ref st), (1, .int (nI i)), (2, .int (nI (wantsN (v (21 + 5 * i)) (v (21 + 5 * i + 2))))), (3, .int (nI (sum + (min ((wantsN (v (21 + 5 * i)) (v (21 + 5 * i + 2))) - sum) (nu1 t))))), (5, .int (nI (min ((wantsN (v (21 + 5 * i)) (v (21 + 5 * i + 2))) - sum) (nu1 t))))]) hx hb dX1_eats_111 hl (by decide) rfl (fun ls hl => ?_)
              refine lv_goto (tgt := 21) hx hb dX1_eats_113 (by decide) ?_
              exact ih_21 f (sum + (min ((wantsN (v (21 + 5 * i)) (v (21 + 5 * i + 2))) - sum) (nu1 t))) (eatOne v1 i t (min (wantsN (v (21 + 5 * i)) (v (21 + 5 * i + 2)) - sum) (nu1 t))) (updN nu1 t ((nu1 t) - (min ((wantsN (v (21 + 5 * i)) (v (21 + 5 * i + 2))) - sum) (nu1 t)))) (updN ax1 i (pl t)) (updN kn1 i (if nu1 t - (min (wantsN (v (21 + 5 * i)) (v (21 + 5 * i + 2)) - sum) (nu1 t)) = 0 then clrN (kn1 i) t else kn1 i)) hg2 hR2 ((eatOne_kind ht9).2.2.trans h00) h011 ((eatOne_kind ht9).1.trans hk1) ((eatOne_kind ht9).2.1.trans hk2) (by omega) (by have := hg.1.2.2.1 (21 + 5 * i + 2); have := hg.1.2.2.1 (21 + 5 * i); have := hnu1 t; omega) (by rw [← heq, eatsN_go (by rw [hk1, hk2]; omega) hm0 hp1, hk1, hk2, hpt1.2]) (by omega) H locs ls hw (lv_sub hl [1, 2, 3, 4, 0] rfl)
            refine z_get (v := .ref (z 1)) hC zf_X1_19_1 hw 0 rfl rfl dX1_eats_80 ?_
            refine lv_iload hx hb dX1_eats_83 (lv_at hl 5 rfl) ?_
            refine z_bald (x := (nI (nu1 t - min (wantsN (v (21 + 5 * i)) (v (21 + 5 * i + 2)) - sum) (nu1 t)))) hC hw 2 rfl (by omega) (by decide) (congrArg nI (updN_same _ _ _)) dX1_eats_85 ?_
            refine zj_ne (tgt := 106) hx hb (by have := hg.1.2.2.1 (21 + 5 * i + 2); have := hg.1.2.2.1 (21 + 5 * i); have := hnu1 t; omega) dX1_eats_86 (by decide) (fun c_86 => ?_) (fun c_86 => ?_)
            · skip
              exact join_106 kn1 (by first | (rw [if_pos c_86]) | (rw [if_neg c_86, updN_self])) H locs ls hw (lv_sub hl [2, 3, 4, 0, 5, 1] rfl)
            · skip
              refine lv_aload_n hx hb dX1_eats_89 rfl (lv_at hl 2 rfl) ?_
              refine z_get (v := .ref (z 4)) hC zf_X1_28_1 hw 0 rfl rfl dX1_eats_90 ?_
              refine lv_iload_n hx hb dX1_eats_93 rfl (lv_at hl 3 rfl) ?_
              refine lv_dup2_11 hx hb dX1_eats_94 rfl rfl ?_
              refine z_sald (x := (nI (kn1 i))) hC hw 5 rfl (by omega) (by decide) rfl dX1_eats_95 ?_
              refine lv_iconst (v := (nI 1)) hx hb dX1_eats_96 zk_1 ?_
              refine lv_iload hx hb dX1_eats_97 (lv_at hl 5 rfl) ?_
              refine zv_ishl (v := (nI (2 ^ t))) hx hb (nI_shl1 (by omega)) dX1_eats_99 ?_
              refine lv_iconst (v := -1) hx hb dX1_eats_100 zk_m1 ?_
              refine lv_ixor hx hb dX1_eats_101 ?_
              refine lv_i2s (v := ((nI (2 ^ t)) ^^^ (-1))) hx hb dX1_eats_102 (x16 t ht9) ?_
              refine zv_iand (v := (nI (clrN (kn1 i) t))) hx hb (clr_int t ht9 (kn1 i) (hkn1 i)).1 dX1_eats_103 ?_
              refine lv_i2s (v := (nI (clrN (kn1 i) t))) hx hb dX1_eats_104 (zi2s (Nat.lt_trans (clr_int t ht9 (kn1 i) (hkn1 i)).2 (by decide))) ?_
              refine z_sast (f' := vI (updN kn1 i (clrN (kn1 i) t))) hC hw 5 rfl (by omega) (by decide) ((congrArg _ (znshort (Nat.lt_trans (clr_int t ht9 (kn1 i) (hkn1 i)).2 (by decide)))).trans (vI_upd _ _ _)) dX1_eats_105 (fun H locs hw => ?_)
              have hw : zS G ((st, zo 1 (stF z co (nI ps) (nI dy) (gg))) :: (z 0, zc G 1 (zI 9 (vI pl))) :: (z 1, zc G 1 (zI 9 (vI (updN nu1 t ((nu1 t) - (min ((wantsN (v (21 + 5 * i)) (v (21 + 5 * i + 2))) - sum) (nu1 t))))))) :: (z 2, zc G 1 (zI 5 (vI (updN ax1 i (pl t))))) :: (z 3, zc G 1 (zI 5 (vI le))) :: (z 4, zc G 2 (zI 5 (vI (updN kn1 i (clrN (kn1 i) t))))) :: (co, zo 0 (cF w (nI mn) bm sm lt)) :: (w 0, zc G 4 (zO 5 sf)) :: (oq, zo (5 + kd) (sqF nm (nI nd))) :: rest) s H locs := hw
              exact join_106 (updN kn1 i (clrN (kn1 i) t)) (by first | (rw [if_pos c_86]) | (rw [if_neg c_86, updN_self])) H locs ls hw (lv_sub hl [2, 3, 4, 0, 5, 1] rfl)
    exact loop_21 ((20) + 1) 20 0 v nu ax kn hg hR rfl rfl rfl rfl (by omega) (by have := hg.1.2.2.1 (21 + 5 * i + 2); have := hg.1.2.2.1 (21 + 5 * i); omega) rfl (Nat.lt_succ_self _) H locs ls hw (lv_sub hl [3, 4, 2, 1, 0] rfl)
  refine lv_aload_n hx hb dX1_eats_0 rfl (lv_at hl 0 rfl) ?_
  refine z_get (v := .ref co) hC zf_X1_3_1 hw 0 rfl rfl dX1_eats_1 ?_
  refine lv_iload_n hx hb dX1_eats_4 rfl (lv_at hl 1 rfl) ?_
  refine z_cq (z_runVN (n := 1) (As := [.int (nI i)]) (rest := []) hC ⟨zn_X0_squirrel_2, q834, qs12⟩ (hz.1 _ (cw_t q936 rfl)) (m_X0_squirrel_2 G l kA (by first | assumption | (omega)) co w bm sm lt mn sf oq kd nd nm i (by omega) (by omega) (by omega) (zrem [6, 7, 8] _)) hw (hw.perm (z_cut (is := [6, 7, 8]) (cells := [(co, zo 0 (cF w (nI mn) bm sm lt)), (w 0, zc G 4 (zO 5 sf)), (oq, zo (5 + kd) (sqF nm (nI nd)))]) rfl rfl)) 6 rfl rfl rfl rfl rfl (Nat.le_of_ble_eq_true rfl) hl.1 ⟨Nat.le_of_ble_eq_true rfl, Nat.le_of_ble_eq_true rfl⟩ ⟨(Nat.le_of_ble_eq_true rfl), (Nat.le_of_ble_eq_true rfl)⟩ dX1_eats_5) hw (fun _ => z_keep (is := [6, 7, 8]) (cs := [(co, zo 0 (cF w (nI mn) bm sm lt)), (w 0, zc G 4 (zO 5 sf)), (oq, zo (5 + kd) (sqF nm (nI nd)))]) rfl rfl) (fun r u H locs hp hw => ?_)
  obtain rfl : r = some oq := hp
  rcases hk5 with rfl | rfl | rfl | rfl | rfl
  · skip
    have hl : lv_has ls 6 [(0, .ref st), (1, .int (nI i))] := hl
    have hw : zS G ((st, zo 1 (stF z co (nI ps) (nI dy) (gg))) :: (z 0, zc G 1 (zI 9 (vI pl))) :: (z 1, zc G 1 (zI 9 (vI nu))) :: (z 2, zc G 1 (zI 5 (vI ax))) :: (z 3, zc G 1 (zI 5 (vI le))) :: (z 4, zc G 2 (zI 5 (vI kn))) :: (co, zo 0 (cF w (nI mn) bm sm lt)) :: (w 0, zc G 4 (zO 5 sf)) :: (oq, zo 5 (sqF nm (nI nd))) :: rest) s H locs := hw
    refine z_ci (z_runB (x := (⟨"NutCaches$Squirrel", "wants", "()I"⟩ : MethodName)) (owner := "NutCaches$Squirrel") (C := "NutCaches$Plain") (n := 0) (As := []) (rest := []) hC ⟨zn_X5_wants, q862, q867, ⟨by decide +kernel, by decide +kernel⟩, by decide +kernel⟩ (hC.hts _ q977) (hC.hts _ q863) (z_declO hC q862 q869) (m_X5_wants_0 G l kA (by first | assumption | (omega)) oq nd nm (zrem [8] _)) hw (hw.perm (z_cut (is := [8]) (cells := [(oq, zo 5 (sqF nm (nI nd)))]) rfl rfl)) 8 rfl rfl rfl rfl rfl (Nat.le_of_ble_eq_true rfl) hl.1 ⟨Nat.le_of_ble_eq_true rfl, Nat.le_of_ble_eq_true rfl⟩ ⟨(Nat.le_of_ble_eq_true rfl), (Nat.le_of_ble_eq_true rfl)⟩ dX1_eats_8) hw (fun _ => z_keep (is := [8]) (cs := [(oq, zo 5 (sqF nm (nI nd)))]) rfl rfl) (fun r u H locs hp hw => ?_)
    obtain rfl : r = nI nd := hp
    exact join_11 nd (by first | rfl | exact Nat.add_comm _ _) H locs ls hw (lv_sub hl [0, 1] rfl)
  · skip
    have hl : lv_has ls 6 [(0, .ref st), (1, .int (nI i))] := hl
    have hw : zS G ((st, zo 1 (stF z co (nI ps) (nI dy) (gg))) :: (z 0, zc G 1 (zI 9 (vI pl))) :: (z 1, zc G 1 (zI 9 (vI nu))) :: (z 2, zc G 1 (zI 5 (vI ax))) :: (z 3, zc G 1 (zI 5 (vI le))) :: (z 4, zc G 2 (zI 5 (vI kn))) :: (co, zo 0 (cF w (nI mn) bm sm lt)) :: (w 0, zc G 4 (zO 5 sf)) :: (oq, zo 6 (sqF nm (nI nd))) :: rest) s H locs := hw
    refine z_ci (z_runB (x := (⟨"NutCaches$Squirrel", "wants", "()I"⟩ : MethodName)) (owner := "NutCaches$Squirrel") (C := "NutCaches$Greedy") (n := 0) (As := []) (rest := []) hC ⟨zn_X5_wants, q862, q865, ⟨by decide +kernel, by decide +kernel⟩, by decide +kernel⟩ (hC.hts _ q977) (hC.hts _ q863) (z_declO hC q862 q869) (m_X5_wants_1 G l kA (by first | assumption | (omega)) oq nd nm (zrem [8] _)) hw (hw.perm (z_cut (is := [8]) (cells := [(oq, zo 6 (sqF nm (nI nd)))]) rfl rfl)) 8 rfl rfl rfl rfl rfl (Nat.le_of_ble_eq_true rfl) hl.1 ⟨Nat.le_of_ble_eq_true rfl, Nat.le_of_ble_eq_true rfl⟩ ⟨(Nat.le_of_ble_eq_true rfl), (Nat.le_of_ble_eq_true rfl)⟩ dX1_eats_8) hw (fun _ => z_keep (is := [8]) (cs := [(oq, zo 6 (sqF nm (nI nd)))]) rfl rfl) (fun r u H locs hp hw => ?_)
    obtain rfl : r = nI (2 * nd) := hp
    exact join_11 (2 * nd) (by first | rfl | exact Nat.add_comm _ _) H locs ls hw (lv_sub hl [0, 1] rfl)
  · skip
    have hl : lv_has ls 6 [(0, .ref st), (1, .int (nI i))] := hl
    have hw : zS G ((st, zo 1 (stF z co (nI ps) (nI dy) (gg))) :: (z 0, zc G 1 (zI 9 (vI pl))) :: (z 1, zc G 1 (zI 9 (vI nu))) :: (z 2, zc G 1 (zI 5 (vI ax))) :: (z 3, zc G 1 (zI 5 (vI le))) :: (z 4, zc G 2 (zI 5 (vI kn))) :: (co, zo 0 (cF w (nI mn) bm sm lt)) :: (w 0, zc G 4 (zO 5 sf)) :: (oq, zo 7 (sqF nm (nI nd))) :: rest) s H locs := hw
    refine z_ci (z_runB (x := (⟨"NutCaches$Squirrel", "wants", "()I"⟩ : MethodName)) (owner := "NutCaches$Squirrel") (C := "NutCaches$Neat") (n := 0) (As := []) (rest := []) hC ⟨zn_X5_wants, q862, q866, ⟨by decide +kernel, by decide +kernel⟩, by decide +kernel⟩ (hC.hts _ q977) (hC.hts _ q863) (z_declO hC q862 q869) (m_X5_wants_2 G l kA (by first | assumption | (omega)) oq nd nm (zrem [8] _)) hw (hw.perm (z_cut (is := [8]) (cells := [(oq, zo 7 (sqF nm (nI nd)))]) rfl rfl)) 8 rfl rfl rfl rfl rfl (Nat.le_of_ble_eq_true rfl) hl.1 ⟨Nat.le_of_ble_eq_true rfl, Nat.le_of_ble_eq_true rfl⟩ ⟨(Nat.le_of_ble_eq_true rfl), (Nat.le_of_ble_eq_true rfl)⟩ dX1_eats_8) hw (fun _ => z_keep (is := [8]) (cs := [(oq, zo 7 (sqF nm (nI nd)))]) rfl rfl) (fun r u H locs hp hw => ?_)
    obtain rfl : r = nI nd := hp
    exact join_11 nd (by first | rfl | exact Nat.add_comm _ _) H locs ls hw (lv_sub hl [0, 1] rfl)
  · skip
    have hl : lv_has ls 6 [(0, .ref st), (1, .int (nI i))] := hl
    have hw : zS G ((st, zo 1 (stF z co (nI ps) (nI dy) (gg))) :: (z 0, zc G 1 (zI 9 (vI pl))) :: (z 1, zc G 1 (zI 9 (vI nu))) :: (z 2, zc G 1 (zI 5 (vI ax))) :: (z 3, zc G 1 (zI 5 (vI le))) :: (z 4, zc G 2 (zI 5 (vI kn))) :: (co, zo 0 (cF w (nI mn) bm sm lt)) :: (w 0, zc G 4 (zO 5 sf)) :: (oq, zo 8 (sqF nm (nI nd))) :: rest) s H locs := hw
    refine z_ci (z_runB (x := (⟨"NutCaches$Squirrel", "wants", "()I"⟩ : MethodName)) (owner := "NutCaches$Squirrel") (C := "NutCaches$Dozy") (n := 0) (As := []) (rest := []) hC ⟨zn_X5_wants, q862, q864, ⟨by decide +kernel, by decide +kernel⟩, by decide +kernel⟩ (hC.hts _ q977) (hC.hts _ q863) (z_declO hC q862 q869) (m_X5_wants_3 G l kA (by first | assumption | (omega)) oq nd nm (zrem [8] _)) hw (hw.perm (z_cut (is := [8]) (cells := [(oq, zo 8 (sqF nm (nI nd)))]) rfl rfl)) 8 rfl rfl rfl rfl rfl (Nat.le_of_ble_eq_true rfl) hl.1 ⟨Nat.le_of_ble_eq_true rfl, Nat.le_of_ble_eq_true rfl⟩ ⟨(Nat.le_of_ble_eq_true rfl), (Nat.le_of_ble_eq_true rfl)⟩ dX1_eats_8) hw (fun _ => z_keep (is := [8]) (cs := [(oq, zo 8 (sqF nm (nI nd)))]) rfl rfl) (fun r u H locs hp hw => ?_)
    obtain rfl : r = nI (1 + nd) := hp
    exact join_11 (1 + nd) (by first | rfl | exact Nat.add_comm _ _) H locs ls hw (lv_sub hl [0, 1] rfl)
  · skip
    have hl : lv_has ls 6 [(0, .ref st), (1, .int (nI i))] := hl
    have hw : zS G ((st, zo 1 (stF z co (nI ps) (nI dy) (gg))) :: (z 0, zc G 1 (zI 9 (vI pl))) :: (z 1, zc G 1 (zI 9 (vI nu))) :: (z 2, zc G 1 (zI 5 (vI ax))) :: (z 3, zc G 1 (zI 5 (vI le))) :: (z 4, zc G 2 (zI 5 (vI kn))) :: (co, zo 0 (cF w (nI mn) bm sm lt)) :: (w 0, zc G 4 (zO 5 sf)) :: (oq, zo 9 (sqF nm (nI nd))) :: rest) s H locs := hw
    refine z_ci (z_runB (x := (⟨"NutCaches$Squirrel", "wants", "()I"⟩ : MethodName)) (owner := "NutCaches$Squirrel") (C := "NutCaches$Spy") (n := 0) (As := []) (rest := []) hC ⟨zn_X5_wants, q862, q868, ⟨by decide +kernel, by decide +kernel⟩, by decide +kernel⟩ (hC.hts _ q977) (hC.hts _ q863) (z_declO hC q862 q869) (m_X5_wants_4 G l kA (by first | assumption | (omega)) oq nd nm (zrem [8] _)) hw (hw.perm (z_cut (is := [8]) (cells := [(oq, zo 9 (sqF nm (nI nd)))]) rfl rfl)) 8 rfl rfl rfl rfl rfl (Nat.le_of_ble_eq_true rfl) hl.1 ⟨Nat.le_of_ble_eq_true rfl, Nat.le_of_ble_eq_true rfl⟩ ⟨(Nat.le_of_ble_eq_true rfl), (Nat.le_of_ble_eq_true rfl)⟩ dX1_eats_8) hw (fun _ => z_keep (is := [8]) (cs := [(oq, zo 9 (sqF nm (nI nd)))]) rfl rfl) (fun r u H locs hp hw => ?_)
    obtain rfl : r = nI (1 + nd) := hp
    exact join_11 (1 + nd) (by first | rfl | exact Nat.add_comm _ _) H locs ls hw (lv_sub hl [0, 1] rfl)
