/-! MODEL: hedges -/
set_option maxRecDepth 100000
set_option maxHeartbeats 4000000 in
theorem m_X2_in_n (G : zE) (l : Launch) (x : Int32) (a : Nat) (b : Nat) (ha : a < 2147483648) (hb9 : b < 2147483648) (rest : va_W) : zMi G l yX2_in cX2_in 3 (some .boolean) 0 0 0 [.int x, .int (nI a), .int (nI b)] (rest) (fun (r : Int32) (_ : Unit) => r = bI (inR x a b)) (fun (_ : Unit) => rest) := by
  refine z_begZ (by decide) (Nat.le_of_ble_eq_true rfl) (fun p e s m args below meth c ls Q hC hl hw hend => ?_)
  have hx := hC.hx
  have hb := hC.hb
  have hl : lv_has ls 3 [(0, .int x), (1, .int (nI a)), (2, .int (nI b))] := hl
  refine lv_iload_n hx hb dX2_in_0 rfl (lv_at hl 0 rfl) ?_
  refine lv_iload_n hx hb dX2_in_1 rfl (lv_at hl 1 rfl) ?_
  refine lv_icmp_lt (tgt := 14) hx hb dX2_in_2 (by decide) (fun c_2 => ?_) (fun c_2 => ?_)
  · skip
    refine lv_iconst (v := (nI 0)) hx hb dX2_in_14 zk_0 ?_
    exact hend _ _ _ _ _ _ _ () rfl hw (by first | exact (bI_t ((inR_iff ha hb9).mp ⟨Int32.not_lt.mp c_2, Int32.not_lt.mp c_7⟩)).symm | exact (bI_f (fun h => absurd c_2 (Int32.not_lt.mpr ((inR_iff ha hb9).mpr h).1))).symm | exact (bI_f (fun h => absurd c_7 (Int32.not_lt.mpr ((inR_iff ha hb9).mpr h).2))).symm) (Nat.le_of_ble_eq_true rfl) (Nat.le_of_ble_eq_true rfl) dX2_in_15
  · skip
    refine lv_iload_n hx hb dX2_in_5 rfl (lv_at hl 0 rfl) ?_
    refine lv_iload_n hx hb dX2_in_6 rfl (lv_at hl 2 rfl) ?_
    refine lv_icmp_gt (tgt := 14) hx hb dX2_in_7 (by decide) (fun c_7 => ?_) (fun c_7 => ?_)
    · skip
      refine lv_iconst (v := (nI 0)) hx hb dX2_in_14 zk_0 ?_
      exact hend _ _ _ _ _ _ _ () rfl hw (by first | exact (bI_t ((inR_iff ha hb9).mp ⟨Int32.not_lt.mp c_2, Int32.not_lt.mp c_7⟩)).symm | exact (bI_f (fun h => absurd c_2 (Int32.not_lt.mpr ((inR_iff ha hb9).mpr h).1))).symm | exact (bI_f (fun h => absurd c_7 (Int32.not_lt.mpr ((inR_iff ha hb9).mpr h).2))).symm) (Nat.le_of_ble_eq_true rfl) (Nat.le_of_ble_eq_true rfl) dX2_in_15
    · skip
      refine lv_iconst (v := (nI 1)) hx hb dX2_in_10 zk_1 ?_
      refine lv_goto (tgt := 15) hx hb dX2_in_11 (by decide) ?_
      exact hend _ _ _ _ _ _ _ () rfl hw (by first | exact (bI_t ((inR_iff ha hb9).mp ⟨Int32.not_lt.mp c_2, Int32.not_lt.mp c_7⟩)).symm | exact (bI_f (fun h => absurd c_2 (Int32.not_lt.mpr ((inR_iff ha hb9).mpr h).1))).symm | exact (bI_f (fun h => absurd c_7 (Int32.not_lt.mpr ((inR_iff ha hb9).mpr h).2))).symm) (Nat.le_of_ble_eq_true rfl) (Nat.le_of_ble_eq_true rfl) dX2_in_15
theorem zf_X2_19_2 : zFl 2 11 RX2 19 true (.array .int) := ⟨RX2, TX2, 25, tyX2, rfl, by decide, in_X2, q1809, rfl, by decide +kernel, tyX2_ok, nmX2⟩
theorem zs_X2_59 : zSs RX2 59 yX2_in cX2_in 3 (some .boolean) 3 := ⟨lw_S q1879 q1880 q53 q1881, ⟨by decide +kernel, by decide +kernel⟩, by decide +kernel⟩
set_option maxHeartbeats 4000000 in
theorem m_X2_isPit (G : zE) (l : Launch) (mo : Nat) (q : Nat → Nat) (le : Int32) (at1 : Int32) (st : Int32) (tk : Int32) (ln : Int32) (va : Int32) (wr : Int32) (cl : Int32) (un : Int32) (si : Int32) (x : Int32) (v : Nat → Nat) (hH : Hw v) (rest : va_W) : zMi G l yX2_isPit cX2_isPit 2 (some .boolean) 1 0 0 [.ref mo, .int x] ((mo, zo 2 (mF q le at1 st tk ln va wr cl un si)) :: (q 11, zc G 0 (zI 46 (vI v))) :: rest) (fun (r : Int32) (_ : Unit) => r = bI (isP (v 0) x)) (fun (_ : Unit) => (mo, zo 2 (mF q le at1 st tk ln va wr cl un si)) :: (q 11, zc G 0 (zI 46 (vI v))) :: rest) := by
  refine z_begZ (by decide) (Nat.le_of_ble_eq_true rfl) (fun p e s m args below meth c ls Q hC hl hw hend => ?_)
  have hx := hC.hx
  have hb := hC.hb
  have hl : lv_has ls 2 [(0, .ref mo), (1, .int x)] := hl
  have hw : zS G ((mo, zo 2 (mF q le at1 st tk ln va wr cl un si)) :: (q 11, zc G 0 (zI 46 (vI v))) :: rest) s s.heap [] := hw
  refine lv_iload_n hx hb dX2_isPit_0 rfl (lv_at hl 1 rfl) ?_
  refine lv_iconst (v := (nI 0)) hx hb dX2_isPit_1 zk_0 ?_
  refine lv_aload_n hx hb dX2_isPit_2 rfl (lv_at hl 0 rfl) ?_
  refine z_get (v := .ref (q 11)) hC zf_X2_19_2 hw 0 rfl rfl dX2_isPit_3 ?_
  refine lv_iconst (v := (nI 0)) hx hb dX2_isPit_6 zk_0 ?_
  refine z_iald (x := (nI (v 0))) hC hw 1 rfl (by decide) (by decide) rfl dX2_isPit_7 ?_
  refine lv_iconst (v := (nI 1)) hx hb dX2_isPit_8 zk_1 ?_
  refine zv_isub (v := (nI (v 0) - nI 1)) hx hb rfl dX2_isPit_9 ?_
  refine z_ci (z_runS (As := [.int x, .int (nI 0), .int (nI (v 0) - nI 1)]) (rest := []) hC zs_X2_59 (m_X2_in G l x (nI 0) (nI (v 0) - nI 1) _) hw rfl rfl (Nat.le_of_ble_eq_true rfl) hl.1 ⟨Nat.le_of_ble_eq_true rfl, Nat.le_of_ble_eq_true rfl⟩ ⟨(Nat.le_of_ble_eq_true rfl), (Nat.le_of_ble_eq_true rfl)⟩ dX2_isPit_10) hw (fun _ => List.Perm.refl _) (fun r u H locs hp hw => ?_)
  obtain rfl : r = bI ((nI 0) ≤ x ∧ x ≤ (nI (v 0) - nI 1)) := hp
  exact hend _ _ _ _ _ _ _ () (bI_nar _) hw (by exact bI_iff (isP_iff (by have := hH.1; omega))) (Nat.le_of_ble_eq_true rfl) (Nat.le_of_ble_eq_true rfl) dX2_isPit_13
set_option maxHeartbeats 4000000 in
theorem m_X2_isSquirrel (G : zE) (l : Launch) (mo : Nat) (q : Nat → Nat) (le : Int32) (at1 : Int32) (st : Int32) (tk : Int32) (ln : Int32) (va : Int32) (wr : Int32) (cl : Int32) (un : Int32) (si : Int32) (x : Int32) (v : Nat → Nat) (hH : Hw v) (rest : va_W) : zMi G l yX2_isSquirrel cX2_isSquirrel 2 (some .boolean) 1 0 0 [.ref mo, .int x] ((mo, zo 2 (mF q le at1 st tk ln va wr cl un si)) :: (q 11, zc G 0 (zI 46 (vI v))) :: rest) (fun (r : Int32) (_ : Unit) => r = bI (isP (v 1) x)) (fun (_ : Unit) => (mo, zo 2 (mF q le at1 st tk ln va wr cl un si)) :: (q 11, zc G 0 (zI 46 (vI v))) :: rest) := by
  refine z_begZ (by decide) (Nat.le_of_ble_eq_true rfl) (fun p e s m args below meth c ls Q hC hl hw hend => ?_)
  have hx := hC.hx
  have hb := hC.hb
  have hl : lv_has ls 2 [(0, .ref mo), (1, .int x)] := hl
  have hw : zS G ((mo, zo 2 (mF q le at1 st tk ln va wr cl un si)) :: (q 11, zc G 0 (zI 46 (vI v))) :: rest) s s.heap [] := hw
  refine lv_iload_n hx hb dX2_isSquirrel_0 rfl (lv_at hl 1 rfl) ?_
  refine lv_iconst (v := (nI 0)) hx hb dX2_isSquirrel_1 zk_0 ?_
  refine lv_aload_n hx hb dX2_isSquirrel_2 rfl (lv_at hl 0 rfl) ?_
  refine z_get (v := .ref (q 11)) hC zf_X2_19_2 hw 0 rfl rfl dX2_isSquirrel_3 ?_
  refine lv_iconst (v := (nI 1)) hx hb dX2_isSquirrel_6 zk_1 ?_
  refine z_iald (x := (nI (v 1))) hC hw 1 rfl (by decide) (by decide) rfl dX2_isSquirrel_7 ?_
  refine lv_iconst (v := (nI 1)) hx hb dX2_isSquirrel_8 zk_1 ?_
  refine zv_isub (v := (nI (v 1) - nI 1)) hx hb rfl dX2_isSquirrel_9 ?_
  refine z_ci (z_runS (As := [.int x, .int (nI 0), .int (nI (v 1) - nI 1)]) (rest := []) hC zs_X2_59 (m_X2_in G l x (nI 0) (nI (v 1) - nI 1) _) hw rfl rfl (Nat.le_of_ble_eq_true rfl) hl.1 ⟨Nat.le_of_ble_eq_true rfl, Nat.le_of_ble_eq_true rfl⟩ ⟨(Nat.le_of_ble_eq_true rfl), (Nat.le_of_ble_eq_true rfl)⟩ dX2_isSquirrel_10) hw (fun _ => List.Perm.refl _) (fun r u H locs hp hw => ?_)
  obtain rfl : r = bI ((nI 0) ≤ x ∧ x ≤ (nI (v 1) - nI 1)) := hp
  exact hend _ _ _ _ _ _ _ () (bI_nar _) hw (by exact bI_iff (isP_iff (by have := hH.2.1; omega))) (Nat.le_of_ble_eq_true rfl) (Nat.le_of_ble_eq_true rfl) dX2_isSquirrel_13
set_option maxHeartbeats 4000000 in
theorem m_X2_knowing (G : zE) (l : Launch) (mo : Nat) (q : Nat → Nat) (le : Int32) (at1 : Int32) (st : Int32) (tk : Int32) (ln : Int32) (va : Int32) (wr : Int32) (cl : Int32) (un : Int32) (si : Int32) (t : Nat) (ht : t < 9) (v : Nat → Nat) (hH : Hw v) (rest : va_W) : zMi G l yX2_knowing cX2_knowing 4 (some .int) 1 0 0 [.ref mo, .int (nI t)] ((mo, zo 2 (mF q le at1 st tk ln va wr cl un si)) :: (q 11, zc G 0 (zI 46 (vI v))) :: rest) (fun (r : Int32) (_ : Unit) => r = nI (knowN v t)) (fun (_ : Unit) => (mo, zo 2 (mF q le at1 st tk ln va wr cl un si)) :: (q 11, zc G 0 (zI 46 (vI v))) :: rest) := by
  refine z_begI (by decide) (Nat.le_of_ble_eq_true rfl) (fun p e s m args below meth c ls Q hC hl hw hend => ?_)
  have hx := hC.hx
  have hb := hC.hb
  have hl : lv_has ls 4 [(0, .ref mo), (1, .int (nI t))] := hl
  have hw : zS G ((mo, zo 2 (mF q le at1 st tk ln va wr cl un si)) :: (q 11, zc G 0 (zI 46 (vI v))) :: rest) s s.heap [] := hw
  have hp := hH.2.1
  refine lv_iconst (v := (nI 0)) hx hb dX2_knowing_0 zk_0 ?_
  refine lv_istore_n (lv' := [(2, .int (nI 0)), (0, .ref mo), (1, .int (nI t))]) hx hb dX2_knowing_1 rfl hl (by decide) rfl (fun ls hl => ?_)
  refine lv_iconst (v := (nI 0)) hx hb dX2_knowing_2 zk_0 ?_
  refine lv_istore_n (lv' := [(3, .int (nI 0)), (2, .int (nI 0)), (0, .ref mo), (1, .int (nI t))]) hx hb dX2_knowing_3 rfl hl (by decide) rfl (fun ls hl => ?_)
  have loop_4 : ∀ (fuel : Nat) (k : Nat), (k ≤ v 1) → (v 1 - k) < fuel → ∀ (H : Heap) (locs : List Loc) (ls : Array Slot), zS G ((mo, zo 2 (mF q le at1 st tk ln va wr cl un si)) :: (q 11, zc G 0 (zI 46 (vI v))) :: rest) s H locs → lv_has ls 4 [(0, .ref mo), (1, .int (nI t)), (2, .int (nI (orB (fun i => (v (21 + 5 * i + 4)).testBit t) k))), (3, .int (nI k))] → W p l e (zR 1 0 0) s m args below meth c H locs 0 0 Q (F0 m 4 ls []) := by
    intro fuel
    induction fuel with
    | zero => intro k hk hfuel; exact absurd hfuel (Nat.not_lt_zero _)
    | succ fuel_4 ih_4 =>
      intro k hk hfuel_4 H locs ls hw hl
      refine lv_iload_n hx hb dX2_knowing_4 rfl (lv_at hl 3 rfl) ?_
      refine lv_aload_n hx hb dX2_knowing_5 rfl (lv_at hl 0 rfl) ?_
      refine z_get (v := .ref (q 11)) hC zf_X2_19_2 hw 0 rfl rfl dX2_knowing_6 ?_
      refine lv_iconst (v := (nI 1)) hx hb dX2_knowing_9 zk_1 ?_
      refine z_iald (x := (nI (v 1))) hC hw 1 rfl (by decide) (by decide) rfl dX2_knowing_10 ?_
      refine zi_ge (tgt := 50) hx hb (by omega) (by have := hH.2.2.1 1; omega) dX2_knowing_11 (by decide) (fun c_11 => ?_) (fun c_11 => ?_)
      · skip
        refine lv_iload_n hx hb dX2_knowing_50 rfl (lv_at hl 2 rfl) ?_
        exact hend _ _ _ _ _ _ _ () hw (by rw [show k = v 1 by omega]; rfl) (Nat.le_of_ble_eq_true rfl) (Nat.le_of_ble_eq_true rfl) dX2_knowing_51
      · skip
        refine lv_iload_n hx hb dX2_knowing_14 rfl (lv_at hl 2 rfl) ?_
        have join_42 : ∀ (x : Nat), (x = if (v (21 + 5 * k + 4)).testBit t = true then 2 ^ k else 0) → ∀ (H : Heap) (locs : List Loc) (ls : Array Slot), zS G ((mo, zo 2 (mF q le at1 st tk ln va wr cl un si)) :: (q 11, zc G 0 (zI 46 (vI v))) :: rest) s H locs → lv_has ls 4 [(0, .ref mo), (1, .int (nI t)), (2, .int (nI (orB (fun i => (v (21 + 5 * i + 4)).testBit t) k))), (3, .int (nI k))] → W p l e (zR 1 0 0) s m args below meth c H locs 0 0 Q (F0 m 42 ls [.int (nI x), .int (nI (orB (fun i => (v (21 + 5 * i + 4)).testBit t) k))]) := by
          intro x hj H locs ls hw hl
          subst hj
          refine zv_ior (v := (nI ((orB (fun i => (v (21 + 5 * i + 4)).testBit t) k) ||| (if (v (21 + 5 * k + 4)).testBit t = true then 2 ^ k else 0)))) hx hb (nI_or _ _) dX2_knowing_42 ?_
          refine lv_istore_n (lv' := [(2, .int (nI ((orB (fun i => (v (21 + 5 * i + 4)).testBit t) k) ||| (if (v (21 + 5 * k + 4)).testBit t = true then 2 ^ k else 0)))), (0, .ref mo), (1, .int (nI t)), (3, .int (nI k))]) hx hb dX2_knowing_43 rfl hl (by decide) rfl (fun ls hl => ?_)
          refine lv_iinc (v := (nI (k + 1))) (lv' := [(3, .int (nI (k + 1))), (2, .int (nI ((orB (fun i => (v (21 + 5 * i + 4)).testBit t) k) ||| (if (v (21 + 5 * k + 4)).testBit t = true then 2 ^ k else 0)))), (0, .ref mo), (1, .int (nI t))]) hx hb dX2_knowing_44 hl (k := 3) rfl (zincn _ 1) (by decide) rfl (fun ls hl => ?_)
          refine lv_goto (tgt := 4) hx hb dX2_knowing_47 (by decide) ?_
          exact ih_4 (k + 1) (by have := hH.2.2.1 1; omega) (by have := hH.2.2.1 1; omega) H locs ls hw (lv_sub hl [2, 3, 1, 0] rfl)
        refine lv_aload_n hx hb dX2_knowing_15 rfl (lv_at hl 0 rfl) ?_
        refine z_get (v := .ref (q 11)) hC zf_X2_19_2 hw 0 rfl rfl dX2_knowing_16 ?_
        refine lv_bipush (v := (nI 21)) hx hb dX2_knowing_19 zb_21 ?_
        refine lv_iconst (v := (nI 5)) hx hb dX2_knowing_21 zk_5 ?_
        refine lv_iload_n hx hb dX2_knowing_22 rfl (lv_at hl 3 rfl) ?_
        refine zn_imul hx hb dX2_knowing_23 ?_
        refine zn_iadd hx hb dX2_knowing_24 ?_
        refine lv_iconst (v := (nI 4)) hx hb dX2_knowing_25 zk_4 ?_
        refine zn_iadd hx hb dX2_knowing_26 ?_
        refine z_iald (x := (nI (v (21 + 5 * k + 4)))) hC hw 1 rfl (by omega) (by decide) rfl dX2_knowing_27 ?_
        refine lv_iload_n hx hb dX2_knowing_28 rfl (lv_at hl 1 rfl) ?_
        refine z_ci (z_runS (As := [.int (nI (v (21 + 5 * k + 4))), .int (nI t)]) (rest := [.int (nI (orB (fun i => (v (21 + 5 * i + 4)).testBit t) k))]) hC zs_X2_152 (m_X2_has G l (v (21 + 5 * k + 4)) t (by have := hH.2.2.1 (21 + 5 * k + 4); omega) (by omega) _) hw rfl rfl (Nat.le_of_ble_eq_true rfl) hl.1 ⟨Nat.le_of_ble_eq_true rfl, Nat.le_of_ble_eq_true rfl⟩ ⟨(Nat.le_of_ble_eq_true rfl), (Nat.le_of_ble_eq_true rfl)⟩ dX2_knowing_29) hw (fun _ => List.Perm.refl _) (fun r u H locs hp hw => ?_)
        obtain rfl : r = bI ((v (21 + 5 * k + 4)).testBit t = true) := hp
        refine zb_eq (tgt := 41) hx hb dX2_knowing_32 (by decide) (fun c_32 => ?_) (fun c_32 => ?_)
        · skip
          refine lv_iconst (v := (nI 0)) hx hb dX2_knowing_41 zk_0 ?_
          exact join_42 0 (by first | rw [if_pos c_32] | rw [if_neg c_32]) H locs ls hw (lv_sub hl [0, 1, 2, 3] rfl)
        · skip
          refine lv_iconst (v := (nI 1)) hx hb dX2_knowing_35 zk_1 ?_
          refine lv_iload_n hx hb dX2_knowing_36 rfl (lv_at hl 3 rfl) ?_
          refine zv_ishl (v := (nI (2 ^ k))) hx hb (nI_shl1 (by omega)) dX2_knowing_37 ?_
          refine lv_goto (tgt := 42) hx hb dX2_knowing_38 (by decide) ?_
          exact join_42 (2 ^ k) (by first | rw [if_pos c_32] | rw [if_neg c_32]) H locs ls hw (lv_sub hl [0, 1, 2, 3] rfl)
  exact loop_4 ((v 1 - 0) + 1) 0 (by have := hH.2.2.1 1; omega) (Nat.lt_succ_self _) s.heap [] ls hw (lv_sub hl [2, 3, 1, 0] rfl)
set_option maxHeartbeats 4000000 in
theorem m_X2_wanted (G : zE) (l : Launch) (mo : Nat) (q : Nat → Nat) (le : Int32) (at1 : Int32) (st : Int32) (tk : Int32) (ln : Int32) (va : Int32) (wr : Int32) (cl : Int32) (un : Int32) (si : Int32) (i : Nat) (hi : i < 5) (v : Nat → Nat) (hH : Hw v) (rest : va_W) : zMi G l yX2_wanted cX2_wanted 2 (some .int) 1 0 0 [.ref mo, .int (nI i)] ((mo, zo 2 (mF q le at1 st tk ln va wr cl un si)) :: (q 11, zc G 0 (zI 46 (vI v))) :: rest) (fun (r : Int32) (_ : Unit) => r = nI (wantsN (v (21 + 5 * i)) (v (21 + 5 * i + 2)))) (fun (_ : Unit) => (mo, zo 2 (mF q le at1 st tk ln va wr cl un si)) :: (q 11, zc G 0 (zI 46 (vI v))) :: rest) := by
  refine z_begI (by decide) (Nat.le_of_ble_eq_true rfl) (fun p e s m args below meth c ls Q hC hl hw hend => ?_)
  have hx := hC.hx
  have hb := hC.hb
  have hl : lv_has ls 2 [(0, .ref mo), (1, .int (nI i))] := hl
  have hw : zS G ((mo, zo 2 (mF q le at1 st tk ln va wr cl un si)) :: (q 11, zc G 0 (zI 46 (vI v))) :: rest) s s.heap [] := hw
  have h1 := hH.2.2.1 (21 + 5 * i)
  have h2 := hH.2.2.1 (21 + 5 * i + 2)
  refine lv_aload_n hx hb dX2_wanted_0 rfl (lv_at hl 0 rfl) ?_
  refine z_get (v := .ref (q 11)) hC zf_X2_19_2 hw 0 rfl rfl dX2_wanted_1 ?_
  refine lv_bipush (v := (nI 21)) hx hb dX2_wanted_4 zb_21 ?_
  refine lv_iconst (v := (nI 5)) hx hb dX2_wanted_6 zk_5 ?_
  refine lv_iload_n hx hb dX2_wanted_7 rfl (lv_at hl 1 rfl) ?_
  refine zn_imul hx hb dX2_wanted_8 ?_
  refine zn_iadd hx hb dX2_wanted_9 ?_
  refine z_iald (x := (nI (v (21 + 5 * i)))) hC hw 1 rfl (by omega) (by decide) rfl dX2_wanted_10 ?_
  refine lv_aload_n hx hb dX2_wanted_11 rfl (lv_at hl 0 rfl) ?_
  refine z_get (v := .ref (q 11)) hC zf_X2_19_2 hw 0 rfl rfl dX2_wanted_12 ?_
  refine lv_bipush (v := (nI 21)) hx hb dX2_wanted_15 zb_21 ?_
  refine lv_iconst (v := (nI 5)) hx hb dX2_wanted_17 zk_5 ?_
  refine lv_iload_n hx hb dX2_wanted_18 rfl (lv_at hl 1 rfl) ?_
  refine zn_imul hx hb dX2_wanted_19 ?_
  refine zn_iadd hx hb dX2_wanted_20 ?_
  refine lv_iconst (v := (nI 2)) hx hb dX2_wanted_21 zk_2 ?_
  refine zn_iadd hx hb dX2_wanted_22 ?_
  refine z_iald (x := (nI (v (21 + 5 * i + 2)))) hC hw 1 rfl (by omega) (by decide) rfl dX2_wanted_23 ?_
  refine z_ci (z_runS (As := [.int (nI (v (21 + 5 * i))), .int (nI (v (21 + 5 * i + 2)))]) (rest := []) hC zs_X2_160 (m_X2_wants G l (v (21 + 5 * i)) (v (21 + 5 * i + 2)) (by have := hH.2.2.1 (21 + 5 * i); omega) (by have := hH.2.2.1 (21 + 5 * i + 2); omega) _) hw rfl rfl (Nat.le_of_ble_eq_true rfl) hl.1 ⟨Nat.le_of_ble_eq_true rfl, Nat.le_of_ble_eq_true rfl⟩ ⟨(Nat.le_of_ble_eq_true rfl), (Nat.le_of_ble_eq_true rfl)⟩ dX2_wanted_24) hw (fun _ => List.Perm.refl _) (fun r u H locs hp hw => ?_)
  obtain rfl : r = nI (wantsN (v (21 + 5 * i)) (v (21 + 5 * i + 2))) := hp
  exact hend _ _ _ _ _ _ _ () hw (by first | rfl | simp_all) (Nat.le_of_ble_eq_true rfl) (Nat.le_of_ble_eq_true rfl) dX2_wanted_27
theorem zf_X2_25_2 : zFl 2 13 RX2 25 true (.array .int) := ⟨RX2, TX2, 25, tyX2, rfl, by decide, in_X2, q1811, rfl, by decide +kernel, tyX2_ok, nmX2⟩
theorem zf_X2_146_2 : zFl 2 14 RX2 146 false .int := ⟨RX2, TX2, 25, tyX2, rfl, by decide, in_X2, q1812, rfl, by decide +kernel, tyX2_ok, nmX2⟩
theorem zs_X2_130 : zSs RX2 130 yX2_copies cX2_copies 5 none 4 := ⟨lw_S q1894 q1895 q53 q1896, ⟨by decide +kernel, by decide +kernel⟩, by decide +kernel⟩
set_option maxHeartbeats 4000000 in
theorem m_X2_notes (G : zE) (l : Launch) (mo : Nat) (q : Nat → Nat) (le : Int32) (at1 : Int32) (st : Int32) (tk : Int32) (ln : Int32) (va : Int32) (wr : Int32) (cl : Int32) (si : Int32) (nu : Nat) (v : Nat → Nat) (hH : Hw v) (pf : Nat → Int32) (U : Nat → Nat → Nat) (hu : nu ≤ 8) (hr : ∀ j, j < nu → rH pf (46 * j) (U j)) (rest : va_W) : zMv G l yX2_notes cX2_notes 2 1 0 0 [.ref mo] ((mo, zo 2 (mF q le at1 st tk ln va wr cl (nI nu) si)) :: (q 11, zc G 0 (zI 46 (vI v))) :: (q 13, zc G 0 (zI 368 pf)) :: rest) (fun (u : Nat → Int32) => ∀ j, j < (if nu = 8 then 8 else nu + 1) → rH u (46 * j) (nU nu v U j)) (fun (u : Nat → Int32) => (mo, zo 2 (mF q le at1 st tk ln va wr cl (nI (if nu = 8 then 8 else nu + 1)) si)) :: (q 11, zc G 0 (zI 46 (vI v))) :: (q 13, zc G 0 (zI 368 u)) :: rest) := by
  refine z_begV (by decide) (Nat.le_of_ble_eq_true rfl) (fun p e s m args below meth c ls Q hC hnm hl hw hend => ?_)
  have hx := hC.hx
  have hb := hC.hb
  have hl : lv_has ls 2 [(0, .ref mo)] := hl
  have hw : zS G ((mo, zo 2 (mF q le at1 st tk ln va wr cl (nI nu) si)) :: (q 11, zc G 0 (zI 46 (vI v))) :: (q 13, zc G 0 (zI 368 pf)) :: rest) s s.heap [] := hw
  have join_49 : ∀ (n1 : Nat) (pf1 : Nat → Int32), (n1 + 1 = (if nu = 8 then 8 else nu + 1)) → (n1 ≤ 7) → (∀ j, j < n1 → rH pf1 (46 * j) (nU nu v U j)) → ∀ (H : Heap) (locs : List Loc) (ls : Array Slot), zS G ((mo, zo 2 (mF q le at1 st tk ln va wr cl (nI n1) si)) :: (q 11, zc G 0 (zI 46 (vI v))) :: (q 13, zc G 0 (zI 368 pf1)) :: rest) s H locs → lv_has ls 2 [(0, .ref mo)] → W p l e (zR 1 0 0) s m args below meth c H locs 0 0 Q (F0 m 49 ls []) := by
    intro n1 pf1 hn1 hn7 hr1 H locs ls hw hl
    refine lv_aload_n hx hb dX2_notes_49 rfl (lv_at hl 0 rfl) ?_
    refine z_get (v := .ref (q 11)) hC zf_X2_19_2 hw 0 rfl rfl dX2_notes_50 ?_
    refine lv_iconst (v := (nI 0)) hx hb dX2_notes_53 zk_0 ?_
    refine lv_aload_n hx hb dX2_notes_54 rfl (lv_at hl 0 rfl) ?_
    refine z_get (v := .ref (q 13)) hC zf_X2_25_2 hw 0 rfl rfl dX2_notes_55 ?_
    refine lv_bipush (v := (nI 46)) hx hb dX2_notes_58 zb_46 ?_
    refine lv_aload_n hx hb dX2_notes_60 rfl (lv_at hl 0 rfl) ?_
    refine z_get (v := .int (nI n1)) hC zf_X2_146_2 hw 0 rfl rfl dX2_notes_61 ?_
    refine zn_imul hx hb dX2_notes_64 ?_
    refine z_cv (z_runS (As := [.ref (q 11), .int (nI 0), .ref (q 13), .int (nI (46 * n1))]) (rest := []) hC zs_X2_130 (m_X2_copies G l (q 11) (q 13) 0 (46 * n1) 46 368 (vI v) pf1 (by omega) (by omega) (by decide) (by decide) (zrem [1, 2] _)) (hw.perm (z_cut (is := [1, 2]) (cells := [(q 11, zc G 0 (zI 46 (vI v))), (q 13, zc G 0 (zI 368 pf1))]) rfl rfl)) rfl rfl (Nat.le_of_ble_eq_true rfl) hl.1 ⟨Nat.le_of_ble_eq_true rfl, Nat.le_of_ble_eq_true rfl⟩ ⟨(Nat.le_of_ble_eq_true rfl), (Nat.le_of_ble_eq_true rfl)⟩ dX2_notes_65) hw (fun _ => z_pput (is := [1, 2]) (cells := [(q 11, zc G 0 (zI 46 (vI v))), (q 13, zc G 0 (zI 368 pf1))]) (cells' := [(q 11, zc G 0 (zI 46 (vI v))), (q 13, zc G 0 (zI 368 (va_cpy (vI v) pf1 0 (46 * n1) 46)))]) rfl rfl rfl) (fun u H locs hp hw => ?_)
    have hw : zS G ((mo, zo 2 (mF q le at1 st tk ln va wr cl (nI n1) si)) :: (q 11, zc G 0 (zI 46 (vI v))) :: (q 13, zc G 0 (zI 368 (va_cpy (vI v) pf1 0 (46 * n1) 46))) :: rest) s H locs := hw
    refine lv_aload_n hx hb dX2_notes_68 rfl (lv_at hl 0 rfl) ?_
    refine lv_dup hx hb dX2_notes_69 rfl ?_
    refine z_get (v := .int (nI n1)) hC zf_X2_146_2 hw 0 rfl rfl dX2_notes_70 ?_
    refine lv_iconst (v := (nI 1)) hx hb dX2_notes_73 zk_1 ?_
    refine zn_iadd hx hb dX2_notes_74 ?_
    refine z_puti hC zf_X2_146_2 hw 0 rfl (Nat.le_of_ble_eq_true rfl) dX2_notes_75 (fun H locs hw => ?_)
    have hw : zS G ((mo, zo 2 (mF q le at1 st tk ln va wr cl (nI (n1 + 1)) si)) :: (q 11, zc G 0 (zI 46 (vI v))) :: (q 13, zc G 0 (zI 368 (va_cpy (vI v) pf1 0 (46 * n1) 46))) :: rest) s H locs := hw
    rw [hn1] at hw
    exact hend _ _ _ _ _ _ (va_cpy (vI v) pf1 0 (46 * n1) 46) hw (by exact fun j hj => rH_cpy (nU_last nu v U hn1) hr1 j (by omega)) (Nat.le_of_ble_eq_true rfl) (Nat.le_of_ble_eq_true rfl) dX2_notes_78
  refine lv_aload_n hx hb dX2_notes_0 rfl (lv_at hl 0 rfl) ?_
  refine z_get (v := .int (nI nu)) hC zf_X2_146_2 hw 0 rfl rfl dX2_notes_1 ?_
  refine lv_bipush (v := (nI 8)) hx hb dX2_notes_4 zb_8 ?_
  refine zi_ne (tgt := 49) hx hb (by omega) (by decide) dX2_notes_6 (by decide) (fun c_6 => ?_) (fun c_6 => ?_)
  · skip
    exact join_49 nu pf (by first | (rw [if_neg c_6]) | (rw [if_pos c_6]; omega)) (by omega) (by first | exact nU_more c_6 hr | (subst c_6; rw [show k = 322 by omega]; exact nU_full hr)) s.heap [] ls hw (lv_sub hl [0] rfl)
  · skip
    refine lv_iconst (v := (nI 0)) hx hb dX2_notes_9 zk_0 ?_
    refine lv_istore_n (lv' := [(1, .int (nI 0)), (0, .ref mo)]) hx hb dX2_notes_10 rfl hl (by decide) rfl (fun ls hl => ?_)
    have loop_11 : ∀ (fuel : Nat) (k : Nat), (k ≤ 322) → (322 - k) < fuel → ∀ (H : Heap) (locs : List Loc) (ls : Array Slot), zS G ((mo, zo 2 (mF q le at1 st tk ln va wr cl (nI nu) si)) :: (q 11, zc G 0 (zI 46 (vI v))) :: (q 13, zc G 0 (zI 368 (shF pf k))) :: rest) s H locs → lv_has ls 2 [(0, .ref mo), (1, .int (nI k))] → W p l e (zR 1 0 0) s m args below meth c H locs 0 0 Q (F0 m 11 ls []) := by
      intro fuel
      induction fuel with
      | zero => intro k hk hfuel; exact absurd hfuel (Nat.not_lt_zero _)
      | succ fuel_11 ih_11 =>
        intro k hk hfuel_11 H locs ls hw hl
        refine lv_iload_n hx hb dX2_notes_11 rfl (lv_at hl 1 rfl) ?_
        refine lv_sipush (v := (nI 322)) hx hb dX2_notes_12 zs_322 ?_
        refine zi_ge (tgt := 39) hx hb (by omega) (by decide) dX2_notes_15 (by decide) (fun c_15 => ?_) (fun c_15 => ?_)
        · skip
          refine lv_aload_n hx hb dX2_notes_39 rfl (lv_at hl 0 rfl) ?_
          refine lv_dup hx hb dX2_notes_40 rfl ?_
          refine z_get (v := .int (nI nu)) hC zf_X2_146_2 hw 0 rfl rfl dX2_notes_41 ?_
          refine lv_iconst (v := (nI 1)) hx hb dX2_notes_44 zk_1 ?_
          refine zn_isub hx hb (by omega) dX2_notes_45 ?_
          refine z_puti hC zf_X2_146_2 hw 0 rfl (Nat.le_of_ble_eq_true rfl) dX2_notes_46 (fun H locs hw => ?_)
          have hw : zS G ((mo, zo 2 (mF q le at1 st tk ln va wr cl (nI (nu - 1)) si)) :: (q 11, zc G 0 (zI 46 (vI v))) :: (q 13, zc G 0 (zI 368 (shF pf k))) :: rest) s H locs := hw
          exact join_49 (nu - 1) (shF pf k) (by first | (rw [if_neg c_6]) | (rw [if_pos c_6]; omega)) (by omega) (by first | exact nU_more c_6 hr | (subst c_6; rw [show k = 322 by omega]; exact nU_full hr)) H locs ls hw (lv_sub hl [0] rfl)
        · skip
          refine lv_aload_n hx hb dX2_notes_18 rfl (lv_at hl 0 rfl) ?_
          refine z_get (v := .ref (q 13)) hC zf_X2_25_2 hw 0 rfl rfl dX2_notes_19 ?_
          refine lv_iload_n hx hb dX2_notes_22 rfl (lv_at hl 1 rfl) ?_
          refine lv_aload_n hx hb dX2_notes_23 rfl (lv_at hl 0 rfl) ?_
          refine z_get (v := .ref (q 13)) hC zf_X2_25_2 hw 0 rfl rfl dX2_notes_24 ?_
          refine lv_iload_n hx hb dX2_notes_27 rfl (lv_at hl 1 rfl) ?_
          refine lv_bipush (v := (nI 46)) hx hb dX2_notes_28 zb_46 ?_
          refine zn_iadd hx hb dX2_notes_30 ?_
          refine z_iald (x := ((shF pf k) (k + 46))) hC hw 2 rfl (by omega) (by decide) rfl dX2_notes_31 ?_
          refine z_iast (f' := shF pf (k + 1)) hC hw 2 rfl (by omega) (by decide) (by rw [← shF_upd]; congr 1; unfold shF; rw [if_neg (by omega)]) dX2_notes_32 (fun H locs hw => ?_)
          have hw : zS G ((mo, zo 2 (mF q le at1 st tk ln va wr cl (nI nu) si)) :: (q 11, zc G 0 (zI 46 (vI v))) :: (q 13, zc G 0 (zI 368 (shF pf (k + 1)))) :: rest) s H locs := hw
          refine lv_iinc (v := (nI (k + 1))) (lv' := [(1, .int (nI (k + 1))), (0, .ref mo)]) hx hb dX2_notes_33 hl (k := 1) rfl (zincn _ 1) (by decide) rfl (fun ls hl => ?_)
          refine lv_goto (tgt := 11) hx hb dX2_notes_36 (by decide) ?_
          exact ih_11 (k + 1) (by omega) (by omega) H locs ls hw (lv_sub hl [1, 0] rfl)
    have hw : zS G ((mo, zo 2 (mF q le at1 st tk ln va wr cl (nI nu) si)) :: (q 11, zc G 0 (zI 46 (vI v))) :: (q 13, zc G 0 (zI 368 (shF pf 0))) :: rest) s s.heap [] := hw
    exact loop_11 ((322 - 0) + 1) 0 (by decide) (Nat.lt_succ_self _) s.heap [] ls hw (lv_sub hl [1, 0] rfl)
theorem zS.tail {G : zE} {c c' : Nat × va_E} {ws : va_W} {s : State} {H : Heap} {locs : List Loc} (h : zS G (c :: ws) s H locs) (e : c = c') : zS G (c' :: ws) s H locs := e ▸ h
theorem zf_X2_22_2 : zFl 2 12 RX2 22 true (.array .int) := ⟨RX2, TX2, 25, tyX2, rfl, by decide, in_X2, q1810, rfl, by decide +kernel, tyX2_ok, nmX2⟩
theorem zv_X2_203 : zVs RX2 203 yX2_passes cX2_passes 5 none 1 := ⟨lw_V q1994 q1996 qs43 q53 q1997, ⟨by decide +kernel, by decide +kernel⟩, by decide +kernel⟩
set_option maxHeartbeats 4000000 in
theorem m_X2_goesOn (G : zE) (l : Launch) (mo : Nat) (q : Nat → Nat) (le : Int32) (at1 : Int32) (st : Int32) (tk : Int32) (ln : Int32) (va : Int32) (wr : Int32) (cl : Int32) (un : Int32) (si : Int32) (n : Nat) (v : Nat → Nat) (hH : Hw v) (af : Nat → Int32) (hd : v 2 + n < 65000) (hn : n < 65000) (rest : va_W) : zMv G l yX2_goesOn cX2_goesOn 3 5 0 0 [.ref mo, .int (nI n)] ((mo, zo 2 (mF q le at1 st tk ln va wr cl un si)) :: (q 12, zc G 0 (zI 46 (vI v))) :: (q 17, zc G 0 (zI 5 af)) :: rest) (fun (_ : Nat → Int32) => True) (fun (u : Nat → Int32) => (mo, zo 2 (mF q le at1 st tk ln va wr cl un si)) :: (q 12, zc G 0 (zI 46 (vI (daysN n v)))) :: (q 17, zc G 0 (zI 5 u)) :: rest) := by
  refine z_begV (by decide) (Nat.le_of_ble_eq_true rfl) (fun p e s m args below meth c ls Q hC hnm hl hw hend => ?_)
  have hx := hC.hx
  have hb := hC.hb
  have hl : lv_has ls 3 [(0, .ref mo), (1, .int (nI n))] := hl
  have hw : zS G ((mo, zo 2 (mF q le at1 st tk ln va wr cl un si)) :: (q 12, zc G 0 (zI 46 (vI v))) :: (q 17, zc G 0 (zI 5 af)) :: rest) s s.heap [] := hw
  refine lv_iconst (v := (nI 0)) hx hb dX2_goesOn_0 zk_0 ?_
  refine lv_istore_n (lv' := [(2, .int (nI 0)), (0, .ref mo), (1, .int (nI n))]) hx hb dX2_goesOn_1 rfl hl (by decide) rfl (fun ls hl => ?_)
  have loop_2 : ∀ (fuel : Nat) (k : Nat) (af1 : Nat → Int32), (k ≤ n) → (n - k) < fuel → ∀ (H : Heap) (locs : List Loc) (ls : Array Slot), zS G ((mo, zo 2 (mF q le at1 st tk ln va wr cl un si)) :: (q 12, zc G 0 (zI 46 (vI (daysN k v)))) :: (q 17, zc G 0 (zI 5 af1)) :: rest) s H locs → lv_has ls 3 [(0, .ref mo), (1, .int (nI n)), (2, .int (nI k))] → W p l e (zR 5 0 0) s m args below meth c H locs 0 0 Q (F0 m 2 ls []) := by
    intro fuel
    induction fuel with
    | zero => intro k af1 hk hfuel; exact absurd hfuel (Nat.not_lt_zero _)
    | succ fuel_2 ih_2 =>
      intro k af1 hk hfuel_2 H locs ls hw hl
      refine lv_iload_n hx hb dX2_goesOn_2 rfl (lv_at hl 2 rfl) ?_
      refine lv_iload_n hx hb dX2_goesOn_3 rfl (lv_at hl 1 rfl) ?_
      refine zi_ge (tgt := 21) hx hb (by omega) (by omega) dX2_goesOn_4 (by decide) (fun c_4 => ?_) (fun c_4 => ?_)
      · skip
        obtain rfl : k = n := by omega
        exact hend _ _ _ _ _ _ af1 hw trivial (Nat.le_of_ble_eq_true rfl) (Nat.le_of_ble_eq_true rfl) dX2_goesOn_21
      · skip
        have hdk := daysN_inv hH k (by omega)
        refine lv_aload_n hx hb dX2_goesOn_7 rfl (lv_at hl 0 rfl) ?_
        refine lv_aload_n hx hb dX2_goesOn_8 rfl (lv_at hl 0 rfl) ?_
        refine z_get (v := .ref (q 12)) hC zf_X2_22_2 hw 0 rfl rfl dX2_goesOn_9 ?_
        refine z_cv (z_runV (As := [.ref (q 12)]) (rest := []) hC zv_X2_203 (m_X2_passes G l mo q le at1 st tk ln va wr cl un si (q 12) (daysN k v) af1 hdk.1 (by rw [hdk.2.1]; omega) (zrem [0, 1, 2] _)) hw (hw.perm (z_cut (is := [0, 1, 2]) (cells := [(mo, zo 2 (mF q le at1 st tk ln va wr cl un si)), (q 12, zc G 0 (zI 46 (vI (daysN k v)))), (q 17, zc G 0 (zI 5 af1))]) rfl rfl)) 0 rfl rfl rfl rfl rfl (Nat.le_of_ble_eq_true rfl) hl.1 ⟨Nat.le_of_ble_eq_true rfl, Nat.le_of_ble_eq_true rfl⟩ ⟨(Nat.le_of_ble_eq_true rfl), (Nat.le_of_ble_eq_true rfl)⟩ dX2_goesOn_12) hw (fun _ => z_pput (is := [0, 1, 2]) (cells := [(mo, zo 2 (mF q le at1 st tk ln va wr cl un si)), (q 12, zc G 0 (zI 46 (vI (daysN k v)))), (q 17, zc G 0 (zI 5 af1))]) (cells' := [(mo, zo 2 (mF q le at1 st tk ln va wr cl un si)), (q 12, zc G 0 (zI 46 (vI (passN (daysN k v))))), (q 17, zc G 0 (zI 5 (ateI (ateN (daysN k v)) ((daysN k v) 1) af1)))]) rfl rfl rfl) (fun u H locs hp hw => ?_)
        have hw : zS G ((mo, zo 2 (mF q le at1 st tk ln va wr cl un si)) :: (q 12, zc G 0 (zI 46 (vI (passN (daysN k v))))) :: (q 17, zc G 0 (zI 5 (ateI (ateN (daysN k v)) ((daysN k v) 1) af1))) :: rest) s H locs := hw
        refine lv_iinc (v := (nI (k + 1))) (lv' := [(2, .int (nI (k + 1))), (0, .ref mo), (1, .int (nI n))]) hx hb dX2_goesOn_15 hl (k := 2) rfl (zincn _ 1) (by decide) rfl (fun ls hl => ?_)
        refine lv_goto (tgt := 2) hx hb dX2_goesOn_18 (by decide) ?_
        have hw : zS G ((mo, zo 2 (mF q le at1 st tk ln va wr cl un si)) :: (q 12, zc G 0 (zI 46 (vI (daysN (k + 1) v)))) :: (q 17, zc G 0 (zI 5 (ateI (ateN (daysN k v)) ((daysN k v) 1) af1))) :: rest) s H locs := hw
        exact ih_2 (k + 1) (ateI (ateN (daysN k v)) ((daysN k v) 1) af1) (by omega) (by omega) H locs ls hw (lv_sub hl [1, 2, 0] rfl)
  have hw : zS G ((mo, zo 2 (mF q le at1 st tk ln va wr cl un si)) :: (q 12, zc G 0 (zI 46 (vI (daysN 0 v)))) :: (q 17, zc G 0 (zI 5 af)) :: rest) s s.heap [] := hw
  exact loop_2 ((n - 0) + 1) 0 af (by omega) (Nat.lt_succ_self _) s.heap [] ls hw (lv_sub hl [1, 2, 0] rfl)
theorem rH_vI {v : Nat → Nat} : rH (vI v) 0 v := fun k _ => by show nI (v (0 + k)) = nI (v k); rw [Nat.zero_add]
theorem tRel_of {b b' : Nat → Nat → Int32} {t : Nat} {o : Option (List (Nat × Int32) × Nat × Option Nat)} (h1 : b' 20 = b 20) (h2 : b' 21 = b 21) (h3 : b' 22 = b 22) (h4 : b' 23 = b 23) (h5 : b' 24 = b 24) (h : tRel b t o) : tRel b' t o := by
  cases o with
  | none => show b' 20 t = -1; rw [h1]; exact h
  | some x =>
    obtain ⟨l, hh, c⟩ := x
    show b' 20 t = _ ∧ b' 21 t = _ ∧ b' 22 t = _ ∧ ∀ k, k < l.length → b' 23 _ = _ ∧ b' 24 _ = _
    rw [h1, h2, h3, h4, h5]; exact h
theorem zv_X2_188 : zVs RX2 188 yX2_isPit cX2_isPit 2 (some .boolean) 1 := ⟨lw_V q1956 q1958 qs38 q53 q1959, ⟨by decide +kernel, by decide +kernel⟩, by decide +kernel⟩
theorem zv_X2_191 : zVs RX2 191 yX2_knowing cX2_knowing 4 (some .int) 1 := ⟨lw_V q1960 q1962 qs39 q53 q1963, ⟨by decide +kernel, by decide +kernel⟩, by decide +kernel⟩
set_option maxHeartbeats 4000000 in
theorem m_X2_pit (G : zE) (l : Launch) (mo : Nat) (q : Nat → Nat) (A : AS) (b : Nat → Nat → Int32) (f : Nat → Int32) (hA : AOk A) (hM : MRel A b f) (x : Int32) (y : Int32) (rest : va_W) : zMi G l yX2_pit cX2_pit 3 (some .int) 2 0 0 [.ref mo, .int x, .int y] ((mo, zo 2 (mF q (f 1) (f 2) (f 3) (f 4) (f 5) (f 6) (f 7) (f 8) (f 14) (f 19))) :: (q 0, zc G 0 (zI 200 (b 0))) :: (q 9, zc G 0 (zI 46 (b 9))) :: (q 10, zc G 0 (zI 46 (b 10))) :: (q 11, zc G 0 (zI 46 (b 11))) :: (q 12, zc G 0 (zI 46 (b 12))) :: (q 13, zc G 0 (zI 368 (b 13))) :: (q 15, zc G 0 (zI 92 (b 15))) :: (q 16, zc G 3 (zI 2 (b 16))) :: (q 17, zc G 0 (zI 5 (b 17))) :: (q 18, zc G 0 (zI 24 (b 18))) :: (q 20, zc G 0 (zI 3 (b 20))) :: (q 21, zc G 0 (zI 3 (b 21))) :: (q 22, zc G 0 (zI 3 (b 22))) :: (q 23, zc G 0 (zI 36 (b 23))) :: (q 24, zc G 0 (zI 36 (b 24))) :: rest) (fun (r : Int32) (u : MB) => r = F_pit A x y ∧ MRel A u.1 u.2) (fun (u : MB) => (mo, zo 2 (mF q (u.2 1) (u.2 2) (u.2 3) (u.2 4) (u.2 5) (u.2 6) (u.2 7) (u.2 8) (u.2 14) (u.2 19))) :: (q 0, zc G 0 (zI 200 (u.1 0))) :: (q 9, zc G 0 (zI 46 (u.1 9))) :: (q 10, zc G 0 (zI 46 (u.1 10))) :: (q 11, zc G 0 (zI 46 (u.1 11))) :: (q 12, zc G 0 (zI 46 (u.1 12))) :: (q 13, zc G 0 (zI 368 (u.1 13))) :: (q 15, zc G 0 (zI 92 (u.1 15))) :: (q 16, zc G 3 (zI 2 (u.1 16))) :: (q 17, zc G 0 (zI 5 (u.1 17))) :: (q 18, zc G 0 (zI 24 (u.1 18))) :: (q 20, zc G 0 (zI 3 (u.1 20))) :: (q 21, zc G 0 (zI 3 (u.1 21))) :: (q 22, zc G 0 (zI 3 (u.1 22))) :: (q 23, zc G 0 (zI 36 (u.1 23))) :: (q 24, zc G 0 (zI 36 (u.1 24))) :: rest) := by
  refine z_begI (by decide) (Nat.le_of_ble_eq_true rfl) (fun p e s m args below meth c ls Q hC hl hw hend => ?_)
  have hx := hC.hx
  have hb := hC.hb
  have hl : lv_has ls 3 [(0, .ref mo), (1, .int x), (2, .int y)] := hl
  have hw : zS G ((mo, zo 2 (mF q (f 1) (f 2) (f 3) (f 4) (f 5) (f 6) (f 7) (f 8) (f 14) (f 19))) :: (q 0, zc G 0 (zI 200 (b 0))) :: (q 9, zc G 0 (zI 46 (b 9))) :: (q 10, zc G 0 (zI 46 (b 10))) :: (q 11, zc G 0 (zI 46 (b 11))) :: (q 12, zc G 0 (zI 46 (b 12))) :: (q 13, zc G 0 (zI 368 (b 13))) :: (q 15, zc G 0 (zI 92 (b 15))) :: (q 16, zc G 3 (zI 2 (b 16))) :: (q 17, zc G 0 (zI 5 (b 17))) :: (q 18, zc G 0 (zI 24 (b 18))) :: (q 20, zc G 0 (zI 3 (b 20))) :: (q 21, zc G 0 (zI 3 (b 21))) :: (q 22, zc G 0 (zI 3 (b 22))) :: (q 23, zc G 0 (zI 36 (b 23))) :: (q 24, zc G 0 (zI 36 (b 24))) :: rest) s s.heap [] := hw
  have hA9 := hA
  obtain ⟨⟨hT, hL⟩, hV0, hV, ⟨hU, hUs⟩, hKp, ⟨hSi, hSg⟩, hTr⟩ := hM
  obtain ⟨⟨hL2, hT2⟩, hB0, hBv, ⟨hU8, hUb⟩, hKb, ⟨hS6, hSb⟩, hTb⟩ := hA
  have hH : Hw (aV A) := hBv.1.1
  have hday := hBv.2.2
  have hw := hw.cellI 4 rfl (g := vI (aV A)) (fun j hj => by have := hV j hj; rwa [Nat.zero_add] at this)
  have hw : zS G ((mo, zo 2 (mF q (f 1) (f 2) (f 3) (f 4) (f 5) (f 6) (f 7) (f 8) (f 14) (f 19))) :: (q 0, zc G 0 (zI 200 (b 0))) :: (q 9, zc G 0 (zI 46 (b 9))) :: (q 10, zc G 0 (zI 46 (b 10))) :: (q 11, zc G 0 (zI 46 (vI (aV A)))) :: (q 12, zc G 0 (zI 46 (b 12))) :: (q 13, zc G 0 (zI 368 (b 13))) :: (q 15, zc G 0 (zI 92 (b 15))) :: (q 16, zc G 3 (zI 2 (b 16))) :: (q 17, zc G 0 (zI 5 (b 17))) :: (q 18, zc G 0 (zI 24 (b 18))) :: (q 20, zc G 0 (zI 3 (b 20))) :: (q 21, zc G 0 (zI 3 (b 21))) :: (q 22, zc G 0 (zI 3 (b 22))) :: (q 23, zc G 0 (zI 36 (b 23))) :: (q 24, zc G 0 (zI 36 (b 24))) :: rest) s s.heap [] := hw
  refine lv_aload_n hx hb dX2_pit_0 rfl (lv_at hl 0 rfl) ?_
  refine lv_iload_n hx hb dX2_pit_1 rfl (lv_at hl 1 rfl) ?_
  refine z_ci (z_runV (As := [.int x]) (rest := []) hC zv_X2_188 (m_X2_isPit G l mo q (f 1) (f 2) (f 3) (f 4) (f 5) (f 6) (f 7) (f 8) (f 14) (f 19) x (aV A) (by first | assumption | (omega)) (zrem [0, 4] _)) hw (hw.perm (z_cut (is := [0, 4]) (cells := [(mo, zo 2 (mF q (f 1) (f 2) (f 3) (f 4) (f 5) (f 6) (f 7) (f 8) (f 14) (f 19))), (q 11, zc G 0 (zI 46 (vI (aV A))))]) rfl rfl)) 0 rfl rfl rfl rfl rfl (Nat.le_of_ble_eq_true rfl) hl.1 ⟨Nat.le_of_ble_eq_true rfl, Nat.le_of_ble_eq_true rfl⟩ ⟨(Nat.le_of_ble_eq_true rfl), (Nat.le_of_ble_eq_true rfl)⟩ dX2_pit_2) hw (fun _ => z_keep (is := [0, 4]) (cs := [(mo, zo 2 (mF q (f 1) (f 2) (f 3) (f 4) (f 5) (f 6) (f 7) (f 8) (f 14) (f 19))), (q 11, zc G 0 (zI 46 (vI (aV A))))]) rfl rfl) (fun r u H locs hp hw => ?_)
  obtain rfl : r = bI (isP ((aV A) 0) x) := hp
  refine zb_ne (tgt := 11) hx hb dX2_pit_5 (by decide) (fun c_5 => ?_) (fun c_5 => ?_)
  · skip
    obtain ⟨t, ht, rfl⟩ := c_5
    have hl : lv_has ls 3 [(0, .ref mo), (1, .int (nI t)), (2, .int y)] := hl
    have hp9 := hH.1
    refine lv_iload_n hx hb dX2_pit_11 rfl (lv_at hl 2 rfl) ?_
    refine lv_iconst (v := (nI 0)) hx hb dX2_pit_12 zk_0 ?_
    refine lv_iconst (v := (nI 2)) hx hb dX2_pit_13 zk_2 ?_
    refine z_ci (z_runS (As := [.int y, .int (nI 0), .int (nI 2)]) (rest := []) hC zs_X2_59 (m_X2_in_n G l y 0 2 (by decide) (by decide) _) hw rfl rfl (Nat.le_of_ble_eq_true rfl) hl.1 ⟨Nat.le_of_ble_eq_true rfl, Nat.le_of_ble_eq_true rfl⟩ ⟨(Nat.le_of_ble_eq_true rfl), (Nat.le_of_ble_eq_true rfl)⟩ dX2_pit_14) hw (fun _ => List.Perm.refl _) (fun r u H locs hp hw => ?_)
    obtain rfl : r = bI (inR y 0 2) := hp
    refine zb_ne (tgt := 23) hx hb dX2_pit_17 (by decide) (fun c_17 => ?_) (fun c_17 => ?_)
    · skip
      obtain ⟨k, hk1, hk2, rfl⟩ := c_17
      have hl : lv_has ls 3 [(0, .ref mo), (1, .int (nI t)), (2, .int (nI k))] := hl
      refine lv_iload_n hx hb dX2_pit_23 rfl (lv_at hl 2 rfl) ?_
      refine lv_iconst (v := (nI 2)) hx hb dX2_pit_24 zk_2 ?_
      refine zi_ne (tgt := 36) hx hb (by omega) (by decide) dX2_pit_25 (by decide) (fun c_25 => ?_) (fun c_25 => ?_)
      · skip
        refine lv_aload_n hx hb dX2_pit_36 rfl (lv_at hl 0 rfl) ?_
        refine z_get (v := .ref (q 11)) hC zf_X2_19_2 hw 0 rfl rfl dX2_pit_37 ?_
        refine lv_iconst (v := (nI 3)) hx hb dX2_pit_40 zk_3 ?_
        refine lv_iconst (v := (nI 2)) hx hb dX2_pit_41 zk_2 ?_
        refine lv_iload_n hx hb dX2_pit_42 rfl (lv_at hl 1 rfl) ?_
        refine zn_imul hx hb dX2_pit_43 ?_
        refine zn_iadd hx hb dX2_pit_44 ?_
        refine lv_iload_n hx hb dX2_pit_45 rfl (lv_at hl 2 rfl) ?_
        refine zn_iadd hx hb dX2_pit_46 ?_
        refine z_iald (x := (nI ((aV A) (3 + 2 * t + k)))) hC hw 4 rfl (by omega) (by decide) rfl dX2_pit_47 ?_
        exact hend _ _ _ _ _ _ _ ((bU b 11 (vI (aV A))), mf (f 1) (f 2) (f 3) (f 4) (f 5) (f 6) (f 7) (f 8) (f 14) (f 19)) hw ⟨(by unfold F_pit; rw [ifP_t ⟨t, ht, rfl⟩, ifP_t ⟨k, hk1, hk2, rfl⟩, cl_nI (by omega), cl_nI (by omega)]; first | rw [if_pos c_25] | rw [if_neg c_25]), ⟨⟨hT, hL⟩, hV0, rH_vI, ⟨hU, hUs⟩, hKp, ⟨hSi, hSg⟩, (fun t ht => tRel_of rfl rfl rfl rfl rfl (hTr t ht))⟩⟩ (by omega) (by omega) dX2_pit_48
      · skip
        refine lv_aload_n hx hb dX2_pit_28 rfl (lv_at hl 0 rfl) ?_
        refine lv_iload_n hx hb dX2_pit_29 rfl (lv_at hl 1 rfl) ?_
        refine z_ci (z_runV (As := [.int (nI t)]) (rest := []) hC zv_X2_191 (m_X2_knowing G l mo q (f 1) (f 2) (f 3) (f 4) (f 5) (f 6) (f 7) (f 8) (f 14) (f 19) t (by omega) (aV A) (by first | assumption | (omega)) (zrem [0, 4] _)) hw (hw.perm (z_cut (is := [0, 4]) (cells := [(mo, zo 2 (mF q (f 1) (f 2) (f 3) (f 4) (f 5) (f 6) (f 7) (f 8) (f 14) (f 19))), (q 11, zc G 0 (zI 46 (vI (aV A))))]) rfl rfl)) 0 rfl rfl rfl rfl rfl (Nat.le_of_ble_eq_true rfl) hl.1 ⟨Nat.le_of_ble_eq_true rfl, Nat.le_of_ble_eq_true rfl⟩ ⟨(Nat.le_of_ble_eq_true rfl), (Nat.le_of_ble_eq_true rfl)⟩ dX2_pit_30) hw (fun _ => z_keep (is := [0, 4]) (cs := [(mo, zo 2 (mF q (f 1) (f 2) (f 3) (f 4) (f 5) (f 6) (f 7) (f 8) (f 14) (f 19))), (q 11, zc G 0 (zI 46 (vI (aV A))))]) rfl rfl) (fun r u H locs hp hw => ?_)
        obtain rfl : r = nI (knowN (aV A) t) := hp
        refine lv_goto (tgt := 48) hx hb dX2_pit_33 (by decide) ?_
        exact hend _ _ _ _ _ _ _ ((bU b 11 (vI (aV A))), mf (f 1) (f 2) (f 3) (f 4) (f 5) (f 6) (f 7) (f 8) (f 14) (f 19)) hw ⟨(by unfold F_pit; rw [ifP_t ⟨t, ht, rfl⟩, ifP_t ⟨k, hk1, hk2, rfl⟩, cl_nI (by omega), cl_nI (by omega)]; first | rw [if_pos c_25] | rw [if_neg c_25]), ⟨⟨hT, hL⟩, hV0, rH_vI, ⟨hU, hUs⟩, hKp, ⟨hSi, hSg⟩, (fun t ht => tRel_of rfl rfl rfl rfl rfl (hTr t ht))⟩⟩ (by omega) (by omega) dX2_pit_48
    · skip
      refine lv_bipush (v := (-3)) hx hb dX2_pit_20 zb_m3 ?_
      exact hend _ _ _ _ _ _ _ ((bU b 11 (vI (aV A))), mf (f 1) (f 2) (f 3) (f 4) (f 5) (f 6) (f 7) (f 8) (f 14) (f 19)) hw ⟨((ifP_t ⟨t, ht, rfl⟩).trans (ifP_f c_17)).symm, ⟨⟨hT, hL⟩, hV0, rH_vI, ⟨hU, hUs⟩, hKp, ⟨hSi, hSg⟩, (fun t ht => tRel_of rfl rfl rfl rfl rfl (hTr t ht))⟩⟩ (by omega) (by omega) dX2_pit_22
  · skip
    refine lv_bipush (v := (-2)) hx hb dX2_pit_8 zb_m2 ?_
    exact hend _ _ _ _ _ _ _ ((bU b 11 (vI (aV A))), mf (f 1) (f 2) (f 3) (f 4) (f 5) (f 6) (f 7) (f 8) (f 14) (f 19)) hw ⟨(ifP_f c_5).symm, ⟨⟨hT, hL⟩, hV0, rH_vI, ⟨hU, hUs⟩, hKp, ⟨hSi, hSg⟩, (fun t ht => tRel_of rfl rfl rfl rfl rfl (hTr t ht))⟩⟩ (by omega) (by omega) dX2_pit_10
theorem zv_X2_194 : zVs RX2 194 yX2_isSquirrel cX2_isSquirrel 2 (some .boolean) 1 := ⟨lw_V q1971 q1973 qs40 q53 q1974, ⟨by decide +kernel, by decide +kernel⟩, by decide +kernel⟩
theorem zv_X2_197 : zVs RX2 197 yX2_wanted cX2_wanted 2 (some .int) 1 := ⟨lw_V q1975 q1977 qs41 q53 q1978, ⟨by decide +kernel, by decide +kernel⟩, by decide +kernel⟩
set_option maxHeartbeats 4000000 in
theorem m_X2_squirrel (G : zE) (l : Launch) (mo : Nat) (q : Nat → Nat) (A : AS) (b : Nat → Nat → Int32) (f : Nat → Int32) (hA : AOk A) (hM : MRel A b f) (x : Int32) (y : Int32) (rest : va_W) : zMi G l yX2_squirrel cX2_squirrel 3 (some .int) 2 0 0 [.ref mo, .int x, .int y] ((mo, zo 2 (mF q (f 1) (f 2) (f 3) (f 4) (f 5) (f 6) (f 7) (f 8) (f 14) (f 19))) :: (q 0, zc G 0 (zI 200 (b 0))) :: (q 9, zc G 0 (zI 46 (b 9))) :: (q 10, zc G 0 (zI 46 (b 10))) :: (q 11, zc G 0 (zI 46 (b 11))) :: (q 12, zc G 0 (zI 46 (b 12))) :: (q 13, zc G 0 (zI 368 (b 13))) :: (q 15, zc G 0 (zI 92 (b 15))) :: (q 16, zc G 3 (zI 2 (b 16))) :: (q 17, zc G 0 (zI 5 (b 17))) :: (q 18, zc G 0 (zI 24 (b 18))) :: (q 20, zc G 0 (zI 3 (b 20))) :: (q 21, zc G 0 (zI 3 (b 21))) :: (q 22, zc G 0 (zI 3 (b 22))) :: (q 23, zc G 0 (zI 36 (b 23))) :: (q 24, zc G 0 (zI 36 (b 24))) :: rest) (fun (r : Int32) (u : MB) => r = F_squirrel A x y ∧ MRel A u.1 u.2) (fun (u : MB) => (mo, zo 2 (mF q (u.2 1) (u.2 2) (u.2 3) (u.2 4) (u.2 5) (u.2 6) (u.2 7) (u.2 8) (u.2 14) (u.2 19))) :: (q 0, zc G 0 (zI 200 (u.1 0))) :: (q 9, zc G 0 (zI 46 (u.1 9))) :: (q 10, zc G 0 (zI 46 (u.1 10))) :: (q 11, zc G 0 (zI 46 (u.1 11))) :: (q 12, zc G 0 (zI 46 (u.1 12))) :: (q 13, zc G 0 (zI 368 (u.1 13))) :: (q 15, zc G 0 (zI 92 (u.1 15))) :: (q 16, zc G 3 (zI 2 (u.1 16))) :: (q 17, zc G 0 (zI 5 (u.1 17))) :: (q 18, zc G 0 (zI 24 (u.1 18))) :: (q 20, zc G 0 (zI 3 (u.1 20))) :: (q 21, zc G 0 (zI 3 (u.1 21))) :: (q 22, zc G 0 (zI 3 (u.1 22))) :: (q 23, zc G 0 (zI 36 (u.1 23))) :: (q 24, zc G 0 (zI 36 (u.1 24))) :: rest) := by
  refine z_begI (by decide) (Nat.le_of_ble_eq_true rfl) (fun p e s m args below meth c ls Q hC hl hw hend => ?_)
  have hx := hC.hx
  have hb := hC.hb
  have hl : lv_has ls 3 [(0, .ref mo), (1, .int x), (2, .int y)] := hl
  have hw : zS G ((mo, zo 2 (mF q (f 1) (f 2) (f 3) (f 4) (f 5) (f 6) (f 7) (f 8) (f 14) (f 19))) :: (q 0, zc G 0 (zI 200 (b 0))) :: (q 9, zc G 0 (zI 46 (b 9))) :: (q 10, zc G 0 (zI 46 (b 10))) :: (q 11, zc G 0 (zI 46 (b 11))) :: (q 12, zc G 0 (zI 46 (b 12))) :: (q 13, zc G 0 (zI 368 (b 13))) :: (q 15, zc G 0 (zI 92 (b 15))) :: (q 16, zc G 3 (zI 2 (b 16))) :: (q 17, zc G 0 (zI 5 (b 17))) :: (q 18, zc G 0 (zI 24 (b 18))) :: (q 20, zc G 0 (zI 3 (b 20))) :: (q 21, zc G 0 (zI 3 (b 21))) :: (q 22, zc G 0 (zI 3 (b 22))) :: (q 23, zc G 0 (zI 36 (b 23))) :: (q 24, zc G 0 (zI 36 (b 24))) :: rest) s s.heap [] := hw
  have hA9 := hA
  obtain ⟨⟨hT, hL⟩, hV0, hV, ⟨hU, hUs⟩, hKp, ⟨hSi, hSg⟩, hTr⟩ := hM
  obtain ⟨⟨hL2, hT2⟩, hB0, hBv, ⟨hU8, hUb⟩, hKb, ⟨hS6, hSb⟩, hTb⟩ := hA
  have hH : Hw (aV A) := hBv.1.1
  have hday := hBv.2.2
  have hw := hw.cellI 4 rfl (g := vI (aV A)) (fun j hj => by have := hV j hj; rwa [Nat.zero_add] at this)
  have hw : zS G ((mo, zo 2 (mF q (f 1) (f 2) (f 3) (f 4) (f 5) (f 6) (f 7) (f 8) (f 14) (f 19))) :: (q 0, zc G 0 (zI 200 (b 0))) :: (q 9, zc G 0 (zI 46 (b 9))) :: (q 10, zc G 0 (zI 46 (b 10))) :: (q 11, zc G 0 (zI 46 (vI (aV A)))) :: (q 12, zc G 0 (zI 46 (b 12))) :: (q 13, zc G 0 (zI 368 (b 13))) :: (q 15, zc G 0 (zI 92 (b 15))) :: (q 16, zc G 3 (zI 2 (b 16))) :: (q 17, zc G 0 (zI 5 (b 17))) :: (q 18, zc G 0 (zI 24 (b 18))) :: (q 20, zc G 0 (zI 3 (b 20))) :: (q 21, zc G 0 (zI 3 (b 21))) :: (q 22, zc G 0 (zI 3 (b 22))) :: (q 23, zc G 0 (zI 36 (b 23))) :: (q 24, zc G 0 (zI 36 (b 24))) :: rest) s s.heap [] := hw
  refine lv_aload_n hx hb dX2_squirrel_0 rfl (lv_at hl 0 rfl) ?_
  refine lv_iload_n hx hb dX2_squirrel_1 rfl (lv_at hl 1 rfl) ?_
  refine z_ci (z_runV (As := [.int x]) (rest := []) hC zv_X2_194 (m_X2_isSquirrel G l mo q (f 1) (f 2) (f 3) (f 4) (f 5) (f 6) (f 7) (f 8) (f 14) (f 19) x (aV A) (by first | assumption | (omega)) (zrem [0, 4] _)) hw (hw.perm (z_cut (is := [0, 4]) (cells := [(mo, zo 2 (mF q (f 1) (f 2) (f 3) (f 4) (f 5) (f 6) (f 7) (f 8) (f 14) (f 19))), (q 11, zc G 0 (zI 46 (vI (aV A))))]) rfl rfl)) 0 rfl rfl rfl rfl rfl (Nat.le_of_ble_eq_true rfl) hl.1 ⟨Nat.le_of_ble_eq_true rfl, Nat.le_of_ble_eq_true rfl⟩ ⟨(Nat.le_of_ble_eq_true rfl), (Nat.le_of_ble_eq_true rfl)⟩ dX2_squirrel_2) hw (fun _ => z_keep (is := [0, 4]) (cs := [(mo, zo 2 (mF q (f 1) (f 2) (f 3) (f 4) (f 5) (f 6) (f 7) (f 8) (f 14) (f 19))), (q 11, zc G 0 (zI 46 (vI (aV A))))]) rfl rfl) (fun r u H locs hp hw => ?_)
  obtain rfl : r = bI (isP ((aV A) 1) x) := hp
  refine zb_ne (tgt := 11) hx hb dX2_squirrel_5 (by decide) (fun c_5 => ?_) (fun c_5 => ?_)
  · skip
    obtain ⟨i, hi, rfl⟩ := c_5
    have hl : lv_has ls 3 [(0, .ref mo), (1, .int (nI i)), (2, .int y)] := hl
    have hp5 := hH.2.1
    refine lv_iload_n hx hb dX2_squirrel_11 rfl (lv_at hl 2 rfl) ?_
    refine lv_iconst (v := (nI 0)) hx hb dX2_squirrel_12 zk_0 ?_
    refine lv_iconst (v := (nI 5)) hx hb dX2_squirrel_13 zk_5 ?_
    refine z_ci (z_runS (As := [.int y, .int (nI 0), .int (nI 5)]) (rest := []) hC zs_X2_59 (m_X2_in_n G l y 0 5 (by decide) (by decide) _) hw rfl rfl (Nat.le_of_ble_eq_true rfl) hl.1 ⟨Nat.le_of_ble_eq_true rfl, Nat.le_of_ble_eq_true rfl⟩ ⟨(Nat.le_of_ble_eq_true rfl), (Nat.le_of_ble_eq_true rfl)⟩ dX2_squirrel_14) hw (fun _ => List.Perm.refl _) (fun r u H locs hp hw => ?_)
    obtain rfl : r = bI (inR y 0 5) := hp
    refine zb_ne (tgt := 23) hx hb dX2_squirrel_17 (by decide) (fun c_17 => ?_) (fun c_17 => ?_)
    · skip
      obtain ⟨k, hk1, hk2, rfl⟩ := c_17
      have hl : lv_has ls 3 [(0, .ref mo), (1, .int (nI i)), (2, .int (nI k))] := hl
      refine lv_iload_n hx hb dX2_squirrel_23 rfl (lv_at hl 2 rfl) ?_
      refine lv_iconst (v := (nI 5)) hx hb dX2_squirrel_24 zk_5 ?_
      refine zi_ne (tgt := 36) hx hb (by omega) (by decide) dX2_squirrel_25 (by decide) (fun c_25 => ?_) (fun c_25 => ?_)
      · skip
        refine lv_aload_n hx hb dX2_squirrel_36 rfl (lv_at hl 0 rfl) ?_
        refine z_get (v := .ref (q 11)) hC zf_X2_19_2 hw 0 rfl rfl dX2_squirrel_37 ?_
        refine lv_bipush (v := (nI 21)) hx hb dX2_squirrel_40 zb_21 ?_
        refine lv_iconst (v := (nI 5)) hx hb dX2_squirrel_42 zk_5 ?_
        refine lv_iload_n hx hb dX2_squirrel_43 rfl (lv_at hl 1 rfl) ?_
        refine zn_imul hx hb dX2_squirrel_44 ?_
        refine zn_iadd hx hb dX2_squirrel_45 ?_
        refine lv_iload_n hx hb dX2_squirrel_46 rfl (lv_at hl 2 rfl) ?_
        refine zn_iadd hx hb dX2_squirrel_47 ?_
        refine z_iald (x := (nI ((aV A) (21 + 5 * i + k)))) hC hw 4 rfl (by omega) (by decide) rfl dX2_squirrel_48 ?_
        exact hend _ _ _ _ _ _ _ ((bU b 11 (vI (aV A))), mf (f 1) (f 2) (f 3) (f 4) (f 5) (f 6) (f 7) (f 8) (f 14) (f 19)) hw ⟨(by unfold F_squirrel; rw [ifP_t ⟨i, hi, rfl⟩, ifP_t ⟨k, hk1, hk2, rfl⟩, cl_nI (by omega), cl_nI (by omega)]; first | rw [if_pos c_25] | rw [if_neg c_25]), ⟨⟨hT, hL⟩, hV0, rH_vI, ⟨hU, hUs⟩, hKp, ⟨hSi, hSg⟩, (fun t ht => tRel_of rfl rfl rfl rfl rfl (hTr t ht))⟩⟩ (by omega) (by omega) dX2_squirrel_49
      · skip
        refine lv_aload_n hx hb dX2_squirrel_28 rfl (lv_at hl 0 rfl) ?_
        refine lv_iload_n hx hb dX2_squirrel_29 rfl (lv_at hl 1 rfl) ?_
        refine z_ci (z_runV (As := [.int (nI i)]) (rest := []) hC zv_X2_197 (m_X2_wanted G l mo q (f 1) (f 2) (f 3) (f 4) (f 5) (f 6) (f 7) (f 8) (f 14) (f 19) i (by omega) (aV A) (by first | assumption | (omega)) (zrem [0, 4] _)) hw (hw.perm (z_cut (is := [0, 4]) (cells := [(mo, zo 2 (mF q (f 1) (f 2) (f 3) (f 4) (f 5) (f 6) (f 7) (f 8) (f 14) (f 19))), (q 11, zc G 0 (zI 46 (vI (aV A))))]) rfl rfl)) 0 rfl rfl rfl rfl rfl (Nat.le_of_ble_eq_true rfl) hl.1 ⟨Nat.le_of_ble_eq_true rfl, Nat.le_of_ble_eq_true rfl⟩ ⟨(Nat.le_of_ble_eq_true rfl), (Nat.le_of_ble_eq_true rfl)⟩ dX2_squirrel_30) hw (fun _ => z_keep (is := [0, 4]) (cs := [(mo, zo 2 (mF q (f 1) (f 2) (f 3) (f 4) (f 5) (f 6) (f 7) (f 8) (f 14) (f 19))), (q 11, zc G 0 (zI 46 (vI (aV A))))]) rfl rfl) (fun r u H locs hp hw => ?_)
        obtain rfl : r = nI (wantsN ((aV A) (21 + 5 * i)) ((aV A) (21 + 5 * i + 2))) := hp
        refine lv_goto (tgt := 49) hx hb dX2_squirrel_33 (by decide) ?_
        exact hend _ _ _ _ _ _ _ ((bU b 11 (vI (aV A))), mf (f 1) (f 2) (f 3) (f 4) (f 5) (f 6) (f 7) (f 8) (f 14) (f 19)) hw ⟨(by unfold F_squirrel; rw [ifP_t ⟨i, hi, rfl⟩, ifP_t ⟨k, hk1, hk2, rfl⟩, cl_nI (by omega), cl_nI (by omega)]; first | rw [if_pos c_25] | rw [if_neg c_25]), ⟨⟨hT, hL⟩, hV0, rH_vI, ⟨hU, hUs⟩, hKp, ⟨hSi, hSg⟩, (fun t ht => tRel_of rfl rfl rfl rfl rfl (hTr t ht))⟩⟩ (by omega) (by omega) dX2_squirrel_49
    · skip
      refine lv_bipush (v := (-3)) hx hb dX2_squirrel_20 zb_m3 ?_
      exact hend _ _ _ _ _ _ _ ((bU b 11 (vI (aV A))), mf (f 1) (f 2) (f 3) (f 4) (f 5) (f 6) (f 7) (f 8) (f 14) (f 19)) hw ⟨((ifP_t ⟨i, hi, rfl⟩).trans (ifP_f c_17)).symm, ⟨⟨hT, hL⟩, hV0, rH_vI, ⟨hU, hUs⟩, hKp, ⟨hSi, hSg⟩, (fun t ht => tRel_of rfl rfl rfl rfl rfl (hTr t ht))⟩⟩ (by omega) (by omega) dX2_squirrel_22
  · skip
    refine lv_bipush (v := (-2)) hx hb dX2_squirrel_8 zb_m2 ?_
    exact hend _ _ _ _ _ _ _ ((bU b 11 (vI (aV A))), mf (f 1) (f 2) (f 3) (f 4) (f 5) (f 6) (f 7) (f 8) (f 14) (f 19)) hw ⟨(ifP_f c_5).symm, ⟨⟨hT, hL⟩, hV0, rH_vI, ⟨hU, hUs⟩, hKp, ⟨hSi, hSg⟩, (fun t ht => tRel_of rfl rfl rfl rfl rfl (hTr t ht))⟩⟩ (by omega) (by omega) dX2_squirrel_10
theorem kind_lt {A : AS} (hBv : Hb (aV0 A) (aV A)) {i : Nat} (hi : i < aV A 1) : aV A (21 + 5 * i) < 5 := (hBv.1.2.2 i hi).1
set_option maxHeartbeats 4000000 in
theorem m_X2_as (G : zE) (l : Launch) (mo : Nat) (q : Nat → Nat) (A : AS) (b : Nat → Nat → Int32) (f : Nat → Int32) (hA : AOk A) (hM : MRel A b f) (x : Int32) (y : Int32) (rest : va_W) : zMi G l yX2_as cX2_as 5 (some .int) 2 0 0 [.ref mo, .int x, .int y] ((mo, zo 2 (mF q (f 1) (f 2) (f 3) (f 4) (f 5) (f 6) (f 7) (f 8) (f 14) (f 19))) :: (q 0, zc G 0 (zI 200 (b 0))) :: (q 9, zc G 0 (zI 46 (b 9))) :: (q 10, zc G 0 (zI 46 (b 10))) :: (q 11, zc G 0 (zI 46 (b 11))) :: (q 12, zc G 0 (zI 46 (b 12))) :: (q 13, zc G 0 (zI 368 (b 13))) :: (q 15, zc G 0 (zI 92 (b 15))) :: (q 16, zc G 3 (zI 2 (b 16))) :: (q 17, zc G 0 (zI 5 (b 17))) :: (q 18, zc G 0 (zI 24 (b 18))) :: (q 20, zc G 0 (zI 3 (b 20))) :: (q 21, zc G 0 (zI 3 (b 21))) :: (q 22, zc G 0 (zI 3 (b 22))) :: (q 23, zc G 0 (zI 36 (b 23))) :: (q 24, zc G 0 (zI 36 (b 24))) :: rest) (fun (r : Int32) (u : MB) => r = F_as A x y ∧ MRel A u.1 u.2) (fun (u : MB) => (mo, zo 2 (mF q (u.2 1) (u.2 2) (u.2 3) (u.2 4) (u.2 5) (u.2 6) (u.2 7) (u.2 8) (u.2 14) (u.2 19))) :: (q 0, zc G 0 (zI 200 (u.1 0))) :: (q 9, zc G 0 (zI 46 (u.1 9))) :: (q 10, zc G 0 (zI 46 (u.1 10))) :: (q 11, zc G 0 (zI 46 (u.1 11))) :: (q 12, zc G 0 (zI 46 (u.1 12))) :: (q 13, zc G 0 (zI 368 (u.1 13))) :: (q 15, zc G 0 (zI 92 (u.1 15))) :: (q 16, zc G 3 (zI 2 (u.1 16))) :: (q 17, zc G 0 (zI 5 (u.1 17))) :: (q 18, zc G 0 (zI 24 (u.1 18))) :: (q 20, zc G 0 (zI 3 (u.1 20))) :: (q 21, zc G 0 (zI 3 (u.1 21))) :: (q 22, zc G 0 (zI 3 (u.1 22))) :: (q 23, zc G 0 (zI 36 (u.1 23))) :: (q 24, zc G 0 (zI 36 (u.1 24))) :: rest) := by
  refine z_begI (by decide) (Nat.le_of_ble_eq_true rfl) (fun p e s m args below meth c ls Q hC hl hw hend => ?_)
  have hx := hC.hx
  have hb := hC.hb
  have hl : lv_has ls 5 [(0, .ref mo), (1, .int x), (2, .int y)] := hl
  have hw : zS G ((mo, zo 2 (mF q (f 1) (f 2) (f 3) (f 4) (f 5) (f 6) (f 7) (f 8) (f 14) (f 19))) :: (q 0, zc G 0 (zI 200 (b 0))) :: (q 9, zc G 0 (zI 46 (b 9))) :: (q 10, zc G 0 (zI 46 (b 10))) :: (q 11, zc G 0 (zI 46 (b 11))) :: (q 12, zc G 0 (zI 46 (b 12))) :: (q 13, zc G 0 (zI 368 (b 13))) :: (q 15, zc G 0 (zI 92 (b 15))) :: (q 16, zc G 3 (zI 2 (b 16))) :: (q 17, zc G 0 (zI 5 (b 17))) :: (q 18, zc G 0 (zI 24 (b 18))) :: (q 20, zc G 0 (zI 3 (b 20))) :: (q 21, zc G 0 (zI 3 (b 21))) :: (q 22, zc G 0 (zI 3 (b 22))) :: (q 23, zc G 0 (zI 36 (b 23))) :: (q 24, zc G 0 (zI 36 (b 24))) :: rest) s s.heap [] := hw
  have hA9 := hA
  obtain ⟨⟨hT, hL⟩, hV0, hV, ⟨hU, hUs⟩, hKp, ⟨hSi, hSg⟩, hTr⟩ := hM
  obtain ⟨⟨hL2, hT2⟩, hB0, hBv, ⟨hU8, hUb⟩, hKb, ⟨hS6, hSb⟩, hTb⟩ := hA
  have hH : Hw (aV A) := hBv.1.1
  have hday := hBv.2.2
  have hw := hw.cellI 4 rfl (g := vI (aV A)) (fun j hj => by have := hV j hj; rwa [Nat.zero_add] at this)
  have hw : zS G ((mo, zo 2 (mF q (f 1) (f 2) (f 3) (f 4) (f 5) (f 6) (f 7) (f 8) (f 14) (f 19))) :: (q 0, zc G 0 (zI 200 (b 0))) :: (q 9, zc G 0 (zI 46 (b 9))) :: (q 10, zc G 0 (zI 46 (b 10))) :: (q 11, zc G 0 (zI 46 (vI (aV A)))) :: (q 12, zc G 0 (zI 46 (b 12))) :: (q 13, zc G 0 (zI 368 (b 13))) :: (q 15, zc G 0 (zI 92 (b 15))) :: (q 16, zc G 3 (zI 2 (b 16))) :: (q 17, zc G 0 (zI 5 (b 17))) :: (q 18, zc G 0 (zI 24 (b 18))) :: (q 20, zc G 0 (zI 3 (b 20))) :: (q 21, zc G 0 (zI 3 (b 21))) :: (q 22, zc G 0 (zI 3 (b 22))) :: (q 23, zc G 0 (zI 36 (b 23))) :: (q 24, zc G 0 (zI 36 (b 24))) :: rest) s s.heap [] := hw
  refine lv_aload_n hx hb dX2_as_0 rfl (lv_at hl 0 rfl) ?_
  refine lv_iload_n hx hb dX2_as_1 rfl (lv_at hl 1 rfl) ?_
  refine z_ci (z_runV (As := [.int x]) (rest := []) hC zv_X2_194 (m_X2_isSquirrel G l mo q (f 1) (f 2) (f 3) (f 4) (f 5) (f 6) (f 7) (f 8) (f 14) (f 19) x (aV A) (by first | assumption | (omega)) (zrem [0, 4] _)) hw (hw.perm (z_cut (is := [0, 4]) (cells := [(mo, zo 2 (mF q (f 1) (f 2) (f 3) (f 4) (f 5) (f 6) (f 7) (f 8) (f 14) (f 19))), (q 11, zc G 0 (zI 46 (vI (aV A))))]) rfl rfl)) 0 rfl rfl rfl rfl rfl (Nat.le_of_ble_eq_true rfl) hl.1 ⟨Nat.le_of_ble_eq_true rfl, Nat.le_of_ble_eq_true rfl⟩ ⟨(Nat.le_of_ble_eq_true rfl), (Nat.le_of_ble_eq_true rfl)⟩ dX2_as_2) hw (fun _ => z_keep (is := [0, 4]) (cs := [(mo, zo 2 (mF q (f 1) (f 2) (f 3) (f 4) (f 5) (f 6) (f 7) (f 8) (f 14) (f 19))), (q 11, zc G 0 (zI 46 (vI (aV A))))]) rfl rfl) (fun r u H locs hp hw => ?_)
  obtain rfl : r = bI (isP ((aV A) 1) x) := hp
  refine zb_ne (tgt := 11) hx hb dX2_as_5 (by decide) (fun c_5 => ?_) (fun c_5 => ?_)
  · skip
    obtain ⟨i, hi, rfl⟩ := c_5
    have hl : lv_has ls 5 [(0, .ref mo), (1, .int (nI i)), (2, .int y)] := hl
    have hp5 := hH.2.1
    refine lv_iload_n hx hb dX2_as_11 rfl (lv_at hl 2 rfl) ?_
    refine lv_iconst (v := (nI 0)) hx hb dX2_as_12 zk_0 ?_
    refine lv_iconst (v := (nI 5)) hx hb dX2_as_13 zk_5 ?_
    refine z_ci (z_runS (As := [.int y, .int (nI 0), .int (nI 5)]) (rest := []) hC zs_X2_59 (m_X2_in_n G l y 0 5 (by decide) (by decide) _) hw rfl rfl (Nat.le_of_ble_eq_true rfl) hl.1 ⟨Nat.le_of_ble_eq_true rfl, Nat.le_of_ble_eq_true rfl⟩ ⟨(Nat.le_of_ble_eq_true rfl), (Nat.le_of_ble_eq_true rfl)⟩ dX2_as_14) hw (fun _ => List.Perm.refl _) (fun r u H locs hp hw => ?_)
    obtain rfl : r = bI (inR y 0 5) := hp
    refine zb_ne (tgt := 23) hx hb dX2_as_17 (by decide) (fun c_17 => ?_) (fun c_17 => ?_)
    · skip
      obtain ⟨k, hk1, hk2, rfl⟩ := c_17
      have hl : lv_has ls 5 [(0, .ref mo), (1, .int (nI i)), (2, .int (nI k))] := hl
      refine lv_aload_n hx hb dX2_as_23 rfl (lv_at hl 0 rfl) ?_
      refine z_get (v := .ref (q 11)) hC zf_X2_19_2 hw 0 rfl rfl dX2_as_24 ?_
      refine lv_bipush (v := (nI 21)) hx hb dX2_as_27 zb_21 ?_
      refine lv_iconst (v := (nI 5)) hx hb dX2_as_29 zk_5 ?_
      refine lv_iload_n hx hb dX2_as_30 rfl (lv_at hl 1 rfl) ?_
      refine zn_imul hx hb dX2_as_31 ?_
      refine zn_iadd hx hb dX2_as_32 ?_
      refine z_iald (x := (nI ((aV A) (21 + 5 * i)))) hC hw 4 rfl (by omega) (by decide) rfl dX2_as_33 ?_
      refine lv_iconst (v := (nI 1)) hx hb dX2_as_34 zk_1 ?_
      refine zn_iadd hx hb dX2_as_35 ?_
      refine lv_istore_n (lv' := [(3, .int (nI ((aV A) (21 + 5 * i) + 1))), (0, .ref mo), (1, .int (nI i)), (2, .int (nI k))]) hx hb dX2_as_36 rfl hl (by decide) rfl (fun ls hl => ?_)
      have hkd := kind_lt hBv hi
      have join_71 : ∀ (z : Int32), (z = bI (castN k ((aV A) (21 + 5 * i)))) → ∀ (H : Heap) (locs : List Loc) (ls : Array Slot), zS G ((mo, zo 2 (mF q (f 1) (f 2) (f 3) (f 4) (f 5) (f 6) (f 7) (f 8) (f 14) (f 19))) :: (q 0, zc G 0 (zI 200 (b 0))) :: (q 9, zc G 0 (zI 46 (b 9))) :: (q 10, zc G 0 (zI 46 (b 10))) :: (q 11, zc G 0 (zI 46 (vI (aV A)))) :: (q 12, zc G 0 (zI 46 (b 12))) :: (q 13, zc G 0 (zI 368 (b 13))) :: (q 15, zc G 0 (zI 92 (b 15))) :: (q 16, zc G 3 (zI 2 (b 16))) :: (q 17, zc G 0 (zI 5 (b 17))) :: (q 18, zc G 0 (zI 24 (b 18))) :: (q 20, zc G 0 (zI 3 (b 20))) :: (q 21, zc G 0 (zI 3 (b 21))) :: (q 22, zc G 0 (zI 3 (b 22))) :: (q 23, zc G 0 (zI 36 (b 23))) :: (q 24, zc G 0 (zI 36 (b 24))) :: rest) s H locs → lv_has ls 5 [(0, .ref mo), (1, .int (nI i)), (2, .int (nI k)), (3, .int (nI ((aV A) (21 + 5 * i) + 1)))] → W p l e (zR 2 0 0) s m args below meth c H locs 0 0 Q (F0 m 71 ls [.int z]) := by
        intro z hz H locs ls hw hl
        subst hz
        refine lv_istore (lv' := [(4, .int (bI (castN k ((aV A) (21 + 5 * i))))), (0, .ref mo), (1, .int (nI i)), (2, .int (nI k)), (3, .int (nI ((aV A) (21 + 5 * i) + 1)))]) hx hb dX2_as_71 hl (by decide) rfl (fun ls hl => ?_)
        refine lv_iload hx hb dX2_as_73 (lv_at hl 0 rfl) ?_
        refine zb_eq (tgt := 86) hx hb dX2_as_75 (by decide) (fun c_75 => ?_) (fun c_75 => ?_)
        · skip
          refine lv_bipush (v := (-4)) hx hb dX2_as_86 zb_m4 ?_
          exact hend _ _ _ _ _ _ _ ((bU b 11 (vI (aV A))), mf (f 1) (f 2) (f 3) (f 4) (f 5) (f 6) (f 7) (f 8) (f 14) (f 19)) hw ⟨(by unfold F_as; rw [ifP_t ⟨i, hi, rfl⟩, ifP_t ⟨k, hk1, hk2, rfl⟩, cl_nI (by omega), cl_nI (by omega)]; first | rw [ifP_t c_75] | rw [ifP_f c_75]), ⟨⟨hT, hL⟩, hV0, rH_vI, ⟨hU, hUs⟩, hKp, ⟨hSi, hSg⟩, (fun t ht => tRel_of rfl rfl rfl rfl rfl (hTr t ht))⟩⟩ (by omega) (by omega) dX2_as_88
        · skip
          refine lv_aload_n hx hb dX2_as_78 rfl (lv_at hl 1 rfl) ?_
          refine lv_iload_n hx hb dX2_as_79 rfl (lv_at hl 2 rfl) ?_
          refine z_ci (z_runV (As := [.int (nI i)]) (rest := []) hC zv_X2_197 (m_X2_wanted G l mo q (f 1) (f 2) (f 3) (f 4) (f 5) (f 6) (f 7) (f 8) (f 14) (f 19) i (by omega) (aV A) (by first | assumption | (omega)) (zrem [0, 4] _)) hw (hw.perm (z_cut (is := [0, 4]) (cells := [(mo, zo 2 (mF q (f 1) (f 2) (f 3) (f 4) (f 5) (f 6) (f 7) (f 8) (f 14) (f 19))), (q 11, zc G 0 (zI 46 (vI (aV A))))]) rfl rfl)) 0 rfl rfl rfl rfl rfl (Nat.le_of_ble_eq_true rfl) hl.1 ⟨Nat.le_of_ble_eq_true rfl, Nat.le_of_ble_eq_true rfl⟩ ⟨(Nat.le_of_ble_eq_true rfl), (Nat.le_of_ble_eq_true rfl)⟩ dX2_as_80) hw (fun _ => z_keep (is := [0, 4]) (cs := [(mo, zo 2 (mF q (f 1) (f 2) (f 3) (f 4) (f 5) (f 6) (f 7) (f 8) (f 14) (f 19))), (q 11, zc G 0 (zI 46 (vI (aV A))))]) rfl rfl) (fun r u H locs hp hw => ?_)
          obtain rfl : r = nI (wantsN ((aV A) (21 + 5 * i)) ((aV A) (21 + 5 * i + 2))) := hp
          refine lv_goto (tgt := 88) hx hb dX2_as_83 (by decide) ?_
          exact hend _ _ _ _ _ _ _ ((bU b 11 (vI (aV A))), mf (f 1) (f 2) (f 3) (f 4) (f 5) (f 6) (f 7) (f 8) (f 14) (f 19)) hw ⟨(by unfold F_as; rw [ifP_t ⟨i, hi, rfl⟩, ifP_t ⟨k, hk1, hk2, rfl⟩, cl_nI (by omega), cl_nI (by omega)]; first | rw [ifP_t c_75] | rw [ifP_f c_75]), ⟨⟨hT, hL⟩, hV0, rH_vI, ⟨hU, hUs⟩, hKp, ⟨hSi, hSg⟩, (fun t ht => tRel_of rfl rfl rfl rfl rfl (hTr t ht))⟩⟩ (by omega) (by omega) dX2_as_88
      refine lv_iload_n hx hb dX2_as_37 rfl (lv_at hl 3 rfl) ?_
      refine zj_eq (tgt := 66) hx hb (by omega) dX2_as_38 (by decide) (fun c_38 => ?_) (fun c_38 => ?_)
      · skip
        refine lv_iconst (v := (nI 1)) hx hb dX2_as_66 zk_1 ?_
        refine lv_goto (tgt := 71) hx hb dX2_as_67 (by decide) ?_
        exact join_71 (nI 1) (by first | (exact (bI_t (by unfold castN; omega)).symm) | (exact (bI_f (by unfold castN; omega)).symm)) H locs ls hw (lv_sub hl [1, 2, 3, 0] rfl)
      · skip
        refine lv_iload_n hx hb dX2_as_41 rfl (lv_at hl 3 rfl) ?_
        refine lv_iload_n hx hb dX2_as_42 rfl (lv_at hl 0 rfl) ?_
        refine zi_eq (tgt := 66) hx hb (by omega) (by have := hH.2.2.1 (21 + 5 * i); omega) dX2_as_43 (by decide) (fun c_43 => ?_) (fun c_43 => ?_)
        · skip
          refine lv_iconst (v := (nI 1)) hx hb dX2_as_66 zk_1 ?_
          refine lv_goto (tgt := 71) hx hb dX2_as_67 (by decide) ?_
          exact join_71 (nI 1) (by first | (exact (bI_t (by unfold castN; omega)).symm) | (exact (bI_f (by unfold castN; omega)).symm)) H locs ls hw (lv_sub hl [1, 2, 3, 0] rfl)
        · skip
          refine lv_iload_n hx hb dX2_as_46 rfl (lv_at hl 3 rfl) ?_
          refine lv_iconst (v := (nI 1)) hx hb dX2_as_47 zk_1 ?_
          refine zi_ne (tgt := 56) hx hb (by omega) (by decide) dX2_as_48 (by decide) (fun c_48 => ?_) (fun c_48 => ?_)
          · skip
            refine lv_iload_n hx hb dX2_as_56 rfl (lv_at hl 3 rfl) ?_
            refine lv_iconst (v := (nI 4)) hx hb dX2_as_57 zk_4 ?_
            refine zi_ne (tgt := 70) hx hb (by omega) (by decide) dX2_as_58 (by decide) (fun c_58 => ?_) (fun c_58 => ?_)
            · skip
              refine lv_iconst (v := (nI 0)) hx hb dX2_as_70 zk_0 ?_
              exact join_71 (nI 0) (by first | (exact (bI_t (by unfold castN; omega)).symm) | (exact (bI_f (by unfold castN; omega)).symm)) H locs ls hw (lv_sub hl [1, 2, 3, 0] rfl)
            · skip
              refine lv_iload_n hx hb dX2_as_61 rfl (lv_at hl 0 rfl) ?_
              refine lv_iconst (v := (nI 5)) hx hb dX2_as_62 zk_5 ?_
              refine zi_ne (tgt := 70) hx hb (by have := hH.2.2.1 (21 + 5 * i); omega) (by decide) dX2_as_63 (by decide) (fun c_63 => ?_) (fun c_63 => ?_)
              · skip
                refine lv_iconst (v := (nI 0)) hx hb dX2_as_70 zk_0 ?_
                exact join_71 (nI 0) (by first | (exact (bI_t (by unfold castN; omega)).symm) | (exact (bI_f (by unfold castN; omega)).symm)) H locs ls hw (lv_sub hl [1, 2, 3, 0] rfl)
              · skip
                refine lv_iconst (v := (nI 1)) hx hb dX2_as_66 zk_1 ?_
                refine lv_goto (tgt := 71) hx hb dX2_as_67 (by decide) ?_
                exact join_71 (nI 1) (by first | (exact (bI_t (by unfold castN; omega)).symm) | (exact (bI_f (by unfold castN; omega)).symm)) H locs ls hw (lv_sub hl [1, 2, 3, 0] rfl)
          · skip
            refine lv_iload_n hx hb dX2_as_51 rfl (lv_at hl 0 rfl) ?_
            refine lv_iconst (v := (nI 4)) hx hb dX2_as_52 zk_4 ?_
            refine zi_lt (tgt := 66) hx hb (by have := hH.2.2.1 (21 + 5 * i); omega) (by decide) dX2_as_53 (by decide) (fun c_53 => ?_) (fun c_53 => ?_)
            · skip
              refine lv_iconst (v := (nI 1)) hx hb dX2_as_66 zk_1 ?_
              refine lv_goto (tgt := 71) hx hb dX2_as_67 (by decide) ?_
              exact join_71 (nI 1) (by first | (exact (bI_t (by unfold castN; omega)).symm) | (exact (bI_f (by unfold castN; omega)).symm)) H locs ls hw (lv_sub hl [1, 2, 3, 0] rfl)
            · skip
              refine lv_iload_n hx hb dX2_as_56 rfl (lv_at hl 3 rfl) ?_
              refine lv_iconst (v := (nI 4)) hx hb dX2_as_57 zk_4 ?_
              refine zi_ne (tgt := 70) hx hb (by omega) (by decide) dX2_as_58 (by decide) (fun c_58 => ?_) (fun c_58 => ?_)
              · skip
                refine lv_iconst (v := (nI 0)) hx hb dX2_as_70 zk_0 ?_
                exact join_71 (nI 0) (by first | (exact (bI_t (by unfold castN; omega)).symm) | (exact (bI_f (by unfold castN; omega)).symm)) H locs ls hw (lv_sub hl [1, 2, 3, 0] rfl)
              · skip
                refine lv_iload_n hx hb dX2_as_61 rfl (lv_at hl 0 rfl) ?_
                refine lv_iconst (v := (nI 5)) hx hb dX2_as_62 zk_5 ?_
                refine zi_ne (tgt := 70) hx hb (by have := hH.2.2.1 (21 + 5 * i); omega) (by decide) dX2_as_63 (by decide) (fun c_63 => ?_) (fun c_63 => ?_)
                · skip
                  refine lv_iconst (v := (nI 0)) hx hb dX2_as_70 zk_0 ?_
                  exact join_71 (nI 0) (by first | (exact (bI_t (by unfold castN; omega)).symm) | (exact (bI_f (by unfold castN; omega)).symm)) H locs ls hw (lv_sub hl [1, 2, 3, 0] rfl)
                · skip
                  refine lv_iconst (v := (nI 1)) hx hb dX2_as_66 zk_1 ?_
                  refine lv_goto (tgt := 71) hx hb dX2_as_67 (by decide) ?_
                  exact join_71 (nI 1) (by first | (exact (bI_t (by unfold castN; omega)).symm) | (exact (bI_f (by unfold castN; omega)).symm)) H locs ls hw (lv_sub hl [1, 2, 3, 0] rfl)
    · skip
      refine lv_bipush (v := (-3)) hx hb dX2_as_20 zb_m3 ?_
      exact hend _ _ _ _ _ _ _ ((bU b 11 (vI (aV A))), mf (f 1) (f 2) (f 3) (f 4) (f 5) (f 6) (f 7) (f 8) (f 14) (f 19)) hw ⟨((ifP_t ⟨i, hi, rfl⟩).trans (ifP_f c_17)).symm, ⟨⟨hT, hL⟩, hV0, rH_vI, ⟨hU, hUs⟩, hKp, ⟨hSi, hSg⟩, (fun t ht => tRel_of rfl rfl rfl rfl rfl (hTr t ht))⟩⟩ (by omega) (by omega) dX2_as_22
  · skip
    refine lv_bipush (v := (-2)) hx hb dX2_as_8 zb_m2 ?_
    exact hend _ _ _ _ _ _ _ ((bU b 11 (vI (aV A))), mf (f 1) (f 2) (f 3) (f 4) (f 5) (f 6) (f 7) (f 8) (f 14) (f 19)) hw ⟨(ifP_f c_5).symm, ⟨⟨hT, hL⟩, hV0, rH_vI, ⟨hU, hUs⟩, hKp, ⟨hSi, hSg⟩, (fun t ht => tRel_of rfl rfl rfl rfl rfl (hTr t ht))⟩⟩ (by omega) (by omega) dX2_as_10
theorem aUs_note (A : AS) : aUs (noteA A) = nU (aU A) (aV A) (aUs A) := by
  unfold noteA nU aUs mkA
  rfl
theorem zv_X2_200 : zVs RX2 200 yX2_notes cX2_notes 2 none 0 := ⟨lw_V q1990 q1992 qs42 q53 q1993, ⟨by decide +kernel, by decide +kernel⟩, by decide +kernel⟩
set_option maxHeartbeats 4000000 in
theorem m_X2_day (G : zE) (l : Launch) (mo : Nat) (q : Nat → Nat) (A : AS) (b : Nat → Nat → Int32) (f : Nat → Int32) (hA : AOk A) (hM : MRel A b f) (x : Int32) (rest : va_W) : zMi G l yX2_day cX2_day 3 (some .int) 5 0 0 [.ref mo, .int x] ((mo, zo 2 (mF q (f 1) (f 2) (f 3) (f 4) (f 5) (f 6) (f 7) (f 8) (f 14) (f 19))) :: (q 0, zc G 0 (zI 200 (b 0))) :: (q 9, zc G 0 (zI 46 (b 9))) :: (q 10, zc G 0 (zI 46 (b 10))) :: (q 11, zc G 0 (zI 46 (b 11))) :: (q 12, zc G 0 (zI 46 (b 12))) :: (q 13, zc G 0 (zI 368 (b 13))) :: (q 15, zc G 0 (zI 92 (b 15))) :: (q 16, zc G 3 (zI 2 (b 16))) :: (q 17, zc G 0 (zI 5 (b 17))) :: (q 18, zc G 0 (zI 24 (b 18))) :: (q 20, zc G 0 (zI 3 (b 20))) :: (q 21, zc G 0 (zI 3 (b 21))) :: (q 22, zc G 0 (zI 3 (b 22))) :: (q 23, zc G 0 (zI 36 (b 23))) :: (q 24, zc G 0 (zI 36 (b 24))) :: rest) (fun (r : Int32) (u : MB) => r = (F_day A x).1 ∧ MRel (F_day A x).2 u.1 u.2) (fun (u : MB) => (mo, zo 2 (mF q (u.2 1) (u.2 2) (u.2 3) (u.2 4) (u.2 5) (u.2 6) (u.2 7) (u.2 8) (u.2 14) (u.2 19))) :: (q 0, zc G 0 (zI 200 (u.1 0))) :: (q 9, zc G 0 (zI 46 (u.1 9))) :: (q 10, zc G 0 (zI 46 (u.1 10))) :: (q 11, zc G 0 (zI 46 (u.1 11))) :: (q 12, zc G 0 (zI 46 (u.1 12))) :: (q 13, zc G 0 (zI 368 (u.1 13))) :: (q 15, zc G 0 (zI 92 (u.1 15))) :: (q 16, zc G 3 (zI 2 (u.1 16))) :: (q 17, zc G 0 (zI 5 (u.1 17))) :: (q 18, zc G 0 (zI 24 (u.1 18))) :: (q 20, zc G 0 (zI 3 (u.1 20))) :: (q 21, zc G 0 (zI 3 (u.1 21))) :: (q 22, zc G 0 (zI 3 (u.1 22))) :: (q 23, zc G 0 (zI 36 (u.1 23))) :: (q 24, zc G 0 (zI 36 (u.1 24))) :: rest) := by
  refine z_begI (by decide) (Nat.le_of_ble_eq_true rfl) (fun p e s m args below meth c ls Q hC hl hw hend => ?_)
  have hx := hC.hx
  have hb := hC.hb
  have hl : lv_has ls 3 [(0, .ref mo), (1, .int x)] := hl
  have hw : zS G ((mo, zo 2 (mF q (f 1) (f 2) (f 3) (f 4) (f 5) (f 6) (f 7) (f 8) (f 14) (f 19))) :: (q 0, zc G 0 (zI 200 (b 0))) :: (q 9, zc G 0 (zI 46 (b 9))) :: (q 10, zc G 0 (zI 46 (b 10))) :: (q 11, zc G 0 (zI 46 (b 11))) :: (q 12, zc G 0 (zI 46 (b 12))) :: (q 13, zc G 0 (zI 368 (b 13))) :: (q 15, zc G 0 (zI 92 (b 15))) :: (q 16, zc G 3 (zI 2 (b 16))) :: (q 17, zc G 0 (zI 5 (b 17))) :: (q 18, zc G 0 (zI 24 (b 18))) :: (q 20, zc G 0 (zI 3 (b 20))) :: (q 21, zc G 0 (zI 3 (b 21))) :: (q 22, zc G 0 (zI 3 (b 22))) :: (q 23, zc G 0 (zI 36 (b 23))) :: (q 24, zc G 0 (zI 36 (b 24))) :: rest) s s.heap [] := hw
  have hA9 := hA
  obtain ⟨⟨hT, hL⟩, hV0, hV, ⟨hU, hUs⟩, hKp, ⟨hSi, hSg⟩, hTr⟩ := hM
  obtain ⟨⟨hL2, hT2⟩, hB0, hBv, ⟨hU8, hUb⟩, hKb, ⟨hS6, hSb⟩, hTb⟩ := hA
  have hH : Hw (aV A) := hBv.1.1
  have hday := hBv.2.2
  have hw := hw.cellI 4 rfl (g := vI (aV A)) (fun j hj => by have := hV j hj; rwa [Nat.zero_add] at this)
  have hw := hw.tail (c' := (mo, zo 2 (mF q (f 1) (f 2) (f 3) (f 4) (f 5) (f 6) (f 7) (f 8) (nI (aU A)) (f 19)))) (by rw [hU])
  have hw : zS G ((mo, zo 2 (mF q (f 1) (f 2) (f 3) (f 4) (f 5) (f 6) (f 7) (f 8) (nI (aU A)) (f 19))) :: (q 0, zc G 0 (zI 200 (b 0))) :: (q 9, zc G 0 (zI 46 (b 9))) :: (q 10, zc G 0 (zI 46 (b 10))) :: (q 11, zc G 0 (zI 46 (vI (aV A)))) :: (q 12, zc G 0 (zI 46 (b 12))) :: (q 13, zc G 0 (zI 368 (b 13))) :: (q 15, zc G 0 (zI 92 (b 15))) :: (q 16, zc G 3 (zI 2 (b 16))) :: (q 17, zc G 0 (zI 5 (b 17))) :: (q 18, zc G 0 (zI 24 (b 18))) :: (q 20, zc G 0 (zI 3 (b 20))) :: (q 21, zc G 0 (zI 3 (b 21))) :: (q 22, zc G 0 (zI 3 (b 22))) :: (q 23, zc G 0 (zI 36 (b 23))) :: (q 24, zc G 0 (zI 36 (b 24))) :: rest) s s.heap [] := hw
  refine lv_iload_n hx hb dX2_day_0 rfl (lv_at hl 1 rfl) ?_
  refine lv_iconst (v := (nI 1)) hx hb dX2_day_1 zk_1 ?_
  refine lv_bipush (v := (nI 12)) hx hb dX2_day_2 zb_12 ?_
  refine z_ci (z_runS (As := [.int x, .int (nI 1), .int (nI 12)]) (rest := []) hC zs_X2_59 (m_X2_in_n G l x 1 12 (by decide) (by decide) _) hw rfl rfl (Nat.le_of_ble_eq_true rfl) hl.1 ⟨Nat.le_of_ble_eq_true rfl, Nat.le_of_ble_eq_true rfl⟩ ⟨(Nat.le_of_ble_eq_true rfl), (Nat.le_of_ble_eq_true rfl)⟩ dX2_day_4) hw (fun _ => List.Perm.refl _) (fun r u H locs hp hw => ?_)
  obtain rfl : r = bI (inR x 1 12) := hp
  refine zb_ne (tgt := 13) hx hb dX2_day_7 (by decide) (fun c_7 => ?_) (fun c_7 => ?_)
  · skip
    obtain ⟨k, hk1, hk2, rfl⟩ := c_7
    have hl : lv_has ls 3 [(0, .ref mo), (1, .int (nI k))] := hl
    refine lv_aload_n hx hb dX2_day_13 rfl (lv_at hl 0 rfl) ?_
    refine z_get (v := .ref (q 11)) hC zf_X2_19_2 hw 0 rfl rfl dX2_day_14 ?_
    refine lv_iconst (v := (nI 2)) hx hb dX2_day_17 zk_2 ?_
    refine z_iald (x := (nI ((aV A) 2))) hC hw 4 rfl (by decide) (by decide) rfl dX2_day_18 ?_
    refine lv_iload_n hx hb dX2_day_19 rfl (lv_at hl 1 rfl) ?_
    refine zn_iadd hx hb dX2_day_20 ?_
    refine lv_sipush (v := (nI 999)) hx hb dX2_day_21 zs_999 ?_
    refine zi_le (tgt := 30) hx hb (by omega) (by decide) dX2_day_24 (by decide) (fun c_24 => ?_) (fun c_24 => ?_)
    · skip
      refine lv_aload_n hx hb dX2_day_30 rfl (lv_at hl 0 rfl) ?_
      refine z_cv (z_runV (As := []) (rest := []) hC zv_X2_200 (m_X2_notes G l mo q (f 1) (f 2) (f 3) (f 4) (f 5) (f 6) (f 7) (f 8) (f 19) (aU A) (aV A) hH (b 13) (aUs A) hU8 hUs (zrem [0, 4, 6] _)) hw (hw.perm (z_cut (is := [0, 4, 6]) (cells := [(mo, zo 2 (mF q (f 1) (f 2) (f 3) (f 4) (f 5) (f 6) (f 7) (f 8) (nI (aU A)) (f 19))), (q 11, zc G 0 (zI 46 (vI (aV A)))), (q 13, zc G 0 (zI 368 (b 13)))]) rfl rfl)) 0 rfl rfl rfl rfl rfl (Nat.le_of_ble_eq_true rfl) hl.1 ⟨Nat.le_of_ble_eq_true rfl, Nat.le_of_ble_eq_true rfl⟩ ⟨(Nat.le_of_ble_eq_true rfl), (Nat.le_of_ble_eq_true rfl)⟩ dX2_day_31) hw (fun u => z_pput (is := [0, 4, 6]) (cells := [(mo, zo 2 (mF q (f 1) (f 2) (f 3) (f 4) (f 5) (f 6) (f 7) (f 8) (nI (aU A)) (f 19))), (q 11, zc G 0 (zI 46 (vI (aV A)))), (q 13, zc G 0 (zI 368 (b 13)))]) (cells' := [(mo, zo 2 (mF q (f 1) (f 2) (f 3) (f 4) (f 5) (f 6) (f 7) (f 8) (nI (if (aU A) = 8 then 8 else (aU A) + 1)) (f 19))), (q 11, zc G 0 (zI 46 (vI (aV A)))), (q 13, zc G 0 (zI 368 u))]) rfl rfl rfl) (fun u H locs hp hw => ?_)
      obtain ⟨pf1_1, rfl⟩ : ∃ z, z = u := ⟨_, rfl⟩
      have hw : zS G ((mo, zo 2 (mF q (f 1) (f 2) (f 3) (f 4) (f 5) (f 6) (f 7) (f 8) (nI (if (aU A) = 8 then 8 else (aU A) + 1)) (f 19))) :: (q 0, zc G 0 (zI 200 (b 0))) :: (q 9, zc G 0 (zI 46 (b 9))) :: (q 10, zc G 0 (zI 46 (b 10))) :: (q 11, zc G 0 (zI 46 (vI (aV A)))) :: (q 12, zc G 0 (zI 46 (b 12))) :: (q 13, zc G 0 (zI 368 pf1_1)) :: (q 15, zc G 0 (zI 92 (b 15))) :: (q 16, zc G 3 (zI 2 (b 16))) :: (q 17, zc G 0 (zI 5 (b 17))) :: (q 18, zc G 0 (zI 24 (b 18))) :: (q 20, zc G 0 (zI 3 (b 20))) :: (q 21, zc G 0 (zI 3 (b 21))) :: (q 22, zc G 0 (zI 3 (b 22))) :: (q 23, zc G 0 (zI 36 (b 23))) :: (q 24, zc G 0 (zI 36 (b 24))) :: rest) s H locs := hw
      have hnotes := hp
      refine lv_iconst (v := (nI 0)) hx hb dX2_day_34 zk_0 ?_
      refine lv_istore_n (lv' := [(2, .int (nI 0)), (0, .ref mo), (1, .int (nI k))]) hx hb dX2_day_35 rfl hl (by decide) rfl (fun ls hl => ?_)
      have loop_36 : ∀ (fuel : Nat) (j : Nat) (af1 : Nat → Int32), (j ≤ k) → (k - j) < fuel → ∀ (H : Heap) (locs : List Loc) (ls : Array Slot), zS G ((mo, zo 2 (mF q (f 1) (f 2) (f 3) (f 4) (f 5) (f 6) (f 7) (f 8) (nI (if (aU A) = 8 then 8 else (aU A) + 1)) (f 19))) :: (q 0, zc G 0 (zI 200 (b 0))) :: (q 9, zc G 0 (zI 46 (b 9))) :: (q 10, zc G 0 (zI 46 (b 10))) :: (q 11, zc G 0 (zI 46 (vI (daysN j (aV A))))) :: (q 12, zc G 0 (zI 46 (b 12))) :: (q 13, zc G 0 (zI 368 pf1_1)) :: (q 15, zc G 0 (zI 92 (b 15))) :: (q 16, zc G 3 (zI 2 (b 16))) :: (q 17, zc G 0 (zI 5 af1)) :: (q 18, zc G 0 (zI 24 (b 18))) :: (q 20, zc G 0 (zI 3 (b 20))) :: (q 21, zc G 0 (zI 3 (b 21))) :: (q 22, zc G 0 (zI 3 (b 22))) :: (q 23, zc G 0 (zI 36 (b 23))) :: (q 24, zc G 0 (zI 36 (b 24))) :: rest) s H locs → lv_has ls 3 [(0, .ref mo), (1, .int (nI k)), (2, .int (nI j))] → W p l e (zR 5 0 0) s m args below meth c H locs 0 0 Q (F0 m 36 ls []) := by
        intro fuel
        induction fuel with
        | zero => intro j af1 hj hfuel; exact absurd hfuel (Nat.not_lt_zero _)
        | succ fuel_36 ih_36 =>
          intro j af1 hj hfuel_36 H locs ls hw hl
          have hdk := daysN_inv hH j (by omega)
          refine lv_iload_n hx hb dX2_day_36 rfl (lv_at hl 2 rfl) ?_
          refine lv_iload_n hx hb dX2_day_37 rfl (lv_at hl 1 rfl) ?_
          refine zi_ge (tgt := 55) hx hb (by omega) (by omega) dX2_day_38 (by decide) (fun c_38 => ?_) (fun c_38 => ?_)
          · skip
            obtain rfl : j = k := by omega
            have hl : lv_has ls 3 [(0, .ref mo), (1, .int (nI j)), (2, .int (nI j))] := hl
            refine lv_aload_n hx hb dX2_day_55 rfl (lv_at hl 0 rfl) ?_
            refine z_get (v := .ref (q 11)) hC zf_X2_19_2 hw 0 rfl rfl dX2_day_56 ?_
            refine lv_iconst (v := (nI 2)) hx hb dX2_day_59 zk_2 ?_
            refine z_iald (x := (nI ((aV A) 2 + j))) hC hw 4 rfl (by decide) (by decide) (congrArg nI hdk.2.1) dX2_day_60 ?_
            exact hend _ _ _ _ _ _ _ ((bU (bU (bU b 11 (vI (daysN j (aV A)))) 13 pf1_1) 17 af1), mf (f 1) (f 2) (f 3) (f 4) (f 5) (f 6) (f 7) (f 8) (nI (if (aU A) = 8 then 8 else (aU A) + 1)) (f 19)) hw (by rw [show F_day A (nI j) = (nI (aV A 2 + j), sV (noteA A) (daysN j (aV A))) from (ifP_t ⟨j, hk1, hk2, rfl⟩).trans (by rw [cl_nI (by omega), if_neg (by omega)])]; exact ⟨rfl, ⟨⟨hT, hL⟩, hV0, rH_vI, ⟨rfl, hnotes⟩, hKp, ⟨hSi, hSg⟩, (fun t ht => tRel_of rfl rfl rfl rfl rfl (hTr t ht))⟩⟩) (by omega) (by omega) dX2_day_61
          · skip
            refine lv_aload_n hx hb dX2_day_41 rfl (lv_at hl 0 rfl) ?_
            refine lv_aload_n hx hb dX2_day_42 rfl (lv_at hl 0 rfl) ?_
            refine z_get (v := .ref (q 11)) hC zf_X2_19_2 hw 0 rfl rfl dX2_day_43 ?_
            refine z_cv (z_runV (As := [.ref (q 11)]) (rest := []) hC zv_X2_203 (m_X2_passes G l mo q (f 1) (f 2) (f 3) (f 4) (f 5) (f 6) (f 7) (f 8) (nI (if (aU A) = 8 then 8 else (aU A) + 1)) (f 19) (q 11) (daysN j (aV A)) af1 hdk.1 (by rw [hdk.2.1]; omega) (zrem [0, 4, 9] _)) hw (hw.perm (z_cut (is := [0, 4, 9]) (cells := [(mo, zo 2 (mF q (f 1) (f 2) (f 3) (f 4) (f 5) (f 6) (f 7) (f 8) (nI (if (aU A) = 8 then 8 else (aU A) + 1)) (f 19))), (q 11, zc G 0 (zI 46 (vI (daysN j (aV A))))), (q 17, zc G 0 (zI 5 af1))]) rfl rfl)) 0 rfl rfl rfl rfl rfl (Nat.le_of_ble_eq_true rfl) hl.1 ⟨Nat.le_of_ble_eq_true rfl, Nat.le_of_ble_eq_true rfl⟩ ⟨(Nat.le_of_ble_eq_true rfl), (Nat.le_of_ble_eq_true rfl)⟩ dX2_day_46) hw (fun _ => z_pput (is := [0, 4, 9]) (cells := [(mo, zo 2 (mF q (f 1) (f 2) (f 3) (f 4) (f 5) (f 6) (f 7) (f 8) (nI (if (aU A) = 8 then 8 else (aU A) + 1)) (f 19))), (q 11, zc G 0 (zI 46 (vI (daysN j (aV A))))), (q 17, zc G 0 (zI 5 af1))]) (cells' := [(mo, zo 2 (mF q (f 1) (f 2) (f 3) (f 4) (f 5) (f 6) (f 7) (f 8) (nI (if (aU A) = 8 then 8 else (aU A) + 1)) (f 19))), (q 11, zc G 0 (zI 46 (vI (passN (daysN j (aV A)))))), (q 17, zc G 0 (zI 5 (ateI (ateN (daysN j (aV A))) ((daysN j (aV A)) 1) af1)))]) rfl rfl rfl) (fun u H locs hp hw => ?_)
            have hw : zS G ((mo, zo 2 (mF q (f 1) (f 2) (f 3) (f 4) (f 5) (f 6) (f 7) (f 8) (nI (if (aU A) = 8 then 8 else (aU A) + 1)) (f 19))) :: (q 0, zc G 0 (zI 200 (b 0))) :: (q 9, zc G 0 (zI 46 (b 9))) :: (q 10, zc G 0 (zI 46 (b 10))) :: (q 11, zc G 0 (zI 46 (vI (passN (daysN j (aV A)))))) :: (q 12, zc G 0 (zI 46 (b 12))) :: (q 13, zc G 0 (zI 368 pf1_1)) :: (q 15, zc G 0 (zI 92 (b 15))) :: (q 16, zc G 3 (zI 2 (b 16))) :: (q 17, zc G 0 (zI 5 (ateI (ateN (daysN j (aV A))) ((daysN j (aV A)) 1) af1))) :: (q 18, zc G 0 (zI 24 (b 18))) :: (q 20, zc G 0 (zI 3 (b 20))) :: (q 21, zc G 0 (zI 3 (b 21))) :: (q 22, zc G 0 (zI 3 (b 22))) :: (q 23, zc G 0 (zI 36 (b 23))) :: (q 24, zc G 0 (zI 36 (b 24))) :: rest) s H locs := hw
            refine lv_iinc (v := (nI (j + 1))) (lv' := [(2, .int (nI (j + 1))), (0, .ref mo), (1, .int (nI k))]) hx hb dX2_day_49 hl (k := 2) rfl (zincn _ 1) (by decide) rfl (fun ls hl => ?_)
            refine lv_goto (tgt := 36) hx hb dX2_day_52 (by decide) ?_
            have hw : zS G ((mo, zo 2 (mF q (f 1) (f 2) (f 3) (f 4) (f 5) (f 6) (f 7) (f 8) (nI (if (aU A) = 8 then 8 else (aU A) + 1)) (f 19))) :: (q 0, zc G 0 (zI 200 (b 0))) :: (q 9, zc G 0 (zI 46 (b 9))) :: (q 10, zc G 0 (zI 46 (b 10))) :: (q 11, zc G 0 (zI 46 (vI (daysN (j + 1) (aV A))))) :: (q 12, zc G 0 (zI 46 (b 12))) :: (q 13, zc G 0 (zI 368 pf1_1)) :: (q 15, zc G 0 (zI 92 (b 15))) :: (q 16, zc G 3 (zI 2 (b 16))) :: (q 17, zc G 0 (zI 5 (ateI (ateN (daysN j (aV A))) ((daysN j (aV A)) 1) af1))) :: (q 18, zc G 0 (zI 24 (b 18))) :: (q 20, zc G 0 (zI 3 (b 20))) :: (q 21, zc G 0 (zI 3 (b 21))) :: (q 22, zc G 0 (zI 3 (b 22))) :: (q 23, zc G 0 (zI 36 (b 23))) :: (q 24, zc G 0 (zI 36 (b 24))) :: rest) s H locs := hw
            exact ih_36 (j + 1) (ateI (ateN (daysN j (aV A))) ((daysN j (aV A)) 1) af1) (by omega) (by omega) H locs ls hw (lv_sub hl [1, 2, 0] rfl)
      have hw : zS G ((mo, zo 2 (mF q (f 1) (f 2) (f 3) (f 4) (f 5) (f 6) (f 7) (f 8) (nI (if (aU A) = 8 then 8 else (aU A) + 1)) (f 19))) :: (q 0, zc G 0 (zI 200 (b 0))) :: (q 9, zc G 0 (zI 46 (b 9))) :: (q 10, zc G 0 (zI 46 (b 10))) :: (q 11, zc G 0 (zI 46 (vI (daysN 0 (aV A))))) :: (q 12, zc G 0 (zI 46 (b 12))) :: (q 13, zc G 0 (zI 368 pf1_1)) :: (q 15, zc G 0 (zI 92 (b 15))) :: (q 16, zc G 3 (zI 2 (b 16))) :: (q 17, zc G 0 (zI 5 (b 17))) :: (q 18, zc G 0 (zI 24 (b 18))) :: (q 20, zc G 0 (zI 3 (b 20))) :: (q 21, zc G 0 (zI 3 (b 21))) :: (q 22, zc G 0 (zI 3 (b 22))) :: (q 23, zc G 0 (zI 36 (b 23))) :: (q 24, zc G 0 (zI 36 (b 24))) :: rest) s H locs := hw
      exact loop_36 ((k - 0) + 1) 0 (b 17) (by omega) (Nat.lt_succ_self _) H locs ls hw (lv_sub hl [1, 2, 0] rfl)
    · skip
      refine lv_bipush (v := (-5)) hx hb dX2_day_27 zb_m5 ?_
      exact hend _ _ _ _ _ _ _ ((bU b 11 (vI (aV A))), mf (f 1) (f 2) (f 3) (f 4) (f 5) (f 6) (f 7) (f 8) (nI (aU A)) (f 19)) hw (by rw [show F_day A (nI k) = _ from (ifP_t ⟨k, hk1, hk2, rfl⟩).trans (if_pos (by rw [cl_nI (by omega)]; omega))]; exact ⟨rfl, ⟨⟨hT, hL⟩, hV0, rH_vI, ⟨rfl, hUs⟩, hKp, ⟨hSi, hSg⟩, (fun t ht => tRel_of rfl rfl rfl rfl rfl (hTr t ht))⟩⟩) (by omega) (by omega) dX2_day_29
  · skip
    refine lv_bipush (v := (-3)) hx hb dX2_day_10 zb_m3 ?_
    exact hend _ _ _ _ _ _ _ ((bU b 11 (vI (aV A))), mf (f 1) (f 2) (f 3) (f 4) (f 5) (f 6) (f 7) (f 8) (nI (aU A)) (f 19)) hw (by rw [show F_day A x = _ from ifP_f c_7]; exact ⟨rfl, ⟨⟨hT, hL⟩, hV0, rH_vI, ⟨rfl, hUs⟩, hKp, ⟨hSi, hSg⟩, (fun t ht => tRel_of rfl rfl rfl rfl rfl (hTr t ht))⟩⟩) (by omega) (by omega) dX2_day_12
set_option maxHeartbeats 4000000 in
theorem m_X2_bury (G : zE) (l : Launch) (mo : Nat) (q : Nat → Nat) (A : AS) (b : Nat → Nat → Int32) (f : Nat → Int32) (hA : AOk A) (hM : MRel A b f) (x : Int32) (y : Int32) (rest : va_W) : zMi G l yX2_bury cX2_bury 4 (some .int) 2 0 0 [.ref mo, .int x, .int y] ((mo, zo 2 (mF q (f 1) (f 2) (f 3) (f 4) (f 5) (f 6) (f 7) (f 8) (f 14) (f 19))) :: (q 0, zc G 0 (zI 200 (b 0))) :: (q 9, zc G 0 (zI 46 (b 9))) :: (q 10, zc G 0 (zI 46 (b 10))) :: (q 11, zc G 0 (zI 46 (b 11))) :: (q 12, zc G 0 (zI 46 (b 12))) :: (q 13, zc G 0 (zI 368 (b 13))) :: (q 15, zc G 0 (zI 92 (b 15))) :: (q 16, zc G 3 (zI 2 (b 16))) :: (q 17, zc G 0 (zI 5 (b 17))) :: (q 18, zc G 0 (zI 24 (b 18))) :: (q 20, zc G 0 (zI 3 (b 20))) :: (q 21, zc G 0 (zI 3 (b 21))) :: (q 22, zc G 0 (zI 3 (b 22))) :: (q 23, zc G 0 (zI 36 (b 23))) :: (q 24, zc G 0 (zI 36 (b 24))) :: rest) (fun (r : Int32) (u : MB) => r = (F_bury A x y).1 ∧ MRel (F_bury A x y).2 u.1 u.2) (fun (u : MB) => (mo, zo 2 (mF q (u.2 1) (u.2 2) (u.2 3) (u.2 4) (u.2 5) (u.2 6) (u.2 7) (u.2 8) (u.2 14) (u.2 19))) :: (q 0, zc G 0 (zI 200 (u.1 0))) :: (q 9, zc G 0 (zI 46 (u.1 9))) :: (q 10, zc G 0 (zI 46 (u.1 10))) :: (q 11, zc G 0 (zI 46 (u.1 11))) :: (q 12, zc G 0 (zI 46 (u.1 12))) :: (q 13, zc G 0 (zI 368 (u.1 13))) :: (q 15, zc G 0 (zI 92 (u.1 15))) :: (q 16, zc G 3 (zI 2 (u.1 16))) :: (q 17, zc G 0 (zI 5 (u.1 17))) :: (q 18, zc G 0 (zI 24 (u.1 18))) :: (q 20, zc G 0 (zI 3 (u.1 20))) :: (q 21, zc G 0 (zI 3 (u.1 21))) :: (q 22, zc G 0 (zI 3 (u.1 22))) :: (q 23, zc G 0 (zI 36 (u.1 23))) :: (q 24, zc G 0 (zI 36 (u.1 24))) :: rest) := by
  refine z_begI (by decide) (Nat.le_of_ble_eq_true rfl) (fun p e s m args below meth c ls Q hC hl hw hend => ?_)
  have hx := hC.hx
  have hb := hC.hb
  have hl : lv_has ls 4 [(0, .ref mo), (1, .int x), (2, .int y)] := hl
  have hw : zS G ((mo, zo 2 (mF q (f 1) (f 2) (f 3) (f 4) (f 5) (f 6) (f 7) (f 8) (f 14) (f 19))) :: (q 0, zc G 0 (zI 200 (b 0))) :: (q 9, zc G 0 (zI 46 (b 9))) :: (q 10, zc G 0 (zI 46 (b 10))) :: (q 11, zc G 0 (zI 46 (b 11))) :: (q 12, zc G 0 (zI 46 (b 12))) :: (q 13, zc G 0 (zI 368 (b 13))) :: (q 15, zc G 0 (zI 92 (b 15))) :: (q 16, zc G 3 (zI 2 (b 16))) :: (q 17, zc G 0 (zI 5 (b 17))) :: (q 18, zc G 0 (zI 24 (b 18))) :: (q 20, zc G 0 (zI 3 (b 20))) :: (q 21, zc G 0 (zI 3 (b 21))) :: (q 22, zc G 0 (zI 3 (b 22))) :: (q 23, zc G 0 (zI 36 (b 23))) :: (q 24, zc G 0 (zI 36 (b 24))) :: rest) s s.heap [] := hw
  have hA9 := hA
  obtain ⟨⟨hT, hL⟩, hV0, hV, ⟨hU, hUs⟩, hKp, ⟨hSi, hSg⟩, hTr⟩ := hM
  obtain ⟨⟨hL2, hT2⟩, hB0, hBv, ⟨hU8, hUb⟩, hKb, ⟨hS6, hSb⟩, hTb⟩ := hA
  have hH : Hw (aV A) := hBv.1.1
  have hday := hBv.2.2
  have hw := hw.cellI 4 rfl (g := vI (aV A)) (fun j hj => by have := hV j hj; rwa [Nat.zero_add] at this)
  have hw := hw.tail (c' := (mo, zo 2 (mF q (f 1) (f 2) (f 3) (f 4) (f 5) (f 6) (f 7) (f 8) (nI (aU A)) (f 19)))) (by rw [hU])
  have hw : zS G ((mo, zo 2 (mF q (f 1) (f 2) (f 3) (f 4) (f 5) (f 6) (f 7) (f 8) (nI (aU A)) (f 19))) :: (q 0, zc G 0 (zI 200 (b 0))) :: (q 9, zc G 0 (zI 46 (b 9))) :: (q 10, zc G 0 (zI 46 (b 10))) :: (q 11, zc G 0 (zI 46 (vI (aV A)))) :: (q 12, zc G 0 (zI 46 (b 12))) :: (q 13, zc G 0 (zI 368 (b 13))) :: (q 15, zc G 0 (zI 92 (b 15))) :: (q 16, zc G 3 (zI 2 (b 16))) :: (q 17, zc G 0 (zI 5 (b 17))) :: (q 18, zc G 0 (zI 24 (b 18))) :: (q 20, zc G 0 (zI 3 (b 20))) :: (q 21, zc G 0 (zI 3 (b 21))) :: (q 22, zc G 0 (zI 3 (b 22))) :: (q 23, zc G 0 (zI 36 (b 23))) :: (q 24, zc G 0 (zI 36 (b 24))) :: rest) s s.heap [] := hw
  refine lv_aload_n hx hb dX2_bury_0 rfl (lv_at hl 0 rfl) ?_
  refine lv_iload_n hx hb dX2_bury_1 rfl (lv_at hl 1 rfl) ?_
  refine z_ci (z_runV (As := [.int x]) (rest := []) hC zv_X2_194 (m_X2_isSquirrel G l mo q (f 1) (f 2) (f 3) (f 4) (f 5) (f 6) (f 7) (f 8) (nI (aU A)) (f 19) x (aV A) (by first | assumption | (omega)) (zrem [0, 4] _)) hw (hw.perm (z_cut (is := [0, 4]) (cells := [(mo, zo 2 (mF q (f 1) (f 2) (f 3) (f 4) (f 5) (f 6) (f 7) (f 8) (nI (aU A)) (f 19))), (q 11, zc G 0 (zI 46 (vI (aV A))))]) rfl rfl)) 0 rfl rfl rfl rfl rfl (Nat.le_of_ble_eq_true rfl) hl.1 ⟨Nat.le_of_ble_eq_true rfl, Nat.le_of_ble_eq_true rfl⟩ ⟨(Nat.le_of_ble_eq_true rfl), (Nat.le_of_ble_eq_true rfl)⟩ dX2_bury_2) hw (fun _ => z_keep (is := [0, 4]) (cs := [(mo, zo 2 (mF q (f 1) (f 2) (f 3) (f 4) (f 5) (f 6) (f 7) (f 8) (nI (aU A)) (f 19))), (q 11, zc G 0 (zI 46 (vI (aV A))))]) rfl rfl) (fun r u H locs hp hw => ?_)
  obtain rfl : r = bI (isP ((aV A) 1) x) := hp
  refine zb_ne (tgt := 11) hx hb dX2_bury_5 (by decide) (fun c_5 => ?_) (fun c_5 => ?_)
  · skip
    obtain ⟨i, hi, rfl⟩ := c_5
    have hl : lv_has ls 4 [(0, .ref mo), (1, .int (nI i)), (2, .int y)] := hl
    have hp5 := hH.2.1
    have hp9 := hH.1
    refine lv_iload_n hx hb dX2_bury_11 rfl (lv_at hl 2 rfl) ?_
    refine lv_iconst (v := (nI 1)) hx hb dX2_bury_12 zk_1 ?_
    refine lv_bipush (v := (nI 99)) hx hb dX2_bury_13 zb_99 ?_
    refine z_ci (z_runS (As := [.int y, .int (nI 1), .int (nI 99)]) (rest := []) hC zs_X2_59 (m_X2_in_n G l y 1 99 (by decide) (by decide) _) hw rfl rfl (Nat.le_of_ble_eq_true rfl) hl.1 ⟨Nat.le_of_ble_eq_true rfl, Nat.le_of_ble_eq_true rfl⟩ ⟨(Nat.le_of_ble_eq_true rfl), (Nat.le_of_ble_eq_true rfl)⟩ dX2_bury_15) hw (fun _ => List.Perm.refl _) (fun r u H locs hp hw => ?_)
    obtain rfl : r = bI (inR y 1 99) := hp
    refine zb_ne (tgt := 24) hx hb dX2_bury_18 (by decide) (fun c_18 => ?_) (fun c_18 => ?_)
    · skip
      obtain ⟨k, hk1, hk2, rfl⟩ := c_18
      have hl : lv_has ls 4 [(0, .ref mo), (1, .int (nI i)), (2, .int (nI k))] := hl
      refine lv_aload_n hx hb dX2_bury_24 rfl (lv_at hl 0 rfl) ?_
      refine z_get (v := .ref (q 11)) hC zf_X2_19_2 hw 0 rfl rfl dX2_bury_25 ?_
      refine lv_iload_n hx hb dX2_bury_28 rfl (lv_at hl 1 rfl) ?_
      refine z_ci (z_runS (As := [.ref (q 11), .int (nI i)]) (rest := []) hC zs_X2_174 (m_X2_isGone G l (q 11) (aV A) i hH (by omega) (zrem [4] _)) (hw.perm (z_cut (is := [4]) (cells := [(q 11, zc G 0 (zI 46 (vI (aV A))))]) rfl rfl)) rfl rfl (Nat.le_of_ble_eq_true rfl) hl.1 ⟨Nat.le_of_ble_eq_true rfl, Nat.le_of_ble_eq_true rfl⟩ ⟨(Nat.le_of_ble_eq_true rfl), (Nat.le_of_ble_eq_true rfl)⟩ dX2_bury_29) hw (fun _ => z_keep (is := [4]) (cs := [(q 11, zc G 0 (zI 46 (vI (aV A))))]) rfl rfl) (fun r u H locs hp hw => ?_)
      obtain rfl : r = bI (goneN (aV A) i) := hp
      refine zb_eq (tgt := 38) hx hb dX2_bury_32 (by decide) (fun c_32 => ?_) (fun c_32 => ?_)
      · skip
        refine lv_aload_n hx hb dX2_bury_38 rfl (lv_at hl 0 rfl) ?_
        refine z_get (v := .ref (q 11)) hC zf_X2_19_2 hw 0 rfl rfl dX2_bury_39 ?_
        refine lv_iconst (v := (nI 0)) hx hb dX2_bury_42 zk_0 ?_
        refine z_iald (x := (nI ((aV A) 0))) hC hw 4 rfl (by decide) (by decide) rfl dX2_bury_43 ?_
        refine lv_bipush (v := (nI 9)) hx hb dX2_bury_44 zb_9 ?_
        refine zi_ne (tgt := 52) hx hb (by have := hH.2.2.1 0; omega) (by decide) dX2_bury_46 (by decide) (fun c_46 => ?_) (fun c_46 => ?_)
        · skip
          refine lv_aload_n hx hb dX2_bury_52 rfl (lv_at hl 0 rfl) ?_
          refine z_cv (z_runV (As := []) (rest := []) hC zv_X2_200 (m_X2_notes G l mo q (f 1) (f 2) (f 3) (f 4) (f 5) (f 6) (f 7) (f 8) (f 19) (aU A) (aV A) hH (b 13) (aUs A) hU8 hUs (zrem [0, 4, 6] _)) hw (hw.perm (z_cut (is := [0, 4, 6]) (cells := [(mo, zo 2 (mF q (f 1) (f 2) (f 3) (f 4) (f 5) (f 6) (f 7) (f 8) (nI (aU A)) (f 19))), (q 11, zc G 0 (zI 46 (vI (aV A)))), (q 13, zc G 0 (zI 368 (b 13)))]) rfl rfl)) 0 rfl rfl rfl rfl rfl (Nat.le_of_ble_eq_true rfl) hl.1 ⟨Nat.le_of_ble_eq_true rfl, Nat.le_of_ble_eq_true rfl⟩ ⟨(Nat.le_of_ble_eq_true rfl), (Nat.le_of_ble_eq_true rfl)⟩ dX2_bury_53) hw (fun u => z_pput (is := [0, 4, 6]) (cells := [(mo, zo 2 (mF q (f 1) (f 2) (f 3) (f 4) (f 5) (f 6) (f 7) (f 8) (nI (aU A)) (f 19))), (q 11, zc G 0 (zI 46 (vI (aV A)))), (q 13, zc G 0 (zI 368 (b 13)))]) (cells' := [(mo, zo 2 (mF q (f 1) (f 2) (f 3) (f 4) (f 5) (f 6) (f 7) (f 8) (nI (if (aU A) = 8 then 8 else (aU A) + 1)) (f 19))), (q 11, zc G 0 (zI 46 (vI (aV A)))), (q 13, zc G 0 (zI 368 u))]) rfl rfl rfl) (fun u H locs hp hw => ?_)
          obtain ⟨pf1_1, rfl⟩ : ∃ z, z = u := ⟨_, rfl⟩
          have hw : zS G ((mo, zo 2 (mF q (f 1) (f 2) (f 3) (f 4) (f 5) (f 6) (f 7) (f 8) (nI (if (aU A) = 8 then 8 else (aU A) + 1)) (f 19))) :: (q 0, zc G 0 (zI 200 (b 0))) :: (q 9, zc G 0 (zI 46 (b 9))) :: (q 10, zc G 0 (zI 46 (b 10))) :: (q 11, zc G 0 (zI 46 (vI (aV A)))) :: (q 12, zc G 0 (zI 46 (b 12))) :: (q 13, zc G 0 (zI 368 pf1_1)) :: (q 15, zc G 0 (zI 92 (b 15))) :: (q 16, zc G 3 (zI 2 (b 16))) :: (q 17, zc G 0 (zI 5 (b 17))) :: (q 18, zc G 0 (zI 24 (b 18))) :: (q 20, zc G 0 (zI 3 (b 20))) :: (q 21, zc G 0 (zI 3 (b 21))) :: (q 22, zc G 0 (zI 3 (b 22))) :: (q 23, zc G 0 (zI 36 (b 23))) :: (q 24, zc G 0 (zI 36 (b 24))) :: rest) s H locs := hw
          have hnotes := hp
          refine lv_aload_n hx hb dX2_bury_56 rfl (lv_at hl 0 rfl) ?_
          refine z_get (v := .ref (q 11)) hC zf_X2_19_2 hw 0 rfl rfl dX2_bury_57 ?_
          refine lv_iconst (v := (nI 0)) hx hb dX2_bury_60 zk_0 ?_
          refine z_iald (x := (nI ((aV A) 0))) hC hw 4 rfl (by decide) (by decide) rfl dX2_bury_61 ?_
          refine lv_istore_n (lv' := [(3, .int (nI ((aV A) 0))), (0, .ref mo), (1, .int (nI i)), (2, .int (nI k))]) hx hb dX2_bury_62 rfl hl (by decide) rfl (fun ls hl => ?_)
          refine lv_aload_n hx hb dX2_bury_63 rfl (lv_at hl 1 rfl) ?_
          refine z_get (v := .ref (q 11)) hC zf_X2_19_2 hw 0 rfl rfl dX2_bury_64 ?_
          refine lv_iconst (v := (nI 3)) hx hb dX2_bury_67 zk_3 ?_
          refine lv_iconst (v := (nI 2)) hx hb dX2_bury_68 zk_2 ?_
          refine lv_iload_n hx hb dX2_bury_69 rfl (lv_at hl 0 rfl) ?_
          refine zn_imul hx hb dX2_bury_70 ?_
          refine zn_iadd hx hb dX2_bury_71 ?_
          refine lv_aload_n hx hb dX2_bury_72 rfl (lv_at hl 1 rfl) ?_
          refine z_get (v := .ref (q 11)) hC zf_X2_19_2 hw 0 rfl rfl dX2_bury_73 ?_
          refine lv_bipush (v := (nI 21)) hx hb dX2_bury_76 zb_21 ?_
          refine lv_iconst (v := (nI 5)) hx hb dX2_bury_78 zk_5 ?_
          refine lv_iload_n hx hb dX2_bury_79 rfl (lv_at hl 2 rfl) ?_
          refine zn_imul hx hb dX2_bury_80 ?_
          refine zn_iadd hx hb dX2_bury_81 ?_
          refine lv_iconst (v := (nI 1)) hx hb dX2_bury_82 zk_1 ?_
          refine zn_iadd hx hb dX2_bury_83 ?_
          refine z_iald (x := (nI ((aV A) (21 + 5 * i + 1)))) hC hw 4 rfl (by omega) (by decide) rfl dX2_bury_84 ?_
          refine z_iast (f' := vI (updN (aV A) (3 + (2 * ((aV A) 0))) ((aV A) (21 + 5 * i + 1)))) hC hw 4 rfl (by have := hH.2.2.1 0; omega) (by decide) (vI_upd _ _ _) dX2_bury_85 (fun H locs hw => ?_)
          have hw : zS G ((mo, zo 2 (mF q (f 1) (f 2) (f 3) (f 4) (f 5) (f 6) (f 7) (f 8) (nI (if (aU A) = 8 then 8 else (aU A) + 1)) (f 19))) :: (q 0, zc G 0 (zI 200 (b 0))) :: (q 9, zc G 0 (zI 46 (b 9))) :: (q 10, zc G 0 (zI 46 (b 10))) :: (q 11, zc G 0 (zI 46 (vI (updN (aV A) (3 + (2 * ((aV A) 0))) ((aV A) (21 + 5 * i + 1)))))) :: (q 12, zc G 0 (zI 46 (b 12))) :: (q 13, zc G 0 (zI 368 pf1_1)) :: (q 15, zc G 0 (zI 92 (b 15))) :: (q 16, zc G 3 (zI 2 (b 16))) :: (q 17, zc G 0 (zI 5 (b 17))) :: (q 18, zc G 0 (zI 24 (b 18))) :: (q 20, zc G 0 (zI 3 (b 20))) :: (q 21, zc G 0 (zI 3 (b 21))) :: (q 22, zc G 0 (zI 3 (b 22))) :: (q 23, zc G 0 (zI 36 (b 23))) :: (q 24, zc G 0 (zI 36 (b 24))) :: rest) s H locs := hw
          refine lv_aload_n hx hb dX2_bury_86 rfl (lv_at hl 1 rfl) ?_
          refine z_get (v := .ref (q 11)) hC zf_X2_19_2 hw 0 rfl rfl dX2_bury_87 ?_
          refine lv_iconst (v := (nI 3)) hx hb dX2_bury_90 zk_3 ?_
          refine lv_iconst (v := (nI 2)) hx hb dX2_bury_91 zk_2 ?_
          refine lv_iload_n hx hb dX2_bury_92 rfl (lv_at hl 0 rfl) ?_
          refine zn_imul hx hb dX2_bury_93 ?_
          refine zn_iadd hx hb dX2_bury_94 ?_
          refine lv_iconst (v := (nI 1)) hx hb dX2_bury_95 zk_1 ?_
          refine zn_iadd hx hb dX2_bury_96 ?_
          refine lv_iload_n hx hb dX2_bury_97 rfl (lv_at hl 3 rfl) ?_
          refine z_iast (f' := vI (updN (updN (aV A) (3 + (2 * ((aV A) 0))) ((aV A) (21 + 5 * i + 1))) (3 + (2 * ((aV A) 0)) + 1) k)) hC hw 4 rfl (by have := hH.2.2.1 0; omega) (by decide) (vI_upd _ _ _) dX2_bury_98 (fun H locs hw => ?_)
          have hw : zS G ((mo, zo 2 (mF q (f 1) (f 2) (f 3) (f 4) (f 5) (f 6) (f 7) (f 8) (nI (if (aU A) = 8 then 8 else (aU A) + 1)) (f 19))) :: (q 0, zc G 0 (zI 200 (b 0))) :: (q 9, zc G 0 (zI 46 (b 9))) :: (q 10, zc G 0 (zI 46 (b 10))) :: (q 11, zc G 0 (zI 46 (vI (updN (updN (aV A) (3 + (2 * ((aV A) 0))) ((aV A) (21 + 5 * i + 1))) (3 + (2 * ((aV A) 0)) + 1) k)))) :: (q 12, zc G 0 (zI 46 (b 12))) :: (q 13, zc G 0 (zI 368 pf1_1)) :: (q 15, zc G 0 (zI 92 (b 15))) :: (q 16, zc G 3 (zI 2 (b 16))) :: (q 17, zc G 0 (zI 5 (b 17))) :: (q 18, zc G 0 (zI 24 (b 18))) :: (q 20, zc G 0 (zI 3 (b 20))) :: (q 21, zc G 0 (zI 3 (b 21))) :: (q 22, zc G 0 (zI 3 (b 22))) :: (q 23, zc G 0 (zI 36 (b 23))) :: (q 24, zc G 0 (zI 36 (b 24))) :: rest) s H locs := hw
          refine lv_aload_n hx hb dX2_bury_99 rfl (lv_at hl 1 rfl) ?_
          refine z_get (v := .ref (q 11)) hC zf_X2_19_2 hw 0 rfl rfl dX2_bury_100 ?_
          refine lv_bipush (v := (nI 21)) hx hb dX2_bury_103 zb_21 ?_
          refine lv_iconst (v := (nI 5)) hx hb dX2_bury_105 zk_5 ?_
          refine lv_iload_n hx hb dX2_bury_106 rfl (lv_at hl 2 rfl) ?_
          refine zn_imul hx hb dX2_bury_107 ?_
          refine zn_iadd hx hb dX2_bury_108 ?_
          refine lv_iconst (v := (nI 4)) hx hb dX2_bury_109 zk_4 ?_
          refine zn_iadd hx hb dX2_bury_110 ?_
          refine lv_dup2_11 hx hb dX2_bury_111 rfl rfl ?_
          refine z_iald (x := (nI ((aV A) (21 + 5 * i + 4)))) hC hw 4 rfl (by omega) (by decide) (congrArg nI ((updN_ne _ _ (by omega)).trans (updN_ne _ _ (by omega)))) dX2_bury_112 ?_
          refine lv_iconst (v := (nI 1)) hx hb dX2_bury_113 zk_1 ?_
          refine lv_iload_n hx hb dX2_bury_114 rfl (lv_at hl 0 rfl) ?_
          refine zv_ishl (v := (nI (2 ^ ((aV A) 0)))) hx hb (nI_shl1 (by have := hH.2.2.1 0; omega)) dX2_bury_115 ?_
          refine zv_ior (v := (nI (((aV A) (21 + 5 * i + 4)) ||| (2 ^ ((aV A) 0))))) hx hb (nI_or _ _) dX2_bury_116 ?_
          refine z_iast (f' := vI (updN (updN (updN (aV A) (3 + (2 * ((aV A) 0))) ((aV A) (21 + 5 * i + 1))) (3 + (2 * ((aV A) 0)) + 1) k) (21 + 5 * i + 4) (((aV A) (21 + 5 * i + 4)) ||| (2 ^ ((aV A) 0))))) hC hw 4 rfl (by omega) (by decide) (vI_upd _ _ _) dX2_bury_117 (fun H locs hw => ?_)
          have hw : zS G ((mo, zo 2 (mF q (f 1) (f 2) (f 3) (f 4) (f 5) (f 6) (f 7) (f 8) (nI (if (aU A) = 8 then 8 else (aU A) + 1)) (f 19))) :: (q 0, zc G 0 (zI 200 (b 0))) :: (q 9, zc G 0 (zI 46 (b 9))) :: (q 10, zc G 0 (zI 46 (b 10))) :: (q 11, zc G 0 (zI 46 (vI (updN (updN (updN (aV A) (3 + (2 * ((aV A) 0))) ((aV A) (21 + 5 * i + 1))) (3 + (2 * ((aV A) 0)) + 1) k) (21 + 5 * i + 4) (((aV A) (21 + 5 * i + 4)) ||| (2 ^ ((aV A) 0))))))) :: (q 12, zc G 0 (zI 46 (b 12))) :: (q 13, zc G 0 (zI 368 pf1_1)) :: (q 15, zc G 0 (zI 92 (b 15))) :: (q 16, zc G 3 (zI 2 (b 16))) :: (q 17, zc G 0 (zI 5 (b 17))) :: (q 18, zc G 0 (zI 24 (b 18))) :: (q 20, zc G 0 (zI 3 (b 20))) :: (q 21, zc G 0 (zI 3 (b 21))) :: (q 22, zc G 0 (zI 3 (b 22))) :: (q 23, zc G 0 (zI 36 (b 23))) :: (q 24, zc G 0 (zI 36 (b 24))) :: rest) s H locs := hw
          refine lv_aload_n hx hb dX2_bury_118 rfl (lv_at hl 1 rfl) ?_
          refine z_get (v := .ref (q 11)) hC zf_X2_19_2 hw 0 rfl rfl dX2_bury_119 ?_
          refine lv_iconst (v := (nI 0)) hx hb dX2_bury_122 zk_0 ?_
          refine lv_dup2_11 hx hb dX2_bury_123 rfl rfl ?_
          refine z_iald (x := (nI ((aV A) 0))) hC hw 4 rfl (by decide) (by decide) (congrArg nI ((updN_ne _ _ (by omega)).trans ((updN_ne _ _ (by omega)).trans (updN_ne _ _ (by omega))))) dX2_bury_124 ?_
          refine lv_iconst (v := (nI 1)) hx hb dX2_bury_125 zk_1 ?_
          refine zn_iadd hx hb dX2_bury_126 ?_
          refine z_iast (f' := vI (updN (updN (updN (updN (aV A) (3 + (2 * ((aV A) 0))) ((aV A) (21 + 5 * i + 1))) (3 + (2 * ((aV A) 0)) + 1) k) (21 + 5 * i + 4) (((aV A) (21 + 5 * i + 4)) ||| (2 ^ ((aV A) 0)))) 0 ((aV A) 0 + 1))) hC hw 4 rfl (by decide) (by decide) (vI_upd _ _ _) dX2_bury_127 (fun H locs hw => ?_)
          have hw : zS G ((mo, zo 2 (mF q (f 1) (f 2) (f 3) (f 4) (f 5) (f 6) (f 7) (f 8) (nI (if (aU A) = 8 then 8 else (aU A) + 1)) (f 19))) :: (q 0, zc G 0 (zI 200 (b 0))) :: (q 9, zc G 0 (zI 46 (b 9))) :: (q 10, zc G 0 (zI 46 (b 10))) :: (q 11, zc G 0 (zI 46 (vI (updN (updN (updN (updN (aV A) (3 + (2 * ((aV A) 0))) ((aV A) (21 + 5 * i + 1))) (3 + (2 * ((aV A) 0)) + 1) k) (21 + 5 * i + 4) (((aV A) (21 + 5 * i + 4)) ||| (2 ^ ((aV A) 0)))) 0 ((aV A) 0 + 1))))) :: (q 12, zc G 0 (zI 46 (b 12))) :: (q 13, zc G 0 (zI 368 pf1_1)) :: (q 15, zc G 0 (zI 92 (b 15))) :: (q 16, zc G 3 (zI 2 (b 16))) :: (q 17, zc G 0 (zI 5 (b 17))) :: (q 18, zc G 0 (zI 24 (b 18))) :: (q 20, zc G 0 (zI 3 (b 20))) :: (q 21, zc G 0 (zI 3 (b 21))) :: (q 22, zc G 0 (zI 3 (b 22))) :: (q 23, zc G 0 (zI 36 (b 23))) :: (q 24, zc G 0 (zI 36 (b 24))) :: rest) s H locs := hw
          refine lv_iload_n hx hb dX2_bury_128 rfl (lv_at hl 0 rfl) ?_
          exact hend _ _ _ _ _ _ _ ((bU (bU b 11 (vI (updN (updN (updN (updN (aV A) (3 + (2 * ((aV A) 0))) ((aV A) (21 + 5 * i + 1))) (3 + (2 * ((aV A) 0)) + 1) k) (21 + 5 * i + 4) (((aV A) (21 + 5 * i + 4)) ||| (2 ^ ((aV A) 0)))) 0 ((aV A) 0 + 1)))) 13 pf1_1), mf (f 1) (f 2) (f 3) (f 4) (f 5) (f 6) (f 7) (f 8) (nI (if (aU A) = 8 then 8 else (aU A) + 1)) (f 19)) hw (by rw [show F_bury A (nI i) (nI k) = (nI (aV A 0), sV (noteA A) (buryN (aV A) i k)) from (ifP_t ⟨i, hi, rfl⟩).trans ((ifP_t ⟨k, hk1, hk2, rfl⟩).trans (by rw [cl_nI (by omega), cl_nI (by omega), ifP_f c_32, if_neg c_46]))]; exact ⟨rfl, ⟨⟨hT, hL⟩, hV0, rH_vI, ⟨rfl, hnotes⟩, hKp, ⟨hSi, hSg⟩, (fun t ht => tRel_of rfl rfl rfl rfl rfl (hTr t ht))⟩⟩) (by omega) (by omega) dX2_bury_129
        · skip
          refine lv_bipush (v := (-5)) hx hb dX2_bury_49 zb_m5 ?_
          exact hend _ _ _ _ _ _ _ ((bU b 11 (vI (aV A))), mf (f 1) (f 2) (f 3) (f 4) (f 5) (f 6) (f 7) (f 8) (nI (aU A)) (f 19)) hw (by rw [show F_bury A (nI i) (nI k) = (-5, A) from (ifP_t ⟨i, hi, rfl⟩).trans ((ifP_t ⟨k, hk1, hk2, rfl⟩).trans (by rw [cl_nI (by omega), ifP_f c_32, if_pos c_46]))]; exact ⟨rfl, ⟨⟨hT, hL⟩, hV0, rH_vI, ⟨rfl, hUs⟩, hKp, ⟨hSi, hSg⟩, (fun t ht => tRel_of rfl rfl rfl rfl rfl (hTr t ht))⟩⟩) (by omega) (by omega) dX2_bury_51
      · skip
        refine lv_bipush (v := (-4)) hx hb dX2_bury_35 zb_m4 ?_
        exact hend _ _ _ _ _ _ _ ((bU b 11 (vI (aV A))), mf (f 1) (f 2) (f 3) (f 4) (f 5) (f 6) (f 7) (f 8) (nI (aU A)) (f 19)) hw (by rw [show F_bury A (nI i) (nI k) = (-4, A) from (ifP_t ⟨i, hi, rfl⟩).trans ((ifP_t ⟨k, hk1, hk2, rfl⟩).trans (by rw [cl_nI (by omega), ifP_t c_32]))]; exact ⟨rfl, ⟨⟨hT, hL⟩, hV0, rH_vI, ⟨rfl, hUs⟩, hKp, ⟨hSi, hSg⟩, (fun t ht => tRel_of rfl rfl rfl rfl rfl (hTr t ht))⟩⟩) (by omega) (by omega) dX2_bury_37
    · skip
      refine lv_bipush (v := (-3)) hx hb dX2_bury_21 zb_m3 ?_
      exact hend _ _ _ _ _ _ _ ((bU b 11 (vI (aV A))), mf (f 1) (f 2) (f 3) (f 4) (f 5) (f 6) (f 7) (f 8) (nI (aU A)) (f 19)) hw (by rw [show F_bury A (nI i) y = _ from (ifP_t ⟨i, hi, rfl⟩).trans (ifP_f c_18)]; exact ⟨rfl, ⟨⟨hT, hL⟩, hV0, rH_vI, ⟨rfl, hUs⟩, hKp, ⟨hSi, hSg⟩, (fun t ht => tRel_of rfl rfl rfl rfl rfl (hTr t ht))⟩⟩) (by omega) (by omega) dX2_bury_23
  · skip
    refine lv_bipush (v := (-2)) hx hb dX2_bury_8 zb_m2 ?_
    exact hend _ _ _ _ _ _ _ ((bU b 11 (vI (aV A))), mf (f 1) (f 2) (f 3) (f 4) (f 5) (f 6) (f 7) (f 8) (nI (aU A)) (f 19)) hw (by rw [show F_bury A x y = _ from ifP_f c_5]; exact ⟨rfl, ⟨⟨hT, hL⟩, hV0, rH_vI, ⟨rfl, hUs⟩, hKp, ⟨hSi, hSg⟩, (fun t ht => tRel_of rfl rfl rfl rfl rfl (hTr t ht))⟩⟩) (by omega) (by omega) dX2_bury_10
set_option maxHeartbeats 4000000 in
theorem m_X2_raid (G : zE) (l : Launch) (mo : Nat) (q : Nat → Nat) (A : AS) (b : Nat → Nat → Int32) (f : Nat → Int32) (hA : AOk A) (hM : MRel A b f) (x : Int32) (y : Int32) (rest : va_W) : zMi G l yX2_raid cX2_raid 3 (some .int) 2 0 0 [.ref mo, .int x, .int y] ((mo, zo 2 (mF q (f 1) (f 2) (f 3) (f 4) (f 5) (f 6) (f 7) (f 8) (f 14) (f 19))) :: (q 0, zc G 0 (zI 200 (b 0))) :: (q 9, zc G 0 (zI 46 (b 9))) :: (q 10, zc G 0 (zI 46 (b 10))) :: (q 11, zc G 0 (zI 46 (b 11))) :: (q 12, zc G 0 (zI 46 (b 12))) :: (q 13, zc G 0 (zI 368 (b 13))) :: (q 15, zc G 0 (zI 92 (b 15))) :: (q 16, zc G 3 (zI 2 (b 16))) :: (q 17, zc G 0 (zI 5 (b 17))) :: (q 18, zc G 0 (zI 24 (b 18))) :: (q 20, zc G 0 (zI 3 (b 20))) :: (q 21, zc G 0 (zI 3 (b 21))) :: (q 22, zc G 0 (zI 3 (b 22))) :: (q 23, zc G 0 (zI 36 (b 23))) :: (q 24, zc G 0 (zI 36 (b 24))) :: rest) (fun (r : Int32) (u : MB) => r = (F_raid A x y).1 ∧ MRel (F_raid A x y).2 u.1 u.2) (fun (u : MB) => (mo, zo 2 (mF q (u.2 1) (u.2 2) (u.2 3) (u.2 4) (u.2 5) (u.2 6) (u.2 7) (u.2 8) (u.2 14) (u.2 19))) :: (q 0, zc G 0 (zI 200 (u.1 0))) :: (q 9, zc G 0 (zI 46 (u.1 9))) :: (q 10, zc G 0 (zI 46 (u.1 10))) :: (q 11, zc G 0 (zI 46 (u.1 11))) :: (q 12, zc G 0 (zI 46 (u.1 12))) :: (q 13, zc G 0 (zI 368 (u.1 13))) :: (q 15, zc G 0 (zI 92 (u.1 15))) :: (q 16, zc G 3 (zI 2 (u.1 16))) :: (q 17, zc G 0 (zI 5 (u.1 17))) :: (q 18, zc G 0 (zI 24 (u.1 18))) :: (q 20, zc G 0 (zI 3 (u.1 20))) :: (q 21, zc G 0 (zI 3 (u.1 21))) :: (q 22, zc G 0 (zI 3 (u.1 22))) :: (q 23, zc G 0 (zI 36 (u.1 23))) :: (q 24, zc G 0 (zI 36 (u.1 24))) :: rest) := by
  refine z_begI (by decide) (Nat.le_of_ble_eq_true rfl) (fun p e s m args below meth c ls Q hC hl hw hend => ?_)
  have hx := hC.hx
  have hb := hC.hb
  have hl : lv_has ls 3 [(0, .ref mo), (1, .int x), (2, .int y)] := hl
  have hw : zS G ((mo, zo 2 (mF q (f 1) (f 2) (f 3) (f 4) (f 5) (f 6) (f 7) (f 8) (f 14) (f 19))) :: (q 0, zc G 0 (zI 200 (b 0))) :: (q 9, zc G 0 (zI 46 (b 9))) :: (q 10, zc G 0 (zI 46 (b 10))) :: (q 11, zc G 0 (zI 46 (b 11))) :: (q 12, zc G 0 (zI 46 (b 12))) :: (q 13, zc G 0 (zI 368 (b 13))) :: (q 15, zc G 0 (zI 92 (b 15))) :: (q 16, zc G 3 (zI 2 (b 16))) :: (q 17, zc G 0 (zI 5 (b 17))) :: (q 18, zc G 0 (zI 24 (b 18))) :: (q 20, zc G 0 (zI 3 (b 20))) :: (q 21, zc G 0 (zI 3 (b 21))) :: (q 22, zc G 0 (zI 3 (b 22))) :: (q 23, zc G 0 (zI 36 (b 23))) :: (q 24, zc G 0 (zI 36 (b 24))) :: rest) s s.heap [] := hw
  have hA9 := hA
  obtain ⟨⟨hT, hL⟩, hV0, hV, ⟨hU, hUs⟩, hKp, ⟨hSi, hSg⟩, hTr⟩ := hM
  obtain ⟨⟨hL2, hT2⟩, hB0, hBv, ⟨hU8, hUb⟩, hKb, ⟨hS6, hSb⟩, hTb⟩ := hA
  have hH : Hw (aV A) := hBv.1.1
  have hday := hBv.2.2
  have hw := hw.cellI 4 rfl (g := vI (aV A)) (fun j hj => by have := hV j hj; rwa [Nat.zero_add] at this)
  have hw := hw.tail (c' := (mo, zo 2 (mF q (f 1) (f 2) (f 3) (f 4) (f 5) (f 6) (f 7) (f 8) (nI (aU A)) (f 19)))) (by rw [hU])
  have hw : zS G ((mo, zo 2 (mF q (f 1) (f 2) (f 3) (f 4) (f 5) (f 6) (f 7) (f 8) (nI (aU A)) (f 19))) :: (q 0, zc G 0 (zI 200 (b 0))) :: (q 9, zc G 0 (zI 46 (b 9))) :: (q 10, zc G 0 (zI 46 (b 10))) :: (q 11, zc G 0 (zI 46 (vI (aV A)))) :: (q 12, zc G 0 (zI 46 (b 12))) :: (q 13, zc G 0 (zI 368 (b 13))) :: (q 15, zc G 0 (zI 92 (b 15))) :: (q 16, zc G 3 (zI 2 (b 16))) :: (q 17, zc G 0 (zI 5 (b 17))) :: (q 18, zc G 0 (zI 24 (b 18))) :: (q 20, zc G 0 (zI 3 (b 20))) :: (q 21, zc G 0 (zI 3 (b 21))) :: (q 22, zc G 0 (zI 3 (b 22))) :: (q 23, zc G 0 (zI 36 (b 23))) :: (q 24, zc G 0 (zI 36 (b 24))) :: rest) s s.heap [] := hw
  refine lv_aload_n hx hb dX2_raid_0 rfl (lv_at hl 0 rfl) ?_
  refine lv_iload_n hx hb dX2_raid_1 rfl (lv_at hl 1 rfl) ?_
  refine z_ci (z_runV (As := [.int x]) (rest := []) hC zv_X2_188 (m_X2_isPit G l mo q (f 1) (f 2) (f 3) (f 4) (f 5) (f 6) (f 7) (f 8) (nI (aU A)) (f 19) x (aV A) (by first | assumption | (omega)) (zrem [0, 4] _)) hw (hw.perm (z_cut (is := [0, 4]) (cells := [(mo, zo 2 (mF q (f 1) (f 2) (f 3) (f 4) (f 5) (f 6) (f 7) (f 8) (nI (aU A)) (f 19))), (q 11, zc G 0 (zI 46 (vI (aV A))))]) rfl rfl)) 0 rfl rfl rfl rfl rfl (Nat.le_of_ble_eq_true rfl) hl.1 ⟨Nat.le_of_ble_eq_true rfl, Nat.le_of_ble_eq_true rfl⟩ ⟨(Nat.le_of_ble_eq_true rfl), (Nat.le_of_ble_eq_true rfl)⟩ dX2_raid_2) hw (fun _ => z_keep (is := [0, 4]) (cs := [(mo, zo 2 (mF q (f 1) (f 2) (f 3) (f 4) (f 5) (f 6) (f 7) (f 8) (nI (aU A)) (f 19))), (q 11, zc G 0 (zI 46 (vI (aV A))))]) rfl rfl) (fun r u H locs hp hw => ?_)
  obtain rfl : r = bI (isP ((aV A) 0) x) := hp
  refine zb_ne (tgt := 11) hx hb dX2_raid_5 (by decide) (fun c_5 => ?_) (fun c_5 => ?_)
  · skip
    obtain ⟨t, ht, rfl⟩ := c_5
    have hl : lv_has ls 3 [(0, .ref mo), (1, .int (nI t)), (2, .int y)] := hl
    have hp9 := hH.1
    refine lv_iload_n hx hb dX2_raid_11 rfl (lv_at hl 2 rfl) ?_
    refine lv_iconst (v := (nI 1)) hx hb dX2_raid_12 zk_1 ?_
    refine lv_bipush (v := (nI 99)) hx hb dX2_raid_13 zb_99 ?_
    refine z_ci (z_runS (As := [.int y, .int (nI 1), .int (nI 99)]) (rest := []) hC zs_X2_59 (m_X2_in_n G l y 1 99 (by decide) (by decide) _) hw rfl rfl (Nat.le_of_ble_eq_true rfl) hl.1 ⟨Nat.le_of_ble_eq_true rfl, Nat.le_of_ble_eq_true rfl⟩ ⟨(Nat.le_of_ble_eq_true rfl), (Nat.le_of_ble_eq_true rfl)⟩ dX2_raid_15) hw (fun _ => List.Perm.refl _) (fun r u H locs hp hw => ?_)
    obtain rfl : r = bI (inR y 1 99) := hp
    refine zb_ne (tgt := 24) hx hb dX2_raid_18 (by decide) (fun c_18 => ?_) (fun c_18 => ?_)
    · skip
      obtain ⟨k, hk1, hk2, rfl⟩ := c_18
      have hl : lv_has ls 3 [(0, .ref mo), (1, .int (nI t)), (2, .int (nI k))] := hl
      refine lv_aload_n hx hb dX2_raid_24 rfl (lv_at hl 0 rfl) ?_
      refine z_get (v := .ref (q 11)) hC zf_X2_19_2 hw 0 rfl rfl dX2_raid_25 ?_
      refine lv_iconst (v := (nI 3)) hx hb dX2_raid_28 zk_3 ?_
      refine lv_iconst (v := (nI 2)) hx hb dX2_raid_29 zk_2 ?_
      refine lv_iload_n hx hb dX2_raid_30 rfl (lv_at hl 1 rfl) ?_
      refine zn_imul hx hb dX2_raid_31 ?_
      refine zn_iadd hx hb dX2_raid_32 ?_
      refine lv_iconst (v := (nI 1)) hx hb dX2_raid_33 zk_1 ?_
      refine zn_iadd hx hb dX2_raid_34 ?_
      refine z_iald (x := (nI ((aV A) (3 + 2 * t + 1)))) hC hw 4 rfl (by omega) (by decide) rfl dX2_raid_35 ?_
      refine lv_iload_n hx hb dX2_raid_36 rfl (lv_at hl 2 rfl) ?_
      refine zi_ge (tgt := 43) hx hb (by have := hH.2.2.1 (3 + 2 * t + 1); omega) (by omega) dX2_raid_37 (by decide) (fun c_37 => ?_) (fun c_37 => ?_)
      · skip
        refine lv_aload_n hx hb dX2_raid_43 rfl (lv_at hl 0 rfl) ?_
        refine z_cv (z_runV (As := []) (rest := []) hC zv_X2_200 (m_X2_notes G l mo q (f 1) (f 2) (f 3) (f 4) (f 5) (f 6) (f 7) (f 8) (f 19) (aU A) (aV A) hH (b 13) (aUs A) hU8 hUs (zrem [0, 4, 6] _)) hw (hw.perm (z_cut (is := [0, 4, 6]) (cells := [(mo, zo 2 (mF q (f 1) (f 2) (f 3) (f 4) (f 5) (f 6) (f 7) (f 8) (nI (aU A)) (f 19))), (q 11, zc G 0 (zI 46 (vI (aV A)))), (q 13, zc G 0 (zI 368 (b 13)))]) rfl rfl)) 0 rfl rfl rfl rfl rfl (Nat.le_of_ble_eq_true rfl) hl.1 ⟨Nat.le_of_ble_eq_true rfl, Nat.le_of_ble_eq_true rfl⟩ ⟨(Nat.le_of_ble_eq_true rfl), (Nat.le_of_ble_eq_true rfl)⟩ dX2_raid_44) hw (fun u => z_pput (is := [0, 4, 6]) (cells := [(mo, zo 2 (mF q (f 1) (f 2) (f 3) (f 4) (f 5) (f 6) (f 7) (f 8) (nI (aU A)) (f 19))), (q 11, zc G 0 (zI 46 (vI (aV A)))), (q 13, zc G 0 (zI 368 (b 13)))]) (cells' := [(mo, zo 2 (mF q (f 1) (f 2) (f 3) (f 4) (f 5) (f 6) (f 7) (f 8) (nI (if (aU A) = 8 then 8 else (aU A) + 1)) (f 19))), (q 11, zc G 0 (zI 46 (vI (aV A)))), (q 13, zc G 0 (zI 368 u))]) rfl rfl rfl) (fun u H locs hp hw => ?_)
        obtain ⟨pf1_1, rfl⟩ : ∃ z, z = u := ⟨_, rfl⟩
        have hw : zS G ((mo, zo 2 (mF q (f 1) (f 2) (f 3) (f 4) (f 5) (f 6) (f 7) (f 8) (nI (if (aU A) = 8 then 8 else (aU A) + 1)) (f 19))) :: (q 0, zc G 0 (zI 200 (b 0))) :: (q 9, zc G 0 (zI 46 (b 9))) :: (q 10, zc G 0 (zI 46 (b 10))) :: (q 11, zc G 0 (zI 46 (vI (aV A)))) :: (q 12, zc G 0 (zI 46 (b 12))) :: (q 13, zc G 0 (zI 368 pf1_1)) :: (q 15, zc G 0 (zI 92 (b 15))) :: (q 16, zc G 3 (zI 2 (b 16))) :: (q 17, zc G 0 (zI 5 (b 17))) :: (q 18, zc G 0 (zI 24 (b 18))) :: (q 20, zc G 0 (zI 3 (b 20))) :: (q 21, zc G 0 (zI 3 (b 21))) :: (q 22, zc G 0 (zI 3 (b 22))) :: (q 23, zc G 0 (zI 36 (b 23))) :: (q 24, zc G 0 (zI 36 (b 24))) :: rest) s H locs := hw
        have hnotes := hp
        refine lv_aload_n hx hb dX2_raid_47 rfl (lv_at hl 0 rfl) ?_
        refine z_get (v := .ref (q 11)) hC zf_X2_19_2 hw 0 rfl rfl dX2_raid_48 ?_
        refine lv_iconst (v := (nI 3)) hx hb dX2_raid_51 zk_3 ?_
        refine lv_iconst (v := (nI 2)) hx hb dX2_raid_52 zk_2 ?_
        refine lv_iload_n hx hb dX2_raid_53 rfl (lv_at hl 1 rfl) ?_
        refine zn_imul hx hb dX2_raid_54 ?_
        refine zn_iadd hx hb dX2_raid_55 ?_
        refine lv_iconst (v := (nI 1)) hx hb dX2_raid_56 zk_1 ?_
        refine zn_iadd hx hb dX2_raid_57 ?_
        refine lv_dup2_11 hx hb dX2_raid_58 rfl rfl ?_
        refine z_iald (x := (nI ((aV A) (3 + 2 * t + 1)))) hC hw 4 rfl (by omega) (by decide) rfl dX2_raid_59 ?_
        refine lv_iload_n hx hb dX2_raid_60 rfl (lv_at hl 2 rfl) ?_
        refine zn_isub hx hb (by have := hH.2.2.1 (3 + 2 * t + 1); omega) dX2_raid_61 ?_
        refine z_iast (f' := vI (updN (aV A) (3 + 2 * t + 1) (((aV A) (3 + 2 * t + 1)) - k))) hC hw 4 rfl (by omega) (by decide) (vI_upd _ _ _) dX2_raid_62 (fun H locs hw => ?_)
        have hw : zS G ((mo, zo 2 (mF q (f 1) (f 2) (f 3) (f 4) (f 5) (f 6) (f 7) (f 8) (nI (if (aU A) = 8 then 8 else (aU A) + 1)) (f 19))) :: (q 0, zc G 0 (zI 200 (b 0))) :: (q 9, zc G 0 (zI 46 (b 9))) :: (q 10, zc G 0 (zI 46 (b 10))) :: (q 11, zc G 0 (zI 46 (vI (updN (aV A) (3 + 2 * t + 1) (((aV A) (3 + 2 * t + 1)) - k))))) :: (q 12, zc G 0 (zI 46 (b 12))) :: (q 13, zc G 0 (zI 368 pf1_1)) :: (q 15, zc G 0 (zI 92 (b 15))) :: (q 16, zc G 3 (zI 2 (b 16))) :: (q 17, zc G 0 (zI 5 (b 17))) :: (q 18, zc G 0 (zI 24 (b 18))) :: (q 20, zc G 0 (zI 3 (b 20))) :: (q 21, zc G 0 (zI 3 (b 21))) :: (q 22, zc G 0 (zI 3 (b 22))) :: (q 23, zc G 0 (zI 36 (b 23))) :: (q 24, zc G 0 (zI 36 (b 24))) :: rest) s H locs := hw
        refine lv_aload_n hx hb dX2_raid_63 rfl (lv_at hl 0 rfl) ?_
        refine z_get (v := .ref (q 11)) hC zf_X2_19_2 hw 0 rfl rfl dX2_raid_64 ?_
        refine lv_iconst (v := (nI 3)) hx hb dX2_raid_67 zk_3 ?_
        refine lv_iconst (v := (nI 2)) hx hb dX2_raid_68 zk_2 ?_
        refine lv_iload_n hx hb dX2_raid_69 rfl (lv_at hl 1 rfl) ?_
        refine zn_imul hx hb dX2_raid_70 ?_
        refine zn_iadd hx hb dX2_raid_71 ?_
        refine lv_iconst (v := (nI 1)) hx hb dX2_raid_72 zk_1 ?_
        refine zn_iadd hx hb dX2_raid_73 ?_
        refine z_iald (x := (nI ((aV A) (3 + 2 * t + 1) - k))) hC hw 4 rfl (by omega) (by decide) (congrArg nI (updN_same _ _ _)) dX2_raid_74 ?_
        exact hend _ _ _ _ _ _ _ ((bU (bU b 11 (vI (updN (aV A) (3 + 2 * t + 1) (((aV A) (3 + 2 * t + 1)) - k)))) 13 pf1_1), mf (f 1) (f 2) (f 3) (f 4) (f 5) (f 6) (f 7) (f 8) (nI (if (aU A) = 8 then 8 else (aU A) + 1)) (f 19)) hw (by rw [show F_raid A (nI t) (nI k) = (nI (aV A (3 + 2 * t + 1) - k), sV (noteA A) (updN (aV A) (3 + 2 * t + 1) (aV A (3 + 2 * t + 1) - k))) from (ifP_t ⟨t, ht, rfl⟩).trans ((ifP_t ⟨k, hk1, hk2, rfl⟩).trans (by rw [cl_nI (by omega), cl_nI (by omega), if_neg (by omega)]))]; exact ⟨rfl, ⟨⟨hT, hL⟩, hV0, rH_vI, ⟨rfl, hnotes⟩, hKp, ⟨hSi, hSg⟩, (fun t ht => tRel_of rfl rfl rfl rfl rfl (hTr t ht))⟩⟩) (by omega) (by omega) dX2_raid_75
      · skip
        refine lv_bipush (v := (-4)) hx hb dX2_raid_40 zb_m4 ?_
        exact hend _ _ _ _ _ _ _ ((bU b 11 (vI (aV A))), mf (f 1) (f 2) (f 3) (f 4) (f 5) (f 6) (f 7) (f 8) (nI (aU A)) (f 19)) hw (by rw [show F_raid A (nI t) (nI k) = (-4, A) from (ifP_t ⟨t, ht, rfl⟩).trans ((ifP_t ⟨k, hk1, hk2, rfl⟩).trans (by rw [cl_nI (by omega), cl_nI (by omega), if_pos (by omega)]))]; exact ⟨rfl, ⟨⟨hT, hL⟩, hV0, rH_vI, ⟨rfl, hUs⟩, hKp, ⟨hSi, hSg⟩, (fun t ht => tRel_of rfl rfl rfl rfl rfl (hTr t ht))⟩⟩) (by omega) (by omega) dX2_raid_42
    · skip
      refine lv_bipush (v := (-3)) hx hb dX2_raid_21 zb_m3 ?_
      exact hend _ _ _ _ _ _ _ ((bU b 11 (vI (aV A))), mf (f 1) (f 2) (f 3) (f 4) (f 5) (f 6) (f 7) (f 8) (nI (aU A)) (f 19)) hw (by rw [show F_raid A (nI t) y = _ from (ifP_t ⟨t, ht, rfl⟩).trans (ifP_f c_18)]; exact ⟨rfl, ⟨⟨hT, hL⟩, hV0, rH_vI, ⟨rfl, hUs⟩, hKp, ⟨hSi, hSg⟩, (fun t ht => tRel_of rfl rfl rfl rfl rfl (hTr t ht))⟩⟩) (by omega) (by omega) dX2_raid_23
  · skip
    refine lv_bipush (v := (-2)) hx hb dX2_raid_8 zb_m2 ?_
    exact hend _ _ _ _ _ _ _ ((bU b 11 (vI (aV A))), mf (f 1) (f 2) (f 3) (f 4) (f 5) (f 6) (f 7) (f 8) (nI (aU A)) (f 19)) hw (by rw [show F_raid A x y = _ from ifP_f c_5]; exact ⟨rfl, ⟨⟨hT, hL⟩, hV0, rH_vI, ⟨rfl, hUs⟩, hKp, ⟨hSi, hSg⟩, (fun t ht => tRel_of rfl rfl rfl rfl rfl (hTr t ht))⟩⟩) (by omega) (by omega) dX2_raid_10
set_option maxHeartbeats 4000000 in
theorem m_X2_tell (G : zE) (l : Launch) (mo : Nat) (q : Nat → Nat) (A : AS) (b : Nat → Nat → Int32) (f : Nat → Int32) (hA : AOk A) (hM : MRel A b f) (x : Int32) (y : Int32) (rest : va_W) : zMi G l yX2_tell cX2_tell 4 (some .int) 2 0 0 [.ref mo, .int x, .int y] ((mo, zo 2 (mF q (f 1) (f 2) (f 3) (f 4) (f 5) (f 6) (f 7) (f 8) (f 14) (f 19))) :: (q 0, zc G 0 (zI 200 (b 0))) :: (q 9, zc G 0 (zI 46 (b 9))) :: (q 10, zc G 0 (zI 46 (b 10))) :: (q 11, zc G 0 (zI 46 (b 11))) :: (q 12, zc G 0 (zI 46 (b 12))) :: (q 13, zc G 0 (zI 368 (b 13))) :: (q 15, zc G 0 (zI 92 (b 15))) :: (q 16, zc G 3 (zI 2 (b 16))) :: (q 17, zc G 0 (zI 5 (b 17))) :: (q 18, zc G 0 (zI 24 (b 18))) :: (q 20, zc G 0 (zI 3 (b 20))) :: (q 21, zc G 0 (zI 3 (b 21))) :: (q 22, zc G 0 (zI 3 (b 22))) :: (q 23, zc G 0 (zI 36 (b 23))) :: (q 24, zc G 0 (zI 36 (b 24))) :: rest) (fun (r : Int32) (u : MB) => r = (F_tell A x y).1 ∧ MRel (F_tell A x y).2 u.1 u.2) (fun (u : MB) => (mo, zo 2 (mF q (u.2 1) (u.2 2) (u.2 3) (u.2 4) (u.2 5) (u.2 6) (u.2 7) (u.2 8) (u.2 14) (u.2 19))) :: (q 0, zc G 0 (zI 200 (u.1 0))) :: (q 9, zc G 0 (zI 46 (u.1 9))) :: (q 10, zc G 0 (zI 46 (u.1 10))) :: (q 11, zc G 0 (zI 46 (u.1 11))) :: (q 12, zc G 0 (zI 46 (u.1 12))) :: (q 13, zc G 0 (zI 368 (u.1 13))) :: (q 15, zc G 0 (zI 92 (u.1 15))) :: (q 16, zc G 3 (zI 2 (u.1 16))) :: (q 17, zc G 0 (zI 5 (u.1 17))) :: (q 18, zc G 0 (zI 24 (u.1 18))) :: (q 20, zc G 0 (zI 3 (u.1 20))) :: (q 21, zc G 0 (zI 3 (u.1 21))) :: (q 22, zc G 0 (zI 3 (u.1 22))) :: (q 23, zc G 0 (zI 36 (u.1 23))) :: (q 24, zc G 0 (zI 36 (u.1 24))) :: rest) := by
  refine z_begI (by decide) (Nat.le_of_ble_eq_true rfl) (fun p e s m args below meth c ls Q hC hl hw hend => ?_)
  have hx := hC.hx
  have hb := hC.hb
  have hl : lv_has ls 4 [(0, .ref mo), (1, .int x), (2, .int y)] := hl
  have hw : zS G ((mo, zo 2 (mF q (f 1) (f 2) (f 3) (f 4) (f 5) (f 6) (f 7) (f 8) (f 14) (f 19))) :: (q 0, zc G 0 (zI 200 (b 0))) :: (q 9, zc G 0 (zI 46 (b 9))) :: (q 10, zc G 0 (zI 46 (b 10))) :: (q 11, zc G 0 (zI 46 (b 11))) :: (q 12, zc G 0 (zI 46 (b 12))) :: (q 13, zc G 0 (zI 368 (b 13))) :: (q 15, zc G 0 (zI 92 (b 15))) :: (q 16, zc G 3 (zI 2 (b 16))) :: (q 17, zc G 0 (zI 5 (b 17))) :: (q 18, zc G 0 (zI 24 (b 18))) :: (q 20, zc G 0 (zI 3 (b 20))) :: (q 21, zc G 0 (zI 3 (b 21))) :: (q 22, zc G 0 (zI 3 (b 22))) :: (q 23, zc G 0 (zI 36 (b 23))) :: (q 24, zc G 0 (zI 36 (b 24))) :: rest) s s.heap [] := hw
  have hA9 := hA
  obtain ⟨⟨hT, hL⟩, hV0, hV, ⟨hU, hUs⟩, hKp, ⟨hSi, hSg⟩, hTr⟩ := hM
  obtain ⟨⟨hL2, hT2⟩, hB0, hBv, ⟨hU8, hUb⟩, hKb, ⟨hS6, hSb⟩, hTb⟩ := hA
  have hH : Hw (aV A) := hBv.1.1
  have hday := hBv.2.2
  have hw := hw.cellI 4 rfl (g := vI (aV A)) (fun j hj => by have := hV j hj; rwa [Nat.zero_add] at this)
  have hw := hw.tail (c' := (mo, zo 2 (mF q (f 1) (f 2) (f 3) (f 4) (f 5) (f 6) (f 7) (f 8) (nI (aU A)) (f 19)))) (by rw [hU])
  have hw : zS G ((mo, zo 2 (mF q (f 1) (f 2) (f 3) (f 4) (f 5) (f 6) (f 7) (f 8) (nI (aU A)) (f 19))) :: (q 0, zc G 0 (zI 200 (b 0))) :: (q 9, zc G 0 (zI 46 (b 9))) :: (q 10, zc G 0 (zI 46 (b 10))) :: (q 11, zc G 0 (zI 46 (vI (aV A)))) :: (q 12, zc G 0 (zI 46 (b 12))) :: (q 13, zc G 0 (zI 368 (b 13))) :: (q 15, zc G 0 (zI 92 (b 15))) :: (q 16, zc G 3 (zI 2 (b 16))) :: (q 17, zc G 0 (zI 5 (b 17))) :: (q 18, zc G 0 (zI 24 (b 18))) :: (q 20, zc G 0 (zI 3 (b 20))) :: (q 21, zc G 0 (zI 3 (b 21))) :: (q 22, zc G 0 (zI 3 (b 22))) :: (q 23, zc G 0 (zI 36 (b 23))) :: (q 24, zc G 0 (zI 36 (b 24))) :: rest) s s.heap [] := hw
  refine lv_aload_n hx hb dX2_tell_0 rfl (lv_at hl 0 rfl) ?_
  refine lv_iload_n hx hb dX2_tell_1 rfl (lv_at hl 1 rfl) ?_
  refine z_ci (z_runV (As := [.int x]) (rest := []) hC zv_X2_194 (m_X2_isSquirrel G l mo q (f 1) (f 2) (f 3) (f 4) (f 5) (f 6) (f 7) (f 8) (nI (aU A)) (f 19) x (aV A) (by first | assumption | (omega)) (zrem [0, 4] _)) hw (hw.perm (z_cut (is := [0, 4]) (cells := [(mo, zo 2 (mF q (f 1) (f 2) (f 3) (f 4) (f 5) (f 6) (f 7) (f 8) (nI (aU A)) (f 19))), (q 11, zc G 0 (zI 46 (vI (aV A))))]) rfl rfl)) 0 rfl rfl rfl rfl rfl (Nat.le_of_ble_eq_true rfl) hl.1 ⟨Nat.le_of_ble_eq_true rfl, Nat.le_of_ble_eq_true rfl⟩ ⟨(Nat.le_of_ble_eq_true rfl), (Nat.le_of_ble_eq_true rfl)⟩ dX2_tell_2) hw (fun _ => z_keep (is := [0, 4]) (cs := [(mo, zo 2 (mF q (f 1) (f 2) (f 3) (f 4) (f 5) (f 6) (f 7) (f 8) (nI (aU A)) (f 19))), (q 11, zc G 0 (zI 46 (vI (aV A))))]) rfl rfl) (fun r u H locs hp hw => ?_)
  obtain rfl : r = bI (isP ((aV A) 1) x) := hp
  refine zb_eq (tgt := 16) hx hb dX2_tell_5 (by decide) (fun c_5 => ?_) (fun c_5 => ?_)
  · skip
    refine lv_bipush (v := (-2)) hx hb dX2_tell_16 zb_m2 ?_
    exact hend _ _ _ _ _ _ _ ((bU b 11 (vI (aV A))), mf (f 1) (f 2) (f 3) (f 4) (f 5) (f 6) (f 7) (f 8) (nI (aU A)) (f 19)) hw (by (first | rw [show F_tell A x y = _ from ifP_f (fun h => c_5 h.1)] | rw [show F_tell A (nI i) y = _ from ifP_f (fun h => c_13 h.2)]); exact ⟨rfl, ⟨⟨hT, hL⟩, hV0, rH_vI, ⟨rfl, hUs⟩, hKp, ⟨hSi, hSg⟩, (fun t ht => tRel_of rfl rfl rfl rfl rfl (hTr t ht))⟩⟩) (by omega) (by omega) dX2_tell_18
  · skip
    have hcx := c_5
    obtain ⟨i, hi, rfl⟩ := c_5
    have hl : lv_has ls 4 [(0, .ref mo), (1, .int (nI i)), (2, .int y)] := hl
    have hp5 := hH.2.1
    have hp9 := hH.1
    refine lv_aload_n hx hb dX2_tell_8 rfl (lv_at hl 0 rfl) ?_
    refine lv_iload_n hx hb dX2_tell_9 rfl (lv_at hl 2 rfl) ?_
    refine z_ci (z_runV (As := [.int y]) (rest := []) hC zv_X2_188 (m_X2_isPit G l mo q (f 1) (f 2) (f 3) (f 4) (f 5) (f 6) (f 7) (f 8) (nI (aU A)) (f 19) y (aV A) (by first | assumption | (omega)) (zrem [0, 4] _)) hw (hw.perm (z_cut (is := [0, 4]) (cells := [(mo, zo 2 (mF q (f 1) (f 2) (f 3) (f 4) (f 5) (f 6) (f 7) (f 8) (nI (aU A)) (f 19))), (q 11, zc G 0 (zI 46 (vI (aV A))))]) rfl rfl)) 0 rfl rfl rfl rfl rfl (Nat.le_of_ble_eq_true rfl) hl.1 ⟨Nat.le_of_ble_eq_true rfl, Nat.le_of_ble_eq_true rfl⟩ ⟨(Nat.le_of_ble_eq_true rfl), (Nat.le_of_ble_eq_true rfl)⟩ dX2_tell_10) hw (fun _ => z_keep (is := [0, 4]) (cs := [(mo, zo 2 (mF q (f 1) (f 2) (f 3) (f 4) (f 5) (f 6) (f 7) (f 8) (nI (aU A)) (f 19))), (q 11, zc G 0 (zI 46 (vI (aV A))))]) rfl rfl) (fun r u H locs hp hw => ?_)
    obtain rfl : r = bI (isP ((aV A) 0) y) := hp
    refine zb_ne (tgt := 19) hx hb dX2_tell_13 (by decide) (fun c_13 => ?_) (fun c_13 => ?_)
    · skip
      obtain ⟨t, ht, rfl⟩ := c_13
      have hl : lv_has ls 4 [(0, .ref mo), (1, .int (nI i)), (2, .int (nI t))] := hl
      refine lv_bipush (v := (nI 21)) hx hb dX2_tell_19 zb_21 ?_
      refine lv_iconst (v := (nI 5)) hx hb dX2_tell_21 zk_5 ?_
      refine lv_iload_n hx hb dX2_tell_22 rfl (lv_at hl 1 rfl) ?_
      refine zn_imul hx hb dX2_tell_23 ?_
      refine zn_iadd hx hb dX2_tell_24 ?_
      refine lv_iconst (v := (nI 4)) hx hb dX2_tell_25 zk_4 ?_
      refine zn_iadd hx hb dX2_tell_26 ?_
      refine lv_istore_n (lv' := [(3, .int (nI (21 + 5 * i + 4))), (0, .ref mo), (1, .int (nI i)), (2, .int (nI t))]) hx hb dX2_tell_27 rfl hl (by decide) rfl (fun ls hl => ?_)
      refine lv_aload_n hx hb dX2_tell_28 rfl (lv_at hl 1 rfl) ?_
      refine z_get (v := .ref (q 11)) hC zf_X2_19_2 hw 0 rfl rfl dX2_tell_29 ?_
      refine lv_iload_n hx hb dX2_tell_32 rfl (lv_at hl 0 rfl) ?_
      refine z_iald (x := (nI ((aV A) (21 + 5 * i + 4)))) hC hw 4 rfl (by omega) (by decide) rfl dX2_tell_33 ?_
      refine lv_iload_n hx hb dX2_tell_34 rfl (lv_at hl 3 rfl) ?_
      refine z_ci (z_runS (As := [.int (nI ((aV A) (21 + 5 * i + 4))), .int (nI t)]) (rest := []) hC zs_X2_152 (m_X2_has G l ((aV A) (21 + 5 * i + 4)) t (by have := hH.2.2.1 (21 + 5 * i + 4); omega) (by omega) _) hw rfl rfl (Nat.le_of_ble_eq_true rfl) hl.1 ⟨Nat.le_of_ble_eq_true rfl, Nat.le_of_ble_eq_true rfl⟩ ⟨(Nat.le_of_ble_eq_true rfl), (Nat.le_of_ble_eq_true rfl)⟩ dX2_tell_35) hw (fun _ => List.Perm.refl _) (fun r u H locs hp hw => ?_)
      obtain rfl : r = bI (((aV A) (21 + 5 * i + 4)).testBit t = true) := hp
      refine zb_ne (tgt := 52) hx hb dX2_tell_38 (by decide) (fun c_38 => ?_) (fun c_38 => ?_)
      · skip
        refine lv_bipush (v := (-4)) hx hb dX2_tell_52 zb_m4 ?_
        exact hend _ _ _ _ _ _ _ ((bU b 11 (vI (aV A))), mf (f 1) (f 2) (f 3) (f 4) (f 5) (f 6) (f 7) (f 8) (nI (aU A)) (f 19)) hw (by rw [show F_tell A (nI i) (nI t) = (-4, A) from (ifP_t ⟨⟨i, hi, rfl⟩, ⟨t, ht, rfl⟩⟩).trans (by rw [cl_nI (by omega), cl_nI (by omega)]; exact ifP_t (by first | exact Or.inl c_38 | exact Or.inr c_49))]; exact ⟨rfl, ⟨⟨hT, hL⟩, hV0, rH_vI, ⟨rfl, hUs⟩, hKp, ⟨hSi, hSg⟩, (fun t ht => tRel_of rfl rfl rfl rfl rfl (hTr t ht))⟩⟩) (by omega) (by omega) dX2_tell_54
      · skip
        refine lv_aload_n hx hb dX2_tell_41 rfl (lv_at hl 1 rfl) ?_
        refine z_get (v := .ref (q 11)) hC zf_X2_19_2 hw 0 rfl rfl dX2_tell_42 ?_
        refine lv_iload_n hx hb dX2_tell_45 rfl (lv_at hl 2 rfl) ?_
        refine z_ci (z_runS (As := [.ref (q 11), .int (nI i)]) (rest := []) hC zs_X2_174 (m_X2_isGone G l (q 11) (aV A) i hH (by omega) (zrem [4] _)) (hw.perm (z_cut (is := [4]) (cells := [(q 11, zc G 0 (zI 46 (vI (aV A))))]) rfl rfl)) rfl rfl (Nat.le_of_ble_eq_true rfl) hl.1 ⟨Nat.le_of_ble_eq_true rfl, Nat.le_of_ble_eq_true rfl⟩ ⟨(Nat.le_of_ble_eq_true rfl), (Nat.le_of_ble_eq_true rfl)⟩ dX2_tell_46) hw (fun _ => z_keep (is := [4]) (cs := [(q 11, zc G 0 (zI 46 (vI (aV A))))]) rfl rfl) (fun r u H locs hp hw => ?_)
        obtain rfl : r = bI (goneN (aV A) i) := hp
        refine zb_eq (tgt := 55) hx hb dX2_tell_49 (by decide) (fun c_49 => ?_) (fun c_49 => ?_)
        · skip
          refine lv_aload_n hx hb dX2_tell_55 rfl (lv_at hl 1 rfl) ?_
          refine z_cv (z_runV (As := []) (rest := []) hC zv_X2_200 (m_X2_notes G l mo q (f 1) (f 2) (f 3) (f 4) (f 5) (f 6) (f 7) (f 8) (f 19) (aU A) (aV A) hH (b 13) (aUs A) hU8 hUs (zrem [0, 4, 6] _)) hw (hw.perm (z_cut (is := [0, 4, 6]) (cells := [(mo, zo 2 (mF q (f 1) (f 2) (f 3) (f 4) (f 5) (f 6) (f 7) (f 8) (nI (aU A)) (f 19))), (q 11, zc G 0 (zI 46 (vI (aV A)))), (q 13, zc G 0 (zI 368 (b 13)))]) rfl rfl)) 0 rfl rfl rfl rfl rfl (Nat.le_of_ble_eq_true rfl) hl.1 ⟨Nat.le_of_ble_eq_true rfl, Nat.le_of_ble_eq_true rfl⟩ ⟨(Nat.le_of_ble_eq_true rfl), (Nat.le_of_ble_eq_true rfl)⟩ dX2_tell_56) hw (fun u => z_pput (is := [0, 4, 6]) (cells := [(mo, zo 2 (mF q (f 1) (f 2) (f 3) (f 4) (f 5) (f 6) (f 7) (f 8) (nI (aU A)) (f 19))), (q 11, zc G 0 (zI 46 (vI (aV A)))), (q 13, zc G 0 (zI 368 (b 13)))]) (cells' := [(mo, zo 2 (mF q (f 1) (f 2) (f 3) (f 4) (f 5) (f 6) (f 7) (f 8) (nI (if (aU A) = 8 then 8 else (aU A) + 1)) (f 19))), (q 11, zc G 0 (zI 46 (vI (aV A)))), (q 13, zc G 0 (zI 368 u))]) rfl rfl rfl) (fun u H locs hp hw => ?_)
          obtain ⟨pf1_1, rfl⟩ : ∃ z, z = u := ⟨_, rfl⟩
          have hw : zS G ((mo, zo 2 (mF q (f 1) (f 2) (f 3) (f 4) (f 5) (f 6) (f 7) (f 8) (nI (if (aU A) = 8 then 8 else (aU A) + 1)) (f 19))) :: (q 0, zc G 0 (zI 200 (b 0))) :: (q 9, zc G 0 (zI 46 (b 9))) :: (q 10, zc G 0 (zI 46 (b 10))) :: (q 11, zc G 0 (zI 46 (vI (aV A)))) :: (q 12, zc G 0 (zI 46 (b 12))) :: (q 13, zc G 0 (zI 368 pf1_1)) :: (q 15, zc G 0 (zI 92 (b 15))) :: (q 16, zc G 3 (zI 2 (b 16))) :: (q 17, zc G 0 (zI 5 (b 17))) :: (q 18, zc G 0 (zI 24 (b 18))) :: (q 20, zc G 0 (zI 3 (b 20))) :: (q 21, zc G 0 (zI 3 (b 21))) :: (q 22, zc G 0 (zI 3 (b 22))) :: (q 23, zc G 0 (zI 36 (b 23))) :: (q 24, zc G 0 (zI 36 (b 24))) :: rest) s H locs := hw
          have hnotes := hp
          refine lv_aload_n hx hb dX2_tell_59 rfl (lv_at hl 1 rfl) ?_
          refine z_get (v := .ref (q 11)) hC zf_X2_19_2 hw 0 rfl rfl dX2_tell_60 ?_
          refine lv_iload_n hx hb dX2_tell_63 rfl (lv_at hl 0 rfl) ?_
          refine lv_dup2_11 hx hb dX2_tell_64 rfl rfl ?_
          refine z_iald (x := (nI ((aV A) (21 + 5 * i + 4)))) hC hw 4 rfl (by omega) (by decide) rfl dX2_tell_65 ?_
          refine lv_iconst (v := (nI 1)) hx hb dX2_tell_66 zk_1 ?_
          refine lv_iload_n hx hb dX2_tell_67 rfl (lv_at hl 3 rfl) ?_
          refine zv_ishl (v := (nI (2 ^ t))) hx hb (nI_shl1 (by omega)) dX2_tell_68 ?_
          refine zv_ior (v := (nI (((aV A) (21 + 5 * i + 4)) ||| (2 ^ t)))) hx hb (nI_or _ _) dX2_tell_69 ?_
          refine z_iast (f' := vI (updN (aV A) (21 + 5 * i + 4) (((aV A) (21 + 5 * i + 4)) ||| (2 ^ t)))) hC hw 4 rfl (by omega) (by decide) (vI_upd _ _ _) dX2_tell_70 (fun H locs hw => ?_)
          have hw : zS G ((mo, zo 2 (mF q (f 1) (f 2) (f 3) (f 4) (f 5) (f 6) (f 7) (f 8) (nI (if (aU A) = 8 then 8 else (aU A) + 1)) (f 19))) :: (q 0, zc G 0 (zI 200 (b 0))) :: (q 9, zc G 0 (zI 46 (b 9))) :: (q 10, zc G 0 (zI 46 (b 10))) :: (q 11, zc G 0 (zI 46 (vI (updN (aV A) (21 + 5 * i + 4) (((aV A) (21 + 5 * i + 4)) ||| (2 ^ t)))))) :: (q 12, zc G 0 (zI 46 (b 12))) :: (q 13, zc G 0 (zI 368 pf1_1)) :: (q 15, zc G 0 (zI 92 (b 15))) :: (q 16, zc G 3 (zI 2 (b 16))) :: (q 17, zc G 0 (zI 5 (b 17))) :: (q 18, zc G 0 (zI 24 (b 18))) :: (q 20, zc G 0 (zI 3 (b 20))) :: (q 21, zc G 0 (zI 3 (b 21))) :: (q 22, zc G 0 (zI 3 (b 22))) :: (q 23, zc G 0 (zI 36 (b 23))) :: (q 24, zc G 0 (zI 36 (b 24))) :: rest) s H locs := hw
          refine lv_aload_n hx hb dX2_tell_71 rfl (lv_at hl 1 rfl) ?_
          refine z_get (v := .ref (q 11)) hC zf_X2_19_2 hw 0 rfl rfl dX2_tell_72 ?_
          refine lv_iload_n hx hb dX2_tell_75 rfl (lv_at hl 0 rfl) ?_
          refine z_iald (x := (nI ((aV A) (21 + 5 * i + 4) ||| 2 ^ t))) hC hw 4 rfl (by omega) (by decide) (congrArg nI (updN_same _ _ _)) dX2_tell_76 ?_
          exact hend _ _ _ _ _ _ _ ((bU (bU b 11 (vI (updN (aV A) (21 + 5 * i + 4) (((aV A) (21 + 5 * i + 4)) ||| (2 ^ t))))) 13 pf1_1), mf (f 1) (f 2) (f 3) (f 4) (f 5) (f 6) (f 7) (f 8) (nI (if (aU A) = 8 then 8 else (aU A) + 1)) (f 19)) hw (by rw [show F_tell A (nI i) (nI t) = (nI (aV A (21 + 5 * i + 4) ||| 2 ^ t), sV (noteA A) (updN (aV A) (21 + 5 * i + 4) (aV A (21 + 5 * i + 4) ||| 2 ^ t))) from (ifP_t ⟨⟨i, hi, rfl⟩, ⟨t, ht, rfl⟩⟩).trans (by rw [cl_nI (by omega), cl_nI (by omega)]; exact ifP_f (fun h => h.elim c_38 c_49))]; exact ⟨rfl, ⟨⟨hT, hL⟩, hV0, rH_vI, ⟨rfl, hnotes⟩, hKp, ⟨hSi, hSg⟩, (fun t ht => tRel_of rfl rfl rfl rfl rfl (hTr t ht))⟩⟩) (by omega) (by omega) dX2_tell_77
        · skip
          refine lv_bipush (v := (-4)) hx hb dX2_tell_52 zb_m4 ?_
          exact hend _ _ _ _ _ _ _ ((bU b 11 (vI (aV A))), mf (f 1) (f 2) (f 3) (f 4) (f 5) (f 6) (f 7) (f 8) (nI (aU A)) (f 19)) hw (by rw [show F_tell A (nI i) (nI t) = (-4, A) from (ifP_t ⟨⟨i, hi, rfl⟩, ⟨t, ht, rfl⟩⟩).trans (by rw [cl_nI (by omega), cl_nI (by omega)]; exact ifP_t (by first | exact Or.inl c_38 | exact Or.inr c_49))]; exact ⟨rfl, ⟨⟨hT, hL⟩, hV0, rH_vI, ⟨rfl, hUs⟩, hKp, ⟨hSi, hSg⟩, (fun t ht => tRel_of rfl rfl rfl rfl rfl (hTr t ht))⟩⟩) (by omega) (by omega) dX2_tell_54
    · skip
      refine lv_bipush (v := (-2)) hx hb dX2_tell_16 zb_m2 ?_
      exact hend _ _ _ _ _ _ _ ((bU b 11 (vI (aV A))), mf (f 1) (f 2) (f 3) (f 4) (f 5) (f 6) (f 7) (f 8) (nI (aU A)) (f 19)) hw (by (first | rw [show F_tell A x y = _ from ifP_f (fun h => c_5 h.1)] | rw [show F_tell A (nI i) y = _ from ifP_f (fun h => c_13 h.2)]); exact ⟨rfl, ⟨⟨hT, hL⟩, hV0, rH_vI, ⟨rfl, hUs⟩, hKp, ⟨hSi, hSg⟩, (fun t ht => tRel_of rfl rfl rfl rfl rfl (hTr t ht))⟩⟩) (by omega) (by omega) dX2_tell_18
theorem rH_back {g : Nat → Int32} {a : Nat} {w : Nat → Nat} {f : Nat → Int32} (h : rH g a w) : rH (va_cpy g f a 0 46) 0 w := by
  intro k hk
  unfold va_cpy
  rw [if_pos ⟨by omega, by omega⟩, ← h k hk]
  congr 1; omega
theorem kRel_keep {pf q16 : Nat → Int32} {v : Nat → Nat} {K : Nat → Option (Nat → Nat)} {k j : Nat} (hk : k < 2) (hj : j < 2) (h : kRel pf q16 j (K j)) : kRel (va_cpy (vI v) pf 0 (46 * k) 46) (upd q16 k (nI 1)) j (va_up K k (some v) j) := by
  unfold va_up
  by_cases e : j = k
  · subst e
    rw [if_pos rfl]
    refine ⟨by unfold upd; rw [if_pos rfl], fun i hi => ?_⟩
    unfold va_cpy
    rw [if_pos ⟨by omega, by omega⟩]
    show nI _ = nI _
    congr 2; omega
  · rw [if_neg e]
    have hc : ∀ w, rH pf (46 * j) w → rH (va_cpy (vI v) pf 0 (46 * k) 46) (46 * j) w := by
      intro w hr i hi
      unfold va_cpy
      rw [if_neg (by omega)]; exact hr i hi
    have hu : upd q16 k (nI 1) j = q16 j := by unfold upd; rw [if_neg e]
    cases hK : K j with
    | none => rw [hK] at h; exact hu.trans h
    | some w => rw [hK] at h; exact ⟨hu.trans h.1, hc w h.2⟩
theorem kRel_b {pf q16 : Nat → Int32} {o : Option (Nat → Nat)} {j : Nat} (h : kRel pf q16 j o) : ∃ P : Prop, q16 j = bI P := by
  cases o with
  | none => exact ⟨False, by rw [bI_f (fun h => h)]; exact h⟩
  | some w => exact ⟨True, by rw [bI_t trivial]; exact h.1⟩
theorem kRel_t {pf q16 : Nat → Int32} {o : Option (Nat → Nat)} {j : Nat} {P : Prop} (h : kRel pf q16 j o) (hb : q16 j = bI P) (hP : P) : ∃ w, o = some w ∧ rH pf (46 * j) w := by
  cases o with
  | none => rw [bI_t hP, show q16 j = nI 0 from h] at hb; exact absurd hb (by decide)
  | some w => exact ⟨w, rfl, h.2⟩
theorem kRel_f {pf q16 : Nat → Int32} {o : Option (Nat → Nat)} {j : Nat} {P : Prop} (h : kRel pf q16 j o) (hb : q16 j = bI P) (hP : ¬ P) : o = none := by
  cases o with
  | none => rfl
  | some w => rw [bI_f hP, show q16 j = nI 1 from h.1] at hb; exact absurd hb (by decide)
set_option maxHeartbeats 4000000 in
theorem m_X2_undo (G : zE) (l : Launch) (mo : Nat) (q : Nat → Nat) (A : AS) (b : Nat → Nat → Int32) (f : Nat → Int32) (hA : AOk A) (hM : MRel A b f) (rest : va_W) : zMi G l yX2_undo cX2_undo 1 (some .int) 1 0 0 [.ref mo] ((mo, zo 2 (mF q (f 1) (f 2) (f 3) (f 4) (f 5) (f 6) (f 7) (f 8) (f 14) (f 19))) :: (q 0, zc G 0 (zI 200 (b 0))) :: (q 9, zc G 0 (zI 46 (b 9))) :: (q 10, zc G 0 (zI 46 (b 10))) :: (q 11, zc G 0 (zI 46 (b 11))) :: (q 12, zc G 0 (zI 46 (b 12))) :: (q 13, zc G 0 (zI 368 (b 13))) :: (q 15, zc G 0 (zI 92 (b 15))) :: (q 16, zc G 3 (zI 2 (b 16))) :: (q 17, zc G 0 (zI 5 (b 17))) :: (q 18, zc G 0 (zI 24 (b 18))) :: (q 20, zc G 0 (zI 3 (b 20))) :: (q 21, zc G 0 (zI 3 (b 21))) :: (q 22, zc G 0 (zI 3 (b 22))) :: (q 23, zc G 0 (zI 36 (b 23))) :: (q 24, zc G 0 (zI 36 (b 24))) :: rest) (fun (r : Int32) (u : MB) => r = (F_undo A).1 ∧ MRel (F_undo A).2 u.1 u.2) (fun (u : MB) => (mo, zo 2 (mF q (u.2 1) (u.2 2) (u.2 3) (u.2 4) (u.2 5) (u.2 6) (u.2 7) (u.2 8) (u.2 14) (u.2 19))) :: (q 0, zc G 0 (zI 200 (u.1 0))) :: (q 9, zc G 0 (zI 46 (u.1 9))) :: (q 10, zc G 0 (zI 46 (u.1 10))) :: (q 11, zc G 0 (zI 46 (u.1 11))) :: (q 12, zc G 0 (zI 46 (u.1 12))) :: (q 13, zc G 0 (zI 368 (u.1 13))) :: (q 15, zc G 0 (zI 92 (u.1 15))) :: (q 16, zc G 3 (zI 2 (u.1 16))) :: (q 17, zc G 0 (zI 5 (u.1 17))) :: (q 18, zc G 0 (zI 24 (u.1 18))) :: (q 20, zc G 0 (zI 3 (u.1 20))) :: (q 21, zc G 0 (zI 3 (u.1 21))) :: (q 22, zc G 0 (zI 3 (u.1 22))) :: (q 23, zc G 0 (zI 36 (u.1 23))) :: (q 24, zc G 0 (zI 36 (u.1 24))) :: rest) := by
  refine z_begI (by decide) (Nat.le_of_ble_eq_true rfl) (fun p e s m args below meth c ls Q hC hl hw hend => ?_)
  have hx := hC.hx
  have hb := hC.hb
  have hl : lv_has ls 1 [(0, .ref mo)] := hl
  have hw : zS G ((mo, zo 2 (mF q (f 1) (f 2) (f 3) (f 4) (f 5) (f 6) (f 7) (f 8) (f 14) (f 19))) :: (q 0, zc G 0 (zI 200 (b 0))) :: (q 9, zc G 0 (zI 46 (b 9))) :: (q 10, zc G 0 (zI 46 (b 10))) :: (q 11, zc G 0 (zI 46 (b 11))) :: (q 12, zc G 0 (zI 46 (b 12))) :: (q 13, zc G 0 (zI 368 (b 13))) :: (q 15, zc G 0 (zI 92 (b 15))) :: (q 16, zc G 3 (zI 2 (b 16))) :: (q 17, zc G 0 (zI 5 (b 17))) :: (q 18, zc G 0 (zI 24 (b 18))) :: (q 20, zc G 0 (zI 3 (b 20))) :: (q 21, zc G 0 (zI 3 (b 21))) :: (q 22, zc G 0 (zI 3 (b 22))) :: (q 23, zc G 0 (zI 36 (b 23))) :: (q 24, zc G 0 (zI 36 (b 24))) :: rest) s s.heap [] := hw
  have hA9 := hA
  obtain ⟨⟨hT, hL⟩, hV0, hV, ⟨hU, hUs⟩, hKp, ⟨hSi, hSg⟩, hTr⟩ := hM
  obtain ⟨⟨hL2, hT2⟩, hB0, hBv, ⟨hU8, hUb⟩, hKb, ⟨hS6, hSb⟩, hTb⟩ := hA
  have hH : Hw (aV A) := hBv.1.1
  have hday := hBv.2.2
  have hw := hw.cellI 4 rfl (g := vI (aV A)) (fun j hj => by have := hV j hj; rwa [Nat.zero_add] at this)
  have hw := hw.tail (c' := (mo, zo 2 (mF q (f 1) (f 2) (f 3) (f 4) (f 5) (f 6) (f 7) (f 8) (nI (aU A)) (f 19)))) (by rw [hU])
  have hw : zS G ((mo, zo 2 (mF q (f 1) (f 2) (f 3) (f 4) (f 5) (f 6) (f 7) (f 8) (nI (aU A)) (f 19))) :: (q 0, zc G 0 (zI 200 (b 0))) :: (q 9, zc G 0 (zI 46 (b 9))) :: (q 10, zc G 0 (zI 46 (b 10))) :: (q 11, zc G 0 (zI 46 (vI (aV A)))) :: (q 12, zc G 0 (zI 46 (b 12))) :: (q 13, zc G 0 (zI 368 (b 13))) :: (q 15, zc G 0 (zI 92 (b 15))) :: (q 16, zc G 3 (zI 2 (b 16))) :: (q 17, zc G 0 (zI 5 (b 17))) :: (q 18, zc G 0 (zI 24 (b 18))) :: (q 20, zc G 0 (zI 3 (b 20))) :: (q 21, zc G 0 (zI 3 (b 21))) :: (q 22, zc G 0 (zI 3 (b 22))) :: (q 23, zc G 0 (zI 36 (b 23))) :: (q 24, zc G 0 (zI 36 (b 24))) :: rest) s s.heap [] := hw
  refine lv_aload_n hx hb dX2_undo_0 rfl (lv_at hl 0 rfl) ?_
  refine z_get (v := .int (nI (aU A))) hC zf_X2_146_2 hw 0 rfl rfl dX2_undo_1 ?_
  refine zj_ne (tgt := 10) hx hb (by omega) dX2_undo_4 (by decide) (fun c_4 => ?_) (fun c_4 => ?_)
  · skip
    have h0 := c_4
    have hUl := hUs (aU A - 1) (by omega)
    refine lv_aload_n hx hb dX2_undo_10 rfl (lv_at hl 0 rfl) ?_
    refine lv_dup hx hb dX2_undo_11 rfl ?_
    refine z_get (v := .int (nI (aU A))) hC zf_X2_146_2 hw 0 rfl rfl dX2_undo_12 ?_
    refine lv_iconst (v := (nI 1)) hx hb dX2_undo_15 zk_1 ?_
    refine zn_isub hx hb (by omega) dX2_undo_16 ?_
    refine z_puti hC zf_X2_146_2 hw 0 rfl (Nat.le_of_ble_eq_true rfl) dX2_undo_17 (fun H locs hw => ?_)
    have hw : zS G ((mo, zo 2 (mF q (f 1) (f 2) (f 3) (f 4) (f 5) (f 6) (f 7) (f 8) (nI ((aU A) - 1)) (f 19))) :: (q 0, zc G 0 (zI 200 (b 0))) :: (q 9, zc G 0 (zI 46 (b 9))) :: (q 10, zc G 0 (zI 46 (b 10))) :: (q 11, zc G 0 (zI 46 (vI (aV A)))) :: (q 12, zc G 0 (zI 46 (b 12))) :: (q 13, zc G 0 (zI 368 (b 13))) :: (q 15, zc G 0 (zI 92 (b 15))) :: (q 16, zc G 3 (zI 2 (b 16))) :: (q 17, zc G 0 (zI 5 (b 17))) :: (q 18, zc G 0 (zI 24 (b 18))) :: (q 20, zc G 0 (zI 3 (b 20))) :: (q 21, zc G 0 (zI 3 (b 21))) :: (q 22, zc G 0 (zI 3 (b 22))) :: (q 23, zc G 0 (zI 36 (b 23))) :: (q 24, zc G 0 (zI 36 (b 24))) :: rest) s H locs := hw
    refine lv_aload_n hx hb dX2_undo_20 rfl (lv_at hl 0 rfl) ?_
    refine z_get (v := .ref (q 13)) hC zf_X2_25_2 hw 0 rfl rfl dX2_undo_21 ?_
    refine lv_bipush (v := (nI 46)) hx hb dX2_undo_24 zb_46 ?_
    refine lv_aload_n hx hb dX2_undo_26 rfl (lv_at hl 0 rfl) ?_
    refine z_get (v := .int (nI ((aU A) - 1))) hC zf_X2_146_2 hw 0 rfl rfl dX2_undo_27 ?_
    refine zn_imul hx hb dX2_undo_30 ?_
    refine lv_aload_n hx hb dX2_undo_31 rfl (lv_at hl 0 rfl) ?_
    refine z_get (v := .ref (q 11)) hC zf_X2_19_2 hw 0 rfl rfl dX2_undo_32 ?_
    refine lv_iconst (v := (nI 0)) hx hb dX2_undo_35 zk_0 ?_
    refine z_cv (z_runS (As := [.ref (q 13), .int (nI (46 * ((aU A) - 1))), .ref (q 11), .int (nI 0)]) (rest := []) hC zs_X2_130 (m_X2_copies G l (q 13) (q 11) (46 * ((aU A) - 1)) 0 368 46 (b 13) (vI (aV A)) (by omega) (by omega) (by decide) (by decide) (zrem [6, 4] _)) (hw.perm (z_cut (is := [6, 4]) (cells := [(q 13, zc G 0 (zI 368 (b 13))), (q 11, zc G 0 (zI 46 (vI (aV A))))]) rfl rfl)) rfl rfl (Nat.le_of_ble_eq_true rfl) hl.1 ⟨Nat.le_of_ble_eq_true rfl, Nat.le_of_ble_eq_true rfl⟩ ⟨(Nat.le_of_ble_eq_true rfl), (Nat.le_of_ble_eq_true rfl)⟩ dX2_undo_36) hw (fun _ => z_pput (is := [6, 4]) (cells := [(q 13, zc G 0 (zI 368 (b 13))), (q 11, zc G 0 (zI 46 (vI (aV A))))]) (cells' := [(q 13, zc G 0 (zI 368 (b 13))), (q 11, zc G 0 (zI 46 (va_cpy (b 13) (vI (aV A)) (46 * ((aU A) - 1)) 0 46)))]) rfl rfl rfl) (fun u H locs hp hw => ?_)
    have hw : zS G ((mo, zo 2 (mF q (f 1) (f 2) (f 3) (f 4) (f 5) (f 6) (f 7) (f 8) (nI ((aU A) - 1)) (f 19))) :: (q 0, zc G 0 (zI 200 (b 0))) :: (q 9, zc G 0 (zI 46 (b 9))) :: (q 10, zc G 0 (zI 46 (b 10))) :: (q 11, zc G 0 (zI 46 (va_cpy (b 13) (vI (aV A)) (46 * ((aU A) - 1)) 0 46))) :: (q 12, zc G 0 (zI 46 (b 12))) :: (q 13, zc G 0 (zI 368 (b 13))) :: (q 15, zc G 0 (zI 92 (b 15))) :: (q 16, zc G 3 (zI 2 (b 16))) :: (q 17, zc G 0 (zI 5 (b 17))) :: (q 18, zc G 0 (zI 24 (b 18))) :: (q 20, zc G 0 (zI 3 (b 20))) :: (q 21, zc G 0 (zI 3 (b 21))) :: (q 22, zc G 0 (zI 3 (b 22))) :: (q 23, zc G 0 (zI 36 (b 23))) :: (q 24, zc G 0 (zI 36 (b 24))) :: rest) s H locs := hw
    refine lv_aload_n hx hb dX2_undo_39 rfl (lv_at hl 0 rfl) ?_
    refine z_get (v := .int (nI ((aU A) - 1))) hC zf_X2_146_2 hw 0 rfl rfl dX2_undo_40 ?_
    exact hend _ _ _ _ _ _ _ ((bU b 11 (va_cpy (b 13) (vI (aV A)) (46 * ((aU A) - 1)) 0 46)), mf (f 1) (f 2) (f 3) (f 4) (f 5) (f 6) (f 7) (f 8) (nI ((aU A) - 1)) (f 19)) hw (by rw [show F_undo A = _ from if_neg h0]; exact ⟨rfl, ⟨⟨hT, hL⟩, hV0, (rH_back hUl), ⟨rfl, (fun j hj => hUs j (by have h : j < aU A - 1 := hj; omega))⟩, hKp, ⟨hSi, hSg⟩, (fun t ht => tRel_of rfl rfl rfl rfl rfl (hTr t ht))⟩⟩) (by omega) (by omega) dX2_undo_43
  · skip
    have h0 : aU A = 0 := c_4
    refine lv_bipush (v := (-4)) hx hb dX2_undo_7 zb_m4 ?_
    exact hend _ _ _ _ _ _ _ ((bU b 11 (vI (aV A))), mf (f 1) (f 2) (f 3) (f 4) (f 5) (f 6) (f 7) (f 8) (nI (aU A)) (f 19)) hw (by rw [show F_undo A = (-4, A) from if_pos h0]; exact ⟨rfl, ⟨⟨hT, hL⟩, hV0, rH_vI, ⟨rfl, hUs⟩, hKp, ⟨hSi, hSg⟩, (fun t ht => tRel_of rfl rfl rfl rfl rfl (hTr t ht))⟩⟩) (by omega) (by omega) dX2_undo_9
theorem zf_X2_28_2 : zFl 2 15 RX2 28 true (.array .int) := ⟨RX2, TX2, 25, tyX2, rfl, by decide, in_X2, q1813, rfl, by decide +kernel, tyX2_ok, nmX2⟩
theorem zf_X2_31_2 : zFl 2 16 RX2 31 true (.array .boolean) := ⟨RX2, TX2, 25, tyX2, rfl, by decide, in_X2, q1814, rfl, by decide +kernel, tyX2_ok, nmX2⟩
set_option maxHeartbeats 4000000 in
theorem m_X2_keep (G : zE) (l : Launch) (mo : Nat) (q : Nat → Nat) (A : AS) (b : Nat → Nat → Int32) (f : Nat → Int32) (hA : AOk A) (hM : MRel A b f) (x : Int32) (rest : va_W) : zMi G l yX2_keep cX2_keep 2 (some .int) 1 0 0 [.ref mo, .int x] ((mo, zo 2 (mF q (f 1) (f 2) (f 3) (f 4) (f 5) (f 6) (f 7) (f 8) (f 14) (f 19))) :: (q 0, zc G 0 (zI 200 (b 0))) :: (q 9, zc G 0 (zI 46 (b 9))) :: (q 10, zc G 0 (zI 46 (b 10))) :: (q 11, zc G 0 (zI 46 (b 11))) :: (q 12, zc G 0 (zI 46 (b 12))) :: (q 13, zc G 0 (zI 368 (b 13))) :: (q 15, zc G 0 (zI 92 (b 15))) :: (q 16, zc G 3 (zI 2 (b 16))) :: (q 17, zc G 0 (zI 5 (b 17))) :: (q 18, zc G 0 (zI 24 (b 18))) :: (q 20, zc G 0 (zI 3 (b 20))) :: (q 21, zc G 0 (zI 3 (b 21))) :: (q 22, zc G 0 (zI 3 (b 22))) :: (q 23, zc G 0 (zI 36 (b 23))) :: (q 24, zc G 0 (zI 36 (b 24))) :: rest) (fun (r : Int32) (u : MB) => r = (F_keep A x).1 ∧ MRel (F_keep A x).2 u.1 u.2) (fun (u : MB) => (mo, zo 2 (mF q (u.2 1) (u.2 2) (u.2 3) (u.2 4) (u.2 5) (u.2 6) (u.2 7) (u.2 8) (u.2 14) (u.2 19))) :: (q 0, zc G 0 (zI 200 (u.1 0))) :: (q 9, zc G 0 (zI 46 (u.1 9))) :: (q 10, zc G 0 (zI 46 (u.1 10))) :: (q 11, zc G 0 (zI 46 (u.1 11))) :: (q 12, zc G 0 (zI 46 (u.1 12))) :: (q 13, zc G 0 (zI 368 (u.1 13))) :: (q 15, zc G 0 (zI 92 (u.1 15))) :: (q 16, zc G 3 (zI 2 (u.1 16))) :: (q 17, zc G 0 (zI 5 (u.1 17))) :: (q 18, zc G 0 (zI 24 (u.1 18))) :: (q 20, zc G 0 (zI 3 (u.1 20))) :: (q 21, zc G 0 (zI 3 (u.1 21))) :: (q 22, zc G 0 (zI 3 (u.1 22))) :: (q 23, zc G 0 (zI 36 (u.1 23))) :: (q 24, zc G 0 (zI 36 (u.1 24))) :: rest) := by
  refine z_begI (by decide) (Nat.le_of_ble_eq_true rfl) (fun p e s m args below meth c ls Q hC hl hw hend => ?_)
  have hx := hC.hx
  have hb := hC.hb
  have hl : lv_has ls 2 [(0, .ref mo), (1, .int x)] := hl
  have hw : zS G ((mo, zo 2 (mF q (f 1) (f 2) (f 3) (f 4) (f 5) (f 6) (f 7) (f 8) (f 14) (f 19))) :: (q 0, zc G 0 (zI 200 (b 0))) :: (q 9, zc G 0 (zI 46 (b 9))) :: (q 10, zc G 0 (zI 46 (b 10))) :: (q 11, zc G 0 (zI 46 (b 11))) :: (q 12, zc G 0 (zI 46 (b 12))) :: (q 13, zc G 0 (zI 368 (b 13))) :: (q 15, zc G 0 (zI 92 (b 15))) :: (q 16, zc G 3 (zI 2 (b 16))) :: (q 17, zc G 0 (zI 5 (b 17))) :: (q 18, zc G 0 (zI 24 (b 18))) :: (q 20, zc G 0 (zI 3 (b 20))) :: (q 21, zc G 0 (zI 3 (b 21))) :: (q 22, zc G 0 (zI 3 (b 22))) :: (q 23, zc G 0 (zI 36 (b 23))) :: (q 24, zc G 0 (zI 36 (b 24))) :: rest) s s.heap [] := hw
  have hA9 := hA
  obtain ⟨⟨hT, hL⟩, hV0, hV, ⟨hU, hUs⟩, hKp, ⟨hSi, hSg⟩, hTr⟩ := hM
  obtain ⟨⟨hL2, hT2⟩, hB0, hBv, ⟨hU8, hUb⟩, hKb, ⟨hS6, hSb⟩, hTb⟩ := hA
  have hH : Hw (aV A) := hBv.1.1
  have hday := hBv.2.2
  have hw := hw.cellI 4 rfl (g := vI (aV A)) (fun j hj => by have := hV j hj; rwa [Nat.zero_add] at this)
  have hw : zS G ((mo, zo 2 (mF q (f 1) (f 2) (f 3) (f 4) (f 5) (f 6) (f 7) (f 8) (f 14) (f 19))) :: (q 0, zc G 0 (zI 200 (b 0))) :: (q 9, zc G 0 (zI 46 (b 9))) :: (q 10, zc G 0 (zI 46 (b 10))) :: (q 11, zc G 0 (zI 46 (vI (aV A)))) :: (q 12, zc G 0 (zI 46 (b 12))) :: (q 13, zc G 0 (zI 368 (b 13))) :: (q 15, zc G 0 (zI 92 (b 15))) :: (q 16, zc G 3 (zI 2 (b 16))) :: (q 17, zc G 0 (zI 5 (b 17))) :: (q 18, zc G 0 (zI 24 (b 18))) :: (q 20, zc G 0 (zI 3 (b 20))) :: (q 21, zc G 0 (zI 3 (b 21))) :: (q 22, zc G 0 (zI 3 (b 22))) :: (q 23, zc G 0 (zI 36 (b 23))) :: (q 24, zc G 0 (zI 36 (b 24))) :: rest) s s.heap [] := hw
  refine lv_iload_n hx hb dX2_keep_0 rfl (lv_at hl 1 rfl) ?_
  refine lv_iconst (v := (nI 0)) hx hb dX2_keep_1 zk_0 ?_
  refine lv_iconst (v := (nI 1)) hx hb dX2_keep_2 zk_1 ?_
  refine z_ci (z_runS (As := [.int x, .int (nI 0), .int (nI 1)]) (rest := []) hC zs_X2_59 (m_X2_in_n G l x 0 1 (by decide) (by decide) _) hw rfl rfl (Nat.le_of_ble_eq_true rfl) hl.1 ⟨Nat.le_of_ble_eq_true rfl, Nat.le_of_ble_eq_true rfl⟩ ⟨(Nat.le_of_ble_eq_true rfl), (Nat.le_of_ble_eq_true rfl)⟩ dX2_keep_3) hw (fun _ => List.Perm.refl _) (fun r u H locs hp hw => ?_)
  obtain rfl : r = bI (inR x 0 1) := hp
  refine zb_ne (tgt := 12) hx hb dX2_keep_6 (by decide) (fun c_6 => ?_) (fun c_6 => ?_)
  · skip
    obtain ⟨k, hk1, hk2, rfl⟩ := c_6
    have hl : lv_has ls 2 [(0, .ref mo), (1, .int (nI k))] := hl
    refine lv_aload_n hx hb dX2_keep_12 rfl (lv_at hl 0 rfl) ?_
    refine z_get (v := .ref (q 11)) hC zf_X2_19_2 hw 0 rfl rfl dX2_keep_13 ?_
    refine lv_iconst (v := (nI 0)) hx hb dX2_keep_16 zk_0 ?_
    refine lv_aload_n hx hb dX2_keep_17 rfl (lv_at hl 0 rfl) ?_
    refine z_get (v := .ref (q 15)) hC zf_X2_28_2 hw 0 rfl rfl dX2_keep_18 ?_
    refine lv_bipush (v := (nI 46)) hx hb dX2_keep_21 zb_46 ?_
    refine lv_iload_n hx hb dX2_keep_23 rfl (lv_at hl 1 rfl) ?_
    refine zn_imul hx hb dX2_keep_24 ?_
    refine z_cv (z_runS (As := [.ref (q 11), .int (nI 0), .ref (q 15), .int (nI (46 * k))]) (rest := []) hC zs_X2_130 (m_X2_copies G l (q 11) (q 15) 0 (46 * k) 46 92 (vI (aV A)) (b 15) (by omega) (by omega) (by decide) (by decide) (zrem [4, 7] _)) (hw.perm (z_cut (is := [4, 7]) (cells := [(q 11, zc G 0 (zI 46 (vI (aV A)))), (q 15, zc G 0 (zI 92 (b 15)))]) rfl rfl)) rfl rfl (Nat.le_of_ble_eq_true rfl) hl.1 ⟨Nat.le_of_ble_eq_true rfl, Nat.le_of_ble_eq_true rfl⟩ ⟨(Nat.le_of_ble_eq_true rfl), (Nat.le_of_ble_eq_true rfl)⟩ dX2_keep_25) hw (fun _ => z_pput (is := [4, 7]) (cells := [(q 11, zc G 0 (zI 46 (vI (aV A)))), (q 15, zc G 0 (zI 92 (b 15)))]) (cells' := [(q 11, zc G 0 (zI 46 (vI (aV A)))), (q 15, zc G 0 (zI 92 (va_cpy (vI (aV A)) (b 15) 0 (46 * k) 46)))]) rfl rfl rfl) (fun u H locs hp hw => ?_)
    have hw : zS G ((mo, zo 2 (mF q (f 1) (f 2) (f 3) (f 4) (f 5) (f 6) (f 7) (f 8) (f 14) (f 19))) :: (q 0, zc G 0 (zI 200 (b 0))) :: (q 9, zc G 0 (zI 46 (b 9))) :: (q 10, zc G 0 (zI 46 (b 10))) :: (q 11, zc G 0 (zI 46 (vI (aV A)))) :: (q 12, zc G 0 (zI 46 (b 12))) :: (q 13, zc G 0 (zI 368 (b 13))) :: (q 15, zc G 0 (zI 92 (va_cpy (vI (aV A)) (b 15) 0 (46 * k) 46))) :: (q 16, zc G 3 (zI 2 (b 16))) :: (q 17, zc G 0 (zI 5 (b 17))) :: (q 18, zc G 0 (zI 24 (b 18))) :: (q 20, zc G 0 (zI 3 (b 20))) :: (q 21, zc G 0 (zI 3 (b 21))) :: (q 22, zc G 0 (zI 3 (b 22))) :: (q 23, zc G 0 (zI 36 (b 23))) :: (q 24, zc G 0 (zI 36 (b 24))) :: rest) s H locs := hw
    refine lv_aload_n hx hb dX2_keep_28 rfl (lv_at hl 0 rfl) ?_
    refine z_get (v := .ref (q 16)) hC zf_X2_31_2 hw 0 rfl rfl dX2_keep_29 ?_
    refine lv_iload_n hx hb dX2_keep_32 rfl (lv_at hl 1 rfl) ?_
    refine lv_iconst (v := (nI 1)) hx hb dX2_keep_33 zk_1 ?_
    refine z_zast (f' := upd (b 16) k (nI 1)) hC hw 8 rfl (by omega) (by decide) (congrArg _ (znboolean (by decide))) dX2_keep_34 (fun H locs hw => ?_)
    have hw : zS G ((mo, zo 2 (mF q (f 1) (f 2) (f 3) (f 4) (f 5) (f 6) (f 7) (f 8) (f 14) (f 19))) :: (q 0, zc G 0 (zI 200 (b 0))) :: (q 9, zc G 0 (zI 46 (b 9))) :: (q 10, zc G 0 (zI 46 (b 10))) :: (q 11, zc G 0 (zI 46 (vI (aV A)))) :: (q 12, zc G 0 (zI 46 (b 12))) :: (q 13, zc G 0 (zI 368 (b 13))) :: (q 15, zc G 0 (zI 92 (va_cpy (vI (aV A)) (b 15) 0 (46 * k) 46))) :: (q 16, zc G 3 (zI 2 (upd (b 16) k (nI 1)))) :: (q 17, zc G 0 (zI 5 (b 17))) :: (q 18, zc G 0 (zI 24 (b 18))) :: (q 20, zc G 0 (zI 3 (b 20))) :: (q 21, zc G 0 (zI 3 (b 21))) :: (q 22, zc G 0 (zI 3 (b 22))) :: (q 23, zc G 0 (zI 36 (b 23))) :: (q 24, zc G 0 (zI 36 (b 24))) :: rest) s H locs := hw
    refine lv_aload_n hx hb dX2_keep_35 rfl (lv_at hl 0 rfl) ?_
    refine z_get (v := .ref (q 11)) hC zf_X2_19_2 hw 0 rfl rfl dX2_keep_36 ?_
    refine lv_iconst (v := (nI 2)) hx hb dX2_keep_39 zk_2 ?_
    refine z_iald (x := (nI ((aV A) 2))) hC hw 4 rfl (by decide) (by decide) rfl dX2_keep_40 ?_
    exact hend _ _ _ _ _ _ _ ((bU (bU (bU b 11 (vI (aV A))) 15 (va_cpy (vI (aV A)) (b 15) 0 (46 * k) 46)) 16 (upd (b 16) k (nI 1))), mf (f 1) (f 2) (f 3) (f 4) (f 5) (f 6) (f 7) (f 8) (f 14) (f 19)) hw (by rw [show F_keep A (nI k) = (nI (aV A 2), mkA (aT A) (aL A) (aV0 A) (aV A) (aU A) (aUs A) (va_up (aK A) k (some (aV A))) (aS A) (aSg A) (aTr A)) from (ifP_t ⟨k, hk1, hk2, rfl⟩).trans (by rw [cl_nI (by omega)])]; exact ⟨rfl, ⟨⟨hT, hL⟩, hV0, rH_vI, ⟨hU, hUs⟩, (fun j hj => kRel_keep (by omega) hj (hKp j hj)), ⟨hSi, hSg⟩, (fun t ht => tRel_of rfl rfl rfl rfl rfl (hTr t ht))⟩⟩) (by omega) (by omega) dX2_keep_41
  · skip
    refine lv_bipush (v := (-2)) hx hb dX2_keep_9 zb_m2 ?_
    exact hend _ _ _ _ _ _ _ ((bU b 11 (vI (aV A))), mf (f 1) (f 2) (f 3) (f 4) (f 5) (f 6) (f 7) (f 8) (f 14) (f 19)) hw (by rw [show F_keep A x = _ from ifP_f c_6]; exact ⟨rfl, ⟨⟨hT, hL⟩, hV0, rH_vI, ⟨hU, hUs⟩, hKp, ⟨hSi, hSg⟩, (fun t ht => tRel_of rfl rfl rfl rfl rfl (hTr t ht))⟩⟩) (by omega) (by omega) dX2_keep_11
set_option maxHeartbeats 4000000 in
theorem m_X2_back (G : zE) (l : Launch) (mo : Nat) (q : Nat → Nat) (A : AS) (b : Nat → Nat → Int32) (f : Nat → Int32) (hA : AOk A) (hM : MRel A b f) (x : Int32) (rest : va_W) : zMi G l yX2_back cX2_back 2 (some .int) 1 0 0 [.ref mo, .int x] ((mo, zo 2 (mF q (f 1) (f 2) (f 3) (f 4) (f 5) (f 6) (f 7) (f 8) (f 14) (f 19))) :: (q 0, zc G 0 (zI 200 (b 0))) :: (q 9, zc G 0 (zI 46 (b 9))) :: (q 10, zc G 0 (zI 46 (b 10))) :: (q 11, zc G 0 (zI 46 (b 11))) :: (q 12, zc G 0 (zI 46 (b 12))) :: (q 13, zc G 0 (zI 368 (b 13))) :: (q 15, zc G 0 (zI 92 (b 15))) :: (q 16, zc G 3 (zI 2 (b 16))) :: (q 17, zc G 0 (zI 5 (b 17))) :: (q 18, zc G 0 (zI 24 (b 18))) :: (q 20, zc G 0 (zI 3 (b 20))) :: (q 21, zc G 0 (zI 3 (b 21))) :: (q 22, zc G 0 (zI 3 (b 22))) :: (q 23, zc G 0 (zI 36 (b 23))) :: (q 24, zc G 0 (zI 36 (b 24))) :: rest) (fun (r : Int32) (u : MB) => r = (F_back A x).1 ∧ MRel (F_back A x).2 u.1 u.2) (fun (u : MB) => (mo, zo 2 (mF q (u.2 1) (u.2 2) (u.2 3) (u.2 4) (u.2 5) (u.2 6) (u.2 7) (u.2 8) (u.2 14) (u.2 19))) :: (q 0, zc G 0 (zI 200 (u.1 0))) :: (q 9, zc G 0 (zI 46 (u.1 9))) :: (q 10, zc G 0 (zI 46 (u.1 10))) :: (q 11, zc G 0 (zI 46 (u.1 11))) :: (q 12, zc G 0 (zI 46 (u.1 12))) :: (q 13, zc G 0 (zI 368 (u.1 13))) :: (q 15, zc G 0 (zI 92 (u.1 15))) :: (q 16, zc G 3 (zI 2 (u.1 16))) :: (q 17, zc G 0 (zI 5 (u.1 17))) :: (q 18, zc G 0 (zI 24 (u.1 18))) :: (q 20, zc G 0 (zI 3 (u.1 20))) :: (q 21, zc G 0 (zI 3 (u.1 21))) :: (q 22, zc G 0 (zI 3 (u.1 22))) :: (q 23, zc G 0 (zI 36 (u.1 23))) :: (q 24, zc G 0 (zI 36 (u.1 24))) :: rest) := by
  refine z_begI (by decide) (Nat.le_of_ble_eq_true rfl) (fun p e s m args below meth c ls Q hC hl hw hend => ?_)
  have hx := hC.hx
  have hb := hC.hb
  have hl : lv_has ls 2 [(0, .ref mo), (1, .int x)] := hl
  have hw : zS G ((mo, zo 2 (mF q (f 1) (f 2) (f 3) (f 4) (f 5) (f 6) (f 7) (f 8) (f 14) (f 19))) :: (q 0, zc G 0 (zI 200 (b 0))) :: (q 9, zc G 0 (zI 46 (b 9))) :: (q 10, zc G 0 (zI 46 (b 10))) :: (q 11, zc G 0 (zI 46 (b 11))) :: (q 12, zc G 0 (zI 46 (b 12))) :: (q 13, zc G 0 (zI 368 (b 13))) :: (q 15, zc G 0 (zI 92 (b 15))) :: (q 16, zc G 3 (zI 2 (b 16))) :: (q 17, zc G 0 (zI 5 (b 17))) :: (q 18, zc G 0 (zI 24 (b 18))) :: (q 20, zc G 0 (zI 3 (b 20))) :: (q 21, zc G 0 (zI 3 (b 21))) :: (q 22, zc G 0 (zI 3 (b 22))) :: (q 23, zc G 0 (zI 36 (b 23))) :: (q 24, zc G 0 (zI 36 (b 24))) :: rest) s s.heap [] := hw
  have hA9 := hA
  obtain ⟨⟨hT, hL⟩, hV0, hV, ⟨hU, hUs⟩, hKp, ⟨hSi, hSg⟩, hTr⟩ := hM
  obtain ⟨⟨hL2, hT2⟩, hB0, hBv, ⟨hU8, hUb⟩, hKb, ⟨hS6, hSb⟩, hTb⟩ := hA
  have hH : Hw (aV A) := hBv.1.1
  have hday := hBv.2.2
  have hw := hw.cellI 4 rfl (g := vI (aV A)) (fun j hj => by have := hV j hj; rwa [Nat.zero_add] at this)
  have hw := hw.tail (c' := (mo, zo 2 (mF q (f 1) (f 2) (f 3) (f 4) (f 5) (f 6) (f 7) (f 8) (nI (aU A)) (f 19)))) (by rw [hU])
  have hw : zS G ((mo, zo 2 (mF q (f 1) (f 2) (f 3) (f 4) (f 5) (f 6) (f 7) (f 8) (nI (aU A)) (f 19))) :: (q 0, zc G 0 (zI 200 (b 0))) :: (q 9, zc G 0 (zI 46 (b 9))) :: (q 10, zc G 0 (zI 46 (b 10))) :: (q 11, zc G 0 (zI 46 (vI (aV A)))) :: (q 12, zc G 0 (zI 46 (b 12))) :: (q 13, zc G 0 (zI 368 (b 13))) :: (q 15, zc G 0 (zI 92 (b 15))) :: (q 16, zc G 3 (zI 2 (b 16))) :: (q 17, zc G 0 (zI 5 (b 17))) :: (q 18, zc G 0 (zI 24 (b 18))) :: (q 20, zc G 0 (zI 3 (b 20))) :: (q 21, zc G 0 (zI 3 (b 21))) :: (q 22, zc G 0 (zI 3 (b 22))) :: (q 23, zc G 0 (zI 36 (b 23))) :: (q 24, zc G 0 (zI 36 (b 24))) :: rest) s s.heap [] := hw
  refine lv_iload_n hx hb dX2_back_0 rfl (lv_at hl 1 rfl) ?_
  refine lv_iconst (v := (nI 0)) hx hb dX2_back_1 zk_0 ?_
  refine lv_iconst (v := (nI 1)) hx hb dX2_back_2 zk_1 ?_
  refine z_ci (z_runS (As := [.int x, .int (nI 0), .int (nI 1)]) (rest := []) hC zs_X2_59 (m_X2_in_n G l x 0 1 (by decide) (by decide) _) hw rfl rfl (Nat.le_of_ble_eq_true rfl) hl.1 ⟨Nat.le_of_ble_eq_true rfl, Nat.le_of_ble_eq_true rfl⟩ ⟨(Nat.le_of_ble_eq_true rfl), (Nat.le_of_ble_eq_true rfl)⟩ dX2_back_3) hw (fun _ => List.Perm.refl _) (fun r u H locs hp hw => ?_)
  obtain rfl : r = bI (inR x 0 1) := hp
  refine zb_ne (tgt := 12) hx hb dX2_back_6 (by decide) (fun c_6 => ?_) (fun c_6 => ?_)
  · skip
    obtain ⟨k, hk1, hk2, rfl⟩ := c_6
    have hl : lv_has ls 2 [(0, .ref mo), (1, .int (nI k))] := hl
    have hkk := hKp k (by omega)
    obtain ⟨P, hP⟩ : ∃ P : Prop, b 16 k = bI P := kRel_b hkk
    refine lv_aload_n hx hb dX2_back_12 rfl (lv_at hl 0 rfl) ?_
    refine z_get (v := .ref (q 16)) hC zf_X2_31_2 hw 0 rfl rfl dX2_back_13 ?_
    refine lv_iload_n hx hb dX2_back_16 rfl (lv_at hl 1 rfl) ?_
    refine z_zald (x := (bI P)) hC hw 8 rfl (by omega) (by decide) hP dX2_back_17 ?_
    refine zb_ne (tgt := 24) hx hb dX2_back_18 (by decide) (fun c_18 => ?_) (fun c_18 => ?_)
    · skip
      obtain ⟨w, hw1, hw2⟩ := kRel_t hkk hP c_18
      refine lv_aload_n hx hb dX2_back_24 rfl (lv_at hl 0 rfl) ?_
      refine z_get (v := .ref (q 15)) hC zf_X2_28_2 hw 0 rfl rfl dX2_back_25 ?_
      refine lv_bipush (v := (nI 46)) hx hb dX2_back_28 zb_46 ?_
      refine lv_iload_n hx hb dX2_back_30 rfl (lv_at hl 1 rfl) ?_
      refine zn_imul hx hb dX2_back_31 ?_
      refine lv_aload_n hx hb dX2_back_32 rfl (lv_at hl 0 rfl) ?_
      refine z_get (v := .ref (q 11)) hC zf_X2_19_2 hw 0 rfl rfl dX2_back_33 ?_
      refine lv_iconst (v := (nI 0)) hx hb dX2_back_36 zk_0 ?_
      refine z_cv (z_runS (As := [.ref (q 15), .int (nI (46 * k)), .ref (q 11), .int (nI 0)]) (rest := []) hC zs_X2_130 (m_X2_copies G l (q 15) (q 11) (46 * k) 0 92 46 (b 15) (vI (aV A)) (by omega) (by omega) (by decide) (by decide) (zrem [7, 4] _)) (hw.perm (z_cut (is := [7, 4]) (cells := [(q 15, zc G 0 (zI 92 (b 15))), (q 11, zc G 0 (zI 46 (vI (aV A))))]) rfl rfl)) rfl rfl (Nat.le_of_ble_eq_true rfl) hl.1 ⟨Nat.le_of_ble_eq_true rfl, Nat.le_of_ble_eq_true rfl⟩ ⟨(Nat.le_of_ble_eq_true rfl), (Nat.le_of_ble_eq_true rfl)⟩ dX2_back_37) hw (fun _ => z_pput (is := [7, 4]) (cells := [(q 15, zc G 0 (zI 92 (b 15))), (q 11, zc G 0 (zI 46 (vI (aV A))))]) (cells' := [(q 15, zc G 0 (zI 92 (b 15))), (q 11, zc G 0 (zI 46 (va_cpy (b 15) (vI (aV A)) (46 * k) 0 46)))]) rfl rfl rfl) (fun u H locs hp hw => ?_)
      have hw : zS G ((mo, zo 2 (mF q (f 1) (f 2) (f 3) (f 4) (f 5) (f 6) (f 7) (f 8) (nI (aU A)) (f 19))) :: (q 0, zc G 0 (zI 200 (b 0))) :: (q 9, zc G 0 (zI 46 (b 9))) :: (q 10, zc G 0 (zI 46 (b 10))) :: (q 11, zc G 0 (zI 46 (va_cpy (b 15) (vI (aV A)) (46 * k) 0 46))) :: (q 12, zc G 0 (zI 46 (b 12))) :: (q 13, zc G 0 (zI 368 (b 13))) :: (q 15, zc G 0 (zI 92 (b 15))) :: (q 16, zc G 3 (zI 2 (b 16))) :: (q 17, zc G 0 (zI 5 (b 17))) :: (q 18, zc G 0 (zI 24 (b 18))) :: (q 20, zc G 0 (zI 3 (b 20))) :: (q 21, zc G 0 (zI 3 (b 21))) :: (q 22, zc G 0 (zI 3 (b 22))) :: (q 23, zc G 0 (zI 36 (b 23))) :: (q 24, zc G 0 (zI 36 (b 24))) :: rest) s H locs := hw
      refine lv_aload_n hx hb dX2_back_40 rfl (lv_at hl 0 rfl) ?_
      refine lv_iconst (v := (nI 0)) hx hb dX2_back_41 zk_0 ?_
      refine z_puti hC zf_X2_146_2 hw 0 rfl (Nat.le_of_ble_eq_true rfl) dX2_back_42 (fun H locs hw => ?_)
      have hw : zS G ((mo, zo 2 (mF q (f 1) (f 2) (f 3) (f 4) (f 5) (f 6) (f 7) (f 8) (nI 0) (f 19))) :: (q 0, zc G 0 (zI 200 (b 0))) :: (q 9, zc G 0 (zI 46 (b 9))) :: (q 10, zc G 0 (zI 46 (b 10))) :: (q 11, zc G 0 (zI 46 (va_cpy (b 15) (vI (aV A)) (46 * k) 0 46))) :: (q 12, zc G 0 (zI 46 (b 12))) :: (q 13, zc G 0 (zI 368 (b 13))) :: (q 15, zc G 0 (zI 92 (b 15))) :: (q 16, zc G 3 (zI 2 (b 16))) :: (q 17, zc G 0 (zI 5 (b 17))) :: (q 18, zc G 0 (zI 24 (b 18))) :: (q 20, zc G 0 (zI 3 (b 20))) :: (q 21, zc G 0 (zI 3 (b 21))) :: (q 22, zc G 0 (zI 3 (b 22))) :: (q 23, zc G 0 (zI 36 (b 23))) :: (q 24, zc G 0 (zI 36 (b 24))) :: rest) s H locs := hw
      refine lv_aload_n hx hb dX2_back_45 rfl (lv_at hl 0 rfl) ?_
      refine z_get (v := .ref (q 11)) hC zf_X2_19_2 hw 0 rfl rfl dX2_back_46 ?_
      refine lv_iconst (v := (nI 2)) hx hb dX2_back_49 zk_2 ?_
      refine z_iald (x := (nI (w 2))) hC hw 4 rfl (by decide) (by decide) (rH_back hw2 2 (by decide)) dX2_back_50 ?_
      exact hend _ _ _ _ _ _ _ ((bU b 11 (va_cpy (b 15) (vI (aV A)) (46 * k) 0 46)), mf (f 1) (f 2) (f 3) (f 4) (f 5) (f 6) (f 7) (f 8) (nI 0) (f 19)) hw (by rw [show F_back A (nI k) = (nI (w 2), mkA (aT A) (aL A) (aV0 A) w 0 (aUs A) (aK A) (aS A) (aSg A) (aTr A)) from (ifP_t ⟨k, hk1, hk2, rfl⟩).trans (by rw [cl_nI (by omega), hw1])]; exact ⟨rfl, ⟨⟨hT, hL⟩, hV0, (rH_back hw2), ⟨rfl, (fun j hj => absurd hj (Nat.not_lt_zero j))⟩, hKp, ⟨hSi, hSg⟩, (fun t ht => tRel_of rfl rfl rfl rfl rfl (hTr t ht))⟩⟩) (by omega) (by omega) dX2_back_51
    · skip
      have hnone := kRel_f hkk hP c_18
      refine lv_bipush (v := (-4)) hx hb dX2_back_21 zb_m4 ?_
      exact hend _ _ _ _ _ _ _ ((bU b 11 (vI (aV A))), mf (f 1) (f 2) (f 3) (f 4) (f 5) (f 6) (f 7) (f 8) (nI (aU A)) (f 19)) hw (by rw [show F_back A (nI k) = (-4, A) from (ifP_t ⟨k, hk1, hk2, rfl⟩).trans (by rw [cl_nI (by omega), hnone])]; exact ⟨rfl, ⟨⟨hT, hL⟩, hV0, rH_vI, ⟨rfl, hUs⟩, hKp, ⟨hSi, hSg⟩, (fun t ht => tRel_of rfl rfl rfl rfl rfl (hTr t ht))⟩⟩) (by omega) (by omega) dX2_back_23
  · skip
    refine lv_bipush (v := (-2)) hx hb dX2_back_9 zb_m2 ?_
    exact hend _ _ _ _ _ _ _ ((bU b 11 (vI (aV A))), mf (f 1) (f 2) (f 3) (f 4) (f 5) (f 6) (f 7) (f 8) (nI (aU A)) (f 19)) hw (by rw [show F_back A x = _ from ifP_f c_6]; exact ⟨rfl, ⟨⟨hT, hL⟩, hV0, rH_vI, ⟨rfl, hUs⟩, hKp, ⟨hSi, hSg⟩, (fun t ht => tRel_of rfl rfl rfl rfl rfl (hTr t ht))⟩⟩) (by omega) (by omega) dX2_back_11
theorem cpy_hedge {v : Nat → Nat} {g : Nat → Int32} {j : Nat} (hj : j < 46) : va_cpy (vI v) g 0 0 46 j = vI v j := by
  unfold va_cpy
  rw [if_pos ⟨by omega, by omega⟩]
  show nI _ = nI _
  congr 2; omega
theorem zv_X2_207 : zVs RX2 207 yX2_goesOn cX2_goesOn 3 none 1 := ⟨lw_V q2053 q2055 qs44 q53 q2056, ⟨by decide +kernel, by decide +kernel⟩, by decide +kernel⟩
set_option maxHeartbeats 4000000 in
theorem m_X2_behind (G : zE) (l : Launch) (mo : Nat) (q : Nat → Nat) (A : AS) (b : Nat → Nat → Int32) (f : Nat → Int32) (hA : AOk A) (hM : MRel A b f) (x : Int32) (y : Int32) (z : Int32) (rest : va_W) : zMi G l yX2_behind cX2_behind 4 (some .int) 6 0 0 [.ref mo, .int x, .int y, .int z] ((mo, zo 2 (mF q (f 1) (f 2) (f 3) (f 4) (f 5) (f 6) (f 7) (f 8) (f 14) (f 19))) :: (q 0, zc G 0 (zI 200 (b 0))) :: (q 9, zc G 0 (zI 46 (b 9))) :: (q 10, zc G 0 (zI 46 (b 10))) :: (q 11, zc G 0 (zI 46 (b 11))) :: (q 12, zc G 0 (zI 46 (b 12))) :: (q 13, zc G 0 (zI 368 (b 13))) :: (q 15, zc G 0 (zI 92 (b 15))) :: (q 16, zc G 3 (zI 2 (b 16))) :: (q 17, zc G 0 (zI 5 (b 17))) :: (q 18, zc G 0 (zI 24 (b 18))) :: (q 20, zc G 0 (zI 3 (b 20))) :: (q 21, zc G 0 (zI 3 (b 21))) :: (q 22, zc G 0 (zI 3 (b 22))) :: (q 23, zc G 0 (zI 36 (b 23))) :: (q 24, zc G 0 (zI 36 (b 24))) :: rest) (fun (r : Int32) (u : MB) => r = F_behind A x y z ∧ MRel A u.1 u.2) (fun (u : MB) => (mo, zo 2 (mF q (u.2 1) (u.2 2) (u.2 3) (u.2 4) (u.2 5) (u.2 6) (u.2 7) (u.2 8) (u.2 14) (u.2 19))) :: (q 0, zc G 0 (zI 200 (u.1 0))) :: (q 9, zc G 0 (zI 46 (u.1 9))) :: (q 10, zc G 0 (zI 46 (u.1 10))) :: (q 11, zc G 0 (zI 46 (u.1 11))) :: (q 12, zc G 0 (zI 46 (u.1 12))) :: (q 13, zc G 0 (zI 368 (u.1 13))) :: (q 15, zc G 0 (zI 92 (u.1 15))) :: (q 16, zc G 3 (zI 2 (u.1 16))) :: (q 17, zc G 0 (zI 5 (u.1 17))) :: (q 18, zc G 0 (zI 24 (u.1 18))) :: (q 20, zc G 0 (zI 3 (u.1 20))) :: (q 21, zc G 0 (zI 3 (u.1 21))) :: (q 22, zc G 0 (zI 3 (u.1 22))) :: (q 23, zc G 0 (zI 36 (u.1 23))) :: (q 24, zc G 0 (zI 36 (u.1 24))) :: rest) := by
  refine z_begI (by decide) (Nat.le_of_ble_eq_true rfl) (fun p e s m args below meth c ls Q hC hl hw hend => ?_)
  have hx := hC.hx
  have hb := hC.hb
  have hl : lv_has ls 4 [(0, .ref mo), (1, .int x), (2, .int y), (3, .int z)] := hl
  have hw : zS G ((mo, zo 2 (mF q (f 1) (f 2) (f 3) (f 4) (f 5) (f 6) (f 7) (f 8) (f 14) (f 19))) :: (q 0, zc G 0 (zI 200 (b 0))) :: (q 9, zc G 0 (zI 46 (b 9))) :: (q 10, zc G 0 (zI 46 (b 10))) :: (q 11, zc G 0 (zI 46 (b 11))) :: (q 12, zc G 0 (zI 46 (b 12))) :: (q 13, zc G 0 (zI 368 (b 13))) :: (q 15, zc G 0 (zI 92 (b 15))) :: (q 16, zc G 3 (zI 2 (b 16))) :: (q 17, zc G 0 (zI 5 (b 17))) :: (q 18, zc G 0 (zI 24 (b 18))) :: (q 20, zc G 0 (zI 3 (b 20))) :: (q 21, zc G 0 (zI 3 (b 21))) :: (q 22, zc G 0 (zI 3 (b 22))) :: (q 23, zc G 0 (zI 36 (b 23))) :: (q 24, zc G 0 (zI 36 (b 24))) :: rest) s s.heap [] := hw
  have hA9 := hA
  obtain ⟨⟨hT, hL⟩, hV0, hV, ⟨hU, hUs⟩, hKp, ⟨hSi, hSg⟩, hTr⟩ := hM
  obtain ⟨⟨hL2, hT2⟩, hB0, hBv, ⟨hU8, hUb⟩, hKb, ⟨hS6, hSb⟩, hTb⟩ := hA
  have hH : Hw (aV A) := hBv.1.1
  have hday := hBv.2.2
  have hw := hw.cellI 4 rfl (g := vI (aV A)) (fun j hj => by have := hV j hj; rwa [Nat.zero_add] at this)
  have hw : zS G ((mo, zo 2 (mF q (f 1) (f 2) (f 3) (f 4) (f 5) (f 6) (f 7) (f 8) (f 14) (f 19))) :: (q 0, zc G 0 (zI 200 (b 0))) :: (q 9, zc G 0 (zI 46 (b 9))) :: (q 10, zc G 0 (zI 46 (b 10))) :: (q 11, zc G 0 (zI 46 (vI (aV A)))) :: (q 12, zc G 0 (zI 46 (b 12))) :: (q 13, zc G 0 (zI 368 (b 13))) :: (q 15, zc G 0 (zI 92 (b 15))) :: (q 16, zc G 3 (zI 2 (b 16))) :: (q 17, zc G 0 (zI 5 (b 17))) :: (q 18, zc G 0 (zI 24 (b 18))) :: (q 20, zc G 0 (zI 3 (b 20))) :: (q 21, zc G 0 (zI 3 (b 21))) :: (q 22, zc G 0 (zI 3 (b 22))) :: (q 23, zc G 0 (zI 36 (b 23))) :: (q 24, zc G 0 (zI 36 (b 24))) :: rest) s s.heap [] := hw
  refine lv_aload_n hx hb dX2_behind_0 rfl (lv_at hl 0 rfl) ?_
  refine lv_iload_n hx hb dX2_behind_1 rfl (lv_at hl 1 rfl) ?_
  refine z_ci (z_runV (As := [.int x]) (rest := []) hC zv_X2_194 (m_X2_isSquirrel G l mo q (f 1) (f 2) (f 3) (f 4) (f 5) (f 6) (f 7) (f 8) (f 14) (f 19) x (aV A) (by first | assumption | (omega)) (zrem [0, 4] _)) hw (hw.perm (z_cut (is := [0, 4]) (cells := [(mo, zo 2 (mF q (f 1) (f 2) (f 3) (f 4) (f 5) (f 6) (f 7) (f 8) (f 14) (f 19))), (q 11, zc G 0 (zI 46 (vI (aV A))))]) rfl rfl)) 0 rfl rfl rfl rfl rfl (Nat.le_of_ble_eq_true rfl) hl.1 ⟨Nat.le_of_ble_eq_true rfl, Nat.le_of_ble_eq_true rfl⟩ ⟨(Nat.le_of_ble_eq_true rfl), (Nat.le_of_ble_eq_true rfl)⟩ dX2_behind_2) hw (fun _ => z_keep (is := [0, 4]) (cs := [(mo, zo 2 (mF q (f 1) (f 2) (f 3) (f 4) (f 5) (f 6) (f 7) (f 8) (f 14) (f 19))), (q 11, zc G 0 (zI 46 (vI (aV A))))]) rfl rfl) (fun r u H locs hp hw => ?_)
  obtain rfl : r = bI (isP ((aV A) 1) x) := hp
  refine zb_ne (tgt := 11) hx hb dX2_behind_5 (by decide) (fun c_5 => ?_) (fun c_5 => ?_)
  · skip
    obtain ⟨i, hi, rfl⟩ := c_5
    have hl : lv_has ls 4 [(0, .ref mo), (1, .int (nI i)), (2, .int y), (3, .int z)] := hl
    have hp5 := hH.2.1
    refine lv_iload_n hx hb dX2_behind_11 rfl (lv_at hl 2 rfl) ?_
    refine lv_iconst (v := (nI 0)) hx hb dX2_behind_12 zk_0 ?_
    refine lv_bipush (v := (nI 60)) hx hb dX2_behind_13 zb_60 ?_
    refine z_ci (z_runS (As := [.int y, .int (nI 0), .int (nI 60)]) (rest := []) hC zs_X2_59 (m_X2_in_n G l y 0 60 (by decide) (by decide) _) hw rfl rfl (Nat.le_of_ble_eq_true rfl) hl.1 ⟨Nat.le_of_ble_eq_true rfl, Nat.le_of_ble_eq_true rfl⟩ ⟨(Nat.le_of_ble_eq_true rfl), (Nat.le_of_ble_eq_true rfl)⟩ dX2_behind_15) hw (fun _ => List.Perm.refl _) (fun r u H locs hp hw => ?_)
    obtain rfl : r = bI (inR y 0 60) := hp
    refine zb_eq (tgt := 36) hx hb dX2_behind_18 (by decide) (fun c_18 => ?_) (fun c_18 => ?_)
    · skip
      refine lv_bipush (v := (-3)) hx hb dX2_behind_36 zb_m3 ?_
      exact hend _ _ _ _ _ _ _ ((bU b 11 (vI (aV A))), mf (f 1) (f 2) (f 3) (f 4) (f 5) (f 6) (f 7) (f 8) (f 14) (f 19)) hw ⟨(by first | exact ((ifP_t ⟨i, hi, rfl⟩).trans (ifP_f (fun h => c_18 h.1))).symm | exact ((ifP_t ⟨i, hi, rfl⟩).trans (ifP_f (fun h => h.2.elim c_23 (fun h => h.elim c_28 c_33)))).symm), ⟨⟨hT, hL⟩, hV0, rH_vI, ⟨hU, hUs⟩, hKp, ⟨hSi, hSg⟩, (fun t ht => tRel_of rfl rfl rfl rfl rfl (hTr t ht))⟩⟩ (by omega) (by omega) dX2_behind_38
    · skip
      have hcy := c_18
      obtain ⟨k, hk1, hk2, rfl⟩ := c_18
      have hl : lv_has ls 4 [(0, .ref mo), (1, .int (nI i)), (2, .int (nI k)), (3, .int z)] := hl
      refine lv_iload_n hx hb dX2_behind_21 rfl (lv_at hl 3 rfl) ?_
      refine lv_iconst (v := (nI 1)) hx hb dX2_behind_22 zk_1 ?_
      refine lv_icmp_eq (tgt := 39) hx hb dX2_behind_23 (by decide) (fun c_23 => ?_) (fun c_23 => ?_)
      · skip
        obtain ⟨z1, hz1, rfl⟩ : ∃ z1 : Nat, z1 ≤ 4 ∧ z = nI z1 := by first | exact ⟨1, by decide, c_23⟩ | exact ⟨3, by decide, c_28⟩ | exact ⟨4, by decide, c_33⟩
        · skip
          have hl : lv_has ls 4 [(0, .ref mo), (1, .int (nI i)), (2, .int (nI k)), (3, .int (nI z1))] := hl
          have hw : zS G ((mo, zo 2 (mF q (f 1) (f 2) (f 3) (f 4) (f 5) (f 6) (f 7) (f 8) (f 14) (f 19))) :: (q 0, zc G 0 (zI 200 (b 0))) :: (q 9, zc G 0 (zI 46 (b 9))) :: (q 10, zc G 0 (zI 46 (b 10))) :: (q 11, zc G 0 (zI 46 (vI (aV A)))) :: (q 12, zc G 0 (zI 46 (b 12))) :: (q 13, zc G 0 (zI 368 (b 13))) :: (q 15, zc G 0 (zI 92 (b 15))) :: (q 16, zc G 3 (zI 2 (b 16))) :: (q 17, zc G 0 (zI 5 (b 17))) :: (q 18, zc G 0 (zI 24 (b 18))) :: (q 20, zc G 0 (zI 3 (b 20))) :: (q 21, zc G 0 (zI 3 (b 21))) :: (q 22, zc G 0 (zI 3 (b 22))) :: (q 23, zc G 0 (zI 36 (b 23))) :: (q 24, zc G 0 (zI 36 (b 24))) :: rest) s H locs := hw
          refine lv_aload_n hx hb dX2_behind_39 rfl (lv_at hl 0 rfl) ?_
          refine z_get (v := .ref (q 11)) hC zf_X2_19_2 hw 0 rfl rfl dX2_behind_40 ?_
          refine lv_iconst (v := (nI 0)) hx hb dX2_behind_43 zk_0 ?_
          refine lv_aload_n hx hb dX2_behind_44 rfl (lv_at hl 0 rfl) ?_
          refine z_get (v := .ref (q 12)) hC zf_X2_22_2 hw 0 rfl rfl dX2_behind_45 ?_
          refine lv_iconst (v := (nI 0)) hx hb dX2_behind_48 zk_0 ?_
          refine z_cv (z_runS (As := [.ref (q 11), .int (nI 0), .ref (q 12), .int (nI 0)]) (rest := []) hC zs_X2_130 (m_X2_copies G l (q 11) (q 12) 0 0 46 46 (vI (aV A)) (b 12) (by omega) (by omega) (by decide) (by decide) (zrem [4, 5] _)) (hw.perm (z_cut (is := [4, 5]) (cells := [(q 11, zc G 0 (zI 46 (vI (aV A)))), (q 12, zc G 0 (zI 46 (b 12)))]) rfl rfl)) rfl rfl (Nat.le_of_ble_eq_true rfl) hl.1 ⟨Nat.le_of_ble_eq_true rfl, Nat.le_of_ble_eq_true rfl⟩ ⟨(Nat.le_of_ble_eq_true rfl), (Nat.le_of_ble_eq_true rfl)⟩ dX2_behind_49) hw (fun _ => z_pput (is := [4, 5]) (cells := [(q 11, zc G 0 (zI 46 (vI (aV A)))), (q 12, zc G 0 (zI 46 (b 12)))]) (cells' := [(q 11, zc G 0 (zI 46 (vI (aV A)))), (q 12, zc G 0 (zI 46 (va_cpy (vI (aV A)) (b 12) 0 0 46)))]) rfl rfl rfl) (fun u H locs hp hw => ?_)
          have hw : zS G ((mo, zo 2 (mF q (f 1) (f 2) (f 3) (f 4) (f 5) (f 6) (f 7) (f 8) (f 14) (f 19))) :: (q 0, zc G 0 (zI 200 (b 0))) :: (q 9, zc G 0 (zI 46 (b 9))) :: (q 10, zc G 0 (zI 46 (b 10))) :: (q 11, zc G 0 (zI 46 (vI (aV A)))) :: (q 12, zc G 0 (zI 46 (va_cpy (vI (aV A)) (b 12) 0 0 46))) :: (q 13, zc G 0 (zI 368 (b 13))) :: (q 15, zc G 0 (zI 92 (b 15))) :: (q 16, zc G 3 (zI 2 (b 16))) :: (q 17, zc G 0 (zI 5 (b 17))) :: (q 18, zc G 0 (zI 24 (b 18))) :: (q 20, zc G 0 (zI 3 (b 20))) :: (q 21, zc G 0 (zI 3 (b 21))) :: (q 22, zc G 0 (zI 3 (b 22))) :: (q 23, zc G 0 (zI 36 (b 23))) :: (q 24, zc G 0 (zI 36 (b 24))) :: rest) s H locs := hw
          have hw := hw.cellI 5 rfl (g := vI (aV A)) (fun j hj => cpy_hedge hj)
          have hw : zS G ((mo, zo 2 (mF q (f 1) (f 2) (f 3) (f 4) (f 5) (f 6) (f 7) (f 8) (f 14) (f 19))) :: (q 0, zc G 0 (zI 200 (b 0))) :: (q 9, zc G 0 (zI 46 (b 9))) :: (q 10, zc G 0 (zI 46 (b 10))) :: (q 11, zc G 0 (zI 46 (vI (aV A)))) :: (q 12, zc G 0 (zI 46 (vI (aV A)))) :: (q 13, zc G 0 (zI 368 (b 13))) :: (q 15, zc G 0 (zI 92 (b 15))) :: (q 16, zc G 3 (zI 2 (b 16))) :: (q 17, zc G 0 (zI 5 (b 17))) :: (q 18, zc G 0 (zI 24 (b 18))) :: (q 20, zc G 0 (zI 3 (b 20))) :: (q 21, zc G 0 (zI 3 (b 21))) :: (q 22, zc G 0 (zI 3 (b 22))) :: (q 23, zc G 0 (zI 36 (b 23))) :: (q 24, zc G 0 (zI 36 (b 24))) :: rest) s H locs := hw
          refine lv_aload_n hx hb dX2_behind_52 rfl (lv_at hl 0 rfl) ?_
          refine lv_iload_n hx hb dX2_behind_53 rfl (lv_at hl 2 rfl) ?_
          refine z_cv (z_runV (As := [.int (nI k)]) (rest := []) hC zv_X2_207 (m_X2_goesOn G l mo q (f 1) (f 2) (f 3) (f 4) (f 5) (f 6) (f 7) (f 8) (f 14) (f 19) k (aV A) hH (b 17) (by omega) (by omega) (zrem [0, 5, 9] _)) hw (hw.perm (z_cut (is := [0, 5, 9]) (cells := [(mo, zo 2 (mF q (f 1) (f 2) (f 3) (f 4) (f 5) (f 6) (f 7) (f 8) (f 14) (f 19))), (q 12, zc G 0 (zI 46 (vI (aV A)))), (q 17, zc G 0 (zI 5 (b 17)))]) rfl rfl)) 0 rfl rfl rfl rfl rfl (Nat.le_of_ble_eq_true rfl) hl.1 ⟨Nat.le_of_ble_eq_true rfl, Nat.le_of_ble_eq_true rfl⟩ ⟨(Nat.le_of_ble_eq_true rfl), (Nat.le_of_ble_eq_true rfl)⟩ dX2_behind_54) hw (fun u => z_pput (is := [0, 5, 9]) (cells := [(mo, zo 2 (mF q (f 1) (f 2) (f 3) (f 4) (f 5) (f 6) (f 7) (f 8) (f 14) (f 19))), (q 12, zc G 0 (zI 46 (vI (aV A)))), (q 17, zc G 0 (zI 5 (b 17)))]) (cells' := [(mo, zo 2 (mF q (f 1) (f 2) (f 3) (f 4) (f 5) (f 6) (f 7) (f 8) (f 14) (f 19))), (q 12, zc G 0 (zI 46 (vI (daysN k (aV A))))), (q 17, zc G 0 (zI 5 u))]) rfl rfl rfl) (fun u H locs hp hw => ?_)
          obtain ⟨af1_1, rfl⟩ : ∃ z, z = u := ⟨_, rfl⟩
          have hw : zS G ((mo, zo 2 (mF q (f 1) (f 2) (f 3) (f 4) (f 5) (f 6) (f 7) (f 8) (f 14) (f 19))) :: (q 0, zc G 0 (zI 200 (b 0))) :: (q 9, zc G 0 (zI 46 (b 9))) :: (q 10, zc G 0 (zI 46 (b 10))) :: (q 11, zc G 0 (zI 46 (vI (aV A)))) :: (q 12, zc G 0 (zI 46 (vI (daysN k (aV A))))) :: (q 13, zc G 0 (zI 368 (b 13))) :: (q 15, zc G 0 (zI 92 (b 15))) :: (q 16, zc G 3 (zI 2 (b 16))) :: (q 17, zc G 0 (zI 5 af1_1)) :: (q 18, zc G 0 (zI 24 (b 18))) :: (q 20, zc G 0 (zI 3 (b 20))) :: (q 21, zc G 0 (zI 3 (b 21))) :: (q 22, zc G 0 (zI 3 (b 22))) :: (q 23, zc G 0 (zI 36 (b 23))) :: (q 24, zc G 0 (zI 36 (b 24))) :: rest) s H locs := hw
          refine lv_aload_n hx hb dX2_behind_57 rfl (lv_at hl 0 rfl) ?_
          refine z_get (v := .ref (q 12)) hC zf_X2_22_2 hw 0 rfl rfl dX2_behind_58 ?_
          refine lv_bipush (v := (nI 21)) hx hb dX2_behind_61 zb_21 ?_
          refine lv_iconst (v := (nI 5)) hx hb dX2_behind_63 zk_5 ?_
          refine lv_iload_n hx hb dX2_behind_64 rfl (lv_at hl 1 rfl) ?_
          refine zn_imul hx hb dX2_behind_65 ?_
          refine zn_iadd hx hb dX2_behind_66 ?_
          refine lv_iload_n hx hb dX2_behind_67 rfl (lv_at hl 3 rfl) ?_
          refine zn_iadd hx hb dX2_behind_68 ?_
          refine z_iald (x := (nI ((daysN k (aV A)) (21 + 5 * i + z1)))) hC hw 5 rfl (by omega) (by decide) rfl dX2_behind_69 ?_
          exact hend _ _ _ _ _ _ _ ((bU (bU (bU b 11 (vI (aV A))) 12 (vI (daysN k (aV A)))) 17 af1_1), mf (f 1) (f 2) (f 3) (f 4) (f 5) (f 6) (f 7) (f 8) (f 14) (f 19)) hw ⟨(by unfold F_behind; rw [ifP_t ⟨i, hi, rfl⟩, ifP_t ⟨⟨k, hk1, hk2, rfl⟩, by first | exact Or.inl c_23 | exact Or.inr (Or.inl c_28) | exact Or.inr (Or.inr c_33)⟩, cl_nI (by omega), cl_nI (by omega), cl_nI (by omega)]), ⟨⟨hT, hL⟩, hV0, rH_vI, ⟨hU, hUs⟩, hKp, ⟨hSi, hSg⟩, (fun t ht => tRel_of rfl rfl rfl rfl rfl (hTr t ht))⟩⟩ (by omega) (by omega) dX2_behind_70
      · skip
        refine lv_iload_n hx hb dX2_behind_26 rfl (lv_at hl 3 rfl) ?_
        refine lv_iconst (v := (nI 3)) hx hb dX2_behind_27 zk_3 ?_
        refine lv_icmp_eq (tgt := 39) hx hb dX2_behind_28 (by decide) (fun c_28 => ?_) (fun c_28 => ?_)
        · skip
          obtain ⟨z1, hz1, rfl⟩ : ∃ z1 : Nat, z1 ≤ 4 ∧ z = nI z1 := by first | exact ⟨1, by decide, c_23⟩ | exact ⟨3, by decide, c_28⟩ | exact ⟨4, by decide, c_33⟩
          · skip
            have hl : lv_has ls 4 [(0, .ref mo), (1, .int (nI i)), (2, .int (nI k)), (3, .int (nI z1))] := hl
            have hw : zS G ((mo, zo 2 (mF q (f 1) (f 2) (f 3) (f 4) (f 5) (f 6) (f 7) (f 8) (f 14) (f 19))) :: (q 0, zc G 0 (zI 200 (b 0))) :: (q 9, zc G 0 (zI 46 (b 9))) :: (q 10, zc G 0 (zI 46 (b 10))) :: (q 11, zc G 0 (zI 46 (vI (aV A)))) :: (q 12, zc G 0 (zI 46 (b 12))) :: (q 13, zc G 0 (zI 368 (b 13))) :: (q 15, zc G 0 (zI 92 (b 15))) :: (q 16, zc G 3 (zI 2 (b 16))) :: (q 17, zc G 0 (zI 5 (b 17))) :: (q 18, zc G 0 (zI 24 (b 18))) :: (q 20, zc G 0 (zI 3 (b 20))) :: (q 21, zc G 0 (zI 3 (b 21))) :: (q 22, zc G 0 (zI 3 (b 22))) :: (q 23, zc G 0 (zI 36 (b 23))) :: (q 24, zc G 0 (zI 36 (b 24))) :: rest) s H locs := hw
            refine lv_aload_n hx hb dX2_behind_39 rfl (lv_at hl 0 rfl) ?_
            refine z_get (v := .ref (q 11)) hC zf_X2_19_2 hw 0 rfl rfl dX2_behind_40 ?_
            refine lv_iconst (v := (nI 0)) hx hb dX2_behind_43 zk_0 ?_
            refine lv_aload_n hx hb dX2_behind_44 rfl (lv_at hl 0 rfl) ?_
            refine z_get (v := .ref (q 12)) hC zf_X2_22_2 hw 0 rfl rfl dX2_behind_45 ?_
            refine lv_iconst (v := (nI 0)) hx hb dX2_behind_48 zk_0 ?_
            refine z_cv (z_runS (As := [.ref (q 11), .int (nI 0), .ref (q 12), .int (nI 0)]) (rest := []) hC zs_X2_130 (m_X2_copies G l (q 11) (q 12) 0 0 46 46 (vI (aV A)) (b 12) (by omega) (by omega) (by decide) (by decide) (zrem [4, 5] _)) (hw.perm (z_cut (is := [4, 5]) (cells := [(q 11, zc G 0 (zI 46 (vI (aV A)))), (q 12, zc G 0 (zI 46 (b 12)))]) rfl rfl)) rfl rfl (Nat.le_of_ble_eq_true rfl) hl.1 ⟨Nat.le_of_ble_eq_true rfl, Nat.le_of_ble_eq_true rfl⟩ ⟨(Nat.le_of_ble_eq_true rfl), (Nat.le_of_ble_eq_true rfl)⟩ dX2_behind_49) hw (fun _ => z_pput (is := [4, 5]) (cells := [(q 11, zc G 0 (zI 46 (vI (aV A)))), (q 12, zc G 0 (zI 46 (b 12)))]) (cells' := [(q 11, zc G 0 (zI 46 (vI (aV A)))), (q 12, zc G 0 (zI 46 (va_cpy (vI (aV A)) (b 12) 0 0 46)))]) rfl rfl rfl) (fun u H locs hp hw => ?_)
            have hw : zS G ((mo, zo 2 (mF q (f 1) (f 2) (f 3) (f 4) (f 5) (f 6) (f 7) (f 8) (f 14) (f 19))) :: (q 0, zc G 0 (zI 200 (b 0))) :: (q 9, zc G 0 (zI 46 (b 9))) :: (q 10, zc G 0 (zI 46 (b 10))) :: (q 11, zc G 0 (zI 46 (vI (aV A)))) :: (q 12, zc G 0 (zI 46 (va_cpy (vI (aV A)) (b 12) 0 0 46))) :: (q 13, zc G 0 (zI 368 (b 13))) :: (q 15, zc G 0 (zI 92 (b 15))) :: (q 16, zc G 3 (zI 2 (b 16))) :: (q 17, zc G 0 (zI 5 (b 17))) :: (q 18, zc G 0 (zI 24 (b 18))) :: (q 20, zc G 0 (zI 3 (b 20))) :: (q 21, zc G 0 (zI 3 (b 21))) :: (q 22, zc G 0 (zI 3 (b 22))) :: (q 23, zc G 0 (zI 36 (b 23))) :: (q 24, zc G 0 (zI 36 (b 24))) :: rest) s H locs := hw
            have hw := hw.cellI 5 rfl (g := vI (aV A)) (fun j hj => cpy_hedge hj)
            have hw : zS G ((mo, zo 2 (mF q (f 1) (f 2) (f 3) (f 4) (f 5) (f 6) (f 7) (f 8) (f 14) (f 19))) :: (q 0, zc G 0 (zI 200 (b 0))) :: (q 9, zc G 0 (zI 46 (b 9))) :: (q 10, zc G 0 (zI 46 (b 10))) :: (q 11, zc G 0 (zI 46 (vI (aV A)))) :: (q 12, zc G 0 (zI 46 (vI (aV A)))) :: (q 13, zc G 0 (zI 368 (b 13))) :: (q 15, zc G 0 (zI 92 (b 15))) :: (q 16, zc G 3 (zI 2 (b 16))) :: (q 17, zc G 0 (zI 5 (b 17))) :: (q 18, zc G 0 (zI 24 (b 18))) :: (q 20, zc G 0 (zI 3 (b 20))) :: (q 21, zc G 0 (zI 3 (b 21))) :: (q 22, zc G 0 (zI 3 (b 22))) :: (q 23, zc G 0 (zI 36 (b 23))) :: (q 24, zc G 0 (zI 36 (b 24))) :: rest) s H locs := hw
            refine lv_aload_n hx hb dX2_behind_52 rfl (lv_at hl 0 rfl) ?_
            refine lv_iload_n hx hb dX2_behind_53 rfl (lv_at hl 2 rfl) ?_
            refine z_cv (z_runV (As := [.int (nI k)]) (rest := []) hC zv_X2_207 (m_X2_goesOn G l mo q (f 1) (f 2) (f 3) (f 4) (f 5) (f 6) (f 7) (f 8) (f 14) (f 19) k (aV A) hH (b 17) (by omega) (by omega) (zrem [0, 5, 9] _)) hw (hw.perm (z_cut (is := [0, 5, 9]) (cells := [(mo, zo 2 (mF q (f 1) (f 2) (f 3) (f 4) (f 5) (f 6) (f 7) (f 8) (f 14) (f 19))), (q 12, zc G 0 (zI 46 (vI (aV A)))), (q 17, zc G 0 (zI 5 (b 17)))]) rfl rfl)) 0 rfl rfl rfl rfl rfl (Nat.le_of_ble_eq_true rfl) hl.1 ⟨Nat.le_of_ble_eq_true rfl, Nat.le_of_ble_eq_true rfl⟩ ⟨(Nat.le_of_ble_eq_true rfl), (Nat.le_of_ble_eq_true rfl)⟩ dX2_behind_54) hw (fun u => z_pput (is := [0, 5, 9]) (cells := [(mo, zo 2 (mF q (f 1) (f 2) (f 3) (f 4) (f 5) (f 6) (f 7) (f 8) (f 14) (f 19))), (q 12, zc G 0 (zI 46 (vI (aV A)))), (q 17, zc G 0 (zI 5 (b 17)))]) (cells' := [(mo, zo 2 (mF q (f 1) (f 2) (f 3) (f 4) (f 5) (f 6) (f 7) (f 8) (f 14) (f 19))), (q 12, zc G 0 (zI 46 (vI (daysN k (aV A))))), (q 17, zc G 0 (zI 5 u))]) rfl rfl rfl) (fun u H locs hp hw => ?_)
            obtain ⟨af1_2, rfl⟩ : ∃ z, z = u := ⟨_, rfl⟩
            have hw : zS G ((mo, zo 2 (mF q (f 1) (f 2) (f 3) (f 4) (f 5) (f 6) (f 7) (f 8) (f 14) (f 19))) :: (q 0, zc G 0 (zI 200 (b 0))) :: (q 9, zc G 0 (zI 46 (b 9))) :: (q 10, zc G 0 (zI 46 (b 10))) :: (q 11, zc G 0 (zI 46 (vI (aV A)))) :: (q 12, zc G 0 (zI 46 (vI (daysN k (aV A))))) :: (q 13, zc G 0 (zI 368 (b 13))) :: (q 15, zc G 0 (zI 92 (b 15))) :: (q 16, zc G 3 (zI 2 (b 16))) :: (q 17, zc G 0 (zI 5 af1_2)) :: (q 18, zc G 0 (zI 24 (b 18))) :: (q 20, zc G 0 (zI 3 (b 20))) :: (q 21, zc G 0 (zI 3 (b 21))) :: (q 22, zc G 0 (zI 3 (b 22))) :: (q 23, zc G 0 (zI 36 (b 23))) :: (q 24, zc G 0 (zI 36 (b 24))) :: rest) s H locs := hw
            refine lv_aload_n hx hb dX2_behind_57 rfl (lv_at hl 0 rfl) ?_
            refine z_get (v := .ref (q 12)) hC zf_X2_22_2 hw 0 rfl rfl dX2_behind_58 ?_
            refine lv_bipush (v := (nI 21)) hx hb dX2_behind_61 zb_21 ?_
            refine lv_iconst (v := (nI 5)) hx hb dX2_behind_63 zk_5 ?_
            refine lv_iload_n hx hb dX2_behind_64 rfl (lv_at hl 1 rfl) ?_
            refine zn_imul hx hb dX2_behind_65 ?_
            refine zn_iadd hx hb dX2_behind_66 ?_
            refine lv_iload_n hx hb dX2_behind_67 rfl (lv_at hl 3 rfl) ?_
            refine zn_iadd hx hb dX2_behind_68 ?_
            refine z_iald (x := (nI ((daysN k (aV A)) (21 + 5 * i + z1)))) hC hw 5 rfl (by omega) (by decide) rfl dX2_behind_69 ?_
            exact hend _ _ _ _ _ _ _ ((bU (bU (bU b 11 (vI (aV A))) 12 (vI (daysN k (aV A)))) 17 af1_2), mf (f 1) (f 2) (f 3) (f 4) (f 5) (f 6) (f 7) (f 8) (f 14) (f 19)) hw ⟨(by unfold F_behind; rw [ifP_t ⟨i, hi, rfl⟩, ifP_t ⟨⟨k, hk1, hk2, rfl⟩, by first | exact Or.inl c_23 | exact Or.inr (Or.inl c_28) | exact Or.inr (Or.inr c_33)⟩, cl_nI (by omega), cl_nI (by omega), cl_nI (by omega)]), ⟨⟨hT, hL⟩, hV0, rH_vI, ⟨hU, hUs⟩, hKp, ⟨hSi, hSg⟩, (fun t ht => tRel_of rfl rfl rfl rfl rfl (hTr t ht))⟩⟩ (by omega) (by omega) dX2_behind_70
        · skip
          refine lv_iload_n hx hb dX2_behind_31 rfl (lv_at hl 3 rfl) ?_
          refine lv_iconst (v := (nI 4)) hx hb dX2_behind_32 zk_4 ?_
          refine lv_icmp_eq (tgt := 39) hx hb dX2_behind_33 (by decide) (fun c_33 => ?_) (fun c_33 => ?_)
          · skip
            obtain ⟨z1, hz1, rfl⟩ : ∃ z1 : Nat, z1 ≤ 4 ∧ z = nI z1 := by first | exact ⟨1, by decide, c_23⟩ | exact ⟨3, by decide, c_28⟩ | exact ⟨4, by decide, c_33⟩
            · skip
              have hl : lv_has ls 4 [(0, .ref mo), (1, .int (nI i)), (2, .int (nI k)), (3, .int (nI z1))] := hl
              have hw : zS G ((mo, zo 2 (mF q (f 1) (f 2) (f 3) (f 4) (f 5) (f 6) (f 7) (f 8) (f 14) (f 19))) :: (q 0, zc G 0 (zI 200 (b 0))) :: (q 9, zc G 0 (zI 46 (b 9))) :: (q 10, zc G 0 (zI 46 (b 10))) :: (q 11, zc G 0 (zI 46 (vI (aV A)))) :: (q 12, zc G 0 (zI 46 (b 12))) :: (q 13, zc G 0 (zI 368 (b 13))) :: (q 15, zc G 0 (zI 92 (b 15))) :: (q 16, zc G 3 (zI 2 (b 16))) :: (q 17, zc G 0 (zI 5 (b 17))) :: (q 18, zc G 0 (zI 24 (b 18))) :: (q 20, zc G 0 (zI 3 (b 20))) :: (q 21, zc G 0 (zI 3 (b 21))) :: (q 22, zc G 0 (zI 3 (b 22))) :: (q 23, zc G 0 (zI 36 (b 23))) :: (q 24, zc G 0 (zI 36 (b 24))) :: rest) s H locs := hw
              refine lv_aload_n hx hb dX2_behind_39 rfl (lv_at hl 0 rfl) ?_
              refine z_get (v := .ref (q 11)) hC zf_X2_19_2 hw 0 rfl rfl dX2_behind_40 ?_
              refine lv_iconst (v := (nI 0)) hx hb dX2_behind_43 zk_0 ?_
              refine lv_aload_n hx hb dX2_behind_44 rfl (lv_at hl 0 rfl) ?_
              refine z_get (v := .ref (q 12)) hC zf_X2_22_2 hw 0 rfl rfl dX2_behind_45 ?_
              refine lv_iconst (v := (nI 0)) hx hb dX2_behind_48 zk_0 ?_
              refine z_cv (z_runS (As := [.ref (q 11), .int (nI 0), .ref (q 12), .int (nI 0)]) (rest := []) hC zs_X2_130 (m_X2_copies G l (q 11) (q 12) 0 0 46 46 (vI (aV A)) (b 12) (by omega) (by omega) (by decide) (by decide) (zrem [4, 5] _)) (hw.perm (z_cut (is := [4, 5]) (cells := [(q 11, zc G 0 (zI 46 (vI (aV A)))), (q 12, zc G 0 (zI 46 (b 12)))]) rfl rfl)) rfl rfl (Nat.le_of_ble_eq_true rfl) hl.1 ⟨Nat.le_of_ble_eq_true rfl, Nat.le_of_ble_eq_true rfl⟩ ⟨(Nat.le_of_ble_eq_true rfl), (Nat.le_of_ble_eq_true rfl)⟩ dX2_behind_49) hw (fun _ => z_pput (is := [4, 5]) (cells := [(q 11, zc G 0 (zI 46 (vI (aV A)))), (q 12, zc G 0 (zI 46 (b 12)))]) (cells' := [(q 11, zc G 0 (zI 46 (vI (aV A)))), (q 12, zc G 0 (zI 46 (va_cpy (vI (aV A)) (b 12) 0 0 46)))]) rfl rfl rfl) (fun u H locs hp hw => ?_)
              have hw : zS G ((mo, zo 2 (mF q (f 1) (f 2) (f 3) (f 4) (f 5) (f 6) (f 7) (f 8) (f 14) (f 19))) :: (q 0, zc G 0 (zI 200 (b 0))) :: (q 9, zc G 0 (zI 46 (b 9))) :: (q 10, zc G 0 (zI 46 (b 10))) :: (q 11, zc G 0 (zI 46 (vI (aV A)))) :: (q 12, zc G 0 (zI 46 (va_cpy (vI (aV A)) (b 12) 0 0 46))) :: (q 13, zc G 0 (zI 368 (b 13))) :: (q 15, zc G 0 (zI 92 (b 15))) :: (q 16, zc G 3 (zI 2 (b 16))) :: (q 17, zc G 0 (zI 5 (b 17))) :: (q 18, zc G 0 (zI 24 (b 18))) :: (q 20, zc G 0 (zI 3 (b 20))) :: (q 21, zc G 0 (zI 3 (b 21))) :: (q 22, zc G 0 (zI 3 (b 22))) :: (q 23, zc G 0 (zI 36 (b 23))) :: (q 24, zc G 0 (zI 36 (b 24))) :: rest) s H locs := hw
              have hw := hw.cellI 5 rfl (g := vI (aV A)) (fun j hj => cpy_hedge hj)
              have hw : zS G ((mo, zo 2 (mF q (f 1) (f 2) (f 3) (f 4) (f 5) (f 6) (f 7) (f 8) (f 14) (f 19))) :: (q 0, zc G 0 (zI 200 (b 0))) :: (q 9, zc G 0 (zI 46 (b 9))) :: (q 10, zc G 0 (zI 46 (b 10))) :: (q 11, zc G 0 (zI 46 (vI (aV A)))) :: (q 12, zc G 0 (zI 46 (vI (aV A)))) :: (q 13, zc G 0 (zI 368 (b 13))) :: (q 15, zc G 0 (zI 92 (b 15))) :: (q 16, zc G 3 (zI 2 (b 16))) :: (q 17, zc G 0 (zI 5 (b 17))) :: (q 18, zc G 0 (zI 24 (b 18))) :: (q 20, zc G 0 (zI 3 (b 20))) :: (q 21, zc G 0 (zI 3 (b 21))) :: (q 22, zc G 0 (zI 3 (b 22))) :: (q 23, zc G 0 (zI 36 (b 23))) :: (q 24, zc G 0 (zI 36 (b 24))) :: rest) s H locs := hw
              refine lv_aload_n hx hb dX2_behind_52 rfl (lv_at hl 0 rfl) ?_
              refine lv_iload_n hx hb dX2_behind_53 rfl (lv_at hl 2 rfl) ?_
              refine z_cv (z_runV (As := [.int (nI k)]) (rest := []) hC zv_X2_207 (m_X2_goesOn G l mo q (f 1) (f 2) (f 3) (f 4) (f 5) (f 6) (f 7) (f 8) (f 14) (f 19) k (aV A) hH (b 17) (by omega) (by omega) (zrem [0, 5, 9] _)) hw (hw.perm (z_cut (is := [0, 5, 9]) (cells := [(mo, zo 2 (mF q (f 1) (f 2) (f 3) (f 4) (f 5) (f 6) (f 7) (f 8) (f 14) (f 19))), (q 12, zc G 0 (zI 46 (vI (aV A)))), (q 17, zc G 0 (zI 5 (b 17)))]) rfl rfl)) 0 rfl rfl rfl rfl rfl (Nat.le_of_ble_eq_true rfl) hl.1 ⟨Nat.le_of_ble_eq_true rfl, Nat.le_of_ble_eq_true rfl⟩ ⟨(Nat.le_of_ble_eq_true rfl), (Nat.le_of_ble_eq_true rfl)⟩ dX2_behind_54) hw (fun u => z_pput (is := [0, 5, 9]) (cells := [(mo, zo 2 (mF q (f 1) (f 2) (f 3) (f 4) (f 5) (f 6) (f 7) (f 8) (f 14) (f 19))), (q 12, zc G 0 (zI 46 (vI (aV A)))), (q 17, zc G 0 (zI 5 (b 17)))]) (cells' := [(mo, zo 2 (mF q (f 1) (f 2) (f 3) (f 4) (f 5) (f 6) (f 7) (f 8) (f 14) (f 19))), (q 12, zc G 0 (zI 46 (vI (daysN k (aV A))))), (q 17, zc G 0 (zI 5 u))]) rfl rfl rfl) (fun u H locs hp hw => ?_)
              obtain ⟨af1_3, rfl⟩ : ∃ z, z = u := ⟨_, rfl⟩
              have hw : zS G ((mo, zo 2 (mF q (f 1) (f 2) (f 3) (f 4) (f 5) (f 6) (f 7) (f 8) (f 14) (f 19))) :: (q 0, zc G 0 (zI 200 (b 0))) :: (q 9, zc G 0 (zI 46 (b 9))) :: (q 10, zc G 0 (zI 46 (b 10))) :: (q 11, zc G 0 (zI 46 (vI (aV A)))) :: (q 12, zc G 0 (zI 46 (vI (daysN k (aV A))))) :: (q 13, zc G 0 (zI 368 (b 13))) :: (q 15, zc G 0 (zI 92 (b 15))) :: (q 16, zc G 3 (zI 2 (b 16))) :: (q 17, zc G 0 (zI 5 af1_3)) :: (q 18, zc G 0 (zI 24 (b 18))) :: (q 20, zc G 0 (zI 3 (b 20))) :: (q 21, zc G 0 (zI 3 (b 21))) :: (q 22, zc G 0 (zI 3 (b 22))) :: (q 23, zc G 0 (zI 36 (b 23))) :: (q 24, zc G 0 (zI 36 (b 24))) :: rest) s H locs := hw
              refine lv_aload_n hx hb dX2_behind_57 rfl (lv_at hl 0 rfl) ?_
              refine z_get (v := .ref (q 12)) hC zf_X2_22_2 hw 0 rfl rfl dX2_behind_58 ?_
              refine lv_bipush (v := (nI 21)) hx hb dX2_behind_61 zb_21 ?_
              refine lv_iconst (v := (nI 5)) hx hb dX2_behind_63 zk_5 ?_
              refine lv_iload_n hx hb dX2_behind_64 rfl (lv_at hl 1 rfl) ?_
              refine zn_imul hx hb dX2_behind_65 ?_
              refine zn_iadd hx hb dX2_behind_66 ?_
              refine lv_iload_n hx hb dX2_behind_67 rfl (lv_at hl 3 rfl) ?_
              refine zn_iadd hx hb dX2_behind_68 ?_
              refine z_iald (x := (nI ((daysN k (aV A)) (21 + 5 * i + z1)))) hC hw 5 rfl (by omega) (by decide) rfl dX2_behind_69 ?_
              exact hend _ _ _ _ _ _ _ ((bU (bU (bU b 11 (vI (aV A))) 12 (vI (daysN k (aV A)))) 17 af1_3), mf (f 1) (f 2) (f 3) (f 4) (f 5) (f 6) (f 7) (f 8) (f 14) (f 19)) hw ⟨(by unfold F_behind; rw [ifP_t ⟨i, hi, rfl⟩, ifP_t ⟨⟨k, hk1, hk2, rfl⟩, by first | exact Or.inl c_23 | exact Or.inr (Or.inl c_28) | exact Or.inr (Or.inr c_33)⟩, cl_nI (by omega), cl_nI (by omega), cl_nI (by omega)]), ⟨⟨hT, hL⟩, hV0, rH_vI, ⟨hU, hUs⟩, hKp, ⟨hSi, hSg⟩, (fun t ht => tRel_of rfl rfl rfl rfl rfl (hTr t ht))⟩⟩ (by omega) (by omega) dX2_behind_70
          · skip
            refine lv_bipush (v := (-3)) hx hb dX2_behind_36 zb_m3 ?_
            exact hend _ _ _ _ _ _ _ ((bU b 11 (vI (aV A))), mf (f 1) (f 2) (f 3) (f 4) (f 5) (f 6) (f 7) (f 8) (f 14) (f 19)) hw ⟨(by first | exact ((ifP_t ⟨i, hi, rfl⟩).trans (ifP_f (fun h => c_18 h.1))).symm | exact ((ifP_t ⟨i, hi, rfl⟩).trans (ifP_f (fun h => h.2.elim c_23 (fun h => h.elim c_28 c_33)))).symm), ⟨⟨hT, hL⟩, hV0, rH_vI, ⟨hU, hUs⟩, hKp, ⟨hSi, hSg⟩, (fun t ht => tRel_of rfl rfl rfl rfl rfl (hTr t ht))⟩⟩ (by omega) (by omega) dX2_behind_38
  · skip
    refine lv_bipush (v := (-2)) hx hb dX2_behind_8 zb_m2 ?_
    exact hend _ _ _ _ _ _ _ ((bU b 11 (vI (aV A))), mf (f 1) (f 2) (f 3) (f 4) (f 5) (f 6) (f 7) (f 8) (f 14) (f 19)) hw ⟨(ifP_f c_5).symm, ⟨⟨hT, hL⟩, hV0, rH_vI, ⟨hU, hUs⟩, hKp, ⟨hSi, hSg⟩, (fun t ht => tRel_of rfl rfl rfl rfl rfl (hTr t ht))⟩⟩ (by omega) (by omega) dX2_behind_10
set_option maxHeartbeats 4000000 in
theorem m_X2_nuts (G : zE) (l : Launch) (mo : Nat) (q : Nat → Nat) (A : AS) (b : Nat → Nat → Int32) (f : Nat → Int32) (hA : AOk A) (hM : MRel A b f) (x : Int32) (y : Int32) (rest : va_W) : zMi G l yX2_nuts cX2_nuts 3 (some .int) 6 0 0 [.ref mo, .int x, .int y] ((mo, zo 2 (mF q (f 1) (f 2) (f 3) (f 4) (f 5) (f 6) (f 7) (f 8) (f 14) (f 19))) :: (q 0, zc G 0 (zI 200 (b 0))) :: (q 9, zc G 0 (zI 46 (b 9))) :: (q 10, zc G 0 (zI 46 (b 10))) :: (q 11, zc G 0 (zI 46 (b 11))) :: (q 12, zc G 0 (zI 46 (b 12))) :: (q 13, zc G 0 (zI 368 (b 13))) :: (q 15, zc G 0 (zI 92 (b 15))) :: (q 16, zc G 3 (zI 2 (b 16))) :: (q 17, zc G 0 (zI 5 (b 17))) :: (q 18, zc G 0 (zI 24 (b 18))) :: (q 20, zc G 0 (zI 3 (b 20))) :: (q 21, zc G 0 (zI 3 (b 21))) :: (q 22, zc G 0 (zI 3 (b 22))) :: (q 23, zc G 0 (zI 36 (b 23))) :: (q 24, zc G 0 (zI 36 (b 24))) :: rest) (fun (r : Int32) (u : MB) => r = F_nuts A x y ∧ MRel A u.1 u.2) (fun (u : MB) => (mo, zo 2 (mF q (u.2 1) (u.2 2) (u.2 3) (u.2 4) (u.2 5) (u.2 6) (u.2 7) (u.2 8) (u.2 14) (u.2 19))) :: (q 0, zc G 0 (zI 200 (u.1 0))) :: (q 9, zc G 0 (zI 46 (u.1 9))) :: (q 10, zc G 0 (zI 46 (u.1 10))) :: (q 11, zc G 0 (zI 46 (u.1 11))) :: (q 12, zc G 0 (zI 46 (u.1 12))) :: (q 13, zc G 0 (zI 368 (u.1 13))) :: (q 15, zc G 0 (zI 92 (u.1 15))) :: (q 16, zc G 3 (zI 2 (u.1 16))) :: (q 17, zc G 0 (zI 5 (u.1 17))) :: (q 18, zc G 0 (zI 24 (u.1 18))) :: (q 20, zc G 0 (zI 3 (u.1 20))) :: (q 21, zc G 0 (zI 3 (u.1 21))) :: (q 22, zc G 0 (zI 3 (u.1 22))) :: (q 23, zc G 0 (zI 36 (u.1 23))) :: (q 24, zc G 0 (zI 36 (u.1 24))) :: rest) := by
  refine z_begI (by decide) (Nat.le_of_ble_eq_true rfl) (fun p e s m args below meth c ls Q hC hl hw hend => ?_)
  have hx := hC.hx
  have hb := hC.hb
  have hl : lv_has ls 3 [(0, .ref mo), (1, .int x), (2, .int y)] := hl
  have hw : zS G ((mo, zo 2 (mF q (f 1) (f 2) (f 3) (f 4) (f 5) (f 6) (f 7) (f 8) (f 14) (f 19))) :: (q 0, zc G 0 (zI 200 (b 0))) :: (q 9, zc G 0 (zI 46 (b 9))) :: (q 10, zc G 0 (zI 46 (b 10))) :: (q 11, zc G 0 (zI 46 (b 11))) :: (q 12, zc G 0 (zI 46 (b 12))) :: (q 13, zc G 0 (zI 368 (b 13))) :: (q 15, zc G 0 (zI 92 (b 15))) :: (q 16, zc G 3 (zI 2 (b 16))) :: (q 17, zc G 0 (zI 5 (b 17))) :: (q 18, zc G 0 (zI 24 (b 18))) :: (q 20, zc G 0 (zI 3 (b 20))) :: (q 21, zc G 0 (zI 3 (b 21))) :: (q 22, zc G 0 (zI 3 (b 22))) :: (q 23, zc G 0 (zI 36 (b 23))) :: (q 24, zc G 0 (zI 36 (b 24))) :: rest) s s.heap [] := hw
  have hA9 := hA
  obtain ⟨⟨hT, hL⟩, hV0, hV, ⟨hU, hUs⟩, hKp, ⟨hSi, hSg⟩, hTr⟩ := hM
  obtain ⟨⟨hL2, hT2⟩, hB0, hBv, ⟨hU8, hUb⟩, hKb, ⟨hS6, hSb⟩, hTb⟩ := hA
  have hH : Hw (aV A) := hBv.1.1
  have hday := hBv.2.2
  have hw := hw.cellI 4 rfl (g := vI (aV A)) (fun j hj => by have := hV j hj; rwa [Nat.zero_add] at this)
  have hw : zS G ((mo, zo 2 (mF q (f 1) (f 2) (f 3) (f 4) (f 5) (f 6) (f 7) (f 8) (f 14) (f 19))) :: (q 0, zc G 0 (zI 200 (b 0))) :: (q 9, zc G 0 (zI 46 (b 9))) :: (q 10, zc G 0 (zI 46 (b 10))) :: (q 11, zc G 0 (zI 46 (vI (aV A)))) :: (q 12, zc G 0 (zI 46 (b 12))) :: (q 13, zc G 0 (zI 368 (b 13))) :: (q 15, zc G 0 (zI 92 (b 15))) :: (q 16, zc G 3 (zI 2 (b 16))) :: (q 17, zc G 0 (zI 5 (b 17))) :: (q 18, zc G 0 (zI 24 (b 18))) :: (q 20, zc G 0 (zI 3 (b 20))) :: (q 21, zc G 0 (zI 3 (b 21))) :: (q 22, zc G 0 (zI 3 (b 22))) :: (q 23, zc G 0 (zI 36 (b 23))) :: (q 24, zc G 0 (zI 36 (b 24))) :: rest) s s.heap [] := hw
  refine lv_aload_n hx hb dX2_nuts_0 rfl (lv_at hl 0 rfl) ?_
  refine lv_iload_n hx hb dX2_nuts_1 rfl (lv_at hl 1 rfl) ?_
  refine z_ci (z_runV (As := [.int x]) (rest := []) hC zv_X2_188 (m_X2_isPit G l mo q (f 1) (f 2) (f 3) (f 4) (f 5) (f 6) (f 7) (f 8) (f 14) (f 19) x (aV A) (by first | assumption | (omega)) (zrem [0, 4] _)) hw (hw.perm (z_cut (is := [0, 4]) (cells := [(mo, zo 2 (mF q (f 1) (f 2) (f 3) (f 4) (f 5) (f 6) (f 7) (f 8) (f 14) (f 19))), (q 11, zc G 0 (zI 46 (vI (aV A))))]) rfl rfl)) 0 rfl rfl rfl rfl rfl (Nat.le_of_ble_eq_true rfl) hl.1 ⟨Nat.le_of_ble_eq_true rfl, Nat.le_of_ble_eq_true rfl⟩ ⟨(Nat.le_of_ble_eq_true rfl), (Nat.le_of_ble_eq_true rfl)⟩ dX2_nuts_2) hw (fun _ => z_keep (is := [0, 4]) (cs := [(mo, zo 2 (mF q (f 1) (f 2) (f 3) (f 4) (f 5) (f 6) (f 7) (f 8) (f 14) (f 19))), (q 11, zc G 0 (zI 46 (vI (aV A))))]) rfl rfl) (fun r u H locs hp hw => ?_)
  obtain rfl : r = bI (isP ((aV A) 0) x) := hp
  refine zb_ne (tgt := 11) hx hb dX2_nuts_5 (by decide) (fun c_5 => ?_) (fun c_5 => ?_)
  · skip
    obtain ⟨t, ht, rfl⟩ := c_5
    have hl : lv_has ls 3 [(0, .ref mo), (1, .int (nI t)), (2, .int y)] := hl
    have hp9 := hH.1
    refine lv_iload_n hx hb dX2_nuts_11 rfl (lv_at hl 2 rfl) ?_
    refine lv_iconst (v := (nI 0)) hx hb dX2_nuts_12 zk_0 ?_
    refine lv_bipush (v := (nI 60)) hx hb dX2_nuts_13 zb_60 ?_
    refine z_ci (z_runS (As := [.int y, .int (nI 0), .int (nI 60)]) (rest := []) hC zs_X2_59 (m_X2_in_n G l y 0 60 (by decide) (by decide) _) hw rfl rfl (Nat.le_of_ble_eq_true rfl) hl.1 ⟨Nat.le_of_ble_eq_true rfl, Nat.le_of_ble_eq_true rfl⟩ ⟨(Nat.le_of_ble_eq_true rfl), (Nat.le_of_ble_eq_true rfl)⟩ dX2_nuts_15) hw (fun _ => List.Perm.refl _) (fun r u H locs hp hw => ?_)
    obtain rfl : r = bI (inR y 0 60) := hp
    refine zb_ne (tgt := 24) hx hb dX2_nuts_18 (by decide) (fun c_18 => ?_) (fun c_18 => ?_)
    · skip
      obtain ⟨k, hk1, hk2, rfl⟩ := c_18
      have hl : lv_has ls 3 [(0, .ref mo), (1, .int (nI t)), (2, .int (nI k))] := hl
      refine lv_aload_n hx hb dX2_nuts_24 rfl (lv_at hl 0 rfl) ?_
      refine z_get (v := .ref (q 11)) hC zf_X2_19_2 hw 0 rfl rfl dX2_nuts_25 ?_
      refine lv_iconst (v := (nI 0)) hx hb dX2_nuts_28 zk_0 ?_
      refine lv_aload_n hx hb dX2_nuts_29 rfl (lv_at hl 0 rfl) ?_
      refine z_get (v := .ref (q 12)) hC zf_X2_22_2 hw 0 rfl rfl dX2_nuts_30 ?_
      refine lv_iconst (v := (nI 0)) hx hb dX2_nuts_33 zk_0 ?_
      refine z_cv (z_runS (As := [.ref (q 11), .int (nI 0), .ref (q 12), .int (nI 0)]) (rest := []) hC zs_X2_130 (m_X2_copies G l (q 11) (q 12) 0 0 46 46 (vI (aV A)) (b 12) (by omega) (by omega) (by decide) (by decide) (zrem [4, 5] _)) (hw.perm (z_cut (is := [4, 5]) (cells := [(q 11, zc G 0 (zI 46 (vI (aV A)))), (q 12, zc G 0 (zI 46 (b 12)))]) rfl rfl)) rfl rfl (Nat.le_of_ble_eq_true rfl) hl.1 ⟨Nat.le_of_ble_eq_true rfl, Nat.le_of_ble_eq_true rfl⟩ ⟨(Nat.le_of_ble_eq_true rfl), (Nat.le_of_ble_eq_true rfl)⟩ dX2_nuts_34) hw (fun _ => z_pput (is := [4, 5]) (cells := [(q 11, zc G 0 (zI 46 (vI (aV A)))), (q 12, zc G 0 (zI 46 (b 12)))]) (cells' := [(q 11, zc G 0 (zI 46 (vI (aV A)))), (q 12, zc G 0 (zI 46 (va_cpy (vI (aV A)) (b 12) 0 0 46)))]) rfl rfl rfl) (fun u H locs hp hw => ?_)
      have hw : zS G ((mo, zo 2 (mF q (f 1) (f 2) (f 3) (f 4) (f 5) (f 6) (f 7) (f 8) (f 14) (f 19))) :: (q 0, zc G 0 (zI 200 (b 0))) :: (q 9, zc G 0 (zI 46 (b 9))) :: (q 10, zc G 0 (zI 46 (b 10))) :: (q 11, zc G 0 (zI 46 (vI (aV A)))) :: (q 12, zc G 0 (zI 46 (va_cpy (vI (aV A)) (b 12) 0 0 46))) :: (q 13, zc G 0 (zI 368 (b 13))) :: (q 15, zc G 0 (zI 92 (b 15))) :: (q 16, zc G 3 (zI 2 (b 16))) :: (q 17, zc G 0 (zI 5 (b 17))) :: (q 18, zc G 0 (zI 24 (b 18))) :: (q 20, zc G 0 (zI 3 (b 20))) :: (q 21, zc G 0 (zI 3 (b 21))) :: (q 22, zc G 0 (zI 3 (b 22))) :: (q 23, zc G 0 (zI 36 (b 23))) :: (q 24, zc G 0 (zI 36 (b 24))) :: rest) s H locs := hw
      have hw := hw.cellI 5 rfl (g := vI (aV A)) (fun j hj => cpy_hedge hj)
      have hw : zS G ((mo, zo 2 (mF q (f 1) (f 2) (f 3) (f 4) (f 5) (f 6) (f 7) (f 8) (f 14) (f 19))) :: (q 0, zc G 0 (zI 200 (b 0))) :: (q 9, zc G 0 (zI 46 (b 9))) :: (q 10, zc G 0 (zI 46 (b 10))) :: (q 11, zc G 0 (zI 46 (vI (aV A)))) :: (q 12, zc G 0 (zI 46 (vI (aV A)))) :: (q 13, zc G 0 (zI 368 (b 13))) :: (q 15, zc G 0 (zI 92 (b 15))) :: (q 16, zc G 3 (zI 2 (b 16))) :: (q 17, zc G 0 (zI 5 (b 17))) :: (q 18, zc G 0 (zI 24 (b 18))) :: (q 20, zc G 0 (zI 3 (b 20))) :: (q 21, zc G 0 (zI 3 (b 21))) :: (q 22, zc G 0 (zI 3 (b 22))) :: (q 23, zc G 0 (zI 36 (b 23))) :: (q 24, zc G 0 (zI 36 (b 24))) :: rest) s H locs := hw
      refine lv_aload_n hx hb dX2_nuts_37 rfl (lv_at hl 0 rfl) ?_
      refine lv_iload_n hx hb dX2_nuts_38 rfl (lv_at hl 2 rfl) ?_
      refine z_cv (z_runV (As := [.int (nI k)]) (rest := []) hC zv_X2_207 (m_X2_goesOn G l mo q (f 1) (f 2) (f 3) (f 4) (f 5) (f 6) (f 7) (f 8) (f 14) (f 19) k (aV A) hH (b 17) (by omega) (by omega) (zrem [0, 5, 9] _)) hw (hw.perm (z_cut (is := [0, 5, 9]) (cells := [(mo, zo 2 (mF q (f 1) (f 2) (f 3) (f 4) (f 5) (f 6) (f 7) (f 8) (f 14) (f 19))), (q 12, zc G 0 (zI 46 (vI (aV A)))), (q 17, zc G 0 (zI 5 (b 17)))]) rfl rfl)) 0 rfl rfl rfl rfl rfl (Nat.le_of_ble_eq_true rfl) hl.1 ⟨Nat.le_of_ble_eq_true rfl, Nat.le_of_ble_eq_true rfl⟩ ⟨(Nat.le_of_ble_eq_true rfl), (Nat.le_of_ble_eq_true rfl)⟩ dX2_nuts_39) hw (fun u => z_pput (is := [0, 5, 9]) (cells := [(mo, zo 2 (mF q (f 1) (f 2) (f 3) (f 4) (f 5) (f 6) (f 7) (f 8) (f 14) (f 19))), (q 12, zc G 0 (zI 46 (vI (aV A)))), (q 17, zc G 0 (zI 5 (b 17)))]) (cells' := [(mo, zo 2 (mF q (f 1) (f 2) (f 3) (f 4) (f 5) (f 6) (f 7) (f 8) (f 14) (f 19))), (q 12, zc G 0 (zI 46 (vI (daysN k (aV A))))), (q 17, zc G 0 (zI 5 u))]) rfl rfl rfl) (fun u H locs hp hw => ?_)
      obtain ⟨af1_1, rfl⟩ : ∃ z, z = u := ⟨_, rfl⟩
      have hw : zS G ((mo, zo 2 (mF q (f 1) (f 2) (f 3) (f 4) (f 5) (f 6) (f 7) (f 8) (f 14) (f 19))) :: (q 0, zc G 0 (zI 200 (b 0))) :: (q 9, zc G 0 (zI 46 (b 9))) :: (q 10, zc G 0 (zI 46 (b 10))) :: (q 11, zc G 0 (zI 46 (vI (aV A)))) :: (q 12, zc G 0 (zI 46 (vI (daysN k (aV A))))) :: (q 13, zc G 0 (zI 368 (b 13))) :: (q 15, zc G 0 (zI 92 (b 15))) :: (q 16, zc G 3 (zI 2 (b 16))) :: (q 17, zc G 0 (zI 5 af1_1)) :: (q 18, zc G 0 (zI 24 (b 18))) :: (q 20, zc G 0 (zI 3 (b 20))) :: (q 21, zc G 0 (zI 3 (b 21))) :: (q 22, zc G 0 (zI 3 (b 22))) :: (q 23, zc G 0 (zI 36 (b 23))) :: (q 24, zc G 0 (zI 36 (b 24))) :: rest) s H locs := hw
      refine lv_aload_n hx hb dX2_nuts_42 rfl (lv_at hl 0 rfl) ?_
      refine z_get (v := .ref (q 12)) hC zf_X2_22_2 hw 0 rfl rfl dX2_nuts_43 ?_
      refine lv_iconst (v := (nI 3)) hx hb dX2_nuts_46 zk_3 ?_
      refine lv_iconst (v := (nI 2)) hx hb dX2_nuts_47 zk_2 ?_
      refine lv_iload_n hx hb dX2_nuts_48 rfl (lv_at hl 1 rfl) ?_
      refine zn_imul hx hb dX2_nuts_49 ?_
      refine zn_iadd hx hb dX2_nuts_50 ?_
      refine lv_iconst (v := (nI 1)) hx hb dX2_nuts_51 zk_1 ?_
      refine zn_iadd hx hb dX2_nuts_52 ?_
      refine z_iald (x := (nI ((daysN k (aV A)) (3 + 2 * t + 1)))) hC hw 5 rfl (by omega) (by decide) rfl dX2_nuts_53 ?_
      exact hend _ _ _ _ _ _ _ ((bU (bU (bU b 11 (vI (aV A))) 12 (vI (daysN k (aV A)))) 17 af1_1), mf (f 1) (f 2) (f 3) (f 4) (f 5) (f 6) (f 7) (f 8) (f 14) (f 19)) hw ⟨(by unfold F_nuts; rw [ifP_t ⟨t, ht, rfl⟩, ifP_t ⟨k, hk1, hk2, rfl⟩, cl_nI (by omega), cl_nI (by omega)]), ⟨⟨hT, hL⟩, hV0, rH_vI, ⟨hU, hUs⟩, hKp, ⟨hSi, hSg⟩, (fun t ht => tRel_of rfl rfl rfl rfl rfl (hTr t ht))⟩⟩ (by omega) (by omega) dX2_nuts_54
    · skip
      refine lv_bipush (v := (-3)) hx hb dX2_nuts_21 zb_m3 ?_
      exact hend _ _ _ _ _ _ _ ((bU b 11 (vI (aV A))), mf (f 1) (f 2) (f 3) (f 4) (f 5) (f 6) (f 7) (f 8) (f 14) (f 19)) hw ⟨((ifP_t ⟨t, ht, rfl⟩).trans (ifP_f c_18)).symm, ⟨⟨hT, hL⟩, hV0, rH_vI, ⟨hU, hUs⟩, hKp, ⟨hSi, hSg⟩, (fun t ht => tRel_of rfl rfl rfl rfl rfl (hTr t ht))⟩⟩ (by omega) (by omega) dX2_nuts_23
  · skip
    refine lv_bipush (v := (-2)) hx hb dX2_nuts_8 zb_m2 ?_
    exact hend _ _ _ _ _ _ _ ((bU b 11 (vI (aV A))), mf (f 1) (f 2) (f 3) (f 4) (f 5) (f 6) (f 7) (f 8) (f 14) (f 19)) hw ⟨(ifP_f c_5).symm, ⟨⟨hT, hL⟩, hV0, rH_vI, ⟨hU, hUs⟩, hKp, ⟨hSi, hSg⟩, (fun t ht => tRel_of rfl rfl rfl rfl rfl (hTr t ht))⟩⟩ (by omega) (by omega) dX2_nuts_10
