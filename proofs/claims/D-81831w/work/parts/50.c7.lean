/-! COMPONENT: small ones -/
set_option maxRecDepth 100000
/-- an int as a long -/
def iL (x : Int32) : Int64 := x.toInt64
theorem lg_neg {x y : Int64} : lg_cmp x y < 0 ↔ x.toInt < y.toInt := by
  rw [← Int32.not_le, lg_cmp_ge, Int64.le_iff_toInt_le]; omega
theorem lg_pos {x y : Int64} : 0 < lg_cmp x y ↔ y.toInt < x.toInt := by
  rw [← Int32.not_le, lg_cmp_le, Int64.le_iff_toInt_le]; omega
theorem iL_toInt (x : Int32) : (iL x).toInt = x.toInt := Int32.toInt_toInt64 x
theorem in_l {x : Int32} {a : Nat} (ha : a < 2147483648) : lg_cmp (iL x) (lN a) < 0 ↔ ¬ nI a ≤ x := by
  rw [lg_neg, iL_toInt, lN_toInt ha, Int32.not_le, Int32.lt_iff_toInt_lt, nI_toInt ha]
theorem in_r {x : Int32} {a : Nat} (ha : a < 2147483648) : 0 < lg_cmp (iL x) (lN a) ↔ ¬ x ≤ nI a := by
  rw [lg_pos, iL_toInt, lN_toInt ha, Int32.not_le, Int32.lt_iff_toInt_lt, nI_toInt ha]
theorem in_rL {x up : Int32} : 0 < lg_cmp (iL x) (iL up) ↔ ¬ x ≤ up := by
  rw [lg_pos, iL_toInt, iL_toInt, Int32.not_le, Int32.lt_iff_toInt_lt]
set_option maxHeartbeats 4000000 in
theorem m_X0_in (G : zE) (l : Launch) (x : Int32) (a : Nat) (b : Nat) (ha : a < 2147483648) (hb9 : b < 2147483648) (rest : va_W) : zMi G l yX0_in cX0_in 6 (some .boolean) 0 0 0 [.long (iL x), .long (lN a), .long (lN b)] (rest) (fun (r : Int32) (_ : Unit) => r = bI (inR x a b)) (fun (_ : Unit) => rest) := by
  refine z_begZ (by decide) (Nat.le_of_ble_eq_true rfl) (fun p e s m args below meth c ls Q hC hl hw hend => ?_)
  have hx := hC.hx
  have hb := hC.hb
  have hl : lv_has ls 6 [(0, .long (iL x)), (2, .long (lN a)), (4, .long (lN b))] := hl
  refine lv_lload_n hx hb dX0_in_0 rfl (lv_at hl 0 rfl) ?_
  refine lv_lload_n hx hb dX0_in_1 rfl (lv_at hl 1 rfl) ?_
  refine W.lcmp hx hb dX0_in_2 ?_
  refine lv_if_lt (tgt := 17) hx hb dX0_in_3 (by decide) (fun c_3 => ?_) (fun c_3 => ?_)
  · skip
    refine lv_iconst (v := (nI 0)) hx hb dX0_in_17 zk_0 ?_
    exact hend _ _ _ _ _ _ _ () rfl hw (by first | exact (bI_t ((inR_iff ha hb9).mp ⟨Decidable.not_not.mp (mt (in_l ha).mpr c_3), Decidable.not_not.mp (mt (in_r hb9).mpr c_10)⟩)).symm | exact (bI_f (fun q => (in_l ha).mp c_3 ((inR_iff ha hb9).mpr q).1)).symm | exact (bI_f (fun q => (in_r hb9).mp c_10 ((inR_iff ha hb9).mpr q).2)).symm) (Nat.le_of_ble_eq_true rfl) (Nat.le_of_ble_eq_true rfl) dX0_in_18
  · skip
    refine lv_lload_n hx hb dX0_in_6 rfl (lv_at hl 0 rfl) ?_
    refine lv_lload hx hb dX0_in_7 (lv_at hl 2 rfl) ?_
    refine W.lcmp hx hb dX0_in_9 ?_
    refine lv_if_gt (tgt := 17) hx hb dX0_in_10 (by decide) (fun c_10 => ?_) (fun c_10 => ?_)
    · skip
      refine lv_iconst (v := (nI 0)) hx hb dX0_in_17 zk_0 ?_
      exact hend _ _ _ _ _ _ _ () rfl hw (by first | exact (bI_t ((inR_iff ha hb9).mp ⟨Decidable.not_not.mp (mt (in_l ha).mpr c_3), Decidable.not_not.mp (mt (in_r hb9).mpr c_10)⟩)).symm | exact (bI_f (fun q => (in_l ha).mp c_3 ((inR_iff ha hb9).mpr q).1)).symm | exact (bI_f (fun q => (in_r hb9).mp c_10 ((inR_iff ha hb9).mpr q).2)).symm) (Nat.le_of_ble_eq_true rfl) (Nat.le_of_ble_eq_true rfl) dX0_in_18
    · skip
      refine lv_iconst (v := (nI 1)) hx hb dX0_in_13 zk_1 ?_
      refine lv_goto (tgt := 18) hx hb dX0_in_14 (by decide) ?_
      exact hend _ _ _ _ _ _ _ () rfl hw (by first | exact (bI_t ((inR_iff ha hb9).mp ⟨Decidable.not_not.mp (mt (in_l ha).mpr c_3), Decidable.not_not.mp (mt (in_r hb9).mpr c_10)⟩)).symm | exact (bI_f (fun q => (in_l ha).mp c_3 ((inR_iff ha hb9).mpr q).1)).symm | exact (bI_f (fun q => (in_r hb9).mp c_10 ((inR_iff ha hb9).mpr q).2)).symm) (Nat.le_of_ble_eq_true rfl) (Nat.le_of_ble_eq_true rfl) dX0_in_18
set_option maxHeartbeats 4000000 in
theorem m_X0_in_u (G : zE) (l : Launch) (x : Int32) (up : Int32) (a : Nat) (ha : a < 2147483648) (rest : va_W) : zMi G l yX0_in cX0_in 6 (some .boolean) 0 0 0 [.long (iL x), .long (lN a), .long (iL up)] (rest) (fun (r : Int32) (_ : Unit) => r = bI (nI a ≤ x ∧ x ≤ up)) (fun (_ : Unit) => rest) := by
  refine z_begZ (by decide) (Nat.le_of_ble_eq_true rfl) (fun p e s m args below meth c ls Q hC hl hw hend => ?_)
  have hx := hC.hx
  have hb := hC.hb
  have hl : lv_has ls 6 [(0, .long (iL x)), (2, .long (lN a)), (4, .long (iL up))] := hl
  refine lv_lload_n hx hb dX0_in_0 rfl (lv_at hl 0 rfl) ?_
  refine lv_lload_n hx hb dX0_in_1 rfl (lv_at hl 1 rfl) ?_
  refine W.lcmp hx hb dX0_in_2 ?_
  refine lv_if_lt (tgt := 17) hx hb dX0_in_3 (by decide) (fun c_3 => ?_) (fun c_3 => ?_)
  · skip
    refine lv_iconst (v := (nI 0)) hx hb dX0_in_17 zk_0 ?_
    exact hend _ _ _ _ _ _ _ () rfl hw (by first | exact (bI_t (id ⟨Decidable.not_not.mp (mt (in_l ha).mpr c_3), Decidable.not_not.mp (mt in_rL.mpr c_10)⟩)).symm | exact (bI_f (fun q => (in_l ha).mp c_3 (id q).1)).symm | exact (bI_f (fun q => in_rL.mp c_10 (id q).2)).symm) (Nat.le_of_ble_eq_true rfl) (Nat.le_of_ble_eq_true rfl) dX0_in_18
  · skip
    refine lv_lload_n hx hb dX0_in_6 rfl (lv_at hl 0 rfl) ?_
    refine lv_lload hx hb dX0_in_7 (lv_at hl 2 rfl) ?_
    refine W.lcmp hx hb dX0_in_9 ?_
    refine lv_if_gt (tgt := 17) hx hb dX0_in_10 (by decide) (fun c_10 => ?_) (fun c_10 => ?_)
    · skip
      refine lv_iconst (v := (nI 0)) hx hb dX0_in_17 zk_0 ?_
      exact hend _ _ _ _ _ _ _ () rfl hw (by first | exact (bI_t (id ⟨Decidable.not_not.mp (mt (in_l ha).mpr c_3), Decidable.not_not.mp (mt in_rL.mpr c_10)⟩)).symm | exact (bI_f (fun q => (in_l ha).mp c_3 (id q).1)).symm | exact (bI_f (fun q => in_rL.mp c_10 (id q).2)).symm) (Nat.le_of_ble_eq_true rfl) (Nat.le_of_ble_eq_true rfl) dX0_in_18
    · skip
      refine lv_iconst (v := (nI 1)) hx hb dX0_in_13 zk_1 ?_
      refine lv_goto (tgt := 18) hx hb dX0_in_14 (by decide) ?_
      exact hend _ _ _ _ _ _ _ () rfl hw (by first | exact (bI_t (id ⟨Decidable.not_not.mp (mt (in_l ha).mpr c_3), Decidable.not_not.mp (mt in_rL.mpr c_10)⟩)).symm | exact (bI_f (fun q => (in_l ha).mp c_3 (id q).1)).symm | exact (bI_f (fun q => in_rL.mp c_10 (id q).2)).symm) (Nat.le_of_ble_eq_true rfl) (Nat.le_of_ble_eq_true rfl) dX0_in_18
theorem zf_X0_27_0 : zFl 0 3 RX0 27 true (.object "NutCaches$State") := ⟨RX0, TX0, 13, tyX0, rfl, by decide, in_X0, q176, rfl, by decide +kernel, tyX0_ok, nmX0⟩
theorem zf_X0_76_1 : zFl 1 2 RX0 76 false .int := ⟨RX1, TX1, 9, tyX1, rfl, by decide, in_X1, q118, rfl, by decide +kernel, tyX1_ok, nmX1⟩
theorem zs_X0_126 : zSs RX0 126 yX0_in cX0_in 6 (some .boolean) 3 := ⟨lw_S q220 q221 q49 q222, ⟨by decide +kernel, by decide +kernel⟩, by decide +kernel⟩
set_option maxHeartbeats 4000000 in
theorem m_X0_isPit (G : zE) (l : Launch) (co : Nat) (w : Nat → Nat) (mn : Int32) (bm : Int32) (sm : Int32) (lt : Int32) (zn : Nat → Nat) (ps : Nat) (dy : Int32) (gg : Int32) (x : Int32) (hps : ps ≤ 9) (rest : va_W) : zMi G l yX0_isPit cX0_isPit 2 (some .boolean) 1 0 0 [.ref co, .int x] ((co, zo 0 (cF w mn bm sm lt)) :: (w 2, zo 1 (stF zn co (nI ps) dy gg)) :: rest) (fun (r : Int32) (_ : Unit) => r = bI (isP ps x)) (fun (_ : Unit) => (co, zo 0 (cF w mn bm sm lt)) :: (w 2, zo 1 (stF zn co (nI ps) dy gg)) :: rest) := by
  refine z_begZ (by decide) (Nat.le_of_ble_eq_true rfl) (fun p e s m args below meth c ls Q hC hl hw hend => ?_)
  have hx := hC.hx
  have hb := hC.hb
  have hl : lv_has ls 2 [(0, .ref co), (1, .int x)] := hl
  have hw : zS G ((co, zo 0 (cF w mn bm sm lt)) :: (w 2, zo 1 (stF zn co (nI ps) dy gg)) :: rest) s s.heap [] := hw
  refine lv_iload_n hx hb dX0_isPit_0 rfl (lv_at hl 1 rfl) ?_
  refine lv_i2l (v := (iL x)) hx hb dX0_isPit_1 rfl ?_
  refine lv_lconst (v := lN 0) hx hb dX0_isPit_2 rfl ?_
  refine lv_aload_n hx hb dX0_isPit_3 rfl (lv_at hl 0 rfl) ?_
  refine z_get (v := .ref (w 2)) hC zf_X0_27_0 hw 0 rfl rfl dX0_isPit_4 ?_
  refine z_get (v := .int (nI ps)) hC zf_X0_76_1 hw 1 rfl rfl dX0_isPit_7 ?_
  refine lv_iconst (v := (nI 1)) hx hb dX0_isPit_10 zk_1 ?_
  refine zv_isub (v := (nI ps - nI 1)) hx hb rfl dX0_isPit_11 ?_
  refine lv_i2l (v := (iL (nI ps - nI 1))) hx hb dX0_isPit_12 rfl ?_
  refine z_ci (z_runS (As := [.long (iL x), .long (lN 0), .long (iL (nI ps - nI 1))]) (rest := []) hC zs_X0_126 (m_X0_in_u G l x (nI ps - nI 1) 0 (by decide) _) hw rfl rfl (Nat.le_of_ble_eq_true rfl) hl.1 ⟨Nat.le_of_ble_eq_true rfl, Nat.le_of_ble_eq_true rfl⟩ ⟨(Nat.le_of_ble_eq_true rfl), (Nat.le_of_ble_eq_true rfl)⟩ dX0_isPit_13) hw (fun _ => List.Perm.refl _) (fun r u H locs hp hw => ?_)
  obtain rfl : r = bI (nI 0 ≤ x ∧ x ≤ (nI ps - nI 1)) := hp
  exact hend _ _ _ _ _ _ _ () (bI_nar _) hw (by exact bI_iff (isP_iff (by omega))) (Nat.le_of_ble_eq_true rfl) (Nat.le_of_ble_eq_true rfl) dX0_isPit_16
theorem zf_X0_73_0 : zFl 0 1 RX0 73 false .int := ⟨RX0, TX0, 13, tyX0, rfl, by decide, in_X0, q173, rfl, by decide +kernel, tyX0_ok, nmX0⟩
set_option maxHeartbeats 4000000 in
theorem m_X0_isSquirrel (G : zE) (l : Launch) (co : Nat) (w : Nat → Nat) (mn : Nat) (bm : Int32) (sm : Int32) (lt : Int32) (x : Int32) (hmn : mn ≤ 5) (rest : va_W) : zMi G l yX0_isSquirrel cX0_isSquirrel 2 (some .boolean) 1 0 0 [.ref co, .int x] ((co, zo 0 (cF w (nI mn) bm sm lt)) :: rest) (fun (r : Int32) (_ : Unit) => r = bI (isP mn x)) (fun (_ : Unit) => (co, zo 0 (cF w (nI mn) bm sm lt)) :: rest) := by
  refine z_begZ (by decide) (Nat.le_of_ble_eq_true rfl) (fun p e s m args below meth c ls Q hC hl hw hend => ?_)
  have hx := hC.hx
  have hb := hC.hb
  have hl : lv_has ls 2 [(0, .ref co), (1, .int x)] := hl
  have hw : zS G ((co, zo 0 (cF w (nI mn) bm sm lt)) :: rest) s s.heap [] := hw
  refine lv_iload_n hx hb dX0_isSquirrel_0 rfl (lv_at hl 1 rfl) ?_
  refine lv_i2l (v := (iL x)) hx hb dX0_isSquirrel_1 rfl ?_
  refine lv_lconst (v := lN 0) hx hb dX0_isSquirrel_2 rfl ?_
  refine lv_aload_n hx hb dX0_isSquirrel_3 rfl (lv_at hl 0 rfl) ?_
  refine z_get (v := .int (nI mn)) hC zf_X0_73_0 hw 0 rfl rfl dX0_isSquirrel_4 ?_
  refine lv_iconst (v := (nI 1)) hx hb dX0_isSquirrel_7 zk_1 ?_
  refine zv_isub (v := (nI mn - nI 1)) hx hb rfl dX0_isSquirrel_8 ?_
  refine lv_i2l (v := (iL (nI mn - nI 1))) hx hb dX0_isSquirrel_9 rfl ?_
  refine z_ci (z_runS (As := [.long (iL x), .long (lN 0), .long (iL (nI mn - nI 1))]) (rest := []) hC zs_X0_126 (m_X0_in_u G l x (nI mn - nI 1) 0 (by decide) _) hw rfl rfl (Nat.le_of_ble_eq_true rfl) hl.1 ⟨Nat.le_of_ble_eq_true rfl, Nat.le_of_ble_eq_true rfl⟩ ⟨(Nat.le_of_ble_eq_true rfl), (Nat.le_of_ble_eq_true rfl)⟩ dX0_isSquirrel_10) hw (fun _ => List.Perm.refl _) (fun r u H locs hp hw => ?_)
  obtain rfl : r = bI (nI 0 ≤ x ∧ x ≤ (nI mn - nI 1)) := hp
  exact hend _ _ _ _ _ _ _ () (bI_nar _) hw (by exact bI_iff (isP_iff (by omega))) (Nat.le_of_ble_eq_true rfl) (Nat.le_of_ble_eq_true rfl) dX0_isSquirrel_13
theorem zf_X0_79_1 : zFl 1 5 RX0 79 true (.array .short) := ⟨RX1, TX1, 9, tyX1, rfl, by decide, in_X1, q124, rfl, by decide +kernel, tyX1_ok, nmX1⟩
theorem zs_X0_155 : zSs RX0 155 yX0_has cX0_has 2 (some .boolean) 2 := ⟨lw_S q821 q822 q49 q823, ⟨by decide +kernel, by decide +kernel⟩, by decide +kernel⟩
set_option maxHeartbeats 4000000 in
theorem m_X0_whoKnows (G : zE) (l : Launch) (co : Nat) (w : Nat → Nat) (mn : Nat) (bm : Int32) (sm : Int32) (lt : Int32) (zn : Nat → Nat) (ps : Int32) (dy : Int32) (gg : Int32) (kn : Nat → Nat) (t : Nat) (ht : t < 9) (hmn : mn ≤ 5) (hkn : ∀ j, kn j < 512) (rest : va_W) : zMi G l yX0_whoKnows cX0_whoKnows 4 (some .int) 1 0 0 [.ref co, .int (nI t)] ((co, zo 0 (cF w (nI mn) bm sm lt)) :: (w 2, zo 1 (stF zn co ps dy gg)) :: (zn 4, zc G 2 (zI 5 (vI kn))) :: rest) (fun (r : Int32) (_ : Unit) => r = nI (orB (fun i => (kn i).testBit t) mn)) (fun (_ : Unit) => (co, zo 0 (cF w (nI mn) bm sm lt)) :: (w 2, zo 1 (stF zn co ps dy gg)) :: (zn 4, zc G 2 (zI 5 (vI kn))) :: rest) := by
  refine z_begI (by decide) (Nat.le_of_ble_eq_true rfl) (fun p e s m args below meth c ls Q hC hl hw hend => ?_)
  have hx := hC.hx
  have hb := hC.hb
  have hl : lv_has ls 4 [(0, .ref co), (1, .int (nI t))] := hl
  have hw : zS G ((co, zo 0 (cF w (nI mn) bm sm lt)) :: (w 2, zo 1 (stF zn co ps dy gg)) :: (zn 4, zc G 2 (zI 5 (vI kn))) :: rest) s s.heap [] := hw
  refine lv_iconst (v := (nI 0)) hx hb dX0_whoKnows_0 zk_0 ?_
  refine lv_istore_n (lv' := [(2, .int (nI 0)), (0, .ref co), (1, .int (nI t))]) hx hb dX0_whoKnows_1 rfl hl (by decide) rfl (fun ls hl => ?_)
  refine lv_iconst (v := (nI 0)) hx hb dX0_whoKnows_2 zk_0 ?_
  refine lv_istore_n (lv' := [(3, .int (nI 0)), (2, .int (nI 0)), (0, .ref co), (1, .int (nI t))]) hx hb dX0_whoKnows_3 rfl hl (by decide) rfl (fun ls hl => ?_)
  have loop_4 : ∀ (fuel : Nat) (k : Nat), (k ≤ mn) → (mn - k) < fuel → ∀ (H : Heap) (locs : List Loc) (ls : Array Slot), zS G ((co, zo 0 (cF w (nI mn) bm sm lt)) :: (w 2, zo 1 (stF zn co ps dy gg)) :: (zn 4, zc G 2 (zI 5 (vI kn))) :: rest) s H locs → lv_has ls 4 [(0, .ref co), (1, .int (nI t)), (2, .int (nI (orB (fun i => (kn i).testBit t) k))), (3, .int (nI k))] → W p l e (zR 1 0 0) s m args below meth c H locs 0 0 Q (F0 m 4 ls []) := by
    intro fuel
    induction fuel with
    | zero => intro k hk hfuel; exact absurd hfuel (Nat.not_lt_zero _)
    | succ fuel_4 ih_4 =>
      intro k hk hfuel_4 H locs ls hw hl
      refine lv_iload_n hx hb dX0_whoKnows_4 rfl (lv_at hl 3 rfl) ?_
      refine lv_aload_n hx hb dX0_whoKnows_5 rfl (lv_at hl 0 rfl) ?_
      refine z_get (v := .int (nI mn)) hC zf_X0_73_0 hw 0 rfl rfl dX0_whoKnows_6 ?_
      refine zi_ge (tgt := 44) hx hb (by omega) (by omega) dX0_whoKnows_9 (by decide) (fun c_9 => ?_) (fun c_9 => ?_)
      · skip
        refine lv_iload_n hx hb dX0_whoKnows_44 rfl (lv_at hl 2 rfl) ?_
        exact hend _ _ _ _ _ _ _ () hw (by rw [show k = mn by omega]) (Nat.le_of_ble_eq_true rfl) (Nat.le_of_ble_eq_true rfl) dX0_whoKnows_45
      · skip
        have join_36 : ∀ (x : Nat), (x = if (kn k).testBit t = true then 2 ^ k else 0) → ∀ (H : Heap) (locs : List Loc) (ls : Array Slot), zS G ((co, zo 0 (cF w (nI mn) bm sm lt)) :: (w 2, zo 1 (stF zn co ps dy gg)) :: (zn 4, zc G 2 (zI 5 (vI kn))) :: rest) s H locs → lv_has ls 4 [(0, .ref co), (1, .int (nI t)), (2, .int (nI (orB (fun i => (kn i).testBit t) k))), (3, .int (nI k))] → W p l e (zR 1 0 0) s m args below meth c H locs 0 0 Q (F0 m 36 ls [.int (nI x), .int (nI (orB (fun i => (kn i).testBit t) k))]) := by
          intro x hj H locs ls hw hl
          subst hj
          refine zv_ior (v := (nI ((orB (fun i => (kn i).testBit t) k) ||| (if (kn k).testBit t = true then 2 ^ k else 0)))) hx hb (nI_or _ _) dX0_whoKnows_36 ?_
          refine lv_istore_n (lv' := [(2, .int (nI ((orB (fun i => (kn i).testBit t) k) ||| (if (kn k).testBit t = true then 2 ^ k else 0)))), (0, .ref co), (1, .int (nI t)), (3, .int (nI k))]) hx hb dX0_whoKnows_37 rfl hl (by decide) rfl (fun ls hl => ?_)
          refine lv_iinc (v := (nI (k + 1))) (lv' := [(3, .int (nI (k + 1))), (2, .int (nI ((orB (fun i => (kn i).testBit t) k) ||| (if (kn k).testBit t = true then 2 ^ k else 0)))), (0, .ref co), (1, .int (nI t))]) hx hb dX0_whoKnows_38 hl (k := 3) rfl (zincn _ 1) (by decide) rfl (fun ls hl => ?_)
          refine lv_goto (tgt := 4) hx hb dX0_whoKnows_41 (by decide) ?_
          exact ih_4 (k + 1) (by omega) (by omega) H locs ls hw (lv_sub hl [2, 3, 1, 0] rfl)
        refine lv_iload_n hx hb dX0_whoKnows_12 rfl (lv_at hl 2 rfl) ?_
        refine lv_aload_n hx hb dX0_whoKnows_13 rfl (lv_at hl 0 rfl) ?_
        refine z_get (v := .ref (w 2)) hC zf_X0_27_0 hw 0 rfl rfl dX0_whoKnows_14 ?_
        refine z_get (v := .ref (zn 4)) hC zf_X0_79_1 hw 1 rfl rfl dX0_whoKnows_17 ?_
        refine lv_iload_n hx hb dX0_whoKnows_20 rfl (lv_at hl 3 rfl) ?_
        refine z_sald (x := (nI (kn k))) hC hw 2 rfl (by omega) (by decide) rfl dX0_whoKnows_21 ?_
        refine lv_iload_n hx hb dX0_whoKnows_22 rfl (lv_at hl 1 rfl) ?_
        refine z_ci (z_runS (As := [.int (nI (kn k)), .int (nI t)]) (rest := [.int (nI (orB (fun i => (kn i).testBit t) k))]) hC zs_X0_155 (m_X0_has G l (kn k) t (by have := hkn k; omega) (by omega) _) hw rfl rfl (Nat.le_of_ble_eq_true rfl) hl.1 ⟨Nat.le_of_ble_eq_true rfl, Nat.le_of_ble_eq_true rfl⟩ ⟨(Nat.le_of_ble_eq_true rfl), (Nat.le_of_ble_eq_true rfl)⟩ dX0_whoKnows_23) hw (fun _ => List.Perm.refl _) (fun r u H locs hp hw => ?_)
        obtain rfl : r = bI ((kn k).testBit t = true) := hp
        refine zb_eq (tgt := 35) hx hb dX0_whoKnows_26 (by decide) (fun c_26 => ?_) (fun c_26 => ?_)
        · skip
          refine lv_iconst (v := (nI 0)) hx hb dX0_whoKnows_35 zk_0 ?_
          exact join_36 0 (by first | exact (if_pos c_26).symm | exact (if_neg c_26).symm) H locs ls hw (lv_sub hl [0, 1, 2, 3] rfl)
        · skip
          refine lv_iconst (v := (nI 1)) hx hb dX0_whoKnows_29 zk_1 ?_
          refine lv_iload_n hx hb dX0_whoKnows_30 rfl (lv_at hl 3 rfl) ?_
          refine zv_ishl (v := (nI (2 ^ k))) hx hb (nI_shl1 (by omega)) dX0_whoKnows_31 ?_
          refine lv_goto (tgt := 36) hx hb dX0_whoKnows_32 (by decide) ?_
          exact join_36 (2 ^ k) (by first | exact (if_pos c_26).symm | exact (if_neg c_26).symm) H locs ls hw (lv_sub hl [0, 1, 2, 3] rfl)
  exact loop_4 ((mn - 0) + 1) 0 (by omega) (Nat.lt_succ_self _) s.heap [] ls hw (lv_sub hl [2, 3, 1, 0] rfl)
theorem zf_X0_97_1 : zFl 1 3 RX0 97 true (.array .byte) := ⟨RX1, TX1, 9, tyX1, rfl, by decide, in_X1, q120, rfl, by decide +kernel, tyX1_ok, nmX1⟩
set_option maxHeartbeats 4000000 in
theorem m_X0_stateOf_1 (G : zE) (l : Launch) (st : Nat) (co : Nat) (z : Nat → Nat) (ps : Int32) (dy : Int32) (gg : Int32) (ax : Nat → Nat) (i : Nat) (hi : i < 5) (rest : va_W) : zMi G l yX0_stateOf cX0_stateOf 3 (some .int) 0 0 0 [.ref st, .int (nI i), .int (nI 1)] ((st, zo 1 (stF z co ps dy gg)) :: (z 2, zc G 1 (zI 5 (vI ax))) :: rest) (fun (r : Int32) (_ : Unit) => r = nI (ax i)) (fun (_ : Unit) => (st, zo 1 (stF z co ps dy gg)) :: (z 2, zc G 1 (zI 5 (vI ax))) :: rest) := by
  refine z_begI (by decide) (Nat.le_of_ble_eq_true rfl) (fun p e s m args below meth c ls Q hC hl hw hend => ?_)
  have hx := hC.hx
  have hb := hC.hb
  have hl : lv_has ls 3 [(0, .ref st), (1, .int (nI i)), (2, .int (nI 1))] := hl
  have hw : zS G ((st, zo 1 (stF z co ps dy gg)) :: (z 2, zc G 1 (zI 5 (vI ax))) :: rest) s s.heap [] := hw
  refine lv_iload_n hx hb dX0_stateOf_0 rfl (lv_at hl 2 rfl) ?_
  refine lv_iconst (v := (nI 1)) hx hb dX0_stateOf_1 zk_1 ?_
  refine zi_ne (tgt := 14) hx hb (by decide) (by decide) dX0_stateOf_2 (by decide) (fun h => absurd h (by decide)) (fun _ => ?_)
  refine lv_aload_n hx hb dX0_stateOf_5 rfl (lv_at hl 0 rfl) ?_
  refine z_get (v := .ref (z 2)) hC zf_X0_97_1 hw 0 rfl rfl dX0_stateOf_6 ?_
  refine lv_iload_n hx hb dX0_stateOf_9 rfl (lv_at hl 1 rfl) ?_
  refine z_bald (x := (nI (ax i))) hC hw 1 rfl (by omega) (by decide) rfl dX0_stateOf_10 ?_
  refine lv_goto (tgt := 34) hx hb dX0_stateOf_11 (by decide) ?_
  exact hend _ _ _ _ _ _ _ () hw (by first | rfl | simp_all) (Nat.le_of_ble_eq_true rfl) (Nat.le_of_ble_eq_true rfl) dX0_stateOf_34
theorem zf_X0_167_1 : zFl 1 4 RX0 167 true (.array .byte) := ⟨RX1, TX1, 9, tyX1, rfl, by decide, in_X1, q122, rfl, by decide +kernel, tyX1_ok, nmX1⟩
set_option maxHeartbeats 4000000 in
theorem m_X0_stateOf_3 (G : zE) (l : Launch) (st : Nat) (co : Nat) (z : Nat → Nat) (ps : Int32) (dy : Int32) (gg : Int32) (le : Nat → Nat) (i : Nat) (hi : i < 5) (rest : va_W) : zMi G l yX0_stateOf cX0_stateOf 3 (some .int) 0 0 0 [.ref st, .int (nI i), .int (nI 3)] ((st, zo 1 (stF z co ps dy gg)) :: (z 3, zc G 1 (zI 5 (vI le))) :: rest) (fun (r : Int32) (_ : Unit) => r = nI (le i)) (fun (_ : Unit) => (st, zo 1 (stF z co ps dy gg)) :: (z 3, zc G 1 (zI 5 (vI le))) :: rest) := by
  refine z_begI (by decide) (Nat.le_of_ble_eq_true rfl) (fun p e s m args below meth c ls Q hC hl hw hend => ?_)
  have hx := hC.hx
  have hb := hC.hb
  have hl : lv_has ls 3 [(0, .ref st), (1, .int (nI i)), (2, .int (nI 3))] := hl
  have hw : zS G ((st, zo 1 (stF z co ps dy gg)) :: (z 3, zc G 1 (zI 5 (vI le))) :: rest) s s.heap [] := hw
  refine lv_iload_n hx hb dX0_stateOf_0 rfl (lv_at hl 2 rfl) ?_
  refine lv_iconst (v := (nI 1)) hx hb dX0_stateOf_1 zk_1 ?_
  refine zi_ne (tgt := 14) hx hb (by decide) (by decide) dX0_stateOf_2 (by decide) (fun _ => ?_) (fun h => absurd h (by decide))
  refine lv_iload_n hx hb dX0_stateOf_14 rfl (lv_at hl 2 rfl) ?_
  refine lv_iconst (v := (nI 3)) hx hb dX0_stateOf_15 zk_3 ?_
  refine zi_ne (tgt := 28) hx hb (by decide) (by decide) dX0_stateOf_16 (by decide) (fun h => absurd h (by decide)) (fun _ => ?_)
  refine lv_aload_n hx hb dX0_stateOf_19 rfl (lv_at hl 0 rfl) ?_
  refine z_get (v := .ref (z 3)) hC zf_X0_167_1 hw 0 rfl rfl dX0_stateOf_20 ?_
  refine lv_iload_n hx hb dX0_stateOf_23 rfl (lv_at hl 1 rfl) ?_
  refine z_bald (x := (nI (le i))) hC hw 1 rfl (by omega) (by decide) rfl dX0_stateOf_24 ?_
  refine lv_goto (tgt := 34) hx hb dX0_stateOf_25 (by decide) ?_
  exact hend _ _ _ _ _ _ _ () hw (by first | rfl | simp_all) (Nat.le_of_ble_eq_true rfl) (Nat.le_of_ble_eq_true rfl) dX0_stateOf_34
set_option maxHeartbeats 4000000 in
theorem m_X0_stateOf_4 (G : zE) (l : Launch) (st : Nat) (co : Nat) (z : Nat → Nat) (ps : Int32) (dy : Int32) (gg : Int32) (kn : Nat → Nat) (i : Nat) (hi : i < 5) (rest : va_W) : zMi G l yX0_stateOf cX0_stateOf 3 (some .int) 0 0 0 [.ref st, .int (nI i), .int (nI 4)] ((st, zo 1 (stF z co ps dy gg)) :: (z 4, zc G 2 (zI 5 (vI kn))) :: rest) (fun (r : Int32) (_ : Unit) => r = nI (kn i)) (fun (_ : Unit) => (st, zo 1 (stF z co ps dy gg)) :: (z 4, zc G 2 (zI 5 (vI kn))) :: rest) := by
  refine z_begI (by decide) (Nat.le_of_ble_eq_true rfl) (fun p e s m args below meth c ls Q hC hl hw hend => ?_)
  have hx := hC.hx
  have hb := hC.hb
  have hl : lv_has ls 3 [(0, .ref st), (1, .int (nI i)), (2, .int (nI 4))] := hl
  have hw : zS G ((st, zo 1 (stF z co ps dy gg)) :: (z 4, zc G 2 (zI 5 (vI kn))) :: rest) s s.heap [] := hw
  refine lv_iload_n hx hb dX0_stateOf_0 rfl (lv_at hl 2 rfl) ?_
  refine lv_iconst (v := (nI 1)) hx hb dX0_stateOf_1 zk_1 ?_
  refine zi_ne (tgt := 14) hx hb (by decide) (by decide) dX0_stateOf_2 (by decide) (fun _ => ?_) (fun h => absurd h (by decide))
  refine lv_iload_n hx hb dX0_stateOf_14 rfl (lv_at hl 2 rfl) ?_
  refine lv_iconst (v := (nI 3)) hx hb dX0_stateOf_15 zk_3 ?_
  refine zi_ne (tgt := 28) hx hb (by decide) (by decide) dX0_stateOf_16 (by decide) (fun _ => ?_) (fun h => absurd h (by decide))
  refine lv_aload_n hx hb dX0_stateOf_28 rfl (lv_at hl 0 rfl) ?_
  refine z_get (v := .ref (z 4)) hC zf_X0_79_1 hw 0 rfl rfl dX0_stateOf_29 ?_
  refine lv_iload_n hx hb dX0_stateOf_32 rfl (lv_at hl 1 rfl) ?_
  refine z_sald (x := (nI (kn i))) hC hw 1 rfl (by omega) (by decide) rfl dX0_stateOf_33 ?_
  exact hend _ _ _ _ _ _ _ () hw (by first | rfl | simp_all) (Nat.le_of_ble_eq_true rfl) (Nat.le_of_ble_eq_true rfl) dX0_stateOf_34
set_option maxHeartbeats 4000000 in
theorem m_X1_init (G : zE) (l : Launch) (kA : Nat → Nat) (hG : zG G kA) (st : Nat) (co : Nat) (rest : va_W) : zMv G l yX1_init cX1_init 2 1 5 33 [.ref st, .ref co] ((st, zo 1 [.null, .null, .int 0, .null, .null, .null, .int 0, .int 0, .null]) :: rest) (fun _ => True) (fun (u : Nat → Nat) => (u 0, zc G 1 (zI 9 (vI (fun _ => 0)))) :: (u 1, zc G 1 (zI 9 (vI (fun _ => 0)))) :: (u 2, zc G 1 (zI 5 (vI (fun _ => 0)))) :: (u 3, zc G 1 (zI 5 (vI (fun _ => 0)))) :: (u 4, zc G 2 (zI 5 (vI (fun _ => 0)))) :: (st, zo 1 (stF u co (nI 0) (nI 0) (nI 0))) :: rest) := by
  refine z_begV (by decide) (Nat.le_of_ble_eq_true rfl) (fun p e s m args below meth c ls Q hC hnm hl hw hend => ?_)
  have hx := hC.hx
  have hb := hC.hb
  have hl : lv_has ls 2 [(0, .ref st), (1, .ref co)] := hl
  have hw : zS G ((st, zo 1 [.null, .null, .int 0, .null, .null, .null, .int 0, .int 0, .null]) :: rest) s s.heap [] := hw
  have hz := hG s hC.hZ.1
  refine lv_aload_n hx hb dX1_init_0 rfl (lv_at hl 0 rfl) ?_
  refine lv_aload_n hx hb dX1_init_1 rfl (lv_at hl 1 rfl) ?_
  refine z_putF hC zf_X1_3_1 ⟨_, rfl, rfl⟩ hnm hw 0 rfl rfl rfl (Nat.le_of_ble_eq_true rfl) dX1_init_2 (fun H locs hw => ?_)
  have hw : zS G ((st, zo 1 [.null, .null, .int 0, .null, .null, .null, .int 0, .int 0, .ref co]) :: rest) s H locs := hw
  refine lv_aload_n hx hb dX1_init_5 rfl (lv_at hl 0 rfl) ?_
  refine W.objInit hx hb hC.hown (hC.hts _ q111) (hC.hts _ q102) (hC.hts _ q103) rfl (by rw [hC.hml]; exact hl.1) rfl dX1_init_6 (Nat.le_of_ble_eq_true rfl) (Nat.le_of_ble_eq_true rfl) ?_
  refine W.eq (g2 := F0 m 9 ls []) rfl ?_
  refine lv_aload_n hx hb dX1_init_9 rfl (lv_at hl 0 rfl) ?_
  refine lv_bipush (v := (nI 9)) hx hb dX1_init_10 zb_9 ?_
  refine z_newa (t := 1) (atype := .byte) (a0 := zI 9 (fun _ => 0)) hC (hC.hts _ q149) (fun _ => rfl) hw (fun _ => rfl) (by decide) (by decide) (Nat.le_of_ble_eq_true rfl) (Nat.le_of_ble_eq_true rfl) dX1_init_12 (fun q_12 H hw => ?_)
  have hw : zS G ((q_12, zc G 1 (zI 9 (fun _ => 0))) :: (st, zo 1 [.null, .null, .int 0, .null, .null, .null, .int 0, .int 0, .ref co]) :: rest) s H locs := hw
  refine z_putF hC zf_X1_15_1 ⟨_, rfl, rfl⟩ hnm hw 1 rfl rfl rfl (Nat.le_of_ble_eq_true rfl) dX1_init_14 (fun H locs hw => ?_)
  have hw : zS G ((q_12, zc G 1 (zI 9 (fun _ => 0))) :: (st, zo 1 [.ref q_12, .null, .int 0, .null, .null, .null, .int 0, .int 0, .ref co]) :: rest) s H locs := hw
  refine lv_aload_n hx hb dX1_init_17 rfl (lv_at hl 0 rfl) ?_
  refine lv_bipush (v := (nI 9)) hx hb dX1_init_18 zb_9 ?_
  refine z_newa (t := 1) (atype := .byte) (a0 := zI 9 (fun _ => 0)) hC (hC.hts _ q149) (fun _ => rfl) hw (fun _ => rfl) (by decide) (by decide) (Nat.le_of_ble_eq_true rfl) (Nat.le_of_ble_eq_true rfl) dX1_init_20 (fun q_20 H hw => ?_)
  have hw : zS G ((q_20, zc G 1 (zI 9 (fun _ => 0))) :: (q_12, zc G 1 (zI 9 (fun _ => 0))) :: (st, zo 1 [.ref q_12, .null, .int 0, .null, .null, .null, .int 0, .int 0, .ref co]) :: rest) s H locs := hw
  refine z_putF hC zf_X1_19_1 ⟨_, rfl, rfl⟩ hnm hw 2 rfl rfl rfl (Nat.le_of_ble_eq_true rfl) dX1_init_22 (fun H locs hw => ?_)
  have hw : zS G ((q_20, zc G 1 (zI 9 (fun _ => 0))) :: (q_12, zc G 1 (zI 9 (fun _ => 0))) :: (st, zo 1 [.ref q_12, .ref q_20, .int 0, .null, .null, .null, .int 0, .int 0, .ref co]) :: rest) s H locs := hw
  refine lv_aload_n hx hb dX1_init_25 rfl (lv_at hl 0 rfl) ?_
  refine lv_iconst (v := (nI 5)) hx hb dX1_init_26 zk_5 ?_
  refine z_newa (t := 1) (atype := .byte) (a0 := zI 5 (fun _ => 0)) hC (hC.hts _ q149) (fun _ => rfl) hw (fun _ => rfl) (by decide) (by decide) (Nat.le_of_ble_eq_true rfl) (Nat.le_of_ble_eq_true rfl) dX1_init_27 (fun q_27 H hw => ?_)
  have hw : zS G ((q_27, zc G 1 (zI 5 (fun _ => 0))) :: (q_20, zc G 1 (zI 9 (fun _ => 0))) :: (q_12, zc G 1 (zI 9 (fun _ => 0))) :: (st, zo 1 [.ref q_12, .ref q_20, .int 0, .null, .null, .null, .int 0, .int 0, .ref co]) :: rest) s H locs := hw
  refine z_putF hC zf_X1_22_1 ⟨_, rfl, rfl⟩ hnm hw 3 rfl rfl rfl (Nat.le_of_ble_eq_true rfl) dX1_init_29 (fun H locs hw => ?_)
  have hw : zS G ((q_27, zc G 1 (zI 5 (fun _ => 0))) :: (q_20, zc G 1 (zI 9 (fun _ => 0))) :: (q_12, zc G 1 (zI 9 (fun _ => 0))) :: (st, zo 1 [.ref q_12, .ref q_20, .int 0, .ref q_27, .null, .null, .int 0, .int 0, .ref co]) :: rest) s H locs := hw
  refine lv_aload_n hx hb dX1_init_32 rfl (lv_at hl 0 rfl) ?_
  refine lv_iconst (v := (nI 5)) hx hb dX1_init_33 zk_5 ?_
  refine z_newa (t := 1) (atype := .byte) (a0 := zI 5 (fun _ => 0)) hC (hC.hts _ q149) (fun _ => rfl) hw (fun _ => rfl) (by decide) (by decide) (Nat.le_of_ble_eq_true rfl) (Nat.le_of_ble_eq_true rfl) dX1_init_34 (fun q_34 H hw => ?_)
  have hw : zS G ((q_34, zc G 1 (zI 5 (fun _ => 0))) :: (q_27, zc G 1 (zI 5 (fun _ => 0))) :: (q_20, zc G 1 (zI 9 (fun _ => 0))) :: (q_12, zc G 1 (zI 9 (fun _ => 0))) :: (st, zo 1 [.ref q_12, .ref q_20, .int 0, .ref q_27, .null, .null, .int 0, .int 0, .ref co]) :: rest) s H locs := hw
  refine z_putF hC zf_X1_25_1 ⟨_, rfl, rfl⟩ hnm hw 4 rfl rfl rfl (Nat.le_of_ble_eq_true rfl) dX1_init_36 (fun H locs hw => ?_)
  have hw : zS G ((q_34, zc G 1 (zI 5 (fun _ => 0))) :: (q_27, zc G 1 (zI 5 (fun _ => 0))) :: (q_20, zc G 1 (zI 9 (fun _ => 0))) :: (q_12, zc G 1 (zI 9 (fun _ => 0))) :: (st, zo 1 [.ref q_12, .ref q_20, .int 0, .ref q_27, .ref q_34, .null, .int 0, .int 0, .ref co]) :: rest) s H locs := hw
  refine lv_aload_n hx hb dX1_init_39 rfl (lv_at hl 0 rfl) ?_
  refine lv_iconst (v := (nI 5)) hx hb dX1_init_40 zk_5 ?_
  refine z_newa (t := 2) (atype := .short) (a0 := zI 5 (fun _ => 0)) hC (hC.hts _ q150) (fun _ => rfl) hw (fun _ => rfl) (by decide) (by decide) (Nat.le_of_ble_eq_true rfl) (Nat.le_of_ble_eq_true rfl) dX1_init_41 (fun q_41 H hw => ?_)
  have hw : zS G ((q_41, zc G 2 (zI 5 (fun _ => 0))) :: (q_34, zc G 1 (zI 5 (fun _ => 0))) :: (q_27, zc G 1 (zI 5 (fun _ => 0))) :: (q_20, zc G 1 (zI 9 (fun _ => 0))) :: (q_12, zc G 1 (zI 9 (fun _ => 0))) :: (st, zo 1 [.ref q_12, .ref q_20, .int 0, .ref q_27, .ref q_34, .null, .int 0, .int 0, .ref co]) :: rest) s H locs := hw
  refine z_putF hC zf_X1_28_1 ⟨_, rfl, rfl⟩ hnm hw 5 rfl rfl rfl (Nat.le_of_ble_eq_true rfl) dX1_init_43 (fun H locs hw => ?_)
  have hw : zS G ((q_41, zc G 2 (zI 5 (fun _ => 0))) :: (q_34, zc G 1 (zI 5 (fun _ => 0))) :: (q_27, zc G 1 (zI 5 (fun _ => 0))) :: (q_20, zc G 1 (zI 9 (fun _ => 0))) :: (q_12, zc G 1 (zI 9 (fun _ => 0))) :: (st, zo 1 [.ref q_12, .ref q_20, .int 0, .ref q_27, .ref q_34, .ref q_41, .int 0, .int 0, .ref co]) :: rest) s H locs := hw
  have hw := hw.perm ((z_cut (is := [4, 3, 2, 1, 0, 5]) (ws := [(q_41, zc G 2 (zI 5 (fun _ => 0))), (q_34, zc G 1 (zI 5 (fun _ => 0))), (q_27, zc G 1 (zI 5 (fun _ => 0))), (q_20, zc G 1 (zI 9 (fun _ => 0))), (q_12, zc G 1 (zI 9 (fun _ => 0))), (st, zo 1 [.ref q_12, .ref q_20, .int 0, .ref q_27, .ref q_34, .ref q_41, .int 0, .int 0, .ref co])]) (cells := [(q_12, zc G 1 (zI 9 (fun _ => 0))), (q_20, zc G 1 (zI 9 (fun _ => 0))), (q_27, zc G 1 (zI 5 (fun _ => 0))), (q_34, zc G 1 (zI 5 (fun _ => 0))), (q_41, zc G 2 (zI 5 (fun _ => 0))), (st, zo 1 [.ref q_12, .ref q_20, .int 0, .ref q_27, .ref q_34, .ref q_41, .int 0, .int 0, .ref co])]) rfl rfl).append_right rest)
  have hw : zS G (((qF [q_12, q_20, q_27, q_34, q_41]) 0, zc G 1 (zI 9 (vI (fun _ => 0)))) :: ((qF [q_12, q_20, q_27, q_34, q_41]) 1, zc G 1 (zI 9 (vI (fun _ => 0)))) :: ((qF [q_12, q_20, q_27, q_34, q_41]) 2, zc G 1 (zI 5 (vI (fun _ => 0)))) :: ((qF [q_12, q_20, q_27, q_34, q_41]) 3, zc G 1 (zI 5 (vI (fun _ => 0)))) :: ((qF [q_12, q_20, q_27, q_34, q_41]) 4, zc G 2 (zI 5 (vI (fun _ => 0)))) :: (st, zo 1 (stF (qF [q_12, q_20, q_27, q_34, q_41]) co (nI 0) (nI 0) (nI 0))) :: rest) s H locs := hw
  generalize qF [q_12, q_20, q_27, q_34, q_41] = q at hw
  exact hend _ _ _ _ _ _ q hw trivial (Nat.le_of_ble_eq_true rfl) (Nat.le_of_ble_eq_true rfl) dX1_init_46
