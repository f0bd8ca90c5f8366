/-! MODEL: what a hedge is asked -/
set_option maxRecDepth 100000
theorem nI_nm1 {a : Nat} (h : a < 2147483648) : nI a = -1 → False := by
  intro q
  have h1 := nI_toInt h
  rw [q] at h1
  have h2 : (-1 : Int32).toInt = -1 := by decide
  omega
/-- what a hedge's row is bounded by -/
def Hw (v : Nat → Nat) : Prop := v 0 ≤ 9 ∧ v 1 ≤ 5 ∧ (∀ i, v i < 65536) ∧ (∀ i, i < 5 → v (21 + 5 * i + 4) < 512) ∧ (∀ i, i < 5 → v (21 + 5 * i + 2) ≤ 9) ∧ ∀ i, i < 5 → v (21 + 5 * i + 3) ≤ 3
set_option maxHeartbeats 4000000 in
theorem m_X2_in (G : zE) (l : Launch) (x : Int32) (low : Int32) (upp : Int32) (rest : va_W) : zMi G l yX2_in cX2_in 3 (some .boolean) 0 0 0 [.int x, .int low, .int upp] (rest) (fun (r : Int32) (_ : Unit) => r = bI (low ≤ x ∧ x ≤ upp)) (fun (_ : Unit) => rest) := by
  refine z_begZ (by decide) (Nat.le_of_ble_eq_true rfl) (fun p e s m args below meth c ls Q hC hl hw hend => ?_)
  have hx := hC.hx
  have hb := hC.hb
  have hl : lv_has ls 3 [(0, .int x), (1, .int low), (2, .int upp)] := hl
  refine lv_iload_n hx hb dX2_in_0 rfl (lv_at hl 0 rfl) ?_
  refine lv_iload_n hx hb dX2_in_1 rfl (lv_at hl 1 rfl) ?_
  refine lv_icmp_lt (tgt := 14) hx hb dX2_in_2 (by decide) (fun c_2 => ?_) (fun c_2 => ?_)
  · skip
    refine lv_iconst (v := (nI 0)) hx hb dX2_in_14 zk_0 ?_
    exact hend _ _ _ _ _ _ _ () rfl hw (by first | exact (bI_t ⟨Int32.not_lt.mp c_2, Int32.not_lt.mp c_7⟩).symm | exact (bI_f (fun h => absurd c_2 (Int32.not_lt.mpr h.1))).symm | exact (bI_f (fun h => absurd c_7 (Int32.not_lt.mpr h.2))).symm) (Nat.le_of_ble_eq_true rfl) (Nat.le_of_ble_eq_true rfl) dX2_in_15
  · skip
    refine lv_iload_n hx hb dX2_in_5 rfl (lv_at hl 0 rfl) ?_
    refine lv_iload_n hx hb dX2_in_6 rfl (lv_at hl 2 rfl) ?_
    refine lv_icmp_gt (tgt := 14) hx hb dX2_in_7 (by decide) (fun c_7 => ?_) (fun c_7 => ?_)
    · skip
      refine lv_iconst (v := (nI 0)) hx hb dX2_in_14 zk_0 ?_
      exact hend _ _ _ _ _ _ _ () rfl hw (by first | exact (bI_t ⟨Int32.not_lt.mp c_2, Int32.not_lt.mp c_7⟩).symm | exact (bI_f (fun h => absurd c_2 (Int32.not_lt.mpr h.1))).symm | exact (bI_f (fun h => absurd c_7 (Int32.not_lt.mpr h.2))).symm) (Nat.le_of_ble_eq_true rfl) (Nat.le_of_ble_eq_true rfl) dX2_in_15
    · skip
      refine lv_iconst (v := (nI 1)) hx hb dX2_in_10 zk_1 ?_
      refine lv_goto (tgt := 15) hx hb dX2_in_11 (by decide) ?_
      exact hend _ _ _ _ _ _ _ () rfl hw (by first | exact (bI_t ⟨Int32.not_lt.mp c_2, Int32.not_lt.mp c_7⟩).symm | exact (bI_f (fun h => absurd c_2 (Int32.not_lt.mpr h.1))).symm | exact (bI_f (fun h => absurd c_7 (Int32.not_lt.mpr h.2))).symm) (Nat.le_of_ble_eq_true rfl) (Nat.le_of_ble_eq_true rfl) dX2_in_15
set_option maxHeartbeats 4000000 in
theorem m_X2_has (G : zE) (l : Launch) (a : Nat) (k : Nat) (ha : a < 2147483648) (hk : k < 31) (rest : va_W) : zMi G l yX2_has cX2_has 2 (some .boolean) 0 0 0 [.int (nI a), .int (nI k)] (rest) (fun (r : Int32) (_ : Unit) => r = bI (a.testBit k = true)) (fun (_ : Unit) => rest) := by
  refine z_begZ (by decide) (Nat.le_of_ble_eq_true rfl) (fun p e s m args below meth c ls Q hC hl hw hend => ?_)
  have hx := hC.hx
  have hb := hC.hb
  have hl : lv_has ls 2 [(0, .int (nI a)), (1, .int (nI k))] := hl
  refine lv_iload_n hx hb dX2_has_0 rfl (lv_at hl 0 rfl) ?_
  refine lv_iload_n hx hb dX2_has_1 rfl (lv_at hl 1 rfl) ?_
  refine zv_ishr (v := (nI (a / 2 ^ k))) hx hb (nI_shr (by omega) (by omega)) dX2_has_2 ?_
  refine lv_iconst (v := (nI 1)) hx hb dX2_has_3 zk_1 ?_
  refine zv_iand (v := (nI ((a / 2 ^ k) &&& 1))) hx hb (nI_and _ _) dX2_has_4 ?_
  refine lv_iconst (v := (nI 1)) hx hb dX2_has_5 zk_1 ?_
  refine zi_ne (tgt := 13) hx hb (Nat.lt_of_le_of_lt Nat.and_le_right (by decide)) (by decide) dX2_has_6 (by decide) (fun c_6 => ?_) (fun c_6 => ?_)
  · skip
    refine lv_iconst (v := (nI 0)) hx hb dX2_has_13 zk_0 ?_
    exact hend _ _ _ _ _ _ _ () rfl hw (by first | exact (bI_t ((has_iff _ _).mp c_6)).symm | exact (bI_f (fun h => c_6 ((has_iff _ _).mpr h))).symm) (Nat.le_of_ble_eq_true rfl) (Nat.le_of_ble_eq_true rfl) dX2_has_14
  · skip
    refine lv_iconst (v := (nI 1)) hx hb dX2_has_9 zk_1 ?_
    refine lv_goto (tgt := 14) hx hb dX2_has_10 (by decide) ?_
    exact hend _ _ _ _ _ _ _ () rfl hw (by first | exact (bI_t ((has_iff _ _).mp c_6)).symm | exact (bI_f (fun h => c_6 ((has_iff _ _).mpr h))).symm) (Nat.le_of_ble_eq_true rfl) (Nat.le_of_ble_eq_true rfl) dX2_has_14
set_option maxHeartbeats 4000000 in
theorem m_X2_ones (G : zE) (l : Launch) (a : Nat) (ha : a < 2147483648) (rest : va_W) : zMi G l yX2_ones cX2_ones 3 (some .int) 0 0 0 [.int (nI a)] (rest) (fun (r : Int32) (_ : Unit) => r = nI (onesN a 9)) (fun (_ : Unit) => rest) := by
  refine z_begI (by decide) (Nat.le_of_ble_eq_true rfl) (fun p e s m args below meth c ls Q hC hl hw hend => ?_)
  have hx := hC.hx
  have hb := hC.hb
  have hl : lv_has ls 3 [(0, .int (nI a))] := hl
  refine lv_iconst (v := (nI 0)) hx hb dX2_ones_0 zk_0 ?_
  refine lv_istore_n (lv' := [(1, .int (nI 0)), (0, .int (nI a))]) hx hb dX2_ones_1 rfl hl (by decide) rfl (fun ls hl => ?_)
  refine lv_iconst (v := (nI 0)) hx hb dX2_ones_2 zk_0 ?_
  refine lv_istore_n (lv' := [(2, .int (nI 0)), (1, .int (nI 0)), (0, .int (nI a))]) hx hb dX2_ones_3 rfl hl (by decide) rfl (fun ls hl => ?_)
  have loop_4 : ∀ (fuel : Nat) (k : Nat), (k ≤ 9) → (9 - k) < fuel → ∀ (H : Heap) (locs : List Loc) (ls : Array Slot), zS G (rest) s H locs → lv_has ls 3 [(0, .int (nI a)), (1, .int (nI (onesN a k))), (2, .int (nI k))] → W p l e (zR 0 0 0) s m args below meth c H locs 0 0 Q (F0 m 4 ls []) := by
    intro fuel
    induction fuel with
    | zero => intro k hk hfuel; exact absurd hfuel (Nat.not_lt_zero _)
    | succ fuel_4 ih_4 =>
      intro k hk hfuel_4 H locs ls hw hl
      refine lv_iload_n hx hb dX2_ones_4 rfl (lv_at hl 2 rfl) ?_
      refine lv_bipush (v := (nI 9)) hx hb dX2_ones_5 zb_9 ?_
      refine zi_ge (tgt := 24) hx hb (by omega) (by decide) dX2_ones_7 (by decide) (fun c_7 => ?_) (fun c_7 => ?_)
      · skip
        refine lv_iload_n hx hb dX2_ones_24 rfl (lv_at hl 1 rfl) ?_
        exact hend _ _ _ _ _ _ _ () hw (by rw [show k = 9 by omega]) (Nat.le_of_ble_eq_true rfl) (Nat.le_of_ble_eq_true rfl) dX2_ones_25
      · skip
        refine lv_iload_n hx hb dX2_ones_10 rfl (lv_at hl 1 rfl) ?_
        refine lv_iload_n hx hb dX2_ones_11 rfl (lv_at hl 0 rfl) ?_
        refine lv_iload_n hx hb dX2_ones_12 rfl (lv_at hl 2 rfl) ?_
        refine zv_ishr (v := (nI (a / 2 ^ k))) hx hb (nI_shr (by omega) (by omega)) dX2_ones_13 ?_
        refine lv_iconst (v := (nI 1)) hx hb dX2_ones_14 zk_1 ?_
        refine zv_iand (v := (nI ((a / 2 ^ k) &&& 1))) hx hb (nI_and _ _) dX2_ones_15 ?_
        refine zn_iadd hx hb dX2_ones_16 ?_
        refine lv_istore_n (lv' := [(1, .int (nI (onesN a k + ((a / 2 ^ k) &&& 1)))), (0, .int (nI a)), (2, .int (nI k))]) hx hb dX2_ones_17 rfl hl (by decide) rfl (fun ls hl => ?_)
        refine lv_iinc (v := (nI (k + 1))) (lv' := [(2, .int (nI (k + 1))), (1, .int (nI (onesN a k + ((a / 2 ^ k) &&& 1)))), (0, .int (nI a))]) hx hb dX2_ones_18 hl (k := 2) rfl (zincn _ 1) (by decide) rfl (fun ls hl => ?_)
        refine lv_goto (tgt := 4) hx hb dX2_ones_21 (by decide) ?_
        exact ih_4 (k + 1) (by omega) (by omega) H locs ls hw (lv_sub hl [2, 1, 0] rfl)
  exact loop_4 ((9 - 0) + 1) 0 (by decide) (Nat.lt_succ_self _) s.heap [] ls hw (lv_sub hl [2, 1, 0] rfl)
set_option maxHeartbeats 4000000 in
theorem m_X2_lesser (G : zE) (l : Launch) (a : Nat) (b : Nat) (ha : a < 2147483648) (hb9 : b < 2147483648) (rest : va_W) : zMi G l yX2_lesser cX2_lesser 2 (some .int) 0 0 0 [.int (nI a), .int (nI b)] (rest) (fun (r : Int32) (_ : Unit) => r = nI (min a b)) (fun (_ : Unit) => rest) := by
  refine z_begI (by decide) (Nat.le_of_ble_eq_true rfl) (fun p e s m args below meth c ls Q hC hl hw hend => ?_)
  have hx := hC.hx
  have hb := hC.hb
  have hl : lv_has ls 2 [(0, .int (nI a)), (1, .int (nI b))] := hl
  refine lv_iload_n hx hb dX2_lesser_0 rfl (lv_at hl 0 rfl) ?_
  refine lv_iload_n hx hb dX2_lesser_1 rfl (lv_at hl 1 rfl) ?_
  refine zi_ge (tgt := 9) hx hb (by omega) (by omega) dX2_lesser_2 (by decide) (fun c_2 => ?_) (fun c_2 => ?_)
  · skip
    refine lv_iload_n hx hb dX2_lesser_9 rfl (lv_at hl 1 rfl) ?_
    exact hend _ _ _ _ _ _ _ () hw (by first | rw [Nat.min_eq_left (by omega)] | rw [Nat.min_eq_right (by omega)]) (Nat.le_of_ble_eq_true rfl) (Nat.le_of_ble_eq_true rfl) dX2_lesser_10
  · skip
    refine lv_iload_n hx hb dX2_lesser_5 rfl (lv_at hl 0 rfl) ?_
    refine lv_goto (tgt := 10) hx hb dX2_lesser_6 (by decide) ?_
    exact hend _ _ _ _ _ _ _ () hw (by first | rw [Nat.min_eq_left (by omega)] | rw [Nat.min_eq_right (by omega)]) (Nat.le_of_ble_eq_true rfl) (Nat.le_of_ble_eq_true rfl) dX2_lesser_10
set_option maxHeartbeats 4000000 in
theorem m_X2_apart (G : zE) (l : Launch) (a : Nat) (b : Nat) (ha : a < 2147483648) (hb9 : b < 2147483648) (rest : va_W) : zMi G l yX2_apart cX2_apart 2 (some .int) 0 0 0 [.int (nI a), .int (nI b)] (rest) (fun (r : Int32) (_ : Unit) => r = nI (apartN a b)) (fun (_ : Unit) => rest) := by
  refine z_begI (by decide) (Nat.le_of_ble_eq_true rfl) (fun p e s m args below meth c ls Q hC hl hw hend => ?_)
  have hx := hC.hx
  have hb := hC.hb
  have hl : lv_has ls 2 [(0, .int (nI a)), (1, .int (nI b))] := hl
  refine lv_iload_n hx hb dX2_apart_0 rfl (lv_at hl 0 rfl) ?_
  refine lv_iload_n hx hb dX2_apart_1 rfl (lv_at hl 1 rfl) ?_
  refine zi_ge (tgt := 11) hx hb (by omega) (by omega) dX2_apart_2 (by decide) (fun c_2 => ?_) (fun c_2 => ?_)
  · skip
    refine lv_iload_n hx hb dX2_apart_11 rfl (lv_at hl 0 rfl) ?_
    refine lv_iload_n hx hb dX2_apart_12 rfl (lv_at hl 1 rfl) ?_
    refine zn_isub hx hb (by omega) dX2_apart_13 ?_
    exact hend _ _ _ _ _ _ _ () hw (by unfold apartN; first | rw [if_pos (by omega)] | rw [if_neg (by omega)]) (Nat.le_of_ble_eq_true rfl) (Nat.le_of_ble_eq_true rfl) dX2_apart_14
  · skip
    refine lv_iload_n hx hb dX2_apart_5 rfl (lv_at hl 1 rfl) ?_
    refine lv_iload_n hx hb dX2_apart_6 rfl (lv_at hl 0 rfl) ?_
    refine zn_isub hx hb (by omega) dX2_apart_7 ?_
    refine lv_goto (tgt := 14) hx hb dX2_apart_8 (by decide) ?_
    exact hend _ _ _ _ _ _ _ () hw (by unfold apartN; first | rw [if_pos (by omega)] | rw [if_neg (by omega)]) (Nat.le_of_ble_eq_true rfl) (Nat.le_of_ble_eq_true rfl) dX2_apart_14
theorem cpy_upd (f g : Nat → Int32) (a b k : Nat) : upd (va_cpy f g a b k) (b + k) (f (a + k)) = va_cpy f g a b (k + 1) := by
  funext j
  unfold upd va_cpy
  by_cases h : j = b + k
  · subst h
    rw [if_pos rfl, if_pos ⟨by omega, by omega⟩]
    congr 1; omega
  · rw [if_neg h]
    by_cases h2 : b ≤ j ∧ j < b + k
    · rw [if_pos h2, if_pos ⟨h2.1, by omega⟩]
    · rw [if_neg h2, if_neg (fun q => h2 ⟨q.1, by omega⟩)]
theorem cpy_0 (f g : Nat → Int32) (a b : Nat) : va_cpy f g a b 0 = g := by
  funext j
  unfold va_cpy
  rw [if_neg (by omega)]
set_option maxHeartbeats 4000000 in
theorem m_X2_copies (G : zE) (l : Launch) (x : Nat) (y : Nat) (a : Nat) (b : Nat) (n1 : Nat) (n2 : Nat) (f : Nat → Int32) (g : Nat → Int32) (ha : a + 46 ≤ n1) (hb9 : b + 46 ≤ n2) (hn1 : n1 < 65536) (hn2 : n2 < 65536) (rest : va_W) : zMv G l yX2_copies cX2_copies 5 0 0 0 [.ref x, .int (nI a), .ref y, .int (nI b)] ((x, zc G 0 (zI n1 f)) :: (y, zc G 0 (zI n2 g)) :: rest) (fun (_ : Unit) => True) (fun (_ : Unit) => (x, zc G 0 (zI n1 f)) :: (y, zc G 0 (zI n2 (va_cpy f g a b 46))) :: rest) := by
  refine z_begV (by decide) (Nat.le_of_ble_eq_true rfl) (fun p e s m args below meth c ls Q hC hnm hl hw hend => ?_)
  have hx := hC.hx
  have hb := hC.hb
  have hl : lv_has ls 5 [(0, .ref x), (1, .int (nI a)), (2, .ref y), (3, .int (nI b))] := hl
  have hw : zS G ((x, zc G 0 (zI n1 f)) :: (y, zc G 0 (zI n2 g)) :: rest) s s.heap [] := hw
  have hw : zS G ((x, zc G 0 (zI n1 f)) :: (y, zc G 0 (zI n2 (va_cpy f g a b 0))) :: rest) s s.heap [] := by rw [cpy_0]; exact hw
  refine lv_iconst (v := (nI 0)) hx hb dX2_copies_0 zk_0 ?_
  refine lv_istore (lv' := [(4, .int (nI 0)), (0, .ref x), (1, .int (nI a)), (2, .ref y), (3, .int (nI b))]) hx hb dX2_copies_1 hl (by decide) rfl (fun ls hl => ?_)
  have loop_3 : ∀ (fuel : Nat) (k : Nat), (k ≤ 46) → (46 - k) < fuel → ∀ (H : Heap) (locs : List Loc) (ls : Array Slot), zS G ((x, zc G 0 (zI n1 f)) :: (y, zc G 0 (zI n2 (va_cpy f g a b k))) :: rest) s H locs → lv_has ls 5 [(0, .ref x), (1, .int (nI a)), (2, .ref y), (3, .int (nI b)), (4, .int (nI k))] → W p l e (zR 0 0 0) s m args below meth c H locs 0 0 Q (F0 m 3 ls []) := by
    intro fuel
    induction fuel with
    | zero => intro k hk hfuel; exact absurd hfuel (Nat.not_lt_zero _)
    | succ fuel_3 ih_3 =>
      intro k hk hfuel_3 H locs ls hw hl
      refine lv_iload hx hb dX2_copies_3 (lv_at hl 4 rfl) ?_
      refine lv_bipush (v := (nI 46)) hx hb dX2_copies_5 zb_46 ?_
      refine zi_ge (tgt := 28) hx hb (by omega) (by decide) dX2_copies_7 (by decide) (fun c_7 => ?_) (fun c_7 => ?_)
      · skip
        have hw : zS G ((x, zc G 0 (zI n1 f)) :: (y, zc G 0 (zI n2 (va_cpy f g a b 46))) :: rest) s H locs := (show k = 46 by omega) ▸ hw
        exact hend _ _ _ _ _ _ () hw trivial (Nat.le_of_ble_eq_true rfl) (Nat.le_of_ble_eq_true rfl) dX2_copies_28
      · skip
        refine lv_aload_n hx hb dX2_copies_10 rfl (lv_at hl 2 rfl) ?_
        refine lv_iload_n hx hb dX2_copies_11 rfl (lv_at hl 3 rfl) ?_
        refine lv_iload hx hb dX2_copies_12 (lv_at hl 4 rfl) ?_
        refine zn_iadd hx hb dX2_copies_14 ?_
        refine lv_aload_n hx hb dX2_copies_15 rfl (lv_at hl 0 rfl) ?_
        refine lv_iload_n hx hb dX2_copies_16 rfl (lv_at hl 1 rfl) ?_
        refine lv_iload hx hb dX2_copies_17 (lv_at hl 4 rfl) ?_
        refine zn_iadd hx hb dX2_copies_19 ?_
        refine z_iald (x := (f (a + k))) hC hw 0 rfl (by omega) (by omega) rfl dX2_copies_20 ?_
        refine z_iast (f' := va_cpy f g a b (k + 1)) hC hw 1 rfl (by omega) (by omega) (cpy_upd f g a b k) dX2_copies_21 (fun H locs hw => ?_)
        have hw : zS G ((x, zc G 0 (zI n1 f)) :: (y, zc G 0 (zI n2 (va_cpy f g a b (k + 1)))) :: rest) s H locs := hw
        refine lv_iinc (v := (nI (k + 1))) (lv' := [(4, .int (nI (k + 1))), (0, .ref x), (1, .int (nI a)), (2, .ref y), (3, .int (nI b))]) hx hb dX2_copies_22 hl (k := 4) rfl (zincn _ 1) (by decide) rfl (fun ls hl => ?_)
        refine lv_goto (tgt := 3) hx hb dX2_copies_25 (by decide) ?_
        exact ih_3 (k + 1) (by omega) (by omega) H locs ls hw (lv_sub hl [1, 2, 3, 4, 0] rfl)
  have hw : zS G ((x, zc G 0 (zI n1 f)) :: (y, zc G 0 (zI n2 (va_cpy f g a b 0))) :: rest) s s.heap [] := hw
  exact loop_3 ((46 - 0) + 1) 0 (by decide) (Nat.lt_succ_self _) s.heap [] ls hw (lv_sub hl [1, 2, 3, 4, 0] rfl)
set_option maxHeartbeats 4000000 in
theorem m_X2_wants (G : zE) (l : Launch) (k : Nat) (n : Nat) (hk : k < 65536) (hn : n < 65536) (rest : va_W) : zMi G l yX2_wants cX2_wants 2 (some .int) 0 0 0 [.int (nI k), .int (nI n)] (rest) (fun (r : Int32) (_ : Unit) => r = nI (wantsN k n)) (fun (_ : Unit) => rest) := by
  refine z_begI (by decide) (Nat.le_of_ble_eq_true rfl) (fun p e s m args below meth c ls Q hC hl hw hend => ?_)
  have hx := hC.hx
  have hb := hC.hb
  have hl : lv_has ls 2 [(0, .int (nI k)), (1, .int (nI n))] := hl
  refine lv_iload_n hx hb dX2_wants_0 rfl (lv_at hl 0 rfl) ?_
  refine lv_iconst (v := (nI 1)) hx hb dX2_wants_1 zk_1 ?_
  refine zi_ne (tgt := 11) hx hb (by omega) (by decide) dX2_wants_2 (by decide) (fun c_2 => ?_) (fun c_2 => ?_)
  · skip
    refine lv_iload_n hx hb dX2_wants_11 rfl (lv_at hl 0 rfl) ?_
    refine lv_iconst (v := (nI 3)) hx hb dX2_wants_12 zk_3 ?_
    refine zi_ge (tgt := 20) hx hb (by omega) (by decide) dX2_wants_13 (by decide) (fun c_13 => ?_) (fun c_13 => ?_)
    · skip
      refine lv_iload_n hx hb dX2_wants_20 rfl (lv_at hl 1 rfl) ?_
      refine lv_iconst (v := (nI 1)) hx hb dX2_wants_21 zk_1 ?_
      refine zn_iadd hx hb dX2_wants_22 ?_
      exact hend _ _ _ _ _ _ _ () hw (by unfold wantsN; first | rw [if_pos c_2] | rw [if_neg c_2, if_pos (by omega)] | rw [if_neg c_2, if_neg (by omega)]) (Nat.le_of_ble_eq_true rfl) (Nat.le_of_ble_eq_true rfl) dX2_wants_23
    · skip
      refine lv_iload_n hx hb dX2_wants_16 rfl (lv_at hl 1 rfl) ?_
      refine lv_goto (tgt := 23) hx hb dX2_wants_17 (by decide) ?_
      exact hend _ _ _ _ _ _ _ () hw (by unfold wantsN; first | rw [if_pos c_2] | rw [if_neg c_2, if_pos (by omega)] | rw [if_neg c_2, if_neg (by omega)]) (Nat.le_of_ble_eq_true rfl) (Nat.le_of_ble_eq_true rfl) dX2_wants_23
  · skip
    refine lv_iconst (v := (nI 2)) hx hb dX2_wants_5 zk_2 ?_
    refine lv_iload_n hx hb dX2_wants_6 rfl (lv_at hl 1 rfl) ?_
    refine zn_imul hx hb dX2_wants_7 ?_
    refine lv_goto (tgt := 23) hx hb dX2_wants_8 (by decide) ?_
    exact hend _ _ _ _ _ _ _ () hw (by unfold wantsN; first | rw [if_pos c_2] | rw [if_neg c_2, if_pos (by omega)] | rw [if_neg c_2, if_neg (by omega)]) (Nat.le_of_ble_eq_true rfl) (Nat.le_of_ble_eq_true rfl) dX2_wants_23
set_option maxHeartbeats 4000000 in
theorem m_X2_wakes (G : zE) (l : Launch) (k : Nat) (d : Nat) (hk : k < 65536) (hd : d < 65536) (rest : va_W) : zMi G l yX2_wakes cX2_wakes 2 (some .boolean) 0 0 0 [.int (nI k), .int (nI d)] (rest) (fun (r : Int32) (_ : Unit) => r = bI (wakesN k d)) (fun (_ : Unit) => rest) := by
  refine z_begZ (by decide) (Nat.le_of_ble_eq_true rfl) (fun p e s m args below meth c ls Q hC hl hw hend => ?_)
  have hx := hC.hx
  have hb := hC.hb
  have hl : lv_has ls 2 [(0, .int (nI k)), (1, .int (nI d))] := hl
  refine lv_iload_n hx hb dX2_wakes_0 rfl (lv_at hl 0 rfl) ?_
  refine lv_iconst (v := (nI 3)) hx hb dX2_wakes_1 zk_3 ?_
  refine zi_ne (tgt := 11) hx hb (by omega) (by decide) dX2_wakes_2 (by decide) (fun c_2 => ?_) (fun c_2 => ?_)
  · skip
    refine lv_iconst (v := (nI 1)) hx hb dX2_wakes_11 zk_1 ?_
    refine lv_goto (tgt := 16) hx hb dX2_wakes_12 (by decide) ?_
    exact hend _ _ _ _ _ _ _ () rfl hw (by first | exact (bI_t (fun h => absurd h c_2)).symm | exact (bI_t (fun _ => c_8)).symm | exact (bI_f (fun h => c_8 (h c_2))).symm) (Nat.le_of_ble_eq_true rfl) (Nat.le_of_ble_eq_true rfl) dX2_wakes_16
  · skip
    refine lv_iload_n hx hb dX2_wakes_5 rfl (lv_at hl 1 rfl) ?_
    refine lv_iconst (v := (nI 2)) hx hb dX2_wakes_6 zk_2 ?_
    refine zn_irem hx hb (by omega) (by decide) (by decide) dX2_wakes_7 ?_
    refine zj_ne (tgt := 15) hx hb (by omega) dX2_wakes_8 (by decide) (fun c_8 => ?_) (fun c_8 => ?_)
    · skip
      refine lv_iconst (v := (nI 0)) hx hb dX2_wakes_15 zk_0 ?_
      exact hend _ _ _ _ _ _ _ () rfl hw (by first | exact (bI_t (fun h => absurd h c_2)).symm | exact (bI_t (fun _ => c_8)).symm | exact (bI_f (fun h => c_8 (h c_2))).symm) (Nat.le_of_ble_eq_true rfl) (Nat.le_of_ble_eq_true rfl) dX2_wakes_16
    · skip
      refine lv_iconst (v := (nI 1)) hx hb dX2_wakes_11 zk_1 ?_
      refine lv_goto (tgt := 16) hx hb dX2_wakes_12 (by decide) ?_
      exact hend _ _ _ _ _ _ _ () rfl hw (by first | exact (bI_t (fun h => absurd h c_2)).symm | exact (bI_t (fun _ => c_8)).symm | exact (bI_f (fun h => c_8 (h c_2))).symm) (Nat.le_of_ble_eq_true rfl) (Nat.le_of_ble_eq_true rfl) dX2_wakes_16
set_option maxHeartbeats 4000000 in
theorem m_X2_isGone (G : zE) (l : Launch) (w : Nat) (v : Nat → Nat) (i : Nat) (hH : Hw v) (hi : i < 5) (rest : va_W) : zMi G l yX2_isGone cX2_isGone 2 (some .boolean) 0 0 0 [.ref w, .int (nI i)] ((w, zc G 0 (zI 46 (vI v))) :: rest) (fun (r : Int32) (_ : Unit) => r = bI (goneN v i)) (fun (_ : Unit) => (w, zc G 0 (zI 46 (vI v))) :: rest) := by
  refine z_begZ (by decide) (Nat.le_of_ble_eq_true rfl) (fun p e s m args below meth c ls Q hC hl hw hend => ?_)
  have hx := hC.hx
  have hb := hC.hb
  have hl : lv_has ls 2 [(0, .ref w), (1, .int (nI i))] := hl
  have hw : zS G ((w, zc G 0 (zI 46 (vI v))) :: rest) s s.heap [] := hw
  refine lv_aload_n hx hb dX2_isGone_0 rfl (lv_at hl 0 rfl) ?_
  refine lv_bipush (v := (nI 21)) hx hb dX2_isGone_1 zb_21 ?_
  refine lv_iconst (v := (nI 5)) hx hb dX2_isGone_3 zk_5 ?_
  refine lv_iload_n hx hb dX2_isGone_4 rfl (lv_at hl 1 rfl) ?_
  refine zn_imul hx hb dX2_isGone_5 ?_
  refine zn_iadd hx hb dX2_isGone_6 ?_
  refine lv_iconst (v := (nI 3)) hx hb dX2_isGone_7 zk_3 ?_
  refine zn_iadd hx hb dX2_isGone_8 ?_
  refine z_iald (x := (nI (v (21 + 5 * i + 3)))) hC hw 0 rfl (by omega) (by decide) rfl dX2_isGone_9 ?_
  refine lv_iconst (v := (nI 3)) hx hb dX2_isGone_10 zk_3 ?_
  refine zi_ne (tgt := 18) hx hb (by have := hH.2.2.1 (21 + 5 * i + 3); omega) (by decide) dX2_isGone_11 (by decide) (fun c_11 => ?_) (fun c_11 => ?_)
  · skip
    refine lv_iconst (v := (nI 0)) hx hb dX2_isGone_18 zk_0 ?_
    exact hend _ _ _ _ _ _ _ () rfl hw (by first | exact (bI_t c_11).symm | exact (bI_f c_11).symm) (Nat.le_of_ble_eq_true rfl) (Nat.le_of_ble_eq_true rfl) dX2_isGone_19
  · skip
    refine lv_iconst (v := (nI 1)) hx hb dX2_isGone_14 zk_1 ?_
    refine lv_goto (tgt := 19) hx hb dX2_isGone_15 (by decide) ?_
    exact hend _ _ _ _ _ _ _ () rfl hw (by first | exact (bI_t c_11).symm | exact (bI_f c_11).symm) (Nat.le_of_ble_eq_true rfl) (Nat.le_of_ble_eq_true rfl) dX2_isGone_19
set_option maxHeartbeats 4000000 in
theorem m_X2_full (G : zE) (l : Launch) (w : Nat) (v : Nat → Nat) (hH : Hw v) (rest : va_W) : zMi G l yX2_full cX2_full 3 (some .int) 0 0 0 [.ref w] ((w, zc G 0 (zI 46 (vI v))) :: rest) (fun (r : Int32) (_ : Unit) => r = nI (fullN v)) (fun (_ : Unit) => (w, zc G 0 (zI 46 (vI v))) :: rest) := by
  refine z_begI (by decide) (Nat.le_of_ble_eq_true rfl) (fun p e s m args below meth c ls Q hC hl hw hend => ?_)
  have hx := hC.hx
  have hb := hC.hb
  have hl : lv_has ls 3 [(0, .ref w)] := hl
  have hw : zS G ((w, zc G 0 (zI 46 (vI v))) :: rest) s s.heap [] := hw
  have hp := hH.1
  refine lv_iconst (v := (nI 0)) hx hb dX2_full_0 zk_0 ?_
  refine lv_istore_n (lv' := [(1, .int (nI 0)), (0, .ref w)]) hx hb dX2_full_1 rfl hl (by decide) rfl (fun ls hl => ?_)
  refine lv_iconst (v := (nI 0)) hx hb dX2_full_2 zk_0 ?_
  refine lv_istore_n (lv' := [(2, .int (nI 0)), (1, .int (nI 0)), (0, .ref w)]) hx hb dX2_full_3 rfl hl (by decide) rfl (fun ls hl => ?_)
  have loop_4 : ∀ (fuel : Nat) (k : Nat), (k ≤ v 0) → (v 0 - k) < fuel → ∀ (H : Heap) (locs : List Loc) (ls : Array Slot), zS G ((w, zc G 0 (zI 46 (vI v))) :: rest) s H locs → lv_has ls 3 [(0, .ref w), (1, .int (nI (orB (fun p => decide (0 < v (3 + 2 * p + 1))) k))), (2, .int (nI k))] → W p l e (zR 0 0 0) s m args below meth c H locs 0 0 Q (F0 m 4 ls []) := by
    intro fuel
    induction fuel with
    | zero => intro k hk hfuel; exact absurd hfuel (Nat.not_lt_zero _)
    | succ fuel_4 ih_4 =>
      intro k hk hfuel_4 H locs ls hw hl
      refine lv_iload_n hx hb dX2_full_4 rfl (lv_at hl 2 rfl) ?_
      refine lv_aload_n hx hb dX2_full_5 rfl (lv_at hl 0 rfl) ?_
      refine lv_iconst (v := (nI 0)) hx hb dX2_full_6 zk_0 ?_
      refine z_iald (x := (nI (v 0))) hC hw 0 rfl (by decide) (by decide) rfl dX2_full_7 ?_
      refine zi_ge (tgt := 39) hx hb (by omega) (by have := hH.2.2.1 0; omega) dX2_full_8 (by decide) (fun c_8 => ?_) (fun c_8 => ?_)
      · skip
        refine lv_iload_n hx hb dX2_full_39 rfl (lv_at hl 1 rfl) ?_
        exact hend _ _ _ _ _ _ _ () hw (by rw [show k = v 0 by omega]; rfl) (Nat.le_of_ble_eq_true rfl) (Nat.le_of_ble_eq_true rfl) dX2_full_40
      · skip
        refine lv_iload_n hx hb dX2_full_11 rfl (lv_at hl 1 rfl) ?_
        have join_31 : ∀ (x : Nat), (x = if decide (0 < v (3 + 2 * k + 1)) = true then 2 ^ k else 0) → ∀ (H : Heap) (locs : List Loc) (ls : Array Slot), zS G ((w, zc G 0 (zI 46 (vI v))) :: rest) s H locs → lv_has ls 3 [(0, .ref w), (1, .int (nI (orB (fun p => decide (0 < v (3 + 2 * p + 1))) k))), (2, .int (nI k))] → W p l e (zR 0 0 0) s m args below meth c H locs 0 0 Q (F0 m 31 ls [.int (nI x), .int (nI (orB (fun p => decide (0 < v (3 + 2 * p + 1))) k))]) := by
          intro x hj H locs ls hw hl
          subst hj
          refine zv_ior (v := (nI ((orB (fun p => decide (0 < v (3 + 2 * p + 1))) k) ||| (if decide (0 < v (3 + 2 * k + 1)) = true then 2 ^ k else 0)))) hx hb (nI_or _ _) dX2_full_31 ?_
          refine lv_istore_n (lv' := [(1, .int (nI ((orB (fun p => decide (0 < v (3 + 2 * p + 1))) k) ||| (if decide (0 < v (3 + 2 * k + 1)) = true then 2 ^ k else 0)))), (0, .ref w), (2, .int (nI k))]) hx hb dX2_full_32 rfl hl (by decide) rfl (fun ls hl => ?_)
          refine lv_iinc (v := (nI (k + 1))) (lv' := [(2, .int (nI (k + 1))), (1, .int (nI ((orB (fun p => decide (0 < v (3 + 2 * p + 1))) k) ||| (if decide (0 < v (3 + 2 * k + 1)) = true then 2 ^ k else 0)))), (0, .ref w)]) hx hb dX2_full_33 hl (k := 2) rfl (zincn _ 1) (by decide) rfl (fun ls hl => ?_)
          refine lv_goto (tgt := 4) hx hb dX2_full_36 (by decide) ?_
          exact ih_4 (k + 1) (by have := hH.2.2.1 0; omega) (by have := hH.2.2.1 0; omega) H locs ls hw (lv_sub hl [2, 1, 0] rfl)
        refine lv_aload_n hx hb dX2_full_12 rfl (lv_at hl 0 rfl) ?_
        refine lv_iconst (v := (nI 3)) hx hb dX2_full_13 zk_3 ?_
        refine lv_iconst (v := (nI 2)) hx hb dX2_full_14 zk_2 ?_
        refine lv_iload_n hx hb dX2_full_15 rfl (lv_at hl 2 rfl) ?_
        refine zn_imul hx hb dX2_full_16 ?_
        refine zn_iadd hx hb dX2_full_17 ?_
        refine lv_iconst (v := (nI 1)) hx hb dX2_full_18 zk_1 ?_
        refine zn_iadd hx hb dX2_full_19 ?_
        refine z_iald (x := (nI (v (3 + 2 * k + 1)))) hC hw 0 rfl (by omega) (by decide) rfl dX2_full_20 ?_
        refine zj_le (tgt := 30) hx hb (by have := hH.2.2.1 (3 + 2 * k + 1); omega) dX2_full_21 (by decide) (fun c_21 => ?_) (fun c_21 => ?_)
        · skip
          refine lv_iconst (v := (nI 0)) hx hb dX2_full_30 zk_0 ?_
          exact join_31 0 (by first | rw [if_pos (decide_eq_true c_21)] | rw [if_neg (by simp; omega)]) H locs ls hw (lv_sub hl [0, 1, 2] rfl)
        · skip
          refine lv_iconst (v := (nI 1)) hx hb dX2_full_24 zk_1 ?_
          refine lv_iload_n hx hb dX2_full_25 rfl (lv_at hl 2 rfl) ?_
          refine zv_ishl (v := (nI (2 ^ k))) hx hb (nI_shl1 (by omega)) dX2_full_26 ?_
          refine lv_goto (tgt := 31) hx hb dX2_full_27 (by decide) ?_
          exact join_31 (2 ^ k) (by first | rw [if_pos (decide_eq_true c_21)] | rw [if_neg (by simp; omega)]) H locs ls hw (lv_sub hl [0, 1, 2] rfl)
  exact loop_4 ((v 0 - 0) + 1) 0 (by have := hH.2.2.1 0; omega) (Nat.lt_succ_self _) s.heap [] ls hw (lv_sub hl [2, 1, 0] rfl)
theorem apartN_lt {a b : Nat} (ha : a < 65536) (hb : b < 65536) : apartN a b < 2147483648 := by
  unfold apartN; split <;> omega
theorem zs_X2_149 : zSs RX2 149 yX2_apart cX2_apart 2 (some .int) 2 := ⟨lw_S q2004 q2005 q53 q2006, ⟨by decide +kernel, by decide +kernel⟩, by decide +kernel⟩
set_option maxHeartbeats 4000000 in
theorem m_X2_isNearer (G : zE) (l : Launch) (w : Nat) (v : Nat → Nat) (i : Nat) (t : Nat) (o : Nat) (hH : Hw v) (hi : i < 5) (ht : t < 9) (ho : o < 9) (rest : va_W) : zMi G l yX2_isNearer cX2_isNearer 7 (some .boolean) 1 0 0 [.ref w, .int (nI i), .int (nI t), .int (nI o)] ((w, zc G 0 (zI 46 (vI v))) :: rest) (fun (r : Int32) (_ : Unit) => r = bI (nearerN v i t o)) (fun (_ : Unit) => (w, zc G 0 (zI 46 (vI v))) :: rest) := by
  refine z_begZ (by decide) (Nat.le_of_ble_eq_true rfl) (fun p e s m args below meth c ls Q hC hl hw hend => ?_)
  have hx := hC.hx
  have hb := hC.hb
  have hl : lv_has ls 7 [(0, .ref w), (1, .int (nI i)), (2, .int (nI t)), (3, .int (nI o))] := hl
  have hw : zS G ((w, zc G 0 (zI 46 (vI v))) :: rest) s s.heap [] := hw
  refine lv_aload_n hx hb dX2_isNearer_0 rfl (lv_at hl 0 rfl) ?_
  refine lv_bipush (v := (nI 21)) hx hb dX2_isNearer_1 zb_21 ?_
  refine lv_iconst (v := (nI 5)) hx hb dX2_isNearer_3 zk_5 ?_
  refine lv_iload_n hx hb dX2_isNearer_4 rfl (lv_at hl 1 rfl) ?_
  refine zn_imul hx hb dX2_isNearer_5 ?_
  refine zn_iadd hx hb dX2_isNearer_6 ?_
  refine lv_iconst (v := (nI 1)) hx hb dX2_isNearer_7 zk_1 ?_
  refine zn_iadd hx hb dX2_isNearer_8 ?_
  refine z_iald (x := (nI (v (21 + 5 * i + 1)))) hC hw 0 rfl (by omega) (by decide) rfl dX2_isNearer_9 ?_
  refine lv_istore (lv' := [(4, .int (nI (v (21 + 5 * i + 1)))), (0, .ref w), (1, .int (nI i)), (2, .int (nI t)), (3, .int (nI o))]) hx hb dX2_isNearer_10 hl (by decide) rfl (fun ls hl => ?_)
  refine lv_iload hx hb dX2_isNearer_12 (lv_at hl 0 rfl) ?_
  refine lv_aload_n hx hb dX2_isNearer_14 rfl (lv_at hl 1 rfl) ?_
  refine lv_iconst (v := (nI 3)) hx hb dX2_isNearer_15 zk_3 ?_
  refine lv_iconst (v := (nI 2)) hx hb dX2_isNearer_16 zk_2 ?_
  refine lv_iload_n hx hb dX2_isNearer_17 rfl (lv_at hl 3 rfl) ?_
  refine zn_imul hx hb dX2_isNearer_18 ?_
  refine zn_iadd hx hb dX2_isNearer_19 ?_
  refine z_iald (x := (nI (v (3 + 2 * t)))) hC hw 0 rfl (by omega) (by decide) rfl dX2_isNearer_20 ?_
  refine z_ci (z_runS (As := [.int (nI (v (21 + 5 * i + 1))), .int (nI (v (3 + 2 * t)))]) (rest := []) hC zs_X2_149 (m_X2_apart G l (v (21 + 5 * i + 1)) (v (3 + 2 * t)) (by have := hH.2.2.1 (21 + 5 * i + 1); omega) (by have := hH.2.2.1 (3 + 2 * t); omega) _) hw rfl rfl (Nat.le_of_ble_eq_true rfl) hl.1 ⟨Nat.le_of_ble_eq_true rfl, Nat.le_of_ble_eq_true rfl⟩ ⟨(Nat.le_of_ble_eq_true rfl), (Nat.le_of_ble_eq_true rfl)⟩ dX2_isNearer_21) hw (fun _ => List.Perm.refl _) (fun r u H locs hp hw => ?_)
  obtain rfl : r = nI (apartN (v (21 + 5 * i + 1)) (v (3 + 2 * t))) := hp
  refine lv_istore (lv' := [(5, .int (nI (apartN (v (21 + 5 * i + 1)) (v (3 + 2 * t))))), (4, .int (nI (v (21 + 5 * i + 1)))), (0, .ref w), (1, .int (nI i)), (2, .int (nI t)), (3, .int (nI o))]) hx hb dX2_isNearer_24 hl (by decide) rfl (fun ls hl => ?_)
  refine lv_iload hx hb dX2_isNearer_26 (lv_at hl 1 rfl) ?_
  refine lv_aload_n hx hb dX2_isNearer_28 rfl (lv_at hl 2 rfl) ?_
  refine lv_iconst (v := (nI 3)) hx hb dX2_isNearer_29 zk_3 ?_
  refine lv_iconst (v := (nI 2)) hx hb dX2_isNearer_30 zk_2 ?_
  refine lv_iload_n hx hb dX2_isNearer_31 rfl (lv_at hl 5 rfl) ?_
  refine zn_imul hx hb dX2_isNearer_32 ?_
  refine zn_iadd hx hb dX2_isNearer_33 ?_
  refine z_iald (x := (nI (v (3 + 2 * o)))) hC hw 0 rfl (by omega) (by decide) rfl dX2_isNearer_34 ?_
  refine z_ci (z_runS (As := [.int (nI (v (21 + 5 * i + 1))), .int (nI (v (3 + 2 * o)))]) (rest := []) hC zs_X2_149 (m_X2_apart G l (v (21 + 5 * i + 1)) (v (3 + 2 * o)) (by have := hH.2.2.1 (21 + 5 * i + 1); omega) (by have := hH.2.2.1 (3 + 2 * o); omega) _) hw rfl rfl (Nat.le_of_ble_eq_true rfl) hl.1 ⟨Nat.le_of_ble_eq_true rfl, Nat.le_of_ble_eq_true rfl⟩ ⟨(Nat.le_of_ble_eq_true rfl), (Nat.le_of_ble_eq_true rfl)⟩ dX2_isNearer_35) hw (fun _ => List.Perm.refl _) (fun r u H locs hp hw => ?_)
  obtain rfl : r = nI (apartN (v (21 + 5 * i + 1)) (v (3 + 2 * o))) := hp
  refine lv_istore (lv' := [(6, .int (nI (apartN (v (21 + 5 * i + 1)) (v (3 + 2 * o))))), (5, .int (nI (apartN (v (21 + 5 * i + 1)) (v (3 + 2 * t))))), (4, .int (nI (v (21 + 5 * i + 1)))), (0, .ref w), (1, .int (nI i)), (2, .int (nI t)), (3, .int (nI o))]) hx hb dX2_isNearer_38 hl (by decide) rfl (fun ls hl => ?_)
  refine lv_iload hx hb dX2_isNearer_40 (lv_at hl 1 rfl) ?_
  refine lv_iload hx hb dX2_isNearer_42 (lv_at hl 0 rfl) ?_
  refine zi_lt (tgt := 71) hx hb (apartN_lt (hH.2.2.1 _) (hH.2.2.1 _)) (apartN_lt (hH.2.2.1 _) (hH.2.2.1 _)) dX2_isNearer_44 (by decide) (fun c_44 => ?_) (fun c_44 => ?_)
  · skip
    refine lv_iconst (v := (nI 1)) hx hb dX2_isNearer_71 zk_1 ?_
    refine lv_goto (tgt := 76) hx hb dX2_isNearer_72 (by decide) ?_
    exact hend _ _ _ _ _ _ _ () rfl hw (by first | exact (bI_t (Or.inl c_44)).symm | exact (bI_t (Or.inr ⟨c_51, c_68⟩)).symm | exact (bI_f (fun h => by unfold nearerN at h; omega)).symm) (Nat.le_of_ble_eq_true rfl) (Nat.le_of_ble_eq_true rfl) dX2_isNearer_76
  · skip
    refine lv_iload hx hb dX2_isNearer_47 (lv_at hl 1 rfl) ?_
    refine lv_iload hx hb dX2_isNearer_49 (lv_at hl 0 rfl) ?_
    refine zi_ne (tgt := 75) hx hb (apartN_lt (hH.2.2.1 _) (hH.2.2.1 _)) (apartN_lt (hH.2.2.1 _) (hH.2.2.1 _)) dX2_isNearer_51 (by decide) (fun c_51 => ?_) (fun c_51 => ?_)
    · skip
      refine lv_iconst (v := (nI 0)) hx hb dX2_isNearer_75 zk_0 ?_
      exact hend _ _ _ _ _ _ _ () rfl hw (by first | exact (bI_t (Or.inl c_44)).symm | exact (bI_t (Or.inr ⟨c_51, c_68⟩)).symm | exact (bI_f (fun h => by unfold nearerN at h; omega)).symm) (Nat.le_of_ble_eq_true rfl) (Nat.le_of_ble_eq_true rfl) dX2_isNearer_76
    · skip
      refine lv_aload_n hx hb dX2_isNearer_54 rfl (lv_at hl 3 rfl) ?_
      refine lv_iconst (v := (nI 3)) hx hb dX2_isNearer_55 zk_3 ?_
      refine lv_iconst (v := (nI 2)) hx hb dX2_isNearer_56 zk_2 ?_
      refine lv_iload_n hx hb dX2_isNearer_57 rfl (lv_at hl 5 rfl) ?_
      refine zn_imul hx hb dX2_isNearer_58 ?_
      refine zn_iadd hx hb dX2_isNearer_59 ?_
      refine z_iald (x := (nI (v (3 + 2 * t)))) hC hw 0 rfl (by omega) (by decide) rfl dX2_isNearer_60 ?_
      refine lv_aload_n hx hb dX2_isNearer_61 rfl (lv_at hl 3 rfl) ?_
      refine lv_iconst (v := (nI 3)) hx hb dX2_isNearer_62 zk_3 ?_
      refine lv_iconst (v := (nI 2)) hx hb dX2_isNearer_63 zk_2 ?_
      refine lv_iload_n hx hb dX2_isNearer_64 rfl (lv_at hl 6 rfl) ?_
      refine zn_imul hx hb dX2_isNearer_65 ?_
      refine zn_iadd hx hb dX2_isNearer_66 ?_
      refine z_iald (x := (nI (v (3 + 2 * o)))) hC hw 0 rfl (by omega) (by decide) rfl dX2_isNearer_67 ?_
      refine zi_ge (tgt := 75) hx hb (by have := hH.2.2.1 (3 + 2 * t); omega) (by have := hH.2.2.1 (3 + 2 * o); omega) dX2_isNearer_68 (by decide) (fun c_68 => ?_) (fun c_68 => ?_)
      · skip
        refine lv_iconst (v := (nI 0)) hx hb dX2_isNearer_75 zk_0 ?_
        exact hend _ _ _ _ _ _ _ () rfl hw (by first | exact (bI_t (Or.inl c_44)).symm | exact (bI_t (Or.inr ⟨c_51, c_68⟩)).symm | exact (bI_f (fun h => by unfold nearerN at h; omega)).symm) (Nat.le_of_ble_eq_true rfl) (Nat.le_of_ble_eq_true rfl) dX2_isNearer_76
      · skip
        refine lv_iconst (v := (nI 1)) hx hb dX2_isNearer_71 zk_1 ?_
        refine lv_goto (tgt := 76) hx hb dX2_isNearer_72 (by decide) ?_
        exact hend _ _ _ _ _ _ _ () rfl hw (by first | exact (bI_t (Or.inl c_44)).symm | exact (bI_t (Or.inr ⟨c_51, c_68⟩)).symm | exact (bI_f (fun h => by unfold nearerN at h; omega)).symm) (Nat.le_of_ble_eq_true rfl) (Nat.le_of_ble_eq_true rfl) dX2_isNearer_76
theorem picksN_f {v : Nat → Nat} {i set k : Nat} {b : Option Nat} (h : ¬ set.testBit k = true) (hb : b = picksN v i set k) : b = picksN v i set (k + 1) := by rw [picksN, if_neg h, hb]
theorem picksN_0 {v : Nat → Nat} {i set k : Nat} (h : set.testBit k = true) (hb : none = picksN v i set k) : some k = picksN v i set (k + 1) := by rw [picksN, if_pos h, ← hb]
theorem picksN_t {v : Nat → Nat} {i set k o : Nat} (h : set.testBit k = true) (hb : some o = picksN v i set k) (hn : betterN v i k o) : some k = picksN v i set (k + 1) := by
  rw [picksN, if_pos h, ← hb]
  show some k = if dB (betterN v i k o) = true then some k else some o
  rw [if_pos (dB_t hn)]
theorem picksN_n {v : Nat → Nat} {i set k o : Nat} (h : set.testBit k = true) (hb : some o = picksN v i set k) (hn : ¬ betterN v i k o) : some o = picksN v i set (k + 1) := by
  rw [picksN, if_pos h, ← hb]
  show some o = if dB (betterN v i k o) = true then some k else some o
  rw [if_neg (by rw [dB_f hn]; decide)]
theorem zs_X2_152 : zSs RX2 152 yX2_has cX2_has 2 (some .boolean) 2 := ⟨lw_S q1964 q1965 q53 q1966, ⟨by decide +kernel, by decide +kernel⟩, by decide +kernel⟩
theorem zs_X2_156 : zSs RX2 156 yX2_isNearer cX2_isNearer 7 (some .boolean) 4 := ⟨lw_S q2019 q2020 q53 q2021, ⟨by decide +kernel, by decide +kernel⟩, by decide +kernel⟩
set_option maxHeartbeats 4000000 in
theorem m_X2_picks (G : zE) (l : Launch) (w : Nat) (v : Nat → Nat) (i : Nat) (set : Nat) (hH : Hw v) (hi : i < 5) (hset : set < 2147483648) (rest : va_W) : zMi G l yX2_picks cX2_picks 9 (some .int) 2 0 0 [.ref w, .int (nI i), .int (nI set)] ((w, zc G 0 (zI 46 (vI v))) :: rest) (fun (r : Int32) (_ : Unit) => r = optI (picksN v i set (v 0))) (fun (_ : Unit) => (w, zc G 0 (zI 46 (vI v))) :: rest) := by
  refine z_begI (by decide) (Nat.le_of_ble_eq_true rfl) (fun p e s m args below meth c ls Q hC hl hw hend => ?_)
  have hx := hC.hx
  have hb := hC.hb
  have hl : lv_has ls 9 [(0, .ref w), (1, .int (nI i)), (2, .int (nI set))] := hl
  have hw : zS G ((w, zc G 0 (zI 46 (vI v))) :: rest) s s.heap [] := hw
  have hp := hH.1
  refine lv_aload_n hx hb dX2_picks_0 rfl (lv_at hl 0 rfl) ?_
  refine lv_bipush (v := (nI 21)) hx hb dX2_picks_1 zb_21 ?_
  refine lv_iconst (v := (nI 5)) hx hb dX2_picks_3 zk_5 ?_
  refine lv_iload_n hx hb dX2_picks_4 rfl (lv_at hl 1 rfl) ?_
  refine zn_imul hx hb dX2_picks_5 ?_
  refine zn_iadd hx hb dX2_picks_6 ?_
  refine z_iald (x := (nI (v (21 + 5 * i)))) hC hw 0 rfl (by omega) (by decide) rfl dX2_picks_7 ?_
  refine lv_istore_n (lv' := [(3, .int (nI (v (21 + 5 * i)))), (0, .ref w), (1, .int (nI i)), (2, .int (nI set))]) hx hb dX2_picks_8 rfl hl (by decide) rfl (fun ls hl => ?_)
  refine lv_iconst (v := -1) hx hb dX2_picks_9 zk_m1 ?_
  refine lv_istore (lv' := [(4, .int (-1)), (3, .int (nI (v (21 + 5 * i)))), (0, .ref w), (1, .int (nI i)), (2, .int (nI set))]) hx hb dX2_picks_10 hl (by decide) rfl (fun ls hl => ?_)
  refine lv_iconst (v := (nI 0)) hx hb dX2_picks_12 zk_0 ?_
  refine lv_istore (lv' := [(5, .int (nI 0)), (4, .int (-1)), (3, .int (nI (v (21 + 5 * i)))), (0, .ref w), (1, .int (nI i)), (2, .int (nI set))]) hx hb dX2_picks_13 hl (by decide) rfl (fun ls hl => ?_)
  have loop_15 : ∀ (fuel : Nat) (k : Nat) (b : Option Nat), (k ≤ v 0) → (b = picksN v i set k) → (∀ o, b = some o → o < k) → (v 0 - k) < fuel → ∀ (H : Heap) (locs : List Loc) (ls : Array Slot), zS G ((w, zc G 0 (zI 46 (vI v))) :: rest) s H locs → lv_has ls 9 [(0, .ref w), (1, .int (nI i)), (2, .int (nI set)), (3, .int (nI (v (21 + 5 * i)))), (4, .int (optI b)), (5, .int (nI k))] → W p l e (zR 2 0 0) s m args below meth c H locs 0 0 Q (F0 m 15 ls []) := by
    intro fuel
    induction fuel with
    | zero => intro k b hk hbe hbk hfuel; exact absurd hfuel (Nat.not_lt_zero _)
    | succ fuel_15 ih_15 =>
      intro k b hk hbe hbk hfuel_15 H locs ls hw hl
      refine lv_iload hx hb dX2_picks_15 (lv_at hl 5 rfl) ?_
      refine lv_aload_n hx hb dX2_picks_17 rfl (lv_at hl 0 rfl) ?_
      refine lv_iconst (v := (nI 0)) hx hb dX2_picks_18 zk_0 ?_
      refine z_iald (x := (nI (v 0))) hC hw 0 rfl (by decide) (by decide) rfl dX2_picks_19 ?_
      refine zi_ge (tgt := 156) hx hb (by omega) (by have := hH.2.2.1 0; omega) dX2_picks_20 (by decide) (fun c_20 => ?_) (fun c_20 => ?_)
      · skip
        refine lv_iload hx hb dX2_picks_156 (lv_at hl 4 rfl) ?_
        exact hend _ _ _ _ _ _ _ () hw (by rw [hbe, show k = v 0 by omega]) (Nat.le_of_ble_eq_true rfl) (Nat.le_of_ble_eq_true rfl) dX2_picks_158
      · skip
        refine lv_iload_n hx hb dX2_picks_23 rfl (lv_at hl 2 rfl) ?_
        refine lv_iload hx hb dX2_picks_24 (lv_at hl 5 rfl) ?_
        refine z_ci (z_runS (As := [.int (nI set), .int (nI k)]) (rest := []) hC zs_X2_152 (m_X2_has G l set k (by omega) (by omega) _) hw rfl rfl (Nat.le_of_ble_eq_true rfl) hl.1 ⟨Nat.le_of_ble_eq_true rfl, Nat.le_of_ble_eq_true rfl⟩ ⟨(Nat.le_of_ble_eq_true rfl), (Nat.le_of_ble_eq_true rfl)⟩ dX2_picks_26) hw (fun _ => List.Perm.refl _) (fun r u H locs hp hw => ?_)
        obtain rfl : r = bI (set.testBit k = true) := hp
        refine zb_eq (tgt := 150) hx hb dX2_picks_29 (by decide) (fun c_29 => ?_) (fun c_29 => ?_)
        · skip
          refine lv_iinc (v := (nI (k + 1))) (lv' := [(5, .int (nI (k + 1))), (0, .ref w), (1, .int (nI i)), (2, .int (nI set)), (3, .int (nI (v (21 + 5 * i)))), (4, .int (optI b))]) hx hb dX2_picks_150 hl (k := 5) rfl (zincn _ 1) (by decide) rfl (fun ls hl => ?_)
          refine lv_goto (tgt := 15) hx hb dX2_picks_153 (by decide) ?_
          exact ih_15 (k + 1) b (by have := hH.2.2.1 0; omega) (by first | exact picksN_f c_29 hbe | exact picksN_0 c_29 hbe | exact picksN_t c_29 hbe (Or.inl ⟨c_52, Or.inl c_83⟩) | exact picksN_t c_29 hbe (Or.inl ⟨c_52, Or.inr ⟨c_90, c_102⟩⟩) | exact picksN_t c_29 hbe (Or.inr ⟨c_122, c_138⟩) | exact picksN_n c_29 hbe (by rintro (⟨h1, h2 | ⟨h2, h3⟩⟩ | ⟨h1, h2⟩) <;> first | omega | exact absurd h3 c_102 | exact absurd h2 c_138)) (by intro o h; first | (cases h; omega) | (have := hbk o h; omega) | (have := hbk _ rfl; cases h; omega)) (by have := hH.2.2.1 0; omega) H locs ls hw (lv_sub hl [1, 2, 3, 4, 5, 0] rfl)
        · skip
          rcases b with _ | o
          · skip
            have hl : lv_has ls 9 [(0, .ref w), (1, .int (nI i)), (2, .int (nI set)), (3, .int (nI (v (21 + 5 * i)))), (4, .int (-1)), (5, .int (nI k))] := hl
            have hw : zS G ((w, zc G 0 (zI 46 (vI v))) :: rest) s H locs := hw
            refine lv_iload hx hb dX2_picks_32 (lv_at hl 4 rfl) ?_
            refine lv_iconst (v := -1) hx hb dX2_picks_34 zk_m1 ?_
            refine lv_icmp_ne (tgt := 42) hx hb dX2_picks_35 (by decide) (fun h => absurd h (by decide)) (fun _ => ?_)
            refine lv_iconst (v := (nI 1)) hx hb dX2_picks_38 zk_1 ?_
            refine lv_goto (tgt := 43) hx hb dX2_picks_39 (by decide) ?_
            refine lv_istore (lv' := [(6, .int (nI 1)), (0, .ref w), (1, .int (nI i)), (2, .int (nI set)), (3, .int (nI (v (21 + 5 * i)))), (4, .int (-1)), (5, .int (nI k))]) hx hb dX2_picks_43 hl (by decide) rfl (fun ls hl => ?_)
            refine lv_iload hx hb dX2_picks_45 (lv_at hl 0 rfl) ?_
            refine zj_ne (tgt := 115) hx hb (by decide) dX2_picks_47 (by decide) (fun _ => ?_) (fun h => absurd h (by decide))
            refine lv_iload hx hb dX2_picks_115 (lv_at hl 0 rfl) ?_
            refine zj_ne (tgt := 136) hx hb (by decide) dX2_picks_117 (by decide) (fun _ => ?_) (fun h => absurd h (by decide))
            refine lv_iload hx hb dX2_picks_136 (lv_at hl 0 rfl) ?_
            refine zj_eq (tgt := 146) hx hb (by decide) dX2_picks_138 (by decide) (fun h => absurd h (by decide)) (fun _ => ?_)
            refine lv_iload hx hb dX2_picks_141 (lv_at hl 6 rfl) ?_
            refine lv_goto (tgt := 148) hx hb dX2_picks_143 (by decide) ?_
            refine lv_istore (lv' := [(4, .int (nI k)), (6, .int (nI 1)), (0, .ref w), (1, .int (nI i)), (2, .int (nI set)), (3, .int (nI (v (21 + 5 * i)))), (5, .int (nI k))]) hx hb dX2_picks_148 hl (by decide) rfl (fun ls hl => ?_)
            refine lv_iinc (v := (nI (k + 1))) (lv' := [(5, .int (nI (k + 1))), (4, .int (nI k)), (6, .int (nI 1)), (0, .ref w), (1, .int (nI i)), (2, .int (nI set)), (3, .int (nI (v (21 + 5 * i))))]) hx hb dX2_picks_150 hl (k := 6) rfl (zincn _ 1) (by decide) rfl (fun ls hl => ?_)
            refine lv_goto (tgt := 15) hx hb dX2_picks_153 (by decide) ?_
            exact ih_15 (k + 1) (some k) (by have := hH.2.2.1 0; omega) (by first | exact picksN_f c_29 hbe | exact picksN_0 c_29 hbe | exact picksN_t c_29 hbe (Or.inl ⟨c_52, Or.inl c_83⟩) | exact picksN_t c_29 hbe (Or.inl ⟨c_52, Or.inr ⟨c_90, c_102⟩⟩) | exact picksN_t c_29 hbe (Or.inr ⟨c_122, c_138⟩) | exact picksN_n c_29 hbe (by rintro (⟨h1, h2 | ⟨h2, h3⟩⟩ | ⟨h1, h2⟩) <;> first | omega | exact absurd h3 c_102 | exact absurd h2 c_138)) (by intro o h; first | (cases h; omega) | (have := hbk o h; omega) | (have := hbk _ rfl; cases h; omega)) (by have := hH.2.2.1 0; omega) H locs ls hw (lv_sub hl [3, 4, 5, 6, 1, 0] rfl)
          · skip
            have hbo := hbk o rfl
            have hl : lv_has ls 9 [(0, .ref w), (1, .int (nI i)), (2, .int (nI set)), (3, .int (nI (v (21 + 5 * i)))), (4, .int (nI o)), (5, .int (nI k))] := hl
            have hw : zS G ((w, zc G 0 (zI 46 (vI v))) :: rest) s H locs := hw
            refine lv_iload hx hb dX2_picks_32 (lv_at hl 4 rfl) ?_
            refine lv_iconst (v := -1) hx hb dX2_picks_34 zk_m1 ?_
            refine lv_icmp_ne (tgt := 42) hx hb dX2_picks_35 (by decide) (fun _ => ?_) (fun h => absurd h (nI_nm1 (by omega)))
            refine lv_iconst (v := (nI 0)) hx hb dX2_picks_42 zk_0 ?_
            refine lv_istore (lv' := [(6, .int (nI 0)), (0, .ref w), (1, .int (nI i)), (2, .int (nI set)), (3, .int (nI (v (21 + 5 * i)))), (4, .int (nI o)), (5, .int (nI k))]) hx hb dX2_picks_43 hl (by decide) rfl (fun ls hl => ?_)
            refine lv_iload hx hb dX2_picks_45 (lv_at hl 0 rfl) ?_
            refine zj_ne (tgt := 115) hx hb (by decide) dX2_picks_47 (by decide) (fun h => absurd h (by decide)) (fun _ => ?_)
            refine lv_iload_n hx hb dX2_picks_50 rfl (lv_at hl 4 rfl) ?_
            refine lv_iconst (v := (nI 2)) hx hb dX2_picks_51 zk_2 ?_
            refine zi_ne (tgt := 115) hx hb (by have := hH.2.2.1 (21 + 5 * i); omega) (by decide) dX2_picks_52 (by decide) (fun c_52 => ?_) (fun c_52 => ?_)
            · skip
              refine lv_iload hx hb dX2_picks_115 (lv_at hl 0 rfl) ?_
              refine zj_ne (tgt := 136) hx hb (by decide) dX2_picks_117 (by decide) (fun h => absurd h (by decide)) (fun _ => ?_)
              refine lv_iload_n hx hb dX2_picks_120 rfl (lv_at hl 4 rfl) ?_
              refine lv_iconst (v := (nI 2)) hx hb dX2_picks_121 zk_2 ?_
              refine zi_ge (tgt := 136) hx hb (by have := hH.2.2.1 (21 + 5 * i); omega) (by decide) dX2_picks_122 (by decide) (fun c_122 => ?_) (fun c_122 => ?_)
              · skip
                refine lv_iload hx hb dX2_picks_136 (lv_at hl 0 rfl) ?_
                refine zj_eq (tgt := 146) hx hb (by decide) dX2_picks_138 (by decide) (fun _ => ?_) (fun h => absurd h (by decide))
                refine lv_iload hx hb dX2_picks_146 (lv_at hl 5 rfl) ?_
                refine lv_istore (lv' := [(4, .int (nI o)), (6, .int (nI 0)), (0, .ref w), (1, .int (nI i)), (2, .int (nI set)), (3, .int (nI (v (21 + 5 * i)))), (5, .int (nI k))]) hx hb dX2_picks_148 hl (by decide) rfl (fun ls hl => ?_)
                refine lv_iinc (v := (nI (k + 1))) (lv' := [(5, .int (nI (k + 1))), (4, .int (nI o)), (6, .int (nI 0)), (0, .ref w), (1, .int (nI i)), (2, .int (nI set)), (3, .int (nI (v (21 + 5 * i))))]) hx hb dX2_picks_150 hl (k := 6) rfl (zincn _ 1) (by decide) rfl (fun ls hl => ?_)
                refine lv_goto (tgt := 15) hx hb dX2_picks_153 (by decide) ?_
                exact ih_15 (k + 1) (some o) (by have := hH.2.2.1 0; omega) (by first | exact picksN_f c_29 hbe | exact picksN_0 c_29 hbe | exact picksN_t c_29 hbe (Or.inl ⟨c_52, Or.inl c_83⟩) | exact picksN_t c_29 hbe (Or.inl ⟨c_52, Or.inr ⟨c_90, c_102⟩⟩) | exact picksN_t c_29 hbe (Or.inr ⟨c_122, c_138⟩) | exact picksN_n c_29 hbe (by rintro (⟨h1, h2 | ⟨h2, h3⟩⟩ | ⟨h1, h2⟩) <;> first | omega | exact absurd h3 c_102 | exact absurd h2 c_138)) (by intro o h; first | (cases h; omega) | (have := hbk o h; omega) | (have := hbk _ rfl; cases h; omega)) (by have := hH.2.2.1 0; omega) H locs ls hw (lv_sub hl [3, 4, 5, 6, 1, 0] rfl)
              · skip
                refine lv_aload_n hx hb dX2_picks_125 rfl (lv_at hl 1 rfl) ?_
                refine lv_iload_n hx hb dX2_picks_126 rfl (lv_at hl 2 rfl) ?_
                refine lv_iload hx hb dX2_picks_127 (lv_at hl 6 rfl) ?_
                refine lv_iload hx hb dX2_picks_129 (lv_at hl 5 rfl) ?_
                refine z_ci (z_runS (As := [.ref w, .int (nI i), .int (nI k), .int (nI o)]) (rest := []) hC zs_X2_156 (m_X2_isNearer G l w v i k o (by first | assumption | (omega)) (by omega) (by omega) (by omega) (zrem [0] _)) (hw.perm (z_cut (is := [0]) (cells := [(w, zc G 0 (zI 46 (vI v)))]) rfl rfl)) rfl rfl (Nat.le_of_ble_eq_true rfl) hl.1 ⟨Nat.le_of_ble_eq_true rfl, Nat.le_of_ble_eq_true rfl⟩ ⟨(Nat.le_of_ble_eq_true rfl), (Nat.le_of_ble_eq_true rfl)⟩ dX2_picks_131) hw (fun _ => z_keep (is := [0]) (cs := [(w, zc G 0 (zI 46 (vI v)))]) rfl rfl) (fun r u H locs hp hw => ?_)
                obtain rfl : r = bI (nearerN v i k o) := hp
                refine lv_istore (lv' := [(6, .int (bI (nearerN v i k o))), (0, .ref w), (1, .int (nI i)), (2, .int (nI set)), (3, .int (nI (v (21 + 5 * i)))), (4, .int (nI o)), (5, .int (nI k))]) hx hb dX2_picks_134 hl (by decide) rfl (fun ls hl => ?_)
                refine lv_iload hx hb dX2_picks_136 (lv_at hl 0 rfl) ?_
                refine zb_eq (tgt := 146) hx hb dX2_picks_138 (by decide) (fun c_138 => ?_) (fun c_138 => ?_)
                · skip
                  refine lv_iload hx hb dX2_picks_146 (lv_at hl 5 rfl) ?_
                  refine lv_istore (lv' := [(4, .int (nI o)), (6, .int (bI (nearerN v i k o))), (0, .ref w), (1, .int (nI i)), (2, .int (nI set)), (3, .int (nI (v (21 + 5 * i)))), (5, .int (nI k))]) hx hb dX2_picks_148 hl (by decide) rfl (fun ls hl => ?_)
                  refine lv_iinc (v := (nI (k + 1))) (lv' := [(5, .int (nI (k + 1))), (4, .int (nI o)), (6, .int (bI (nearerN v i k o))), (0, .ref w), (1, .int (nI i)), (2, .int (nI set)), (3, .int (nI (v (21 + 5 * i))))]) hx hb dX2_picks_150 hl (k := 6) rfl (zincn _ 1) (by decide) rfl (fun ls hl => ?_)
                  refine lv_goto (tgt := 15) hx hb dX2_picks_153 (by decide) ?_
                  exact ih_15 (k + 1) (some o) (by have := hH.2.2.1 0; omega) (by first | exact picksN_f c_29 hbe | exact picksN_0 c_29 hbe | exact picksN_t c_29 hbe (Or.inl ⟨c_52, Or.inl c_83⟩) | exact picksN_t c_29 hbe (Or.inl ⟨c_52, Or.inr ⟨c_90, c_102⟩⟩) | exact picksN_t c_29 hbe (Or.inr ⟨c_122, c_138⟩) | exact picksN_n c_29 hbe (by rintro (⟨h1, h2 | ⟨h2, h3⟩⟩ | ⟨h1, h2⟩) <;> first | omega | exact absurd h3 c_102 | exact absurd h2 c_138)) (by intro o h; first | (cases h; omega) | (have := hbk o h; omega) | (have := hbk _ rfl; cases h; omega)) (by have := hH.2.2.1 0; omega) H locs ls hw (lv_sub hl [3, 4, 5, 6, 1, 0] rfl)
                · skip
                  refine lv_iload hx hb dX2_picks_141 (lv_at hl 6 rfl) ?_
                  refine lv_goto (tgt := 148) hx hb dX2_picks_143 (by decide) ?_
                  refine lv_istore (lv' := [(4, .int (nI k)), (6, .int (bI (nearerN v i k o))), (0, .ref w), (1, .int (nI i)), (2, .int (nI set)), (3, .int (nI (v (21 + 5 * i)))), (5, .int (nI k))]) hx hb dX2_picks_148 hl (by decide) rfl (fun ls hl => ?_)
                  refine lv_iinc (v := (nI (k + 1))) (lv' := [(5, .int (nI (k + 1))), (4, .int (nI k)), (6, .int (bI (nearerN v i k o))), (0, .ref w), (1, .int (nI i)), (2, .int (nI set)), (3, .int (nI (v (21 + 5 * i))))]) hx hb dX2_picks_150 hl (k := 6) rfl (zincn _ 1) (by decide) rfl (fun ls hl => ?_)
                  refine lv_goto (tgt := 15) hx hb dX2_picks_153 (by decide) ?_
                  exact ih_15 (k + 1) (some k) (by have := hH.2.2.1 0; omega) (by first | exact picksN_f c_29 hbe | exact picksN_0 c_29 hbe | exact picksN_t c_29 hbe (Or.inl ⟨c_52, Or.inl c_83⟩) | exact picksN_t c_29 hbe (Or.inl ⟨c_52, Or.inr ⟨c_90, c_102⟩⟩) | exact picksN_t c_29 hbe (Or.inr ⟨c_122, c_138⟩) | exact picksN_n c_29 hbe (by rintro (⟨h1, h2 | ⟨h2, h3⟩⟩ | ⟨h1, h2⟩) <;> first | omega | exact absurd h3 c_102 | exact absurd h2 c_138)) (by intro o h; first | (cases h; omega) | (have := hbk o h; omega) | (have := hbk _ rfl; cases h; omega)) (by have := hH.2.2.1 0; omega) H locs ls hw (lv_sub hl [3, 4, 5, 6, 1, 0] rfl)
            · skip
              refine lv_aload_n hx hb dX2_picks_55 rfl (lv_at hl 1 rfl) ?_
              refine lv_iconst (v := (nI 3)) hx hb dX2_picks_56 zk_3 ?_
              refine lv_iconst (v := (nI 2)) hx hb dX2_picks_57 zk_2 ?_
              refine lv_iload hx hb dX2_picks_58 (lv_at hl 6 rfl) ?_
              refine zn_imul hx hb dX2_picks_60 ?_
              refine zn_iadd hx hb dX2_picks_61 ?_
              refine lv_iconst (v := (nI 1)) hx hb dX2_picks_62 zk_1 ?_
              refine zn_iadd hx hb dX2_picks_63 ?_
              refine z_iald (x := (nI (v (3 + 2 * k + 1)))) hC hw 0 rfl (by omega) (by decide) rfl dX2_picks_64 ?_
              refine lv_istore (lv' := [(7, .int (nI (v (3 + 2 * k + 1)))), (6, .int (nI 0)), (0, .ref w), (1, .int (nI i)), (2, .int (nI set)), (3, .int (nI (v (21 + 5 * i)))), (4, .int (nI o)), (5, .int (nI k))]) hx hb dX2_picks_65 hl (by decide) rfl (fun ls hl => ?_)
              refine lv_aload_n hx hb dX2_picks_67 rfl (lv_at hl 2 rfl) ?_
              refine lv_iconst (v := (nI 3)) hx hb dX2_picks_68 zk_3 ?_
              refine lv_iconst (v := (nI 2)) hx hb dX2_picks_69 zk_2 ?_
              refine lv_iload hx hb dX2_picks_70 (lv_at hl 6 rfl) ?_
              refine zn_imul hx hb dX2_picks_72 ?_
              refine zn_iadd hx hb dX2_picks_73 ?_
              refine lv_iconst (v := (nI 1)) hx hb dX2_picks_74 zk_1 ?_
              refine zn_iadd hx hb dX2_picks_75 ?_
              refine z_iald (x := (nI (v (3 + 2 * o + 1)))) hC hw 0 rfl (by omega) (by decide) rfl dX2_picks_76 ?_
              refine lv_istore (lv' := [(8, .int (nI (v (3 + 2 * o + 1)))), (7, .int (nI (v (3 + 2 * k + 1)))), (6, .int (nI 0)), (0, .ref w), (1, .int (nI i)), (2, .int (nI set)), (3, .int (nI (v (21 + 5 * i)))), (4, .int (nI o)), (5, .int (nI k))]) hx hb dX2_picks_77 hl (by decide) rfl (fun ls hl => ?_)
              refine lv_iload hx hb dX2_picks_79 (lv_at hl 1 rfl) ?_
              refine lv_iload hx hb dX2_picks_81 (lv_at hl 0 rfl) ?_
              refine zi_lt (tgt := 105) hx hb (by have := hH.2.2.1 (3 + 2 * k + 1); omega) (by have := hH.2.2.1 (3 + 2 * o + 1); omega) dX2_picks_83 (by decide) (fun c_83 => ?_) (fun c_83 => ?_)
              · skip
                refine lv_iconst (v := (nI 1)) hx hb dX2_picks_105 zk_1 ?_
                refine lv_goto (tgt := 110) hx hb dX2_picks_106 (by decide) ?_
                refine lv_istore (lv' := [(6, .int (nI 1)), (8, .int (nI (v (3 + 2 * o + 1)))), (7, .int (nI (v (3 + 2 * k + 1)))), (0, .ref w), (1, .int (nI i)), (2, .int (nI set)), (3, .int (nI (v (21 + 5 * i)))), (4, .int (nI o)), (5, .int (nI k))]) hx hb dX2_picks_110 hl (by decide) rfl (fun ls hl => ?_)
                refine lv_goto (tgt := 136) hx hb dX2_picks_112 (by decide) ?_
                refine lv_iload hx hb dX2_picks_136 (lv_at hl 0 rfl) ?_
                refine zj_eq (tgt := 146) hx hb (by decide) dX2_picks_138 (by decide) (fun h => absurd h (by decide)) (fun _ => ?_)
                refine lv_iload hx hb dX2_picks_141 (lv_at hl 8 rfl) ?_
                refine lv_goto (tgt := 148) hx hb dX2_picks_143 (by decide) ?_
                refine lv_istore (lv' := [(4, .int (nI k)), (6, .int (nI 1)), (8, .int (nI (v (3 + 2 * o + 1)))), (7, .int (nI (v (3 + 2 * k + 1)))), (0, .ref w), (1, .int (nI i)), (2, .int (nI set)), (3, .int (nI (v (21 + 5 * i)))), (5, .int (nI k))]) hx hb dX2_picks_148 hl (by decide) rfl (fun ls hl => ?_)
                refine lv_iinc (v := (nI (k + 1))) (lv' := [(5, .int (nI (k + 1))), (4, .int (nI k)), (6, .int (nI 1)), (8, .int (nI (v (3 + 2 * o + 1)))), (7, .int (nI (v (3 + 2 * k + 1)))), (0, .ref w), (1, .int (nI i)), (2, .int (nI set)), (3, .int (nI (v (21 + 5 * i))))]) hx hb dX2_picks_150 hl (k := 8) rfl (zincn _ 1) (by decide) rfl (fun ls hl => ?_)
                refine lv_goto (tgt := 15) hx hb dX2_picks_153 (by decide) ?_
                exact ih_15 (k + 1) (some k) (by have := hH.2.2.1 0; omega) (by first | exact picksN_f c_29 hbe | exact picksN_0 c_29 hbe | exact picksN_t c_29 hbe (Or.inl ⟨c_52, Or.inl c_83⟩) | exact picksN_t c_29 hbe (Or.inl ⟨c_52, Or.inr ⟨c_90, c_102⟩⟩) | exact picksN_t c_29 hbe (Or.inr ⟨c_122, c_138⟩) | exact picksN_n c_29 hbe (by rintro (⟨h1, h2 | ⟨h2, h3⟩⟩ | ⟨h1, h2⟩) <;> first | omega | exact absurd h3 c_102 | exact absurd h2 c_138)) (by intro o h; first | (cases h; omega) | (have := hbk o h; omega) | (have := hbk _ rfl; cases h; omega)) (by have := hH.2.2.1 0; omega) H locs ls hw (lv_sub hl [5, 6, 7, 8, 1, 0] rfl)
              · skip
                refine lv_iload hx hb dX2_picks_86 (lv_at hl 1 rfl) ?_
                refine lv_iload hx hb dX2_picks_88 (lv_at hl 0 rfl) ?_
                refine zi_ne (tgt := 109) hx hb (by have := hH.2.2.1 (3 + 2 * k + 1); omega) (by have := hH.2.2.1 (3 + 2 * o + 1); omega) dX2_picks_90 (by decide) (fun c_90 => ?_) (fun c_90 => ?_)
                · skip
                  refine lv_iconst (v := (nI 0)) hx hb dX2_picks_109 zk_0 ?_
                  refine lv_istore (lv' := [(6, .int (nI 0)), (8, .int (nI (v (3 + 2 * o + 1)))), (7, .int (nI (v (3 + 2 * k + 1)))), (0, .ref w), (1, .int (nI i)), (2, .int (nI set)), (3, .int (nI (v (21 + 5 * i)))), (4, .int (nI o)), (5, .int (nI k))]) hx hb dX2_picks_110 hl (by decide) rfl (fun ls hl => ?_)
                  refine lv_goto (tgt := 136) hx hb dX2_picks_112 (by decide) ?_
                  refine lv_iload hx hb dX2_picks_136 (lv_at hl 0 rfl) ?_
                  refine zj_eq (tgt := 146) hx hb (by decide) dX2_picks_138 (by decide) (fun _ => ?_) (fun h => absurd h (by decide))
                  refine lv_iload hx hb dX2_picks_146 (lv_at hl 7 rfl) ?_
                  refine lv_istore (lv' := [(4, .int (nI o)), (6, .int (nI 0)), (8, .int (nI (v (3 + 2 * o + 1)))), (7, .int (nI (v (3 + 2 * k + 1)))), (0, .ref w), (1, .int (nI i)), (2, .int (nI set)), (3, .int (nI (v (21 + 5 * i)))), (5, .int (nI k))]) hx hb dX2_picks_148 hl (by decide) rfl (fun ls hl => ?_)
                  refine lv_iinc (v := (nI (k + 1))) (lv' := [(5, .int (nI (k + 1))), (4, .int (nI o)), (6, .int (nI 0)), (8, .int (nI (v (3 + 2 * o + 1)))), (7, .int (nI (v (3 + 2 * k + 1)))), (0, .ref w), (1, .int (nI i)), (2, .int (nI set)), (3, .int (nI (v (21 + 5 * i))))]) hx hb dX2_picks_150 hl (k := 8) rfl (zincn _ 1) (by decide) rfl (fun ls hl => ?_)
                  refine lv_goto (tgt := 15) hx hb dX2_picks_153 (by decide) ?_
                  exact ih_15 (k + 1) (some o) (by have := hH.2.2.1 0; omega) (by first | exact picksN_f c_29 hbe | exact picksN_0 c_29 hbe | exact picksN_t c_29 hbe (Or.inl ⟨c_52, Or.inl c_83⟩) | exact picksN_t c_29 hbe (Or.inl ⟨c_52, Or.inr ⟨c_90, c_102⟩⟩) | exact picksN_t c_29 hbe (Or.inr ⟨c_122, c_138⟩) | exact picksN_n c_29 hbe (by rintro (⟨h1, h2 | ⟨h2, h3⟩⟩ | ⟨h1, h2⟩) <;> first | omega | exact absurd h3 c_102 | exact absurd h2 c_138)) (by intro o h; first | (cases h; omega) | (have := hbk o h; omega) | (have := hbk _ rfl; cases h; omega)) (by have := hH.2.2.1 0; omega) H locs ls hw (lv_sub hl [5, 6, 7, 8, 1, 0] rfl)
                · skip
                  refine lv_aload_n hx hb dX2_picks_93 rfl (lv_at hl 3 rfl) ?_
                  refine lv_iload_n hx hb dX2_picks_94 rfl (lv_at hl 4 rfl) ?_
                  refine lv_iload hx hb dX2_picks_95 (lv_at hl 8 rfl) ?_
                  refine lv_iload hx hb dX2_picks_97 (lv_at hl 7 rfl) ?_
                  refine z_ci (z_runS (As := [.ref w, .int (nI i), .int (nI k), .int (nI o)]) (rest := []) hC zs_X2_156 (m_X2_isNearer G l w v i k o (by first | assumption | (omega)) (by omega) (by omega) (by omega) (zrem [0] _)) (hw.perm (z_cut (is := [0]) (cells := [(w, zc G 0 (zI 46 (vI v)))]) rfl rfl)) rfl rfl (Nat.le_of_ble_eq_true rfl) hl.1 ⟨Nat.le_of_ble_eq_true rfl, Nat.le_of_ble_eq_true rfl⟩ ⟨(Nat.le_of_ble_eq_true rfl), (Nat.le_of_ble_eq_true rfl)⟩ dX2_picks_99) hw (fun _ => z_keep (is := [0]) (cs := [(w, zc G 0 (zI 46 (vI v)))]) rfl rfl) (fun r u H locs hp hw => ?_)
                  obtain rfl : r = bI (nearerN v i k o) := hp
                  refine zb_eq (tgt := 109) hx hb dX2_picks_102 (by decide) (fun c_102 => ?_) (fun c_102 => ?_)
                  · skip
                    refine lv_iconst (v := (nI 0)) hx hb dX2_picks_109 zk_0 ?_
                    refine lv_istore (lv' := [(6, .int (nI 0)), (8, .int (nI (v (3 + 2 * o + 1)))), (7, .int (nI (v (3 + 2 * k + 1)))), (0, .ref w), (1, .int (nI i)), (2, .int (nI set)), (3, .int (nI (v (21 + 5 * i)))), (4, .int (nI o)), (5, .int (nI k))]) hx hb dX2_picks_110 hl (by decide) rfl (fun ls hl => ?_)
                    refine lv_goto (tgt := 136) hx hb dX2_picks_112 (by decide) ?_
                    refine lv_iload hx hb dX2_picks_136 (lv_at hl 0 rfl) ?_
                    refine zj_eq (tgt := 146) hx hb (by decide) dX2_picks_138 (by decide) (fun _ => ?_) (fun h => absurd h (by decide))
                    refine lv_iload hx hb dX2_picks_146 (lv_at hl 7 rfl) ?_
                    refine lv_istore (lv' := [(4, .int (nI o)), (6, .int (nI 0)), (8, .int (nI (v (3 + 2 * o + 1)))), (7, .int (nI (v (3 + 2 * k + 1)))), (0, .ref w), (1, .int (nI i)), (2, .int (nI set)), (3, .int (nI (v (21 + 5 * i)))), (5, .int (nI k))]) hx hb dX2_picks_148 hl (by decide) rfl (fun ls hl => ?_)
                    refine lv_iinc (v := (nI (k + 1))) (lv' := [(5, .int (nI (k + 1))), (4, .int (nI o)), (6, .int (nI 0)), (8, .int (nI (v (3 + 2 * o + 1)))), (7, .int (nI (v (3 + 2 * k + 1)))), (0, .ref w), (1, .int (nI i)), (2, .int (nI set)), (3, .int (nI (v (21 + 5 * i))))]) hx hb dX2_picks_150 hl (k := 8) rfl (zincn _ 1) (by decide) rfl (fun ls hl => ?_)
                    refine lv_goto (tgt := 15) hx hb dX2_picks_153 (by decide) ?_
                    exact ih_15 (k + 1) (some o) (by have := hH.2.2.1 0; omega) (by first | exact picksN_f c_29 hbe | exact picksN_0 c_29 hbe | exact picksN_t c_29 hbe (Or.inl ⟨c_52, Or.inl c_83⟩) | exact picksN_t c_29 hbe (Or.inl ⟨c_52, Or.inr ⟨c_90, c_102⟩⟩) | exact picksN_t c_29 hbe (Or.inr ⟨c_122, c_138⟩) | exact picksN_n c_29 hbe (by rintro (⟨h1, h2 | ⟨h2, h3⟩⟩ | ⟨h1, h2⟩) <;> first | omega | exact absurd h3 c_102 | exact absurd h2 c_138)) (by intro o h; first | (cases h; omega) | (have := hbk o h; omega) | (have := hbk _ rfl; cases h; omega)) (by have := hH.2.2.1 0; omega) H locs ls hw (lv_sub hl [5, 6, 7, 8, 1, 0] rfl)
                  · skip
                    refine lv_iconst (v := (nI 1)) hx hb dX2_picks_105 zk_1 ?_
                    refine lv_goto (tgt := 110) hx hb dX2_picks_106 (by decide) ?_
                    refine lv_istore (lv' := [(6, .int (nI 1)), (8, .int (nI (v (3 + 2 * o + 1)))), (7, .int (nI (v (3 + 2 * k + 1)))), (0, .ref w), (1, .int (nI i)), (2, .int (nI set)), (3, .int (nI (v (21 + 5 * i)))), (4, .int (nI o)), (5, .int (nI k))]) hx hb dX2_picks_110 hl (by decide) rfl (fun ls hl => ?_)
                    refine lv_goto (tgt := 136) hx hb dX2_picks_112 (by decide) ?_
                    refine lv_iload hx hb dX2_picks_136 (lv_at hl 0 rfl) ?_
                    refine zj_eq (tgt := 146) hx hb (by decide) dX2_picks_138 (by decide) (fun h => absurd h (by decide)) (fun _ => ?_)
                    refine lv_iload hx hb dX2_picks_141 (lv_at hl 8 rfl) ?_
                    refine lv_goto (tgt := 148) hx hb dX2_picks_143 (by decide) ?_
                    refine lv_istore (lv' := [(4, .int (nI k)), (6, .int (nI 1)), (8, .int (nI (v (3 + 2 * o + 1)))), (7, .int (nI (v (3 + 2 * k + 1)))), (0, .ref w), (1, .int (nI i)), (2, .int (nI set)), (3, .int (nI (v (21 + 5 * i)))), (5, .int (nI k))]) hx hb dX2_picks_148 hl (by decide) rfl (fun ls hl => ?_)
                    refine lv_iinc (v := (nI (k + 1))) (lv' := [(5, .int (nI (k + 1))), (4, .int (nI k)), (6, .int (nI 1)), (8, .int (nI (v (3 + 2 * o + 1)))), (7, .int (nI (v (3 + 2 * k + 1)))), (0, .ref w), (1, .int (nI i)), (2, .int (nI set)), (3, .int (nI (v (21 + 5 * i))))]) hx hb dX2_picks_150 hl (k := 8) rfl (zincn _ 1) (by decide) rfl (fun ls hl => ?_)
                    refine lv_goto (tgt := 15) hx hb dX2_picks_153 (by decide) ?_
                    exact ih_15 (k + 1) (some k) (by have := hH.2.2.1 0; omega) (by first | exact picksN_f c_29 hbe | exact picksN_0 c_29 hbe | exact picksN_t c_29 hbe (Or.inl ⟨c_52, Or.inl c_83⟩) | exact picksN_t c_29 hbe (Or.inl ⟨c_52, Or.inr ⟨c_90, c_102⟩⟩) | exact picksN_t c_29 hbe (Or.inr ⟨c_122, c_138⟩) | exact picksN_n c_29 hbe (by rintro (⟨h1, h2 | ⟨h2, h3⟩⟩ | ⟨h1, h2⟩) <;> first | omega | exact absurd h3 c_102 | exact absurd h2 c_138)) (by intro o h; first | (cases h; omega) | (have := hbk o h; omega) | (have := hbk _ rfl; cases h; omega)) (by have := hH.2.2.1 0; omega) H locs ls hw (lv_sub hl [5, 6, 7, 8, 1, 0] rfl)
  exact loop_15 ((v 0 - 0) + 1) 0 none (by have := hH.2.2.1 0; omega) rfl (fun o h => by cases h) (Nat.lt_succ_self _) s.heap [] ls hw (lv_sub hl [3, 4, 5, 2, 1, 0] rfl)
theorem mayN_lt {v : Nat → Nat} (hH : Hw v) {i : Nat} (hi : i < 5) : mayN v i < 512 := Nat.lt_of_le_of_lt Nat.and_le_left (hH.2.2.2.1 i hi)
theorem fullN_bit {v : Nat → Nat} {j : Nat} : (fullN v).testBit j = true ↔ j < v 0 ∧ 0 < v (3 + 2 * j + 1) := by
  unfold fullN
  rw [orB_bit]
  simp
theorem may_picks {v : Nat → Nat} {i : Nat} (h : mayN v i ≠ 0) : ∃ t, picksN v i (mayN v i) (v 0) = some t ∧ t < v 0 ∧ 0 < v (3 + 2 * t + 1) ∧ (v (21 + 5 * i + 4)).testBit t = true := by
  obtain ⟨j, hj⟩ := Nat.exists_testBit_of_ne_zero h
  have hb : ∀ j, (mayN v i).testBit j = true → j < v 0 ∧ 0 < v (3 + 2 * j + 1) ∧ (v (21 + 5 * i + 4)).testBit j = true := by
    intro j hj
    unfold mayN at hj
    rw [Nat.testBit_and, Bool.and_eq_true] at hj
    exact ⟨(fullN_bit.mp hj.2).1, (fullN_bit.mp hj.2).2, hj.1⟩
  cases hp : picksN v i (mayN v i) (v 0) with
  | none => exact absurd hj (picksN_some hp j (hb j hj).1)
  | some t =>
    obtain ⟨a, b⟩ := picksN_lt hp
    exact ⟨t, rfl, a, (hb t b).2.1, (hb t b).2.2⟩
theorem eatsN_stop {i : Nat} {v : Nat → Nat} {sum : Nat} (h : ¬ (sum < wantsN (v (21 + 5 * i)) (v (21 + 5 * i + 2)) ∧ mayN v i ≠ 0)) : ∀ f, eatsN i f v sum = (sum, v)
  | 0 => rfl
  | f + 1 => by rw [eatsN, if_neg h]
theorem eatsN_go {i f t : Nat} {v : Nat → Nat} {sum : Nat} (h : sum < wantsN (v (21 + 5 * i)) (v (21 + 5 * i + 2))) (h2 : mayN v i ≠ 0) (hp : picksN v i (mayN v i) (v 0) = some t) : eatsN i (f + 1) v sum = eatsN i f (eatOne v i t (min (wantsN (v (21 + 5 * i)) (v (21 + 5 * i + 2)) - sum) (v (3 + 2 * t + 1)))) (sum + min (wantsN (v (21 + 5 * i)) (v (21 + 5 * i + 2)) - sum) (v (3 + 2 * t + 1))) := by
  rw [eatsN, if_pos ⟨h, h2⟩, hp]
theorem clrN_lt {k p : Nat} (hp : p < 9) (hk : k < 512) : clrN k p < 512 := (clr_int p hp k hk).2
theorem eatOne_Hw {v : Nat → Nat} {i t its : Nat} (hH : Hw v) (hi : i < 5) (ht : t < v 0) : Hw (eatOne v i t its) := by
  obtain ⟨h1, h2, h3, h4, h7, h8⟩ := hH
  have h5 := h4 i hi
  have h6 : (if v (3 + 2 * t + 1) - its = 0 then clrN (v (21 + 5 * i + 4)) t else v (21 + 5 * i + 4)) < 512 := by
    split
    · exact clrN_lt (by omega) h5
    · exact h5
  refine ⟨?_, ?_, fun j => ?_, fun j hj => ?_, fun j hj => ?_, fun j hj => ?_⟩ <;> unfold eatOne <;> simp only [updN]
  · rw [if_neg (by omega), if_neg (by omega), if_neg (by omega)]; exact h1
  · rw [if_neg (by omega), if_neg (by omega), if_neg (by omega)]; exact h2
  · split
    · exact Nat.lt_trans h6 (by decide)
    · split
      · have := h3 (3 + 2 * t + 1); omega
      · split
        · exact h3 _
        · exact h3 _
  · split
    · exact h6
    · rw [if_neg (by omega), if_neg (by omega)]; exact h4 j hj
  · rw [if_neg (by omega), if_neg (by omega), if_neg (by omega)]; exact h7 j hj
  · rw [if_neg (by omega), if_neg (by omega), if_neg (by omega)]; exact h8 j hj
theorem eatOne_kind {v : Nat → Nat} {i t its : Nat} (ht : t < 9) : eatOne v i t its (21 + 5 * i) = v (21 + 5 * i) ∧ eatOne v i t its (21 + 5 * i + 2) = v (21 + 5 * i + 2) ∧ eatOne v i t its 0 = v 0 := by
  unfold eatOne
  simp only [updN]
  exact ⟨by rw [if_neg (by omega), if_neg (by omega), if_neg (by omega)], by rw [if_neg (by omega), if_neg (by omega), if_neg (by omega)], by rw [if_neg (by omega), if_neg (by omega), if_neg (by omega)]⟩
theorem wantsN_le {k n : Nat} : wantsN k n ≤ 2 * n + 1 := by unfold wantsN; split <;> (try split) <;> omega
theorem zs_X2_160 : zSs RX2 160 yX2_wants cX2_wants 2 (some .int) 2 := ⟨lw_S q1979 q1980 q53 q1981, ⟨by decide +kernel, by decide +kernel⟩, by decide +kernel⟩
theorem zs_X2_163 : zSs RX2 163 yX2_full cX2_full 3 (some .int) 1 := ⟨lw_S q2007 q2008 q53 q2009, ⟨by decide +kernel, by decide +kernel⟩, by decide +kernel⟩
theorem zs_X2_167 : zSs RX2 167 yX2_picks cX2_picks 9 (some .int) 3 := ⟨lw_S q2016 q2017 q53 q2018, ⟨by decide +kernel, by decide +kernel⟩, by decide +kernel⟩
theorem zs_X2_171 : zSs RX2 171 yX2_lesser cX2_lesser 2 (some .int) 2 := ⟨lw_S q2022 q2023 q53 q2024, ⟨by decide +kernel, by decide +kernel⟩, by decide +kernel⟩
set_option maxHeartbeats 4000000 in
theorem m_X2_eats (G : zE) (l : Launch) (w : Nat) (v : Nat → Nat) (i : Nat) (hH : Hw v) (hi : i < 5) (rest : va_W) : zMi G l yX2_eats cX2_eats 8 (some .int) 3 0 0 [.ref w, .int (nI i)] ((w, zc G 0 (zI 46 (vI v))) :: rest) (fun (r : Int32) (_ : Unit) => r = nI (eatN v i).1) (fun (_ : Unit) => (w, zc G 0 (zI 46 (vI (eatN v i).2))) :: rest) := by
  refine z_begI (by decide) (Nat.le_of_ble_eq_true rfl) (fun p e s m args below meth c ls Q hC hl hw hend => ?_)
  have hx := hC.hx
  have hb := hC.hb
  have hl : lv_has ls 8 [(0, .ref w), (1, .int (nI i))] := hl
  have hw : zS G ((w, zc G 0 (zI 46 (vI v))) :: rest) s s.heap [] := hw
  have hn9 := hH.2.2.2.2.1 i hi
  have hwl : wantsN (v (21 + 5 * i)) (v (21 + 5 * i + 2)) ≤ 19 := Nat.le_trans wantsN_le (by omega)
  refine lv_bipush (v := (nI 21)) hx hb dX2_eats_0 zb_21 ?_
  refine lv_iconst (v := (nI 5)) hx hb dX2_eats_2 zk_5 ?_
  refine lv_iload_n hx hb dX2_eats_3 rfl (lv_at hl 1 rfl) ?_
  refine zn_imul hx hb dX2_eats_4 ?_
  refine zn_iadd hx hb dX2_eats_5 ?_
  refine lv_istore_n (lv' := [(2, .int (nI (21 + 5 * i))), (0, .ref w), (1, .int (nI i))]) hx hb dX2_eats_6 rfl hl (by decide) rfl (fun ls hl => ?_)
  refine lv_aload_n hx hb dX2_eats_7 rfl (lv_at hl 1 rfl) ?_
  refine lv_iload_n hx hb dX2_eats_8 rfl (lv_at hl 0 rfl) ?_
  refine z_iald (x := (nI (v (21 + 5 * i)))) hC hw 0 rfl (by omega) (by decide) rfl dX2_eats_9 ?_
  refine lv_aload_n hx hb dX2_eats_10 rfl (lv_at hl 1 rfl) ?_
  refine lv_iload_n hx hb dX2_eats_11 rfl (lv_at hl 0 rfl) ?_
  refine lv_iconst (v := (nI 2)) hx hb dX2_eats_12 zk_2 ?_
  refine zn_iadd hx hb dX2_eats_13 ?_
  refine z_iald (x := (nI (v (21 + 5 * i + 2)))) hC hw 0 rfl (by omega) (by decide) rfl dX2_eats_14 ?_
  refine z_ci (z_runS (As := [.int (nI (v (21 + 5 * i))), .int (nI (v (21 + 5 * i + 2)))]) (rest := []) hC zs_X2_160 (m_X2_wants G l (v (21 + 5 * i)) (v (21 + 5 * i + 2)) (by have := hH.2.2.1 (21 + 5 * i); omega) (by have := hH.2.2.1 (21 + 5 * i + 2); omega) _) hw rfl rfl (Nat.le_of_ble_eq_true rfl) hl.1 ⟨Nat.le_of_ble_eq_true rfl, Nat.le_of_ble_eq_true rfl⟩ ⟨(Nat.le_of_ble_eq_true rfl), (Nat.le_of_ble_eq_true rfl)⟩ dX2_eats_15) hw (fun _ => List.Perm.refl _) (fun r u H locs hp hw => ?_)
  obtain rfl : r = nI (wantsN (v (21 + 5 * i)) (v (21 + 5 * i + 2))) := hp
  refine lv_istore_n (lv' := [(3, .int (nI (wantsN (v (21 + 5 * i)) (v (21 + 5 * i + 2))))), (2, .int (nI (21 + 5 * i))), (0, .ref w), (1, .int (nI i))]) hx hb dX2_eats_18 rfl hl (by decide) rfl (fun ls hl => ?_)
  refine lv_iconst (v := (nI 0)) hx hb dX2_eats_19 zk_0 ?_
  refine lv_istore (lv' := [(4, .int (nI 0)), (3, .int (nI (wantsN (v (21 + 5 * i)) (v (21 + 5 * i + 2))))), (2, .int (nI (21 + 5 * i))), (0, .ref w), (1, .int (nI i))]) hx hb dX2_eats_20 hl (by decide) rfl (fun ls hl => ?_)
  refine lv_aload_n hx hb dX2_eats_22 rfl (lv_at hl 3 rfl) ?_
  refine lv_iload_n hx hb dX2_eats_23 rfl (lv_at hl 2 rfl) ?_
  refine lv_iconst (v := (nI 4)) hx hb dX2_eats_24 zk_4 ?_
  refine zn_iadd hx hb dX2_eats_25 ?_
  refine z_iald (x := (nI (v (21 + 5 * i + 4)))) hC hw 0 rfl (by omega) (by decide) rfl dX2_eats_26 ?_
  refine lv_aload_n hx hb dX2_eats_27 rfl (lv_at hl 3 rfl) ?_
  refine z_ci (z_runS (As := [.ref w]) (rest := [.int (nI (v (21 + 5 * i + 4)))]) hC zs_X2_163 (m_X2_full G l w v hH (zrem [0] _)) (hw.perm (z_cut (is := [0]) (cells := [(w, zc G 0 (zI 46 (vI v)))]) rfl rfl)) rfl rfl (Nat.le_of_ble_eq_true rfl) hl.1 ⟨Nat.le_of_ble_eq_true rfl, Nat.le_of_ble_eq_true rfl⟩ ⟨(Nat.le_of_ble_eq_true rfl), (Nat.le_of_ble_eq_true rfl)⟩ dX2_eats_28) hw (fun _ => z_keep (is := [0]) (cs := [(w, zc G 0 (zI 46 (vI v)))]) rfl rfl) (fun r u H locs hp hw => ?_)
  obtain rfl : r = nI (fullN v) := hp
  refine zv_iand (v := (nI ((v (21 + 5 * i + 4)) &&& (fullN v)))) hx hb (nI_and _ _) dX2_eats_31 ?_
  refine lv_istore (lv' := [(5, .int (nI ((v (21 + 5 * i + 4)) &&& (fullN v)))), (4, .int (nI 0)), (3, .int (nI (wantsN (v (21 + 5 * i)) (v (21 + 5 * i + 2))))), (2, .int (nI (21 + 5 * i))), (0, .ref w), (1, .int (nI i))]) hx hb dX2_eats_32 hl (by decide) rfl (fun ls hl => ?_)
  have loop_34 : ∀ (fuel : Nat) (f : Nat) (sum : Nat) (v1 : Nat → Nat), (Hw v1) → (v1 (21 + 5 * i) = v (21 + 5 * i)) → (v1 (21 + 5 * i + 2) = v (21 + 5 * i + 2)) → (wantsN (v (21 + 5 * i)) (v (21 + 5 * i + 2)) ≤ sum + f) → (sum ≤ wantsN (v (21 + 5 * i)) (v (21 + 5 * i + 2))) → (eatsN i f v1 sum = eatN v i) → (f) < fuel → ∀ (H : Heap) (locs : List Loc) (ls : Array Slot), zS G ((w, zc G 0 (zI 46 (vI v1))) :: rest) s H locs → lv_has ls 8 [(0, .ref w), (1, .int (nI i)), (2, .int (nI (21 + 5 * i))), (3, .int (nI (wantsN (v (21 + 5 * i)) (v (21 + 5 * i + 2))))), (4, .int (nI sum)), (5, .int (nI (mayN v1 i)))] → W p l e (zR 3 0 0) s m args below meth c H locs 0 0 Q (F0 m 34 ls []) := by
    intro fuel
    induction fuel with
    | zero => intro f sum v1 hH1 hk1 hk2 hf hsu heq hfuel; exact absurd hfuel (Nat.not_lt_zero _)
    | succ fuel_34 ih_34 =>
      intro f sum v1 hH1 hk1 hk2 hf hsu heq hfuel_34 H locs ls hw hl
      refine lv_iload hx hb dX2_eats_34 (lv_at hl 4 rfl) ?_
      refine lv_iload_n hx hb dX2_eats_36 rfl (lv_at hl 3 rfl) ?_
      refine zi_ge (tgt := 154) hx hb (by omega) (by omega) dX2_eats_37 (by decide) (fun c_37 => ?_) (fun c_37 => ?_)
      · skip
        refine lv_iload hx hb dX2_eats_154 (lv_at hl 4 rfl) ?_
        have he : eatN v i = (sum, v1) := by rw [← heq]; exact eatsN_stop (fun h => by first | exact absurd h.1 (by rw [hk1, hk2]; omega) | exact h.2 c_42) _
        have hw : zS G ((w, zc G 0 (zI 46 (vI (eatN v i).2))) :: rest) s H locs := by rw [he]; exact hw
        exact hend _ _ _ _ _ _ _ () hw (by rw [he]) (Nat.le_of_ble_eq_true rfl) (Nat.le_of_ble_eq_true rfl) dX2_eats_156
      · skip
        refine lv_iload hx hb dX2_eats_40 (lv_at hl 5 rfl) ?_
        refine zj_eq (tgt := 154) hx hb (Nat.lt_trans (mayN_lt hH1 hi) (by decide)) dX2_eats_42 (by decide) (fun c_42 => ?_) (fun c_42 => ?_)
        · skip
          refine lv_iload hx hb dX2_eats_154 (lv_at hl 4 rfl) ?_
          have he : eatN v i = (sum, v1) := by rw [← heq]; exact eatsN_stop (fun h => by first | exact absurd h.1 (by rw [hk1, hk2]; omega) | exact h.2 c_42) _
          have hw : zS G ((w, zc G 0 (zI 46 (vI (eatN v i).2))) :: rest) s H locs := by rw [he]; exact hw
          exact hend _ _ _ _ _ _ _ () hw (by rw [he]) (Nat.le_of_ble_eq_true rfl) (Nat.le_of_ble_eq_true rfl) dX2_eats_156
        · skip
          obtain ⟨t, hp1, ht1, ht2, ht3⟩ := may_picks c_42
          have ht9 : t < 9 := by have := hH1.1; omega
          obtain ⟨f, rfl⟩ : ∃ g, f = g + 1 := ⟨f - 1, by omega⟩
          refine lv_aload_n hx hb dX2_eats_45 rfl (lv_at hl 0 rfl) ?_
          refine lv_iload_n hx hb dX2_eats_46 rfl (lv_at hl 1 rfl) ?_
          refine lv_iload hx hb dX2_eats_47 (lv_at hl 5 rfl) ?_
          refine z_ci (z_runS (As := [.ref w, .int (nI i), .int (nI (mayN v1 i))]) (rest := []) hC zs_X2_167 (m_X2_picks G l w v1 i (mayN v1 i) hH1 (by omega) (Nat.lt_trans (mayN_lt hH1 hi) (by decide)) (zrem [0] _)) (hw.perm (z_cut (is := [0]) (cells := [(w, zc G 0 (zI 46 (vI v1)))]) rfl rfl)) rfl rfl (Nat.le_of_ble_eq_true rfl) hl.1 ⟨Nat.le_of_ble_eq_true rfl, Nat.le_of_ble_eq_true rfl⟩ ⟨(Nat.le_of_ble_eq_true rfl), (Nat.le_of_ble_eq_true rfl)⟩ dX2_eats_49) hw (fun _ => z_keep (is := [0]) (cs := [(w, zc G 0 (zI 46 (vI v1)))]) rfl rfl) (fun r u H locs hp hw => ?_)
          obtain rfl : r = optI (picksN v1 i (mayN v1 i) (v1 0)) := hp
          rw [hp1]
          refine lv_istore (lv' := [(6, .int (nI t)), (0, .ref w), (1, .int (nI i)), (2, .int (nI (21 + 5 * i))), (3, .int (nI (wantsN (v (21 + 5 * i)) (v (21 + 5 * i + 2))))), (4, .int (nI sum)), (5, .int (nI (mayN v1 i)))]) hx hb dX2_eats_52 hl (by decide) rfl (fun ls hl => ?_)
          refine lv_iload_n hx hb dX2_eats_54 rfl (lv_at hl 4 rfl) ?_
          refine lv_iload hx hb dX2_eats_55 (lv_at hl 5 rfl) ?_
          refine zn_isub hx hb (by have := hH.2.2.1 (21 + 5 * i + 2); have := hH.2.2.1 (21 + 5 * i); omega) dX2_eats_57 ?_
          refine lv_aload_n hx hb dX2_eats_58 rfl (lv_at hl 1 rfl) ?_
          refine lv_iconst (v := (nI 3)) hx hb dX2_eats_59 zk_3 ?_
          refine lv_iconst (v := (nI 2)) hx hb dX2_eats_60 zk_2 ?_
          refine lv_iload hx hb dX2_eats_61 (lv_at hl 0 rfl) ?_
          refine zn_imul hx hb dX2_eats_63 ?_
          refine zn_iadd hx hb dX2_eats_64 ?_
          refine lv_iconst (v := (nI 1)) hx hb dX2_eats_65 zk_1 ?_
          refine zn_iadd hx hb dX2_eats_66 ?_
          refine z_iald (x := (nI (v1 (3 + 2 * t + 1)))) hC hw 0 rfl (by omega) (by decide) rfl dX2_eats_67 ?_
          refine z_ci (z_runS (As := [.int (nI ((wantsN (v (21 + 5 * i)) (v (21 + 5 * i + 2))) - sum)), .int (nI (v1 (3 + 2 * t + 1)))]) (rest := []) hC zs_X2_171 (m_X2_lesser G l ((wantsN (v (21 + 5 * i)) (v (21 + 5 * i + 2))) - sum) (v1 (3 + 2 * t + 1)) (by have := hH.2.2.1 (21 + 5 * i + 2); have := hH.2.2.1 (21 + 5 * i); omega) (by have := hH1.2.2.1 (3 + 2 * t + 1); omega) _) hw rfl rfl (Nat.le_of_ble_eq_true rfl) hl.1 ⟨Nat.le_of_ble_eq_true rfl, Nat.le_of_ble_eq_true rfl⟩ ⟨(Nat.le_of_ble_eq_true rfl), (Nat.le_of_ble_eq_true rfl)⟩ dX2_eats_68) hw (fun _ => List.Perm.refl _) (fun r u H locs hp hw => ?_)
          obtain rfl : r = nI (min ((wantsN (v (21 + 5 * i)) (v (21 + 5 * i + 2))) - sum) (v1 (3 + 2 * t + 1))) := hp
          refine lv_istore (lv' := [(7, .int (nI (min ((wantsN (v (21 + 5 * i)) (v (21 + 5 * i + 2))) - sum) (v1 (3 + 2 * t + 1))))), (6, .int (nI t)), (0, .ref w), (1, .int (nI i)), (2, .int (nI (21 + 5 * i))), (3, .int (nI (wantsN (v (21 + 5 * i)) (v (21 + 5 * i + 2))))), (4, .int (nI sum)), (5, .int (nI (mayN v1 i)))]) hx hb dX2_eats_71 hl (by decide) rfl (fun ls hl => ?_)
          refine lv_aload_n hx hb dX2_eats_73 rfl (lv_at hl 2 rfl) ?_
          refine lv_iload_n hx hb dX2_eats_74 rfl (lv_at hl 4 rfl) ?_
          refine lv_iconst (v := (nI 1)) hx hb dX2_eats_75 zk_1 ?_
          refine zn_iadd hx hb dX2_eats_76 ?_
          refine lv_aload_n hx hb dX2_eats_77 rfl (lv_at hl 2 rfl) ?_
          refine lv_iconst (v := (nI 3)) hx hb dX2_eats_78 zk_3 ?_
          refine lv_iconst (v := (nI 2)) hx hb dX2_eats_79 zk_2 ?_
          refine lv_iload hx hb dX2_eats_80 (lv_at hl 1 rfl) ?_
          refine zn_imul hx hb dX2_eats_82 ?_
          refine zn_iadd hx hb dX2_eats_83 ?_
          refine z_iald (x := (nI (v1 (3 + 2 * t)))) hC hw 0 rfl (by omega) (by decide) rfl dX2_eats_84 ?_
          refine z_iast (f' := vI (updN v1 (21 + 5 * i + 1) (v1 (3 + 2 * t)))) hC hw 0 rfl (by omega) (by decide) (vI_upd _ _ _) dX2_eats_85 (fun H locs hw => ?_)
          have hw : zS G ((w, zc G 0 (zI 46 (vI (updN v1 (21 + 5 * i + 1) (v1 (3 + 2 * t)))))) :: rest) s H locs := hw
          refine lv_aload_n hx hb dX2_eats_86 rfl (lv_at hl 2 rfl) ?_
          refine lv_iconst (v := (nI 3)) hx hb dX2_eats_87 zk_3 ?_
          refine lv_iconst (v := (nI 2)) hx hb dX2_eats_88 zk_2 ?_
          refine lv_iload hx hb dX2_eats_89 (lv_at hl 1 rfl) ?_
          refine zn_imul hx hb dX2_eats_91 ?_
          refine zn_iadd hx hb dX2_eats_92 ?_
          refine lv_iconst (v := (nI 1)) hx hb dX2_eats_93 zk_1 ?_
          refine zn_iadd hx hb dX2_eats_94 ?_
          refine lv_dup2_11 hx hb dX2_eats_95 rfl rfl ?_
          refine z_iald (x := (nI (v1 (3 + 2 * t + 1)))) hC hw 0 rfl (by omega) (by decide) (congrArg nI (updN_ne _ _ (by omega))) dX2_eats_96 ?_
          refine lv_iload hx hb dX2_eats_97 (lv_at hl 0 rfl) ?_
          refine zn_isub hx hb (by have := hH.2.2.1 (21 + 5 * i + 2); have := hH.2.2.1 (21 + 5 * i); have := hH1.2.2.1 (3 + 2 * t + 1); omega) dX2_eats_99 ?_
          refine z_iast (f' := vI (updN (updN v1 (21 + 5 * i + 1) (v1 (3 + 2 * t))) (3 + 2 * t + 1) ((v1 (3 + 2 * t + 1)) - (min ((wantsN (v (21 + 5 * i)) (v (21 + 5 * i + 2))) - sum) (v1 (3 + 2 * t + 1)))))) hC hw 0 rfl (by omega) (by decide) (vI_upd _ _ _) dX2_eats_100 (fun H locs hw => ?_)
          have hw : zS G ((w, zc G 0 (zI 46 (vI (updN (updN v1 (21 + 5 * i + 1) (v1 (3 + 2 * t))) (3 + 2 * t + 1) ((v1 (3 + 2 * t + 1)) - (min ((wantsN (v (21 + 5 * i)) (v (21 + 5 * i + 2))) - sum) (v1 (3 + 2 * t + 1)))))))) :: rest) s H locs := hw
          refine lv_iload hx hb dX2_eats_101 (lv_at hl 6 rfl) ?_
          refine lv_iload hx hb dX2_eats_103 (lv_at hl 0 rfl) ?_
          refine zn_iadd hx hb dX2_eats_105 ?_
          refine lv_istore (lv' := [(4, .int (nI (sum + (min ((wantsN (v (21 + 5 * i)) (v (21 + 5 * i + 2))) - sum) (v1 (3 + 2 * t + 1)))))), (7, .int (nI (min ((wantsN (v (21 + 5 * i)) (v (21 + 5 * i + 2))) - sum) (v1 (3 + 2 * t + 1))))), (6, .int (nI t)), (0, .ref w), (1, .int (nI i)), (2, .int (nI (21 + 5 * i))), (3, .int (nI (wantsN (v (21 + 5 * i)) (v (21 + 5 * i + 2))))), (5, .int (nI (mayN v1 i)))]) hx hb dX2_eats_106 hl (by decide) rfl (fun ls hl => ?_)
          refine lv_aload_n hx hb dX2_eats_108 rfl (lv_at hl 3 rfl) ?_
          refine lv_iload_n hx hb dX2_eats_109 rfl (lv_at hl 5 rfl) ?_
          refine lv_iconst (v := (nI 4)) hx hb dX2_eats_110 zk_4 ?_
          refine zn_iadd hx hb dX2_eats_111 ?_
          refine lv_dup2_11 hx hb dX2_eats_112 rfl rfl ?_
          refine z_iald (x := (nI (v1 (21 + 5 * i + 4)))) hC hw 0 rfl (by omega) (by decide) (congrArg nI ((updN_ne _ _ (by omega)).trans (updN_ne _ _ (by omega)))) dX2_eats_113 ?_
          have join_137 : ∀ (x : Int32), (nI (v1 (21 + 5 * i + 4)) &&& x = nI (if v1 (3 + 2 * t + 1) - (min (wantsN (v (21 + 5 * i)) (v (21 + 5 * i + 2)) - sum) (v1 (3 + 2 * t + 1))) = 0 then clrN (v1 (21 + 5 * i + 4)) t else v1 (21 + 5 * i + 4))) → ∀ (H : Heap) (locs : List Loc) (ls : Array Slot), zS G ((w, zc G 0 (zI 46 (vI (updN (updN v1 (21 + 5 * i + 1) (v1 (3 + 2 * t))) (3 + 2 * t + 1) ((v1 (3 + 2 * t + 1)) - (min ((wantsN (v (21 + 5 * i)) (v (21 + 5 * i + 2))) - sum) (v1 (3 + 2 * t + 1)))))))) :: rest) s H locs → lv_has ls 8 [(0, .ref w), (1, .int (nI i)), (2, .int (nI (21 + 5 * i))), (3, .int (nI (wantsN (v (21 + 5 * i)) (v (21 + 5 * i + 2))))), (4, .int (nI (sum + (min ((wantsN (v (21 + 5 * i)) (v (21 + 5 * i + 2))) - sum) (v1 (3 + 2 * t + 1)))))), (5, .int (nI (mayN v1 i))), (6, .int (nI t)), (7, .int (nI (min ((wantsN (v (21 + 5 * i)) (v (21 + 5 * i + 2))) - sum) (v1 (3 + 2 * t + 1)))))] → W p l e (zR 3 0 0) s m args below meth c H locs 0 0 Q (F0 m 137 ls [.int x, .int (nI (v1 (21 + 5 * i + 4))), .int (nI (21 + 5 * i + 4)), .ref w]) := by
            intro x hjx H locs ls hw hl
            refine zv_iand (v := (nI (if v1 (3 + 2 * t + 1) - (min (wantsN (v (21 + 5 * i)) (v (21 + 5 * i + 2)) - sum) (v1 (3 + 2 * t + 1))) = 0 then clrN (v1 (21 + 5 * i + 4)) t else v1 (21 + 5 * i + 4)))) hx hb hjx dX2_eats_137 ?_
            refine z_iast (f' := vI (updN (updN (updN v1 (21 + 5 * i + 1) (v1 (3 + 2 * t))) (3 + 2 * t + 1) ((v1 (3 + 2 * t + 1)) - (min ((wantsN (v (21 + 5 * i)) (v (21 + 5 * i + 2))) - sum) (v1 (3 + 2 * t + 1))))) (21 + 5 * i + 4) (if v1 (3 + 2 * t + 1) - (min (wantsN (v (21 + 5 * i)) (v (21 + 5 * i + 2)) - sum) (v1 (3 + 2 * t + 1))) = 0 then clrN (v1 (21 + 5 * i + 4)) t else v1 (21 + 5 * i + 4)))) hC hw 0 rfl (by omega) (by decide) (vI_upd _ _ _) dX2_eats_138 (fun H locs hw => ?_)
            have hw : zS G ((w, zc G 0 (zI 46 (vI (updN (updN (updN v1 (21 + 5 * i + 1) (v1 (3 + 2 * t))) (3 + 2 * t + 1) ((v1 (3 + 2 * t + 1)) - (min ((wantsN (v (21 + 5 * i)) (v (21 + 5 * i + 2))) - sum) (v1 (3 + 2 * t + 1))))) (21 + 5 * i + 4) (if v1 (3 + 2 * t + 1) - (min (wantsN (v (21 + 5 * i)) (v (21 + 5 * i + 2)) - sum) (v1 (3 + 2 * t + 1))) = 0 then clrN (v1 (21 + 5 * i + 4)) t else v1 (21 + 5 * i + 4)))))) :: rest) s H locs := hw
            refine lv_aload_n hx hb dX2_eats_139 rfl (lv_at hl 0 rfl) ?_
            refine lv_iload_n hx hb dX2_eats_140 rfl (lv_at hl 2 rfl) ?_
            refine lv_iconst (v := (nI 4)) hx hb dX2_eats_141 zk_4 ?_
            refine zn_iadd hx hb dX2_eats_142 ?_
            refine z_iald (x := (nI ((updN (updN (updN v1 (21 + 5 * i + 1) (v1 (3 + 2 * t))) (3 + 2 * t + 1) ((v1 (3 + 2 * t + 1)) - (min ((wantsN (v (21 + 5 * i)) (v (21 + 5 * i + 2))) - sum) (v1 (3 + 2 * t + 1))))) (21 + 5 * i + 4) (if v1 (3 + 2 * t + 1) - (min (wantsN (v (21 + 5 * i)) (v (21 + 5 * i + 2)) - sum) (v1 (3 + 2 * t + 1))) = 0 then clrN (v1 (21 + 5 * i + 4)) t else v1 (21 + 5 * i + 4))) (21 + 5 * i + 4)))) hC hw 0 rfl (by omega) (by decide) rfl dX2_eats_143 ?_
            refine lv_aload_n hx hb dX2_eats_144 rfl (lv_at hl 0 rfl) ?_
            refine z_ci (z_runS (As := [.ref w]) (rest := [.int (nI ((updN (updN (updN v1 (21 + 5 * i + 1) (v1 (3 + 2 * t))) (3 + 2 * t + 1) ((v1 (3 + 2 * t + 1)) - (min ((wantsN (v (21 + 5 * i)) (v (21 + 5 * i + 2))) - sum) (v1 (3 + 2 * t + 1))))) (21 + 5 * i + 4) (if v1 (3 + 2 * t + 1) - (min (wantsN (v (21 + 5 * i)) (v (21 + 5 * i + 2)) - sum) (v1 (3 + 2 * t + 1))) = 0 then clrN (v1 (21 + 5 * i + 4)) t else v1 (21 + 5 * i + 4))) (21 + 5 * i + 4)))]) hC zs_X2_163 (m_X2_full G l w (updN (updN (updN v1 (21 + 5 * i + 1) (v1 (3 + 2 * t))) (3 + 2 * t + 1) ((v1 (3 + 2 * t + 1)) - (min ((wantsN (v (21 + 5 * i)) (v (21 + 5 * i + 2))) - sum) (v1 (3 + 2 * t + 1))))) (21 + 5 * i + 4) (if v1 (3 + 2 * t + 1) - (min (wantsN (v (21 + 5 * i)) (v (21 + 5 * i + 2)) - sum) (v1 (3 + 2 * t + 1))) = 0 then clrN (v1 (21 + 5 * i + 4)) t else v1 (21 + 5 * i + 4))) (eatOne_Hw (its := (min (wantsN (v (21 + 5 * i)) (v (21 + 5 * i + 2)) - sum) (v1 (3 + 2 * t + 1)))) hH1 hi ht1) (zrem [0] _)) (hw.perm (z_cut (is := [0]) (cells := [(w, zc G 0 (zI 46 (vI (updN (updN (updN v1 (21 + 5 * i + 1) (v1 (3 + 2 * t))) (3 + 2 * t + 1) ((v1 (3 + 2 * t + 1)) - (min ((wantsN (v (21 + 5 * i)) (v (21 + 5 * i + 2))) - sum) (v1 (3 + 2 * t + 1))))) (21 + 5 * i + 4) (if v1 (3 + 2 * t + 1) - (min (wantsN (v (21 + 5 * i)) (v (21 + 5 * i + 2)) - sum) (v1 (3 + 2 * t + 1))) = 0 then clrN (v1 (21 + 5 * i + 4)) t else v1 (21 + 5 * i + 4))))))]) rfl rfl)) rfl rfl (Nat.le_of_ble_eq_true rfl) hl.1 ⟨Nat.le_of_ble_eq_true rfl, Nat.le_of_ble_eq_true rfl⟩ ⟨(Nat.le_of_ble_eq_true rfl), (Nat.le_of_ble_eq_true rfl)⟩ dX2_eats_145) hw (fun _ => z_keep (is := [0]) (cs := [(w, zc G 0 (zI 46 (vI (updN (updN (updN v1 (21 + 5 * i + 1) (v1 (3 + 2 * t))) (3 + 2 * t + 1) ((v1 (3 + 2 * t + 1)) - (min ((wantsN (v (21 + 5 * i)) (v (21 + 5 * i + 2))) - sum) (v1 (3 + 2 * t + 1))))) (21 + 5 * i + 4) (if v1 (3 + 2 * t + 1) - (min (wantsN (v (21 + 5 * i)) (v (21 + 5 * i + 2)) - sum) (v1 (3 + 2 * t + 1))) = 0 then clrN (v1 (21 + 5 * i + 4)) t else v1 (21 + 5 * i + 4))))))]) rfl rfl) (fun r u H locs hp hw => ?_)
            obtain rfl : r = nI (fullN (updN (updN (updN v1 (21 + 5 * i + 1) (v1 (3 + 2 * t))) (3 + 2 * t + 1) ((v1 (3 + 2 * t + 1)) - (min ((wantsN (v (21 + 5 * i)) (v (21 + 5 * i + 2))) - sum) (v1 (3 + 2 * t + 1))))) (21 + 5 * i + 4) (if v1 (3 + 2 * t + 1) - (min (wantsN (v (21 + 5 * i)) (v (21 + 5 * i + 2)) - sum) (v1 (3 + 2 * t + 1))) = 0 then clrN (v1 (21 + 5 * i + 4)) t else v1 (21 + 5 * i + 4)))) := hp
            refine zv_iand (v := (nI (((updN (updN (updN v1 (21 + 5 * i + 1) (v1 (3 + 2 * t))) (3 + 2 * t + 1) ((v1 (3 + 2 * t + 1)) - (min ((wantsN (v (21 + 5 * i)) (v (21 + 5 * i + 2))) - sum) (v1 (3 + 2 * t + 1))))) (21 + 5 * i + 4) (if v1 (3 + 2 * t + 1) - (min (wantsN (v (21 + 5 * i)) (v (21 + 5 * i + 2)) - sum) (v1 (3 + 2 * t + 1))) = 0 then clrN (v1 (21 + 5 * i + 4)) t else v1 (21 + 5 * i + 4))) (21 + 5 * i + 4)) &&& (fullN (updN (updN (updN v1 (21 + 5 * i + 1) (v1 (3 + 2 * t))) (3 + 2 * t + 1) ((v1 (3 + 2 * t + 1)) - (min ((wantsN (v (21 + 5 * i)) (v (21 + 5 * i + 2))) - sum) (v1 (3 + 2 * t + 1))))) (21 + 5 * i + 4) (if v1 (3 + 2 * t + 1) - (min (wantsN (v (21 + 5 * i)) (v (21 + 5 * i + 2)) - sum) (v1 (3 + 2 * t + 1))) = 0 then clrN (v1 (21 + 5 * i + 4)) t else v1 (21 + 5 * i + 4))))))) hx hb (nI_and _ _) dX2_eats_148 ?_
            refine lv_istore (lv' := [(5, .int (nI (((updN (updN (updN v1 (21 + 5 * i + 1) (v1 (3 + 2 * t))) (3 + 2 * t + 1) ((v1 (3 + 2 * t + 1)) - (min ((wantsN (v (21 + 5 * i)) (v (21 + 5 * i + 2))) - sum) (v1 (3 + 2 * t + 1))))) (21 + 5 * i + 4) (if v1 (3 + 2 * t + 1) - (min (wantsN (v (21 + 5 * i)) (v (21 + 5 * i + 2)) - sum) (v1 (3 + 2 * t + 1))) = 0 then clrN (v1 (21 + 5 * i + 4)) t else v1 (21 + 5 * i + 4))) (21 + 5 * i + 4)) &&& (fullN (updN (updN (updN v1 (21 + 5 * i + 1) (v1 (3 + 2 * t))) (3 + 2 * t + 1) ((v1 (3 + 2 * t + 1)) - (min ((wantsN (v (21 + 5 * i)) (v (21 + 5 * i + 2))) - sum) (v1 (3 + 2 * t + 1))))) (21 + 5 * i + 4) (if v1 (3 + 2 * t + 1) - (min (wantsN (v (21 + 5 * i)) (v (21 + 5 * i + 2)) - sum) (v1 (3 + 2 * t + 1))) = 0 then clrN (v1 (21 + 5 * i + 4)) t else v1 (21 + 5 * i + 4))))))), (0, .ref w), (1, .int (nI i)), (2, .int (nI (21 + 5 * i))), (3, .int (nI (wantsN (v (21 + 5 * i)) (v (21 + 5 * i + 2))))), (4, .int (nI (sum + (min ((wantsN (v (21 + 5 * i)) (v (21 + 5 * i + 2))) - sum) (v1 (3 + 2 * t + 1)))))), (6, .int (nI t)), (7, .int (nI (min ((wantsN (v (21 + 5 * i)) (v (21 + 5 * i + 2))) - sum) (v1 (3 + 2 * t + 1)))))]) hx hb dX2_eats_149 hl (by decide) rfl (fun ls hl => ?_)
            refine lv_goto (tgt := 34) hx hb dX2_eats_151 (by decide) ?_
            have hw : zS G ((w, zc G 0 (zI 46 (vI (eatOne v1 i t (min (wantsN (v (21 + 5 * i)) (v (21 + 5 * i + 2)) - sum) (v1 (3 + 2 * t + 1))))))) :: rest) s H locs := hw
            exact ih_34 f (sum + (min ((wantsN (v (21 + 5 * i)) (v (21 + 5 * i + 2))) - sum) (v1 (3 + 2 * t + 1)))) (eatOne v1 i t (min (wantsN (v (21 + 5 * i)) (v (21 + 5 * i + 2)) - sum) (v1 (3 + 2 * t + 1)))) (eatOne_Hw hH1 hi ht1) ((eatOne_kind ht9).1.trans hk1) ((eatOne_kind ht9).2.1.trans hk2) (by omega) (by have := hH.2.2.1 (21 + 5 * i + 2); have := hH.2.2.1 (21 + 5 * i); have := hH1.2.2.1 (3 + 2 * t + 1); omega) (by rw [← heq, eatsN_go (by rw [hk1, hk2]; exact c_37) c_42 hp1, hk1, hk2]) (by omega) H locs ls hw (lv_sub hl [1, 2, 3, 4, 5, 0] rfl)
          refine lv_aload_n hx hb dX2_eats_114 rfl (lv_at hl 3 rfl) ?_
          refine lv_iconst (v := (nI 3)) hx hb dX2_eats_115 zk_3 ?_
          refine lv_iconst (v := (nI 2)) hx hb dX2_eats_116 zk_2 ?_
          refine lv_iload hx hb dX2_eats_117 (lv_at hl 2 rfl) ?_
          refine zn_imul hx hb dX2_eats_119 ?_
          refine zn_iadd hx hb dX2_eats_120 ?_
          refine lv_iconst (v := (nI 1)) hx hb dX2_eats_121 zk_1 ?_
          refine zn_iadd hx hb dX2_eats_122 ?_
          refine z_iald (x := (nI (v1 (3 + 2 * t + 1) - (min (wantsN (v (21 + 5 * i)) (v (21 + 5 * i + 2)) - sum) (v1 (3 + 2 * t + 1)))))) hC hw 0 rfl (by omega) (by decide) (congrArg nI (updN_same _ _ _)) dX2_eats_123 ?_
          refine zj_ne (tgt := 136) hx hb (by have := hH1.2.2.1 (3 + 2 * t + 1); omega) dX2_eats_124 (by decide) (fun c_124 => ?_) (fun c_124 => ?_)
          · skip
            refine lv_iconst (v := -1) hx hb dX2_eats_136 zk_m1 ?_
            exact join_137 (-1) (by first | (rw [if_pos c_124]; exact (clr_int t ht9 _ (hH1.2.2.2.1 i hi)).1) | (rw [if_neg c_124]; exact and_m1 _)) H locs ls hw (lv_sub hl [3, 4, 5, 6, 0, 7, 2, 1] rfl)
          · skip
            refine lv_iconst (v := (nI 1)) hx hb dX2_eats_127 zk_1 ?_
            refine lv_iload hx hb dX2_eats_128 (lv_at hl 2 rfl) ?_
            refine zv_ishl (v := (nI (2 ^ t))) hx hb (nI_shl1 (by omega)) dX2_eats_130 ?_
            refine lv_iconst (v := -1) hx hb dX2_eats_131 zk_m1 ?_
            refine lv_ixor hx hb dX2_eats_132 ?_
            refine lv_goto (tgt := 137) hx hb dX2_eats_133 (by decide) ?_
            exact join_137 ((nI (2 ^ t)) ^^^ (-1)) (by first | (rw [if_pos c_124]; exact (clr_int t ht9 _ (hH1.2.2.2.1 i hi)).1) | (rw [if_neg c_124]; exact and_m1 _)) H locs ls hw (lv_sub hl [3, 4, 5, 6, 0, 7, 2, 1] rfl)
  exact loop_34 ((20) + 1) 20 0 v hH rfl rfl (by omega) (by have := hH.2.2.1 (21 + 5 * i + 2); have := hH.2.2.1 (21 + 5 * i); omega) rfl (Nat.lt_succ_self _) H locs ls hw (lv_sub hl [4, 5, 3, 2, 1, 0] rfl)
set_option maxHeartbeats 4000000 in
theorem m_X2_near (G : zE) (l : Launch) (w : Nat) (v : Nat → Nat) (i : Nat) (hH : Hw v) (hi : i < 5) (rest : va_W) : zMi G l yX2_near cX2_near 4 (some .int) 1 0 0 [.ref w, .int (nI i)] ((w, zc G 0 (zI 46 (vI v))) :: rest) (fun (r : Int32) (_ : Unit) => r = nI (nearN v i)) (fun (_ : Unit) => (w, zc G 0 (zI 46 (vI v))) :: rest) := by
  refine z_begI (by decide) (Nat.le_of_ble_eq_true rfl) (fun p e s m args below meth c ls Q hC hl hw hend => ?_)
  have hx := hC.hx
  have hb := hC.hb
  have hl : lv_has ls 4 [(0, .ref w), (1, .int (nI i))] := hl
  have hw : zS G ((w, zc G 0 (zI 46 (vI v))) :: rest) s s.heap [] := hw
  have hp := hH.1
  refine lv_iconst (v := (nI 0)) hx hb dX2_near_0 zk_0 ?_
  refine lv_istore_n (lv' := [(2, .int (nI 0)), (0, .ref w), (1, .int (nI i))]) hx hb dX2_near_1 rfl hl (by decide) rfl (fun ls hl => ?_)
  refine lv_iconst (v := (nI 0)) hx hb dX2_near_2 zk_0 ?_
  refine lv_istore_n (lv' := [(3, .int (nI 0)), (2, .int (nI 0)), (0, .ref w), (1, .int (nI i))]) hx hb dX2_near_3 rfl hl (by decide) rfl (fun ls hl => ?_)
  have loop_4 : ∀ (fuel : Nat) (k : Nat), (k ≤ v 0) → (v 0 - k) < fuel → ∀ (H : Heap) (locs : List Loc) (ls : Array Slot), zS G ((w, zc G 0 (zI 46 (vI v))) :: rest) s H locs → lv_has ls 4 [(0, .ref w), (1, .int (nI i)), (2, .int (nI (orB (fun p => decide (apartN (v (3 + 2 * p)) (v (21 + 5 * i + 1)) < 3)) k))), (3, .int (nI k))] → W p l e (zR 1 0 0) s m args below meth c H locs 0 0 Q (F0 m 4 ls []) := by
    intro fuel
    induction fuel with
    | zero => intro k hk hfuel; exact absurd hfuel (Nat.not_lt_zero _)
    | succ fuel_4 ih_4 =>
      intro k hk hfuel_4 H locs ls hw hl
      refine lv_iload_n hx hb dX2_near_4 rfl (lv_at hl 3 rfl) ?_
      refine lv_aload_n hx hb dX2_near_5 rfl (lv_at hl 0 rfl) ?_
      refine lv_iconst (v := (nI 0)) hx hb dX2_near_6 zk_0 ?_
      refine z_iald (x := (nI (v 0))) hC hw 0 rfl (by decide) (by decide) rfl dX2_near_7 ?_
      refine zi_ge (tgt := 51) hx hb (by omega) (by have := hH.2.2.1 0; omega) dX2_near_8 (by decide) (fun c_8 => ?_) (fun c_8 => ?_)
      · skip
        refine lv_iload_n hx hb dX2_near_51 rfl (lv_at hl 2 rfl) ?_
        refine lv_aload_n hx hb dX2_near_52 rfl (lv_at hl 0 rfl) ?_
        refine z_ci (z_runS (As := [.ref w]) (rest := [.int (nI (orB (fun p => decide (apartN (v (3 + 2 * p)) (v (21 + 5 * i + 1)) < 3)) k))]) hC zs_X2_163 (m_X2_full G l w v (by first | assumption | (omega)) (zrem [0] _)) (hw.perm (z_cut (is := [0]) (cells := [(w, zc G 0 (zI 46 (vI v)))]) rfl rfl)) rfl rfl (Nat.le_of_ble_eq_true rfl) hl.1 ⟨Nat.le_of_ble_eq_true rfl, Nat.le_of_ble_eq_true rfl⟩ ⟨(Nat.le_of_ble_eq_true rfl), (Nat.le_of_ble_eq_true rfl)⟩ dX2_near_53) hw (fun _ => z_keep (is := [0]) (cs := [(w, zc G 0 (zI 46 (vI v)))]) rfl rfl) (fun r u H locs hp hw => ?_)
        obtain rfl : r = nI (fullN v) := hp
        refine zv_iand (v := (nI ((orB (fun p => decide (apartN (v (3 + 2 * p)) (v (21 + 5 * i + 1)) < 3)) k) &&& (fullN v)))) hx hb (nI_and _ _) dX2_near_56 ?_
        exact hend _ _ _ _ _ _ _ () hw (by rw [show k = v 0 by omega]; rfl) (Nat.le_of_ble_eq_true rfl) (Nat.le_of_ble_eq_true rfl) dX2_near_57
      · skip
        refine lv_iload_n hx hb dX2_near_11 rfl (lv_at hl 2 rfl) ?_
        have join_43 : ∀ (x : Nat), (x = if decide (apartN (v (3 + 2 * k)) (v (21 + 5 * i + 1)) < 3) = true then 2 ^ k else 0) → ∀ (H : Heap) (locs : List Loc) (ls : Array Slot), zS G ((w, zc G 0 (zI 46 (vI v))) :: rest) s H locs → lv_has ls 4 [(0, .ref w), (1, .int (nI i)), (2, .int (nI (orB (fun p => decide (apartN (v (3 + 2 * p)) (v (21 + 5 * i + 1)) < 3)) k))), (3, .int (nI k))] → W p l e (zR 1 0 0) s m args below meth c H locs 0 0 Q (F0 m 43 ls [.int (nI x), .int (nI (orB (fun p => decide (apartN (v (3 + 2 * p)) (v (21 + 5 * i + 1)) < 3)) k))]) := by
          intro x hj H locs ls hw hl
          subst hj
          refine zv_ior (v := (nI ((orB (fun p => decide (apartN (v (3 + 2 * p)) (v (21 + 5 * i + 1)) < 3)) k) ||| (if decide (apartN (v (3 + 2 * k)) (v (21 + 5 * i + 1)) < 3) = true then 2 ^ k else 0)))) hx hb (nI_or _ _) dX2_near_43 ?_
          refine lv_istore_n (lv' := [(2, .int (nI ((orB (fun p => decide (apartN (v (3 + 2 * p)) (v (21 + 5 * i + 1)) < 3)) k) ||| (if decide (apartN (v (3 + 2 * k)) (v (21 + 5 * i + 1)) < 3) = true then 2 ^ k else 0)))), (0, .ref w), (1, .int (nI i)), (3, .int (nI k))]) hx hb dX2_near_44 rfl hl (by decide) rfl (fun ls hl => ?_)
          refine lv_iinc (v := (nI (k + 1))) (lv' := [(3, .int (nI (k + 1))), (2, .int (nI ((orB (fun p => decide (apartN (v (3 + 2 * p)) (v (21 + 5 * i + 1)) < 3)) k) ||| (if decide (apartN (v (3 + 2 * k)) (v (21 + 5 * i + 1)) < 3) = true then 2 ^ k else 0)))), (0, .ref w), (1, .int (nI i))]) hx hb dX2_near_45 hl (k := 3) rfl (zincn _ 1) (by decide) rfl (fun ls hl => ?_)
          refine lv_goto (tgt := 4) hx hb dX2_near_48 (by decide) ?_
          exact ih_4 (k + 1) (by have := hH.2.2.1 0; omega) (by have := hH.2.2.1 0; omega) H locs ls hw (lv_sub hl [2, 3, 1, 0] rfl)
        refine lv_aload_n hx hb dX2_near_12 rfl (lv_at hl 0 rfl) ?_
        refine lv_iconst (v := (nI 3)) hx hb dX2_near_13 zk_3 ?_
        refine lv_iconst (v := (nI 2)) hx hb dX2_near_14 zk_2 ?_
        refine lv_iload_n hx hb dX2_near_15 rfl (lv_at hl 3 rfl) ?_
        refine zn_imul hx hb dX2_near_16 ?_
        refine zn_iadd hx hb dX2_near_17 ?_
        refine z_iald (x := (nI (v (3 + 2 * k)))) hC hw 0 rfl (by omega) (by decide) rfl dX2_near_18 ?_
        refine lv_aload_n hx hb dX2_near_19 rfl (lv_at hl 0 rfl) ?_
        refine lv_bipush (v := (nI 21)) hx hb dX2_near_20 zb_21 ?_
        refine lv_iconst (v := (nI 5)) hx hb dX2_near_22 zk_5 ?_
        refine lv_iload_n hx hb dX2_near_23 rfl (lv_at hl 1 rfl) ?_
        refine zn_imul hx hb dX2_near_24 ?_
        refine zn_iadd hx hb dX2_near_25 ?_
        refine lv_iconst (v := (nI 1)) hx hb dX2_near_26 zk_1 ?_
        refine zn_iadd hx hb dX2_near_27 ?_
        refine z_iald (x := (nI (v (21 + 5 * i + 1)))) hC hw 0 rfl (by omega) (by decide) rfl dX2_near_28 ?_
        refine z_ci (z_runS (As := [.int (nI (v (3 + 2 * k))), .int (nI (v (21 + 5 * i + 1)))]) (rest := [.int (nI (orB (fun p => decide (apartN (v (3 + 2 * p)) (v (21 + 5 * i + 1)) < 3)) k))]) hC zs_X2_149 (m_X2_apart G l (v (3 + 2 * k)) (v (21 + 5 * i + 1)) (by have := hH.2.2.1 (3 + 2 * k); omega) (by have := hH.2.2.1 (21 + 5 * i + 1); omega) _) hw rfl rfl (Nat.le_of_ble_eq_true rfl) hl.1 ⟨Nat.le_of_ble_eq_true rfl, Nat.le_of_ble_eq_true rfl⟩ ⟨(Nat.le_of_ble_eq_true rfl), (Nat.le_of_ble_eq_true rfl)⟩ dX2_near_29) hw (fun _ => List.Perm.refl _) (fun r u H locs hp hw => ?_)
        obtain rfl : r = nI (apartN (v (3 + 2 * k)) (v (21 + 5 * i + 1))) := hp
        refine lv_iconst (v := (nI 3)) hx hb dX2_near_32 zk_3 ?_
        refine zi_ge (tgt := 42) hx hb (apartN_lt (hH.2.2.1 _) (hH.2.2.1 _)) (by decide) dX2_near_33 (by decide) (fun c_33 => ?_) (fun c_33 => ?_)
        · skip
          refine lv_iconst (v := (nI 0)) hx hb dX2_near_42 zk_0 ?_
          exact join_43 0 (by first | rw [if_pos (decide_eq_true c_33)] | rw [if_neg (by simp; omega)]) H locs ls hw (lv_sub hl [0, 1, 2, 3] rfl)
        · skip
          refine lv_iconst (v := (nI 1)) hx hb dX2_near_36 zk_1 ?_
          refine lv_iload_n hx hb dX2_near_37 rfl (lv_at hl 3 rfl) ?_
          refine zv_ishl (v := (nI (2 ^ k))) hx hb (nI_shl1 (by omega)) dX2_near_38 ?_
          refine lv_goto (tgt := 43) hx hb dX2_near_39 (by decide) ?_
          exact join_43 (2 ^ k) (by first | rw [if_pos (decide_eq_true c_33)] | rw [if_neg (by simp; omega)]) H locs ls hw (lv_sub hl [0, 1, 2, 3] rfl)
  exact loop_4 ((v 0 - 0) + 1) 0 (by have := hH.2.2.1 0; omega) (Nat.lt_succ_self _) s.heap [] ls hw (lv_sub hl [2, 3, 1, 0] rfl)
theorem zs_X2_174 : zSs RX2 174 yX2_isGone cX2_isGone 2 (some .boolean) 2 := ⟨lw_S q1998 q1999 q53 q2000, ⟨by decide +kernel, by decide +kernel⟩, by decide +kernel⟩
set_option maxHeartbeats 4000000 in
theorem m_X2_alive (G : zE) (l : Launch) (w : Nat) (v : Nat → Nat) (hH : Hw v) (rest : va_W) : zMi G l yX2_alive cX2_alive 3 (some .int) 1 0 0 [.ref w] ((w, zc G 0 (zI 46 (vI v))) :: rest) (fun (r : Int32) (_ : Unit) => r = nI (aliveN v)) (fun (_ : Unit) => (w, zc G 0 (zI 46 (vI v))) :: rest) := by
  refine z_begI (by decide) (Nat.le_of_ble_eq_true rfl) (fun p e s m args below meth c ls Q hC hl hw hend => ?_)
  have hx := hC.hx
  have hb := hC.hb
  have hl : lv_has ls 3 [(0, .ref w)] := hl
  have hw : zS G ((w, zc G 0 (zI 46 (vI v))) :: rest) s s.heap [] := hw
  have hp := hH.2.1
  refine lv_iconst (v := (nI 0)) hx hb dX2_alive_0 zk_0 ?_
  refine lv_istore_n (lv' := [(1, .int (nI 0)), (0, .ref w)]) hx hb dX2_alive_1 rfl hl (by decide) rfl (fun ls hl => ?_)
  refine lv_iconst (v := (nI 0)) hx hb dX2_alive_2 zk_0 ?_
  refine lv_istore_n (lv' := [(2, .int (nI 0)), (1, .int (nI 0)), (0, .ref w)]) hx hb dX2_alive_3 rfl hl (by decide) rfl (fun ls hl => ?_)
  have loop_4 : ∀ (fuel : Nat) (k : Nat), (k ≤ v 1) → (v 1 - k) < fuel → ∀ (H : Heap) (locs : List Loc) (ls : Array Slot), zS G ((w, zc G 0 (zI 46 (vI v))) :: rest) s H locs → lv_has ls 3 [(0, .ref w), (1, .int (nI (orB (fun i => decide (¬ v (21 + 5 * i + 3) = 3)) k))), (2, .int (nI k))] → W p l e (zR 1 0 0) s m args below meth c H locs 0 0 Q (F0 m 4 ls []) := by
    intro fuel
    induction fuel with
    | zero => intro k hk hfuel; exact absurd hfuel (Nat.not_lt_zero _)
    | succ fuel_4 ih_4 =>
      intro k hk hfuel_4 H locs ls hw hl
      refine lv_iload_n hx hb dX2_alive_4 rfl (lv_at hl 2 rfl) ?_
      refine lv_aload_n hx hb dX2_alive_5 rfl (lv_at hl 0 rfl) ?_
      refine lv_iconst (v := (nI 1)) hx hb dX2_alive_6 zk_1 ?_
      refine z_iald (x := (nI (v 1))) hC hw 0 rfl (by decide) (by decide) rfl dX2_alive_7 ?_
      refine zi_ge (tgt := 35) hx hb (by omega) (by have := hH.2.2.1 1; omega) dX2_alive_8 (by decide) (fun c_8 => ?_) (fun c_8 => ?_)
      · skip
        refine lv_iload_n hx hb dX2_alive_35 rfl (lv_at hl 1 rfl) ?_
        exact hend _ _ _ _ _ _ _ () hw (by rw [show k = v 1 by omega]; rfl) (Nat.le_of_ble_eq_true rfl) (Nat.le_of_ble_eq_true rfl) dX2_alive_36
      · skip
        refine lv_iload_n hx hb dX2_alive_11 rfl (lv_at hl 1 rfl) ?_
        have join_27 : ∀ (x : Nat), (x = if decide (¬ v (21 + 5 * k + 3) = 3) = true then 2 ^ k else 0) → ∀ (H : Heap) (locs : List Loc) (ls : Array Slot), zS G ((w, zc G 0 (zI 46 (vI v))) :: rest) s H locs → lv_has ls 3 [(0, .ref w), (1, .int (nI (orB (fun i => decide (¬ v (21 + 5 * i + 3) = 3)) k))), (2, .int (nI k))] → W p l e (zR 1 0 0) s m args below meth c H locs 0 0 Q (F0 m 27 ls [.int (nI x), .int (nI (orB (fun i => decide (¬ v (21 + 5 * i + 3) = 3)) k))]) := by
          intro x hj H locs ls hw hl
          subst hj
          refine zv_ior (v := (nI ((orB (fun i => decide (¬ v (21 + 5 * i + 3) = 3)) k) ||| (if decide (¬ v (21 + 5 * k + 3) = 3) = true then 2 ^ k else 0)))) hx hb (nI_or _ _) dX2_alive_27 ?_
          refine lv_istore_n (lv' := [(1, .int (nI ((orB (fun i => decide (¬ v (21 + 5 * i + 3) = 3)) k) ||| (if decide (¬ v (21 + 5 * k + 3) = 3) = true then 2 ^ k else 0)))), (0, .ref w), (2, .int (nI k))]) hx hb dX2_alive_28 rfl hl (by decide) rfl (fun ls hl => ?_)
          refine lv_iinc (v := (nI (k + 1))) (lv' := [(2, .int (nI (k + 1))), (1, .int (nI ((orB (fun i => decide (¬ v (21 + 5 * i + 3) = 3)) k) ||| (if decide (¬ v (21 + 5 * k + 3) = 3) = true then 2 ^ k else 0)))), (0, .ref w)]) hx hb dX2_alive_29 hl (k := 2) rfl (zincn _ 1) (by decide) rfl (fun ls hl => ?_)
          refine lv_goto (tgt := 4) hx hb dX2_alive_32 (by decide) ?_
          exact ih_4 (k + 1) (by have := hH.2.2.1 1; omega) (by have := hH.2.2.1 1; omega) H locs ls hw (lv_sub hl [2, 1, 0] rfl)
        refine lv_aload_n hx hb dX2_alive_12 rfl (lv_at hl 0 rfl) ?_
        refine lv_iload_n hx hb dX2_alive_13 rfl (lv_at hl 2 rfl) ?_
        refine z_ci (z_runS (As := [.ref w, .int (nI k)]) (rest := [.int (nI (orB (fun i => decide (¬ v (21 + 5 * i + 3) = 3)) k))]) hC zs_X2_174 (m_X2_isGone G l w v k (by first | assumption | (omega)) (by omega) (zrem [0] _)) (hw.perm (z_cut (is := [0]) (cells := [(w, zc G 0 (zI 46 (vI v)))]) rfl rfl)) rfl rfl (Nat.le_of_ble_eq_true rfl) hl.1 ⟨Nat.le_of_ble_eq_true rfl, Nat.le_of_ble_eq_true rfl⟩ ⟨(Nat.le_of_ble_eq_true rfl), (Nat.le_of_ble_eq_true rfl)⟩ dX2_alive_14) hw (fun _ => z_keep (is := [0]) (cs := [(w, zc G 0 (zI 46 (vI v)))]) rfl rfl) (fun r u H locs hp hw => ?_)
        obtain rfl : r = bI (goneN v k) := hp
        refine zb_eq (tgt := 24) hx hb dX2_alive_17 (by decide) (fun c_17 => ?_) (fun c_17 => ?_)
        · skip
          refine lv_iconst (v := (nI 1)) hx hb dX2_alive_24 zk_1 ?_
          refine lv_iload_n hx hb dX2_alive_25 rfl (lv_at hl 2 rfl) ?_
          refine zv_ishl (v := (nI (2 ^ k))) hx hb (nI_shl1 (by omega)) dX2_alive_26 ?_
          exact join_27 (2 ^ k) (by first | rw [if_pos (decide_eq_true (show ¬ v (21 + 5 * k + 3) = 3 from c_17))] | rw [if_neg (by simp; exact c_17)]) H locs ls hw (lv_sub hl [0, 1, 2] rfl)
        · skip
          refine lv_iconst (v := (nI 0)) hx hb dX2_alive_20 zk_0 ?_
          refine lv_goto (tgt := 27) hx hb dX2_alive_21 (by decide) ?_
          exact join_27 0 (by first | rw [if_pos (decide_eq_true (show ¬ v (21 + 5 * k + 3) = 3 from c_17))] | rw [if_neg (by simp; exact c_17)]) H locs ls hw (lv_sub hl [0, 1, 2] rfl)
  exact loop_4 ((v 1 - 0) + 1) 0 (by have := hH.2.2.1 1; omega) (Nat.lt_succ_self _) s.heap [] ls hw (lv_sub hl [2, 1, 0] rfl)
theorem Hw_upd {v : Nat → Nat} {j x : Nat} (hH : Hw v) (h0 : j ≠ 0) (h1 : j ≠ 1) (hx : x < 65536) (h4 : ∀ i, i < 5 → j = 21 + 5 * i + 4 → x < 512) (h2 : ∀ i, i < 5 → j = 21 + 5 * i + 2 → x ≤ 9) (h3 : ∀ i, i < 5 → j = 21 + 5 * i + 3 → x ≤ 3) : Hw (updN v j x) := by
  obtain ⟨a, b, c, d, e, f⟩ := hH
  refine ⟨?_, ?_, fun i => ?_, fun i hi => ?_, fun i hi => ?_, fun i hi => ?_⟩ <;> simp only [updN]
  · rw [if_neg (by omega)]; exact a
  · rw [if_neg (by omega)]; exact b
  · split
    · exact hx
    · exact c i
  · split
    · next h => exact h4 i hi h.symm
    · exact d i hi
  · split
    · next h => exact h2 i hi h.symm
    · exact e i hi
  · split
    · next h => exact h3 i hi h.symm
    · exact f i hi
theorem eatOne_ne {v : Nat → Nat} {i t its j : Nat} (h1 : j ≠ 21 + 5 * i + 1) (h2 : j ≠ 21 + 5 * i + 4) (h3 : j ≠ 3 + 2 * t + 1) : eatOne v i t its j = v j := by
  unfold eatOne
  simp only [updN]
  rw [if_neg h2, if_neg h3, if_neg h1]
theorem eatsN_all {i : Nat} (hi : i < 5) (P : (Nat → Nat) → Prop) (hP : ∀ v t its, Hw v → P v → t < v 0 → 0 < its → its ≤ v (3 + 2 * t + 1) → (v (21 + 5 * i + 4)).testBit t = true → P (eatOne v i t its)) : ∀ f v sum, Hw v → P v → Hw (eatsN i f v sum).2 ∧ P (eatsN i f v sum).2
  | 0, v, sum, hH, h => ⟨hH, h⟩
  | f + 1, v, sum, hH, h => by
    by_cases hc : sum < wantsN (v (21 + 5 * i)) (v (21 + 5 * i + 2)) ∧ mayN v i ≠ 0
    · obtain ⟨t, hp1, ht1, ht2, ht3⟩ := may_picks hc.2
      rw [eatsN_go hc.1 hc.2 hp1]
      exact eatsN_all hi P hP f _ _ (eatOne_Hw hH hi ht1) (hP v t _ hH h ht1 (by omega) (Nat.min_le_right _ _) ht3)
    · rw [eatsN_stop hc]; exact ⟨hH, h⟩
theorem eatN_Hw {v : Nat → Nat} {i : Nat} (hH : Hw v) (hi : i < 5) : Hw (eatN v i).2 := (eatsN_all hi (fun _ => True) (fun _ _ _ _ _ _ _ _ _ => trivial) 20 v 0 hH trivial).1
theorem eatN_ne {v : Nat → Nat} {i j : Nat} (hH : Hw v) (hi : i < 5) (h1 : j ≠ 21 + 5 * i + 1) (h2 : j ≠ 21 + 5 * i + 4) (h3 : ∀ t, t < 9 → j ≠ 3 + 2 * t + 1) : (eatN v i).2 j = v j :=
  (eatsN_all hi (fun u => u j = v j) (fun u t its hu e ht _ _ _ => (eatOne_ne h1 h2 (h3 t (by have := hu.1; omega))).trans e) 20 v 0 hH rfl).2
theorem eatsN_le {i : Nat} : ∀ f v sum, (eatsN i f v sum).1 ≤ max sum (wantsN (v (21 + 5 * i)) (v (21 + 5 * i + 2))) ∨ v 0 > 9
  | 0, v, sum => Or.inl (Nat.le_max_left _ _)
  | f + 1, v, sum => by
    rcases Nat.lt_or_ge 9 (v 0) with h9 | h9
    · exact Or.inr h9
    · by_cases hc : sum < wantsN (v (21 + 5 * i)) (v (21 + 5 * i + 2)) ∧ mayN v i ≠ 0
      · obtain ⟨t, hp1, ht1, ht2, ht3⟩ := may_picks hc.2
        rw [eatsN_go hc.1 hc.2 hp1]
        have hk := eatOne_kind (v := v) (i := i) (t := t) (its := min (wantsN (v (21 + 5 * i)) (v (21 + 5 * i + 2)) - sum) (v (3 + 2 * t + 1))) (by omega)
        rcases eatsN_le f (eatOne v i t (min (wantsN (v (21 + 5 * i)) (v (21 + 5 * i + 2)) - sum) (v (3 + 2 * t + 1)))) (sum + min (wantsN (v (21 + 5 * i)) (v (21 + 5 * i + 2)) - sum) (v (3 + 2 * t + 1))) with h | h
        · rw [hk.1, hk.2.1] at h
          left; omega
        · rw [hk.2.2] at h; omega
      · rw [eatsN_stop hc]; exact Or.inl (Nat.le_max_left _ _)
theorem eatN_le {v : Nat → Nat} {i : Nat} (hH : Hw v) (hi : i < 5) : (eatN v i).1 ≤ 19 := by
  have h9 := hH.2.2.2.2.1 i hi
  have := hH.1
  rcases eatsN_le (i := i) 20 v 0 with h | h
  · have h2 : wantsN (v (21 + 5 * i)) (v (21 + 5 * i + 2)) ≤ 2 * v (21 + 5 * i + 2) + 1 := wantsN_le
    unfold eatN; omega
  · omega
theorem nearN_lt {v : Nat → Nat} {i : Nat} (hH : Hw v) : nearN v i < 512 := by
  have h1 : fullN v < 2 ^ v 0 := orB_lt _ _
  have h2 : (2 : Nat) ^ v 0 ≤ 2 ^ 9 := Nat.pow_le_pow_right (by decide) hH.1
  exact Nat.lt_of_le_of_lt Nat.and_le_right (Nat.lt_of_lt_of_le h1 h2)
theorem ite_lt {P : Prop} [Decidable P] {a b n : Nat} (ha : a < n) (hb : b < n) : (if P then a else b) < n := by
  split <;> assumption
theorem or9 {a b : Nat} (ha : a < 512) (hb : b < 512) : a ||| b < 512 := Nat.or_lt_two_pow (n := 9) ha hb
/-- what each ate, in the cells of an array -/
def ateI (a : Nat → Option Nat) (k : Nat) (af : Nat → Int32) : Nat → Int32 := fun j => if j < k then optI (a j) else af j
theorem ateI_none {a : Nat → Option Nat} {k : Nat} {af : Nat → Int32} (h : a k = none) : upd (ateI a k af) k (-1) = ateI a (k + 1) af := by
  funext j
  unfold upd ateI
  by_cases e : j = k
  · subst e; rw [if_pos rfl, if_pos (Nat.lt_succ_self _), h]; rfl
  · rw [if_neg e]
    by_cases h2 : j < k
    · rw [if_pos h2, if_pos (by omega)]
    · rw [if_neg h2, if_neg (by omega)]
theorem ateI_some {a : Nat → Option Nat} {k x : Nat} {af : Nat → Int32} : upd (ateI a (k + 1) af) k (nI x) = ateI (va_up a k (some x)) (k + 1) af := by
  funext j
  unfold upd ateI va_up
  by_cases e : j = k
  · subst e; rw [if_pos rfl, if_pos (Nat.lt_succ_self _), if_pos rfl]; rfl
  · rw [if_neg e, if_neg e]
/-- one squirrel's part of a day -/
theorem passTo_gone {v v1 : Nat → Nat} {a1 : Nat → Option Nat} {k : Nat} (h : passTo v k = (v1, a1)) (hg : goneN v1 k) : passTo v (k + 1) = (v1, a1) := by
  rw [passTo, h]; exact if_pos hg
theorem passTo_sleep {v v1 : Nat → Nat} {a1 : Nat → Option Nat} {k : Nat} (h : passTo v k = (v1, a1)) (hg : ¬ goneN v1 k) (hk : ¬ wakesN (v1 (21 + 5 * k)) (v1 2)) : passTo v (k + 1) = (updN v1 (21 + 5 * k + 4) (v1 (21 + 5 * k + 4) ||| (if v1 (21 + 5 * k) = 4 then nearN v1 k else 0)), a1) := by
  rw [passTo, h]
  refine (if_neg hg).trans ?_
  exact if_neg (by rw [dB_f hk]; decide)
theorem passTo_wake {v v1 : Nat → Nat} {a1 : Nat → Option Nat} {k : Nat} (h : passTo v k = (v1, a1)) (hg : ¬ goneN v1 k) (hk : wakesN (v1 (21 + 5 * k)) (v1 2)) : passTo v (k + 1) = (updN (eatN (updN v1 (21 + 5 * k + 4) (v1 (21 + 5 * k + 4) ||| (if v1 (21 + 5 * k) = 4 then nearN v1 k else 0))) k).2 (21 + 5 * k + 3) (if (eatN (updN v1 (21 + 5 * k + 4) (v1 (21 + 5 * k + 4) ||| (if v1 (21 + 5 * k) = 4 then nearN v1 k else 0))) k).1 < (eatN (updN v1 (21 + 5 * k + 4) (v1 (21 + 5 * k + 4) ||| (if v1 (21 + 5 * k) = 4 then nearN v1 k else 0))) k).2 (21 + 5 * k + 2) then (eatN (updN v1 (21 + 5 * k + 4) (v1 (21 + 5 * k + 4) ||| (if v1 (21 + 5 * k) = 4 then nearN v1 k else 0))) k).2 (21 + 5 * k + 3) + 1 else (eatN (updN v1 (21 + 5 * k + 4) (v1 (21 + 5 * k + 4) ||| (if v1 (21 + 5 * k) = 4 then nearN v1 k else 0))) k).2 (21 + 5 * k + 3) - 1), va_up a1 k (some (eatN (updN v1 (21 + 5 * k + 4) (v1 (21 + 5 * k + 4) ||| (if v1 (21 + 5 * k) = 4 then nearN v1 k else 0))) k).1)) := by
  rw [passTo, h]
  refine (if_neg hg).trans ?_
  exact if_pos (dB_t hk)
/-- the model object's fields -/
def mF (q : Nat → Nat) (le at1 st tk ln va wr cl un si : Int32) : List Value := [.ref (q 0), .int le, .int at1, .int st, .int tk, .int ln, .int va, .int wr, .int cl, .ref (q 9), .ref (q 10), .ref (q 11), .ref (q 12), .ref (q 13), .int un, .ref (q 15), .ref (q 16), .ref (q 17), .ref (q 18), .int si, .ref (q 20), .ref (q 21), .ref (q 22), .ref (q 23), .ref (q 24)]
theorem zf_X2_35_2 : zFl 2 17 RX2 35 true (.array .int) := ⟨RX2, TX2, 25, tyX2, rfl, by decide, in_X2, q1815, rfl, by decide +kernel, tyX2_ok, nmX2⟩
theorem zs_X2_182 : zSs RX2 182 yX2_wakes cX2_wakes 2 (some .boolean) 2 := ⟨lw_S q2010 q2011 q53 q2012, ⟨by decide +kernel, by decide +kernel⟩, by decide +kernel⟩
theorem zs_X2_185 : zSs RX2 185 yX2_eats cX2_eats 8 (some .int) 2 := ⟨lw_S q2013 q2014 q53 q2015, ⟨by decide +kernel, by decide +kernel⟩, by decide +kernel⟩
theorem zs_X2_178 : zSs RX2 178 yX2_near cX2_near 4 (some .int) 2 := ⟨lw_S q2001 q2002 q53 q2003, ⟨by decide +kernel, by decide +kernel⟩, by decide +kernel⟩
set_option maxHeartbeats 4000000 in
theorem m_X2_passes (G : zE) (l : Launch) (mo : Nat) (q : Nat → Nat) (le : Int32) (at1 : Int32) (st : Int32) (tk : Int32) (ln : Int32) (va : Int32) (wr : Int32) (cl : Int32) (un : Int32) (si : Int32) (w : Nat) (v : Nat → Nat) (af : Nat → Int32) (hH : Hw v) (hd : v 2 < 65000) (rest : va_W) : zMv G l yX2_passes cX2_passes 5 4 0 0 [.ref mo, .ref w] ((mo, zo 2 (mF q le at1 st tk ln va wr cl un si)) :: (w, zc G 0 (zI 46 (vI v))) :: (q 17, zc G 0 (zI 5 af)) :: rest) (fun (_ : Unit) => True) (fun (_ : Unit) => (mo, zo 2 (mF q le at1 st tk ln va wr cl un si)) :: (w, zc G 0 (zI 46 (vI (passN v)))) :: (q 17, zc G 0 (zI 5 (ateI (ateN v) (v 1) af))) :: rest) := by
  refine z_begV (by decide) (Nat.le_of_ble_eq_true rfl) (fun p e s m args below meth c ls Q hC hnm hl hw hend => ?_)
  have hx := hC.hx
  have hb := hC.hb
  have hl : lv_has ls 5 [(0, .ref mo), (1, .ref w)] := hl
  have hw : zS G ((mo, zo 2 (mF q le at1 st tk ln va wr cl un si)) :: (w, zc G 0 (zI 46 (vI v))) :: (q 17, zc G 0 (zI 5 af)) :: rest) s s.heap [] := hw
  have hp := hH.2.1
  refine lv_aload_n hx hb dX2_passes_0 rfl (lv_at hl 1 rfl) ?_
  refine lv_iconst (v := (nI 2)) hx hb dX2_passes_1 zk_2 ?_
  refine lv_dup2_11 hx hb dX2_passes_2 rfl rfl ?_
  refine z_iald (x := (nI (v 2))) hC hw 1 rfl (by decide) (by decide) rfl dX2_passes_3 ?_
  refine lv_iconst (v := (nI 1)) hx hb dX2_passes_4 zk_1 ?_
  refine zn_iadd hx hb dX2_passes_5 ?_
  refine z_iast (f' := vI (updN v 2 (v 2 + 1))) hC hw 1 rfl (by decide) (by decide) (vI_upd _ _ _) dX2_passes_6 (fun H locs hw => ?_)
  have hw : zS G ((mo, zo 2 (mF q le at1 st tk ln va wr cl un si)) :: (w, zc G 0 (zI 46 (vI (updN v 2 (v 2 + 1))))) :: (q 17, zc G 0 (zI 5 af)) :: rest) s H locs := hw
  refine lv_iconst (v := (nI 0)) hx hb dX2_passes_7 zk_0 ?_
  refine lv_istore_n (lv' := [(2, .int (nI 0)), (0, .ref mo), (1, .ref w)]) hx hb dX2_passes_8 rfl hl (by decide) rfl (fun ls hl => ?_)
  have loop_9 : ∀ (fuel : Nat) (k : Nat) (v1 : Nat → Nat) (a1 : Nat → Option Nat), (k ≤ v 1) → (Hw v1) → (v1 1 = v 1) → (∀ j, k ≤ j → a1 j = none) → (passTo v k = (v1, a1)) → (v 1 - k) < fuel → ∀ (H : Heap) (locs : List Loc) (ls : Array Slot), zS G ((mo, zo 2 (mF q le at1 st tk ln va wr cl un si)) :: (w, zc G 0 (zI 46 (vI v1))) :: (q 17, zc G 0 (zI 5 (ateI a1 k af))) :: rest) s H locs → lv_has ls 5 [(0, .ref mo), (1, .ref w), (2, .int (nI k))] → W p l e (zR 4 0 0) s m args below meth c H locs 0 0 Q (F0 m 9 ls []) := by
    intro fuel
    induction fuel with
    | zero => intro k v1 a1 hk hH1 h11 hak hpt hfuel; exact absurd hfuel (Nat.not_lt_zero _)
    | succ fuel_9 ih_9 =>
      intro k v1 a1 hk hH1 h11 hak hpt hfuel_9 H locs ls hw hl
      refine lv_iload_n hx hb dX2_passes_9 rfl (lv_at hl 2 rfl) ?_
      refine lv_aload_n hx hb dX2_passes_10 rfl (lv_at hl 1 rfl) ?_
      refine lv_iconst (v := (nI 1)) hx hb dX2_passes_11 zk_1 ?_
      refine z_iald (x := (nI (v1 1))) hC hw 1 rfl (by decide) (by decide) rfl dX2_passes_12 ?_
      refine zi_ge (tgt := 137) hx hb (by omega) (by have := hH1.2.2.1 1; omega) dX2_passes_13 (by decide) (fun c_13 => ?_) (fun c_13 => ?_)
      · skip
        have hk1 : k = v 1 := by omega
        rw [hk1] at hpt
        have hw : zS G ((mo, zo 2 (mF q le at1 st tk ln va wr cl un si)) :: (w, zc G 0 (zI 46 (vI (passN v)))) :: (q 17, zc G 0 (zI 5 (ateI (ateN v) (v 1) af))) :: rest) s H locs := by unfold passN ateN; rw [hpt, ← hk1]; exact hw
        exact hend _ _ _ _ _ _ () hw trivial (Nat.le_of_ble_eq_true rfl) (Nat.le_of_ble_eq_true rfl) dX2_passes_137
      · skip
        refine lv_bipush (v := (nI 21)) hx hb dX2_passes_16 zb_21 ?_
        refine lv_iconst (v := (nI 5)) hx hb dX2_passes_18 zk_5 ?_
        refine lv_iload_n hx hb dX2_passes_19 rfl (lv_at hl 2 rfl) ?_
        refine zn_imul hx hb dX2_passes_20 ?_
        refine zn_iadd hx hb dX2_passes_21 ?_
        refine lv_istore_n (lv' := [(3, .int (nI (21 + 5 * k))), (0, .ref mo), (1, .ref w), (2, .int (nI k))]) hx hb dX2_passes_22 rfl hl (by decide) rfl (fun ls hl => ?_)
        refine lv_aload_n hx hb dX2_passes_23 rfl (lv_at hl 1 rfl) ?_
        refine z_get (v := .ref (q 17)) hC zf_X2_35_2 hw 0 rfl rfl dX2_passes_24 ?_
        refine lv_iload_n hx hb dX2_passes_27 rfl (lv_at hl 3 rfl) ?_
        refine lv_iconst (v := -1) hx hb dX2_passes_28 zk_m1 ?_
        refine z_iast (f' := ateI a1 (k + 1) af) hC hw 2 rfl (by omega) (by decide) (ateI_none (hak k (Nat.le_refl _))) dX2_passes_29 (fun H locs hw => ?_)
        have hw : zS G ((mo, zo 2 (mF q le at1 st tk ln va wr cl un si)) :: (w, zc G 0 (zI 46 (vI v1))) :: (q 17, zc G 0 (zI 5 (ateI a1 (k + 1) af))) :: rest) s H locs := hw
        refine lv_aload_n hx hb dX2_passes_30 rfl (lv_at hl 2 rfl) ?_
        refine lv_iload_n hx hb dX2_passes_31 rfl (lv_at hl 3 rfl) ?_
        refine z_ci (z_runS (As := [.ref w, .int (nI k)]) (rest := []) hC zs_X2_174 (m_X2_isGone G l w v1 k hH1 (by omega) (zrem [1] _)) (hw.perm (z_cut (is := [1]) (cells := [(w, zc G 0 (zI 46 (vI v1)))]) rfl rfl)) rfl rfl (Nat.le_of_ble_eq_true rfl) hl.1 ⟨Nat.le_of_ble_eq_true rfl, Nat.le_of_ble_eq_true rfl⟩ ⟨(Nat.le_of_ble_eq_true rfl), (Nat.le_of_ble_eq_true rfl)⟩ dX2_passes_32) hw (fun _ => z_keep (is := [1]) (cs := [(w, zc G 0 (zI 46 (vI v1)))]) rfl rfl) (fun r u H locs hp hw => ?_)
        obtain rfl : r = bI (goneN v1 k) := hp
        refine zb_ne (tgt := 131) hx hb dX2_passes_35 (by decide) (fun c_35 => ?_) (fun c_35 => ?_)
        · skip
          refine lv_iinc (v := (nI (k + 1))) (lv' := [(2, .int (nI (k + 1))), (3, .int (nI (21 + 5 * k))), (0, .ref mo), (1, .ref w)]) hx hb dX2_passes_131 hl (k := 3) rfl (zincn _ 1) (by decide) rfl (fun ls hl => ?_)
          refine lv_goto (tgt := 9) hx hb dX2_passes_134 (by decide) ?_
          exact ih_9 (k + 1) v1 a1 (by omega) (by first | exact hH1 | exact hHw | exact hHx) (by first | exact h11 | exact (updN_ne _ _ (by omega)).trans h11 | exact h1x) (by first | exact fun j hj => hak j (by omega) | (intro j hj; exact (va_up_ne _ _ (by omega)).trans (hak j (by omega)))) (by first | exact passTo_gone hpt c_35 | exact passTo_sleep hpt c_35 c_71 | exact passTo_wake hpt c_35 c_71) (by have := hH.2.2.1 1; omega) H locs ls hw (lv_sub hl [2, 3, 0] rfl)
        · skip
          have hks := hH1.2.2.2.1 k (by omega)
          refine lv_aload_n hx hb dX2_passes_38 rfl (lv_at hl 2 rfl) ?_
          refine lv_iload_n hx hb dX2_passes_39 rfl (lv_at hl 0 rfl) ?_
          refine lv_iconst (v := (nI 4)) hx hb dX2_passes_40 zk_4 ?_
          refine zn_iadd hx hb dX2_passes_41 ?_
          refine lv_dup2_11 hx hb dX2_passes_42 rfl rfl ?_
          refine z_iald (x := (nI (v1 (21 + 5 * k + 4)))) hC hw 1 rfl (by omega) (by decide) rfl dX2_passes_43 ?_
          have join_60 : ∀ (x : Nat), (x = if v1 (21 + 5 * k) = 4 then nearN v1 k else 0) → ∀ (H : Heap) (locs : List Loc) (ls : Array Slot), zS G ((mo, zo 2 (mF q le at1 st tk ln va wr cl un si)) :: (w, zc G 0 (zI 46 (vI v1))) :: (q 17, zc G 0 (zI 5 (ateI a1 (k + 1) af))) :: rest) s H locs → lv_has ls 5 [(0, .ref mo), (1, .ref w), (2, .int (nI k)), (3, .int (nI (21 + 5 * k)))] → W p l e (zR 4 0 0) s m args below meth c H locs 0 0 Q (F0 m 60 ls [.int (nI x), .int (nI (v1 (21 + 5 * k + 4))), .int (nI (21 + 5 * k + 4)), .ref w]) := by
            intro x hj H locs ls hw hl
            subst hj
            refine zv_ior (v := (nI ((v1 (21 + 5 * k + 4)) ||| (if v1 (21 + 5 * k) = 4 then nearN v1 k else 0)))) hx hb (nI_or _ _) dX2_passes_60 ?_
            refine z_iast (f' := vI (updN v1 (21 + 5 * k + 4) ((v1 (21 + 5 * k + 4)) ||| (if v1 (21 + 5 * k) = 4 then nearN v1 k else 0)))) hC hw 1 rfl (by omega) (by decide) (vI_upd _ _ _) dX2_passes_61 (fun H locs hw => ?_)
            have hw : zS G ((mo, zo 2 (mF q le at1 st tk ln va wr cl un si)) :: (w, zc G 0 (zI 46 (vI (updN v1 (21 + 5 * k + 4) ((v1 (21 + 5 * k + 4)) ||| (if v1 (21 + 5 * k) = 4 then nearN v1 k else 0)))))) :: (q 17, zc G 0 (zI 5 (ateI a1 (k + 1) af))) :: rest) s H locs := hw
            have hxx : (if v1 (21 + 5 * k) = 4 then nearN v1 k else 0) < 512 := ite_lt (nearN_lt hH1) (by decide)
            have hHw : Hw (updN v1 (21 + 5 * k + 4) (v1 (21 + 5 * k + 4) ||| (if v1 (21 + 5 * k) = 4 then nearN v1 k else 0))) := Hw_upd hH1 (by omega) (by omega) (Nat.lt_trans (or9 hks hxx) (by decide)) (fun _ _ _ => or9 hks hxx) (fun i hi h => by omega) (fun i hi h => by omega)
            refine lv_aload_n hx hb dX2_passes_62 rfl (lv_at hl 1 rfl) ?_
            refine lv_iload_n hx hb dX2_passes_63 rfl (lv_at hl 3 rfl) ?_
            refine z_iald (x := (nI (v1 (21 + 5 * k)))) hC hw 1 rfl (by omega) (by decide) (congrArg nI (updN_ne _ _ (by omega))) dX2_passes_64 ?_
            refine lv_aload_n hx hb dX2_passes_65 rfl (lv_at hl 1 rfl) ?_
            refine lv_iconst (v := (nI 2)) hx hb dX2_passes_66 zk_2 ?_
            refine z_iald (x := (nI (v1 2))) hC hw 1 rfl (by decide) (by decide) (congrArg nI (updN_ne _ _ (by omega))) dX2_passes_67 ?_
            refine z_ci (z_runS (As := [.int (nI (v1 (21 + 5 * k))), .int (nI (v1 2))]) (rest := []) hC zs_X2_182 (m_X2_wakes G l (v1 (21 + 5 * k)) (v1 2) (by have := hH1.2.2.1 (21 + 5 * k); omega) (by have := hH1.2.2.1 2; omega) _) hw rfl rfl (Nat.le_of_ble_eq_true rfl) hl.1 ⟨Nat.le_of_ble_eq_true rfl, Nat.le_of_ble_eq_true rfl⟩ ⟨(Nat.le_of_ble_eq_true rfl), (Nat.le_of_ble_eq_true rfl)⟩ dX2_passes_68) hw (fun _ => List.Perm.refl _) (fun r u H locs hp hw => ?_)
            obtain rfl : r = bI (wakesN (v1 (21 + 5 * k)) (v1 2)) := hp
            refine zb_eq (tgt := 131) hx hb dX2_passes_71 (by decide) (fun c_71 => ?_) (fun c_71 => ?_)
            · skip
              refine lv_iinc (v := (nI (k + 1))) (lv' := [(2, .int (nI (k + 1))), (0, .ref mo), (1, .ref w), (3, .int (nI (21 + 5 * k)))]) hx hb dX2_passes_131 hl (k := 2) rfl (zincn _ 1) (by decide) rfl (fun ls hl => ?_)
              refine lv_goto (tgt := 9) hx hb dX2_passes_134 (by decide) ?_
              exact ih_9 (k + 1) (updN v1 (21 + 5 * k + 4) ((v1 (21 + 5 * k + 4)) ||| (if v1 (21 + 5 * k) = 4 then nearN v1 k else 0))) a1 (by omega) (by first | exact hH1 | exact hHw | exact hHx) (by first | exact h11 | exact (updN_ne _ _ (by omega)).trans h11 | exact h1x) (by first | exact fun j hj => hak j (by omega) | (intro j hj; exact (va_up_ne _ _ (by omega)).trans (hak j (by omega)))) (by first | exact passTo_gone hpt c_35 | exact passTo_sleep hpt c_35 c_71 | exact passTo_wake hpt c_35 c_71) (by have := hH.2.2.1 1; omega) H locs ls hw (lv_sub hl [1, 2, 0] rfl)
            · skip
              refine lv_aload_n hx hb dX2_passes_74 rfl (lv_at hl 0 rfl) ?_
              refine z_get (v := .ref (q 17)) hC zf_X2_35_2 hw 0 rfl rfl dX2_passes_75 ?_
              refine lv_iload_n hx hb dX2_passes_78 rfl (lv_at hl 2 rfl) ?_
              refine lv_aload_n hx hb dX2_passes_79 rfl (lv_at hl 1 rfl) ?_
              refine lv_iload_n hx hb dX2_passes_80 rfl (lv_at hl 2 rfl) ?_
              refine z_ci (z_runS (As := [.ref w, .int (nI k)]) (rest := [.int (nI k), .ref (q 17)]) hC zs_X2_185 (m_X2_eats G l w (updN v1 (21 + 5 * k + 4) ((v1 (21 + 5 * k + 4)) ||| (if v1 (21 + 5 * k) = 4 then nearN v1 k else 0))) k hHw (by omega) (zrem [1] _)) (hw.perm (z_cut (is := [1]) (cells := [(w, zc G 0 (zI 46 (vI (updN v1 (21 + 5 * k + 4) ((v1 (21 + 5 * k + 4)) ||| (if v1 (21 + 5 * k) = 4 then nearN v1 k else 0))))))]) rfl rfl)) rfl rfl (Nat.le_of_ble_eq_true rfl) hl.1 ⟨Nat.le_of_ble_eq_true rfl, Nat.le_of_ble_eq_true rfl⟩ ⟨(Nat.le_of_ble_eq_true rfl), (Nat.le_of_ble_eq_true rfl)⟩ dX2_passes_81) hw (fun _ => z_pput (is := [1]) (cells := [(w, zc G 0 (zI 46 (vI (updN v1 (21 + 5 * k + 4) ((v1 (21 + 5 * k + 4)) ||| (if v1 (21 + 5 * k) = 4 then nearN v1 k else 0))))))]) (cells' := [(w, zc G 0 (zI 46 (vI (eatN (updN v1 (21 + 5 * k + 4) ((v1 (21 + 5 * k + 4)) ||| (if v1 (21 + 5 * k) = 4 then nearN v1 k else 0))) k).2)))]) rfl rfl rfl) (fun r u H locs hp hw => ?_)
              have hw : zS G ((mo, zo 2 (mF q le at1 st tk ln va wr cl un si)) :: (w, zc G 0 (zI 46 (vI (eatN (updN v1 (21 + 5 * k + 4) ((v1 (21 + 5 * k + 4)) ||| (if v1 (21 + 5 * k) = 4 then nearN v1 k else 0))) k).2))) :: (q 17, zc G 0 (zI 5 (ateI a1 (k + 1) af))) :: rest) s H locs := hw
              obtain rfl : r = nI (eatN (updN v1 (21 + 5 * k + 4) ((v1 (21 + 5 * k + 4)) ||| (if v1 (21 + 5 * k) = 4 then nearN v1 k else 0))) k).1 := hp
              refine z_iast (f' := ateI (va_up a1 k (some (eatN (updN v1 (21 + 5 * k + 4) (v1 (21 + 5 * k + 4) ||| (if v1 (21 + 5 * k) = 4 then nearN v1 k else 0))) k).1)) (k + 1) af) hC hw 2 rfl (by omega) (by decide) ateI_some dX2_passes_84 (fun H locs hw => ?_)
              have hw : zS G ((mo, zo 2 (mF q le at1 st tk ln va wr cl un si)) :: (w, zc G 0 (zI 46 (vI (eatN (updN v1 (21 + 5 * k + 4) ((v1 (21 + 5 * k + 4)) ||| (if v1 (21 + 5 * k) = 4 then nearN v1 k else 0))) k).2))) :: (q 17, zc G 0 (zI 5 (ateI (va_up a1 k (some (eatN (updN v1 (21 + 5 * k + 4) (v1 (21 + 5 * k + 4) ||| (if v1 (21 + 5 * k) = 4 then nearN v1 k else 0))) k).1)) (k + 1) af))) :: rest) s H locs := hw
              have hE : Hw (eatN (updN v1 (21 + 5 * k + 4) (v1 (21 + 5 * k + 4) ||| (if v1 (21 + 5 * k) = 4 then nearN v1 k else 0))) k).2 := eatN_Hw hHw (by omega)
              have hEl := eatN_le (i := k) hHw (by omega)
              have hEe : (eatN (updN v1 (21 + 5 * k + 4) (v1 (21 + 5 * k + 4) ||| (if v1 (21 + 5 * k) = 4 then nearN v1 k else 0))) k).2 1 = v 1 := (eatN_ne hHw (by omega) (by omega) (by omega) (fun t ht => by omega)).trans ((updN_ne _ _ (by omega)).trans h11)
              have hE2 := hE.2.2.2.2.1 k (by omega)
              have hE3 := hE.2.2.2.2.2 k (by omega)
              have hE33 : (eatN (updN v1 (21 + 5 * k + 4) (v1 (21 + 5 * k + 4) ||| (if v1 (21 + 5 * k) = 4 then nearN v1 k else 0))) k).2 (21 + 5 * k + 3) ≤ 2 := by rw [eatN_ne hHw (by omega) (by omega) (by omega) (fun t ht => by omega), updN_ne _ _ (by omega)]; have := hH1.2.2.2.2.2 k (by omega); have := c_35; unfold goneN at this; omega
              have hHx : Hw (updN (eatN (updN v1 (21 + 5 * k + 4) (v1 (21 + 5 * k + 4) ||| (if v1 (21 + 5 * k) = 4 then nearN v1 k else 0))) k).2 (21 + 5 * k + 3) (if (eatN (updN v1 (21 + 5 * k + 4) (v1 (21 + 5 * k + 4) ||| (if v1 (21 + 5 * k) = 4 then nearN v1 k else 0))) k).1 < (eatN (updN v1 (21 + 5 * k + 4) (v1 (21 + 5 * k + 4) ||| (if v1 (21 + 5 * k) = 4 then nearN v1 k else 0))) k).2 (21 + 5 * k + 2) then (eatN (updN v1 (21 + 5 * k + 4) (v1 (21 + 5 * k + 4) ||| (if v1 (21 + 5 * k) = 4 then nearN v1 k else 0))) k).2 (21 + 5 * k + 3) + 1 else (eatN (updN v1 (21 + 5 * k + 4) (v1 (21 + 5 * k + 4) ||| (if v1 (21 + 5 * k) = 4 then nearN v1 k else 0))) k).2 (21 + 5 * k + 3) - 1)) := Hw_upd hE (by omega) (by omega) (ite_lt (by omega) (by omega)) (fun i hi h => by omega) (fun i hi h => by omega) (fun i hi h => Nat.le_of_lt_succ (ite_lt (by omega) (by omega)))
              have h1x : updN (eatN (updN v1 (21 + 5 * k + 4) (v1 (21 + 5 * k + 4) ||| (if v1 (21 + 5 * k) = 4 then nearN v1 k else 0))) k).2 (21 + 5 * k + 3) (if (eatN (updN v1 (21 + 5 * k + 4) (v1 (21 + 5 * k + 4) ||| (if v1 (21 + 5 * k) = 4 then nearN v1 k else 0))) k).1 < (eatN (updN v1 (21 + 5 * k + 4) (v1 (21 + 5 * k + 4) ||| (if v1 (21 + 5 * k) = 4 then nearN v1 k else 0))) k).2 (21 + 5 * k + 2) then (eatN (updN v1 (21 + 5 * k + 4) (v1 (21 + 5 * k + 4) ||| (if v1 (21 + 5 * k) = 4 then nearN v1 k else 0))) k).2 (21 + 5 * k + 3) + 1 else (eatN (updN v1 (21 + 5 * k + 4) (v1 (21 + 5 * k + 4) ||| (if v1 (21 + 5 * k) = 4 then nearN v1 k else 0))) k).2 (21 + 5 * k + 3) - 1) 1 = v 1 := (updN_ne _ _ (by omega)).trans hEe
              refine lv_aload_n hx hb dX2_passes_85 rfl (lv_at hl 1 rfl) ?_
              refine lv_iload_n hx hb dX2_passes_86 rfl (lv_at hl 3 rfl) ?_
              refine lv_iconst (v := (nI 3)) hx hb dX2_passes_87 zk_3 ?_
              refine zn_iadd hx hb dX2_passes_88 ?_
              refine z_iald (x := (nI (((eatN (updN v1 (21 + 5 * k + 4) ((v1 (21 + 5 * k + 4)) ||| (if v1 (21 + 5 * k) = 4 then nearN v1 k else 0))) k).2) (21 + 5 * k + 3)))) hC hw 1 rfl (by omega) (by decide) rfl dX2_passes_89 ?_
              refine lv_istore (lv' := [(4, .int (nI (((eatN (updN v1 (21 + 5 * k + 4) ((v1 (21 + 5 * k + 4)) ||| (if v1 (21 + 5 * k) = 4 then nearN v1 k else 0))) k).2) (21 + 5 * k + 3)))), (0, .ref mo), (1, .ref w), (2, .int (nI k)), (3, .int (nI (21 + 5 * k)))]) hx hb dX2_passes_90 hl (by decide) rfl (fun ls hl => ?_)
              refine lv_aload_n hx hb dX2_passes_92 rfl (lv_at hl 2 rfl) ?_
              refine lv_iload_n hx hb dX2_passes_93 rfl (lv_at hl 4 rfl) ?_
              refine lv_iconst (v := (nI 3)) hx hb dX2_passes_94 zk_3 ?_
              refine zn_iadd hx hb dX2_passes_95 ?_
              have join_130 : ∀ (x : Nat), (x = if (eatN (updN v1 (21 + 5 * k + 4) (v1 (21 + 5 * k + 4) ||| (if v1 (21 + 5 * k) = 4 then nearN v1 k else 0))) k).1 < (eatN (updN v1 (21 + 5 * k + 4) (v1 (21 + 5 * k + 4) ||| (if v1 (21 + 5 * k) = 4 then nearN v1 k else 0))) k).2 (21 + 5 * k + 2) then (eatN (updN v1 (21 + 5 * k + 4) (v1 (21 + 5 * k + 4) ||| (if v1 (21 + 5 * k) = 4 then nearN v1 k else 0))) k).2 (21 + 5 * k + 3) + 1 else (eatN (updN v1 (21 + 5 * k + 4) (v1 (21 + 5 * k + 4) ||| (if v1 (21 + 5 * k) = 4 then nearN v1 k else 0))) k).2 (21 + 5 * k + 3) - 1) → ∀ (H : Heap) (locs : List Loc) (ls : Array Slot), zS G ((mo, zo 2 (mF q le at1 st tk ln va wr cl un si)) :: (w, zc G 0 (zI 46 (vI (eatN (updN v1 (21 + 5 * k + 4) ((v1 (21 + 5 * k + 4)) ||| (if v1 (21 + 5 * k) = 4 then nearN v1 k else 0))) k).2))) :: (q 17, zc G 0 (zI 5 (ateI (va_up a1 k (some (eatN (updN v1 (21 + 5 * k + 4) (v1 (21 + 5 * k + 4) ||| (if v1 (21 + 5 * k) = 4 then nearN v1 k else 0))) k).1)) (k + 1) af))) :: rest) s H locs → lv_has ls 5 [(0, .ref mo), (1, .ref w), (2, .int (nI k)), (3, .int (nI (21 + 5 * k)))] → W p l e (zR 4 0 0) s m args below meth c H locs 0 0 Q (F0 m 130 ls [.int (nI x), .int (nI (21 + 5 * k + 3)), .ref w]) := by
                intro x hj H locs ls hw hl
                subst hj
                refine z_iast (f' := vI (updN ((eatN (updN v1 (21 + 5 * k + 4) ((v1 (21 + 5 * k + 4)) ||| (if v1 (21 + 5 * k) = 4 then nearN v1 k else 0))) k).2) (21 + 5 * k + 3) (if (eatN (updN v1 (21 + 5 * k + 4) (v1 (21 + 5 * k + 4) ||| (if v1 (21 + 5 * k) = 4 then nearN v1 k else 0))) k).1 < (eatN (updN v1 (21 + 5 * k + 4) (v1 (21 + 5 * k + 4) ||| (if v1 (21 + 5 * k) = 4 then nearN v1 k else 0))) k).2 (21 + 5 * k + 2) then (eatN (updN v1 (21 + 5 * k + 4) (v1 (21 + 5 * k + 4) ||| (if v1 (21 + 5 * k) = 4 then nearN v1 k else 0))) k).2 (21 + 5 * k + 3) + 1 else (eatN (updN v1 (21 + 5 * k + 4) (v1 (21 + 5 * k + 4) ||| (if v1 (21 + 5 * k) = 4 then nearN v1 k else 0))) k).2 (21 + 5 * k + 3) - 1))) hC hw 1 rfl (by omega) (by decide) (vI_upd _ _ _) dX2_passes_130 (fun H locs hw => ?_)
                have hw : zS G ((mo, zo 2 (mF q le at1 st tk ln va wr cl un si)) :: (w, zc G 0 (zI 46 (vI (updN ((eatN (updN v1 (21 + 5 * k + 4) ((v1 (21 + 5 * k + 4)) ||| (if v1 (21 + 5 * k) = 4 then nearN v1 k else 0))) k).2) (21 + 5 * k + 3) (if (eatN (updN v1 (21 + 5 * k + 4) (v1 (21 + 5 * k + 4) ||| (if v1 (21 + 5 * k) = 4 then nearN v1 k else 0))) k).1 < (eatN (updN v1 (21 + 5 * k + 4) (v1 (21 + 5 * k + 4) ||| (if v1 (21 + 5 * k) = 4 then nearN v1 k else 0))) k).2 (21 + 5 * k + 2) then (eatN (updN v1 (21 + 5 * k + 4) (v1 (21 + 5 * k + 4) ||| (if v1 (21 + 5 * k) = 4 then nearN v1 k else 0))) k).2 (21 + 5 * k + 3) + 1 else (eatN (updN v1 (21 + 5 * k + 4) (v1 (21 + 5 * k + 4) ||| (if v1 (21 + 5 * k) = 4 then nearN v1 k else 0))) k).2 (21 + 5 * k + 3) - 1))))) :: (q 17, zc G 0 (zI 5 (ateI (va_up a1 k (some (eatN (updN v1 (21 + 5 * k + 4) (v1 (21 + 5 * k + 4) ||| (if v1 (21 + 5 * k) = 4 then nearN v1 k else 0))) k).1)) (k + 1) af))) :: rest) s H locs := hw
                refine lv_iinc (v := (nI (k + 1))) (lv' := [(2, .int (nI (k + 1))), (0, .ref mo), (1, .ref w), (3, .int (nI (21 + 5 * k)))]) hx hb dX2_passes_131 hl (k := 2) rfl (zincn _ 1) (by decide) rfl (fun ls hl => ?_)
                refine lv_goto (tgt := 9) hx hb dX2_passes_134 (by decide) ?_
                exact ih_9 (k + 1) (updN ((eatN (updN v1 (21 + 5 * k + 4) ((v1 (21 + 5 * k + 4)) ||| (if v1 (21 + 5 * k) = 4 then nearN v1 k else 0))) k).2) (21 + 5 * k + 3) (if (eatN (updN v1 (21 + 5 * k + 4) (v1 (21 + 5 * k + 4) ||| (if v1 (21 + 5 * k) = 4 then nearN v1 k else 0))) k).1 < (eatN (updN v1 (21 + 5 * k + 4) (v1 (21 + 5 * k + 4) ||| (if v1 (21 + 5 * k) = 4 then nearN v1 k else 0))) k).2 (21 + 5 * k + 2) then (eatN (updN v1 (21 + 5 * k + 4) (v1 (21 + 5 * k + 4) ||| (if v1 (21 + 5 * k) = 4 then nearN v1 k else 0))) k).2 (21 + 5 * k + 3) + 1 else (eatN (updN v1 (21 + 5 * k + 4) (v1 (21 + 5 * k + 4) ||| (if v1 (21 + 5 * k) = 4 then nearN v1 k else 0))) k).2 (21 + 5 * k + 3) - 1)) (va_up a1 k (some (eatN (updN v1 (21 + 5 * k + 4) (v1 (21 + 5 * k + 4) ||| (if v1 (21 + 5 * k) = 4 then nearN v1 k else 0))) k).1)) (by omega) (by first | exact hH1 | exact hHw | exact hHx) (by first | exact h11 | exact (updN_ne _ _ (by omega)).trans h11 | exact h1x) (by first | exact fun j hj => hak j (by omega) | (intro j hj; exact (va_up_ne _ _ (by omega)).trans (hak j (by omega)))) (by first | exact passTo_gone hpt c_35 | exact passTo_sleep hpt c_35 c_71 | exact passTo_wake hpt c_35 c_71) (by have := hH.2.2.1 1; omega) H locs ls hw (lv_sub hl [1, 2, 0] rfl)
              refine lv_aload_n hx hb dX2_passes_96 rfl (lv_at hl 1 rfl) ?_
              refine z_get (v := .ref (q 17)) hC zf_X2_35_2 hw 0 rfl rfl dX2_passes_97 ?_
              refine lv_iload_n hx hb dX2_passes_100 rfl (lv_at hl 3 rfl) ?_
              refine z_iald (x := (nI ((eatN (updN v1 (21 + 5 * k + 4) (v1 (21 + 5 * k + 4) ||| (if v1 (21 + 5 * k) = 4 then nearN v1 k else 0))) k).1))) hC hw 2 rfl (by omega) (by decide) (by rw [ateI, if_pos (Nat.lt_succ_self _), va_up_self]; rfl) dX2_passes_101 ?_
              refine lv_aload_n hx hb dX2_passes_102 rfl (lv_at hl 2 rfl) ?_
              refine lv_iload_n hx hb dX2_passes_103 rfl (lv_at hl 4 rfl) ?_
              refine lv_iconst (v := (nI 2)) hx hb dX2_passes_104 zk_2 ?_
              refine zn_iadd hx hb dX2_passes_105 ?_
              refine z_iald (x := (nI (((eatN (updN v1 (21 + 5 * k + 4) ((v1 (21 + 5 * k + 4)) ||| (if v1 (21 + 5 * k) = 4 then nearN v1 k else 0))) k).2) (21 + 5 * k + 2)))) hC hw 1 rfl (by omega) (by decide) rfl dX2_passes_106 ?_
              refine zi_ge (tgt := 117) hx hb (by have := hH1.2.2.1 (21 + 5 * k + 4); have := hH1.2.2.1 (21 + 5 * k); have := hH1.2.2.1 k; omega) (by have := hH1.2.2.1 (21 + 5 * k + 4); have := hH1.2.2.1 (21 + 5 * k); have := hH1.2.2.1 k; omega) dX2_passes_107 (by decide) (fun c_107 => ?_) (fun c_107 => ?_)
              · skip
                refine lv_iload hx hb dX2_passes_117 (lv_at hl 0 rfl) ?_
                refine zj_le (tgt := 129) hx hb (by have := hH1.2.2.1 (21 + 5 * k + 4); have := hH1.2.2.1 (21 + 5 * k); have := hH1.2.2.1 k; omega) dX2_passes_119 (by decide) (fun c_119 => ?_) (fun c_119 => ?_)
                · skip
                  refine lv_iconst (v := (nI 0)) hx hb dX2_passes_129 zk_0 ?_
                  exact join_130 0 (by first | rw [if_pos c_107] | (rw [if_neg (Nat.not_lt.mpr c_107)]; try omega)) H locs ls hw (lv_sub hl [1, 2, 3, 4] rfl)
                · skip
                  refine lv_iload hx hb dX2_passes_122 (lv_at hl 0 rfl) ?_
                  refine lv_iconst (v := (nI 1)) hx hb dX2_passes_124 zk_1 ?_
                  refine zn_isub hx hb (by have := hH1.2.2.1 (21 + 5 * k + 4); have := hH1.2.2.1 (21 + 5 * k); have := hH1.2.2.1 k; omega) dX2_passes_125 ?_
                  refine lv_goto (tgt := 130) hx hb dX2_passes_126 (by decide) ?_
                  exact join_130 ((((eatN (updN v1 (21 + 5 * k + 4) ((v1 (21 + 5 * k + 4)) ||| (if v1 (21 + 5 * k) = 4 then nearN v1 k else 0))) k).2) (21 + 5 * k + 3)) - 1) (by first | rw [if_pos c_107] | (rw [if_neg (Nat.not_lt.mpr c_107)]; try omega)) H locs ls hw (lv_sub hl [1, 2, 3, 4] rfl)
              · skip
                refine lv_iload hx hb dX2_passes_110 (lv_at hl 0 rfl) ?_
                refine lv_iconst (v := (nI 1)) hx hb dX2_passes_112 zk_1 ?_
                refine zn_iadd hx hb dX2_passes_113 ?_
                refine lv_goto (tgt := 130) hx hb dX2_passes_114 (by decide) ?_
                exact join_130 ((((eatN (updN v1 (21 + 5 * k + 4) ((v1 (21 + 5 * k + 4)) ||| (if v1 (21 + 5 * k) = 4 then nearN v1 k else 0))) k).2) (21 + 5 * k + 3)) + 1) (by first | rw [if_pos c_107] | (rw [if_neg (Nat.not_lt.mpr c_107)]; try omega)) H locs ls hw (lv_sub hl [1, 2, 3, 4] rfl)
          refine lv_aload_n hx hb dX2_passes_44 rfl (lv_at hl 2 rfl) ?_
          refine lv_iload_n hx hb dX2_passes_45 rfl (lv_at hl 0 rfl) ?_
          refine z_iald (x := (nI (v1 (21 + 5 * k)))) hC hw 1 rfl (by omega) (by decide) rfl dX2_passes_46 ?_
          refine lv_iconst (v := (nI 4)) hx hb dX2_passes_47 zk_4 ?_
          refine zi_ne (tgt := 59) hx hb (by have := hH1.2.2.1 (21 + 5 * k); omega) (by decide) dX2_passes_48 (by decide) (fun c_48 => ?_) (fun c_48 => ?_)
          · skip
            refine lv_iconst (v := (nI 0)) hx hb dX2_passes_59 zk_0 ?_
            exact join_60 0 (by first | rw [if_pos c_48] | rw [if_neg c_48]) H locs ls hw (lv_sub hl [1, 2, 3, 0] rfl)
          · skip
            refine lv_aload_n hx hb dX2_passes_51 rfl (lv_at hl 2 rfl) ?_
            refine lv_iload_n hx hb dX2_passes_52 rfl (lv_at hl 3 rfl) ?_
            refine z_ci (z_runS (As := [.ref w, .int (nI k)]) (rest := [.int (nI (v1 (21 + 5 * k + 4))), .int (nI (21 + 5 * k + 4)), .ref w]) hC zs_X2_178 (m_X2_near G l w v1 k hH1 (by omega) (zrem [1] _)) (hw.perm (z_cut (is := [1]) (cells := [(w, zc G 0 (zI 46 (vI v1)))]) rfl rfl)) rfl rfl (Nat.le_of_ble_eq_true rfl) hl.1 ⟨Nat.le_of_ble_eq_true rfl, Nat.le_of_ble_eq_true rfl⟩ ⟨(Nat.le_of_ble_eq_true rfl), (Nat.le_of_ble_eq_true rfl)⟩ dX2_passes_53) hw (fun _ => z_keep (is := [1]) (cs := [(w, zc G 0 (zI 46 (vI v1)))]) rfl rfl) (fun r u H locs hp hw => ?_)
            obtain rfl : r = nI (nearN v1 k) := hp
            refine lv_goto (tgt := 60) hx hb dX2_passes_56 (by decide) ?_
            exact join_60 (nearN v1 k) (by first | rw [if_pos c_48] | rw [if_neg c_48]) H locs ls hw (lv_sub hl [1, 2, 3, 0] rfl)
  have hw : zS G ((mo, zo 2 (mF q le at1 st tk ln va wr cl un si)) :: (w, zc G 0 (zI 46 (vI (updN v 2 (v 2 + 1))))) :: (q 17, zc G 0 (zI 5 (ateI (fun _ => none) 0 af))) :: rest) s H locs := hw
  exact loop_9 ((v 1 - 0) + 1) 0 (updN v 2 (v 2 + 1)) (fun _ => none) (by have := hH.2.2.1 1; omega) (Hw_upd hH (by decide) (by decide) (by omega) (fun i _ h => by omega) (fun i _ h => by omega) (fun i _ h => by omega)) (updN_ne _ _ (by decide)) (fun _ _ => rfl) rfl (Nat.lt_succ_self _) H locs ls hw (lv_sub hl [1, 2, 0] rfl)
