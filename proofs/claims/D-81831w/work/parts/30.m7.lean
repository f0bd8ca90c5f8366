/-! MODEL: the text -/
set_option maxRecDepth 100000
set_option maxHeartbeats 4000000 in
theorem m_X2_isSmall (G : zE) (l : Launch) (x : Int32) (rest : va_W) : zMi G l yX2_isSmall cX2_isSmall 1 (some .boolean) 1 0 0 [.int x] (rest) (fun (r : Int32) (_ : Unit) => r = bI (inR x 97 122)) (fun (_ : Unit) => rest) := by
  refine z_begZ (by decide) (Nat.le_of_ble_eq_true rfl) (fun p e s m args below meth c ls Q hC hl hw hend => ?_)
  have hx := hC.hx
  have hb := hC.hb
  have hl : lv_has ls 1 [(0, .int x)] := hl
  refine lv_iload_n hx hb dX2_isSmall_0 rfl (lv_at hl 0 rfl) ?_
  refine lv_bipush (v := (nI 97)) hx hb dX2_isSmall_1 zb_97 ?_
  refine lv_bipush (v := (nI 122)) hx hb dX2_isSmall_3 zb_122 ?_
  refine z_ci (z_runS (As := [.int x, .int (nI 97), .int (nI 122)]) (rest := []) hC zs_X2_59 (m_X2_in_n G l x 97 122 (by decide) (by decide) _) hw rfl rfl (Nat.le_of_ble_eq_true rfl) hl.1 ⟨Nat.le_of_ble_eq_true rfl, Nat.le_of_ble_eq_true rfl⟩ ⟨(Nat.le_of_ble_eq_true rfl), (Nat.le_of_ble_eq_true rfl)⟩ dX2_isSmall_5) hw (fun _ => List.Perm.refl _) (fun r u H locs hp hw => ?_)
  obtain rfl : r = bI (inR x 97 122) := hp
  exact hend _ _ _ _ _ _ _ () (bI_nar _) hw rfl (Nat.le_of_ble_eq_true rfl) (Nat.le_of_ble_eq_true rfl) dX2_isSmall_8
set_option maxHeartbeats 4000000 in
theorem m_X2_isDigit (G : zE) (l : Launch) (x : Int32) (rest : va_W) : zMi G l yX2_isDigit cX2_isDigit 1 (some .boolean) 1 0 0 [.int x] (rest) (fun (r : Int32) (_ : Unit) => r = bI (inR x 48 57)) (fun (_ : Unit) => rest) := by
  refine z_begZ (by decide) (Nat.le_of_ble_eq_true rfl) (fun p e s m args below meth c ls Q hC hl hw hend => ?_)
  have hx := hC.hx
  have hb := hC.hb
  have hl : lv_has ls 1 [(0, .int x)] := hl
  refine lv_iload_n hx hb dX2_isDigit_0 rfl (lv_at hl 0 rfl) ?_
  refine lv_bipush (v := (nI 48)) hx hb dX2_isDigit_1 zb_48 ?_
  refine lv_bipush (v := (nI 57)) hx hb dX2_isDigit_3 zb_57 ?_
  refine z_ci (z_runS (As := [.int x, .int (nI 48), .int (nI 57)]) (rest := []) hC zs_X2_59 (m_X2_in_n G l x 48 57 (by decide) (by decide) _) hw rfl rfl (Nat.le_of_ble_eq_true rfl) hl.1 ⟨Nat.le_of_ble_eq_true rfl, Nat.le_of_ble_eq_true rfl⟩ ⟨(Nat.le_of_ble_eq_true rfl), (Nat.le_of_ble_eq_true rfl)⟩ dX2_isDigit_5) hw (fun _ => List.Perm.refl _) (fun r u H locs hp hw => ?_)
  obtain rfl : r = bI (inR x 48 57) := hp
  exact hend _ _ _ _ _ _ _ () (bI_nar _) hw rfl (Nat.le_of_ble_eq_true rfl) (Nat.le_of_ble_eq_true rfl) dX2_isDigit_8
set_option maxHeartbeats 4000000 in
theorem m_X2_look (G : zE) (l : Launch) (mo : Nat) (q : Nat → Nat) (cl : Int32) (un : Int32) (si : Int32) (n : Nat) (tx : Nat → Nat) (g0 : Nat → Int32) (hn : n ≤ 200) (hg : ∀ j, j < n → g0 j = nI (tx j)) (ht : ∀ j, j < n → tx j < 256) (at1 : Int32) (st : Int32) (tk : Int32) (ln : Int32) (va : Int32) (wr : Int32) (k : Nat) (hk : k < 2147483648) (rest : va_W) : zMi G l yX2_look cX2_look 2 (some .int) 0 0 0 [.ref mo, .int (nI k)] ((mo, zo 2 (mF q (nI n) at1 st tk ln va wr cl un si)) :: (q 0, zc G 0 (zI 200 g0)) :: rest) (fun (r : Int32) (_ : Unit) => r = optI (lookN tx n k)) (fun (_ : Unit) => (mo, zo 2 (mF q (nI n) at1 st tk ln va wr cl un si)) :: (q 0, zc G 0 (zI 200 g0)) :: rest) := by
  refine z_begI (by decide) (Nat.le_of_ble_eq_true rfl) (fun p e s m args below meth c ls Q hC hl hw hend => ?_)
  have hx := hC.hx
  have hb := hC.hb
  have hl : lv_has ls 2 [(0, .ref mo), (1, .int (nI k))] := hl
  have hw : zS G ((mo, zo 2 (mF q (nI n) at1 st tk ln va wr cl un si)) :: (q 0, zc G 0 (zI 200 g0)) :: rest) s s.heap [] := hw
  refine lv_iload_n hx hb dX2_look_0 rfl (lv_at hl 1 rfl) ?_
  refine lv_aload_n hx hb dX2_look_1 rfl (lv_at hl 0 rfl) ?_
  refine z_get (v := .int (nI n)) hC zf_X2_63_2 hw 0 rfl rfl dX2_look_2 ?_
  refine zi_ge (tgt := 17) hx hb (by omega) (by omega) dX2_look_5 (by decide) (fun c_5 => ?_) (fun c_5 => ?_)
  · skip
    refine lv_iconst (v := -1) hx hb dX2_look_17 zk_m1 ?_
    exact hend _ _ _ _ _ _ _ () hw (by unfold lookN; first | (rw [if_pos c_5]; rfl) | (rw [if_neg (by omega)]; rfl)) (Nat.le_of_ble_eq_true rfl) (Nat.le_of_ble_eq_true rfl) dX2_look_18
  · skip
    refine lv_aload_n hx hb dX2_look_8 rfl (lv_at hl 0 rfl) ?_
    refine z_get (v := .ref (q 0)) hC zf_X2_7_2 hw 0 rfl rfl dX2_look_9 ?_
    refine lv_iload_n hx hb dX2_look_12 rfl (lv_at hl 1 rfl) ?_
    refine z_iald (x := (nI (tx k))) hC hw 1 rfl (by omega) (by decide) (hg k c_5) dX2_look_13 ?_
    refine lv_goto (tgt := 18) hx hb dX2_look_14 (by decide) ?_
    exact hend _ _ _ _ _ _ _ () hw (by unfold lookN; first | (rw [if_pos c_5]; rfl) | (rw [if_neg (by omega)]; rfl)) (Nat.le_of_ble_eq_true rfl) (Nat.le_of_ble_eq_true rfl) dX2_look_18
theorem isSp_iff {c : Nat} : isSp c = true ↔ c = 32 := by unfold isSp; exact decide_eq_true_iff
theorem isSm_iff {c : Nat} : isSm c = true ↔ 97 ≤ c ∧ c ≤ 122 := by unfold isSm; exact decide_eq_true_iff
theorem isDg_iff {c : Nat} : isDg c = true ↔ 48 ≤ c ∧ c ≤ 57 := by unfold isDg; exact decide_eq_true_iff
theorem look_none {tx : Nat → Nat} {n k : Nat} (ht : ∀ j, j < n → tx j < 256) : optI (lookN tx n k) = -1 ↔ ¬ k < n := by
  unfold lookN
  by_cases h : k < n
  · rw [if_pos h]
    exact ⟨fun q => absurd q (nI_nm1 (by have := ht k h; omega)), fun q => absurd h q⟩
  · rw [if_neg h]; exact ⟨fun _ => h, fun _ => rfl⟩
theorem tK_0 {tx : Nat → Nat} {n p : Nat} (h : ¬ tF tx n p < n) : tK tx n p = 0 := if_neg h
theorem tK_c {tx : Nat → Nat} {n p : Nat} (h : tF tx n p < n) : tK tx n p = clsN (tx (tF tx n p)) := if_pos h
/-- while a word or a number is gone through: its letters so far -/
def inTok (tx : Nat → Nat) (n f k L : Nat) : Prop := (k = 1 ∨ k = 2 → run tx n (tP k) (f + L) = run tx n (tP k) f ∧ f + L ≤ n ∧ ∀ m, m < L → tP k (tx (f + m)) = true) ∧ (¬ (k = 1 ∨ k = 2) → L = 0)
theorem inTok_0 {tx : Nat → Nat} {n f k : Nat} (h : f ≤ n) : inTok tx n f k 0 := ⟨fun _ => ⟨rfl, h, fun m hm => absurd hm (Nat.not_lt_zero m)⟩, fun _ => rfl⟩
theorem inTok_s {tx : Nat → Nat} {n f k L : Nat} (h : inTok tx n f k L) (hk : k = 1 ∨ k = 2) (hl : f + L < n) (hP : tP k (tx (f + L)) = true) : inTok tx n f k (L + 1) := by
  obtain ⟨a, c, d⟩ := h.1 hk
  refine ⟨fun _ => ⟨?_, by omega, fun m hm => ?_⟩, fun q => absurd hk q⟩
  · rw [← a, run_go hl hP]; rfl
  · by_cases e : m = L
    · rw [e]; exact hP
    · exact d m (by omega)
theorem inTok_e {tx : Nat → Nat} {n p L : Nat} (h : inTok tx n (tF tx n p) (tK tx n p) L) (he : (tK tx n p = 1 ∨ tK tx n p = 2) → ¬ (tF tx n p + L < n ∧ tP (tK tx n p) (tx (tF tx n p + L)) = true)) : L = tL tx n p ∧ tF tx n p + L = tE tx n p := by
  by_cases hk : tK tx n p = 1 ∨ tK tx n p = 2
  · obtain ⟨a, c, d⟩ := h.1 hk
    have e1 : tE tx n p = tF tx n p + L := by
      have q : tE tx n p = run tx n (tP (tK tx n p)) (tF tx n p) := if_pos hk
      rw [q, ← a, run_stop (he hk)]
    unfold tL
    rw [e1]; omega
  · have e0 := h.2 hk
    have e1 : tE tx n p = tF tx n p := if_neg hk
    unfold tL
    rw [e1, e0]; omega
theorem vO_go {k : Nat} {tx : Nat → Nat} {i j x : Nat} (h : vO k tx i j = some x) (h6 : j + 1 ≤ 6) : vO k tx i (j + 1) = some (if k = 1 then 32 * x + tx (i + j) - 96 else 10 * x + tx (i + j) - 48) := by
  unfold vO at h ⊢
  rw [if_pos (by omega)] at h
  cases h
  rw [if_pos h6]; rfl
theorem vO_big {k : Nat} {tx : Nat → Nat} {i j : Nat} (h6 : ¬ j ≤ 6) : vO k tx i j = none := if_neg h6
theorem vO_val {k : Nat} {tx : Nat → Nat} {i j : Nat} (h6 : j ≤ 6) : vO k tx i j = some (valN k tx i j) := if_pos h6
theorem inTok_lt {tx : Nat → Nat} {n f k L : Nat} (h : inTok tx n f k L) (hL : L ≤ 6) : valN k tx f L < 1073741824 := by
  by_cases hk : k = 1 ∨ k = 2
  · obtain ⟨a, c, d⟩ := h.1 hk
    have h1 : valN k tx f L < 32 ^ L := valN_lt _ (fun m hm => by
      have q := d m hm
      rcases hk with rfl | rfl
      · have := isSm_iff.mp (show isSm (tx (f + m)) = true from q); exact ⟨by omega, fun _ => by omega, fun r => absurd rfl r⟩
      · have := isDg_iff.mp (show isDg (tx (f + m)) = true from q); exact ⟨by omega, fun r => by omega, fun _ => by omega⟩)
    have h2 : 32 ^ L ≤ 32 ^ 6 := Nat.pow_le_pow_right (by decide) hL
    omega
  · rw [h.2 hk]
    show 0 < _
    decide
theorem stop1 {tx : Nat → Nat} {n f k L : Nat} (ht : ∀ j, j < n → tx j < 256) (hk : k = 1) (h : ¬ inR (optI (lookN tx n (f + L))) 97 122) : (k = 1 ∨ k = 2) → ¬ (f + L < n ∧ tP k (tx (f + L)) = true) := by
  subst hk
  rintro - ⟨a, c⟩
  exact h ((look_in (by decide) ht).mpr ⟨a, isSm_iff.mp c⟩)
theorem stop2 {tx : Nat → Nat} {n f k L : Nat} (ht : ∀ j, j < n → tx j < 256) (hk : k = 2) (h : ¬ inR (optI (lookN tx n (f + L))) 48 57) : (k = 1 ∨ k = 2) → ¬ (f + L < n ∧ tP k (tx (f + L)) = true) := by
  subst hk
  rintro - ⟨a, c⟩
  exact h ((look_in (by decide) ht).mpr ⟨a, isDg_iff.mp c⟩)
theorem cls_1 {tx : Nat → Nat} {n p : Nat} (ht : ∀ j, j < n → tx j < 256) (h : inR (optI (lookN tx n (tF tx n p))) 97 122) : 1 = tK tx n p := by
  obtain ⟨a, c⟩ := (look_in (by decide) ht).mp h
  rw [tK_c a]; exact (if_pos (isSm_iff.mpr c)).symm
theorem cls_2 {tx : Nat → Nat} {n p : Nat} (ht : ∀ j, j < n → tx j < 256) (h1 : ¬ inR (optI (lookN tx n (tF tx n p))) 97 122) (h : inR (optI (lookN tx n (tF tx n p))) 48 57) : 2 = tK tx n p := by
  obtain ⟨a, c⟩ := (look_in (by decide) ht).mp h
  rw [tK_c a]
  exact ((if_neg (fun q => h1 ((look_in (by decide) ht).mpr ⟨a, isSm_iff.mp q⟩))).trans (if_pos (isDg_iff.mpr c))).symm
theorem cls_34 {tx : Nat → Nat} {n p : Nat} (ht : ∀ j, j < n → tx j < 256) (h0 : ¬ optI (lookN tx n (tF tx n p)) = -1) (h1 : ¬ inR (optI (lookN tx n (tF tx n p))) 97 122) (h2 : ¬ inR (optI (lookN tx n (tF tx n p))) 48 57) : tK tx n p = (if tx (tF tx n p) = 59 then 3 else 4) ∧ tF tx n p < n := by
  have a : tF tx n p < n := Decidable.not_not.mp (fun q => h0 ((look_none ht).mpr q))
  refine ⟨?_, a⟩
  rw [tK_c a]
  exact (if_neg (fun q => h1 ((look_in (by decide) ht).mpr ⟨a, isSm_iff.mp q⟩))).trans (if_neg (fun q => h2 ((look_in (by decide) ht).mpr ⟨a, isDg_iff.mp q⟩)))
theorem cls_3 {tx : Nat → Nat} {n p : Nat} (ht : ∀ j, j < n → tx j < 256) (h0 : ¬ optI (lookN tx n (tF tx n p)) = -1) (h1 : ¬ inR (optI (lookN tx n (tF tx n p))) 97 122) (h2 : ¬ inR (optI (lookN tx n (tF tx n p))) 48 57) (h3 : optI (lookN tx n (tF tx n p)) = nI 59) : 3 = tK tx n p := by
  rw [(cls_34 ht h0 h1 h2).1, if_pos ((look_eq ht (by decide)).mp h3).2]
theorem cls_4 {tx : Nat → Nat} {n p : Nat} (ht : ∀ j, j < n → tx j < 256) (h0 : ¬ optI (lookN tx n (tF tx n p)) = -1) (h1 : ¬ inR (optI (lookN tx n (tF tx n p))) 97 122) (h2 : ¬ inR (optI (lookN tx n (tF tx n p))) 48 57) (h3 : ¬ optI (lookN tx n (tF tx n p)) = nI 59) : 4 = tK tx n p := by
  obtain ⟨a, c⟩ := cls_34 ht h0 h1 h2
  rw [a, if_neg (fun q => h3 ((look_eq ht (by decide)).mpr ⟨c, q⟩))]
theorem val_1 {tx : Nat → Nat} {n f L : Nat} (hin : inTok tx n f 1 L) (hl : f + L < n) (hP : tP 1 (tx (f + L)) = true) (h5 : L ≤ 5) : nI 32 * nI (valN 1 tx f L) + nI (tx (f + L)) - nI 96 = optI (vO 1 tx f (L + 1)) := by
  rw [vO_val (by omega), pk_mul, nI_add, nI_sub (by have := isSm_iff.mp (show isSm (tx (f + L)) = true from hP); omega)]
  rfl
theorem val_2 {tx : Nat → Nat} {n f k L : Nat} (hk : k = 1 ∨ k = 2) (h1 : k ≠ 1) (hin : inTok tx n f k L) (hl : f + L < n) (hP : tP k (tx (f + L)) = true) (h5 : L ≤ 5) : nI 10 * nI (valN k tx f L) + nI (tx (f + L)) - nI 48 = optI (vO k tx f (L + 1)) := by
  have h2 : k = 2 := hk.resolve_left h1
  subst h2
  rw [vO_val (by omega), pk_mul, nI_add, nI_sub (by have := isDg_iff.mp (show isDg (tx (f + L)) = true from hP); omega)]
  rfl
theorem look_s {tx : Nat → Nat} {n k : Nat} (h : k < n) : lookN tx n k = some (tx k) := if_pos h
theorem zf_X2_67_2 : zFl 2 2 RX2 67 false .int := ⟨RX2, TX2, 25, tyX2, rfl, by decide, in_X2, q1800, rfl, by decide +kernel, tyX2_ok, nmX2⟩
theorem zv_X2_70 : zVs RX2 70 yX2_look cX2_look 2 (some .int) 1 := ⟨lw_V q1901 q1903 qs30 q53 q1904, ⟨by decide +kernel, by decide +kernel⟩, by decide +kernel⟩
theorem zf_X2_74_2 : zFl 2 3 RX2 74 false .int := ⟨RX2, TX2, 25, tyX2, rfl, by decide, in_X2, q1801, rfl, by decide +kernel, tyX2_ok, nmX2⟩
theorem zf_X2_77_2 : zFl 2 5 RX2 77 false .int := ⟨RX2, TX2, 25, tyX2, rfl, by decide, in_X2, q1803, rfl, by decide +kernel, tyX2_ok, nmX2⟩
theorem zf_X2_80_2 : zFl 2 6 RX2 80 false .int := ⟨RX2, TX2, 25, tyX2, rfl, by decide, in_X2, q1804, rfl, by decide +kernel, tyX2_ok, nmX2⟩
theorem zf_X2_90_2 : zFl 2 4 RX2 90 false .int := ⟨RX2, TX2, 25, tyX2, rfl, by decide, in_X2, q1802, rfl, by decide +kernel, tyX2_ok, nmX2⟩
theorem zs_X2_87 : zSs RX2 87 yX2_isDigit cX2_isDigit 1 (some .boolean) 1 := ⟨lw_S q1908 q1909 q53 q1910, ⟨by decide +kernel, by decide +kernel⟩, by decide +kernel⟩
theorem zs_X2_83 : zSs RX2 83 yX2_isSmall cX2_isSmall 1 (some .boolean) 1 := ⟨lw_S q1905 q1906 q53 q1907, ⟨by decide +kernel, by decide +kernel⟩, by decide +kernel⟩
set_option maxHeartbeats 4000000 in
theorem m_X2_advances (G : zE) (l : Launch) (mo : Nat) (q : Nat → Nat) (cl : Int32) (un : Int32) (si : Int32) (n : Nat) (tx : Nat → Nat) (g0 : Nat → Int32) (hn : n ≤ 200) (hg : ∀ j, j < n → g0 j = nI (tx j)) (ht : ∀ j, j < n → tx j < 256) (st : Int32) (tk : Int32) (ln : Int32) (va : Int32) (wr : Int32) (po : Nat) (hp : po ≤ n) (rest : va_W) : zMv G l yX2_advances cX2_advances 2 2 0 0 [.ref mo] ((mo, zo 2 (mF q (nI n) (nI po) st tk ln va wr cl un si)) :: (q 0, zc G 0 (zI 200 g0)) :: rest) (fun (_ : Unit) => True) (fun (_ : Unit) => (mo, zo 2 (mF q (nI n) (nI (tS tx n po)) (nI (tF tx n po)) (nI (tK tx n po)) (nI (tL tx n po)) (optI (tV tx n po)) wr cl un si)) :: (q 0, zc G 0 (zI 200 g0)) :: rest) := by
  refine z_begV (by decide) (Nat.le_of_ble_eq_true rfl) (fun p e s m args below meth c ls Q hC hnm hl hw hend => ?_)
  have hx := hC.hx
  have hb := hC.hb
  have hl : lv_has ls 2 [(0, .ref mo)] := hl
  have hw : zS G ((mo, zo 2 (mF q (nI n) (nI po) st tk ln va wr cl un si)) :: (q 0, zc G 0 (zI 200 g0)) :: rest) s s.heap [] := hw
  have hfl := tF_le (tx := tx) hp
  have hk5 := tK_lt tx n po
  have loop_0 : ∀ (fuel : Nat) (i : Nat), (i ≤ n) → (run tx n isSp i = tF tx n po) → (n - i) < fuel → ∀ (H : Heap) (locs : List Loc) (ls : Array Slot), zS G ((mo, zo 2 (mF q (nI n) (nI i) st tk ln va wr cl un si)) :: (q 0, zc G 0 (zI 200 g0)) :: rest) s H locs → lv_has ls 2 [(0, .ref mo)] → W p l e (zR 2 0 0) s m args below meth c H locs 0 0 Q (F0 m 0 ls []) := by
    intro fuel
    induction fuel with
    | zero => intro i hi1 hrun hfuel; exact absurd hfuel (Nat.not_lt_zero _)
    | succ fuel_0 ih_0 =>
      intro i hi1 hrun hfuel_0 H locs ls hw hl
      refine lv_aload_n hx hb dX2_advances_0 rfl (lv_at hl 0 rfl) ?_
      refine lv_aload_n hx hb dX2_advances_1 rfl (lv_at hl 0 rfl) ?_
      refine z_get (v := .int (nI i)) hC zf_X2_67_2 hw 0 rfl rfl dX2_advances_2 ?_
      refine z_ci (z_runV (As := [.int (nI i)]) (rest := []) hC zv_X2_70 (m_X2_look G l mo q cl un si n tx g0 (by omega) (by first | assumption | (omega)) (by first | assumption | (omega)) (nI i) st tk ln va wr i (by omega) (zrem [0, 1] _)) hw (hw.perm (z_cut (is := [0, 1]) (cells := [(mo, zo 2 (mF q (nI n) (nI i) st tk ln va wr cl un si)), (q 0, zc G 0 (zI 200 g0))]) rfl rfl)) 0 rfl rfl rfl rfl rfl (Nat.le_of_ble_eq_true rfl) hl.1 ⟨Nat.le_of_ble_eq_true rfl, Nat.le_of_ble_eq_true rfl⟩ ⟨(Nat.le_of_ble_eq_true rfl), (Nat.le_of_ble_eq_true rfl)⟩ dX2_advances_5) hw (fun _ => z_keep (is := [0, 1]) (cs := [(mo, zo 2 (mF q (nI n) (nI i) st tk ln va wr cl un si)), (q 0, zc G 0 (zI 200 g0))]) rfl rfl) (fun r u H locs hp hw => ?_)
      obtain rfl : r = optI (lookN tx n i) := hp
      refine lv_bipush (v := (nI 32)) hx hb dX2_advances_8 zb_32 ?_
      refine lv_icmp_ne (tgt := 26) hx hb dX2_advances_10 (by decide) (fun c_10 => ?_) (fun c_10 => ?_)
      · skip
        have hc1 := mt (look_eq ht (by decide)).mpr c_10
        have hif : i = tF tx n po := by rw [← hrun, run_stop (fun h => hc1 ⟨h.1, isSp_iff.mp h.2⟩)]
        rw [hif] at hw
        refine lv_aload_n hx hb dX2_advances_26 rfl (lv_at hl 0 rfl) ?_
        refine lv_aload_n hx hb dX2_advances_27 rfl (lv_at hl 0 rfl) ?_
        refine z_get (v := .int (nI (tF tx n po))) hC zf_X2_67_2 hw 0 rfl rfl dX2_advances_28 ?_
        refine z_puti hC zf_X2_74_2 hw 0 rfl (Nat.le_of_ble_eq_true rfl) dX2_advances_31 (fun H locs hw => ?_)
        have hw : zS G ((mo, zo 2 (mF q (nI n) (nI (tF tx n po)) (nI (tF tx n po)) tk ln va wr cl un si)) :: (q 0, zc G 0 (zI 200 g0)) :: rest) s H locs := hw
        refine lv_aload_n hx hb dX2_advances_34 rfl (lv_at hl 0 rfl) ?_
        refine lv_iconst (v := (nI 0)) hx hb dX2_advances_35 zk_0 ?_
        refine z_puti hC zf_X2_77_2 hw 0 rfl (Nat.le_of_ble_eq_true rfl) dX2_advances_36 (fun H locs hw => ?_)
        have hw : zS G ((mo, zo 2 (mF q (nI n) (nI (tF tx n po)) (nI (tF tx n po)) tk (nI 0) va wr cl un si)) :: (q 0, zc G 0 (zI 200 g0)) :: rest) s H locs := hw
        refine lv_aload_n hx hb dX2_advances_39 rfl (lv_at hl 0 rfl) ?_
        refine lv_iconst (v := (nI 0)) hx hb dX2_advances_40 zk_0 ?_
        refine z_puti hC zf_X2_80_2 hw 0 rfl (Nat.le_of_ble_eq_true rfl) dX2_advances_41 (fun H locs hw => ?_)
        have hw : zS G ((mo, zo 2 (mF q (nI n) (nI (tF tx n po)) (nI (tF tx n po)) tk (nI 0) (nI 0) wr cl un si)) :: (q 0, zc G 0 (zI 200 g0)) :: rest) s H locs := hw
        refine lv_aload_n hx hb dX2_advances_44 rfl (lv_at hl 0 rfl) ?_
        refine lv_aload_n hx hb dX2_advances_45 rfl (lv_at hl 0 rfl) ?_
        refine z_get (v := .int (nI (tF tx n po))) hC zf_X2_67_2 hw 0 rfl rfl dX2_advances_46 ?_
        refine z_ci (z_runV (As := [.int (nI (tF tx n po))]) (rest := []) hC zv_X2_70 (m_X2_look G l mo q cl un si n tx g0 (by omega) (by first | assumption | (omega)) (by first | assumption | (omega)) (nI (tF tx n po)) (nI (tF tx n po)) tk (nI 0) (nI 0) wr (tF tx n po) (by omega) (zrem [0, 1] _)) hw (hw.perm (z_cut (is := [0, 1]) (cells := [(mo, zo 2 (mF q (nI n) (nI (tF tx n po)) (nI (tF tx n po)) tk (nI 0) (nI 0) wr cl un si)), (q 0, zc G 0 (zI 200 g0))]) rfl rfl)) 0 rfl rfl rfl rfl rfl (Nat.le_of_ble_eq_true rfl) hl.1 ⟨Nat.le_of_ble_eq_true rfl, Nat.le_of_ble_eq_true rfl⟩ ⟨(Nat.le_of_ble_eq_true rfl), (Nat.le_of_ble_eq_true rfl)⟩ dX2_advances_49) hw (fun _ => z_keep (is := [0, 1]) (cs := [(mo, zo 2 (mF q (nI n) (nI (tF tx n po)) (nI (tF tx n po)) tk (nI 0) (nI 0) wr cl un si)), (q 0, zc G 0 (zI 200 g0))]) rfl rfl) (fun r u H locs hp hw => ?_)
        obtain rfl : r = optI (lookN tx n (tF tx n po)) := hp
        have join_96 : ∀ (z9 : Nat), (z9 = tK tx n po) → ∀ (H : Heap) (locs : List Loc) (ls : Array Slot), zS G ((mo, zo 2 (mF q (nI n) (nI (tF tx n po)) (nI (tF tx n po)) tk (nI 0) (nI 0) wr cl un si)) :: (q 0, zc G 0 (zI 200 g0)) :: rest) s H locs → lv_has ls 2 [(0, .ref mo)] → W p l e (zR 2 0 0) s m args below meth c H locs 0 0 Q (F0 m 96 ls [.int (nI z9), .ref mo]) := by
          intro z9 hz H locs ls hw hl
          subst hz
          refine z_puti hC zf_X2_90_2 hw 0 rfl (Nat.le_of_ble_eq_true rfl) dX2_advances_96 (fun H locs hw => ?_)
          have hw : zS G ((mo, zo 2 (mF q (nI n) (nI (tF tx n po)) (nI (tF tx n po)) (nI (tK tx n po)) (nI 0) (nI 0) wr cl un si)) :: (q 0, zc G 0 (zI 200 g0)) :: rest) s H locs := hw
          have loop_99 : ∀ (fuel : Nat) (L : Nat), (inTok tx n (tF tx n po) (tK tx n po) L) → (tF tx n po + L ≤ n) → (n - L) < fuel → ∀ (H : Heap) (locs : List Loc) (ls : Array Slot), zS G ((mo, zo 2 (mF q (nI n) (nI (tF tx n po + L)) (nI (tF tx n po)) (nI (tK tx n po)) (nI L) (optI (vO (tK tx n po) tx (tF tx n po) L)) wr cl un si)) :: (q 0, zc G 0 (zI 200 g0)) :: rest) s H locs → lv_has ls 2 [(0, .ref mo)] → W p l e (zR 2 0 0) s m args below meth c H locs 0 0 Q (F0 m 99 ls []) := by
            intro fuel
            induction fuel with
            | zero => intro L hin hLn hfuel; exact absurd hfuel (Nat.not_lt_zero _)
            | succ fuel_99 ih_99 =>
              intro L hin hLn hfuel_99 H locs ls hw hl
              have join_143 : ((tK tx n po = 1 ∨ tK tx n po = 2) ∧ tF tx n po + L < n ∧ tP (tK tx n po) (tx (tF tx n po + L)) = true) → ∀ (H : Heap) (locs : List Loc) (ls : Array Slot), zS G ((mo, zo 2 (mF q (nI n) (nI (tF tx n po + L)) (nI (tF tx n po)) (nI (tK tx n po)) (nI L) (optI (vO (tK tx n po) tx (tF tx n po) L)) wr cl un si)) :: (q 0, zc G 0 (zI 200 g0)) :: rest) s H locs → lv_has ls 2 [(0, .ref mo)] → W p l e (zR 2 0 0) s m args below meth c H locs 0 0 Q (F0 m 143 ls []) := by
                intro hgo H locs ls hw hl
                have join_205 : ∀ (w9 : Int32) (x8 : Int32), (w9 = optI (vO (tK tx n po) tx (tF tx n po) (L + 1))) → ∀ (H : Heap) (locs : List Loc) (ls : Array Slot), zS G ((mo, zo 2 (mF q (nI n) (nI (tF tx n po + L)) (nI (tF tx n po)) (nI (tK tx n po)) (nI L) x8 wr cl un si)) :: (q 0, zc G 0 (zI 200 g0)) :: rest) s H locs → lv_has ls 2 [(0, .ref mo)] → W p l e (zR 2 0 0) s m args below meth c H locs 0 0 Q (F0 m 205 ls [.int w9, .ref mo]) := by
                  intro w9 x8 hw9 H locs ls hw hl
                  subst hw9
                  refine z_puti hC zf_X2_80_2 hw 0 rfl (Nat.le_of_ble_eq_true rfl) dX2_advances_205 (fun H locs hw => ?_)
                  have hw : zS G ((mo, zo 2 (mF q (nI n) (nI (tF tx n po + L)) (nI (tF tx n po)) (nI (tK tx n po)) (nI L) (optI (vO (tK tx n po) tx (tF tx n po) (L + 1))) wr cl un si)) :: (q 0, zc G 0 (zI 200 g0)) :: rest) s H locs := hw
                  refine lv_aload_n hx hb dX2_advances_208 rfl (lv_at hl 0 rfl) ?_
                  refine lv_dup hx hb dX2_advances_209 rfl ?_
                  refine z_get (v := .int (nI L)) hC zf_X2_77_2 hw 0 rfl rfl dX2_advances_210 ?_
                  refine lv_iconst (v := (nI 1)) hx hb dX2_advances_213 zk_1 ?_
                  refine zn_iadd hx hb dX2_advances_214 ?_
                  refine z_puti hC zf_X2_77_2 hw 0 rfl (Nat.le_of_ble_eq_true rfl) dX2_advances_215 (fun H locs hw => ?_)
                  have hw : zS G ((mo, zo 2 (mF q (nI n) (nI (tF tx n po + L)) (nI (tF tx n po)) (nI (tK tx n po)) (nI (L + 1)) (optI (vO (tK tx n po) tx (tF tx n po) (L + 1))) wr cl un si)) :: (q 0, zc G 0 (zI 200 g0)) :: rest) s H locs := hw
                  refine lv_aload_n hx hb dX2_advances_218 rfl (lv_at hl 0 rfl) ?_
                  refine lv_dup hx hb dX2_advances_219 rfl ?_
                  refine z_get (v := .int (nI (tF tx n po + L))) hC zf_X2_67_2 hw 0 rfl rfl dX2_advances_220 ?_
                  refine lv_iconst (v := (nI 1)) hx hb dX2_advances_223 zk_1 ?_
                  refine zn_iadd hx hb dX2_advances_224 ?_
                  refine z_puti hC zf_X2_67_2 hw 0 rfl (Nat.le_of_ble_eq_true rfl) dX2_advances_225 (fun H locs hw => ?_)
                  have hw : zS G ((mo, zo 2 (mF q (nI n) (nI (tF tx n po + L + 1)) (nI (tF tx n po)) (nI (tK tx n po)) (nI (L + 1)) (optI (vO (tK tx n po) tx (tF tx n po) (L + 1))) wr cl un si)) :: (q 0, zc G 0 (zI 200 g0)) :: rest) s H locs := hw
                  refine lv_goto (tgt := 99) hx hb dX2_advances_228 (by decide) ?_
                  have hw : zS G ((mo, zo 2 (mF q (nI n) (nI (tF tx n po + (L + 1))) (nI (tF tx n po)) (nI (tK tx n po)) (nI (L + 1)) (optI (vO (tK tx n po) tx (tF tx n po) (L + 1))) wr cl un si)) :: (q 0, zc G 0 (zI 200 g0)) :: rest) s H locs := hw
                  exact ih_99 (L + 1) (inTok_s hin hgo.1 hgo.2.1 hgo.2.2) (by omega) (by omega) H locs ls hw (lv_sub hl [0] rfl)
                refine lv_aload_n hx hb dX2_advances_143 rfl (lv_at hl 0 rfl) ?_
                refine lv_aload_n hx hb dX2_advances_144 rfl (lv_at hl 0 rfl) ?_
                refine z_get (v := .int (nI L)) hC zf_X2_77_2 hw 0 rfl rfl dX2_advances_145 ?_
                refine lv_iconst (v := (nI 5)) hx hb dX2_advances_148 zk_5 ?_
                refine zi_le (tgt := 156) hx hb (by omega) (by decide) dX2_advances_149 (by decide) (fun c_149 => ?_) (fun c_149 => ?_)
                · skip
                  have hL5 : L ≤ 5 := by omega
                  have hw : zS G ((mo, zo 2 (mF q (nI n) (nI (tF tx n po + L)) (nI (tF tx n po)) (nI (tK tx n po)) (nI L) (nI (valN (tK tx n po) tx (tF tx n po) L)) wr cl un si)) :: (q 0, zc G 0 (zI 200 g0)) :: rest) s H locs := by rw [vO_val (by omega)] at hw; exact hw
                  refine lv_aload_n hx hb dX2_advances_156 rfl (lv_at hl 0 rfl) ?_
                  refine z_get (v := .int (nI (tK tx n po))) hC zf_X2_90_2 hw 0 rfl rfl dX2_advances_157 ?_
                  refine lv_iconst (v := (nI 1)) hx hb dX2_advances_160 zk_1 ?_
                  refine zi_ne (tgt := 186) hx hb (by omega) (by decide) dX2_advances_161 (by decide) (fun c_161 => ?_) (fun c_161 => ?_)
                  · skip
                    refine lv_bipush (v := (nI 10)) hx hb dX2_advances_186 zb_10 ?_
                    refine lv_aload_n hx hb dX2_advances_188 rfl (lv_at hl 0 rfl) ?_
                    refine z_get (v := .int (nI (valN (tK tx n po) tx (tF tx n po) L))) hC zf_X2_80_2 hw 0 rfl rfl dX2_advances_189 ?_
                    refine zv_imul (v := (nI 10 * nI (valN (tK tx n po) tx (tF tx n po) L))) hx hb rfl dX2_advances_192 ?_
                    refine lv_aload_n hx hb dX2_advances_193 rfl (lv_at hl 0 rfl) ?_
                    refine lv_aload_n hx hb dX2_advances_194 rfl (lv_at hl 0 rfl) ?_
                    refine z_get (v := .int (nI (tF tx n po + L))) hC zf_X2_67_2 hw 0 rfl rfl dX2_advances_195 ?_
                    refine z_ci (z_runV (As := [.int (nI (tF tx n po + L))]) (rest := [.int (nI 10 * nI (valN (tK tx n po) tx (tF tx n po) L)), .ref mo]) hC zv_X2_70 (m_X2_look G l mo q cl un si n tx g0 (by omega) (by first | assumption | (omega)) (by first | assumption | (omega)) (nI (tF tx n po + L)) (nI (tF tx n po)) (nI (tK tx n po)) (nI L) (nI (valN (tK tx n po) tx (tF tx n po) L)) wr (tF tx n po + L) (by omega) (zrem [0, 1] _)) hw (hw.perm (z_cut (is := [0, 1]) (cells := [(mo, zo 2 (mF q (nI n) (nI (tF tx n po + L)) (nI (tF tx n po)) (nI (tK tx n po)) (nI L) (nI (valN (tK tx n po) tx (tF tx n po) L)) wr cl un si)), (q 0, zc G 0 (zI 200 g0))]) rfl rfl)) 0 rfl rfl rfl rfl rfl (Nat.le_of_ble_eq_true rfl) hl.1 ⟨Nat.le_of_ble_eq_true rfl, Nat.le_of_ble_eq_true rfl⟩ ⟨(Nat.le_of_ble_eq_true rfl), (Nat.le_of_ble_eq_true rfl)⟩ dX2_advances_198) hw (fun _ => z_keep (is := [0, 1]) (cs := [(mo, zo 2 (mF q (nI n) (nI (tF tx n po + L)) (nI (tF tx n po)) (nI (tK tx n po)) (nI L) (nI (valN (tK tx n po) tx (tF tx n po) L)) wr cl un si)), (q 0, zc G 0 (zI 200 g0))]) rfl rfl) (fun r u H locs hp hw => ?_)
                    obtain rfl : r = optI (lookN tx n (tF tx n po + L)) := hp
                    rw [show optI (lookN tx n (tF tx n po + L)) = nI (tx (tF tx n po + L)) from congrArg optI (look_s hgo.2.1)]
                    refine zv_iadd (v := (nI 10 * nI (valN (tK tx n po) tx (tF tx n po) L) + nI (tx (tF tx n po + L)))) hx hb rfl dX2_advances_201 ?_
                    refine lv_bipush (v := (nI 48)) hx hb dX2_advances_202 zb_48 ?_
                    refine zv_isub (v := (optI (vO (tK tx n po) tx (tF tx n po) (L + 1)))) hx hb (val_2 hgo.1 c_161 hin hgo.2.1 hgo.2.2 hL5) dX2_advances_204 ?_
                    exact join_205 (optI (vO (tK tx n po) tx (tF tx n po) (L + 1))) (nI (valN (tK tx n po) tx (tF tx n po) L)) (by first | rfl | (rw [vO_big (by omega)]; rfl)) H locs ls hw (lv_sub hl [0] rfl)
                  · skip
                    have hk1 : tK tx n po = 1 := c_161
                    refine lv_bipush (v := (nI 32)) hx hb dX2_advances_164 zb_32 ?_
                    refine lv_aload_n hx hb dX2_advances_166 rfl (lv_at hl 0 rfl) ?_
                    refine z_get (v := .int (nI (valN (tK tx n po) tx (tF tx n po) L))) hC zf_X2_80_2 hw 0 rfl rfl dX2_advances_167 ?_
                    refine zv_imul (v := (nI 32 * nI (valN (tK tx n po) tx (tF tx n po) L))) hx hb rfl dX2_advances_170 ?_
                    refine lv_aload_n hx hb dX2_advances_171 rfl (lv_at hl 0 rfl) ?_
                    refine lv_aload_n hx hb dX2_advances_172 rfl (lv_at hl 0 rfl) ?_
                    refine z_get (v := .int (nI (tF tx n po + L))) hC zf_X2_67_2 hw 0 rfl rfl dX2_advances_173 ?_
                    refine z_ci (z_runV (As := [.int (nI (tF tx n po + L))]) (rest := [.int (nI 32 * nI (valN (tK tx n po) tx (tF tx n po) L)), .ref mo]) hC zv_X2_70 (m_X2_look G l mo q cl un si n tx g0 (by omega) (by first | assumption | (omega)) (by first | assumption | (omega)) (nI (tF tx n po + L)) (nI (tF tx n po)) (nI (tK tx n po)) (nI L) (nI (valN (tK tx n po) tx (tF tx n po) L)) wr (tF tx n po + L) (by omega) (zrem [0, 1] _)) hw (hw.perm (z_cut (is := [0, 1]) (cells := [(mo, zo 2 (mF q (nI n) (nI (tF tx n po + L)) (nI (tF tx n po)) (nI (tK tx n po)) (nI L) (nI (valN (tK tx n po) tx (tF tx n po) L)) wr cl un si)), (q 0, zc G 0 (zI 200 g0))]) rfl rfl)) 0 rfl rfl rfl rfl rfl (Nat.le_of_ble_eq_true rfl) hl.1 ⟨Nat.le_of_ble_eq_true rfl, Nat.le_of_ble_eq_true rfl⟩ ⟨(Nat.le_of_ble_eq_true rfl), (Nat.le_of_ble_eq_true rfl)⟩ dX2_advances_176) hw (fun _ => z_keep (is := [0, 1]) (cs := [(mo, zo 2 (mF q (nI n) (nI (tF tx n po + L)) (nI (tF tx n po)) (nI (tK tx n po)) (nI L) (nI (valN (tK tx n po) tx (tF tx n po) L)) wr cl un si)), (q 0, zc G 0 (zI 200 g0))]) rfl rfl) (fun r u H locs hp hw => ?_)
                    obtain rfl : r = optI (lookN tx n (tF tx n po + L)) := hp
                    rw [show optI (lookN tx n (tF tx n po + L)) = nI (tx (tF tx n po + L)) from congrArg optI (look_s hgo.2.1)]
                    refine zv_iadd (v := (nI 32 * nI (valN (tK tx n po) tx (tF tx n po) L) + nI (tx (tF tx n po + L)))) hx hb rfl dX2_advances_179 ?_
                    refine lv_bipush (v := (nI 96)) hx hb dX2_advances_180 zb_96 ?_
                    refine zv_isub (v := (optI (vO (tK tx n po) tx (tF tx n po) (L + 1)))) hx hb (by rw [hk1] at hin hgo ⊢; exact val_1 hin hgo.2.1 hgo.2.2 hL5) dX2_advances_182 ?_
                    refine lv_goto (tgt := 205) hx hb dX2_advances_183 (by decide) ?_
                    exact join_205 (optI (vO (tK tx n po) tx (tF tx n po) (L + 1))) (nI (valN (tK tx n po) tx (tF tx n po) L)) (by first | rfl | (rw [vO_big (by omega)]; rfl)) H locs ls hw (lv_sub hl [0] rfl)
                · skip
                  refine lv_iconst (v := -1) hx hb dX2_advances_152 zk_m1 ?_
                  refine lv_goto (tgt := 205) hx hb dX2_advances_153 (by decide) ?_
                  exact join_205 (-1) (optI (vO (tK tx n po) tx (tF tx n po) L)) (by first | rfl | (rw [vO_big (by omega)]; rfl)) H locs ls hw (lv_sub hl [0] rfl)
              have join_231 : ((tK tx n po = 1 ∨ tK tx n po = 2) → ¬ (tF tx n po + L < n ∧ tP (tK tx n po) (tx (tF tx n po + L)) = true)) → ∀ (H : Heap) (locs : List Loc) (ls : Array Slot), zS G ((mo, zo 2 (mF q (nI n) (nI (tF tx n po + L)) (nI (tF tx n po)) (nI (tK tx n po)) (nI L) (optI (vO (tK tx n po) tx (tF tx n po) L)) wr cl un si)) :: (q 0, zc G 0 (zI 200 g0)) :: rest) s H locs → lv_has ls 2 [(0, .ref mo)] → W p l e (zR 2 0 0) s m args below meth c H locs 0 0 Q (F0 m 231 ls []) := by
                intro hst H locs ls hw hl
                have hE := inTok_e hin hst
                refine lv_aload_n hx hb dX2_advances_231 rfl (lv_at hl 0 rfl) ?_
                refine lv_dup hx hb dX2_advances_232 rfl ?_
                refine z_get (v := .int (nI (tF tx n po + L))) hC zf_X2_67_2 hw 0 rfl rfl dX2_advances_233 ?_
                have join_257 : ∀ (z9 : Nat), (z9 = (if tK tx n po = 3 ∨ tK tx n po = 4 then 1 else 0)) → ∀ (H : Heap) (locs : List Loc) (ls : Array Slot), zS G ((mo, zo 2 (mF q (nI n) (nI (tF tx n po + L)) (nI (tF tx n po)) (nI (tK tx n po)) (nI L) (optI (vO (tK tx n po) tx (tF tx n po) L)) wr cl un si)) :: (q 0, zc G 0 (zI 200 g0)) :: rest) s H locs → lv_has ls 2 [(0, .ref mo)] → W p l e (zR 2 0 0) s m args below meth c H locs 0 0 Q (F0 m 257 ls [.int (nI z9), .int (nI (tF tx n po + L)), .ref mo]) := by
                  intro z9 hz H locs ls hw hl
                  subst hz
                  refine zn_iadd hx hb dX2_advances_257 ?_
                  refine z_puti hC zf_X2_67_2 hw 0 rfl (Nat.le_of_ble_eq_true rfl) dX2_advances_258 (fun H locs hw => ?_)
                  have hw : zS G ((mo, zo 2 (mF q (nI n) (nI (tF tx n po + L + (if tK tx n po = 3 ∨ tK tx n po = 4 then 1 else 0))) (nI (tF tx n po)) (nI (tK tx n po)) (nI L) (optI (vO (tK tx n po) tx (tF tx n po) L)) wr cl un si)) :: (q 0, zc G 0 (zI 200 g0)) :: rest) s H locs := hw
                  have hw : zS G ((mo, zo 2 (mF q (nI n) (nI (tS tx n po)) (nI (tF tx n po)) (nI (tK tx n po)) (nI (tL tx n po)) (optI (tV tx n po)) wr cl un si)) :: (q 0, zc G 0 (zI 200 g0)) :: rest) s H locs := by unfold tS tV; rw [← hE.2, ← hE.1]; exact hw
                  exact hend _ _ _ _ _ _ () hw trivial (Nat.le_of_ble_eq_true rfl) (Nat.le_of_ble_eq_true rfl) dX2_advances_261
                refine lv_aload_n hx hb dX2_advances_236 rfl (lv_at hl 0 rfl) ?_
                refine z_get (v := .int (nI (tK tx n po))) hC zf_X2_90_2 hw 0 rfl rfl dX2_advances_237 ?_
                refine lv_iconst (v := (nI 3)) hx hb dX2_advances_240 zk_3 ?_
                refine zi_eq (tgt := 252) hx hb (by omega) (by decide) dX2_advances_241 (by decide) (fun c_241 => ?_) (fun c_241 => ?_)
                · skip
                  refine lv_iconst (v := (nI 1)) hx hb dX2_advances_252 zk_1 ?_
                  refine lv_goto (tgt := 257) hx hb dX2_advances_253 (by decide) ?_
                  exact join_257 1 (by first | exact (if_pos (Or.inl c_241)).symm | exact (if_pos (Or.inr c_249)).symm | exact (if_neg (fun h => h.elim c_241 c_249)).symm) H locs ls hw (lv_sub hl [0] rfl)
                · skip
                  refine lv_aload_n hx hb dX2_advances_244 rfl (lv_at hl 0 rfl) ?_
                  refine z_get (v := .int (nI (tK tx n po))) hC zf_X2_90_2 hw 0 rfl rfl dX2_advances_245 ?_
                  refine lv_iconst (v := (nI 4)) hx hb dX2_advances_248 zk_4 ?_
                  refine zi_ne (tgt := 256) hx hb (by omega) (by decide) dX2_advances_249 (by decide) (fun c_249 => ?_) (fun c_249 => ?_)
                  · skip
                    refine lv_iconst (v := (nI 0)) hx hb dX2_advances_256 zk_0 ?_
                    exact join_257 0 (by first | exact (if_pos (Or.inl c_241)).symm | exact (if_pos (Or.inr c_249)).symm | exact (if_neg (fun h => h.elim c_241 c_249)).symm) H locs ls hw (lv_sub hl [0] rfl)
                  · skip
                    refine lv_iconst (v := (nI 1)) hx hb dX2_advances_252 zk_1 ?_
                    refine lv_goto (tgt := 257) hx hb dX2_advances_253 (by decide) ?_
                    exact join_257 1 (by first | exact (if_pos (Or.inl c_241)).symm | exact (if_pos (Or.inr c_249)).symm | exact (if_neg (fun h => h.elim c_241 c_249)).symm) H locs ls hw (lv_sub hl [0] rfl)
              refine lv_aload_n hx hb dX2_advances_99 rfl (lv_at hl 0 rfl) ?_
              refine z_get (v := .int (nI (tK tx n po))) hC zf_X2_90_2 hw 0 rfl rfl dX2_advances_100 ?_
              refine lv_iconst (v := (nI 1)) hx hb dX2_advances_103 zk_1 ?_
              refine zi_ne (tgt := 121) hx hb (by omega) (by decide) dX2_advances_104 (by decide) (fun c_104 => ?_) (fun c_104 => ?_)
              · skip
                refine lv_aload_n hx hb dX2_advances_121 rfl (lv_at hl 0 rfl) ?_
                refine z_get (v := .int (nI (tK tx n po))) hC zf_X2_90_2 hw 0 rfl rfl dX2_advances_122 ?_
                refine lv_iconst (v := (nI 2)) hx hb dX2_advances_125 zk_2 ?_
                refine zi_ne (tgt := 231) hx hb (by omega) (by decide) dX2_advances_126 (by decide) (fun c_126 => ?_) (fun c_126 => ?_)
                · skip
                  exact join_231 (by first | exact fun q => absurd (q.elim c_104 c_126) id | exact stop1 ht c_104 c_118 | exact stop2 ht c_126 c_140) H locs ls hw (lv_sub hl [0] rfl)
                · skip
                  refine lv_aload_n hx hb dX2_advances_129 rfl (lv_at hl 0 rfl) ?_
                  refine lv_aload_n hx hb dX2_advances_130 rfl (lv_at hl 0 rfl) ?_
                  refine z_get (v := .int (nI (tF tx n po + L))) hC zf_X2_67_2 hw 0 rfl rfl dX2_advances_131 ?_
                  refine z_ci (z_runV (As := [.int (nI (tF tx n po + L))]) (rest := []) hC zv_X2_70 (m_X2_look G l mo q cl un si n tx g0 (by omega) (by first | assumption | (omega)) (by first | assumption | (omega)) (nI (tF tx n po + L)) (nI (tF tx n po)) (nI (tK tx n po)) (nI L) (optI (vO (tK tx n po) tx (tF tx n po) L)) wr (tF tx n po + L) (by omega) (zrem [0, 1] _)) hw (hw.perm (z_cut (is := [0, 1]) (cells := [(mo, zo 2 (mF q (nI n) (nI (tF tx n po + L)) (nI (tF tx n po)) (nI (tK tx n po)) (nI L) (optI (vO (tK tx n po) tx (tF tx n po) L)) wr cl un si)), (q 0, zc G 0 (zI 200 g0))]) rfl rfl)) 0 rfl rfl rfl rfl rfl (Nat.le_of_ble_eq_true rfl) hl.1 ⟨Nat.le_of_ble_eq_true rfl, Nat.le_of_ble_eq_true rfl⟩ ⟨(Nat.le_of_ble_eq_true rfl), (Nat.le_of_ble_eq_true rfl)⟩ dX2_advances_134) hw (fun _ => z_keep (is := [0, 1]) (cs := [(mo, zo 2 (mF q (nI n) (nI (tF tx n po + L)) (nI (tF tx n po)) (nI (tK tx n po)) (nI L) (optI (vO (tK tx n po) tx (tF tx n po) L)) wr cl un si)), (q 0, zc G 0 (zI 200 g0))]) rfl rfl) (fun r u H locs hp hw => ?_)
                  obtain rfl : r = optI (lookN tx n (tF tx n po + L)) := hp
                  refine z_ci (z_runS (As := [.int (optI (lookN tx n (tF tx n po + L)))]) (rest := []) hC zs_X2_87 (m_X2_isDigit G l (optI (lookN tx n (tF tx n po + L))) _) hw rfl rfl (Nat.le_of_ble_eq_true rfl) hl.1 ⟨Nat.le_of_ble_eq_true rfl, Nat.le_of_ble_eq_true rfl⟩ ⟨(Nat.le_of_ble_eq_true rfl), (Nat.le_of_ble_eq_true rfl)⟩ dX2_advances_137) hw (fun _ => List.Perm.refl _) (fun r u H locs hp hw => ?_)
                  obtain rfl : r = bI (inR (optI (lookN tx n (tF tx n po + L))) 48 57) := hp
                  refine zb_eq (tgt := 231) hx hb dX2_advances_140 (by decide) (fun c_140 => ?_) (fun c_140 => ?_)
                  · skip
                    exact join_231 (by first | exact fun q => absurd (q.elim c_104 c_126) id | exact stop1 ht c_104 c_118 | exact stop2 ht c_126 c_140) H locs ls hw (lv_sub hl [0] rfl)
                  · skip
                    exact join_143 (by first | (have q9 := (look_in (by decide) ht).mp c_118; exact ⟨Or.inl c_104, q9.1, by rw [c_104]; exact isSm_iff.mpr q9.2⟩) | (have q9 := (look_in (by decide) ht).mp c_140; exact ⟨Or.inr c_126, q9.1, by rw [c_126]; exact isDg_iff.mpr q9.2⟩)) H locs ls hw (lv_sub hl [0] rfl)
              · skip
                refine lv_aload_n hx hb dX2_advances_107 rfl (lv_at hl 0 rfl) ?_
                refine lv_aload_n hx hb dX2_advances_108 rfl (lv_at hl 0 rfl) ?_
                refine z_get (v := .int (nI (tF tx n po + L))) hC zf_X2_67_2 hw 0 rfl rfl dX2_advances_109 ?_
                refine z_ci (z_runV (As := [.int (nI (tF tx n po + L))]) (rest := []) hC zv_X2_70 (m_X2_look G l mo q cl un si n tx g0 (by omega) (by first | assumption | (omega)) (by first | assumption | (omega)) (nI (tF tx n po + L)) (nI (tF tx n po)) (nI (tK tx n po)) (nI L) (optI (vO (tK tx n po) tx (tF tx n po) L)) wr (tF tx n po + L) (by omega) (zrem [0, 1] _)) hw (hw.perm (z_cut (is := [0, 1]) (cells := [(mo, zo 2 (mF q (nI n) (nI (tF tx n po + L)) (nI (tF tx n po)) (nI (tK tx n po)) (nI L) (optI (vO (tK tx n po) tx (tF tx n po) L)) wr cl un si)), (q 0, zc G 0 (zI 200 g0))]) rfl rfl)) 0 rfl rfl rfl rfl rfl (Nat.le_of_ble_eq_true rfl) hl.1 ⟨Nat.le_of_ble_eq_true rfl, Nat.le_of_ble_eq_true rfl⟩ ⟨(Nat.le_of_ble_eq_true rfl), (Nat.le_of_ble_eq_true rfl)⟩ dX2_advances_112) hw (fun _ => z_keep (is := [0, 1]) (cs := [(mo, zo 2 (mF q (nI n) (nI (tF tx n po + L)) (nI (tF tx n po)) (nI (tK tx n po)) (nI L) (optI (vO (tK tx n po) tx (tF tx n po) L)) wr cl un si)), (q 0, zc G 0 (zI 200 g0))]) rfl rfl) (fun r u H locs hp hw => ?_)
                obtain rfl : r = optI (lookN tx n (tF tx n po + L)) := hp
                refine z_ci (z_runS (As := [.int (optI (lookN tx n (tF tx n po + L)))]) (rest := []) hC zs_X2_83 (m_X2_isSmall G l (optI (lookN tx n (tF tx n po + L))) _) hw rfl rfl (Nat.le_of_ble_eq_true rfl) hl.1 ⟨Nat.le_of_ble_eq_true rfl, Nat.le_of_ble_eq_true rfl⟩ ⟨(Nat.le_of_ble_eq_true rfl), (Nat.le_of_ble_eq_true rfl)⟩ dX2_advances_115) hw (fun _ => List.Perm.refl _) (fun r u H locs hp hw => ?_)
                obtain rfl : r = bI (inR (optI (lookN tx n (tF tx n po + L))) 97 122) := hp
                refine zb_ne (tgt := 143) hx hb dX2_advances_118 (by decide) (fun c_118 => ?_) (fun c_118 => ?_)
                · skip
                  exact join_143 (by first | (have q9 := (look_in (by decide) ht).mp c_118; exact ⟨Or.inl c_104, q9.1, by rw [c_104]; exact isSm_iff.mpr q9.2⟩) | (have q9 := (look_in (by decide) ht).mp c_140; exact ⟨Or.inr c_126, q9.1, by rw [c_126]; exact isDg_iff.mpr q9.2⟩)) H locs ls hw (lv_sub hl [0] rfl)
                · skip
                  refine lv_aload_n hx hb dX2_advances_121 rfl (lv_at hl 0 rfl) ?_
                  refine z_get (v := .int (nI (tK tx n po))) hC zf_X2_90_2 hw 0 rfl rfl dX2_advances_122 ?_
                  refine lv_iconst (v := (nI 2)) hx hb dX2_advances_125 zk_2 ?_
                  refine zi_ne (tgt := 231) hx hb (by omega) (by decide) dX2_advances_126 (by decide) (fun c_126 => ?_) (fun c_126 => ?_)
                  · skip
                    exact join_231 (by first | exact fun q => absurd (q.elim c_104 c_126) id | exact stop1 ht c_104 c_118 | exact stop2 ht c_126 c_140) H locs ls hw (lv_sub hl [0] rfl)
                  · skip
                    refine lv_aload_n hx hb dX2_advances_129 rfl (lv_at hl 0 rfl) ?_
                    refine lv_aload_n hx hb dX2_advances_130 rfl (lv_at hl 0 rfl) ?_
                    refine z_get (v := .int (nI (tF tx n po + L))) hC zf_X2_67_2 hw 0 rfl rfl dX2_advances_131 ?_
                    refine z_ci (z_runV (As := [.int (nI (tF tx n po + L))]) (rest := []) hC zv_X2_70 (m_X2_look G l mo q cl un si n tx g0 (by omega) (by first | assumption | (omega)) (by first | assumption | (omega)) (nI (tF tx n po + L)) (nI (tF tx n po)) (nI (tK tx n po)) (nI L) (optI (vO (tK tx n po) tx (tF tx n po) L)) wr (tF tx n po + L) (by omega) (zrem [0, 1] _)) hw (hw.perm (z_cut (is := [0, 1]) (cells := [(mo, zo 2 (mF q (nI n) (nI (tF tx n po + L)) (nI (tF tx n po)) (nI (tK tx n po)) (nI L) (optI (vO (tK tx n po) tx (tF tx n po) L)) wr cl un si)), (q 0, zc G 0 (zI 200 g0))]) rfl rfl)) 0 rfl rfl rfl rfl rfl (Nat.le_of_ble_eq_true rfl) hl.1 ⟨Nat.le_of_ble_eq_true rfl, Nat.le_of_ble_eq_true rfl⟩ ⟨(Nat.le_of_ble_eq_true rfl), (Nat.le_of_ble_eq_true rfl)⟩ dX2_advances_134) hw (fun _ => z_keep (is := [0, 1]) (cs := [(mo, zo 2 (mF q (nI n) (nI (tF tx n po + L)) (nI (tF tx n po)) (nI (tK tx n po)) (nI L) (optI (vO (tK tx n po) tx (tF tx n po) L)) wr cl un si)), (q 0, zc G 0 (zI 200 g0))]) rfl rfl) (fun r u H locs hp hw => ?_)
                    obtain rfl : r = optI (lookN tx n (tF tx n po + L)) := hp
                    refine z_ci (z_runS (As := [.int (optI (lookN tx n (tF tx n po + L)))]) (rest := []) hC zs_X2_87 (m_X2_isDigit G l (optI (lookN tx n (tF tx n po + L))) _) hw rfl rfl (Nat.le_of_ble_eq_true rfl) hl.1 ⟨Nat.le_of_ble_eq_true rfl, Nat.le_of_ble_eq_true rfl⟩ ⟨(Nat.le_of_ble_eq_true rfl), (Nat.le_of_ble_eq_true rfl)⟩ dX2_advances_137) hw (fun _ => List.Perm.refl _) (fun r u H locs hp hw => ?_)
                    obtain rfl : r = bI (inR (optI (lookN tx n (tF tx n po + L))) 48 57) := hp
                    refine zb_eq (tgt := 231) hx hb dX2_advances_140 (by decide) (fun c_140 => ?_) (fun c_140 => ?_)
                    · skip
                      exact join_231 (by first | exact fun q => absurd (q.elim c_104 c_126) id | exact stop1 ht c_104 c_118 | exact stop2 ht c_126 c_140) H locs ls hw (lv_sub hl [0] rfl)
                    · skip
                      exact join_143 (by first | (have q9 := (look_in (by decide) ht).mp c_118; exact ⟨Or.inl c_104, q9.1, by rw [c_104]; exact isSm_iff.mpr q9.2⟩) | (have q9 := (look_in (by decide) ht).mp c_140; exact ⟨Or.inr c_126, q9.1, by rw [c_126]; exact isDg_iff.mpr q9.2⟩)) H locs ls hw (lv_sub hl [0] rfl)
          have hw : zS G ((mo, zo 2 (mF q (nI n) (nI (tF tx n po + 0)) (nI (tF tx n po)) (nI (tK tx n po)) (nI 0) (optI (vO (tK tx n po) tx (tF tx n po) 0)) wr cl un si)) :: (q 0, zc G 0 (zI 200 g0)) :: rest) s H locs := hw
          exact loop_99 ((n - 0) + 1) 0 (inTok_0 hfl.2) hfl.2 (Nat.lt_succ_self _) H locs ls hw (lv_sub hl [0] rfl)
        refine lv_istore_n (lv' := [(1, .int (optI (lookN tx n (tF tx n po)))), (0, .ref mo)]) hx hb dX2_advances_52 rfl hl (by decide) rfl (fun ls hl => ?_)
        refine lv_aload_n hx hb dX2_advances_53 rfl (lv_at hl 1 rfl) ?_
        refine lv_iload_n hx hb dX2_advances_54 rfl (lv_at hl 0 rfl) ?_
        refine lv_iconst (v := -1) hx hb dX2_advances_55 zk_m1 ?_
        refine lv_icmp_ne (tgt := 63) hx hb dX2_advances_56 (by decide) (fun c_56 => ?_) (fun c_56 => ?_)
        · skip
          refine lv_iload_n hx hb dX2_advances_63 rfl (lv_at hl 0 rfl) ?_
          refine z_ci (z_runS (As := [.int (optI (lookN tx n (tF tx n po)))]) (rest := [.ref mo]) hC zs_X2_83 (m_X2_isSmall G l (optI (lookN tx n (tF tx n po))) _) hw rfl rfl (Nat.le_of_ble_eq_true rfl) hl.1 ⟨Nat.le_of_ble_eq_true rfl, Nat.le_of_ble_eq_true rfl⟩ ⟨(Nat.le_of_ble_eq_true rfl), (Nat.le_of_ble_eq_true rfl)⟩ dX2_advances_64) hw (fun _ => List.Perm.refl _) (fun r u H locs hp hw => ?_)
          obtain rfl : r = bI (inR (optI (lookN tx n (tF tx n po))) 97 122) := hp
          refine zb_eq (tgt := 74) hx hb dX2_advances_67 (by decide) (fun c_67 => ?_) (fun c_67 => ?_)
          · skip
            refine lv_iload_n hx hb dX2_advances_74 rfl (lv_at hl 0 rfl) ?_
            refine z_ci (z_runS (As := [.int (optI (lookN tx n (tF tx n po)))]) (rest := [.ref mo]) hC zs_X2_87 (m_X2_isDigit G l (optI (lookN tx n (tF tx n po))) _) hw rfl rfl (Nat.le_of_ble_eq_true rfl) hl.1 ⟨Nat.le_of_ble_eq_true rfl, Nat.le_of_ble_eq_true rfl⟩ ⟨(Nat.le_of_ble_eq_true rfl), (Nat.le_of_ble_eq_true rfl)⟩ dX2_advances_75) hw (fun _ => List.Perm.refl _) (fun r u H locs hp hw => ?_)
            obtain rfl : r = bI (inR (optI (lookN tx n (tF tx n po))) 48 57) := hp
            refine zb_eq (tgt := 85) hx hb dX2_advances_78 (by decide) (fun c_78 => ?_) (fun c_78 => ?_)
            · skip
              refine lv_iload_n hx hb dX2_advances_85 rfl (lv_at hl 0 rfl) ?_
              refine lv_bipush (v := (nI 59)) hx hb dX2_advances_86 zb_59 ?_
              refine lv_icmp_ne (tgt := 95) hx hb dX2_advances_88 (by decide) (fun c_88 => ?_) (fun c_88 => ?_)
              · skip
                refine lv_iconst (v := (nI 4)) hx hb dX2_advances_95 zk_4 ?_
                exact join_96 4 (by first | exact (tK_0 ((look_none ht).mp c_56)).symm | exact cls_1 ht c_67 | exact cls_2 ht c_67 c_78 | exact cls_3 ht c_56 c_67 c_78 c_88 | exact cls_4 ht c_56 c_67 c_78 c_88) H locs ls hw (lv_sub hl [1] rfl)
              · skip
                refine lv_iconst (v := (nI 3)) hx hb dX2_advances_91 zk_3 ?_
                refine lv_goto (tgt := 96) hx hb dX2_advances_92 (by decide) ?_
                exact join_96 3 (by first | exact (tK_0 ((look_none ht).mp c_56)).symm | exact cls_1 ht c_67 | exact cls_2 ht c_67 c_78 | exact cls_3 ht c_56 c_67 c_78 c_88 | exact cls_4 ht c_56 c_67 c_78 c_88) H locs ls hw (lv_sub hl [1] rfl)
            · skip
              refine lv_iconst (v := (nI 2)) hx hb dX2_advances_81 zk_2 ?_
              refine lv_goto (tgt := 96) hx hb dX2_advances_82 (by decide) ?_
              exact join_96 2 (by first | exact (tK_0 ((look_none ht).mp c_56)).symm | exact cls_1 ht c_67 | exact cls_2 ht c_67 c_78 | exact cls_3 ht c_56 c_67 c_78 c_88 | exact cls_4 ht c_56 c_67 c_78 c_88) H locs ls hw (lv_sub hl [1] rfl)
          · skip
            refine lv_iconst (v := (nI 1)) hx hb dX2_advances_70 zk_1 ?_
            refine lv_goto (tgt := 96) hx hb dX2_advances_71 (by decide) ?_
            exact join_96 1 (by first | exact (tK_0 ((look_none ht).mp c_56)).symm | exact cls_1 ht c_67 | exact cls_2 ht c_67 c_78 | exact cls_3 ht c_56 c_67 c_78 c_88 | exact cls_4 ht c_56 c_67 c_78 c_88) H locs ls hw (lv_sub hl [1] rfl)
        · skip
          refine lv_iconst (v := (nI 0)) hx hb dX2_advances_59 zk_0 ?_
          refine lv_goto (tgt := 96) hx hb dX2_advances_60 (by decide) ?_
          exact join_96 0 (by first | exact (tK_0 ((look_none ht).mp c_56)).symm | exact cls_1 ht c_67 | exact cls_2 ht c_67 c_78 | exact cls_3 ht c_56 c_67 c_78 c_88 | exact cls_4 ht c_56 c_67 c_78 c_88) H locs ls hw (lv_sub hl [1] rfl)
      · skip
        have hc1 := (look_eq ht (by decide)).mp c_10
        refine lv_aload_n hx hb dX2_advances_13 rfl (lv_at hl 0 rfl) ?_
        refine lv_dup hx hb dX2_advances_14 rfl ?_
        refine z_get (v := .int (nI i)) hC zf_X2_67_2 hw 0 rfl rfl dX2_advances_15 ?_
        refine lv_iconst (v := (nI 1)) hx hb dX2_advances_18 zk_1 ?_
        refine zn_iadd hx hb dX2_advances_19 ?_
        refine z_puti hC zf_X2_67_2 hw 0 rfl (Nat.le_of_ble_eq_true rfl) dX2_advances_20 (fun H locs hw => ?_)
        have hw : zS G ((mo, zo 2 (mF q (nI n) (nI (i + 1)) st tk ln va wr cl un si)) :: (q 0, zc G 0 (zI 200 g0)) :: rest) s H locs := hw
        refine lv_goto (tgt := 0) hx hb dX2_advances_23 (by decide) ?_
        exact ih_0 (i + 1) (by omega) ((run_go hc1.1 (isSp_iff.mpr hc1.2)).symm.trans hrun) (by omega) H locs ls hw (lv_sub hl [0] rfl)
  exact loop_0 ((n - po) + 1) po (by omega) rfl (Nat.lt_succ_self _) s.heap [] ls hw (lv_sub hl [0] rfl)
