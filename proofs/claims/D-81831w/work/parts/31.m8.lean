/-! MODEL: clauses -/
set_option maxRecDepth 100000
/-- what a number that must come is, and whether it's wrong -/
noncomputable def fgV (tx : Nat → Nat) (n p lo hh : Nat) : Nat := ifP (tN tx n p lo hh) (tQ tx n p) 0
noncomputable def fgW (tx : Nat → Nat) (n p lo hh : Nat) : Int32 := ifP (tN tx n p lo hh) (-1) (nI (tF tx n p))
theorem fg_cases (tx : Nat → Nat) (n p lo hh : Nat) : (tN tx n p lo hh ∧ fgV tx n p lo hh = tQ tx n p ∧ fgW tx n p lo hh = -1) ∨ (¬ tN tx n p lo hh ∧ fgV tx n p lo hh = 0 ∧ fgW tx n p lo hh = nI (tF tx n p)) := by
  rcases Classical.em (tN tx n p lo hh) with h | h
  · exact Or.inl ⟨h, ifP_t h, ifP_t h⟩
  · exact Or.inr ⟨h, ifP_f h, ifP_f h⟩
theorem fgW_eq (tx : Nat → Nat) (n p lo hh : Nat) : ifP (¬ tN tx n p lo hh) (nI (tF tx n p)) (-1) = fgW tx n p lo hh := by
  unfold fgW
  rcases Classical.em (tN tx n p lo hh) with h | h
  · rw [ifP_t h, ifP_f (fun q => q h)]
  · rw [ifP_f h, ifP_t h]
theorem tF_lt {tx : Nat → Nat} {n p : Nat} (hn : n ≤ 200) (hp : p ≤ n) : tF tx n p < 2147483648 := by have := tF_le (tx := tx) hp; omega
theorem tL_lt {tx : Nat → Nat} {n p : Nat} (hn : n ≤ 200) (hp : p ≤ n) : tL tx n p < 2147483648 := by have := tL_le (tx := tx) hp; omega
theorem fgW_iff {tx : Nat → Nat} {n p lo hh : Nat} (hn : n ≤ 200) (hp : p ≤ n) : fgW tx n p lo hh = -1 ↔ tN tx n p lo hh := by
  rcases fg_cases tx n p lo hh with ⟨h, -, e⟩ | ⟨h, -, e⟩
  · exact ⟨fun _ => h, fun _ => e⟩
  · exact ⟨fun q => absurd (e.symm.trans q) (nI_nm1 (tF_lt hn hp)), fun q => absurd q h⟩
theorem tN_V {tx : Nat → Nat} {n p lo hh : Nat} (h : tN tx n p lo hh) : tV tx n p = some (tQ tx n p) := by
  unfold tV tQ
  rw [h.1]
  exact if_pos (by have := h.2.1; omega)
theorem tN_no {tx : Nat → Nat} {n p lo hh : Nat} {up : Int32} (hp : p ≤ n) (hf : ∀ x, x < 1073741824 → ((nI lo ≤ nI x ∧ nI x ≤ up) ↔ (lo ≤ x ∧ x < hh))) (h1 : tK tx n p = 2) (h2 : tL tx n p ≤ 2) (h3 : ¬ (nI lo ≤ optI (tV tx n p) ∧ optI (tV tx n p) ≤ up)) : ¬ tN tx n p lo hh := by
  intro h
  rw [tN_V h] at h3
  exact h3 ((hf _ (tV_lt hp (tN_V h))).mpr ⟨h.2.2.1, h.2.2.2⟩)
theorem tN_yes {tx : Nat → Nat} {n p lo hh : Nat} {up : Int32} (hp : p ≤ n) (hf : ∀ x, x < 1073741824 → ((nI lo ≤ nI x ∧ nI x ≤ up) ↔ (lo ≤ x ∧ x < hh))) (h1 : tK tx n p = 2) (h2 : tL tx n p ≤ 2) (h3 : nI lo ≤ optI (tV tx n p) ∧ optI (tV tx n p) ≤ up) : tN tx n p lo hh := by
  have e : tV tx n p = some (tQ tx n p) := by
    unfold tV tQ
    rw [h1]
    exact if_pos (by omega)
  rw [e] at h3
  have := (hf _ (tV_lt hp e)).mp h3
  exact ⟨h1, h2, this.1, this.2⟩
theorem hf_c {lo hh : Nat} (hl : lo < 1000) (h0 : 0 < hh) (hh9 : hh < 1000) : ∀ x, x < 1073741824 → ((nI lo ≤ nI x ∧ nI x ≤ nI (hh - 1)) ↔ (lo ≤ x ∧ x < hh)) := by
  intro x hx
  constructor
  · intro ⟨h1, h2⟩
    have e1 := Int32.le_iff_toInt_le.mp h1
    have e2 := Int32.le_iff_toInt_le.mp h2
    rw [nI_toInt (by omega), nI_toInt (by omega)] at e1 e2
    omega
  · rintro ⟨h1, h2⟩; exact ⟨nI_le h1 (by omega), nI_le (by omega) (by omega)⟩
theorem hf_v {hh : Nat} (hh9 : hh < 1000) : ∀ x, x < 1073741824 → ((nI 0 ≤ nI x ∧ nI x ≤ nI hh - nI 1) ↔ (0 ≤ x ∧ x < hh)) := by
  intro x hx
  rw [isP_iff (by omega)]
  constructor
  · rintro ⟨t, ht, e⟩
    rw [nI_eq (by omega) (by omega)] at e
    omega
  · rintro ⟨-, h⟩; exact ⟨x, h, rfl⟩
set_option maxHeartbeats 4000000 in
theorem m_X2_word (G : zE) (l : Launch) (a : Int32) (b : Int32) (t : Int32) (rest : va_W) : zMi G l yX2_word cX2_word 3 (some .int) 0 0 0 [.int a, .int b, .int t] (rest) (fun (r : Int32) (_ : Unit) => r = nI 32 * (nI 32 * (a - nI 96) + b - nI 96) + t - nI 96) (fun (_ : Unit) => rest) := by
  refine z_begI (by decide) (Nat.le_of_ble_eq_true rfl) (fun p e s m args below meth c ls Q hC hl hw hend => ?_)
  have hx := hC.hx
  have hb := hC.hb
  have hl : lv_has ls 3 [(0, .int a), (1, .int b), (2, .int t)] := hl
  refine lv_bipush (v := (nI 32)) hx hb dX2_word_0 zb_32 ?_
  refine lv_bipush (v := (nI 32)) hx hb dX2_word_2 zb_32 ?_
  refine lv_iload_n hx hb dX2_word_4 rfl (lv_at hl 0 rfl) ?_
  refine lv_bipush (v := (nI 96)) hx hb dX2_word_5 zb_96 ?_
  refine lv_isub hx hb dX2_word_7 ?_
  refine lv_imul hx hb dX2_word_8 ?_
  refine lv_iload_n hx hb dX2_word_9 rfl (lv_at hl 1 rfl) ?_
  refine lv_iadd hx hb dX2_word_10 ?_
  refine lv_bipush (v := (nI 96)) hx hb dX2_word_11 zb_96 ?_
  refine lv_isub hx hb dX2_word_13 ?_
  refine lv_imul hx hb dX2_word_14 ?_
  refine lv_iload_n hx hb dX2_word_15 rfl (lv_at hl 2 rfl) ?_
  refine lv_iadd hx hb dX2_word_16 ?_
  refine lv_bipush (v := (nI 96)) hx hb dX2_word_17 zb_96 ?_
  refine lv_isub hx hb dX2_word_19 ?_
  exact hend _ _ _ _ _ _ _ () hw rfl (Nat.le_of_ble_eq_true rfl) (Nat.le_of_ble_eq_true rfl) dX2_word_20
set_option maxHeartbeats 4000000 in
theorem m_X2_longer (G : zE) (l : Launch) (a : Int32) (b : Int32) (t : Int32) (rest : va_W) : zMi G l yX2_longer cX2_longer 3 (some .int) 0 0 0 [.int a, .int b, .int t] (rest) (fun (r : Int32) (_ : Unit) => r = nI 32 * (nI 32 * a + b - nI 96) + t - nI 96) (fun (_ : Unit) => rest) := by
  refine z_begI (by decide) (Nat.le_of_ble_eq_true rfl) (fun p e s m args below meth c ls Q hC hl hw hend => ?_)
  have hx := hC.hx
  have hb := hC.hb
  have hl : lv_has ls 3 [(0, .int a), (1, .int b), (2, .int t)] := hl
  refine lv_bipush (v := (nI 32)) hx hb dX2_longer_0 zb_32 ?_
  refine lv_bipush (v := (nI 32)) hx hb dX2_longer_2 zb_32 ?_
  refine lv_iload_n hx hb dX2_longer_4 rfl (lv_at hl 0 rfl) ?_
  refine lv_imul hx hb dX2_longer_5 ?_
  refine lv_iload_n hx hb dX2_longer_6 rfl (lv_at hl 1 rfl) ?_
  refine lv_iadd hx hb dX2_longer_7 ?_
  refine lv_bipush (v := (nI 96)) hx hb dX2_longer_8 zb_96 ?_
  refine lv_isub hx hb dX2_longer_10 ?_
  refine lv_imul hx hb dX2_longer_11 ?_
  refine lv_iload_n hx hb dX2_longer_12 rfl (lv_at hl 2 rfl) ?_
  refine lv_iadd hx hb dX2_longer_13 ?_
  refine lv_bipush (v := (nI 96)) hx hb dX2_longer_14 zb_96 ?_
  refine lv_isub hx hb dX2_longer_16 ?_
  exact hend _ _ _ _ _ _ _ () hw rfl (Nat.le_of_ble_eq_true rfl) (Nat.le_of_ble_eq_true rfl) dX2_longer_17
theorem zf_X2_93_2 : zFl 2 7 RX2 93 false .int := ⟨RX2, TX2, 25, tyX2, rfl, by decide, in_X2, q1805, rfl, by decide +kernel, tyX2_ok, nmX2⟩
set_option maxHeartbeats 4000000 in
theorem m_X2_fails (G : zE) (l : Launch) (mo : Nat) (q : Nat → Nat) (cl : Int32) (un : Int32) (si : Int32) (n : Nat) (tx : Nat → Nat) (g0 : Nat → Int32) (hn : n ≤ 200) (hg : ∀ j, j < n → g0 j = nI (tx j)) (ht : ∀ j, j < n → tx j < 256) (at1 : Int32) (st : Int32) (tk : Int32) (ln : Int32) (va : Int32) (P : Prop) (rest : va_W) : zMv G l yX2_fails cX2_fails 2 0 0 0 [.ref mo, .int (bI P)] ((mo, zo 2 (mF q (nI n) at1 st tk ln va (-1) cl un si)) :: rest) (fun (_ : Unit) => True) (fun (_ : Unit) => (mo, zo 2 (mF q (nI n) at1 st tk ln va (ifP P st (-1)) cl un si)) :: rest) := by
  refine z_begV (by decide) (Nat.le_of_ble_eq_true rfl) (fun p e s m args below meth c ls Q hC hnm hl hw hend => ?_)
  have hx := hC.hx
  have hb := hC.hb
  have hl : lv_has ls 2 [(0, .ref mo), (1, .int (bI P))] := hl
  have hw : zS G ((mo, zo 2 (mF q (nI n) at1 st tk ln va (-1) cl un si)) :: rest) s s.heap [] := hw
  refine lv_aload_n hx hb dX2_fails_0 rfl (lv_at hl 0 rfl) ?_
  refine lv_aload_n hx hb dX2_fails_1 rfl (lv_at hl 0 rfl) ?_
  refine z_get (v := .int (-1)) hC zf_X2_93_2 hw 0 rfl rfl dX2_fails_2 ?_
  refine lv_iconst (v := -1) hx hb dX2_fails_5 zk_m1 ?_
  refine lv_icmp_ne (tgt := 20) hx hb dX2_fails_6 (by decide) (fun h => absurd h (by decide)) (fun _ => ?_)
  have join_24 : ∀ (z : Int32), (z = ifP P st (-1)) → ∀ (H : Heap) (locs : List Loc) (ls : Array Slot), zS G ((mo, zo 2 (mF q (nI n) at1 st tk ln va (-1) cl un si)) :: rest) s H locs → lv_has ls 2 [(0, .ref mo), (1, .int (bI P))] → W p l e (zR 0 0 0) s m args below meth c H locs 0 0 Q (F0 m 24 ls [.int z, .ref mo]) := by
    intro z hz H locs ls hw hl
    subst hz
    refine z_puti hC zf_X2_93_2 hw 0 rfl (Nat.le_of_ble_eq_true rfl) dX2_fails_24 (fun H locs hw => ?_)
    have hw : zS G ((mo, zo 2 (mF q (nI n) at1 st tk ln va (ifP P st (-1)) cl un si)) :: rest) s H locs := hw
    exact hend _ _ _ _ _ _ () hw trivial (Nat.le_of_ble_eq_true rfl) (Nat.le_of_ble_eq_true rfl) dX2_fails_27
  refine lv_iload_n hx hb dX2_fails_9 rfl (lv_at hl 1 rfl) ?_
  refine zb_eq (tgt := 20) hx hb dX2_fails_10 (by decide) (fun c_10 => ?_) (fun c_10 => ?_)
  · skip
    refine lv_aload_n hx hb dX2_fails_20 rfl (lv_at hl 0 rfl) ?_
    refine z_get (v := .int (-1)) hC zf_X2_93_2 hw 0 rfl rfl dX2_fails_21 ?_
    exact join_24 (-1) (by first | exact (ifP_t c_10).symm | exact (ifP_f c_10).symm) s.heap [] ls hw (lv_sub hl [0, 1] rfl)
  · skip
    refine lv_aload_n hx hb dX2_fails_13 rfl (lv_at hl 0 rfl) ?_
    refine z_get (v := .int st) hC zf_X2_74_2 hw 0 rfl rfl dX2_fails_14 ?_
    refine lv_goto (tgt := 24) hx hb dX2_fails_17 (by decide) ?_
    exact join_24 st (by first | exact (ifP_t c_10).symm | exact (ifP_f c_10).symm) s.heap [] ls hw (lv_sub hl [0, 1] rfl)
set_option maxHeartbeats 4000000 in
theorem m_X2_fails_w (G : zE) (l : Launch) (mo : Nat) (q : Nat → Nat) (cl : Int32) (un : Int32) (si : Int32) (n : Nat) (tx : Nat → Nat) (g0 : Nat → Int32) (hn : n ≤ 200) (hg : ∀ j, j < n → g0 j = nI (tx j)) (ht : ∀ j, j < n → tx j < 256) (at1 : Int32) (st : Int32) (tk : Int32) (ln : Int32) (va : Int32) (x : Int32) (wn : Nat) (hwn : wn < 1000) (rest : va_W) : zMv G l yX2_fails cX2_fails 2 0 0 0 [.ref mo, .int x] ((mo, zo 2 (mF q (nI n) at1 st tk ln va (nI wn) cl un si)) :: rest) (fun (_ : Unit) => True) (fun (_ : Unit) => (mo, zo 2 (mF q (nI n) at1 st tk ln va (nI wn) cl un si)) :: rest) := by
  refine z_begV (by decide) (Nat.le_of_ble_eq_true rfl) (fun p e s m args below meth c ls Q hC hnm hl hw hend => ?_)
  have hx := hC.hx
  have hb := hC.hb
  have hl : lv_has ls 2 [(0, .ref mo), (1, .int x)] := hl
  have hw : zS G ((mo, zo 2 (mF q (nI n) at1 st tk ln va (nI wn) cl un si)) :: rest) s s.heap [] := hw
  refine lv_aload_n hx hb dX2_fails_0 rfl (lv_at hl 0 rfl) ?_
  refine lv_aload_n hx hb dX2_fails_1 rfl (lv_at hl 0 rfl) ?_
  refine z_get (v := .int (nI wn)) hC zf_X2_93_2 hw 0 rfl rfl dX2_fails_2 ?_
  refine lv_iconst (v := -1) hx hb dX2_fails_5 zk_m1 ?_
  refine lv_icmp_ne (tgt := 20) hx hb dX2_fails_6 (by decide) (fun _ => ?_) (fun h => absurd h (nI_nm1 (by omega)))
  refine lv_aload_n hx hb dX2_fails_20 rfl (lv_at hl 0 rfl) ?_
  refine z_get (v := .int (nI wn)) hC zf_X2_93_2 hw 0 rfl rfl dX2_fails_21 ?_
  refine z_puti hC zf_X2_93_2 hw 0 rfl (Nat.le_of_ble_eq_true rfl) dX2_fails_24 (fun H locs hw => ?_)
  have hw : zS G ((mo, zo 2 (mF q (nI n) at1 st tk ln va (nI wn) cl un si)) :: rest) s H locs := hw
  exact hend _ _ _ _ _ _ () hw trivial (Nat.le_of_ble_eq_true rfl) (Nat.le_of_ble_eq_true rfl) dX2_fails_27
theorem zv_X2_96 : zVs RX2 96 yX2_fails cX2_fails 2 none 1 := ⟨lw_V q1928 q1930 qs33 q53 q1931, ⟨by decide +kernel, by decide +kernel⟩, by decide +kernel⟩
theorem zv_X2_100 : zVs RX2 100 yX2_advances cX2_advances 2 none 0 := ⟨lw_V q1897 q1899 qs29 q53 q1900, ⟨by decide +kernel, by decide +kernel⟩, by decide +kernel⟩
set_option maxHeartbeats 4000000 in
theorem m_X2_figure (G : zE) (l : Launch) (mo : Nat) (q : Nat → Nat) (cl : Int32) (un : Int32) (si : Int32) (n : Nat) (tx : Nat → Nat) (g0 : Nat → Int32) (hn : n ≤ 200) (hg : ∀ j, j < n → g0 j = nI (tx j)) (ht : ∀ j, j < n → tx j < 256) (po : Nat) (hpo : po ≤ n) (lo : Nat) (ub : Nat) (up : Int32) (hf : ∀ x, x < 1073741824 → ((nI lo ≤ nI x ∧ nI x ≤ up) ↔ (lo ≤ x ∧ x < ub))) (rest : va_W) : zMi G l yX2_figure cX2_figure 4 (some .int) 3 0 0 [.ref mo, .int (nI lo), .int up] ((mo, zo 2 (mF q (nI n) (nI (tS tx n po)) (nI (tF tx n po)) (nI (tK tx n po)) (nI (tL tx n po)) (optI (tV tx n po)) (-1) cl un si)) :: (q 0, zc G 0 (zI 200 g0)) :: rest) (fun (r : Int32) (_ : Unit) => r = nI (fgV tx n po lo ub)) (fun (_ : Unit) => (mo, zo 2 (mF q (nI n) (nI (tS tx n (tS tx n po))) (nI (tF tx n (tS tx n po))) (nI (tK tx n (tS tx n po))) (nI (tL tx n (tS tx n po))) (optI (tV tx n (tS tx n po))) (fgW tx n po lo ub) cl un si)) :: (q 0, zc G 0 (zI 200 g0)) :: rest) := by
  refine z_begI (by decide) (Nat.le_of_ble_eq_true rfl) (fun p e s m args below meth c ls Q hC hl hw hend => ?_)
  have hx := hC.hx
  have hb := hC.hb
  have hl : lv_has ls 4 [(0, .ref mo), (1, .int (nI lo)), (2, .int up)] := hl
  have hw : zS G ((mo, zo 2 (mF q (nI n) (nI (tS tx n po)) (nI (tF tx n po)) (nI (tK tx n po)) (nI (tL tx n po)) (optI (tV tx n po)) (-1) cl un si)) :: (q 0, zc G 0 (zI 200 g0)) :: rest) s s.heap [] := hw
  refine lv_aload_n hx hb dX2_figure_0 rfl (lv_at hl 0 rfl) ?_
  refine lv_aload_n hx hb dX2_figure_1 rfl (lv_at hl 0 rfl) ?_
  have join_34 : ∀ (z : Int32), (z = bI (¬ tN tx n po lo ub)) → ∀ (H : Heap) (locs : List Loc) (ls : Array Slot), zS G ((mo, zo 2 (mF q (nI n) (nI (tS tx n po)) (nI (tF tx n po)) (nI (tK tx n po)) (nI (tL tx n po)) (optI (tV tx n po)) (-1) cl un si)) :: (q 0, zc G 0 (zI 200 g0)) :: rest) s H locs → lv_has ls 4 [(0, .ref mo), (1, .int (nI lo)), (2, .int up)] → W p l e (zR 3 0 0) s m args below meth c H locs 0 0 Q (F0 m 34 ls [.int z, .ref mo]) := by
    intro z hz H locs ls hw hl
    subst hz
    refine z_cv (z_runV (As := [.int (bI (¬ tN tx n po lo ub))]) (rest := []) hC zv_X2_96 (m_X2_fails G l mo q cl un si n tx g0 (by omega) (by first | assumption | (omega)) (by first | assumption | (omega)) (nI (tS tx n po)) (nI (tF tx n po)) (nI (tK tx n po)) (nI (tL tx n po)) (optI (tV tx n po)) (¬ tN tx n po lo ub) (zrem [0] _)) hw (hw.perm (z_cut (is := [0]) (cells := [(mo, zo 2 (mF q (nI n) (nI (tS tx n po)) (nI (tF tx n po)) (nI (tK tx n po)) (nI (tL tx n po)) (optI (tV tx n po)) (-1) cl un si))]) rfl rfl)) 0 rfl rfl rfl rfl rfl (Nat.le_of_ble_eq_true rfl) hl.1 ⟨Nat.le_of_ble_eq_true rfl, Nat.le_of_ble_eq_true rfl⟩ ⟨(Nat.le_of_ble_eq_true rfl), (Nat.le_of_ble_eq_true rfl)⟩ dX2_figure_34) hw (fun _ => z_pput (is := [0]) (cells := [(mo, zo 2 (mF q (nI n) (nI (tS tx n po)) (nI (tF tx n po)) (nI (tK tx n po)) (nI (tL tx n po)) (optI (tV tx n po)) (-1) cl un si))]) (cells' := [(mo, zo 2 (mF q (nI n) (nI (tS tx n po)) (nI (tF tx n po)) (nI (tK tx n po)) (nI (tL tx n po)) (optI (tV tx n po)) (ifP (¬ tN tx n po lo ub) (nI (tF tx n po)) (-1)) cl un si))]) rfl rfl rfl) (fun u H locs hp hw => ?_)
    have hw : zS G ((mo, zo 2 (mF q (nI n) (nI (tS tx n po)) (nI (tF tx n po)) (nI (tK tx n po)) (nI (tL tx n po)) (optI (tV tx n po)) (ifP (¬ tN tx n po lo ub) (nI (tF tx n po)) (-1)) cl un si)) :: (q 0, zc G 0 (zI 200 g0)) :: rest) s H locs := hw
    have hw : zS G ((mo, zo 2 (mF q (nI n) (nI (tS tx n po)) (nI (tF tx n po)) (nI (tK tx n po)) (nI (tL tx n po)) (optI (tV tx n po)) (fgW tx n po lo ub) cl un si)) :: (q 0, zc G 0 (zI 200 g0)) :: rest) s H locs := by rw [fgW_eq] at hw; exact hw
    refine lv_aload_n hx hb dX2_figure_37 rfl (lv_at hl 0 rfl) ?_
    refine z_get (v := .int (fgW tx n po lo ub)) hC zf_X2_93_2 hw 0 rfl rfl dX2_figure_38 ?_
    have join_53 : ∀ (z : Int32), (z = nI (fgV tx n po lo ub)) → ∀ (H : Heap) (locs : List Loc) (ls : Array Slot), zS G ((mo, zo 2 (mF q (nI n) (nI (tS tx n po)) (nI (tF tx n po)) (nI (tK tx n po)) (nI (tL tx n po)) (optI (tV tx n po)) (fgW tx n po lo ub) cl un si)) :: (q 0, zc G 0 (zI 200 g0)) :: rest) s H locs → lv_has ls 4 [(0, .ref mo), (1, .int (nI lo)), (2, .int up)] → W p l e (zR 3 0 0) s m args below meth c H locs 0 0 Q (F0 m 53 ls [.int z]) := by
      intro z hz H locs ls hw hl
      subst hz
      refine lv_istore_n (lv' := [(3, .int (nI (fgV tx n po lo ub))), (0, .ref mo), (1, .int (nI lo)), (2, .int up)]) hx hb dX2_figure_53 rfl hl (by decide) rfl (fun ls hl => ?_)
      refine lv_aload_n hx hb dX2_figure_54 rfl (lv_at hl 1 rfl) ?_
      refine z_cv (z_runV (As := []) (rest := []) hC zv_X2_100 (m_X2_advances G l mo q cl un si n tx g0 (by omega) (by first | assumption | (omega)) (by first | assumption | (omega)) (nI (tF tx n po)) (nI (tK tx n po)) (nI (tL tx n po)) (optI (tV tx n po)) (fgW tx n po lo ub) (tS tx n po) (by first | exact tS_le hpo | exact tS_le (tS_le hpo) | exact tS_le (tS_le (tS_le hpo))) (zrem [0, 1] _)) hw (hw.perm (z_cut (is := [0, 1]) (cells := [(mo, zo 2 (mF q (nI n) (nI (tS tx n po)) (nI (tF tx n po)) (nI (tK tx n po)) (nI (tL tx n po)) (optI (tV tx n po)) (fgW tx n po lo ub) cl un si)), (q 0, zc G 0 (zI 200 g0))]) rfl rfl)) 0 rfl rfl rfl rfl rfl (Nat.le_of_ble_eq_true rfl) hl.1 ⟨Nat.le_of_ble_eq_true rfl, Nat.le_of_ble_eq_true rfl⟩ ⟨(Nat.le_of_ble_eq_true rfl), (Nat.le_of_ble_eq_true rfl)⟩ dX2_figure_55) hw (fun _ => z_pput (is := [0, 1]) (cells := [(mo, zo 2 (mF q (nI n) (nI (tS tx n po)) (nI (tF tx n po)) (nI (tK tx n po)) (nI (tL tx n po)) (optI (tV tx n po)) (fgW tx n po lo ub) cl un si)), (q 0, zc G 0 (zI 200 g0))]) (cells' := [(mo, zo 2 (mF q (nI n) (nI (tS tx n (tS tx n po))) (nI (tF tx n (tS tx n po))) (nI (tK tx n (tS tx n po))) (nI (tL tx n (tS tx n po))) (optI (tV tx n (tS tx n po))) (fgW tx n po lo ub) cl un si)), (q 0, zc G 0 (zI 200 g0))]) rfl rfl rfl) (fun u H locs hp hw => ?_)
      have hw : zS G ((mo, zo 2 (mF q (nI n) (nI (tS tx n (tS tx n po))) (nI (tF tx n (tS tx n po))) (nI (tK tx n (tS tx n po))) (nI (tL tx n (tS tx n po))) (optI (tV tx n (tS tx n po))) (fgW tx n po lo ub) cl un si)) :: (q 0, zc G 0 (zI 200 g0)) :: rest) s H locs := hw
      refine lv_iload_n hx hb dX2_figure_58 rfl (lv_at hl 0 rfl) ?_
      exact hend _ _ _ _ _ _ _ () hw (by first | rfl | simp_all) (Nat.le_of_ble_eq_true rfl) (Nat.le_of_ble_eq_true rfl) dX2_figure_59
    refine lv_iconst (v := -1) hx hb dX2_figure_41 zk_m1 ?_
    refine lv_icmp_ne (tgt := 52) hx hb dX2_figure_42 (by decide) (fun c_42 => ?_) (fun c_42 => ?_)
    · skip
      refine lv_iconst (v := (nI 0)) hx hb dX2_figure_52 zk_0 ?_
      exact join_53 (nI 0) (by first | (rw [tN_V ((fgW_iff hn hpo).mp c_42)]; exact congrArg nI (ifP_t ((fgW_iff hn hpo).mp c_42)).symm) | exact congrArg nI (ifP_f (fun h => c_42 ((fgW_iff hn hpo).mpr h))).symm) H locs ls hw (lv_sub hl [0, 1, 2] rfl)
    · skip
      refine lv_aload_n hx hb dX2_figure_45 rfl (lv_at hl 0 rfl) ?_
      refine z_get (v := .int (optI (tV tx n po))) hC zf_X2_80_2 hw 0 rfl rfl dX2_figure_46 ?_
      refine lv_goto (tgt := 53) hx hb dX2_figure_49 (by decide) ?_
      exact join_53 (optI (tV tx n po)) (by first | (rw [tN_V ((fgW_iff hn hpo).mp c_42)]; exact congrArg nI (ifP_t ((fgW_iff hn hpo).mp c_42)).symm) | exact congrArg nI (ifP_f (fun h => c_42 ((fgW_iff hn hpo).mpr h))).symm) H locs ls hw (lv_sub hl [0, 1, 2] rfl)
  refine z_get (v := .int (nI (tK tx n po))) hC zf_X2_90_2 hw 0 rfl rfl dX2_figure_2 ?_
  refine lv_iconst (v := (nI 2)) hx hb dX2_figure_5 zk_2 ?_
  refine zi_ne (tgt := 29) hx hb (by have := tK_lt tx n po; omega) (by decide) dX2_figure_6 (by decide) (fun c_6 => ?_) (fun c_6 => ?_)
  · skip
    refine lv_iconst (v := (nI 1)) hx hb dX2_figure_29 zk_1 ?_
    refine lv_goto (tgt := 34) hx hb dX2_figure_30 (by decide) ?_
    exact join_34 (nI 1) (by first | exact (bI_t (fun h => c_6 h.1)).symm | exact (bI_t (fun h => absurd h.2.1 (by omega))).symm | exact (bI_f (fun q => q (tN_yes hpo hf c_6 (by omega) c_26))).symm | exact (bI_t (tN_no hpo hf c_6 (by omega) c_26)).symm) s.heap [] ls hw (lv_sub hl [0, 1, 2] rfl)
  · skip
    refine lv_aload_n hx hb dX2_figure_9 rfl (lv_at hl 0 rfl) ?_
    refine z_get (v := .int (nI (tL tx n po))) hC zf_X2_77_2 hw 0 rfl rfl dX2_figure_10 ?_
    refine lv_iconst (v := (nI 2)) hx hb dX2_figure_13 zk_2 ?_
    refine zi_gt (tgt := 29) hx hb (tL_lt hn hpo) (by decide) dX2_figure_14 (by decide) (fun c_14 => ?_) (fun c_14 => ?_)
    · skip
      refine lv_iconst (v := (nI 1)) hx hb dX2_figure_29 zk_1 ?_
      refine lv_goto (tgt := 34) hx hb dX2_figure_30 (by decide) ?_
      exact join_34 (nI 1) (by first | exact (bI_t (fun h => c_6 h.1)).symm | exact (bI_t (fun h => absurd h.2.1 (by omega))).symm | exact (bI_f (fun q => q (tN_yes hpo hf c_6 (by omega) c_26))).symm | exact (bI_t (tN_no hpo hf c_6 (by omega) c_26)).symm) s.heap [] ls hw (lv_sub hl [0, 1, 2] rfl)
    · skip
      refine lv_aload_n hx hb dX2_figure_17 rfl (lv_at hl 0 rfl) ?_
      refine z_get (v := .int (optI (tV tx n po))) hC zf_X2_80_2 hw 0 rfl rfl dX2_figure_18 ?_
      refine lv_iload_n hx hb dX2_figure_21 rfl (lv_at hl 1 rfl) ?_
      refine lv_iload_n hx hb dX2_figure_22 rfl (lv_at hl 2 rfl) ?_
      refine z_ci (z_runS (As := [.int (optI (tV tx n po)), .int (nI lo), .int up]) (rest := [.ref mo]) hC zs_X2_59 (m_X2_in G l (optI (tV tx n po)) (nI lo) up _) hw rfl rfl (Nat.le_of_ble_eq_true rfl) hl.1 ⟨Nat.le_of_ble_eq_true rfl, Nat.le_of_ble_eq_true rfl⟩ ⟨(Nat.le_of_ble_eq_true rfl), (Nat.le_of_ble_eq_true rfl)⟩ dX2_figure_23) hw (fun _ => List.Perm.refl _) (fun r u H locs hp hw => ?_)
      obtain rfl : r = bI ((nI lo) ≤ (optI (tV tx n po)) ∧ (optI (tV tx n po)) ≤ up) := hp
      refine zb_ne (tgt := 33) hx hb dX2_figure_26 (by decide) (fun c_26 => ?_) (fun c_26 => ?_)
      · skip
        refine lv_iconst (v := (nI 0)) hx hb dX2_figure_33 zk_0 ?_
        exact join_34 (nI 0) (by first | exact (bI_t (fun h => c_6 h.1)).symm | exact (bI_t (fun h => absurd h.2.1 (by omega))).symm | exact (bI_f (fun q => q (tN_yes hpo hf c_6 (by omega) c_26))).symm | exact (bI_t (tN_no hpo hf c_6 (by omega) c_26)).symm) H locs ls hw (lv_sub hl [0, 1, 2] rfl)
      · skip
        refine lv_iconst (v := (nI 1)) hx hb dX2_figure_29 zk_1 ?_
        refine lv_goto (tgt := 34) hx hb dX2_figure_30 (by decide) ?_
        exact join_34 (nI 1) (by first | exact (bI_t (fun h => c_6 h.1)).symm | exact (bI_t (fun h => absurd h.2.1 (by omega))).symm | exact (bI_f (fun q => q (tN_yes hpo hf c_6 (by omega) c_26))).symm | exact (bI_t (tN_no hpo hf c_6 (by omega) c_26)).symm) H locs ls hw (lv_sub hl [0, 1, 2] rfl)
set_option maxHeartbeats 4000000 in
theorem m_X2_figure_w (G : zE) (l : Launch) (mo : Nat) (q : Nat → Nat) (cl : Int32) (un : Int32) (si : Int32) (n : Nat) (tx : Nat → Nat) (g0 : Nat → Int32) (hn : n ≤ 200) (hg : ∀ j, j < n → g0 j = nI (tx j)) (ht : ∀ j, j < n → tx j < 256) (po : Nat) (hpo : po ≤ n) (lo : Int32) (up : Int32) (wn : Nat) (hwn : wn < 1000) (rest : va_W) : zMi G l yX2_figure cX2_figure 4 (some .int) 3 0 0 [.ref mo, .int lo, .int up] ((mo, zo 2 (mF q (nI n) (nI (tS tx n po)) (nI (tF tx n po)) (nI (tK tx n po)) (nI (tL tx n po)) (optI (tV tx n po)) (nI wn) cl un si)) :: (q 0, zc G 0 (zI 200 g0)) :: rest) (fun (r : Int32) (_ : Unit) => r = nI 0) (fun (_ : Unit) => (mo, zo 2 (mF q (nI n) (nI (tS tx n (tS tx n po))) (nI (tF tx n (tS tx n po))) (nI (tK tx n (tS tx n po))) (nI (tL tx n (tS tx n po))) (optI (tV tx n (tS tx n po))) (nI wn) cl un si)) :: (q 0, zc G 0 (zI 200 g0)) :: rest) := by
  refine z_begI (by decide) (Nat.le_of_ble_eq_true rfl) (fun p e s m args below meth c ls Q hC hl hw hend => ?_)
  have hx := hC.hx
  have hb := hC.hb
  have hl : lv_has ls 4 [(0, .ref mo), (1, .int lo), (2, .int up)] := hl
  have hw : zS G ((mo, zo 2 (mF q (nI n) (nI (tS tx n po)) (nI (tF tx n po)) (nI (tK tx n po)) (nI (tL tx n po)) (optI (tV tx n po)) (nI wn) cl un si)) :: (q 0, zc G 0 (zI 200 g0)) :: rest) s s.heap [] := hw
  refine lv_aload_n hx hb dX2_figure_0 rfl (lv_at hl 0 rfl) ?_
  refine lv_aload_n hx hb dX2_figure_1 rfl (lv_at hl 0 rfl) ?_
  have join_34 : ∀ (z : Int32), ∀ (H : Heap) (locs : List Loc) (ls : Array Slot), zS G ((mo, zo 2 (mF q (nI n) (nI (tS tx n po)) (nI (tF tx n po)) (nI (tK tx n po)) (nI (tL tx n po)) (optI (tV tx n po)) (nI wn) cl un si)) :: (q 0, zc G 0 (zI 200 g0)) :: rest) s H locs → lv_has ls 4 [(0, .ref mo), (1, .int lo), (2, .int up)] → W p l e (zR 3 0 0) s m args below meth c H locs 0 0 Q (F0 m 34 ls [.int z, .ref mo]) := by
    intro z H locs ls hw hl
    refine z_cv (z_runV (As := [.int z]) (rest := []) hC zv_X2_96 (m_X2_fails_w G l mo q cl un si n tx g0 (by omega) (by first | assumption | (omega)) (by first | assumption | (omega)) (nI (tS tx n po)) (nI (tF tx n po)) (nI (tK tx n po)) (nI (tL tx n po)) (optI (tV tx n po)) z wn (by omega) (zrem [0] _)) hw (hw.perm (z_cut (is := [0]) (cells := [(mo, zo 2 (mF q (nI n) (nI (tS tx n po)) (nI (tF tx n po)) (nI (tK tx n po)) (nI (tL tx n po)) (optI (tV tx n po)) (nI wn) cl un si))]) rfl rfl)) 0 rfl rfl rfl rfl rfl (Nat.le_of_ble_eq_true rfl) hl.1 ⟨Nat.le_of_ble_eq_true rfl, Nat.le_of_ble_eq_true rfl⟩ ⟨(Nat.le_of_ble_eq_true rfl), (Nat.le_of_ble_eq_true rfl)⟩ dX2_figure_34) hw (fun _ => z_keep (is := [0]) (cs := [(mo, zo 2 (mF q (nI n) (nI (tS tx n po)) (nI (tF tx n po)) (nI (tK tx n po)) (nI (tL tx n po)) (optI (tV tx n po)) (nI wn) cl un si))]) rfl rfl) (fun u H locs hp hw => ?_)
    refine lv_aload_n hx hb dX2_figure_37 rfl (lv_at hl 0 rfl) ?_
    refine z_get (v := .int (nI wn)) hC zf_X2_93_2 hw 0 rfl rfl dX2_figure_38 ?_
    refine lv_iconst (v := -1) hx hb dX2_figure_41 zk_m1 ?_
    refine lv_icmp_ne (tgt := 52) hx hb dX2_figure_42 (by decide) (fun _ => ?_) (fun h => absurd h (nI_nm1 (by omega)))
    refine lv_iconst (v := (nI 0)) hx hb dX2_figure_52 zk_0 ?_
    refine lv_istore_n (lv' := [(3, .int (nI 0)), (0, .ref mo), (1, .int lo), (2, .int up)]) hx hb dX2_figure_53 rfl hl (by decide) rfl (fun ls hl => ?_)
    refine lv_aload_n hx hb dX2_figure_54 rfl (lv_at hl 1 rfl) ?_
    refine z_cv (z_runV (As := []) (rest := []) hC zv_X2_100 (m_X2_advances G l mo q cl un si n tx g0 (by omega) (by first | assumption | (omega)) (by first | assumption | (omega)) (nI (tF tx n po)) (nI (tK tx n po)) (nI (tL tx n po)) (optI (tV tx n po)) (nI wn) (tS tx n po) (by first | exact tS_le hpo | exact tS_le (tS_le hpo) | exact tS_le (tS_le (tS_le hpo))) (zrem [0, 1] _)) hw (hw.perm (z_cut (is := [0, 1]) (cells := [(mo, zo 2 (mF q (nI n) (nI (tS tx n po)) (nI (tF tx n po)) (nI (tK tx n po)) (nI (tL tx n po)) (optI (tV tx n po)) (nI wn) cl un si)), (q 0, zc G 0 (zI 200 g0))]) rfl rfl)) 0 rfl rfl rfl rfl rfl (Nat.le_of_ble_eq_true rfl) hl.1 ⟨Nat.le_of_ble_eq_true rfl, Nat.le_of_ble_eq_true rfl⟩ ⟨(Nat.le_of_ble_eq_true rfl), (Nat.le_of_ble_eq_true rfl)⟩ dX2_figure_55) hw (fun _ => z_pput (is := [0, 1]) (cells := [(mo, zo 2 (mF q (nI n) (nI (tS tx n po)) (nI (tF tx n po)) (nI (tK tx n po)) (nI (tL tx n po)) (optI (tV tx n po)) (nI wn) cl un si)), (q 0, zc G 0 (zI 200 g0))]) (cells' := [(mo, zo 2 (mF q (nI n) (nI (tS tx n (tS tx n po))) (nI (tF tx n (tS tx n po))) (nI (tK tx n (tS tx n po))) (nI (tL tx n (tS tx n po))) (optI (tV tx n (tS tx n po))) (nI wn) cl un si)), (q 0, zc G 0 (zI 200 g0))]) rfl rfl rfl) (fun u H locs hp hw => ?_)
    have hw : zS G ((mo, zo 2 (mF q (nI n) (nI (tS tx n (tS tx n po))) (nI (tF tx n (tS tx n po))) (nI (tK tx n (tS tx n po))) (nI (tL tx n (tS tx n po))) (optI (tV tx n (tS tx n po))) (nI wn) cl un si)) :: (q 0, zc G 0 (zI 200 g0)) :: rest) s H locs := hw
    refine lv_iload_n hx hb dX2_figure_58 rfl (lv_at hl 0 rfl) ?_
    exact hend _ _ _ _ _ _ _ () hw (by first | rfl | simp_all) (Nat.le_of_ble_eq_true rfl) (Nat.le_of_ble_eq_true rfl) dX2_figure_59
  refine z_get (v := .int (nI (tK tx n po))) hC zf_X2_90_2 hw 0 rfl rfl dX2_figure_2 ?_
  refine lv_iconst (v := (nI 2)) hx hb dX2_figure_5 zk_2 ?_
  refine zi_ne (tgt := 29) hx hb (by have := tK_lt tx n po; omega) (by decide) dX2_figure_6 (by decide) (fun c_6 => ?_) (fun c_6 => ?_)
  · skip
    refine lv_iconst (v := (nI 1)) hx hb dX2_figure_29 zk_1 ?_
    refine lv_goto (tgt := 34) hx hb dX2_figure_30 (by decide) ?_
    exact join_34 (nI 1) s.heap [] ls hw (lv_sub hl [0, 1, 2] rfl)
  · skip
    refine lv_aload_n hx hb dX2_figure_9 rfl (lv_at hl 0 rfl) ?_
    refine z_get (v := .int (nI (tL tx n po))) hC zf_X2_77_2 hw 0 rfl rfl dX2_figure_10 ?_
    refine lv_iconst (v := (nI 2)) hx hb dX2_figure_13 zk_2 ?_
    refine zi_gt (tgt := 29) hx hb (tL_lt hn hpo) (by decide) dX2_figure_14 (by decide) (fun c_14 => ?_) (fun c_14 => ?_)
    · skip
      refine lv_iconst (v := (nI 1)) hx hb dX2_figure_29 zk_1 ?_
      refine lv_goto (tgt := 34) hx hb dX2_figure_30 (by decide) ?_
      exact join_34 (nI 1) s.heap [] ls hw (lv_sub hl [0, 1, 2] rfl)
    · skip
      refine lv_aload_n hx hb dX2_figure_17 rfl (lv_at hl 0 rfl) ?_
      refine z_get (v := .int (optI (tV tx n po))) hC zf_X2_80_2 hw 0 rfl rfl dX2_figure_18 ?_
      refine lv_iload_n hx hb dX2_figure_21 rfl (lv_at hl 1 rfl) ?_
      refine lv_iload_n hx hb dX2_figure_22 rfl (lv_at hl 2 rfl) ?_
      refine z_ci (z_runS (As := [.int (optI (tV tx n po)), .int lo, .int up]) (rest := [.ref mo]) hC zs_X2_59 (m_X2_in G l (optI (tV tx n po)) lo up _) hw rfl rfl (Nat.le_of_ble_eq_true rfl) hl.1 ⟨Nat.le_of_ble_eq_true rfl, Nat.le_of_ble_eq_true rfl⟩ ⟨(Nat.le_of_ble_eq_true rfl), (Nat.le_of_ble_eq_true rfl)⟩ dX2_figure_23) hw (fun _ => List.Perm.refl _) (fun r u H locs hp hw => ?_)
      obtain rfl : r = bI (lo ≤ (optI (tV tx n po)) ∧ (optI (tV tx n po)) ≤ up) := hp
      refine zb_ne (tgt := 33) hx hb dX2_figure_26 (by decide) (fun c_26 => ?_) (fun c_26 => ?_)
      · skip
        refine lv_iconst (v := (nI 0)) hx hb dX2_figure_33 zk_0 ?_
        exact join_34 (nI 0) H locs ls hw (lv_sub hl [0, 1, 2] rfl)
      · skip
        refine lv_iconst (v := (nI 1)) hx hb dX2_figure_29 zk_1 ?_
        refine lv_goto (tgt := 34) hx hb dX2_figure_30 (by decide) ?_
        exact join_34 (nI 1) H locs ls hw (lv_sub hl [0, 1, 2] rfl)
