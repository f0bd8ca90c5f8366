/-! PURE: each call keeps what is always so of a state, and of what was told -/
set_option maxRecDepth 100000
def AOz (A : AS) : Prop := AOk A ∧ Hz (aV0 A)
theorem ok_1 {A : AS} {w : Nat → Nat} (h : AOk A) (hw : Hb (aV0 A) w) : w 1 = aV A 1 := hw.2.1.1.symm.trans h.2.2.1.2.1.1
theorem ok_sV {A : AS} {w : Nat → Nat} (hA : AOz A) (hw : Hb (aV0 A) w) : AOz (sV (noteA A) w) := by
  have e1 := ok_1 hA.1 hw
  refine ⟨?_, hA.2⟩
  obtain ⟨⟨h1, h2, h3, ⟨h4, h4'⟩, h5, h6, h7⟩, -⟩ := hA
  refine ⟨h1, h2, hw, ⟨?_, ?_⟩, h5, h6, fun t ht => ?_⟩
  · show (if aU A = 8 then 8 else aU A + 1) ≤ 8
    split <;> omega
  · intro j hj
    have hj : j < (if aU A = 8 then 8 else aU A + 1) := hj
    show Hb (aV0 A) ((if aU A = 8 then (fun j => if j = 7 then aV A else aUs A (j + 1)) else (fun j => if j = aU A then aV A else aUs A j)) j)
    by_cases e : aU A = 8
    · rw [if_pos e] at hj; rw [if_pos e]
      show Hb _ (if j = 7 then aV A else aUs A (j + 1))
      by_cases q : j = 7
      · rw [if_pos q]; exact h3
      · rw [if_neg q]; exact h4' _ (by omega)
    · rw [if_neg e] at hj; rw [if_neg e]
      show Hb _ (if j = aU A then aV A else aUs A j)
      by_cases q : j = aU A
      · rw [if_pos q]; exact h3
      · rw [if_neg q]; exact h4' _ (by omega)
  · show okTr (w 1) (aTr A t)
    rw [e1]; exact h7 t ht
theorem sq_of {v w w' : Nat → Nat} (h : sq v w) (h1 : w' 1 = w 1) (hk : ∀ i, i < w 1 → w' (21 + 5 * i) = w (21 + 5 * i) ∧ w' (21 + 5 * i + 2) = w (21 + 5 * i + 2)) : sq v w' :=
  ⟨h.1.trans h1.symm, fun i hi => ⟨(h.2 i hi).1.trans (hk i (h.1 ▸ hi)).1.symm, (h.2 i hi).2.trans (hk i (h.1 ▸ hi)).2.symm⟩⟩
theorem ok_day {A : AS} {n : Int32} (hA : AOz A) : AOz (F_day A n).2 := by
  unfold F_day
  rcases Classical.em (inR n 1 12) with h | h
  · rw [ifP_t h]
    obtain ⟨k, h1, h2, rfl⟩ := h
    rw [cl_nI (by omega)]
    split
    · exact hA
    · next hd =>
      have hv := hA.1.2.2.1
      have h5 := hv.1.1.2.1
      have hi := daysN_inv hv.1.1 k (by omega)
      exact ok_sV hA ⟨daysN_Hg hv.1 k (by omega), sq_of hv.2.1 (hi.2.2 1 still_1) (fun i hi' => ⟨hi.2.2 _ (still_k (by omega)), hi.2.2 _ (still_n (by omega))⟩), by rw [hi.2.1]; omega⟩
  · rw [ifP_f h]; exact hA
theorem Hg_bury {v : Nat → Nat} {i k : Nat} (hg : Hg v) (hi : i < v 1) (hk : k ≤ 99) (h9 : v 0 < 9) : Hg (buryN v i k) := by
  have h1 := hg.1.2.1
  have hw := hg.1
  have hq := hg.2.2 i hi
  have e : ∀ j, j ≠ 3 + 2 * v 0 → j ≠ 3 + 2 * v 0 + 1 → j ≠ 21 + 5 * i + 4 → j ≠ 0 → buryN v i k j = v j := fun j a b c d => (updN_ne _ _ d).trans ((updN_ne _ _ c).trans ((updN_ne _ _ b).trans (updN_ne _ _ a)))
  have e0 : buryN v i k 0 = v 0 + 1 := updN_same _ _ _
  have ep : buryN v i k (3 + 2 * v 0) = v (21 + 5 * i + 1) := (updN_ne _ _ (by omega)).trans ((updN_ne _ _ (by omega)).trans ((updN_ne _ _ (by omega)).trans (updN_same _ _ _)))
  have en : buryN v i k (3 + 2 * v 0 + 1) = k := (updN_ne _ _ (by omega)).trans ((updN_ne _ _ (by omega)).trans (updN_same _ _ _))
  have ek : buryN v i k (21 + 5 * i + 4) = v (21 + 5 * i + 4) ||| 2 ^ v 0 := (updN_ne _ _ (by omega)).trans (updN_same _ _ _)
  have hor : v (21 + 5 * i + 4) ||| 2 ^ v 0 < 512 := or9 (hw.2.2.2.1 i (by omega)) (pow512 h9)
  refine ⟨⟨by rw [e0]; omega, by rw [e 1 (by omega) (by omega) (by omega) (by omega)]; exact h1, fun j => ?_, fun j hj => ?_, fun j hj => ?_, fun j hj => ?_⟩, fun t ht => ?_, fun j hj => ?_⟩
  · by_cases q : j = 3 + 2 * v 0
    · rw [q, ep]; omega
    by_cases q1 : j = 3 + 2 * v 0 + 1
    · rw [q1, en]; omega
    by_cases q2 : j = 21 + 5 * i + 4
    · rw [q2, ek]; omega
    by_cases q3 : j = 0
    · rw [q3, e0]; omega
    rw [e j q q1 q2 q3]; exact hw.2.2.1 j
  · by_cases q : j = i
    · rw [q, ek]; exact hor
    · rw [e _ (by omega) (by omega) (by omega) (by omega)]; exact hw.2.2.2.1 j hj
  · rw [e _ (by omega) (by omega) (by omega) (by omega)]; exact hw.2.2.2.2.1 j hj
  · rw [e _ (by omega) (by omega) (by omega) (by omega)]; exact hw.2.2.2.2.2 j hj
  · rw [e0] at ht
    by_cases q : t = v 0
    · rw [q, ep, en]; exact ⟨hq.2.1, hk⟩
    · rw [e _ (by omega) (by omega) (by omega) (by omega), e _ (by omega) (by omega) (by omega) (by omega)]; exact hg.2.1 t (by omega)
  · rw [e 1 (by omega) (by omega) (by omega) (by omega)] at hj
    rw [e _ (by omega) (by omega) (by omega) (by omega), e _ (by omega) (by omega) (by omega) (by omega), e _ (by omega) (by omega) (by omega) (by omega)]; exact hg.2.2 j hj
theorem bury_at {v : Nat → Nat} {i k j : Nat} (a : j ≠ 3 + 2 * v 0) (b : j ≠ 3 + 2 * v 0 + 1) (c : j ≠ 21 + 5 * i + 4) (d : j ≠ 0) : buryN v i k j = v j := (updN_ne _ _ d).trans ((updN_ne _ _ c).trans ((updN_ne _ _ b).trans (updN_ne _ _ a)))
theorem ok_bury {A : AS} {x n : Int32} (hA : AOz A) : AOz (F_bury A x n).2 := by
  unfold F_bury
  have hv := hA.1.2.2.1
  have h0 := hv.1.1.1
  have h5 := hv.1.1.2.1
  rcases Classical.em (isP (aV A 1) x) with h | h
  · rw [ifP_t h]
    obtain ⟨i, hi, rfl⟩ := h
    rcases Classical.em (inR n 1 99) with h2 | h2
    · rw [ifP_t h2]
      obtain ⟨k, hk1, hk2, rfl⟩ := h2
      rw [cl_nI (show i < 2147483648 by omega), cl_nI (show k < 2147483648 by omega)]
      rcases Classical.em (goneN (aV A) i) with h3 | h3
      · rw [ifP_t h3]; exact hA
      · rw [ifP_f h3]
        split
        · exact hA
        · next h9 => exact ok_sV hA ⟨Hg_bury hv.1 hi hk2 (by omega), sq_of hv.2.1 (bury_at (by omega) (by omega) (by omega) (by omega)) (fun j hj => ⟨bury_at (by omega) (by omega) (by omega) (by omega), bury_at (by omega) (by omega) (by omega) (by omega)⟩), by rw [bury_at (by omega) (by omega) (by omega) (by omega)]; exact hv.2.2⟩
    · rw [ifP_f h2]; exact hA
  · rw [ifP_f h]; exact hA
theorem ok_raid {A : AS} {x n : Int32} (hA : AOz A) : AOz (F_raid A x n).2 := by
  unfold F_raid
  have hv := hA.1.2.2.1
  have h0 := hv.1.1.1
  have h5 := hv.1.1.2.1
  rcases Classical.em (isP (aV A 0) x) with h | h
  · rw [ifP_t h]
    obtain ⟨i, hi, rfl⟩ := h
    rcases Classical.em (inR n 1 99) with h2 | h2
    · rw [ifP_t h2]
      obtain ⟨k, hk1, hk2, rfl⟩ := h2
      rw [cl_nI (show i < 2147483648 by omega), cl_nI (show k < 2147483648 by omega)]
      have hn := (hv.1.2.1 i hi).2
      split
      · exact hA
      · exact ok_sV hA ⟨Hg_nuts hv.1 (by omega) (by omega), sq_of hv.2.1 (updN_ne _ _ (by omega)) (fun j hj => ⟨updN_ne _ _ (by omega), updN_ne _ _ (by omega)⟩), by rw [updN_ne _ _ (by omega)]; exact hv.2.2⟩
    · rw [ifP_f h2]; exact hA
  · rw [ifP_f h]; exact hA
theorem ok_tell {A : AS} {x y : Int32} (hA : AOz A) : AOz (F_tell A x y).2 := by
  unfold F_tell
  have hv := hA.1.2.2.1
  have h0 := hv.1.1.1
  have h5 := hv.1.1.2.1
  rcases Classical.em (isP (aV A 1) x ∧ isP (aV A 0) y) with h | h
  · rw [ifP_t h]
    obtain ⟨⟨i, hi, rfl⟩, ⟨t, ht, rfl⟩⟩ := h
    rw [cl_nI (show i < 2147483648 by omega), cl_nI (show t < 2147483648 by omega)]
    rcases Classical.em ((aV A (21 + 5 * i + 4)).testBit t = true ∨ goneN (aV A) i) with h3 | h3
    · rw [ifP_t h3]; exact hA
    · rw [ifP_f h3]
      exact ok_sV hA ⟨Hg_upd hv.1 (by omega) (or9 (hv.1.1.2.2.2.1 i (by omega)) (pow512 (by omega))), sq_of hv.2.1 (updN_ne _ _ (by omega)) (fun j hj => ⟨updN_ne _ _ (by omega), updN_ne _ _ (by omega)⟩), by rw [updN_ne _ _ (by omega)]; exact hv.2.2⟩
  · rw [ifP_f h]; exact hA
theorem ok_undo {A : AS} (hA : AOz A) : AOz (F_undo A).2 := by
  unfold F_undo
  split
  · exact hA
  · next h0 =>
    refine ⟨?_, hA.2⟩
    have hA1 := hA.1
    obtain ⟨⟨h1, h2, h3, ⟨h4, h4'⟩, h5, h6, h7⟩, -⟩ := hA
    have hb := h4' (aU A - 1) (by omega)
    refine ⟨h1, h2, hb, ⟨by show aU A - 1 ≤ 8; omega, fun j hj => h4' j (by have hj : j < aU A - 1 := hj; omega)⟩, h5, h6, fun t ht => ?_⟩
    show okTr (aUs A (aU A - 1) 1) (aTr A t)
    rw [ok_1 hA1 hb]; exact h7 t ht
theorem ok_keep {A : AS} {k : Int32} (hA : AOz A) : AOz (F_keep A k).2 := by
  unfold F_keep
  rcases Classical.em (inR k 0 1) with h | h
  · rw [ifP_t h]
    refine ⟨?_, hA.2⟩
    obtain ⟨⟨h1, h2, h3, h4, h5, h6, h7⟩, -⟩ := hA
    refine ⟨h1, h2, h3, h4, fun j w hj hw => ?_, h6, h7⟩
    have hw : va_up (aK A) (cl k) (some (aV A)) j = some w := hw
    by_cases e : j = cl k
    · rw [e, va_up_self] at hw; cases hw; exact h3
    · rw [va_up_ne _ _ e] at hw; exact h5 j w hj hw
  · rw [ifP_f h]; exact hA
theorem ok_back {A : AS} {k : Int32} (hA : AOz A) : AOz (F_back A k).2 := by
  unfold F_back
  rcases Classical.em (inR k 0 1) with h | h
  · rw [ifP_t h]
    obtain ⟨i, h0, hi, rfl⟩ := h
    rw [cl_nI (by omega)]
    cases hk : aK A i with
    | none => exact hA
    | some w =>
      refine ⟨?_, hA.2⟩
      have hA1 := hA.1
      obtain ⟨⟨h1, h2, h3, h4, h5, h6, h7⟩, -⟩ := hA
      have hb := h5 i w (by omega) hk
      refine ⟨h1, h2, hb, ⟨Nat.zero_le _, fun j hj => absurd hj (Nat.not_lt_zero _)⟩, h5, h6, fun t ht => ?_⟩
      show okTr (w 1) (aTr A t)
      rw [ok_1 hA1 hb]; exact h7 t ht
  · rw [ifP_f h]; exact hA
theorem ok_seen {A : AS} {m d e w : Int32} (hA : AOz A) : AOz (F_seen A m d e w).2 := by
  unfold F_seen
  rcases Classical.em (inR m 1 9 ∧ inR d 0 1 ∧ inR e 0 19 ∧ inR w 0 3) with h | h
  · rw [ifP_t h]
    obtain ⟨⟨a, a1, a2, rfl⟩, ⟨b, b1, b2, rfl⟩, ⟨c, c1, c2, rfl⟩, ⟨f, f1, f2, rfl⟩⟩ := h
    rw [cl_nI (show a < 2147483648 by omega), cl_nI (show b < 2147483648 by omega), cl_nI (show c < 2147483648 by omega), cl_nI (show f < 2147483648 by omega)]
    split
    · exact hA
    · next h6' =>
      refine ⟨?_, hA.2⟩
      obtain ⟨⟨h1, h2, h3, h4, h5, ⟨h6, h6s⟩, h7⟩, -⟩ := hA
      refine ⟨h1, h2, h3, h4, h5, ⟨by show aS A + 1 ≤ 6; omega, fun j hj => ?_⟩, h7⟩
      have hj : j < aS A + 1 := hj
      show okSg (updN (updN (updN (updN (aSg A) (4 * aS A) a) (4 * aS A + 1) b) (4 * aS A + 2) c) (4 * aS A + 3) f) j
      unfold okSg
      by_cases q : j = aS A
      · subst q
        rw [updN_ne _ _ (show 4 * aS A ≠ 4 * aS A + 3 by omega), updN_ne _ _ (show 4 * aS A ≠ 4 * aS A + 2 by omega), updN_ne _ _ (show 4 * aS A ≠ 4 * aS A + 1 by omega), updN_same, updN_ne _ _ (show 4 * aS A + 1 ≠ 4 * aS A + 3 by omega), updN_ne _ _ (show 4 * aS A + 1 ≠ 4 * aS A + 2 by omega), updN_same, updN_ne _ _ (show 4 * aS A + 2 ≠ 4 * aS A + 3 by omega), updN_same, updN_same]
        exact ⟨a1, a2, b2, c2, f2⟩
      · have e : ∀ i, i < 4 → updN (updN (updN (updN (aSg A) (4 * aS A) a) (4 * aS A + 1) b) (4 * aS A + 2) c) (4 * aS A + 3) f (4 * j + i) = aSg A (4 * j + i) := fun i hi => (updN_ne _ _ (by omega)).trans ((updN_ne _ _ (by omega)).trans ((updN_ne _ _ (by omega)).trans (updN_ne _ _ (by omega))))
        have e0 := e 0 (by decide)
        simp only [Nat.add_zero] at e0
        rw [e0, e 1 (by decide), e 2 (by decide), e 3 (by decide)]
        exact h6s j (by omega)
  · rw [ifP_f h]; exact hA
theorem ok_forget {A : AS} (hA : AOz A) : AOz (F_forget A).2 := by
  refine ⟨?_, hA.2⟩
  obtain ⟨⟨h1, h2, h3, h4, h5, h6, h7⟩, -⟩ := hA
  exact ⟨h1, h2, h3, h4, h5, ⟨Nat.zero_le _, fun j hj => absurd hj (Nat.not_lt_zero _)⟩, h7⟩
theorem ok_erase {A : AS} (hA : AOz A) : AOz (F_erase A).2 := by
  refine ⟨?_, hA.2⟩
  obtain ⟨⟨h1, h2, h3, h4, h5, h6, h7⟩, -⟩ := hA
  exact ⟨⟨Nat.zero_le _, fun j hj => absurd hj (Nat.not_lt_zero _)⟩, h2, h3, h4, h5, h6, h7⟩
theorem ok_write {A : AS} {x : Int32} (hA : AOz A) : AOz (F_write A x).2 := by
  unfold F_write
  rcases Classical.em (inR x 0 255) with h | h
  · rw [ifP_t h]
    obtain ⟨a, a1, a2, rfl⟩ := h
    rw [cl_nI (by omega)]
    split
    · exact hA
    · refine ⟨?_, hA.2⟩
      obtain ⟨⟨⟨h1, h1'⟩, h2, h3, h4, h5, h6, h7⟩, -⟩ := hA
      refine ⟨⟨by show aL A + 1 ≤ 200; omega, fun k hk => ?_⟩, h2, h3, h4, h5, h6, h7⟩
      have hk : k < aL A + 1 := hk
      show updN (aT A) (aL A) a k < 256
      by_cases q : k = aL A
      · rw [q, updN_same]; omega
      · rw [updN_ne _ _ q]; exact h1' k (by omega)
  · rw [ifP_f h]; exact hA
/-! trails -/
theorem ok_sT {A : AS} {t : Nat} {o : Option TR} (hA : AOz A) (ho : okTr (aV A 1) o) : AOz (sT A t o) := by
  refine ⟨?_, hA.2⟩
  obtain ⟨⟨h1, h2, h3, h4, h5, h6, h7⟩, -⟩ := hA
  refine ⟨h1, h2, h3, h4, h5, h6, fun j hj => ?_⟩
  show okTr (aV A 1) (va_up (aTr A) t o j)
  by_cases e : j = t
  · rw [e, va_up_self]; exact ho
  · rw [va_up_ne _ _ e]; exact h7 j hj
theorem okTr_n {n : Nat} : okTr n none := fun _ _ _ h => by cases h
theorem okTr_s {n : Nat} {l : List (Nat × Int32)} {h : Nat} {c : Option Nat} (h1 : l.length ≤ 12) (h2 : h ≤ l.length) (h3 : ∀ j, c = some j → j < l.length) (h4 : ∀ x ∈ l, okItem n x) : okTr n (some (l, h, c)) := by
  intro l' h' c' e
  cases e
  exact ⟨h1, h2, h3, h4⟩
theorem ok_trail {A : AS} {x : Int32} (hA : AOz A) : AOz (F_trail A x).2 := by
  unfold F_trail
  rcases Classical.em (inR x 0 2) with h | h
  · rw [ifP_t h]; exact ok_sT hA (okTr_s (by decide) (by decide) (fun _ e => by cases e) (fun x hx => by cases hx))
  · rw [ifP_f h]; exact hA
theorem ok_step {A : AS} {x w k : Int32} (hA : AOz A) : AOz (F_step A x w k).2 := by
  unfold F_step
  rcases Classical.em (inR x 0 2) with h | h
  · rw [ifP_t h]
    obtain ⟨t, -, ht, rfl⟩ := h
    rcases Classical.em (inR w 0 1 ∧ inR k 0 2) with h2 | h2
    · rw [ifP_t h2, cl_nI (by omega)]
      have h7 := hA.1.2.2.2.2.2.2 t (by omega)
      obtain ⟨⟨a, a1, a2, rfl⟩, -⟩ := h2
      rw [cl_nI (show a < 2147483648 by omega)]
      cases hr : aTr A t with
      | none => exact hA
      | some r =>
        obtain ⟨l, g, c⟩ := r
        obtain ⟨q1, q2, q3, q4⟩ := h7 l g c hr
        dsimp only
        rcases Classical.em (stepOk (l, g, c) a) with h3 | h3
        · rw [ifP_t h3]
          unfold stepOk at h3
          dsimp only at h3
          split
          · refine ok_sT hA (okTr_s q1 ?_ (fun j e => ?_) q4)
            · split
              · next e => rw [if_pos e] at h3; omega
              · omega
            · cases e
              unfold stepAt
              dsimp only
              split
              · next e => rw [if_pos e] at h3; exact h3
              · next e => rw [if_neg e] at h3; omega
          · exact hA
        · rw [ifP_f h3]; exact hA
    · rw [ifP_f h2]; exact hA
  · rw [ifP_f h]; exact hA
theorem item_ok {A : AS} {x k v : Int32} (hb : ¬ badP A x k v) (hw : wellP k v) : okItem (aV A 1) (cl k, v) := by
  unfold badP at hb
  rcases hw with ⟨rfl, h1, h2⟩ | ⟨rfl, h⟩ | rfl
  · left
    refine ⟨rfl, ?_, ?_⟩
    · have := Int32.le_iff_toInt_le.mp h1
      exact this
    · have e := Int32.le_iff_toInt_le.mp h2
      rw [nI_toInt (by decide)] at e
      exact e
  · right; right; exact ⟨rfl, h⟩
  · right; left
    exact ⟨rfl, Classical.not_not.mp (fun q => hb (Or.inr ⟨rfl, q⟩))⟩
theorem bad_x {A : AS} {x k v : Int32} (hb : ¬ badP A x k v) : inR x 0 2 := Classical.not_not.mp (fun q => hb (Or.inl q))
theorem ok_add {A : AS} {x k v : Int32} (hA : AOz A) : AOz (F_add A x k v).2 := by
  unfold F_add
  rcases Classical.em (badP A x k v) with h | h
  · rw [ifP_t h]; exact hA
  · rw [ifP_f h]
    rcases Classical.em (wellP k v) with h2 | h2
    · rw [ifP_t h2]
      have hi := item_ok h h2
      obtain ⟨t, -, ht, rfl⟩ := bad_x h
      rw [cl_nI (by omega)]
      have h7 := hA.1.2.2.2.2.2.2 t (by omega)
      cases hr : aTr A t with
      | none => exact hA
      | some r =>
        obtain ⟨l, g, c⟩ := r
        obtain ⟨q1, q2, q3, q4⟩ := h7 l g c hr
        dsimp only
        split
        · exact hA
        · next h12 =>
          refine ok_sT hA (okTr_s ?_ ?_ (fun _ e => by cases e) (fun y hy => ?_))
          · rw [List.length_append, List.length_take, List.length_cons, List.length_drop]; omega
          · rw [List.length_append, List.length_take, List.length_cons, List.length_drop]; omega
          · rcases List.mem_append.mp hy with hy | hy
            · exact q4 y (List.mem_of_mem_take hy)
            · rcases List.mem_cons.mp hy with rfl | hy
              · exact hi
              · exact q4 y (List.mem_of_mem_drop hy)
    · rw [ifP_f h2]; exact hA
theorem ok_set {A : AS} {x k v : Int32} (hA : AOz A) : AOz (F_set A x k v).2 := by
  unfold F_set
  rcases Classical.em (badP A x k v) with h | h
  · rw [ifP_t h]; exact hA
  · rw [ifP_f h]
    rcases Classical.em (wellP k v) with h2 | h2
    · rw [ifP_t h2]
      have hi := item_ok h h2
      obtain ⟨t, -, ht, rfl⟩ := bad_x h
      rw [cl_nI (by omega)]
      have h7 := hA.1.2.2.2.2.2.2 t (by omega)
      cases hr : aTr A t with
      | none => exact hA
      | some r =>
        obtain ⟨l, g, c⟩ := r
        obtain ⟨q1, q2, q3, q4⟩ := h7 l g c hr
        cases c with
        | none => exact hA
        | some p =>
          refine ok_sT hA (okTr_s ?_ ?_ (fun j e => ?_) (fun y hy => ?_))
          · rw [List.length_set]; exact q1
          · rw [List.length_set]; exact q2
          · cases e; rw [List.length_set]; exact q3 _ rfl
          · rcases List.mem_or_eq_of_mem_set hy with hy | rfl
            · exact q4 y hy
            · exact hi
    · rw [ifP_f h2]; exact hA
theorem ok_cut {A : AS} {x : Int32} (hA : AOz A) : AOz (F_cut A x).2 := by
  unfold F_cut
  rcases Classical.em (inR x 0 2) with h | h
  · rw [ifP_t h]
    obtain ⟨t, -, ht, rfl⟩ := h
    rw [cl_nI (by omega)]
    have h7 := hA.1.2.2.2.2.2.2 t (by omega)
    cases hr : aTr A t with
    | none => exact hA
    | some r =>
      obtain ⟨l, g, c⟩ := r
      obtain ⟨q1, q2, q3, q4⟩ := h7 l g c hr
      cases c with
      | none => exact hA
      | some p =>
        have hp : p < l.length := q3 p rfl
        refine ok_sT hA (okTr_s ?_ ?_ (fun _ e => by cases e) (fun y hy => ?_))
        · dsimp only; rw [List.length_append, List.length_take, List.length_drop]; omega
        · dsimp only; rw [List.length_append, List.length_take, List.length_drop]; split <;> omega
        · rcases List.mem_append.mp hy with hy | hy
          · exact q4 y (List.mem_of_mem_take hy)
          · exact q4 y (List.mem_of_mem_drop hy)
  · rw [ifP_f h]; exact hA
theorem ok_rewind {A : AS} {x : Int32} (hA : AOz A) : AOz (F_rewind A x).2 := by
  unfold F_rewind
  rcases Classical.em (inR x 0 2) with h | h
  · rw [ifP_t h]
    obtain ⟨t, -, ht, rfl⟩ := h
    rw [cl_nI (by omega)]
    have h7 := hA.1.2.2.2.2.2.2 t (by omega)
    cases hr : aTr A t with
    | none => exact hA
    | some r =>
      obtain ⟨l, g, c⟩ := r
      obtain ⟨q1, q2, q3, q4⟩ := h7 l g c hr
      exact ok_sT hA (okTr_s q1 (Nat.zero_le _) (fun _ e => by cases e) q4)
  · rw [ifP_f h]; exact hA
theorem ok_drop {A : AS} {x : Int32} (hA : AOz A) : AOz (F_drop A x).2 := by
  unfold F_drop
  rcases Classical.em (inR x 0 2) with h | h
  · rw [ifP_t h]
    cases hr : aTr A (cl x) with
    | none => exact hA
    | some r => exact ok_sT hA okTr_n
  · rw [ifP_f h]; exact hA
/-! the hedge, told -/
theorem Hg_0 : Hg (fun _ => 0) := ⟨Hw_0, fun _ h => absurd h (Nat.not_lt_zero _), fun _ h => absurd h (Nat.not_lt_zero _)⟩
theorem Hg_Q {v : Nat → Nat} {k x y : Nat} (hg : Hg v) (h5 : v 1 ≠ 5) (hk : k < 5) (hx : x < 20) (hy1 : 1 ≤ y) (hy : y < 10) : Hg (putQ v k x y) := by
  have h0 := hg.1.1
  have h1 := hg.1.2.1
  refine ⟨putQ_Hw hg.1 h5 hk hx hy, fun t ht => ?_, fun i hi => ?_⟩
  · rw [putQ_c.1] at ht
    rw [putQ_at (by omega) (by omega) (by omega) (by omega), putQ_at (by omega) (by omega) (by omega) (by omega)]
    exact hg.2.1 t ht
  · rw [putQ_c.2] at hi
    by_cases q : i = v 1
    · have e0 : putQ v k x y (21 + 5 * v 1) = k := (updN_ne _ _ (by omega)).trans ((updN_ne _ _ (by omega)).trans ((updN_ne _ _ (by omega)).trans (updN_same _ _ _)))
      have e1 : putQ v k x y (21 + 5 * v 1 + 1) = x := (updN_ne _ _ (by omega)).trans ((updN_ne _ _ (by omega)).trans (updN_same _ _ _))
      have e2 : putQ v k x y (21 + 5 * v 1 + 2) = y := (updN_ne _ _ (by omega)).trans (updN_same _ _ _)
      rw [q, e0, e1, e2]; exact ⟨hk, hx, hy1⟩
    · rw [putQ_at (by omega) (by omega) (by omega) (by omega), putQ_at (by omega) (by omega) (by omega) (by omega), putQ_at (by omega) (by omega) (by omega) (by omega)]
      exact hg.2.2 i (by omega)
theorem Hg_P {v : Nat → Nat} {x y : Nat} (hg : Hg v) (h9 : v 0 ≠ 9) (hx : x < 20) (hy : y < 100) : Hg (putP v x y) := by
  have h0 := hg.1.1
  have h1 := hg.1.2.1
  refine ⟨putP_Hw hg.1 h9 hx hy, fun t ht => ?_, fun i hi => ?_⟩
  · rw [putP_c.1] at ht
    by_cases q : t = v 0
    · have e0 : putP v x y (3 + 2 * v 0) = x := (updN_ne _ _ (by omega)).trans ((updN_ne _ _ (by omega)).trans (updN_same _ _ _))
      have e1 : putP v x y (3 + 2 * v 0 + 1) = y := (updN_ne _ _ (by omega)).trans (updN_same _ _ _)
      rw [q, e0, e1]; exact ⟨hx, by omega⟩
    · rw [putP_at (by omega) (by omega) (by omega), putP_at (by omega) (by omega) (by omega)]
      exact hg.2.1 t (by omega)
  · rw [putP_c.2] at hi
    rw [putP_at (by omega) (by omega) (by omega), putP_at (by omega) (by omega) (by omega), putP_at (by omega) (by omega) (by omega)]
    exact hg.2.2 i hi
theorem Hg_K {v : Nat → Nat} {i t : Nat} (hg : Hg v) (hi : i < v 1) (ht : t < v 0) : Hg (putK v i t) :=
  Hg_upd hg (by have := hg.1.2.1; omega) (or9 (hg.1.2.2.2.1 i (by have := hg.1.2.1; omega)) (pow512 (by have := hg.1.1; omega)))
theorem clauseN_Hg {tx : Nat → Nat} {n p : Nat} {v : Nat → Nat} {r : (Nat → Nat) × Nat} (hg : Hg v) (hz : Hz v) (h : clauseN tx n v p = .inr r) : Hg r.1 ∧ Hz r.1 := by
  have h0 := hg.1.1
  rcases clauseN_cases h with ⟨e, -⟩ | ⟨k, x, y, h1, h2, h3, h4, h5, e⟩ | ⟨x, y, h1, h2, h3, e⟩ | ⟨i, t, h1, h2, e⟩ <;> rw [e]
  · exact ⟨Hg_0, Hz_0⟩
  · exact ⟨Hg_Q hg h5 h1 h2 h3 h4, Hz_Q hz⟩
  · exact ⟨Hg_P hg h3 h1 h2, Hz_P hz (by omega)⟩
  · exact ⟨Hg_K hg h1 h2, Hz_K hz h1⟩
theorem parN_Hg {tx : Nat → Nat} {n : Nat} : ∀ (f c : Nat) (v : Nat → Nat) (p : Nat) (r : (Nat → Nat) × Nat), Hg v → Hz v → parN tx n f c v p = .inr r → Hg r.1 ∧ Hz r.1
  | 0, _, _, _, _, _, _, h => by cases h
  | f + 1, c, v, p, r, hg, hz, h => by
    rw [parN] at h
    cases hc : clauseN tx n v p with
    | inl w => rw [hc] at h; cases h
    | inr q =>
      rw [hc] at h
      dsimp only at h
      have hq := clauseN_Hg hg hz hc
      split at h
      · exact parN_Hg f (c + 1) q.1 _ r hq.1 hq.2 h
      · split at h
        · cases h; exact hq
        · cases h
theorem Hb_self {v : Nat → Nat} (hg : Hg v) (hz : Hz v) : Hb v v := ⟨hg, ⟨rfl, fun _ _ => ⟨rfl, rfl⟩⟩, by rw [hz.1]; exact Nat.zero_le _⟩
theorem ok_hedge {A : AS} (hA : AOz A) : AOz (F_hedge A).2 := by
  unfold F_hedge
  cases h : parA A with
  | inl w => exact hA
  | inr r =>
    have hq := parN_Hg 24 1 (aV0 A) 0 r hA.1.2.1.1 hA.2 h
    refine ⟨⟨⟨Nat.zero_le _, fun _ h => absurd h (Nat.not_lt_zero _)⟩, Hb_self hq.1 hq.2, Hb_self hq.1 hq.2, ⟨Nat.zero_le _, fun _ h => absurd h (Nat.not_lt_zero _)⟩, fun j w _ h => (by cases h), ⟨Nat.zero_le _, fun _ h => absurd h (Nat.not_lt_zero _)⟩, fun t _ => okTr_n⟩, hq.2⟩
theorem ok_A0 : AOz A0 := ⟨⟨⟨Nat.zero_le _, fun _ h => absurd h (Nat.not_lt_zero _)⟩, Hb_self Hg_0 Hz_0, Hb_self Hg_0 Hz_0, ⟨Nat.zero_le _, fun _ h => absurd h (Nat.not_lt_zero _)⟩, fun j w _ h => (by cases h), ⟨Nat.zero_le _, fun _ h => absurd h (Nat.not_lt_zero _)⟩, fun t _ => okTr_n⟩, Hz_0⟩
