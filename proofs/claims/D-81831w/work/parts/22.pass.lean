/-! PURE: what a day leaves as it was -/
set_option maxRecDepth 100000
/-- what isn't changed by a day at the place j of a hedge -/
def still (j : Nat) : Prop := j ≠ 2 ∧ (∀ i, i < 5 → j ≠ 21 + 5 * i + 1 ∧ j ≠ 21 + 5 * i + 3 ∧ j ≠ 21 + 5 * i + 4) ∧ ∀ t, t < 9 → j ≠ 3 + 2 * t + 1
theorem passTo_inv {v : Nat → Nat} (hH : Hw v) (hd : v 2 < 65535) : ∀ k, k ≤ v 1 → Hw (passTo v k).1 ∧ (passTo v k).1 2 = v 2 + 1 ∧ (∀ j, still j → (passTo v k).1 j = v j) ∧ ∀ j, k ≤ j → (passTo v k).2 j = none
  | 0, _ => ⟨Hw_upd hH (by decide) (by decide) (by omega) (fun i _ h => by omega) (fun i _ h => by omega) (fun i _ h => by omega), updN_same v 2 (v 2 + 1), fun j hj => updN_ne v (v 2 + 1) hj.1, fun _ _ => rfl⟩
  | k + 1, hk => by
    have h1 := hH.2.1
    obtain ⟨i1, i2, i3, i4⟩ := passTo_inv hH hd k (by omega)
    rcases hp : passTo v k with ⟨v1, a1⟩
    rw [hp] at i1 i2 i3 i4
    dsimp only at i1 i2 i3 i4
    by_cases hg : goneN v1 k
    · rw [passTo_gone hp hg]; exact ⟨i1, i2, i3, fun j hj => i4 j (by omega)⟩
    · have hks := i1.2.2.2.1 k (by omega)
      have hxx : (if v1 (21 + 5 * k) = 4 then nearN v1 k else 0) < 512 := ite_lt (nearN_lt i1) (by decide)
      have hW : Hw (updN v1 (21 + 5 * k + 4) (v1 (21 + 5 * k + 4) ||| (if v1 (21 + 5 * k) = 4 then nearN v1 k else 0))) := Hw_upd i1 (by omega) (by omega) (Nat.lt_trans (or9 hks hxx) (by decide)) (fun _ _ _ => or9 hks hxx) (fun i hi h => by omega) (fun i hi h => by omega)
      by_cases hw : wakesN (v1 (21 + 5 * k)) (v1 2)
      · rw [passTo_wake hp hg hw]
        generalize hw1 : updN v1 (21 + 5 * k + 4) (v1 (21 + 5 * k + 4) ||| (if v1 (21 + 5 * k) = 4 then nearN v1 k else 0)) = w1 at hW
        have hE := eatN_Hw (i := k) hW (by omega)
        have hne : ∀ j, j ≠ 21 + 5 * k + 1 → j ≠ 21 + 5 * k + 4 → (∀ t, t < 9 → j ≠ 3 + 2 * t + 1) → (eatN w1 k).2 j = v1 j := by
          intro j a b c
          rw [eatN_ne hW (by omega) a b c, ← hw1, updN_ne _ _ b]
        have hl3 := i1.2.2.2.2.2 k (by omega)
        have e3 : (eatN w1 k).2 (21 + 5 * k + 3) = v1 (21 + 5 * k + 3) := hne _ (by omega) (by omega) (fun t ht => by omega)
        have hl2 : v1 (21 + 5 * k + 3) ≠ 3 := hg
        refine ⟨Hw_upd hE (by omega) (by omega) (ite_lt (by omega) (by omega)) (fun i hi h => by omega) (fun i hi h => by omega) (fun i hi h => Nat.le_of_lt_succ (ite_lt (by omega) (by omega))), ?_, ?_, ?_⟩
        · dsimp only
          rw [updN_ne _ _ (by omega), hne 2 (by omega) (by omega) (fun t ht => by omega)]; exact i2
        · intro j hj
          dsimp only
          have q := hj.2.1 k (by omega)
          rw [updN_ne _ _ q.2.1, hne j q.1 q.2.2 hj.2.2]; exact i3 j hj
        · intro j hj
          exact (va_up_ne _ _ (by omega)).trans (i4 j (by omega))
      · rw [passTo_sleep hp hg hw]
        refine ⟨hW, ?_, ?_, fun j hj => i4 j (by omega)⟩
        · dsimp only; rw [updN_ne _ _ (by omega)]; exact i2
        · intro j hj
          dsimp only
          rw [updN_ne _ _ (hj.2.1 k (by omega)).2.2]; exact i3 j hj
theorem still_0 : still 0 := ⟨by omega, fun i hi => ⟨by omega, by omega, by omega⟩, fun t ht => by omega⟩
theorem still_1 : still 1 := ⟨by omega, fun i hi => ⟨by omega, by omega, by omega⟩, fun t ht => by omega⟩
theorem still_k {i : Nat} (hi : i < 5) : still (21 + 5 * i) := ⟨by omega, fun i hi => ⟨by omega, by omega, by omega⟩, fun t ht => by omega⟩
theorem still_n {i : Nat} (hi : i < 5) : still (21 + 5 * i + 2) := ⟨by omega, fun i hi => ⟨by omega, by omega, by omega⟩, fun t ht => by omega⟩
theorem still_p {t : Nat} (ht : t < 9) : still (3 + 2 * t) := ⟨by omega, fun i hi => ⟨by omega, by omega, by omega⟩, fun t ht => by omega⟩
theorem passN_Hw {v : Nat → Nat} (hH : Hw v) (hd : v 2 < 65535) : Hw (passN v) := (passTo_inv hH hd _ (Nat.le_refl _)).1
theorem passN_2 {v : Nat → Nat} (hH : Hw v) (hd : v 2 < 65535) : passN v 2 = v 2 + 1 := (passTo_inv hH hd _ (Nat.le_refl _)).2.1
theorem passN_still {v : Nat → Nat} (hH : Hw v) (hd : v 2 < 65535) {j : Nat} (hj : still j) : passN v j = v j := (passTo_inv hH hd _ (Nat.le_refl _)).2.2.1 j hj
theorem ateN_none {v : Nat → Nat} (hH : Hw v) (hd : v 2 < 65535) {j : Nat} (hj : v 1 ≤ j) : ateN v j = none := (passTo_inv hH hd _ (Nat.le_refl _)).2.2.2 j hj
theorem daysN_inv {v : Nat → Nat} (hH : Hw v) : ∀ n, v 2 + n < 65535 → Hw (daysN n v) ∧ daysN n v 2 = v 2 + n ∧ ∀ j, still j → daysN n v j = v j
  | 0, _ => ⟨hH, rfl, fun _ _ => rfl⟩
  | n + 1, h => by
    obtain ⟨a, b, c⟩ := daysN_inv hH n (by omega)
    have hd : daysN n v 2 < 65535 := by omega
    exact ⟨passN_Hw a hd, by rw [daysN, passN_2 a hd]; omega, fun j hj => (passN_still a hd hj).trans (c j hj)⟩
theorem daysN_succ (v : Nat → Nat) : ∀ n, daysN (n + 1) v = daysN n (passN v)
  | 0 => rfl
  | n + 1 => by rw [daysN, daysN_succ v n, daysN]
/-! PURE: what can be undone, in the cells of an array -/
def shF (pf : Nat → Int32) (k : Nat) : Nat → Int32 := fun j => if j < k then pf (j + 46) else pf j
theorem shF_upd (pf : Nat → Int32) (k : Nat) : upd (shF pf k) k (pf (k + 46)) = shF pf (k + 1) := by
  funext j
  unfold upd shF
  by_cases h : j = k
  · subst h; rw [if_pos rfl, if_pos (Nat.lt_succ_self _)]
  · rw [if_neg h]
    by_cases h2 : j < k
    · rw [if_pos h2, if_pos (by omega)]
    · rw [if_neg h2, if_neg (by omega)]
def nU (nu : Nat) (v : Nat → Nat) (U : Nat → Nat → Nat) : Nat → Nat → Nat := if nu = 8 then (fun j => if j = 7 then v else U (j + 1)) else (fun j => if j = nu then v else U j)
theorem nU_full {v : Nat → Nat} {U : Nat → Nat → Nat} {pf : Nat → Int32} (hr : ∀ j, j < 8 → rH pf (46 * j) (U j)) : ∀ j, j < 7 → rH (shF pf 322) (46 * j) (nU 8 v U j) := by
  intro j hj k hk
  unfold shF nU
  rw [if_pos (by omega), if_pos rfl, if_neg (by omega)]
  have := hr (j + 1) (by omega) k hk
  rw [← this]; congr 1; omega
theorem nU_more {nu : Nat} {v : Nat → Nat} {U : Nat → Nat → Nat} {pf : Nat → Int32} (h8 : nu ≠ 8) (hr : ∀ j, j < nu → rH pf (46 * j) (U j)) : ∀ j, j < nu → rH pf (46 * j) (nU nu v U j) := by
  intro j hj k hk
  unfold nU
  rw [if_neg h8, if_neg (by omega)]
  exact hr j hj k hk
theorem nU_last (nu : Nat) (v : Nat → Nat) (U : Nat → Nat → Nat) {n1 : Nat} (h : n1 + 1 = (if nu = 8 then 8 else nu + 1)) : nU nu v U n1 = v := by
  unfold nU
  split
  · next h8 => rw [if_pos h8] at h; exact if_pos (by omega)
  · next h8 => rw [if_neg h8] at h; exact if_pos (by omega)
theorem rH_cpy {v : Nat → Nat} {pf : Nat → Int32} {n1 : Nat} {Us : Nat → Nat → Nat} (hl : Us n1 = v) (hr : ∀ j, j < n1 → rH pf (46 * j) (Us j)) : ∀ j, j < n1 + 1 → rH (va_cpy (vI v) pf 0 (46 * n1) 46) (46 * j) (Us j) := by
  intro j hj k hk
  unfold va_cpy
  by_cases h : j = n1
  · subst h
    rw [if_pos ⟨by omega, by omega⟩, hl]
    show nI _ = nI _
    congr 2; omega
  · rw [if_neg (by omega)]; exact hr j (by omega) k hk
