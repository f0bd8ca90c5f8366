/-! PURE: hedges as rows of numbers (0 pits, 1 squirrels, 2 the day; 3+2t, 3+2t+1 place and nuts; 21+5s .. kind, where, needs, lean, known) -/
set_option maxRecDepth 100000
theorem has_iff (a k : Nat) : (a / 2 ^ k) &&& 1 = 1 ↔ a.testBit k = true := by
  rw [Nat.and_one_is_mod, Nat.testBit_eq_decide_div_mod_eq]
  simp
theorem has_niff (a k : Nat) : (a / 2 ^ k) &&& 1 ≠ 1 ↔ ¬ a.testBit k = true := not_congr (has_iff a k)
/-- a set of the numbers below n, by bits -/
def orB (f : Nat → Bool) : Nat → Nat
  | 0 => 0
  | n + 1 => orB f n ||| (if f n = true then 2 ^ n else 0)
theorem orB_bit (f : Nat → Bool) : ∀ (n j : Nat), (orB f n).testBit j = (decide (j < n) && f j)
  | 0, j => by simp [orB]
  | n + 1, j => by
    rw [orB, Nat.testBit_or, orB_bit f n j]
    by_cases h : f n = true
    · rw [if_pos h, Nat.testBit_two_pow]
      by_cases hj : n = j
      · subst hj; simp [h]
      · have e : decide (j < n + 1) = decide (j < n) := by
          apply decide_eq_decide.mpr; omega
        simp [hj, e]
    · rw [if_neg h]
      by_cases hj : j = n
      · subst hj; simp [h]
      · have e : decide (j < n + 1) = decide (j < n) := by
          apply decide_eq_decide.mpr; omega
        simp [e]
theorem orB_lt (f : Nat → Bool) (n : Nat) : orB f n < 2 ^ n := by
  induction n with
  | zero => simp [orB]
  | succ n ih =>
    rw [orB]
    apply Nat.or_lt_two_pow
    · exact Nat.lt_trans ih (Nat.pow_lt_pow_right (by decide) (Nat.lt_succ_self n))
    · split
      · exact Nat.pow_lt_pow_right (by decide) (Nat.lt_succ_self n)
      · exact Nat.two_pow_pos _
theorem orB_congr {f g : Nat → Bool} {n : Nat} (h : ∀ j, j < n → f j = g j) : orB f n = orB g n := by
  induction n with
  | zero => rfl
  | succ n ih => rw [orB, orB, ih (fun j hj => h j (by omega)), h n (by omega)]
/-- of the lowest n bits, how many -/
def onesN (a : Nat) : Nat → Nat
  | 0 => 0
  | n + 1 => onesN a n + (a / 2 ^ n &&& 1)
theorem onesN_le (a n : Nat) : onesN a n ≤ n := by
  induction n with
  | zero => exact Nat.le_refl _
  | succ n ih =>
    rw [onesN, Nat.and_one_is_mod]
    omega
def apartN (a b : Nat) : Nat := if a < b then b - a else a - b
def wantsN (k n : Nat) : Nat := if k = 1 then 2 * n else if k < 3 then n else n + 1
def wakesN (k d : Nat) : Prop := k = 3 → d % 2 = 0
def goneN (v : Nat → Nat) (s : Nat) : Prop := v (21 + 5 * s + 3) = 3
def fullN (v : Nat → Nat) : Nat := orB (fun p => decide (0 < v (3 + 2 * p + 1))) (v 0)
def nearN (v : Nat → Nat) (s : Nat) : Nat := orB (fun p => decide (apartN (v (3 + 2 * p)) (v (21 + 5 * s + 1)) < 3)) (v 0) &&& fullN v
def aliveN (v : Nat → Nat) : Nat := orB (fun s => decide (¬ v (21 + 5 * s + 3) = 3)) (v 1)
def nearerN (v : Nat → Nat) (s p o : Nat) : Prop := apartN (v (21 + 5 * s + 1)) (v (3 + 2 * p)) < apartN (v (21 + 5 * s + 1)) (v (3 + 2 * o)) ∨ (apartN (v (21 + 5 * s + 1)) (v (3 + 2 * p)) = apartN (v (21 + 5 * s + 1)) (v (3 + 2 * o)) ∧ v (3 + 2 * p) < v (3 + 2 * o))
/-- whether p is gone to ahead of o, told ahead of it, by kind -/
def betterN (v : Nat → Nat) (s p o : Nat) : Prop :=
  (v (21 + 5 * s) = 2 ∧ (v (3 + 2 * p + 1) < v (3 + 2 * o + 1) ∨ (v (3 + 2 * p + 1) = v (3 + 2 * o + 1) ∧ nearerN v s p o))) ∨ (v (21 + 5 * s) < 2 ∧ nearerN v s p o)
noncomputable def dB (P : Prop) : Bool := @decide P (Classical.propDecidable P)
theorem dB_iff {P : Prop} : dB P = true ↔ P := by unfold dB; exact @decide_eq_true_iff P (Classical.propDecidable P)
theorem dB_t {P : Prop} (h : P) : dB P = true := dB_iff.mpr h
theorem dB_f {P : Prop} (h : ¬ P) : dB P = false := by
  cases hd : dB P with
  | false => rfl
  | true => exact absurd (dB_iff.mp hd) h
/-- the one of the pits below n in set that s goes to -/
noncomputable def picksN (v : Nat → Nat) (s set : Nat) : Nat → Option Nat
  | 0 => none
  | p + 1 => if set.testBit p = true then (match picksN v s set p with
      | none => some p
      | some o => if dB (betterN v s p o) = true then some p else some o) else picksN v s set p
theorem picksN_lt {v : Nat → Nat} {s set : Nat} : ∀ {n o : Nat}, picksN v s set n = some o → o < n ∧ set.testBit o = true
  | 0, o, h => by simp [picksN] at h
  | n + 1, o, h => by
    rw [picksN] at h
    split at h
    · next hb =>
      split at h
      · cases h; exact ⟨Nat.lt_succ_self _, hb⟩
      · next o' ho =>
        have := picksN_lt ho
        split at h
        · cases h; exact ⟨Nat.lt_succ_self _, hb⟩
        · cases h; exact ⟨by omega, this.2⟩
    · have := picksN_lt h
      exact ⟨by omega, this.2⟩
theorem picksN_some {v : Nat → Nat} {s set : Nat} : ∀ {n : Nat}, picksN v s set n = none → ∀ j, j < n → ¬ set.testBit j = true
  | 0, _, j, hj => absurd hj (Nat.not_lt_zero _)
  | n + 1, h, j, hj => by
    rw [picksN] at h
    split at h
    · split at h
      · cases h
      · split at h <;> cases h
    · next hb =>
      by_cases e : j = n
      · subst e; exact hb
      · exact picksN_some h j (by omega)
def clrN (k p : Nat) : Nat := k ^^^ (k &&& 2 ^ p)
theorem clr_int : ∀ p, p < 9 → ∀ k, k < 512 → nI k &&& (nI (2 ^ p) ^^^ (-1)) = nI (clrN k p) ∧ clrN k p < 512 := by decide +kernel
theorem and_m1 (x : Int32) : x &&& (-1) = x := by
  apply Int32.toBitVec_inj.mp
  have e : (-1 : Int32).toBitVec = BitVec.allOnes 32 := by decide
  simp [e]
noncomputable def mayN (v : Nat → Nat) (s : Nat) : Nat := v (21 + 5 * s + 4) &&& fullN v
/-- one goes for nuts once: how many, and the hedge then -/
def eatOne (v : Nat → Nat) (s p its : Nat) : Nat → Nat :=
  let w := updN (updN v (21 + 5 * s + 1) (v (3 + 2 * p))) (3 + 2 * p + 1) (v (3 + 2 * p + 1) - its)
  updN w (21 + 5 * s + 4) (if v (3 + 2 * p + 1) - its = 0 then clrN (v (21 + 5 * s + 4)) p else v (21 + 5 * s + 4))
noncomputable def eatsN (s : Nat) : Nat → (Nat → Nat) → Nat → Nat × (Nat → Nat)
  | 0, v, sum => (sum, v)
  | f + 1, v, sum => if sum < wantsN (v (21 + 5 * s)) (v (21 + 5 * s + 2)) ∧ mayN v s ≠ 0 then (match picksN v s (mayN v s) (v 0) with
      | none => (sum, v)
      | some p => eatsN s f (eatOne v s p (min (wantsN (v (21 + 5 * s)) (v (21 + 5 * s + 2)) - sum) (v (3 + 2 * p + 1)))) (sum + min (wantsN (v (21 + 5 * s)) (v (21 + 5 * s + 2)) - sum) (v (3 + 2 * p + 1)))) else (sum, v)
noncomputable def eatN (v : Nat → Nat) (s : Nat) : Nat × (Nat → Nat) := eatsN s 20 v 0
/-- the day, for the squirrels below n: the hedge, and what each that woke ate -/
noncomputable def passTo (v : Nat → Nat) : Nat → (Nat → Nat) × (Nat → Option Nat)
  | 0 => (updN v 2 (v 2 + 1), fun _ => none)
  | s + 1 =>
    let w := (passTo v s).1
    let a := (passTo v s).2
    if w (21 + 5 * s + 3) = 3 then (w, a) else
      let w1 := updN w (21 + 5 * s + 4) (w (21 + 5 * s + 4) ||| (if w (21 + 5 * s) = 4 then nearN w s else 0))
      if dB (wakesN (w (21 + 5 * s)) (w 2)) = true then
        let e := eatN w1 s
        (updN e.2 (21 + 5 * s + 3) (if e.1 < e.2 (21 + 5 * s + 2) then e.2 (21 + 5 * s + 3) + 1 else e.2 (21 + 5 * s + 3) - 1), va_up a s (some e.1))
      else (w1, a)
noncomputable def passN (v : Nat → Nat) : Nat → Nat := (passTo v (v 1)).1
noncomputable def ateN (v : Nat → Nat) : Nat → Option Nat := (passTo v (v 1)).2
noncomputable def daysN : Nat → (Nat → Nat) → (Nat → Nat)
  | 0, v => v
  | n + 1, v => passN (daysN n v)
