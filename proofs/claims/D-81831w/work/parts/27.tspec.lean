/-! SPEC: trails -/
set_option maxRecDepth 100000
abbrev TR : Type := List (Nat × Int32) × Nat × Option Nat
def sT (A : AS) (t : Nat) (o : Option TR) : AS := mkA (aT A) (aL A) (aV0 A) (aV A) (aU A) (aUs A) (aK A) (aS A) (aSg A) (va_up (aTr A) t o)
noncomputable def F_trail (A : AS) (x : Int32) : Int32 × AS := ifP (inR x 0 2) (nI 0, sT A (cl x) (some ([], 0, none))) (-2, A)
/-- the hand goes: where the thing is, and the hand then -/
def stepOk (r : TR) (w : Nat) : Prop := if w = 0 then r.2.1 < r.1.length else 0 < r.2.1
def stepAt (r : TR) (w : Nat) : Nat := if w = 0 then r.2.1 else r.2.1 - 1
def itemV (x : Nat × Int32) : Int32 := if x.1 = 0 then x.2 + nI 50000 else x.2
noncomputable def F_step (A : AS) (x w k : Int32) : Int32 × AS := ifP (inR x 0 2) (ifP (inR w 0 1 ∧ inR k 0 2) (match aTr A (cl x) with
  | none => (-11, A)
  | some r => ifP (stepOk r (cl w)) (if (r.1.getD (stepAt r (cl w)) (0, 0)).1 = cl k then (itemV (r.1.getD (stepAt r (cl w)) (0, 0)), sT A (cl x) (some (r.1, (if cl w = 0 then r.2.1 + 1 else r.2.1 - 1), some (stepAt r (cl w))))) else (-14, A)) (-12, A)) (-3, A)) (-2, A)
def wellP (k v : Int32) : Prop := (k = nI 0 ∧ -9999 ≤ v ∧ v ≤ nI 9999) ∨ (k = nI 2 ∧ inR v 0 9) ∨ k = nI 1
def badP (A : AS) (x k v : Int32) : Prop := ¬ inR x 0 2 ∨ (k = nI 1 ∧ ¬ isP (aV A 1) v)
noncomputable def F_add (A : AS) (x k v : Int32) : Int32 × AS := ifP (badP A x k v) (-2, A) (ifP (wellP k v) (match aTr A (cl x) with
  | none => (-11, A)
  | some r => if r.1.length = 12 then (-15, A) else (nI (r.1.length + 1), sT A (cl x) (some (r.1.take r.2.1 ++ (cl k, v) :: r.1.drop r.2.1, r.2.1 + 1, none)))) (-3, A))
noncomputable def F_set (A : AS) (x k v : Int32) : Int32 × AS := ifP (badP A x k v) (-2, A) (ifP (wellP k v) (match aTr A (cl x) with
  | none => (-11, A)
  | some r => (match r.2.2 with
    | none => (-13, A)
    | some p => (nI p, sT A (cl x) (some (r.1.set p (cl k, v), r.2.1, some p))))) (-3, A))
noncomputable def F_cut (A : AS) (x : Int32) : Int32 × AS := ifP (inR x 0 2) (match aTr A (cl x) with
  | none => (-11, A)
  | some r => (match r.2.2 with
    | none => (-13, A)
    | some p => (nI (r.1.length - 1), sT A (cl x) (some (r.1.take p ++ r.1.drop (p + 1), (if p < r.2.1 then r.2.1 - 1 else r.2.1), none))))) (-2, A)
noncomputable def F_rewind (A : AS) (x : Int32) : Int32 × AS := ifP (inR x 0 2) (match aTr A (cl x) with
  | none => (-11, A)
  | some r => (nI r.2.1, sT A (cl x) (some (r.1, 0, none)))) (-2, A)
noncomputable def F_drop (A : AS) (x : Int32) : Int32 × AS := ifP (inR x 0 2) (match aTr A (cl x) with
  | none => (-11, A)
  | some r => (nI r.1.length, sT A (cl x) none)) (-2, A)
theorem upd_ne' {f : Nat → Int32} {k j : Nat} {x : Int32} (h : j ≠ k) : upd f k x j = f j := if_neg h
theorem upd_s {f : Nat → Int32} {k : Nat} {x : Int32} : upd f k x k = x := if_pos rfl
/-- a row's things, from place a on, one up / one down -/
def upF (g : Nat → Int32) (a k n : Nat) : Nat → Int32 := fun j => if a + k < j ∧ j ≤ a + n then g (j - 1) else g j
theorem upF_0 (g : Nat → Int32) (a n : Nat) : upF g a n n = g := by
  funext j; unfold upF; rw [if_neg (by omega)]
theorem upF_upd (g : Nat → Int32) {a k n : Nat} (h : k + 1 ≤ n) : upd (upF g a (k + 1) n) (a + (k + 1)) (g (a + (k + 1) - 1)) = upF g a k n := by
  funext j
  unfold upd upF
  by_cases e : j = a + (k + 1)
  · subst e; rw [if_pos rfl, if_pos ⟨by omega, by omega⟩]
  · rw [if_neg e]
    by_cases e2 : a + (k + 1) < j ∧ j ≤ a + n
    · rw [if_pos e2, if_pos ⟨by omega, by omega⟩]
    · rw [if_neg e2, if_neg (by omega)]
theorem upF_at (g : Nat → Int32) {a k n : Nat} (h : k ≤ n) : upF g a k n (a + k - 1) = g (a + k - 1) ∨ k = 0 := by
  rcases Nat.eq_zero_or_pos k with h0 | h0
  · exact Or.inr h0
  · left; unfold upF; rw [if_neg (by omega)]
def dnF (g : Nat → Int32) (a p k : Nat) : Nat → Int32 := fun j => if a + p ≤ j ∧ j < a + k then g (j + 1) else g j
theorem dnF_0 (g : Nat → Int32) (a p : Nat) : dnF g a p p = g := by
  funext j; unfold dnF; rw [if_neg (by omega)]
theorem dnF_upd (g : Nat → Int32) {a p k : Nat} (h : p ≤ k) : upd (dnF g a p k) (a + k) (g (a + k + 1)) = dnF g a p (k + 1) := by
  funext j
  unfold upd dnF
  by_cases e : j = a + k
  · subst e; rw [if_pos rfl, if_pos ⟨by omega, by omega⟩]
  · rw [if_neg e]
    by_cases e2 : a + p ≤ j ∧ j < a + k
    · rw [if_pos e2, if_pos ⟨by omega, by omega⟩]
    · rw [if_neg e2, if_neg (by omega)]
theorem Tr_up {A : AS} {b b' : Nat → Nat → Int32} {t : Nat} {o : Option TR} (hA : AOk A) (hTr : ∀ t, t < 3 → tRel b t (aTr A t))
    (hne : ∀ t', t' < 3 → t' ≠ t → b' 20 t' = b 20 t' ∧ b' 21 t' = b 21 t' ∧ b' 22 t' = b 22 t' ∧ ∀ k, k < 12 → b' 23 (12 * t' + k) = b 23 (12 * t' + k) ∧ b' 24 (12 * t' + k) = b 24 (12 * t' + k)) (ho : tRel b' t o) : ∀ t', t' < 3 → tRel b' t' (va_up (aTr A) t o t') := by
  intro t' ht'
  unfold va_up
  by_cases e : t' = t
  · rw [if_pos e, e]; exact ho
  · rw [if_neg e]
    obtain ⟨h1, h2, h3, h4⟩ := hne t' ht' e
    have h := hTr t' ht'
    cases hx : aTr A t' with
    | none => rw [hx] at h; exact h1.trans h
    | some x =>
      obtain ⟨l, hh, c⟩ := x
      rw [hx] at h
      have hl := (hA.2.2.2.2.2.2 t' ht' l hh c hx).1
      exact ⟨h1.trans h.1, h2.trans h.2.1, h3.trans h.2.2.1, fun k hk => ⟨((h4 k (by omega)).1).trans (h.2.2.2 k hk).1, ((h4 k (by omega)).2).trans (h.2.2.2 k hk).2⟩⟩
/-- a thing set in -/
theorem ins_at {l : List (Nat × Int32)} {h k : Nat} {x : Nat × Int32} (hh : h ≤ l.length) (hk : k < l.length + 1) : (l.take h ++ x :: l.drop h).getD k (0, 0) = if k < h then l.getD k (0, 0) else if k = h then x else l.getD (k - 1) (0, 0) := by
  simp only [List.getD_eq_getElem?_getD]
  by_cases e : k < h
  · rw [if_pos e, List.getElem?_append_left (by rw [List.length_take]; omega), List.getElem?_take_of_lt e]
  · rw [if_neg e, List.getElem?_append_right (by rw [List.length_take]; omega), List.length_take, Nat.min_eq_left hh]
    by_cases e2 : k = h
    · subst e2; rw [if_pos rfl, Nat.sub_self]; rfl
    · rw [if_neg e2, show k - h = (k - h - 1) + 1 by omega, List.getElem?_cons_succ, List.getElem?_drop]
      congr 2; omega
theorem cut_at {l : List (Nat × Int32)} {p k : Nat} (hp : p < l.length) (hk : k < l.length - 1) : (l.take p ++ l.drop (p + 1)).getD k (0, 0) = if k < p then l.getD k (0, 0) else l.getD (k + 1) (0, 0) := by
  simp only [List.getD_eq_getElem?_getD]
  by_cases e : k < p
  · rw [if_pos e, List.getElem?_append_left (by rw [List.length_take]; omega), List.getElem?_take_of_lt e]
  · rw [if_neg e, List.getElem?_append_right (by rw [List.length_take]; omega), List.length_take, Nat.min_eq_left (by omega), List.getElem?_drop]
    congr 2; omega
