/-! SPEC: the text: tokens, clauses -/
set_option maxRecDepth 100000
def runF (tx : Nat → Nat) (n : Nat) (P : Nat → Bool) : Nat → Nat → Nat
  | 0, i => i
  | f + 1, i => if i < n ∧ P (tx i) = true then runF tx n P f (i + 1) else i
/-- the first place from i on at which P isn't so -/
def run (tx : Nat → Nat) (n : Nat) (P : Nat → Bool) (i : Nat) : Nat := runF tx n P (n - i) i
theorem run_go {tx : Nat → Nat} {n : Nat} {P : Nat → Bool} {i : Nat} (h : i < n) (hP : P (tx i) = true) : run tx n P i = run tx n P (i + 1) := by
  unfold run
  rw [show n - i = (n - (i + 1)) + 1 by omega, runF, if_pos ⟨h, hP⟩]
theorem run_stop {tx : Nat → Nat} {n : Nat} {P : Nat → Bool} {i : Nat} (h : ¬ (i < n ∧ P (tx i) = true)) : run tx n P i = i := by
  unfold run
  cases n - i with
  | zero => rfl
  | succ f => rw [runF, if_neg h]
theorem run_ge (tx : Nat → Nat) (n : Nat) (P : Nat → Bool) : ∀ f i, n - i = f → i ≤ run tx n P i ∧ (i ≤ n → run tx n P i ≤ n) ∧ (∀ j, i ≤ j → j < run tx n P i → P (tx j) = true) ∧ ¬ (run tx n P i < n ∧ P (tx (run tx n P i)) = true)
  | 0, i, h => by
    have e : run tx n P i = i := run_stop (by omega)
    rw [e]
    exact ⟨Nat.le_refl _, fun h => h, fun j h1 h2 => by omega, by omega⟩
  | f + 1, i, h => by
    by_cases hP : P (tx i) = true
    · rw [run_go (by omega) hP]
      obtain ⟨a, b, c, d⟩ := run_ge tx n P f (i + 1) (by omega)
      refine ⟨by omega, fun _ => b (by omega), fun j h1 h2 => ?_, d⟩
      by_cases e : j = i
      · rw [e]; exact hP
      · exact c j (by omega) h2
    · have e : run tx n P i = i := run_stop (fun q => hP q.2)
      rw [e]
      exact ⟨Nat.le_refl _, fun h => h, fun j h1 h2 => by omega, fun q => hP q.2⟩
def isSp (c : Nat) : Bool := decide (c = 32)
def isSm (c : Nat) : Bool := decide (97 ≤ c ∧ c ≤ 122)
def isDg (c : Nat) : Bool := decide (48 ≤ c ∧ c ≤ 57)
def clsN (c : Nat) : Nat := if isSm c = true then 1 else if isDg c = true then 2 else if c = 59 then 3 else 4
/-- the token from p on: where it begins, of which class, where it ends, how long (words, figures), its value -/
def tF (tx : Nat → Nat) (n p : Nat) : Nat := run tx n isSp p
def tK (tx : Nat → Nat) (n p : Nat) : Nat := if tF tx n p < n then clsN (tx (tF tx n p)) else 0
def tP (k : Nat) : Nat → Bool := if k = 1 then isSm else isDg
def tE (tx : Nat → Nat) (n p : Nat) : Nat := if tK tx n p = 1 ∨ tK tx n p = 2 then run tx n (tP (tK tx n p)) (tF tx n p) else tF tx n p
def tL (tx : Nat → Nat) (n p : Nat) : Nat := tE tx n p - tF tx n p
def tS (tx : Nat → Nat) (n p : Nat) : Nat := tE tx n p + (if tK tx n p = 3 ∨ tK tx n p = 4 then 1 else 0)
def valN (k : Nat) (tx : Nat → Nat) (i : Nat) : Nat → Nat
  | 0 => 0
  | j + 1 => if k = 1 then 32 * valN k tx i j + tx (i + j) - 96 else 10 * valN k tx i j + tx (i + j) - 48
def vO (k : Nat) (tx : Nat → Nat) (i j : Nat) : Option Nat := if j ≤ 6 then some (valN k tx i j) else none
def tV (tx : Nat → Nat) (n p : Nat) : Option Nat := vO (tK tx n p) tx (tF tx n p) (tL tx n p)
theorem valN_lt {k : Nat} {tx : Nat → Nat} {i : Nat} : ∀ j, (∀ m, m < j → tx (i + m) < 256 ∧ (k = 1 → tx (i + m) ≤ 122) ∧ (k ≠ 1 → tx (i + m) ≤ 57)) → valN k tx i j < 32 ^ j
  | 0, _ => by simp [valN]
  | j + 1, h => by
    have ih := valN_lt (k := k) (tx := tx) (i := i) j (fun m hm => h m (by omega))
    obtain ⟨a, b, c⟩ := h j (by omega)
    rw [valN, Nat.pow_succ]
    split
    · next e => have := b e; omega
    · next e => have := c e; omega
/-! words by their letters -/
def codeN : List Nat → Nat → Nat
  | [], a => a
  | c :: l, a => codeN l (32 * a + c - 96)
def isHead (tx : Nat → Nat) (i j : Nat) (l : List Nat) : Prop := j = l.length ∧ ∀ m, m < l.length → tx (i + m) = l.getD m 0
theorem val_inj {tx : Nat → Nat} {i : Nat} {g : Nat → Nat} : ∀ (j j2 : Nat), (∀ m, m < j → 97 ≤ tx (i + m) ∧ tx (i + m) ≤ 122) → (∀ m, m < j2 → 97 ≤ g m ∧ g m ≤ 122) → valN 1 tx i j = valN 1 g 0 j2 → j = j2 ∧ ∀ m, m < j → tx (i + m) = g m
  | 0, 0, _, _, _ => ⟨rfl, fun m h => absurd h (Nat.not_lt_zero m)⟩
  | 0, j2 + 1, _, h2, e => by
    have := h2 j2 (by omega)
    simp only [valN, if_true, Nat.zero_add] at e
    omega
  | j + 1, 0, h1, _, e => by
    have := h1 j (by omega)
    simp only [valN, if_true] at e
    omega
  | j + 1, j2 + 1, h1, h2, e => by
    have a := h1 j (by omega)
    have c := h2 j2 (by omega)
    simp only [valN, if_true, Nat.zero_add] at e
    have e1 : tx (i + j) = g j2 := by omega
    have e2 : valN 1 tx i j = valN 1 g 0 j2 := by omega
    obtain ⟨f1, f2⟩ := val_inj j j2 (fun m hm => h1 m (by omega)) (fun m hm => h2 m (by omega)) e2
    subst f1
    refine ⟨rfl, fun m hm => ?_⟩
    by_cases q : m = j
    · rw [q]; exact e1
    · exact f2 m (by omega)
def heads : List (List Nat) := [[112, 108, 97, 105, 110], [103, 114, 101, 101, 100, 121], [110, 101, 97, 116], [100, 111, 122, 121], [115, 112, 121], [104, 101, 100, 103, 101], [112, 105, 116], [107, 110, 111, 119, 115]]
/-- the token from p on is the word h of heads -/
def tH (tx : Nat → Nat) (n p h : Nat) : Prop := tK tx n p = 1 ∧ isHead tx (tF tx n p) (tL tx n p) (heads.getD h [])
/-- the number from p on is one of low .. -/
def tN (tx : Nat → Nat) (n p low high : Nat) : Prop := tK tx n p = 2 ∧ tL tx n p ≤ 2 ∧ low ≤ valN 2 tx (tF tx n p) (tL tx n p) ∧ valN 2 tx (tF tx n p) (tL tx n p) < high
def tQ (tx : Nat → Nat) (n p : Nat) : Nat := valN 2 tx (tF tx n p) (tL tx n p)
def putQ (v : Nat → Nat) (kind place needs : Nat) : Nat → Nat := updN (updN (updN (updN v (21 + 5 * v 1) kind) (21 + 5 * v 1 + 1) place) (21 + 5 * v 1 + 2) needs) 1 (v 1 + 1)
def putP (v : Nat → Nat) (place nuts : Nat) : Nat → Nat := updN (updN (updN v (3 + 2 * v 0) place) (3 + 2 * v 0 + 1) nuts) 0 (v 0 + 1)
def putK (v : Nat → Nat) (who pit : Nat) : Nat → Nat := updN v (21 + 5 * who + 4) (v (21 + 5 * who + 4) ||| 2 ^ pit)
/-- two numbers, behind the head at p: where the first that cannot stand is, or what they are -/
noncomputable def twoN (tx : Nat → Nat) (n p l1 h1 l2 h2 : Nat) (k : Nat → Nat → (Nat → Nat)) : Nat ⊕ ((Nat → Nat) × Nat) :=
  ifP (tN tx n (tS tx n p) l1 h1) (ifP (tN tx n (tS tx n (tS tx n p)) l2 h2) (.inr (k (tQ tx n (tS tx n p)) (tQ tx n (tS tx n (tS tx n p))), tS tx n (tS tx n (tS tx n p)))) (.inl (tF tx n (tS tx n (tS tx n p))))) (.inl (tF tx n (tS tx n p)))
/-- a clause, its head the token at p -/
noncomputable def clauseN (tx : Nat → Nat) (n : Nat) (v : Nat → Nat) (p : Nat) : Nat ⊕ ((Nat → Nat) × Nat) :=
  ifP (∃ h, h < 5 ∧ tH tx n p h) (if v 1 = 5 then .inl (tF tx n p) else ifP (tH tx n p 0) (twoN tx n p 0 20 1 10 (putQ v 0)) (ifP (tH tx n p 1) (twoN tx n p 0 20 1 10 (putQ v 1)) (ifP (tH tx n p 2) (twoN tx n p 0 20 1 10 (putQ v 2)) (ifP (tH tx n p 3) (twoN tx n p 0 20 1 10 (putQ v 3)) (twoN tx n p 0 20 1 10 (putQ v 4))))))
  (ifP (tH tx n p 5) (.inr (fun _ => 0, tS tx n p)) (ifP (tH tx n p 6) (if v 0 = 9 then .inl (tF tx n p) else twoN tx n p 0 20 0 100 (putP v)) (ifP (tH tx n p 7) (twoN tx n p 0 (v 1) 0 (v 0) (putK v)) (.inl (tF tx n p)))))
noncomputable def parN (tx : Nat → Nat) (n : Nat) : Nat → Nat → (Nat → Nat) → Nat → Nat ⊕ ((Nat → Nat) × Nat)
  | 0, _, _, _ => .inl 0
  | f + 1, c, v, p => match clauseN tx n v p with
    | .inl w => .inl w
    | .inr r => if tK tx n r.2 = 3 ∧ c < 24 then parN tx n f (c + 1) r.1 (tS tx n r.2) else if tK tx n r.2 = 0 then .inr (r.1, c) else .inl (tF tx n r.2)
noncomputable def parA (A : AS) : Nat ⊕ ((Nat → Nat) × Nat) := parN (aT A) (aL A) 24 1 (aV0 A) 0
noncomputable def F_fault (A : AS) : Int32 := match parA A with
  | .inl w => nI w
  | .inr _ => -1
noncomputable def F_hedge (A : AS) : Int32 × AS := match parA A with
  | .inl _ => (-4, A)
  | .inr r => (nI r.2, mkA (aT A) 0 r.1 r.1 0 (aUs A) (fun _ => none) 0 (aSg A) (fun _ => none))
/-! the model's look at the text -/
def lookN (tx : Nat → Nat) (n k : Nat) : Option Nat := if k < n then some (tx k) else none
theorem look_eq {tx : Nat → Nat} {n k c : Nat} (ht : ∀ j, j < n → tx j < 256) (hc : c < 256) : optI (lookN tx n k) = nI c ↔ k < n ∧ tx k = c := by
  unfold lookN
  by_cases h : k < n
  · rw [if_pos h]
    show nI (tx k) = nI c ↔ _
    rw [nI_eq (by have := ht k h; omega) (by omega)]
    exact ⟨fun q => ⟨h, q⟩, fun q => q.2⟩
  · rw [if_neg h]
    constructor
    · intro q
      exact absurd (show nI c = -1 from q.symm) (nI_nm1 (by omega))
    · intro q; exact absurd q.1 h
theorem look_in {tx : Nat → Nat} {n k a c : Nat} (hc : c < 256) (ht : ∀ j, j < n → tx j < 256) : inR (optI (lookN tx n k)) a c ↔ k < n ∧ a ≤ tx k ∧ tx k ≤ c := by
  unfold lookN
  by_cases h : k < n
  · rw [if_pos h]
    have h2 := ht k h
    constructor
    · rintro ⟨j, h3, h4, h5⟩
      have h6 : nI (tx k) = nI j := h5
      rw [nI_eq (by omega) (by omega)] at h6
      exact ⟨h, by omega, by omega⟩
    · rintro ⟨-, h3, h4⟩; exact ⟨tx k, h3, h4, rfl⟩
  · rw [if_neg h]
    constructor
    · rintro ⟨j, h3, h4, h5⟩
      exact absurd (show nI j = -1 from h5.symm) (nI_nm1 (by omega))
    · rintro ⟨h3, -⟩; exact absurd h3 h
theorem tF_le {tx : Nat → Nat} {n p : Nat} (hp : p ≤ n) : p ≤ tF tx n p ∧ tF tx n p ≤ n := by
  obtain ⟨a, b, -, -⟩ := run_ge tx n isSp (n - p) p rfl
  exact ⟨a, b hp⟩
theorem tK_lt (tx : Nat → Nat) (n p : Nat) : tK tx n p < 5 := by
  unfold tK clsN
  split
  · split
    · decide
    · split
      · decide
      · split <;> decide
  · decide
theorem tE_le {tx : Nat → Nat} {n p : Nat} (hp : p ≤ n) : tF tx n p ≤ tE tx n p ∧ tE tx n p ≤ n := by
  have h := (tF_le (tx := tx) hp).2
  unfold tE
  split
  · obtain ⟨a, b, -, -⟩ := run_ge tx n (tP (tK tx n p)) (n - tF tx n p) (tF tx n p) rfl
    exact ⟨a, b h⟩
  · exact ⟨Nat.le_refl _, h⟩
theorem tS_le {tx : Nat → Nat} {n p : Nat} (hp : p ≤ n) : tS tx n p ≤ n := by
  have h := tE_le (tx := tx) hp
  unfold tS
  split
  · next hk =>
    have h1 : ¬ (tK tx n p = 1 ∨ tK tx n p = 2) := by omega
    have h2 : tE tx n p = tF tx n p := if_neg h1
    have h3 : tF tx n p < n := by
      rcases Nat.lt_or_ge (tF tx n p) n with q | q
      · exact q
      · have : tK tx n p = 0 := if_neg (by omega)
        omega
    omega
  · omega
theorem tL_le {tx : Nat → Nat} {n p : Nat} (hp : p ≤ n) : tL tx n p ≤ n := by
  have h := tE_le (tx := tx) hp
  unfold tL; omega
/-- the letters of a word or a number -/
theorem tok_cls {tx : Nat → Nat} {n p m : Nat} (hp : p ≤ n) (hm : m < tL tx n p) : (tK tx n p = 1 ∧ 97 ≤ tx (tF tx n p + m) ∧ tx (tF tx n p + m) ≤ 122) ∨ (tK tx n p = 2 ∧ 48 ≤ tx (tF tx n p + m) ∧ tx (tF tx n p + m) ≤ 57) := by
  by_cases hk : tK tx n p = 1 ∨ tK tx n p = 2
  · have hE : tE tx n p = run tx n (tP (tK tx n p)) (tF tx n p) := if_pos hk
    unfold tL at hm
    rw [hE] at hm
    obtain ⟨a, b, c, d⟩ := run_ge tx n (tP (tK tx n p)) (n - tF tx n p) (tF tx n p) rfl
    have h := c (tF tx n p + m) (by omega) (by omega)
    rcases hk with hk | hk
    · rw [hk] at h
      exact Or.inl ⟨hk, by simpa [tP, isSm] using h⟩
    · rw [hk] at h
      exact Or.inr ⟨hk, by simpa [tP, isDg] using h⟩
  · have hE : tE tx n p = tF tx n p := if_neg hk
    unfold tL at hm
    omega
theorem tV_lt {tx : Nat → Nat} {n p x : Nat} (hp : p ≤ n) (h : tV tx n p = some x) : x < 1073741824 := by
  unfold tV vO at h
  split at h
  · next hl =>
    cases h
    have h1 : valN (tK tx n p) tx (tF tx n p) (tL tx n p) < 32 ^ tL tx n p := valN_lt _ (fun m hm => by
      rcases tok_cls hp hm with ⟨a, b, c⟩ | ⟨a, b, c⟩
      · exact ⟨by omega, fun _ => c, fun q => absurd a q⟩
      · exact ⟨by omega, fun q => by omega, fun _ => c⟩)
    have h2 : 32 ^ tL tx n p ≤ 32 ^ 6 := Nat.pow_le_pow_right (by decide) hl
    omega
  · cases h
