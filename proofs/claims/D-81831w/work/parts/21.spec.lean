/-! SPEC: what each of the law's calls answers, and the state behind it; both sides are tied to it -/
set_option maxRecDepth 100000
/-- letters, how many; told, now; what can be undone; kept; what was seen; trails (things by kind and number, the hand, what it came by) -/
abbrev AS : Type := (Nat → Nat) × Nat × (Nat → Nat) × (Nat → Nat) × Nat × (Nat → Nat → Nat) × (Nat → Option (Nat → Nat)) × Nat × (Nat → Nat) × (Nat → Option (List (Nat × Int32) × Nat × Option Nat))
def mkA (tx : Nat → Nat) (le : Nat) (v0 v : Nat → Nat) (u : Nat) (U : Nat → Nat → Nat) (K : Nat → Option (Nat → Nat)) (si : Nat) (sg : Nat → Nat) (tr : Nat → Option (List (Nat × Int32) × Nat × Option Nat)) : AS := (tx, le, v0, v, u, U, K, si, sg, tr)
def aT (A : AS) : Nat → Nat := A.1
def aL (A : AS) : Nat := A.2.1
def aV0 (A : AS) : Nat → Nat := A.2.2.1
def aV (A : AS) : Nat → Nat := A.2.2.2.1
def aU (A : AS) : Nat := A.2.2.2.2.1
def aUs (A : AS) : Nat → Nat → Nat := A.2.2.2.2.2.1
def aK (A : AS) : Nat → Option (Nat → Nat) := A.2.2.2.2.2.2.1
def aS (A : AS) : Nat := A.2.2.2.2.2.2.2.1
def aSg (A : AS) : Nat → Nat := A.2.2.2.2.2.2.2.2.1
def aTr (A : AS) : Nat → Option (List (Nat × Int32) × Nat × Option Nat) := A.2.2.2.2.2.2.2.2.2
def sV (A : AS) (v : Nat → Nat) : AS := mkA (aT A) (aL A) (aV0 A) v (aU A) (aUs A) (aK A) (aS A) (aSg A) (aTr A)
noncomputable def ifP {α : Type} (P : Prop) (a b : α) : α := @ite α P (Classical.propDecidable P) a b
theorem ifP_t {α : Type} {P : Prop} {a b : α} (h : P) : ifP P a b = a := by unfold ifP; exact if_pos h
theorem ifP_f {α : Type} {P : Prop} {a b : α} (h : ¬ P) : ifP P a b = b := by unfold ifP; exact if_neg h
def isP (n : Nat) (x : Int32) : Prop := ∃ t, t < n ∧ x = nI t
def inR (x : Int32) (a b : Nat) : Prop := ∃ k, a ≤ k ∧ k ≤ b ∧ x = nI k
def cl (x : Int32) : Nat := x.toNatClampNeg
theorem cl_nI {k : Nat} (h : k < 2147483648) : cl (nI k) = k := nI_clamp h
theorem inR_iff {x : Int32} {a b : Nat} (ha : a < 2147483648) (hb : b < 2147483648) : (nI a ≤ x ∧ x ≤ nI b) ↔ inR x a b := by
  constructor
  · intro ⟨h1, h2⟩
    have e1 := Int32.le_iff_toInt_le.mp h1
    have e2 := Int32.le_iff_toInt_le.mp h2
    rw [nI_toInt ha] at e1
    rw [nI_toInt hb] at e2
    refine ⟨x.toInt.toNat, by omega, by omega, ?_⟩
    apply Int32.toInt_inj.mp
    rw [nI_toInt (by omega)]
    omega
  · rintro ⟨k, h1, h2, rfl⟩
    exact ⟨nI_le h1 (by omega), nI_le h2 hb⟩
theorem isP_iff {x : Int32} {n : Nat} (hn : n < 1000000) : (nI 0 ≤ x ∧ x ≤ nI n - nI 1) ↔ isP n x := by
  by_cases h0 : n = 0
  · subst h0
    constructor
    · intro ⟨h1, h2⟩
      have e := Int32.le_trans h1 h2
      exact absurd e (by decide)
    · rintro ⟨t, ht, -⟩
      exact absurd ht (Nat.not_lt_zero _)
  · rw [nI_sub (by omega), inR_iff (by decide) (by omega)]
    constructor
    · rintro ⟨k, -, h2, h3⟩
      exact ⟨k, by omega, h3⟩
    · rintro ⟨k, h2, h3⟩
      exact ⟨k, Nat.zero_le _, by omega, h3⟩
/-! hedges, foretold -/
def knowN (v : Nat → Nat) (t : Nat) : Nat := orB (fun i => (v (21 + 5 * i + 4)).testBit t) (v 1)
def castN (k kind : Nat) : Prop := k = 0 ∨ k = kind + 1 ∨ (k = 1 ∧ kind + 1 < 4) ∨ (k = 4 ∧ kind + 1 = 5)
def buryN (v : Nat → Nat) (i n : Nat) : Nat → Nat := updN (updN (updN (updN v (3 + 2 * v 0) (v (21 + 5 * i + 1))) (3 + 2 * v 0 + 1) n) (21 + 5 * i + 4) (v (21 + 5 * i + 4) ||| 2 ^ v 0)) 0 (v 0 + 1)
noncomputable def hungN (i : Nat) : Nat → (Nat → Nat) → Nat → Option Nat
  | 0, _, _ => none
  | f + 1, v, n => if dB (∃ e, ateN v i = some e ∧ e < passN v (21 + 5 * i + 2)) = true then some n else hungN i f (passN v) (n + 1)
noncomputable def lastN (i : Nat) : Nat → (Nat → Nat) → Nat → Option Nat
  | 0, _, _ => none
  | f + 1, v, n => if v (21 + 5 * i + 3) = 3 then some n else lastN i f (passN v) (n + 1)
noncomputable def liveN (v : Nat → Nat) (n : Nat) : Nat := onesN (aliveN (daysN n v)) 9
noncomputable def enN (v : Nat → Nat) (t n : Nat) : Nat → Nat → Option Nat
  | 0, _ => none
  | f + 1, more => if v (3 + 2 * t + 1) + more < 100 then (if aliveN (daysN n (updN v (3 + 2 * t + 1) (v (3 + 2 * t + 1) + more))) = aliveN v then some more else enN v t n f (more + 1)) else none
noncomputable def woN (v : Nat → Nat) (n : Nat) : Nat → Option Nat × Option Nat
  | 0 => (none, none)
  | t + 1 => match woN v n t with
    | (some w, some few) => if liveN (updN v (3 + 2 * t + 1) 0) n < few then (some t, some (liveN (updN v (3 + 2 * t + 1) 0) n)) else (some w, some few)
    | _ => (some t, some (liveN (updN v (3 + 2 * t + 1) 0) n))
noncomputable def whIn (v : Nat → Nat) (n i : Nat) (st : Option Nat × Nat) : Nat → Option Nat × Nat
  | 0 => st
  | t + 1 => if ¬ v (21 + 5 * i + 3) = 3 ∧ ¬ (v (21 + 5 * i + 4)).testBit t = true then
      (if (whIn v n i st t).2 < liveN (updN v (21 + 5 * i + 4) (v (21 + 5 * i + 4) ||| 2 ^ t)) n then (some (10 * i + t), liveN (updN v (21 + 5 * i + 4) (v (21 + 5 * i + 4) ||| 2 ^ t)) n) else whIn v n i st t) else whIn v n i st t
noncomputable def whOut (v : Nat → Nat) (n : Nat) : Nat → Option Nat × Nat
  | 0 => (none, liveN v n)
  | i + 1 => whIn v n i (whOut v n i) (v 0)
/-- the hedge without the nuts of the pits in set, below t -/
def jayH (v : Nat → Nat) (set : Nat) : Nat → Nat → Nat
  | 0 => v
  | t + 1 => updN (jayH v set t) (3 + 2 * t + 1) (if set.testBit t = true then 0 else v (3 + 2 * t + 1))
def jayW (may set q : Nat) : Nat → Nat
  | 0 => 1
  | t + 1 => jayW may set q t * (if may.testBit t = true then (if set.testBit t = true then q else 10 - q) else 1)
noncomputable def jayUp (v : Nat → Nat) (i q : Nat) : Nat → Nat
  | 0 => 0
  | set + 1 => jayUp v i q set + (if set &&& fullN v = set then (if passN (jayH v set (v 0)) (21 + 5 * i + 3) ≤ v (21 + 5 * i + 3) then jayW (fullN v) set q (v 0) else 0) else 0)
noncomputable def sightN (kind m day : Nat) : Nat := ifP (wakesN kind (day + 1)) (4 * wantsN kind m + (if kind < 2 then 0 else if kind = 2 then 1 else 2)) 3
noncomputable def kindsN (si : Nat) (sg : Nat → Nat) : Nat := orB (fun kind => dB (∀ k, k < si → sightN kind (sg (4 * k)) (sg (4 * k + 1)) = 4 * sg (4 * k + 2) + sg (4 * k + 3))) 5
noncomputable def likeN (ks m day a : Nat) : Nat → Nat
  | 0 => 0
  | b + 1 => likeN ks m day a b + (if ks.testBit a = true ∧ ks.testBit b = true ∧ sightN a m day = sightN b m day then 1 else 0)
noncomputable def alikeN (ks m day : Nat) : Nat → Nat
  | 0 => 0
  | a + 1 => if alikeN ks m day a < likeN ks m day a 5 then likeN ks m day a 5 else alikeN ks m day a
noncomputable def askN (ks : Nat) : Nat → Option Nat × Nat
  | 0 => (none, onesN ks 9)
  | j + 1 => (if alikeN ks ((j + 2) / 2) ((j + 2) % 2) 5 < (askN ks j).2 then some (j + 2) else (askN ks j).1, min (alikeN ks ((j + 2) / 2) ((j + 2) % 2) 5) (askN ks j).2)
def nutsTo (v : Nat → Nat) : Nat → Nat
  | 0 => 0
  | t + 1 => nutsTo v t + v (3 + 2 * t + 1)
/-! the calls -/
def noteA (A : AS) : AS := mkA (aT A) (aL A) (aV0 A) (aV A) (if aU A = 8 then 8 else aU A + 1) (if aU A = 8 then (fun j => if j = 7 then aV A else aUs A (j + 1)) else (fun j => if j = aU A then aV A else aUs A j)) (aK A) (aS A) (aSg A) (aTr A)
noncomputable def F_pit (A : AS) (x w : Int32) : Int32 := ifP (isP (aV A 0) x) (ifP (inR w 0 2) (if cl w = 2 then nI (knowN (aV A) (cl x)) else nI (aV A (3 + 2 * cl x + cl w))) (-3)) (-2)
noncomputable def F_squirrel (A : AS) (x w : Int32) : Int32 := ifP (isP (aV A 1) x) (ifP (inR w 0 5) (if cl w = 5 then nI (wantsN (aV A (21 + 5 * cl x)) (aV A (21 + 5 * cl x + 2))) else nI (aV A (21 + 5 * cl x + cl w))) (-3)) (-2)
noncomputable def F_as (A : AS) (x w : Int32) : Int32 := ifP (isP (aV A 1) x) (ifP (inR w 0 5) (ifP (castN (cl w) (aV A (21 + 5 * cl x))) (nI (wantsN (aV A (21 + 5 * cl x)) (aV A (21 + 5 * cl x + 2)))) (-4)) (-3)) (-2)
noncomputable def F_day (A : AS) (n : Int32) : Int32 × AS := ifP (inR n 1 12) (if 999 < aV A 2 + cl n then (-5, A) else (nI (aV A 2 + cl n), sV (noteA A) (daysN (cl n) (aV A)))) (-3, A)
noncomputable def F_bury (A : AS) (x n : Int32) : Int32 × AS := ifP (isP (aV A 1) x) (ifP (inR n 1 99) (ifP (goneN (aV A) (cl x)) (-4, A) (if aV A 0 = 9 then (-5, A) else (nI (aV A 0), sV (noteA A) (buryN (aV A) (cl x) (cl n))))) (-3, A)) (-2, A)
noncomputable def F_raid (A : AS) (x n : Int32) : Int32 × AS := ifP (isP (aV A 0) x) (ifP (inR n 1 99) (if aV A (3 + 2 * cl x + 1) < cl n then (-4, A) else (nI (aV A (3 + 2 * cl x + 1) - cl n), sV (noteA A) (updN (aV A) (3 + 2 * cl x + 1) (aV A (3 + 2 * cl x + 1) - cl n)))) (-3, A)) (-2, A)
noncomputable def F_tell (A : AS) (x y : Int32) : Int32 × AS := ifP (isP (aV A 1) x ∧ isP (aV A 0) y) (ifP ((aV A (21 + 5 * cl x + 4)).testBit (cl y) = true ∨ goneN (aV A) (cl x)) (-4, A) (nI (aV A (21 + 5 * cl x + 4) ||| 2 ^ cl y), sV (noteA A) (updN (aV A) (21 + 5 * cl x + 4) (aV A (21 + 5 * cl x + 4) ||| 2 ^ cl y)))) (-2, A)
def F_undo (A : AS) : Int32 × AS := if aU A = 0 then (-4, A) else (nI (aU A - 1), mkA (aT A) (aL A) (aV0 A) (aUs A (aU A - 1)) (aU A - 1) (aUs A) (aK A) (aS A) (aSg A) (aTr A))
noncomputable def F_keep (A : AS) (k : Int32) : Int32 × AS := ifP (inR k 0 1) (nI (aV A 2), mkA (aT A) (aL A) (aV0 A) (aV A) (aU A) (aUs A) (va_up (aK A) (cl k) (some (aV A))) (aS A) (aSg A) (aTr A)) (-2, A)
noncomputable def F_back (A : AS) (k : Int32) : Int32 × AS := ifP (inR k 0 1) (match aK A (cl k) with
  | none => (-4, A)
  | some w => (nI (w 2), mkA (aT A) (aL A) (aV0 A) w 0 (aUs A) (aK A) (aS A) (aSg A) (aTr A))) (-2, A)
noncomputable def F_behind (A : AS) (x n w : Int32) : Int32 := ifP (isP (aV A 1) x) (ifP (inR n 0 60 ∧ (w = nI 1 ∨ w = nI 3 ∨ w = nI 4)) (nI (daysN (cl n) (aV A) (21 + 5 * cl x + cl w))) (-3)) (-2)
noncomputable def F_nuts (A : AS) (x n : Int32) : Int32 := ifP (isP (aV A 0) x) (ifP (inR n 0 60) (nI (daysN (cl n) (aV A) (3 + 2 * cl x + 1))) (-3)) (-2)
noncomputable def F_hungry (A : AS) (x : Int32) : Int32 := ifP (isP (aV A 1) x) (optI (hungN (cl x) 60 (aV A) 1)) (-2)
noncomputable def F_lasts (A : AS) (x : Int32) : Int32 := ifP (isP (aV A 1) x) (optI (lastN (cl x) 61 (aV A) 0)) (-2)
noncomputable def F_live (A : AS) (n : Int32) : Int32 := ifP (inR n 0 60) (nI (liveN (aV A) (cl n))) (-3)
noncomputable def F_enough (A : AS) (x n : Int32) : Int32 := ifP (isP (aV A 0) x) (ifP (inR n 1 20) (optI (enN (aV A) (cl x) (cl n) 61 0)) (-3)) (-2)
noncomputable def F_worst (A : AS) (n w : Int32) : Int32 := ifP (inR n 1 20 ∧ inR w 0 1) (if cl w = 0 then optI (woN (aV A) (cl n) (aV A 0)).1 else optI (woN (aV A) (cl n) (aV A 0)).2) (-3)
noncomputable def F_whisper (A : AS) (n : Int32) : Int32 := ifP (inR n 1 20) (optI (whOut (aV A) (cl n) (aV A 1)).1) (-3)
noncomputable def F_jay (A : AS) (x q w : Int32) : Int32 := ifP (isP (aV A 1) x) (ifP (inR q 0 10 ∧ inR w 0 1) (ifP (goneN (aV A) (cl x)) (-4) (nI ((if cl w = 0 then jayUp (aV A) (cl x) (cl q) (fullN (aV A) + 1) else 10 ^ onesN (fullN (aV A)) 9) / Nat.gcd (jayUp (aV A) (cl x) (cl q) (fullN (aV A) + 1)) (10 ^ onesN (fullN (aV A)) 9)))) (-3)) (-2)
noncomputable def F_seen (A : AS) (m d e w : Int32) : Int32 × AS := ifP (inR m 1 9 ∧ inR d 0 1 ∧ inR e 0 19 ∧ inR w 0 3) (if aS A = 6 then (-5, A) else (nI (aS A + 1), mkA (aT A) (aL A) (aV0 A) (aV A) (aU A) (aUs A) (aK A) (aS A + 1) (updN (updN (updN (updN (aSg A) (4 * aS A) (cl m)) (4 * aS A + 1) (cl d)) (4 * aS A + 2) (cl e)) (4 * aS A + 3) (cl w)) (aTr A))) (-3, A)
def F_forget (A : AS) : Int32 × AS := (nI (aS A), mkA (aT A) (aL A) (aV0 A) (aV A) (aU A) (aUs A) (aK A) 0 (aSg A) (aTr A))
noncomputable def F_kinds (A : AS) : Int32 := nI (kindsN (aS A) (aSg A))
noncomputable def F_ask (A : AS) : Int32 := optI (askN (kindsN (aS A) (aSg A)) 18).1
def thTo (A : AS) : Nat → Nat
  | 0 => 0
  | t + 1 => thTo A t + (match aTr A t with
    | none => 0
    | some x => x.1.length)
def cntN (A : AS) (k : Nat) : Int32 := match k with
  | 0 => nI (aV A 0)
  | 1 => nI (aV A 1)
  | 2 => nI (aV A 2)
  | 3 => nI (aliveN (aV A))
  | 4 => nI (nutsTo (aV A) (aV A 0))
  | 5 => nI (fullN (aV A))
  | 6 => nI (aS A)
  | 7 => nI (thTo A 3)
  | 8 => nI (aU A)
  | _ => nI (aL A)
noncomputable def F_count (A : AS) (w : Int32) : Int32 := ifP (inR w 0 9) (cntN A (cl w)) (-3)
noncomputable def F_write (A : AS) (x : Int32) : Int32 × AS := ifP (inR x 0 255) (if aL A = 200 then (-5, A) else (nI (aL A + 1), mkA (updN (aT A) (aL A) (cl x)) (aL A + 1) (aV0 A) (aV A) (aU A) (aUs A) (aK A) (aS A) (aSg A) (aTr A))) (-3, A)
def F_erase (A : AS) : Int32 × AS := (nI (aL A), mkA (aT A) 0 (aV0 A) (aV A) (aU A) (aUs A) (aK A) (aS A) (aSg A) (aTr A))
/-! what is always so of a state -/
def Hg (v : Nat → Nat) : Prop := Hw v ∧ (∀ t, t < v 0 → v (3 + 2 * t) < 20 ∧ v (3 + 2 * t + 1) ≤ 99) ∧ ∀ i, i < v 1 → v (21 + 5 * i) < 5 ∧ v (21 + 5 * i + 1) < 20 ∧ 1 ≤ v (21 + 5 * i + 2)
def sq (v w : Nat → Nat) : Prop := v 1 = w 1 ∧ ∀ i, i < v 1 → v (21 + 5 * i) = w (21 + 5 * i) ∧ v (21 + 5 * i + 2) = w (21 + 5 * i + 2)
/-- a hedge that can be gone back to -/
def Hb (v0 v : Nat → Nat) : Prop := Hg v ∧ sq v0 v ∧ v 2 ≤ 999
def okItem (n : Nat) (x : Nat × Int32) : Prop := (x.1 = 0 ∧ -9999 ≤ x.2.toInt ∧ x.2.toInt ≤ 9999) ∨ (x.1 = 1 ∧ isP n x.2) ∨ (x.1 = 2 ∧ inR x.2 0 9)
def okTr (n : Nat) (o : Option (List (Nat × Int32) × Nat × Option Nat)) : Prop := ∀ l h c, o = some (l, h, c) → l.length ≤ 12 ∧ h ≤ l.length ∧ (∀ j, c = some j → j < l.length) ∧ ∀ x ∈ l, okItem n x
def okSg (sg : Nat → Nat) (j : Nat) : Prop := 1 ≤ sg (4 * j) ∧ sg (4 * j) ≤ 9 ∧ sg (4 * j + 1) ≤ 1 ∧ sg (4 * j + 2) ≤ 19 ∧ sg (4 * j + 3) ≤ 3
def AOk (A : AS) : Prop := (aL A ≤ 200 ∧ ∀ k, k < aL A → aT A k < 256) ∧ Hb (aV0 A) (aV0 A) ∧ Hb (aV0 A) (aV A) ∧ (aU A ≤ 8 ∧ ∀ j, j < aU A → Hb (aV0 A) (aUs A j)) ∧ (∀ j w, j < 2 → aK A j = some w → Hb (aV0 A) w) ∧ (aS A ≤ 6 ∧ ∀ j, j < aS A → okSg (aSg A) j) ∧ ∀ t, t < 3 → okTr (aV A 1) (aTr A t)
/-! the model's world -/
def rH (b : Nat → Int32) (off : Nat) (v : Nat → Nat) : Prop := ∀ k, k < 46 → b (off + k) = nI (v k)
def kRel (b15 b16 : Nat → Int32) (j : Nat) : Option (Nat → Nat) → Prop
  | none => b16 j = nI 0
  | some w => b16 j = nI 1 ∧ rH b15 (46 * j) w
def tRel (b : Nat → Nat → Int32) (t : Nat) : Option (List (Nat × Int32) × Nat × Option Nat) → Prop
  | none => b 20 t = -1
  | some (l, h, c) => b 20 t = nI l.length ∧ b 21 t = nI h ∧ b 22 t = optI c ∧ ∀ k, k < l.length → b 23 (12 * t + k) = nI (l.getD k (0, 0)).1 ∧ b 24 (12 * t + k) = (l.getD k (0, 0)).2
def MRel (A : AS) (b : Nat → Nat → Int32) (f : Nat → Int32) : Prop :=
  ((∀ k, k < aL A → b 0 k = nI (aT A k)) ∧ f 1 = nI (aL A)) ∧ rH (b 9) 0 (aV0 A) ∧ rH (b 11) 0 (aV A) ∧ (f 14 = nI (aU A) ∧ ∀ j, j < aU A → rH (b 13) (46 * j) (aUs A j)) ∧ (∀ j, j < 2 → kRel (b 15) (b 16) j (aK A j)) ∧ (f 19 = nI (aS A) ∧ ∀ k, k < 4 * aS A → b 18 k = nI (aSg A k)) ∧ ∀ t, t < 3 → tRel b t (aTr A t)
abbrev MB : Type := (Nat → Nat → Int32) × (Nat → Int32)
def mf (le at1 st tk ln va wr cl un si : Int32) : Nat → Int32 := fun k => match k with
  | 1 => le
  | 2 => at1
  | 3 => st
  | 4 => tk
  | 5 => ln
  | 6 => va
  | 7 => wr
  | 8 => cl
  | 14 => un
  | 19 => si
  | _ => 0
def mW (G : zE) (mo : Nat) (q : Nat → Nat) (b : Nat → Nat → Int32) (f : Nat → Int32) : va_W :=
  [(mo, zo 2 (mF q (f 1) (f 2) (f 3) (f 4) (f 5) (f 6) (f 7) (f 8) (f 14) (f 19))), (q 0, zc G 0 (zI 200 (b 0))), (q 9, zc G 0 (zI 46 (b 9))), (q 10, zc G 0 (zI 46 (b 10))), (q 11, zc G 0 (zI 46 (b 11))), (q 12, zc G 0 (zI 46 (b 12))), (q 13, zc G 0 (zI 368 (b 13))), (q 15, zc G 0 (zI 92 (b 15))), (q 16, zc G 3 (zI 2 (b 16))), (q 17, zc G 0 (zI 5 (b 17))), (q 18, zc G 0 (zI 24 (b 18))), (q 20, zc G 0 (zI 3 (b 20))), (q 21, zc G 0 (zI 3 (b 21))), (q 22, zc G 0 (zI 3 (b 22))), (q 23, zc G 0 (zI 36 (b 23))), (q 24, zc G 0 (zI 36 (b 24)))]
/-- one array of the bank anew -/
def bU (b : Nat → Nat → Int32) (k : Nat) (x : Nat → Int32) : Nat → Nat → Int32 := fun j => if j = k then x else b j
