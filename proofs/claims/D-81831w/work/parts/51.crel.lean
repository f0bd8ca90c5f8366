/-! COMPONENT: how it holds the state A -/
set_option maxRecDepth 100000
/-- pools: slot by slot -/
def pw (n : Nat) (sl : Nat → va_W) : va_W := (List.range n).flatMap sl
def pwX (n : Nat) (sl : Nat → va_W) (j : Nat) : va_W := ((List.range n).erase j).flatMap sl
theorem pl_out {n j : Nat} {sl : Nat → va_W} (hj : j < n) : (pw n sl).Perm (sl j ++ pwX n sl j) := by
  have h := (List.perm_cons_erase (List.mem_range.mpr hj)).flatMap_right sl
  rw [List.flatMap_cons] at h
  exact h
theorem plX_congr {n j : Nat} {sl sl' : Nat → va_W} (h : ∀ i, i ≠ j → sl i = sl' i) : pwX n sl j = pwX n sl' j := by
  unfold pwX
  have e : ∀ l : List Nat, j ∉ l → l.flatMap sl = l.flatMap sl' := by
    intro l
    induction l with
    | nil => intro _; rfl
    | cons a l ih =>
      intro hl
      rw [List.flatMap_cons, List.flatMap_cons, ih (fun q => hl (List.mem_cons_of_mem _ q)), h a (fun q => hl (by rw [q]; exact List.mem_cons_self))]
  exact e _ (fun q => (List.Nodup.mem_erase_iff List.nodup_range).mp q |>.1 rfl)
theorem pl_in {n j : Nat} {sl : Nat → va_W} {x : va_W} (hj : j < n) : (x ++ pwX n sl j).Perm (pw n (va_up sl j x)) := by
  have h := (pl_out (sl := va_up sl j x) hj).symm
  rw [va_up_self, ← plX_congr (sl := sl) (fun i hi => (va_up_ne sl x hi).symm)] at h
  exact h
/-- a state's cells -/
def stW (G : zE) (co a : Nat) (z : Nat → Nat) (ps dy hg : Nat) (p nu ax le kn : Nat → Nat) : va_W := [(a, zo 1 (stF z co (nI ps) (nI dy) (nI hg))), (z 0, zc G 1 (zI 9 (vI p))), (z 1, zc G 1 (zI 9 (vI nu))), (z 2, zc G 1 (zI 5 (vI ax))), (z 3, zc G 1 (zI 5 (vI le))), (z 4, zc G 2 (zI 5 (vI kn)))]
/-- a state's arrays are of small numbers -/
def sBd (p nu ax le kn : Nat → Nat) : Prop := ∀ j, p j < 128 ∧ nu j < 128 ∧ ax j < 128 ∧ le j < 128 ∧ kn j < 512
/-- a slot that holds a state of the hedge v (of any, if none is told) -/
def slS (G : zE) (co : Nat) (o : Option Nat) (v : Option (Nat → Nat)) (x : va_W) : Prop := match o with
  | none => x = [] ∧ v = none
  | some a => ∃ (z : Nat → Nat) (ps dy hg : Nat) (p nu ax le kn : Nat → Nat), x = stW G co a z ps dy hg p nu ax le kn ∧ sBd p nu ax le kn ∧ ∀ w, v = some w → ps = w 0 ∧ dy = w 2 ∧ sRel w p nu ax le kn
/-- a slot of what was seen -/
def slG (G : zE) (o : Option Nat) (f : Option (Nat → Int32)) (x : va_W) : Prop := match o with
  | none => x = [] ∧ f = none
  | some a => ∃ g : Nat → Int32, x = [(a, zc G 0 (zI 4 g))] ∧ ∀ h, f = some h → ∀ k, k < 4 → g k = h k
/-- a letter as a byte -/
def btL (c : Nat) : Int32 := (nI c).toInt8.toInt32
/-- what was told has no day, nobody is lean, and knows nothing of squirrels that aren't there -/
def Hz (v : Nat → Nat) : Prop := v 2 = 0 ∧ ∀ i, i < 5 → v (21 + 5 * i + 3) = 0 ∧ (v 1 ≤ i → v (21 + 5 * i + 4) = 0)
/-- a thing of a trail: its object, and its own cell where it has one -/
def isEl (kA sq : Nat → Nat) (it : Nat × Int32) (e : Nat) (own : va_W) : Prop :=
  (it.1 = 0 ∧ ((∃ k, k < 256 ∧ it.2 = nI k - nI 128 ∧ e = kA (100 + k) ∧ own = []) ∨ own = [(e, zo 13 [.int it.2])])) ∨ (it.1 = 1 ∧ ∃ i, i < 5 ∧ it.2 = nI i ∧ e = sq i ∧ own = []) ∨ (it.1 = 2 ∧ ∃ k, k < 10 ∧ it.2 = nI k ∧ e = kA (528 + k) ∧ own = [])
def slT (G : zE) (kA sq : Nat → Nat) (o : Option Nat) (tr : Option (List (Nat × Int32) × Nat × Option Nat)) (x : va_W) : Prop := match o, tr with
  | none, none => x = []
  | some a, some (l, h, c) => ∃ (lst it ed cap : Nat) (ef : Nat → Option Nat) (els : List (Nat × va_W)) (mc bk : Int32) (ar : va_W), els.length = l.length ∧ (∀ k, k < l.length → isEl kA sq (l.getD k (0, 0)) (els.getD k (0, [])).1 (els.getD k (0, [])).2 ∧ ef k = some (els.getD k (0, [])).1) ∧
      ((ar = [] ∧ ed = kA 5 ∧ l.length = 0) ∨ (ar = [(ed, zc G 4 (zO cap ef))] ∧ l.length ≤ cap ∧ (cap = 10 ∨ cap = 15))) ∧ (∀ p, c = some p → (bk = nI 1 ∧ p = h) ∨ (bk = nI 0 ∧ p + 1 = h)) ∧ (bk = nI 0 ∨ bk = nI 1) ∧
      x = (a, zo 10 [.ref lst, .ref it, .int bk]) :: (lst, zo 14 [.int mc, .ref ed, .int (nI l.length)]) :: (it, zo 15 [.int (nI h), .int (optI c), .int mc, .ref lst, .ref lst]) :: (ar ++ els.flatMap (·.2))
  | _, _ => False
/-- the component's world: B states' arrays (told, now, tried), F numbers (squirrels, backs, sights, letters; of each state pits, day, hungry), O arrays of references (squirrels, kept, backs, sights, trails), X the text -/
def cRel (G : zE) (kA : Nat → Nat) (co : Nat) (A : AS) (B : Nat → Nat → Nat) (F : Nat → Nat) (O : Nat → Nat → Option Nat) (X : Nat → Int32) (sq : Nat → Nat) (ks bs gs ts : Nat → va_W) : Prop :=
  ((∀ k, k < aL A → X k = btL (aT A k)) ∧ F 3 = aL A) ∧ (F 4 = aV0 A 0 ∧ F 5 = 0 ∧ sRel (aV0 A) (B 0) (B 1) (B 2) (B 3) (B 4)) ∧ (F 0 = aV A 1 ∧ F 7 = aV A 0 ∧ F 8 = aV A 2 ∧ sRel (aV A) (B 5) (B 6) (B 7) (B 8) (B 9)) ∧ sBd (B 10) (B 11) (B 12) (B 13) (B 14) ∧
  (∀ i, i < aV A 1 → O 0 i = some (sq i)) ∧ (∀ j, j < 2 → slS G co (O 1 j) (aK A j) (ks j) ∧ (aK A j = none → O 1 j = none)) ∧ (F 1 = aU A ∧ ∀ j, j < 8 → slS G co (O 2 j) (if j < aU A then some (aUs A j) else none) (bs j)) ∧
  (F 2 = aS A ∧ ∀ j, j < 6 → slG G (O 3 j) (if j < aS A then some (fun k => nI (aSg A (4 * j + k))) else none) (gs j)) ∧ ∀ t, t < 3 → slT G kA sq (O 4 t) (aTr A t) (ts t)
