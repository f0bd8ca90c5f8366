/-! MODEL: clauses told -/
set_option maxRecDepth 100000
def kdO (x : Int32) : Option Nat := if x = nI 17171758 then some 0 else if x = nI 253924505 then some 1 else if x = nI 463924 then some 2 else if x = nI 147289 then some 3 else if x = nI 19993 then some 4 else none
theorem kd0 {x : Int32}  (h0 : x = nI 17171758) : nI 0 = optI (kdO x) := by unfold kdO; rw [if_pos h0]; rfl
theorem kd1 {x : Int32} (h0 : ¬ x = nI 17171758) (h1 : x = nI 253924505) : nI 1 = optI (kdO x) := by unfold kdO; rw [if_neg h0, if_pos h1]; rfl
theorem kd2 {x : Int32} (h0 : ¬ x = nI 17171758) (h1 : ¬ x = nI 253924505) (h2 : x = nI 463924) : nI 2 = optI (kdO x) := by unfold kdO; rw [if_neg h0, if_neg h1, if_pos h2]; rfl
theorem kd3 {x : Int32} (h0 : ¬ x = nI 17171758) (h1 : ¬ x = nI 253924505) (h2 : ¬ x = nI 463924) (h3 : x = nI 147289) : nI 3 = optI (kdO x) := by unfold kdO; rw [if_neg h0, if_neg h1, if_neg h2, if_pos h3]; rfl
theorem kd4 {x : Int32} (h0 : ¬ x = nI 17171758) (h1 : ¬ x = nI 253924505) (h2 : ¬ x = nI 463924) (h3 : ¬ x = nI 147289) (h4 : x = nI 19993) : nI 4 = optI (kdO x) := by unfold kdO; rw [if_neg h0, if_neg h1, if_neg h2, if_neg h3, if_pos h4]; rfl
theorem kdn {x : Int32} (h0 : ¬ x = nI 17171758) (h1 : ¬ x = nI 253924505) (h2 : ¬ x = nI 463924) (h3 : ¬ x = nI 147289) (h4 : ¬ x = nI 19993) : -1 = optI (kdO x) := by unfold kdO; rw [if_neg h0, if_neg h1, if_neg h2, if_neg h3, if_neg h4]; rfl
theorem valN_congr {k : Nat} {tx g : Nat → Nat} {i i2 : Nat} : ∀ j, (∀ m, m < j → tx (i + m) = g (i2 + m)) → valN k tx i j = valN k g i2 j
  | 0, _ => rfl
  | j + 1, h => by
    rw [valN, valN, valN_congr j (fun m hm => h m (by omega)), h j (by omega)]
def hdG (h : Nat) : Nat → Nat := fun m => (heads.getD h []).getD m 0
theorem hd_ok : ∀ h, h < 8 → ∀ m, m < (heads.getD h []).length → 97 ≤ hdG h m ∧ hdG h m ≤ 122 := by decide
theorem hd_len : ∀ h, h < 8 → (heads.getD h []).length ≤ 6 := by decide
theorem head_iff {tx : Nat → Nat} {n p : Nat} (h c : Nat) (hp : p ≤ n) (hh : h < 8) (hc : valN 1 (hdG h) 0 (heads.getD h []).length = c) (hk : tK tx n p = 1) : valN 1 tx (tF tx n p) (tL tx n p) = c ↔ tH tx n p h := by
  constructor
  · intro e
    obtain ⟨e1, e2⟩ := val_inj (tx := tx) (i := tF tx n p) (g := hdG h) (tL tx n p) (heads.getD h []).length (fun m hm => by
      rcases tok_cls hp hm with ⟨-, b, c⟩ | ⟨a, -, -⟩
      · exact ⟨b, c⟩
      · exact absurd (hk.symm.trans a) (by decide)) (hd_ok h hh) (e.trans hc.symm)
    exact ⟨hk, e1, fun m hm => e2 m (by omega)⟩
  · rintro ⟨-, e1, e2⟩
    rw [e1, ← hc]
    exact valN_congr _ (fun m hm => (e2 m hm).trans (by rw [Nat.zero_add]; rfl))
theorem head_n {tx : Nat → Nat} {n p h : Nat} (hh : h < 8) (hno : tK tx n p = 1 → ¬ tL tx n p < 7) : ¬ tH tx n p h := by
  rintro ⟨a, b, -⟩
  have := hd_len h hh
  exact hno a (by omega)
/-- a word that may be a head: its number -/
theorem hd_lt {tx : Nat → Nat} {n p : Nat} (hp : p ≤ n) (hk : tK tx n p = 1) (hL : tL tx n p < 7) : valN 1 tx (tF tx n p) (tL tx n p) < 1073741824 := tV_lt hp (by unfold tV vO; rw [hk]; exact if_pos (by omega))
theorem tV_w {tx : Nat → Nat} {n p : Nat} (hk : tK tx n p = 1) (hL : tL tx n p < 7) : optI (tV tx n p) = nI (valN 1 tx (tF tx n p) (tL tx n p)) := by
  unfold tV vO; rw [hk, if_pos (by omega)]; rfl
theorem hd0 {tx : Nat → Nat} {n p : Nat} (hp : p ≤ n) (hk : tK tx n p = 1) (hL : tL tx n p < 7) : nI (valN 1 tx (tF tx n p) (tL tx n p)) = nI 17171758 ↔ tH tx n p 0 := by rw [nI_eq (by have := hd_lt hp hk hL; omega) (by decide)]; exact head_iff 0 17171758 hp (by decide) (by decide) hk
theorem hd1 {tx : Nat → Nat} {n p : Nat} (hp : p ≤ n) (hk : tK tx n p = 1) (hL : tL tx n p < 7) : nI (valN 1 tx (tF tx n p) (tL tx n p)) = nI 253924505 ↔ tH tx n p 1 := by rw [nI_eq (by have := hd_lt hp hk hL; omega) (by decide)]; exact head_iff 1 253924505 hp (by decide) (by decide) hk
theorem hd2 {tx : Nat → Nat} {n p : Nat} (hp : p ≤ n) (hk : tK tx n p = 1) (hL : tL tx n p < 7) : nI (valN 1 tx (tF tx n p) (tL tx n p)) = nI 463924 ↔ tH tx n p 2 := by rw [nI_eq (by have := hd_lt hp hk hL; omega) (by decide)]; exact head_iff 2 463924 hp (by decide) (by decide) hk
theorem hd3 {tx : Nat → Nat} {n p : Nat} (hp : p ≤ n) (hk : tK tx n p = 1) (hL : tL tx n p < 7) : nI (valN 1 tx (tF tx n p) (tL tx n p)) = nI 147289 ↔ tH tx n p 3 := by rw [nI_eq (by have := hd_lt hp hk hL; omega) (by decide)]; exact head_iff 3 147289 hp (by decide) (by decide) hk
theorem hd4 {tx : Nat → Nat} {n p : Nat} (hp : p ≤ n) (hk : tK tx n p = 1) (hL : tL tx n p < 7) : nI (valN 1 tx (tF tx n p) (tL tx n p)) = nI 19993 ↔ tH tx n p 4 := by rw [nI_eq (by have := hd_lt hp hk hL; omega) (by decide)]; exact head_iff 4 19993 hp (by decide) (by decide) hk
theorem hd5 {tx : Nat → Nat} {n p : Nat} (hp : p ≤ n) (hk : tK tx n p = 1) (hL : tL tx n p < 7) : nI (valN 1 tx (tF tx n p) (tL tx n p)) = nI 8556773 ↔ tH tx n p 5 := by rw [nI_eq (by have := hd_lt hp hk hL; omega) (by decide)]; exact head_iff 5 8556773 hp (by decide) (by decide) hk
theorem hd6 {tx : Nat → Nat} {n p : Nat} (hp : p ≤ n) (hk : tK tx n p = 1) (hL : tL tx n p < 7) : nI (valN 1 tx (tF tx n p) (tL tx n p)) = nI 16692 ↔ tH tx n p 6 := by rw [nI_eq (by have := hd_lt hp hk hL; omega) (by decide)]; exact head_iff 6 16692 hp (by decide) (by decide) hk
theorem hd7 {tx : Nat → Nat} {n p : Nat} (hp : p ≤ n) (hk : tK tx n p = 1) (hL : tL tx n p < 7) : nI (valN 1 tx (tF tx n p) (tL tx n p)) = nI 12009203 ↔ tH tx n p 7 := by rw [nI_eq (by have := hd_lt hp hk hL; omega) (by decide)]; exact head_iff 7 12009203 hp (by decide) (by decide) hk
theorem kd_sp {tx : Nat → Nat} {n p : Nat} (hp : p ≤ n) (hk : tK tx n p = 1) (hL : tL tx n p < 7) {k : Nat} (h : kdO (nI (valN 1 tx (tF tx n p) (tL tx n p))) = some k) : (k < 5) ∧ tH tx n p k ∧ ∀ j, j < k → ¬ tH tx n p j := by
  unfold kdO at h
  by_cases h0 : nI (valN 1 tx (tF tx n p) (tL tx n p)) = nI 17171758
  · rw [if_pos h0] at h; cases h; exact ⟨by decide, (hd0 hp hk hL).mp h0, fun j hj => absurd hj (Nat.not_lt_zero _)⟩
  rw [if_neg h0] at h
  by_cases h1 : nI (valN 1 tx (tF tx n p) (tL tx n p)) = nI 253924505
  · rw [if_pos h1] at h; cases h; exact ⟨by decide, (hd1 hp hk hL).mp h1, fun j hj => by
      match j, hj with
      | 0, _ => exact mt (hd0 hp hk hL).mpr h0⟩
  rw [if_neg h1] at h
  by_cases h2 : nI (valN 1 tx (tF tx n p) (tL tx n p)) = nI 463924
  · rw [if_pos h2] at h; cases h; exact ⟨by decide, (hd2 hp hk hL).mp h2, fun j hj => by
      match j, hj with
      | 0, _ => exact mt (hd0 hp hk hL).mpr h0
      | 1, _ => exact mt (hd1 hp hk hL).mpr h1⟩
  rw [if_neg h2] at h
  by_cases h3 : nI (valN 1 tx (tF tx n p) (tL tx n p)) = nI 147289
  · rw [if_pos h3] at h; cases h; exact ⟨by decide, (hd3 hp hk hL).mp h3, fun j hj => by
      match j, hj with
      | 0, _ => exact mt (hd0 hp hk hL).mpr h0
      | 1, _ => exact mt (hd1 hp hk hL).mpr h1
      | 2, _ => exact mt (hd2 hp hk hL).mpr h2⟩
  rw [if_neg h3] at h
  by_cases h4 : nI (valN 1 tx (tF tx n p) (tL tx n p)) = nI 19993
  · rw [if_pos h4] at h; cases h; exact ⟨by decide, (hd4 hp hk hL).mp h4, fun j hj => by
      match j, hj with
      | 0, _ => exact mt (hd0 hp hk hL).mpr h0
      | 1, _ => exact mt (hd1 hp hk hL).mpr h1
      | 2, _ => exact mt (hd2 hp hk hL).mpr h2
      | 3, _ => exact mt (hd3 hp hk hL).mpr h3⟩
  rw [if_neg h4] at h; cases h
theorem kd_no {tx : Nat → Nat} {n p : Nat} (hp : p ≤ n) (hk : tK tx n p = 1) (hL : tL tx n p < 7) (h : kdO (nI (valN 1 tx (tF tx n p) (tL tx n p))) = none) : ¬ ∃ j, j < 5 ∧ tH tx n p j := by
  rintro ⟨j, hj, h1⟩
  unfold kdO at h
  match j, hj, h1 with
  | 0, _, h1 => have h2 := (hd0 hp hk hL).mpr h1; rw [h2] at h; revert h; decide
  | 1, _, h1 => have h2 := (hd1 hp hk hL).mpr h1; rw [h2] at h; revert h; decide
  | 2, _, h1 => have h2 := (hd2 hp hk hL).mpr h1; rw [h2] at h; revert h; decide
  | 3, _, h1 => have h2 := (hd3 hp hk hL).mpr h1; rw [h2] at h; revert h; decide
  | 4, _, h1 => have h2 := (hd4 hp hk hL).mpr h1; rw [h2] at h; revert h; decide
theorem tH_1 {tx : Nat → Nat} {n p a c : Nat} (ha : a < 8) (hc : c < 8) (h1 : tH tx n p a) (h2 : tH tx n p c) : a = c := by
  have : ∀ a, a < 8 → ∀ c, c < 8 → (heads.getD a []).length = (heads.getD c []).length → (∀ m, m < (heads.getD a []).length → (heads.getD a []).getD m 0 = (heads.getD c []).getD m 0) → a = c := by decide
  exact this a ha c hc (h1.2.1.symm.trans h2.2.1) (fun m hm => (h1.2.2 m hm).symm.trans (h2.2.2 m (by have e1 := h1.2.1; have e2 := h2.2.1; omega)))
theorem cl_sq {tx : Nat → Nat} {n p k : Nat} {v : Nat → Nat} (hk : k < 5) (h : tH tx n p k) : clauseN tx n v p = if v 1 = 5 then .inl (tF tx n p) else twoN tx n (p) 0 20 1 10 (putQ v k) := by
  have hu : ∀ j, j < 5 → (tH tx n p j ↔ j = k) := fun j hj => ⟨fun q => tH_1 (by omega) (by omega) q h, fun e => e ▸ h⟩
  unfold clauseN
  rw [ifP_t ⟨k, hk, h⟩]
  congr 1
  match k, hk with
  | 0, _ => rw [ifP_t h]
  | 1, _ => rw [ifP_f (fun q => by have := (hu 0 (by decide)).mp q; omega), ifP_t h]
  | 2, _ => rw [ifP_f (fun q => by have := (hu 0 (by decide)).mp q; omega), ifP_f (fun q => by have := (hu 1 (by decide)).mp q; omega), ifP_t h]
  | 3, _ => rw [ifP_f (fun q => by have := (hu 0 (by decide)).mp q; omega), ifP_f (fun q => by have := (hu 1 (by decide)).mp q; omega), ifP_f (fun q => by have := (hu 2 (by decide)).mp q; omega), ifP_t h]
  | 4, _ => rw [ifP_f (fun q => by have := (hu 0 (by decide)).mp q; omega), ifP_f (fun q => by have := (hu 1 (by decide)).mp q; omega), ifP_f (fun q => by have := (hu 2 (by decide)).mp q; omega), ifP_f (fun q => by have := (hu 3 (by decide)).mp q; omega)]
theorem cl_ns {tx : Nat → Nat} {n p k : Nat} (hk : 5 ≤ k) (hk8 : k < 8) (h : tH tx n p k) : ¬ ∃ j, j < 5 ∧ tH tx n p j := by
  rintro ⟨j, hj, q⟩
  have := tH_1 (by omega) hk8 q h
  omega
theorem cl_5 {tx : Nat → Nat} {n p : Nat} {v : Nat → Nat} (h : tH tx n p 5) : clauseN tx n v p = .inr (fun _ => 0, tS tx n p) := by
  unfold clauseN; rw [ifP_f (cl_ns (by decide) (by decide) h), ifP_t h]
theorem cl_6 {tx : Nat → Nat} {n p : Nat} {v : Nat → Nat} (h : tH tx n p 6) : clauseN tx n v p = if v 0 = 9 then .inl (tF tx n p) else twoN tx n p 0 20 0 100 (putP v) := by
  unfold clauseN; rw [ifP_f (cl_ns (by decide) (by decide) h), ifP_f (fun q => absurd (tH_1 (by decide) (by decide) q h) (by decide)), ifP_t h]
theorem cl_7 {tx : Nat → Nat} {n p : Nat} {v : Nat → Nat} (h : tH tx n p 7) : clauseN tx n v p = twoN tx n p 0 (v 1) 0 (v 0) (putK v) := by
  unfold clauseN; rw [ifP_f (cl_ns (by decide) (by decide) h), ifP_f (fun q => absurd (tH_1 (by decide) (by decide) q h) (by decide)), ifP_f (fun q => absurd (tH_1 (by decide) (by decide) q h) (by decide)), ifP_t h]
theorem cl_n {tx : Nat → Nat} {n p : Nat} {v : Nat → Nat} (hs : ¬ ∃ j, j < 5 ∧ tH tx n p j) (h5 : ¬ tH tx n p 5) (h6 : ¬ tH tx n p 6) (h7 : ¬ tH tx n p 7) : clauseN tx n v p = .inl (tF tx n p) := by
  unfold clauseN; rw [ifP_f hs, ifP_f h5, ifP_f h6, ifP_f h7]
theorem cl_no {tx : Nat → Nat} {n p : Nat} {v : Nat → Nat} (hno : tK tx n p = 1 → ¬ tL tx n p < 7) : clauseN tx n v p = .inl (tF tx n p) :=
  cl_n (fun ⟨j, hj, q⟩ => head_n (by omega) hno q) (head_n (by decide) hno) (head_n (by decide) hno) (head_n (by decide) hno)
abbrev CU : Type := Nat × (Nat → Nat) × Int32 × Int32
def cR (n : Nat) (X : Nat ⊕ ((Nat → Nat) × Nat)) (u : CU) : Prop := u.1 ≤ n ∧ match X with
  | .inl w => u.2.2.1 = nI w ∧ w ≤ n
  | .inr x => u.2.2.1 = -1 ∧ u.2.1 = x.1 ∧ u.1 = x.2
theorem cR_l {tx : Nat → Nat} {n p : Nat} {X : Nat ⊕ ((Nat → Nat) × Nat)} {pp : Nat} {v : Nat → Nat} {va : Int32} (hp : p ≤ n) (hpp : pp ≤ n) (e : X = .inl (tF tx n p)) : cR n X (pp, v, nI (tF tx n p), va) := by
  subst e; exact ⟨hpp, rfl, (tF_le (tx := tx) hp).2⟩
theorem cR_r {n pp : Nat} {X : Nat ⊕ ((Nat → Nat) × Nat)} {v : Nat → Nat} {va : Int32} (hpp : pp ≤ n) (e : X = .inr (v, pp)) : cR n X (pp, v, -1, va) := by
  subst e; exact ⟨hpp, rfl, rfl, rfl⟩
theorem two_1 {tx : Nat → Nat} {n p l1 h1 l2 h2 : Nat} {k : Nat → Nat → (Nat → Nat)} (h : ¬ tN tx n (tS tx n p) l1 h1) : twoN tx n p l1 h1 l2 h2 k = .inl (tF tx n (tS tx n p)) := ifP_f h
theorem two_2 {tx : Nat → Nat} {n p l1 h1 l2 h2 : Nat} {k : Nat → Nat → (Nat → Nat)} (h : tN tx n (tS tx n p) l1 h1) (h' : ¬ tN tx n (tS tx n (tS tx n p)) l2 h2) : twoN tx n p l1 h1 l2 h2 k = .inl (tF tx n (tS tx n (tS tx n p))) := (ifP_t h).trans (ifP_f h')
theorem two_3 {tx : Nat → Nat} {n p l1 h1 l2 h2 : Nat} {k : Nat → Nat → (Nat → Nat)} (h : tN tx n (tS tx n p) l1 h1) (h' : tN tx n (tS tx n (tS tx n p)) l2 h2) : twoN tx n p l1 h1 l2 h2 k = .inr (k (tQ tx n (tS tx n p)) (tQ tx n (tS tx n (tS tx n p))), tS tx n (tS tx n (tS tx n p))) := (ifP_t h).trans (ifP_t h')
theorem Hw_cnt {v : Nat → Nat} {j x : Nat} (hH : Hw v) (h : (j = 0 ∧ x ≤ 9) ∨ (j = 1 ∧ x ≤ 5)) : Hw (updN v j x) := by
  obtain ⟨a, b, c, d, e, f⟩ := hH
  refine ⟨?_, ?_, fun i => ?_, fun i hi => ?_, fun i hi => ?_, fun i hi => ?_⟩ <;> simp only [updN]
  · split <;> omega
  · split <;> omega
  · split
    · omega
    · exact c i
  · rw [if_neg (by omega)]; exact d i hi
  · rw [if_neg (by omega)]; exact e i hi
  · rw [if_neg (by omega)]; exact f i hi
theorem Hw_0 : Hw (fun _ => 0) := ⟨by decide, by decide, fun _ => Nat.le_of_ble_eq_true rfl, fun _ _ => Nat.le_of_ble_eq_true rfl, fun _ _ => Nat.le_of_ble_eq_true rfl, fun _ _ => Nat.le_of_ble_eq_true rfl⟩
theorem putQ_Hw {v : Nat → Nat} {k x y : Nat} (hH : Hw v) (h5 : v 1 ≠ 5) (hk : k < 5) (hx : x < 20) (hy : y < 10) : Hw (putQ v k x y) := by
  have h1 := hH.2.1
  unfold putQ
  refine Hw_cnt (Hw_upd (Hw_upd (Hw_upd hH (by omega) (by omega) (by omega) (fun i _ e => by omega) (fun i _ e => by omega) (fun i _ e => by omega)) (by omega) (by omega) (by omega) (fun i _ e => by omega) (fun i _ e => by omega) (fun i _ e => by omega)) (by omega) (by omega) (by omega) (fun i _ e => by omega) (fun i _ e => by omega) (fun i _ e => by omega)) (Or.inr ⟨rfl, by omega⟩)
theorem putP_Hw {v : Nat → Nat} {x y : Nat} (hH : Hw v) (h9 : v 0 ≠ 9) (hx : x < 20) (hy : y < 100) : Hw (putP v x y) := by
  have h1 := hH.1
  unfold putP
  refine Hw_cnt (Hw_upd (Hw_upd hH (by omega) (by omega) (by omega) (fun i _ e => by omega) (fun i _ e => by omega) (fun i _ e => by omega)) (by omega) (by omega) (by omega) (fun i _ e => by omega) (fun i _ e => by omega) (fun i _ e => by omega)) (Or.inl ⟨rfl, by omega⟩)
theorem pow512 {t : Nat} (h : t < 9) : 2 ^ t < 512 := Nat.pow_lt_pow_right (by decide) h
theorem putK_Hw {v : Nat → Nat} {i t : Nat} (hH : Hw v) (hi : i < v 1) (ht : t < v 0) : Hw (putK v i t) := by
  have h0 := hH.1
  have h1 := hH.2.1
  have h2 : v (21 + 5 * i + 4) ||| 2 ^ t < 512 := or9 (hH.2.2.2.1 i (by omega)) (pow512 (by omega))
  exact Hw_upd hH (by omega) (by omega) (by omega) (fun i _ e => h2) (fun i _ e => by omega) (fun i _ e => by omega)
/-- what a clause leaves, by cases -/
theorem clauseN_cases {tx : Nat → Nat} {n p : Nat} {v : Nat → Nat} {r : (Nat → Nat) × Nat} (h : clauseN tx n v p = .inr r) : (r.1 = (fun _ => 0) ∧ tH tx n p 5) ∨ (∃ k x y, k < 5 ∧ x < 20 ∧ 1 ≤ y ∧ y < 10 ∧ v 1 ≠ 5 ∧ r.1 = putQ v k x y) ∨ (∃ x y, x < 20 ∧ y < 100 ∧ v 0 ≠ 9 ∧ r.1 = putP v x y) ∨ ∃ i t, i < v 1 ∧ t < v 0 ∧ r.1 = putK v i t := by
  have two : ∀ {l1 h1 l2 h2 : Nat} {k : Nat → Nat → (Nat → Nat)}, twoN tx n p l1 h1 l2 h2 k = .inr r → tN tx n (tS tx n p) l1 h1 ∧ tN tx n (tS tx n (tS tx n p)) l2 h2 ∧ r.1 = k (tQ tx n (tS tx n p)) (tQ tx n (tS tx n (tS tx n p))) := by
    intro l1 h1 l2 h2 k e
    rcases Classical.em (tN tx n (tS tx n p) l1 h1) with a | a
    · rcases Classical.em (tN tx n (tS tx n (tS tx n p)) l2 h2) with c | c
      · rw [two_3 a c] at e; cases e; exact ⟨a, c, rfl⟩
      · rw [two_2 a c] at e; cases e
    · rw [two_1 a] at e; cases e
  rcases Classical.em (∃ j, j < 5 ∧ tH tx n p j) with ⟨j, hj, q⟩ | hs
  · rw [cl_sq hj q] at h
    by_cases h5 : v 1 = 5
    · rw [if_pos h5] at h; cases h
    · rw [if_neg h5] at h
      obtain ⟨a, c, e⟩ := two h
      exact Or.inr (Or.inl ⟨j, _, _, hj, a.2.2.2, c.2.2.1, c.2.2.2, h5, e⟩)
  rcases Classical.em (tH tx n p 5) with q | h5
  · rw [cl_5 q] at h; cases h; exact Or.inl ⟨rfl, q⟩
  rcases Classical.em (tH tx n p 6) with q | h6
  · rw [cl_6 q] at h
    by_cases h9 : v 0 = 9
    · rw [if_pos h9] at h; cases h
    · rw [if_neg h9] at h
      obtain ⟨a, c, e⟩ := two h
      exact Or.inr (Or.inr (Or.inl ⟨_, _, a.2.2.2, c.2.2.2, h9, e⟩))
  rcases Classical.em (tH tx n p 7) with q | h7
  · rw [cl_7 q] at h
    obtain ⟨a, c, e⟩ := two h
    exact Or.inr (Or.inr (Or.inr ⟨_, _, a.2.2.2, c.2.2.2, e⟩))
  rw [cl_n hs h5 h6 h7] at h; cases h
theorem clauseN_Hw {tx : Nat → Nat} {n p : Nat} {v : Nat → Nat} {r : (Nat → Nat) × Nat} (hH : Hw v) (h : clauseN tx n v p = .inr r) : Hw r.1 := by
  rcases clauseN_cases h with ⟨e, -⟩ | ⟨k, x, y, hk, hx, -, hy, h5, e⟩ | ⟨x, y, hx, hy, h9, e⟩ | ⟨i, t, hi, ht, e⟩
  · rw [e]; exact Hw_0
  · rw [e]; exact putQ_Hw hH h5 hk hx hy
  · rw [e]; exact putP_Hw hH h9 hx hy
  · rw [e]; exact putK_Hw hH hi ht
theorem zs_X2_103 : zSs RX2 103 yX2_word cX2_word 3 (some .int) 3 := ⟨lw_S q1918 q1919 q53 q1920, ⟨by decide +kernel, by decide +kernel⟩, by decide +kernel⟩
theorem zs_X2_107 : zSs RX2 107 yX2_longer cX2_longer 3 (some .int) 3 := ⟨lw_S q1921 q1922 q53 q1923, ⟨by decide +kernel, by decide +kernel⟩, by decide +kernel⟩
set_option maxHeartbeats 4000000 in
theorem m_X2_kindOf (G : zE) (l : Launch) (x : Int32) (rest : va_W) : zMi G l yX2_kindOf cX2_kindOf 5 (some .int) 1 0 0 [.int x] (rest) (fun (r : Int32) (_ : Unit) => r = optI (kdO x)) (fun (_ : Unit) => rest) := by
  refine z_begI (by decide) (Nat.le_of_ble_eq_true rfl) (fun p e s m args below meth c ls Q hC hl hw hend => ?_)
  have hx := hC.hx
  have hb := hC.hb
  have hl : lv_has ls 5 [(0, .int x)] := hl
  refine lv_bipush (v := (nI 112)) hx hb dX2_kindOf_0 zb_112 ?_
  refine lv_bipush (v := (nI 108)) hx hb dX2_kindOf_2 zb_108 ?_
  refine lv_bipush (v := (nI 97)) hx hb dX2_kindOf_4 zb_97 ?_
  refine z_ci (z_runS (As := [.int (nI 112), .int (nI 108), .int (nI 97)]) (rest := []) hC zs_X2_103 (m_X2_word G l (nI 112) (nI 108) (nI 97) _) hw rfl rfl (Nat.le_of_ble_eq_true rfl) hl.1 ⟨Nat.le_of_ble_eq_true rfl, Nat.le_of_ble_eq_true rfl⟩ ⟨(Nat.le_of_ble_eq_true rfl), (Nat.le_of_ble_eq_true rfl)⟩ dX2_kindOf_6) hw (fun _ => List.Perm.refl _) (fun r u H locs hp hw => ?_)
  obtain rfl : r = nI 32 * (nI 32 * ((nI 112) - nI 96) + (nI 108) - nI 96) + (nI 97) - nI 96 := hp
  rw [show nI 32 * (nI 32 * (nI 112 - nI 96) + nI 108 - nI 96) + nI 97 - nI 96 = nI 16769 from by decide]
  refine lv_bipush (v := (nI 105)) hx hb dX2_kindOf_9 zb_105 ?_
  refine lv_bipush (v := (nI 110)) hx hb dX2_kindOf_11 zb_110 ?_
  refine z_ci (z_runS (As := [.int (nI 16769), .int (nI 105), .int (nI 110)]) (rest := []) hC zs_X2_107 (m_X2_longer G l (nI 16769) (nI 105) (nI 110) _) hw rfl rfl (Nat.le_of_ble_eq_true rfl) hl.1 ⟨Nat.le_of_ble_eq_true rfl, Nat.le_of_ble_eq_true rfl⟩ ⟨(Nat.le_of_ble_eq_true rfl), (Nat.le_of_ble_eq_true rfl)⟩ dX2_kindOf_13) hw (fun _ => List.Perm.refl _) (fun r u H locs hp hw => ?_)
  obtain rfl : r = nI 32 * (nI 32 * (nI 16769) + (nI 105) - nI 96) + (nI 110) - nI 96 := hp
  rw [show nI 32 * (nI 32 * nI 16769 + nI 105 - nI 96) + nI 110 - nI 96 = nI 17171758 from by decide]
  refine lv_istore_n (lv' := [(1, .int (nI 17171758)), (0, .int x)]) hx hb dX2_kindOf_16 rfl hl (by decide) rfl (fun ls hl => ?_)
  refine lv_bipush (v := (nI 32)) hx hb dX2_kindOf_17 zb_32 ?_
  refine lv_bipush (v := (nI 103)) hx hb dX2_kindOf_19 zb_103 ?_
  refine lv_bipush (v := (nI 114)) hx hb dX2_kindOf_21 zb_114 ?_
  refine lv_bipush (v := (nI 101)) hx hb dX2_kindOf_23 zb_101 ?_
  refine z_ci (z_runS (As := [.int (nI 103), .int (nI 114), .int (nI 101)]) (rest := [.int (nI 32)]) hC zs_X2_103 (m_X2_word G l (nI 103) (nI 114) (nI 101) _) hw rfl rfl (Nat.le_of_ble_eq_true rfl) hl.1 ⟨Nat.le_of_ble_eq_true rfl, Nat.le_of_ble_eq_true rfl⟩ ⟨(Nat.le_of_ble_eq_true rfl), (Nat.le_of_ble_eq_true rfl)⟩ dX2_kindOf_25) hw (fun _ => List.Perm.refl _) (fun r u H locs hp hw => ?_)
  obtain rfl : r = nI 32 * (nI 32 * ((nI 103) - nI 96) + (nI 114) - nI 96) + (nI 101) - nI 96 := hp
  rw [show nI 32 * (nI 32 * (nI 103 - nI 96) + nI 114 - nI 96) + nI 101 - nI 96 = nI 7749 from by decide]
  refine lv_bipush (v := (nI 101)) hx hb dX2_kindOf_28 zb_101 ?_
  refine lv_bipush (v := (nI 100)) hx hb dX2_kindOf_30 zb_100 ?_
  refine z_ci (z_runS (As := [.int (nI 7749), .int (nI 101), .int (nI 100)]) (rest := [.int (nI 32)]) hC zs_X2_107 (m_X2_longer G l (nI 7749) (nI 101) (nI 100) _) hw rfl rfl (Nat.le_of_ble_eq_true rfl) hl.1 ⟨Nat.le_of_ble_eq_true rfl, Nat.le_of_ble_eq_true rfl⟩ ⟨(Nat.le_of_ble_eq_true rfl), (Nat.le_of_ble_eq_true rfl)⟩ dX2_kindOf_32) hw (fun _ => List.Perm.refl _) (fun r u H locs hp hw => ?_)
  obtain rfl : r = nI 32 * (nI 32 * (nI 7749) + (nI 101) - nI 96) + (nI 100) - nI 96 := hp
  rw [show nI 32 * (nI 32 * nI 7749 + nI 101 - nI 96) + nI 100 - nI 96 = nI 7935140 from by decide]
  refine zn_imul hx hb dX2_kindOf_35 ?_
  refine lv_bipush (v := (nI 121)) hx hb dX2_kindOf_36 zb_121 ?_
  refine zn_iadd hx hb dX2_kindOf_38 ?_
  refine lv_bipush (v := (nI 96)) hx hb dX2_kindOf_39 zb_96 ?_
  refine zn_isub hx hb (by decide) dX2_kindOf_41 ?_
  refine lv_istore_n (lv' := [(2, .int (nI 253924505)), (1, .int (nI 17171758)), (0, .int x)]) hx hb dX2_kindOf_42 rfl hl (by decide) rfl (fun ls hl => ?_)
  refine lv_bipush (v := (nI 32)) hx hb dX2_kindOf_43 zb_32 ?_
  refine lv_bipush (v := (nI 110)) hx hb dX2_kindOf_45 zb_110 ?_
  refine lv_bipush (v := (nI 101)) hx hb dX2_kindOf_47 zb_101 ?_
  refine lv_bipush (v := (nI 97)) hx hb dX2_kindOf_49 zb_97 ?_
  refine z_ci (z_runS (As := [.int (nI 110), .int (nI 101), .int (nI 97)]) (rest := [.int (nI 32)]) hC zs_X2_103 (m_X2_word G l (nI 110) (nI 101) (nI 97) _) hw rfl rfl (Nat.le_of_ble_eq_true rfl) hl.1 ⟨Nat.le_of_ble_eq_true rfl, Nat.le_of_ble_eq_true rfl⟩ ⟨(Nat.le_of_ble_eq_true rfl), (Nat.le_of_ble_eq_true rfl)⟩ dX2_kindOf_51) hw (fun _ => List.Perm.refl _) (fun r u H locs hp hw => ?_)
  obtain rfl : r = nI 32 * (nI 32 * ((nI 110) - nI 96) + (nI 101) - nI 96) + (nI 97) - nI 96 := hp
  rw [show nI 32 * (nI 32 * (nI 110 - nI 96) + nI 101 - nI 96) + nI 97 - nI 96 = nI 14497 from by decide]
  refine zn_imul hx hb dX2_kindOf_54 ?_
  refine lv_bipush (v := (nI 116)) hx hb dX2_kindOf_55 zb_116 ?_
  refine zn_iadd hx hb dX2_kindOf_57 ?_
  refine lv_bipush (v := (nI 96)) hx hb dX2_kindOf_58 zb_96 ?_
  refine zn_isub hx hb (by decide) dX2_kindOf_60 ?_
  refine lv_istore_n (lv' := [(3, .int (nI 463924)), (2, .int (nI 253924505)), (1, .int (nI 17171758)), (0, .int x)]) hx hb dX2_kindOf_61 rfl hl (by decide) rfl (fun ls hl => ?_)
  refine lv_bipush (v := (nI 32)) hx hb dX2_kindOf_62 zb_32 ?_
  refine lv_bipush (v := (nI 100)) hx hb dX2_kindOf_64 zb_100 ?_
  refine lv_bipush (v := (nI 111)) hx hb dX2_kindOf_66 zb_111 ?_
  refine lv_bipush (v := (nI 122)) hx hb dX2_kindOf_68 zb_122 ?_
  refine z_ci (z_runS (As := [.int (nI 100), .int (nI 111), .int (nI 122)]) (rest := [.int (nI 32)]) hC zs_X2_103 (m_X2_word G l (nI 100) (nI 111) (nI 122) _) hw rfl rfl (Nat.le_of_ble_eq_true rfl) hl.1 ⟨Nat.le_of_ble_eq_true rfl, Nat.le_of_ble_eq_true rfl⟩ ⟨(Nat.le_of_ble_eq_true rfl), (Nat.le_of_ble_eq_true rfl)⟩ dX2_kindOf_70) hw (fun _ => List.Perm.refl _) (fun r u H locs hp hw => ?_)
  obtain rfl : r = nI 32 * (nI 32 * ((nI 100) - nI 96) + (nI 111) - nI 96) + (nI 122) - nI 96 := hp
  rw [show nI 32 * (nI 32 * (nI 100 - nI 96) + nI 111 - nI 96) + nI 122 - nI 96 = nI 4602 from by decide]
  refine zn_imul hx hb dX2_kindOf_73 ?_
  refine lv_bipush (v := (nI 121)) hx hb dX2_kindOf_74 zb_121 ?_
  refine zn_iadd hx hb dX2_kindOf_76 ?_
  refine lv_bipush (v := (nI 96)) hx hb dX2_kindOf_77 zb_96 ?_
  refine zn_isub hx hb (by decide) dX2_kindOf_79 ?_
  refine lv_istore (lv' := [(4, .int (nI 147289)), (3, .int (nI 463924)), (2, .int (nI 253924505)), (1, .int (nI 17171758)), (0, .int x)]) hx hb dX2_kindOf_80 hl (by decide) rfl (fun ls hl => ?_)
  refine lv_iload_n hx hb dX2_kindOf_82 rfl (lv_at hl 4 rfl) ?_
  refine lv_iload_n hx hb dX2_kindOf_83 rfl (lv_at hl 3 rfl) ?_
  refine lv_icmp_ne (tgt := 91) hx hb dX2_kindOf_84 (by decide) (fun c_84 => ?_) (fun c_84 => ?_)
  · skip
    refine lv_iload_n hx hb dX2_kindOf_91 rfl (lv_at hl 4 rfl) ?_
    refine lv_iload_n hx hb dX2_kindOf_92 rfl (lv_at hl 2 rfl) ?_
    refine lv_icmp_ne (tgt := 100) hx hb dX2_kindOf_93 (by decide) (fun c_93 => ?_) (fun c_93 => ?_)
    · skip
      refine lv_iload_n hx hb dX2_kindOf_100 rfl (lv_at hl 4 rfl) ?_
      refine lv_iload_n hx hb dX2_kindOf_101 rfl (lv_at hl 1 rfl) ?_
      refine lv_icmp_ne (tgt := 109) hx hb dX2_kindOf_102 (by decide) (fun c_102 => ?_) (fun c_102 => ?_)
      · skip
        refine lv_iload_n hx hb dX2_kindOf_109 rfl (lv_at hl 4 rfl) ?_
        refine lv_iload hx hb dX2_kindOf_110 (lv_at hl 0 rfl) ?_
        refine lv_icmp_ne (tgt := 119) hx hb dX2_kindOf_112 (by decide) (fun c_112 => ?_) (fun c_112 => ?_)
        · skip
          refine lv_iload_n hx hb dX2_kindOf_119 rfl (lv_at hl 4 rfl) ?_
          refine lv_bipush (v := (nI 115)) hx hb dX2_kindOf_120 zb_115 ?_
          refine lv_bipush (v := (nI 112)) hx hb dX2_kindOf_122 zb_112 ?_
          refine lv_bipush (v := (nI 121)) hx hb dX2_kindOf_124 zb_121 ?_
          refine z_ci (z_runS (As := [.int (nI 115), .int (nI 112), .int (nI 121)]) (rest := [.int x]) hC zs_X2_103 (m_X2_word G l (nI 115) (nI 112) (nI 121) _) hw rfl rfl (Nat.le_of_ble_eq_true rfl) hl.1 ⟨Nat.le_of_ble_eq_true rfl, Nat.le_of_ble_eq_true rfl⟩ ⟨(Nat.le_of_ble_eq_true rfl), (Nat.le_of_ble_eq_true rfl)⟩ dX2_kindOf_126) hw (fun _ => List.Perm.refl _) (fun r u H locs hp hw => ?_)
          obtain rfl : r = nI 32 * (nI 32 * ((nI 115) - nI 96) + (nI 112) - nI 96) + (nI 121) - nI 96 := hp
          rw [show nI 32 * (nI 32 * (nI 115 - nI 96) + nI 112 - nI 96) + nI 121 - nI 96 = nI 19993 from by decide]
          refine lv_icmp_ne (tgt := 136) hx hb dX2_kindOf_129 (by decide) (fun c_129 => ?_) (fun c_129 => ?_)
          · skip
            refine lv_iconst (v := -1) hx hb dX2_kindOf_136 zk_m1 ?_
            exact hend _ _ _ _ _ _ _ () hw (by first | exact kd0 c_84 | exact kd1 c_84 c_93 | exact kd2 c_84 c_93 c_102 | exact kd3 c_84 c_93 c_102 c_112 | exact kd4 c_84 c_93 c_102 c_112 c_129 | exact kdn c_84 c_93 c_102 c_112 c_129) (Nat.le_of_ble_eq_true rfl) (Nat.le_of_ble_eq_true rfl) dX2_kindOf_137
          · skip
            refine lv_iconst (v := (nI 4)) hx hb dX2_kindOf_132 zk_4 ?_
            refine lv_goto (tgt := 137) hx hb dX2_kindOf_133 (by decide) ?_
            exact hend _ _ _ _ _ _ _ () hw (by first | exact kd0 c_84 | exact kd1 c_84 c_93 | exact kd2 c_84 c_93 c_102 | exact kd3 c_84 c_93 c_102 c_112 | exact kd4 c_84 c_93 c_102 c_112 c_129 | exact kdn c_84 c_93 c_102 c_112 c_129) (Nat.le_of_ble_eq_true rfl) (Nat.le_of_ble_eq_true rfl) dX2_kindOf_137
        · skip
          refine lv_iconst (v := (nI 3)) hx hb dX2_kindOf_115 zk_3 ?_
          refine lv_goto (tgt := 137) hx hb dX2_kindOf_116 (by decide) ?_
          exact hend _ _ _ _ _ _ _ () hw (by first | exact kd0 c_84 | exact kd1 c_84 c_93 | exact kd2 c_84 c_93 c_102 | exact kd3 c_84 c_93 c_102 c_112 | exact kd4 c_84 c_93 c_102 c_112 c_129 | exact kdn c_84 c_93 c_102 c_112 c_129) (Nat.le_of_ble_eq_true rfl) (Nat.le_of_ble_eq_true rfl) dX2_kindOf_137
      · skip
        refine lv_iconst (v := (nI 2)) hx hb dX2_kindOf_105 zk_2 ?_
        refine lv_goto (tgt := 137) hx hb dX2_kindOf_106 (by decide) ?_
        exact hend _ _ _ _ _ _ _ () hw (by first | exact kd0 c_84 | exact kd1 c_84 c_93 | exact kd2 c_84 c_93 c_102 | exact kd3 c_84 c_93 c_102 c_112 | exact kd4 c_84 c_93 c_102 c_112 c_129 | exact kdn c_84 c_93 c_102 c_112 c_129) (Nat.le_of_ble_eq_true rfl) (Nat.le_of_ble_eq_true rfl) dX2_kindOf_137
    · skip
      refine lv_iconst (v := (nI 1)) hx hb dX2_kindOf_96 zk_1 ?_
      refine lv_goto (tgt := 137) hx hb dX2_kindOf_97 (by decide) ?_
      exact hend _ _ _ _ _ _ _ () hw (by first | exact kd0 c_84 | exact kd1 c_84 c_93 | exact kd2 c_84 c_93 c_102 | exact kd3 c_84 c_93 c_102 c_112 | exact kd4 c_84 c_93 c_102 c_112 c_129 | exact kdn c_84 c_93 c_102 c_112 c_129) (Nat.le_of_ble_eq_true rfl) (Nat.le_of_ble_eq_true rfl) dX2_kindOf_137
  · skip
    refine lv_iconst (v := (nI 0)) hx hb dX2_kindOf_87 zk_0 ?_
    refine lv_goto (tgt := 137) hx hb dX2_kindOf_88 (by decide) ?_
    exact hend _ _ _ _ _ _ _ () hw (by first | exact kd0 c_84 | exact kd1 c_84 c_93 | exact kd2 c_84 c_93 c_102 | exact kd3 c_84 c_93 c_102 c_112 | exact kd4 c_84 c_93 c_102 c_112 c_129 | exact kdn c_84 c_93 c_102 c_112 c_129) (Nat.le_of_ble_eq_true rfl) (Nat.le_of_ble_eq_true rfl) dX2_kindOf_137
theorem zf_X2_16_2 : zFl 2 10 RX2 16 true (.array .int) := ⟨RX2, TX2, 25, tyX2, rfl, by decide, in_X2, q1808, rfl, by decide +kernel, tyX2_ok, nmX2⟩
theorem zv_X2_110 : zVs RX2 110 yX2_figure cX2_figure 4 (some .int) 2 := ⟨lw_V q1932 q1934 qs34 q53 q1935, ⟨by decide +kernel, by decide +kernel⟩, by decide +kernel⟩
set_option maxHeartbeats 4000000 in
theorem m_X2_tellsPit (G : zE) (l : Launch) (mo : Nat) (q : Nat → Nat) (cl : Int32) (un : Int32) (si : Int32) (n : Nat) (tx : Nat → Nat) (g0 : Nat → Int32) (hn : n ≤ 200) (hg : ∀ j, j < n → g0 j = nI (tx j)) (ht : ∀ j, j < n → tx j < 256) (po : Nat) (hpo : po ≤ n) (tk : Int32) (ln : Int32) (va : Int32) (v : Nat → Nat) (hH : Hw v) (rest : va_W) : zMv G l yX2_tellsPit cX2_tellsPit 4 4 0 0 [.ref mo] ((mo, zo 2 (mF q (nI n) (nI (tS tx n po)) (nI (tF tx n po)) tk ln va (-1) cl un si)) :: (q 0, zc G 0 (zI 200 g0)) :: (q 10, zc G 0 (zI 46 (vI v))) :: rest) (fun u => cR n (if v 0 = 9 then .inl (tF tx n po) else twoN tx n po 0 20 0 100 (putP v)) u) (fun (u : CU) => (mo, zo 2 (mF q (nI n) (nI (tS tx n u.1)) (nI (tF tx n u.1)) (nI (tK tx n u.1)) (nI (tL tx n u.1)) u.2.2.2 u.2.2.1 cl un si)) :: (q 0, zc G 0 (zI 200 g0)) :: (q 10, zc G 0 (zI 46 (vI u.2.1))) :: rest) := by
  refine z_begV (by decide) (Nat.le_of_ble_eq_true rfl) (fun p e s m args below meth c ls Q hC hnm hl hw hend => ?_)
  have hx := hC.hx
  have hb := hC.hb
  have hl : lv_has ls 4 [(0, .ref mo)] := hl
  have hw : zS G ((mo, zo 2 (mF q (nI n) (nI (tS tx n po)) (nI (tF tx n po)) tk ln va (-1) cl un si)) :: (q 0, zc G 0 (zI 200 g0)) :: (q 10, zc G 0 (zI 46 (vI v))) :: rest) s s.heap [] := hw
  have hv0 := hH.1
  refine lv_aload_n hx hb dX2_tellsPit_0 rfl (lv_at hl 0 rfl) ?_
  refine lv_aload_n hx hb dX2_tellsPit_1 rfl (lv_at hl 0 rfl) ?_
  refine z_get (v := .ref (q 10)) hC zf_X2_16_2 hw 0 rfl rfl dX2_tellsPit_2 ?_
  refine lv_iconst (v := (nI 0)) hx hb dX2_tellsPit_5 zk_0 ?_
  refine z_iald (x := (nI (v 0))) hC hw 2 rfl (by decide) (by decide) rfl dX2_tellsPit_6 ?_
  have join_17 : ∀ (z : Int32), (z = bI (v 0 = 9)) → ∀ (H : Heap) (locs : List Loc) (ls : Array Slot), zS G ((mo, zo 2 (mF q (nI n) (nI (tS tx n po)) (nI (tF tx n po)) tk ln va (-1) cl un si)) :: (q 0, zc G 0 (zI 200 g0)) :: (q 10, zc G 0 (zI 46 (vI v))) :: rest) s H locs → lv_has ls 4 [(0, .ref mo)] → W p l e (zR 4 0 0) s m args below meth c H locs 0 0 Q (F0 m 17 ls [.int z, .ref mo]) := by
    intro z hz H locs ls hw hl
    subst hz
    refine z_cv (z_runV (As := [.int (bI (v 0 = 9))]) (rest := []) hC zv_X2_96 (m_X2_fails G l mo q cl un si n tx g0 (by omega) (by first | assumption | (omega)) (by first | assumption | (omega)) (nI (tS tx n po)) (nI (tF tx n po)) tk ln va (v 0 = 9) (zrem [0] _)) hw (hw.perm (z_cut (is := [0]) (cells := [(mo, zo 2 (mF q (nI n) (nI (tS tx n po)) (nI (tF tx n po)) tk ln va (-1) cl un si))]) rfl rfl)) 0 rfl rfl rfl rfl rfl (Nat.le_of_ble_eq_true rfl) hl.1 ⟨Nat.le_of_ble_eq_true rfl, Nat.le_of_ble_eq_true rfl⟩ ⟨(Nat.le_of_ble_eq_true rfl), (Nat.le_of_ble_eq_true rfl)⟩ dX2_tellsPit_17) hw (fun _ => z_pput (is := [0]) (cells := [(mo, zo 2 (mF q (nI n) (nI (tS tx n po)) (nI (tF tx n po)) tk ln va (-1) cl un si))]) (cells' := [(mo, zo 2 (mF q (nI n) (nI (tS tx n po)) (nI (tF tx n po)) tk ln va (ifP (v 0 = 9) (nI (tF tx n po)) (-1)) cl un si))]) rfl rfl rfl) (fun u H locs hp hw => ?_)
    have hw : zS G ((mo, zo 2 (mF q (nI n) (nI (tS tx n po)) (nI (tF tx n po)) tk ln va (ifP (v 0 = 9) (nI (tF tx n po)) (-1)) cl un si)) :: (q 0, zc G 0 (zI 200 g0)) :: (q 10, zc G 0 (zI 46 (vI v))) :: rest) s H locs := hw
    rcases Classical.em (v 0 = 9) with c5 | c5
    · skip
      rw [ifP_t c5] at hw
      have hw : zS G ((mo, zo 2 (mF q (nI n) (nI (tS tx n po)) (nI (tF tx n po)) tk ln va (nI (tF tx n po)) cl un si)) :: (q 0, zc G 0 (zI 200 g0)) :: (q 10, zc G 0 (zI 46 (vI v))) :: rest) s H locs := hw
      have hl : lv_has ls 4 [(0, .ref mo)] := hl
      have hw : zS G ((mo, zo 2 (mF q (nI n) (nI (tS tx n po)) (nI (tF tx n po)) tk ln va (nI (tF tx n po)) cl un si)) :: (q 0, zc G 0 (zI 200 g0)) :: (q 10, zc G 0 (zI 46 (vI v))) :: rest) s H locs := hw
      refine lv_aload_n hx hb dX2_tellsPit_20 rfl (lv_at hl 0 rfl) ?_
      refine z_cv (z_runV (As := []) (rest := []) hC zv_X2_100 (m_X2_advances G l mo q cl un si n tx g0 (by omega) (by first | assumption | (omega)) (by first | assumption | (omega)) (nI (tF tx n po)) tk ln va (nI (tF tx n po)) (tS tx n po) (by first | exact tS_le hpo | exact tS_le (tS_le hpo) | exact tS_le (tS_le (tS_le hpo))) (zrem [0, 1] _)) hw (hw.perm (z_cut (is := [0, 1]) (cells := [(mo, zo 2 (mF q (nI n) (nI (tS tx n po)) (nI (tF tx n po)) tk ln va (nI (tF tx n po)) cl un si)), (q 0, zc G 0 (zI 200 g0))]) rfl rfl)) 0 rfl rfl rfl rfl rfl (Nat.le_of_ble_eq_true rfl) hl.1 ⟨Nat.le_of_ble_eq_true rfl, Nat.le_of_ble_eq_true rfl⟩ ⟨(Nat.le_of_ble_eq_true rfl), (Nat.le_of_ble_eq_true rfl)⟩ dX2_tellsPit_21) hw (fun _ => z_pput (is := [0, 1]) (cells := [(mo, zo 2 (mF q (nI n) (nI (tS tx n po)) (nI (tF tx n po)) tk ln va (nI (tF tx n po)) cl un si)), (q 0, zc G 0 (zI 200 g0))]) (cells' := [(mo, zo 2 (mF q (nI n) (nI (tS tx n (tS tx n po))) (nI (tF tx n (tS tx n po))) (nI (tK tx n (tS tx n po))) (nI (tL tx n (tS tx n po))) (optI (tV tx n (tS tx n po))) (nI (tF tx n po)) cl un si)), (q 0, zc G 0 (zI 200 g0))]) rfl rfl rfl) (fun u H locs hp hw => ?_)
      have hw : zS G ((mo, zo 2 (mF q (nI n) (nI (tS tx n (tS tx n po))) (nI (tF tx n (tS tx n po))) (nI (tK tx n (tS tx n po))) (nI (tL tx n (tS tx n po))) (optI (tV tx n (tS tx n po))) (nI (tF tx n po)) cl un si)) :: (q 0, zc G 0 (zI 200 g0)) :: (q 10, zc G 0 (zI 46 (vI v))) :: rest) s H locs := hw
      refine lv_aload_n hx hb dX2_tellsPit_24 rfl (lv_at hl 0 rfl) ?_
      refine lv_iconst (v := (nI 0)) hx hb dX2_tellsPit_25 zk_0 ?_
      refine lv_bipush (v := (nI 19)) hx hb dX2_tellsPit_26 zb_19 ?_
      refine z_ci (z_runV (As := [.int (nI 0), .int (nI 19)]) (rest := []) hC zv_X2_110 (m_X2_figure_w G l mo q cl un si n tx g0 (by omega) (by first | assumption | (omega)) (by first | assumption | (omega)) (tS tx n po) (by first | exact tS_le hpo | exact tS_le (tS_le hpo) | exact tS_le (tS_le (tS_le hpo))) (nI 0) (nI 19) (tF tx n po) (by have := (tF_le (tx := tx) (n := n) (p := po) hpo).2; have := (tF_le (tx := tx) (tS_le (tx := tx) hpo)).2; have := (tF_le (tx := tx) (tS_le (tx := tx) (tS_le (tx := tx) hpo))).2; omega) (zrem [0, 1] _)) hw (hw.perm (z_cut (is := [0, 1]) (cells := [(mo, zo 2 (mF q (nI n) (nI (tS tx n (tS tx n po))) (nI (tF tx n (tS tx n po))) (nI (tK tx n (tS tx n po))) (nI (tL tx n (tS tx n po))) (optI (tV tx n (tS tx n po))) (nI (tF tx n po)) cl un si)), (q 0, zc G 0 (zI 200 g0))]) rfl rfl)) 0 rfl rfl rfl rfl rfl (Nat.le_of_ble_eq_true rfl) hl.1 ⟨Nat.le_of_ble_eq_true rfl, Nat.le_of_ble_eq_true rfl⟩ ⟨(Nat.le_of_ble_eq_true rfl), (Nat.le_of_ble_eq_true rfl)⟩ dX2_tellsPit_28) hw (fun _ => z_pput (is := [0, 1]) (cells := [(mo, zo 2 (mF q (nI n) (nI (tS tx n (tS tx n po))) (nI (tF tx n (tS tx n po))) (nI (tK tx n (tS tx n po))) (nI (tL tx n (tS tx n po))) (optI (tV tx n (tS tx n po))) (nI (tF tx n po)) cl un si)), (q 0, zc G 0 (zI 200 g0))]) (cells' := [(mo, zo 2 (mF q (nI n) (nI (tS tx n (tS tx n (tS tx n po)))) (nI (tF tx n (tS tx n (tS tx n po)))) (nI (tK tx n (tS tx n (tS tx n po)))) (nI (tL tx n (tS tx n (tS tx n po)))) (optI (tV tx n (tS tx n (tS tx n po)))) (nI (tF tx n po)) cl un si)), (q 0, zc G 0 (zI 200 g0))]) rfl rfl rfl) (fun r u H locs hp hw => ?_)
      have hw : zS G ((mo, zo 2 (mF q (nI n) (nI (tS tx n (tS tx n (tS tx n po)))) (nI (tF tx n (tS tx n (tS tx n po)))) (nI (tK tx n (tS tx n (tS tx n po)))) (nI (tL tx n (tS tx n (tS tx n po)))) (optI (tV tx n (tS tx n (tS tx n po)))) (nI (tF tx n po)) cl un si)) :: (q 0, zc G 0 (zI 200 g0)) :: (q 10, zc G 0 (zI 46 (vI v))) :: rest) s H locs := hw
      obtain rfl : r = nI 0 := hp
      refine lv_istore_n (lv' := [(1, .int (nI 0)), (0, .ref mo)]) hx hb dX2_tellsPit_31 rfl hl (by decide) rfl (fun ls hl => ?_)
      refine lv_aload_n hx hb dX2_tellsPit_32 rfl (lv_at hl 1 rfl) ?_
      refine lv_iconst (v := (nI 0)) hx hb dX2_tellsPit_33 zk_0 ?_
      refine lv_bipush (v := (nI 99)) hx hb dX2_tellsPit_34 zb_99 ?_
      refine z_ci (z_runV (As := [.int (nI 0), .int (nI 99)]) (rest := []) hC zv_X2_110 (m_X2_figure_w G l mo q cl un si n tx g0 (by omega) (by first | assumption | (omega)) (by first | assumption | (omega)) (tS tx n (tS tx n po)) (by first | exact tS_le hpo | exact tS_le (tS_le hpo) | exact tS_le (tS_le (tS_le hpo))) (nI 0) (nI 99) (tF tx n po) (by have := (tF_le (tx := tx) (n := n) (p := po) hpo).2; have := (tF_le (tx := tx) (tS_le (tx := tx) hpo)).2; have := (tF_le (tx := tx) (tS_le (tx := tx) (tS_le (tx := tx) hpo))).2; omega) (zrem [0, 1] _)) hw (hw.perm (z_cut (is := [0, 1]) (cells := [(mo, zo 2 (mF q (nI n) (nI (tS tx n (tS tx n (tS tx n po)))) (nI (tF tx n (tS tx n (tS tx n po)))) (nI (tK tx n (tS tx n (tS tx n po)))) (nI (tL tx n (tS tx n (tS tx n po)))) (optI (tV tx n (tS tx n (tS tx n po)))) (nI (tF tx n po)) cl un si)), (q 0, zc G 0 (zI 200 g0))]) rfl rfl)) 0 rfl rfl rfl rfl rfl (Nat.le_of_ble_eq_true rfl) hl.1 ⟨Nat.le_of_ble_eq_true rfl, Nat.le_of_ble_eq_true rfl⟩ ⟨(Nat.le_of_ble_eq_true rfl), (Nat.le_of_ble_eq_true rfl)⟩ dX2_tellsPit_36) hw (fun _ => z_pput (is := [0, 1]) (cells := [(mo, zo 2 (mF q (nI n) (nI (tS tx n (tS tx n (tS tx n po)))) (nI (tF tx n (tS tx n (tS tx n po)))) (nI (tK tx n (tS tx n (tS tx n po)))) (nI (tL tx n (tS tx n (tS tx n po)))) (optI (tV tx n (tS tx n (tS tx n po)))) (nI (tF tx n po)) cl un si)), (q 0, zc G 0 (zI 200 g0))]) (cells' := [(mo, zo 2 (mF q (nI n) (nI (tS tx n (tS tx n (tS tx n (tS tx n po))))) (nI (tF tx n (tS tx n (tS tx n (tS tx n po))))) (nI (tK tx n (tS tx n (tS tx n (tS tx n po))))) (nI (tL tx n (tS tx n (tS tx n (tS tx n po))))) (optI (tV tx n (tS tx n (tS tx n (tS tx n po))))) (nI (tF tx n po)) cl un si)), (q 0, zc G 0 (zI 200 g0))]) rfl rfl rfl) (fun r u H locs hp hw => ?_)
      have hw : zS G ((mo, zo 2 (mF q (nI n) (nI (tS tx n (tS tx n (tS tx n (tS tx n po))))) (nI (tF tx n (tS tx n (tS tx n (tS tx n po))))) (nI (tK tx n (tS tx n (tS tx n (tS tx n po))))) (nI (tL tx n (tS tx n (tS tx n (tS tx n po))))) (optI (tV tx n (tS tx n (tS tx n (tS tx n po))))) (nI (tF tx n po)) cl un si)) :: (q 0, zc G 0 (zI 200 g0)) :: (q 10, zc G 0 (zI 46 (vI v))) :: rest) s H locs := hw
      obtain rfl : r = nI 0 := hp
      refine lv_istore_n (lv' := [(2, .int (nI 0)), (1, .int (nI 0)), (0, .ref mo)]) hx hb dX2_tellsPit_39 rfl hl (by decide) rfl (fun ls hl => ?_)
      refine lv_aload_n hx hb dX2_tellsPit_40 rfl (lv_at hl 2 rfl) ?_
      refine z_get (v := .int (nI (tF tx n po))) hC zf_X2_93_2 hw 0 rfl rfl dX2_tellsPit_41 ?_
      refine lv_iconst (v := -1) hx hb dX2_tellsPit_44 zk_m1 ?_
      refine lv_icmp_ne (tgt := 85) hx hb dX2_tellsPit_45 (by decide) (fun _ => ?_) (fun h => absurd h (nI_nm1 (tF_lt hn (by first | exact hpo | exact tS_le hpo | exact tS_le (tS_le hpo) | exact tS_le (tS_le (tS_le hpo))))))
      exact hend _ _ _ _ _ _ ((tS tx n (tS tx n (tS tx n po))), v, (nI (tF tx n po)), (optI (tV tx n (tS tx n (tS tx n (tS tx n po)))))) hw (by first | exact cR_l hpo (tS_le (tS_le (tS_le hpo))) (if_pos c5) | exact cR_l (tS_le hpo) (tS_le (tS_le (tS_le hpo))) ((if_neg c5).trans (two_1 hN1)) | exact cR_l (tS_le (tS_le hpo)) (tS_le (tS_le (tS_le hpo))) ((if_neg c5).trans (two_2 hN1 hN2)) | exact cR_r (tS_le (tS_le (tS_le hpo))) ((if_neg c5).trans (two_3 hN1 hN2)) | exact cR_l (tS_le hpo) (tS_le (tS_le (tS_le hpo))) (two_1 hN1) | exact cR_l (tS_le (tS_le hpo)) (tS_le (tS_le (tS_le hpo))) (two_2 hN1 hN2) | exact cR_r (tS_le (tS_le (tS_le hpo))) (two_3 hN1 hN2)) (Nat.le_of_ble_eq_true rfl) (Nat.le_of_ble_eq_true rfl) dX2_tellsPit_85
    · skip
      rw [ifP_f c5] at hw
      have hw : zS G ((mo, zo 2 (mF q (nI n) (nI (tS tx n po)) (nI (tF tx n po)) tk ln va (-1) cl un si)) :: (q 0, zc G 0 (zI 200 g0)) :: (q 10, zc G 0 (zI 46 (vI v))) :: rest) s H locs := hw
      have hl : lv_has ls 4 [(0, .ref mo)] := hl
      have hw : zS G ((mo, zo 2 (mF q (nI n) (nI (tS tx n po)) (nI (tF tx n po)) tk ln va (-1) cl un si)) :: (q 0, zc G 0 (zI 200 g0)) :: (q 10, zc G 0 (zI 46 (vI v))) :: rest) s H locs := hw
      refine lv_aload_n hx hb dX2_tellsPit_20 rfl (lv_at hl 0 rfl) ?_
      refine z_cv (z_runV (As := []) (rest := []) hC zv_X2_100 (m_X2_advances G l mo q cl un si n tx g0 (by omega) (by first | assumption | (omega)) (by first | assumption | (omega)) (nI (tF tx n po)) tk ln va (-1) (tS tx n po) (by first | exact tS_le hpo | exact tS_le (tS_le hpo) | exact tS_le (tS_le (tS_le hpo))) (zrem [0, 1] _)) hw (hw.perm (z_cut (is := [0, 1]) (cells := [(mo, zo 2 (mF q (nI n) (nI (tS tx n po)) (nI (tF tx n po)) tk ln va (-1) cl un si)), (q 0, zc G 0 (zI 200 g0))]) rfl rfl)) 0 rfl rfl rfl rfl rfl (Nat.le_of_ble_eq_true rfl) hl.1 ⟨Nat.le_of_ble_eq_true rfl, Nat.le_of_ble_eq_true rfl⟩ ⟨(Nat.le_of_ble_eq_true rfl), (Nat.le_of_ble_eq_true rfl)⟩ dX2_tellsPit_21) hw (fun _ => z_pput (is := [0, 1]) (cells := [(mo, zo 2 (mF q (nI n) (nI (tS tx n po)) (nI (tF tx n po)) tk ln va (-1) cl un si)), (q 0, zc G 0 (zI 200 g0))]) (cells' := [(mo, zo 2 (mF q (nI n) (nI (tS tx n (tS tx n po))) (nI (tF tx n (tS tx n po))) (nI (tK tx n (tS tx n po))) (nI (tL tx n (tS tx n po))) (optI (tV tx n (tS tx n po))) (-1) cl un si)), (q 0, zc G 0 (zI 200 g0))]) rfl rfl rfl) (fun u H locs hp hw => ?_)
      have hw : zS G ((mo, zo 2 (mF q (nI n) (nI (tS tx n (tS tx n po))) (nI (tF tx n (tS tx n po))) (nI (tK tx n (tS tx n po))) (nI (tL tx n (tS tx n po))) (optI (tV tx n (tS tx n po))) (-1) cl un si)) :: (q 0, zc G 0 (zI 200 g0)) :: (q 10, zc G 0 (zI 46 (vI v))) :: rest) s H locs := hw
      refine lv_aload_n hx hb dX2_tellsPit_24 rfl (lv_at hl 0 rfl) ?_
      refine lv_iconst (v := (nI 0)) hx hb dX2_tellsPit_25 zk_0 ?_
      refine lv_bipush (v := (nI 19)) hx hb dX2_tellsPit_26 zb_19 ?_
      refine z_ci (z_runV (As := [.int (nI 0), .int (nI 19)]) (rest := []) hC zv_X2_110 (m_X2_figure G l mo q cl un si n tx g0 (by omega) (by first | assumption | (omega)) (by first | assumption | (omega)) (tS tx n po) (by first | exact tS_le hpo | exact tS_le (tS_le hpo) | exact tS_le (tS_le (tS_le hpo))) 0 20 (nI 19) (hf_c (lo := 0) (hh := 20) (by decide) (by decide) (by decide)) (zrem [0, 1] _)) hw (hw.perm (z_cut (is := [0, 1]) (cells := [(mo, zo 2 (mF q (nI n) (nI (tS tx n (tS tx n po))) (nI (tF tx n (tS tx n po))) (nI (tK tx n (tS tx n po))) (nI (tL tx n (tS tx n po))) (optI (tV tx n (tS tx n po))) (-1) cl un si)), (q 0, zc G 0 (zI 200 g0))]) rfl rfl)) 0 rfl rfl rfl rfl rfl (Nat.le_of_ble_eq_true rfl) hl.1 ⟨Nat.le_of_ble_eq_true rfl, Nat.le_of_ble_eq_true rfl⟩ ⟨(Nat.le_of_ble_eq_true rfl), (Nat.le_of_ble_eq_true rfl)⟩ dX2_tellsPit_28) hw (fun _ => z_pput (is := [0, 1]) (cells := [(mo, zo 2 (mF q (nI n) (nI (tS tx n (tS tx n po))) (nI (tF tx n (tS tx n po))) (nI (tK tx n (tS tx n po))) (nI (tL tx n (tS tx n po))) (optI (tV tx n (tS tx n po))) (-1) cl un si)), (q 0, zc G 0 (zI 200 g0))]) (cells' := [(mo, zo 2 (mF q (nI n) (nI (tS tx n (tS tx n (tS tx n po)))) (nI (tF tx n (tS tx n (tS tx n po)))) (nI (tK tx n (tS tx n (tS tx n po)))) (nI (tL tx n (tS tx n (tS tx n po)))) (optI (tV tx n (tS tx n (tS tx n po)))) (fgW tx n (tS tx n po) 0 20) cl un si)), (q 0, zc G 0 (zI 200 g0))]) rfl rfl rfl) (fun r u H locs hp hw => ?_)
      have hw : zS G ((mo, zo 2 (mF q (nI n) (nI (tS tx n (tS tx n (tS tx n po)))) (nI (tF tx n (tS tx n (tS tx n po)))) (nI (tK tx n (tS tx n (tS tx n po)))) (nI (tL tx n (tS tx n (tS tx n po)))) (optI (tV tx n (tS tx n (tS tx n po)))) (fgW tx n (tS tx n po) 0 20) cl un si)) :: (q 0, zc G 0 (zI 200 g0)) :: (q 10, zc G 0 (zI 46 (vI v))) :: rest) s H locs := hw
      obtain rfl : r = nI (fgV tx n (tS tx n po) 0 20) := hp
      rcases fg_cases tx n (tS tx n po) 0 20 with ⟨hN1, e1_1, e2_1⟩ | ⟨hN1, e1_1, e2_1⟩
      · skip
        rw [e1_1]
        rw [e2_1] at hw
        have hq1 : tQ tx n (tS tx n po) < 20 := hN1.2.2.2
        have hw : zS G ((mo, zo 2 (mF q (nI n) (nI (tS tx n (tS tx n (tS tx n po)))) (nI (tF tx n (tS tx n (tS tx n po)))) (nI (tK tx n (tS tx n (tS tx n po)))) (nI (tL tx n (tS tx n (tS tx n po)))) (optI (tV tx n (tS tx n (tS tx n po)))) (-1) cl un si)) :: (q 0, zc G 0 (zI 200 g0)) :: (q 10, zc G 0 (zI 46 (vI v))) :: rest) s H locs := hw
        have hl : lv_has ls 4 [(0, .ref mo)] := hl
        have hw : zS G ((mo, zo 2 (mF q (nI n) (nI (tS tx n (tS tx n (tS tx n po)))) (nI (tF tx n (tS tx n (tS tx n po)))) (nI (tK tx n (tS tx n (tS tx n po)))) (nI (tL tx n (tS tx n (tS tx n po)))) (optI (tV tx n (tS tx n (tS tx n po)))) (-1) cl un si)) :: (q 0, zc G 0 (zI 200 g0)) :: (q 10, zc G 0 (zI 46 (vI v))) :: rest) s H locs := hw
        refine lv_istore_n (lv' := [(1, .int (nI (tQ tx n (tS tx n po)))), (0, .ref mo)]) hx hb dX2_tellsPit_31 rfl hl (by decide) rfl (fun ls hl => ?_)
        refine lv_aload_n hx hb dX2_tellsPit_32 rfl (lv_at hl 1 rfl) ?_
        refine lv_iconst (v := (nI 0)) hx hb dX2_tellsPit_33 zk_0 ?_
        refine lv_bipush (v := (nI 99)) hx hb dX2_tellsPit_34 zb_99 ?_
        refine z_ci (z_runV (As := [.int (nI 0), .int (nI 99)]) (rest := []) hC zv_X2_110 (m_X2_figure G l mo q cl un si n tx g0 (by omega) (by first | assumption | (omega)) (by first | assumption | (omega)) (tS tx n (tS tx n po)) (by first | exact tS_le hpo | exact tS_le (tS_le hpo) | exact tS_le (tS_le (tS_le hpo))) 0 100 (nI 99) (hf_c (lo := 0) (hh := 100) (by decide) (by decide) (by decide)) (zrem [0, 1] _)) hw (hw.perm (z_cut (is := [0, 1]) (cells := [(mo, zo 2 (mF q (nI n) (nI (tS tx n (tS tx n (tS tx n po)))) (nI (tF tx n (tS tx n (tS tx n po)))) (nI (tK tx n (tS tx n (tS tx n po)))) (nI (tL tx n (tS tx n (tS tx n po)))) (optI (tV tx n (tS tx n (tS tx n po)))) (-1) cl un si)), (q 0, zc G 0 (zI 200 g0))]) rfl rfl)) 0 rfl rfl rfl rfl rfl (Nat.le_of_ble_eq_true rfl) hl.1 ⟨Nat.le_of_ble_eq_true rfl, Nat.le_of_ble_eq_true rfl⟩ ⟨(Nat.le_of_ble_eq_true rfl), (Nat.le_of_ble_eq_true rfl)⟩ dX2_tellsPit_36) hw (fun _ => z_pput (is := [0, 1]) (cells := [(mo, zo 2 (mF q (nI n) (nI (tS tx n (tS tx n (tS tx n po)))) (nI (tF tx n (tS tx n (tS tx n po)))) (nI (tK tx n (tS tx n (tS tx n po)))) (nI (tL tx n (tS tx n (tS tx n po)))) (optI (tV tx n (tS tx n (tS tx n po)))) (-1) cl un si)), (q 0, zc G 0 (zI 200 g0))]) (cells' := [(mo, zo 2 (mF q (nI n) (nI (tS tx n (tS tx n (tS tx n (tS tx n po))))) (nI (tF tx n (tS tx n (tS tx n (tS tx n po))))) (nI (tK tx n (tS tx n (tS tx n (tS tx n po))))) (nI (tL tx n (tS tx n (tS tx n (tS tx n po))))) (optI (tV tx n (tS tx n (tS tx n (tS tx n po))))) (fgW tx n (tS tx n (tS tx n po)) 0 100) cl un si)), (q 0, zc G 0 (zI 200 g0))]) rfl rfl rfl) (fun r u H locs hp hw => ?_)
        have hw : zS G ((mo, zo 2 (mF q (nI n) (nI (tS tx n (tS tx n (tS tx n (tS tx n po))))) (nI (tF tx n (tS tx n (tS tx n (tS tx n po))))) (nI (tK tx n (tS tx n (tS tx n (tS tx n po))))) (nI (tL tx n (tS tx n (tS tx n (tS tx n po))))) (optI (tV tx n (tS tx n (tS tx n (tS tx n po))))) (fgW tx n (tS tx n (tS tx n po)) 0 100) cl un si)) :: (q 0, zc G 0 (zI 200 g0)) :: (q 10, zc G 0 (zI 46 (vI v))) :: rest) s H locs := hw
        obtain rfl : r = nI (fgV tx n (tS tx n (tS tx n po)) 0 100) := hp
        rcases fg_cases tx n (tS tx n (tS tx n po)) 0 100 with ⟨hN2, e1_2, e2_2⟩ | ⟨hN2, e1_2, e2_2⟩
        · skip
          rw [e1_2]
          rw [e2_2] at hw
          have hq2 : tQ tx n (tS tx n (tS tx n po)) < 100 := hN2.2.2.2
          have hw : zS G ((mo, zo 2 (mF q (nI n) (nI (tS tx n (tS tx n (tS tx n (tS tx n po))))) (nI (tF tx n (tS tx n (tS tx n (tS tx n po))))) (nI (tK tx n (tS tx n (tS tx n (tS tx n po))))) (nI (tL tx n (tS tx n (tS tx n (tS tx n po))))) (optI (tV tx n (tS tx n (tS tx n (tS tx n po))))) (-1) cl un si)) :: (q 0, zc G 0 (zI 200 g0)) :: (q 10, zc G 0 (zI 46 (vI v))) :: rest) s H locs := hw
          have hl : lv_has ls 4 [(1, .int (nI (tQ tx n (tS tx n po)))), (0, .ref mo)] := hl
          have hw : zS G ((mo, zo 2 (mF q (nI n) (nI (tS tx n (tS tx n (tS tx n (tS tx n po))))) (nI (tF tx n (tS tx n (tS tx n (tS tx n po))))) (nI (tK tx n (tS tx n (tS tx n (tS tx n po))))) (nI (tL tx n (tS tx n (tS tx n (tS tx n po))))) (optI (tV tx n (tS tx n (tS tx n (tS tx n po))))) (-1) cl un si)) :: (q 0, zc G 0 (zI 200 g0)) :: (q 10, zc G 0 (zI 46 (vI v))) :: rest) s H locs := hw
          refine lv_istore_n (lv' := [(2, .int (nI (tQ tx n (tS tx n (tS tx n po))))), (1, .int (nI (tQ tx n (tS tx n po)))), (0, .ref mo)]) hx hb dX2_tellsPit_39 rfl hl (by decide) rfl (fun ls hl => ?_)
          refine lv_aload_n hx hb dX2_tellsPit_40 rfl (lv_at hl 2 rfl) ?_
          refine z_get (v := .int (-1)) hC zf_X2_93_2 hw 0 rfl rfl dX2_tellsPit_41 ?_
          refine lv_iconst (v := -1) hx hb dX2_tellsPit_44 zk_m1 ?_
          refine lv_icmp_ne (tgt := 85) hx hb dX2_tellsPit_45 (by decide) (fun h => absurd h (by decide)) (fun _ => ?_)
          refine lv_iconst (v := (nI 3)) hx hb dX2_tellsPit_48 zk_3 ?_
          refine lv_iconst (v := (nI 2)) hx hb dX2_tellsPit_49 zk_2 ?_
          refine lv_aload_n hx hb dX2_tellsPit_50 rfl (lv_at hl 2 rfl) ?_
          refine z_get (v := .ref (q 10)) hC zf_X2_16_2 hw 0 rfl rfl dX2_tellsPit_51 ?_
          refine lv_iconst (v := (nI 0)) hx hb dX2_tellsPit_54 zk_0 ?_
          refine z_iald (x := (nI (v 0))) hC hw 2 rfl (by decide) (by decide) rfl dX2_tellsPit_55 ?_
          refine zn_imul hx hb dX2_tellsPit_56 ?_
          refine zn_iadd hx hb dX2_tellsPit_57 ?_
          refine lv_istore_n (lv' := [(3, .int (nI (3 + (2 * (v 0))))), (2, .int (nI (tQ tx n (tS tx n (tS tx n po))))), (1, .int (nI (tQ tx n (tS tx n po)))), (0, .ref mo)]) hx hb dX2_tellsPit_58 rfl hl (by decide) rfl (fun ls hl => ?_)
          refine lv_aload_n hx hb dX2_tellsPit_59 rfl (lv_at hl 3 rfl) ?_
          refine z_get (v := .ref (q 10)) hC zf_X2_16_2 hw 0 rfl rfl dX2_tellsPit_60 ?_
          refine lv_iload_n hx hb dX2_tellsPit_63 rfl (lv_at hl 0 rfl) ?_
          refine lv_iload_n hx hb dX2_tellsPit_64 rfl (lv_at hl 2 rfl) ?_
          refine z_iast (f' := vI (updN v (3 + (2 * (v 0))) (tQ tx n (tS tx n po)))) hC hw 2 rfl (by have := hH.2.2.1 0; omega) (by decide) (vI_upd _ _ _) dX2_tellsPit_65 (fun H locs hw => ?_)
          have hw : zS G ((mo, zo 2 (mF q (nI n) (nI (tS tx n (tS tx n (tS tx n (tS tx n po))))) (nI (tF tx n (tS tx n (tS tx n (tS tx n po))))) (nI (tK tx n (tS tx n (tS tx n (tS tx n po))))) (nI (tL tx n (tS tx n (tS tx n (tS tx n po))))) (optI (tV tx n (tS tx n (tS tx n (tS tx n po))))) (-1) cl un si)) :: (q 0, zc G 0 (zI 200 g0)) :: (q 10, zc G 0 (zI 46 (vI (updN v (3 + (2 * (v 0))) (tQ tx n (tS tx n po)))))) :: rest) s H locs := hw
          refine lv_aload_n hx hb dX2_tellsPit_66 rfl (lv_at hl 3 rfl) ?_
          refine z_get (v := .ref (q 10)) hC zf_X2_16_2 hw 0 rfl rfl dX2_tellsPit_67 ?_
          refine lv_iload_n hx hb dX2_tellsPit_70 rfl (lv_at hl 0 rfl) ?_
          refine lv_iconst (v := (nI 1)) hx hb dX2_tellsPit_71 zk_1 ?_
          refine zn_iadd hx hb dX2_tellsPit_72 ?_
          refine lv_iload_n hx hb dX2_tellsPit_73 rfl (lv_at hl 1 rfl) ?_
          refine z_iast (f' := vI (updN (updN v (3 + (2 * (v 0))) (tQ tx n (tS tx n po))) (3 + (2 * (v 0)) + 1) (tQ tx n (tS tx n (tS tx n po))))) hC hw 2 rfl (by have := hH.2.2.1 0; omega) (by decide) (vI_upd _ _ _) dX2_tellsPit_74 (fun H locs hw => ?_)
          have hw : zS G ((mo, zo 2 (mF q (nI n) (nI (tS tx n (tS tx n (tS tx n (tS tx n po))))) (nI (tF tx n (tS tx n (tS tx n (tS tx n po))))) (nI (tK tx n (tS tx n (tS tx n (tS tx n po))))) (nI (tL tx n (tS tx n (tS tx n (tS tx n po))))) (optI (tV tx n (tS tx n (tS tx n (tS tx n po))))) (-1) cl un si)) :: (q 0, zc G 0 (zI 200 g0)) :: (q 10, zc G 0 (zI 46 (vI (updN (updN v (3 + (2 * (v 0))) (tQ tx n (tS tx n po))) (3 + (2 * (v 0)) + 1) (tQ tx n (tS tx n (tS tx n po))))))) :: rest) s H locs := hw
          refine lv_aload_n hx hb dX2_tellsPit_75 rfl (lv_at hl 3 rfl) ?_
          refine z_get (v := .ref (q 10)) hC zf_X2_16_2 hw 0 rfl rfl dX2_tellsPit_76 ?_
          refine lv_iconst (v := (nI 0)) hx hb dX2_tellsPit_79 zk_0 ?_
          refine lv_dup2_11 hx hb dX2_tellsPit_80 rfl rfl ?_
          refine z_iald (x := (nI (v 0))) hC hw 2 rfl (by decide) (by decide) (congrArg nI ((updN_ne _ _ (by omega)).trans (updN_ne _ _ (by omega)))) dX2_tellsPit_81 ?_
          refine lv_iconst (v := (nI 1)) hx hb dX2_tellsPit_82 zk_1 ?_
          refine zn_iadd hx hb dX2_tellsPit_83 ?_
          refine z_iast (f' := vI (updN (updN (updN v (3 + (2 * (v 0))) (tQ tx n (tS tx n po))) (3 + (2 * (v 0)) + 1) (tQ tx n (tS tx n (tS tx n po)))) 0 (v 0 + 1))) hC hw 2 rfl (by decide) (by decide) (vI_upd _ _ _) dX2_tellsPit_84 (fun H locs hw => ?_)
          have hw : zS G ((mo, zo 2 (mF q (nI n) (nI (tS tx n (tS tx n (tS tx n (tS tx n po))))) (nI (tF tx n (tS tx n (tS tx n (tS tx n po))))) (nI (tK tx n (tS tx n (tS tx n (tS tx n po))))) (nI (tL tx n (tS tx n (tS tx n (tS tx n po))))) (optI (tV tx n (tS tx n (tS tx n (tS tx n po))))) (-1) cl un si)) :: (q 0, zc G 0 (zI 200 g0)) :: (q 10, zc G 0 (zI 46 (vI (updN (updN (updN v (3 + (2 * (v 0))) (tQ tx n (tS tx n po))) (3 + (2 * (v 0)) + 1) (tQ tx n (tS tx n (tS tx n po)))) 0 (v 0 + 1))))) :: rest) s H locs := hw
          exact hend _ _ _ _ _ _ ((tS tx n (tS tx n (tS tx n po))), (updN (updN (updN v (3 + (2 * (v 0))) (tQ tx n (tS tx n po))) (3 + (2 * (v 0)) + 1) (tQ tx n (tS tx n (tS tx n po)))) 0 (v 0 + 1)), (-1), (optI (tV tx n (tS tx n (tS tx n (tS tx n po)))))) hw (by first | exact cR_l hpo (tS_le (tS_le (tS_le hpo))) (if_pos c5) | exact cR_l (tS_le hpo) (tS_le (tS_le (tS_le hpo))) ((if_neg c5).trans (two_1 hN1)) | exact cR_l (tS_le (tS_le hpo)) (tS_le (tS_le (tS_le hpo))) ((if_neg c5).trans (two_2 hN1 hN2)) | exact cR_r (tS_le (tS_le (tS_le hpo))) ((if_neg c5).trans (two_3 hN1 hN2)) | exact cR_l (tS_le hpo) (tS_le (tS_le (tS_le hpo))) (two_1 hN1) | exact cR_l (tS_le (tS_le hpo)) (tS_le (tS_le (tS_le hpo))) (two_2 hN1 hN2) | exact cR_r (tS_le (tS_le (tS_le hpo))) (two_3 hN1 hN2)) (Nat.le_of_ble_eq_true rfl) (Nat.le_of_ble_eq_true rfl) dX2_tellsPit_85
        · skip
          rw [e1_2]
          rw [e2_2] at hw
          have hw : zS G ((mo, zo 2 (mF q (nI n) (nI (tS tx n (tS tx n (tS tx n (tS tx n po))))) (nI (tF tx n (tS tx n (tS tx n (tS tx n po))))) (nI (tK tx n (tS tx n (tS tx n (tS tx n po))))) (nI (tL tx n (tS tx n (tS tx n (tS tx n po))))) (optI (tV tx n (tS tx n (tS tx n (tS tx n po))))) (nI (tF tx n (tS tx n (tS tx n po)))) cl un si)) :: (q 0, zc G 0 (zI 200 g0)) :: (q 10, zc G 0 (zI 46 (vI v))) :: rest) s H locs := hw
          have hl : lv_has ls 4 [(1, .int (nI (tQ tx n (tS tx n po)))), (0, .ref mo)] := hl
          have hw : zS G ((mo, zo 2 (mF q (nI n) (nI (tS tx n (tS tx n (tS tx n (tS tx n po))))) (nI (tF tx n (tS tx n (tS tx n (tS tx n po))))) (nI (tK tx n (tS tx n (tS tx n (tS tx n po))))) (nI (tL tx n (tS tx n (tS tx n (tS tx n po))))) (optI (tV tx n (tS tx n (tS tx n (tS tx n po))))) (nI (tF tx n (tS tx n (tS tx n po)))) cl un si)) :: (q 0, zc G 0 (zI 200 g0)) :: (q 10, zc G 0 (zI 46 (vI v))) :: rest) s H locs := hw
          refine lv_istore_n (lv' := [(2, .int (nI (0))), (1, .int (nI (tQ tx n (tS tx n po)))), (0, .ref mo)]) hx hb dX2_tellsPit_39 rfl hl (by decide) rfl (fun ls hl => ?_)
          refine lv_aload_n hx hb dX2_tellsPit_40 rfl (lv_at hl 2 rfl) ?_
          refine z_get (v := .int (nI (tF tx n (tS tx n (tS tx n po))))) hC zf_X2_93_2 hw 0 rfl rfl dX2_tellsPit_41 ?_
          refine lv_iconst (v := -1) hx hb dX2_tellsPit_44 zk_m1 ?_
          refine lv_icmp_ne (tgt := 85) hx hb dX2_tellsPit_45 (by decide) (fun _ => ?_) (fun h => absurd h (nI_nm1 (tF_lt hn (by first | exact hpo | exact tS_le hpo | exact tS_le (tS_le hpo) | exact tS_le (tS_le (tS_le hpo))))))
          exact hend _ _ _ _ _ _ ((tS tx n (tS tx n (tS tx n po))), v, (nI (tF tx n (tS tx n (tS tx n po)))), (optI (tV tx n (tS tx n (tS tx n (tS tx n po)))))) hw (by first | exact cR_l hpo (tS_le (tS_le (tS_le hpo))) (if_pos c5) | exact cR_l (tS_le hpo) (tS_le (tS_le (tS_le hpo))) ((if_neg c5).trans (two_1 hN1)) | exact cR_l (tS_le (tS_le hpo)) (tS_le (tS_le (tS_le hpo))) ((if_neg c5).trans (two_2 hN1 hN2)) | exact cR_r (tS_le (tS_le (tS_le hpo))) ((if_neg c5).trans (two_3 hN1 hN2)) | exact cR_l (tS_le hpo) (tS_le (tS_le (tS_le hpo))) (two_1 hN1) | exact cR_l (tS_le (tS_le hpo)) (tS_le (tS_le (tS_le hpo))) (two_2 hN1 hN2) | exact cR_r (tS_le (tS_le (tS_le hpo))) (two_3 hN1 hN2)) (Nat.le_of_ble_eq_true rfl) (Nat.le_of_ble_eq_true rfl) dX2_tellsPit_85
      · skip
        rw [e1_1]
        rw [e2_1] at hw
        have hw : zS G ((mo, zo 2 (mF q (nI n) (nI (tS tx n (tS tx n (tS tx n po)))) (nI (tF tx n (tS tx n (tS tx n po)))) (nI (tK tx n (tS tx n (tS tx n po)))) (nI (tL tx n (tS tx n (tS tx n po)))) (optI (tV tx n (tS tx n (tS tx n po)))) (nI (tF tx n (tS tx n po))) cl un si)) :: (q 0, zc G 0 (zI 200 g0)) :: (q 10, zc G 0 (zI 46 (vI v))) :: rest) s H locs := hw
        have hl : lv_has ls 4 [(0, .ref mo)] := hl
        have hw : zS G ((mo, zo 2 (mF q (nI n) (nI (tS tx n (tS tx n (tS tx n po)))) (nI (tF tx n (tS tx n (tS tx n po)))) (nI (tK tx n (tS tx n (tS tx n po)))) (nI (tL tx n (tS tx n (tS tx n po)))) (optI (tV tx n (tS tx n (tS tx n po)))) (nI (tF tx n (tS tx n po))) cl un si)) :: (q 0, zc G 0 (zI 200 g0)) :: (q 10, zc G 0 (zI 46 (vI v))) :: rest) s H locs := hw
        refine lv_istore_n (lv' := [(1, .int (nI (0))), (0, .ref mo)]) hx hb dX2_tellsPit_31 rfl hl (by decide) rfl (fun ls hl => ?_)
        refine lv_aload_n hx hb dX2_tellsPit_32 rfl (lv_at hl 1 rfl) ?_
        refine lv_iconst (v := (nI 0)) hx hb dX2_tellsPit_33 zk_0 ?_
        refine lv_bipush (v := (nI 99)) hx hb dX2_tellsPit_34 zb_99 ?_
        refine z_ci (z_runV (As := [.int (nI 0), .int (nI 99)]) (rest := []) hC zv_X2_110 (m_X2_figure_w G l mo q cl un si n tx g0 (by omega) (by first | assumption | (omega)) (by first | assumption | (omega)) (tS tx n (tS tx n po)) (by first | exact tS_le hpo | exact tS_le (tS_le hpo) | exact tS_le (tS_le (tS_le hpo))) (nI 0) (nI 99) (tF tx n (tS tx n po)) (by have := (tF_le (tx := tx) (n := n) (p := po) hpo).2; have := (tF_le (tx := tx) (tS_le (tx := tx) hpo)).2; have := (tF_le (tx := tx) (tS_le (tx := tx) (tS_le (tx := tx) hpo))).2; omega) (zrem [0, 1] _)) hw (hw.perm (z_cut (is := [0, 1]) (cells := [(mo, zo 2 (mF q (nI n) (nI (tS tx n (tS tx n (tS tx n po)))) (nI (tF tx n (tS tx n (tS tx n po)))) (nI (tK tx n (tS tx n (tS tx n po)))) (nI (tL tx n (tS tx n (tS tx n po)))) (optI (tV tx n (tS tx n (tS tx n po)))) (nI (tF tx n (tS tx n po))) cl un si)), (q 0, zc G 0 (zI 200 g0))]) rfl rfl)) 0 rfl rfl rfl rfl rfl (Nat.le_of_ble_eq_true rfl) hl.1 ⟨Nat.le_of_ble_eq_true rfl, Nat.le_of_ble_eq_true rfl⟩ ⟨(Nat.le_of_ble_eq_true rfl), (Nat.le_of_ble_eq_true rfl)⟩ dX2_tellsPit_36) hw (fun _ => z_pput (is := [0, 1]) (cells := [(mo, zo 2 (mF q (nI n) (nI (tS tx n (tS tx n (tS tx n po)))) (nI (tF tx n (tS tx n (tS tx n po)))) (nI (tK tx n (tS tx n (tS tx n po)))) (nI (tL tx n (tS tx n (tS tx n po)))) (optI (tV tx n (tS tx n (tS tx n po)))) (nI (tF tx n (tS tx n po))) cl un si)), (q 0, zc G 0 (zI 200 g0))]) (cells' := [(mo, zo 2 (mF q (nI n) (nI (tS tx n (tS tx n (tS tx n (tS tx n po))))) (nI (tF tx n (tS tx n (tS tx n (tS tx n po))))) (nI (tK tx n (tS tx n (tS tx n (tS tx n po))))) (nI (tL tx n (tS tx n (tS tx n (tS tx n po))))) (optI (tV tx n (tS tx n (tS tx n (tS tx n po))))) (nI (tF tx n (tS tx n po))) cl un si)), (q 0, zc G 0 (zI 200 g0))]) rfl rfl rfl) (fun r u H locs hp hw => ?_)
        have hw : zS G ((mo, zo 2 (mF q (nI n) (nI (tS tx n (tS tx n (tS tx n (tS tx n po))))) (nI (tF tx n (tS tx n (tS tx n (tS tx n po))))) (nI (tK tx n (tS tx n (tS tx n (tS tx n po))))) (nI (tL tx n (tS tx n (tS tx n (tS tx n po))))) (optI (tV tx n (tS tx n (tS tx n (tS tx n po))))) (nI (tF tx n (tS tx n po))) cl un si)) :: (q 0, zc G 0 (zI 200 g0)) :: (q 10, zc G 0 (zI 46 (vI v))) :: rest) s H locs := hw
        obtain rfl : r = nI 0 := hp
        refine lv_istore_n (lv' := [(2, .int (nI 0)), (1, .int (nI (0))), (0, .ref mo)]) hx hb dX2_tellsPit_39 rfl hl (by decide) rfl (fun ls hl => ?_)
        refine lv_aload_n hx hb dX2_tellsPit_40 rfl (lv_at hl 2 rfl) ?_
        refine z_get (v := .int (nI (tF tx n (tS tx n po)))) hC zf_X2_93_2 hw 0 rfl rfl dX2_tellsPit_41 ?_
        refine lv_iconst (v := -1) hx hb dX2_tellsPit_44 zk_m1 ?_
        refine lv_icmp_ne (tgt := 85) hx hb dX2_tellsPit_45 (by decide) (fun _ => ?_) (fun h => absurd h (nI_nm1 (tF_lt hn (by first | exact hpo | exact tS_le hpo | exact tS_le (tS_le hpo) | exact tS_le (tS_le (tS_le hpo))))))
        exact hend _ _ _ _ _ _ ((tS tx n (tS tx n (tS tx n po))), v, (nI (tF tx n (tS tx n po))), (optI (tV tx n (tS tx n (tS tx n (tS tx n po)))))) hw (by first | exact cR_l hpo (tS_le (tS_le (tS_le hpo))) (if_pos c5) | exact cR_l (tS_le hpo) (tS_le (tS_le (tS_le hpo))) ((if_neg c5).trans (two_1 hN1)) | exact cR_l (tS_le (tS_le hpo)) (tS_le (tS_le (tS_le hpo))) ((if_neg c5).trans (two_2 hN1 hN2)) | exact cR_r (tS_le (tS_le (tS_le hpo))) ((if_neg c5).trans (two_3 hN1 hN2)) | exact cR_l (tS_le hpo) (tS_le (tS_le (tS_le hpo))) (two_1 hN1) | exact cR_l (tS_le (tS_le hpo)) (tS_le (tS_le (tS_le hpo))) (two_2 hN1 hN2) | exact cR_r (tS_le (tS_le (tS_le hpo))) (two_3 hN1 hN2)) (Nat.le_of_ble_eq_true rfl) (Nat.le_of_ble_eq_true rfl) dX2_tellsPit_85
  refine lv_bipush (v := (nI 9)) hx hb dX2_tellsPit_7 zb_9 ?_
  refine zi_ne (tgt := 16) hx hb (by have := hH.2.2.1 0; omega) (by decide) dX2_tellsPit_9 (by decide) (fun c_9 => ?_) (fun c_9 => ?_)
  · skip
    refine lv_iconst (v := (nI 0)) hx hb dX2_tellsPit_16 zk_0 ?_
    exact join_17 (nI 0) (by first | exact (bI_t c_9).symm | exact (bI_f c_9).symm) s.heap [] ls hw (lv_sub hl [0] rfl)
  · skip
    refine lv_iconst (v := (nI 1)) hx hb dX2_tellsPit_12 zk_1 ?_
    refine lv_goto (tgt := 17) hx hb dX2_tellsPit_13 (by decide) ?_
    exact join_17 (nI 1) (by first | exact (bI_t c_9).symm | exact (bI_f c_9).symm) s.heap [] ls hw (lv_sub hl [0] rfl)
set_option maxHeartbeats 4000000 in
theorem m_X2_tellsSquirrel (G : zE) (l : Launch) (mo : Nat) (q : Nat → Nat) (cl : Int32) (un : Int32) (si : Int32) (n : Nat) (tx : Nat → Nat) (g0 : Nat → Int32) (hn : n ≤ 200) (hg : ∀ j, j < n → g0 j = nI (tx j)) (ht : ∀ j, j < n → tx j < 256) (po : Nat) (hpo : po ≤ n) (tk : Int32) (ln : Int32) (va : Int32) (v : Nat → Nat) (hH : Hw v) (kd : Nat) (rest : va_W) : zMv G l yX2_tellsSquirrel cX2_tellsSquirrel 5 4 0 0 [.ref mo, .int (nI kd)] ((mo, zo 2 (mF q (nI n) (nI (tS tx n po)) (nI (tF tx n po)) tk ln va (-1) cl un si)) :: (q 0, zc G 0 (zI 200 g0)) :: (q 10, zc G 0 (zI 46 (vI v))) :: rest) (fun u => cR n (if v 1 = 5 then .inl (tF tx n po) else twoN tx n po 0 20 1 10 (putQ v kd)) u) (fun (u : CU) => (mo, zo 2 (mF q (nI n) (nI (tS tx n u.1)) (nI (tF tx n u.1)) (nI (tK tx n u.1)) (nI (tL tx n u.1)) u.2.2.2 u.2.2.1 cl un si)) :: (q 0, zc G 0 (zI 200 g0)) :: (q 10, zc G 0 (zI 46 (vI u.2.1))) :: rest) := by
  refine z_begV (by decide) (Nat.le_of_ble_eq_true rfl) (fun p e s m args below meth c ls Q hC hnm hl hw hend => ?_)
  have hx := hC.hx
  have hb := hC.hb
  have hl : lv_has ls 5 [(0, .ref mo), (1, .int (nI kd))] := hl
  have hw : zS G ((mo, zo 2 (mF q (nI n) (nI (tS tx n po)) (nI (tF tx n po)) tk ln va (-1) cl un si)) :: (q 0, zc G 0 (zI 200 g0)) :: (q 10, zc G 0 (zI 46 (vI v))) :: rest) s s.heap [] := hw
  have hv1 := hH.2.1
  refine lv_aload_n hx hb dX2_tellsSquirrel_0 rfl (lv_at hl 0 rfl) ?_
  refine lv_aload_n hx hb dX2_tellsSquirrel_1 rfl (lv_at hl 0 rfl) ?_
  refine z_get (v := .ref (q 10)) hC zf_X2_16_2 hw 0 rfl rfl dX2_tellsSquirrel_2 ?_
  refine lv_iconst (v := (nI 1)) hx hb dX2_tellsSquirrel_5 zk_1 ?_
  refine z_iald (x := (nI (v 1))) hC hw 2 rfl (by decide) (by decide) rfl dX2_tellsSquirrel_6 ?_
  have join_16 : ∀ (z : Int32), (z = bI (v 1 = 5)) → ∀ (H : Heap) (locs : List Loc) (ls : Array Slot), zS G ((mo, zo 2 (mF q (nI n) (nI (tS tx n po)) (nI (tF tx n po)) tk ln va (-1) cl un si)) :: (q 0, zc G 0 (zI 200 g0)) :: (q 10, zc G 0 (zI 46 (vI v))) :: rest) s H locs → lv_has ls 5 [(0, .ref mo), (1, .int (nI kd))] → W p l e (zR 4 0 0) s m args below meth c H locs 0 0 Q (F0 m 16 ls [.int z, .ref mo]) := by
    intro z hz H locs ls hw hl
    subst hz
    refine z_cv (z_runV (As := [.int (bI (v 1 = 5))]) (rest := []) hC zv_X2_96 (m_X2_fails G l mo q cl un si n tx g0 (by omega) (by first | assumption | (omega)) (by first | assumption | (omega)) (nI (tS tx n po)) (nI (tF tx n po)) tk ln va (v 1 = 5) (zrem [0] _)) hw (hw.perm (z_cut (is := [0]) (cells := [(mo, zo 2 (mF q (nI n) (nI (tS tx n po)) (nI (tF tx n po)) tk ln va (-1) cl un si))]) rfl rfl)) 0 rfl rfl rfl rfl rfl (Nat.le_of_ble_eq_true rfl) hl.1 ⟨Nat.le_of_ble_eq_true rfl, Nat.le_of_ble_eq_true rfl⟩ ⟨(Nat.le_of_ble_eq_true rfl), (Nat.le_of_ble_eq_true rfl)⟩ dX2_tellsSquirrel_16) hw (fun _ => z_pput (is := [0]) (cells := [(mo, zo 2 (mF q (nI n) (nI (tS tx n po)) (nI (tF tx n po)) tk ln va (-1) cl un si))]) (cells' := [(mo, zo 2 (mF q (nI n) (nI (tS tx n po)) (nI (tF tx n po)) tk ln va (ifP (v 1 = 5) (nI (tF tx n po)) (-1)) cl un si))]) rfl rfl rfl) (fun u H locs hp hw => ?_)
    have hw : zS G ((mo, zo 2 (mF q (nI n) (nI (tS tx n po)) (nI (tF tx n po)) tk ln va (ifP (v 1 = 5) (nI (tF tx n po)) (-1)) cl un si)) :: (q 0, zc G 0 (zI 200 g0)) :: (q 10, zc G 0 (zI 46 (vI v))) :: rest) s H locs := hw
    rcases Classical.em (v 1 = 5) with c5 | c5
    · skip
      rw [ifP_t c5] at hw
      have hw : zS G ((mo, zo 2 (mF q (nI n) (nI (tS tx n po)) (nI (tF tx n po)) tk ln va (nI (tF tx n po)) cl un si)) :: (q 0, zc G 0 (zI 200 g0)) :: (q 10, zc G 0 (zI 46 (vI v))) :: rest) s H locs := hw
      have hl : lv_has ls 5 [(0, .ref mo), (1, .int (nI kd))] := hl
      have hw : zS G ((mo, zo 2 (mF q (nI n) (nI (tS tx n po)) (nI (tF tx n po)) tk ln va (nI (tF tx n po)) cl un si)) :: (q 0, zc G 0 (zI 200 g0)) :: (q 10, zc G 0 (zI 46 (vI v))) :: rest) s H locs := hw
      refine lv_aload_n hx hb dX2_tellsSquirrel_19 rfl (lv_at hl 0 rfl) ?_
      refine z_cv (z_runV (As := []) (rest := []) hC zv_X2_100 (m_X2_advances G l mo q cl un si n tx g0 (by omega) (by first | assumption | (omega)) (by first | assumption | (omega)) (nI (tF tx n po)) tk ln va (nI (tF tx n po)) (tS tx n po) (by first | exact tS_le hpo | exact tS_le (tS_le hpo) | exact tS_le (tS_le (tS_le hpo))) (zrem [0, 1] _)) hw (hw.perm (z_cut (is := [0, 1]) (cells := [(mo, zo 2 (mF q (nI n) (nI (tS tx n po)) (nI (tF tx n po)) tk ln va (nI (tF tx n po)) cl un si)), (q 0, zc G 0 (zI 200 g0))]) rfl rfl)) 0 rfl rfl rfl rfl rfl (Nat.le_of_ble_eq_true rfl) hl.1 ⟨Nat.le_of_ble_eq_true rfl, Nat.le_of_ble_eq_true rfl⟩ ⟨(Nat.le_of_ble_eq_true rfl), (Nat.le_of_ble_eq_true rfl)⟩ dX2_tellsSquirrel_20) hw (fun _ => z_pput (is := [0, 1]) (cells := [(mo, zo 2 (mF q (nI n) (nI (tS tx n po)) (nI (tF tx n po)) tk ln va (nI (tF tx n po)) cl un si)), (q 0, zc G 0 (zI 200 g0))]) (cells' := [(mo, zo 2 (mF q (nI n) (nI (tS tx n (tS tx n po))) (nI (tF tx n (tS tx n po))) (nI (tK tx n (tS tx n po))) (nI (tL tx n (tS tx n po))) (optI (tV tx n (tS tx n po))) (nI (tF tx n po)) cl un si)), (q 0, zc G 0 (zI 200 g0))]) rfl rfl rfl) (fun u H locs hp hw => ?_)
      have hw : zS G ((mo, zo 2 (mF q (nI n) (nI (tS tx n (tS tx n po))) (nI (tF tx n (tS tx n po))) (nI (tK tx n (tS tx n po))) (nI (tL tx n (tS tx n po))) (optI (tV tx n (tS tx n po))) (nI (tF tx n po)) cl un si)) :: (q 0, zc G 0 (zI 200 g0)) :: (q 10, zc G 0 (zI 46 (vI v))) :: rest) s H locs := hw
      refine lv_aload_n hx hb dX2_tellsSquirrel_23 rfl (lv_at hl 0 rfl) ?_
      refine lv_iconst (v := (nI 0)) hx hb dX2_tellsSquirrel_24 zk_0 ?_
      refine lv_bipush (v := (nI 19)) hx hb dX2_tellsSquirrel_25 zb_19 ?_
      refine z_ci (z_runV (As := [.int (nI 0), .int (nI 19)]) (rest := []) hC zv_X2_110 (m_X2_figure_w G l mo q cl un si n tx g0 (by omega) (by first | assumption | (omega)) (by first | assumption | (omega)) (tS tx n po) (by first | exact tS_le hpo | exact tS_le (tS_le hpo) | exact tS_le (tS_le (tS_le hpo))) (nI 0) (nI 19) (tF tx n po) (by have := (tF_le (tx := tx) (n := n) (p := po) hpo).2; have := (tF_le (tx := tx) (tS_le (tx := tx) hpo)).2; have := (tF_le (tx := tx) (tS_le (tx := tx) (tS_le (tx := tx) hpo))).2; omega) (zrem [0, 1] _)) hw (hw.perm (z_cut (is := [0, 1]) (cells := [(mo, zo 2 (mF q (nI n) (nI (tS tx n (tS tx n po))) (nI (tF tx n (tS tx n po))) (nI (tK tx n (tS tx n po))) (nI (tL tx n (tS tx n po))) (optI (tV tx n (tS tx n po))) (nI (tF tx n po)) cl un si)), (q 0, zc G 0 (zI 200 g0))]) rfl rfl)) 0 rfl rfl rfl rfl rfl (Nat.le_of_ble_eq_true rfl) hl.1 ⟨Nat.le_of_ble_eq_true rfl, Nat.le_of_ble_eq_true rfl⟩ ⟨(Nat.le_of_ble_eq_true rfl), (Nat.le_of_ble_eq_true rfl)⟩ dX2_tellsSquirrel_27) hw (fun _ => z_pput (is := [0, 1]) (cells := [(mo, zo 2 (mF q (nI n) (nI (tS tx n (tS tx n po))) (nI (tF tx n (tS tx n po))) (nI (tK tx n (tS tx n po))) (nI (tL tx n (tS tx n po))) (optI (tV tx n (tS tx n po))) (nI (tF tx n po)) cl un si)), (q 0, zc G 0 (zI 200 g0))]) (cells' := [(mo, zo 2 (mF q (nI n) (nI (tS tx n (tS tx n (tS tx n po)))) (nI (tF tx n (tS tx n (tS tx n po)))) (nI (tK tx n (tS tx n (tS tx n po)))) (nI (tL tx n (tS tx n (tS tx n po)))) (optI (tV tx n (tS tx n (tS tx n po)))) (nI (tF tx n po)) cl un si)), (q 0, zc G 0 (zI 200 g0))]) rfl rfl rfl) (fun r u H locs hp hw => ?_)
      have hw : zS G ((mo, zo 2 (mF q (nI n) (nI (tS tx n (tS tx n (tS tx n po)))) (nI (tF tx n (tS tx n (tS tx n po)))) (nI (tK tx n (tS tx n (tS tx n po)))) (nI (tL tx n (tS tx n (tS tx n po)))) (optI (tV tx n (tS tx n (tS tx n po)))) (nI (tF tx n po)) cl un si)) :: (q 0, zc G 0 (zI 200 g0)) :: (q 10, zc G 0 (zI 46 (vI v))) :: rest) s H locs := hw
      obtain rfl : r = nI 0 := hp
      refine lv_istore_n (lv' := [(2, .int (nI 0)), (0, .ref mo), (1, .int (nI kd))]) hx hb dX2_tellsSquirrel_30 rfl hl (by decide) rfl (fun ls hl => ?_)
      refine lv_aload_n hx hb dX2_tellsSquirrel_31 rfl (lv_at hl 1 rfl) ?_
      refine lv_iconst (v := (nI 1)) hx hb dX2_tellsSquirrel_32 zk_1 ?_
      refine lv_bipush (v := (nI 9)) hx hb dX2_tellsSquirrel_33 zb_9 ?_
      refine z_ci (z_runV (As := [.int (nI 1), .int (nI 9)]) (rest := []) hC zv_X2_110 (m_X2_figure_w G l mo q cl un si n tx g0 (by omega) (by first | assumption | (omega)) (by first | assumption | (omega)) (tS tx n (tS tx n po)) (by first | exact tS_le hpo | exact tS_le (tS_le hpo) | exact tS_le (tS_le (tS_le hpo))) (nI 1) (nI 9) (tF tx n po) (by have := (tF_le (tx := tx) (n := n) (p := po) hpo).2; have := (tF_le (tx := tx) (tS_le (tx := tx) hpo)).2; have := (tF_le (tx := tx) (tS_le (tx := tx) (tS_le (tx := tx) hpo))).2; omega) (zrem [0, 1] _)) hw (hw.perm (z_cut (is := [0, 1]) (cells := [(mo, zo 2 (mF q (nI n) (nI (tS tx n (tS tx n (tS tx n po)))) (nI (tF tx n (tS tx n (tS tx n po)))) (nI (tK tx n (tS tx n (tS tx n po)))) (nI (tL tx n (tS tx n (tS tx n po)))) (optI (tV tx n (tS tx n (tS tx n po)))) (nI (tF tx n po)) cl un si)), (q 0, zc G 0 (zI 200 g0))]) rfl rfl)) 0 rfl rfl rfl rfl rfl (Nat.le_of_ble_eq_true rfl) hl.1 ⟨Nat.le_of_ble_eq_true rfl, Nat.le_of_ble_eq_true rfl⟩ ⟨(Nat.le_of_ble_eq_true rfl), (Nat.le_of_ble_eq_true rfl)⟩ dX2_tellsSquirrel_35) hw (fun _ => z_pput (is := [0, 1]) (cells := [(mo, zo 2 (mF q (nI n) (nI (tS tx n (tS tx n (tS tx n po)))) (nI (tF tx n (tS tx n (tS tx n po)))) (nI (tK tx n (tS tx n (tS tx n po)))) (nI (tL tx n (tS tx n (tS tx n po)))) (optI (tV tx n (tS tx n (tS tx n po)))) (nI (tF tx n po)) cl un si)), (q 0, zc G 0 (zI 200 g0))]) (cells' := [(mo, zo 2 (mF q (nI n) (nI (tS tx n (tS tx n (tS tx n (tS tx n po))))) (nI (tF tx n (tS tx n (tS tx n (tS tx n po))))) (nI (tK tx n (tS tx n (tS tx n (tS tx n po))))) (nI (tL tx n (tS tx n (tS tx n (tS tx n po))))) (optI (tV tx n (tS tx n (tS tx n (tS tx n po))))) (nI (tF tx n po)) cl un si)), (q 0, zc G 0 (zI 200 g0))]) rfl rfl rfl) (fun r u H locs hp hw => ?_)
      have hw : zS G ((mo, zo 2 (mF q (nI n) (nI (tS tx n (tS tx n (tS tx n (tS tx n po))))) (nI (tF tx n (tS tx n (tS tx n (tS tx n po))))) (nI (tK tx n (tS tx n (tS tx n (tS tx n po))))) (nI (tL tx n (tS tx n (tS tx n (tS tx n po))))) (optI (tV tx n (tS tx n (tS tx n (tS tx n po))))) (nI (tF tx n po)) cl un si)) :: (q 0, zc G 0 (zI 200 g0)) :: (q 10, zc G 0 (zI 46 (vI v))) :: rest) s H locs := hw
      obtain rfl : r = nI 0 := hp
      refine lv_istore_n (lv' := [(3, .int (nI 0)), (2, .int (nI 0)), (0, .ref mo), (1, .int (nI kd))]) hx hb dX2_tellsSquirrel_38 rfl hl (by decide) rfl (fun ls hl => ?_)
      refine lv_aload_n hx hb dX2_tellsSquirrel_39 rfl (lv_at hl 2 rfl) ?_
      refine z_get (v := .int (nI (tF tx n po))) hC zf_X2_93_2 hw 0 rfl rfl dX2_tellsSquirrel_40 ?_
      refine lv_iconst (v := -1) hx hb dX2_tellsSquirrel_43 zk_m1 ?_
      refine lv_icmp_ne (tgt := 98) hx hb dX2_tellsSquirrel_44 (by decide) (fun _ => ?_) (fun h => absurd h (nI_nm1 (tF_lt hn (by first | exact hpo | exact tS_le hpo | exact tS_le (tS_le hpo) | exact tS_le (tS_le (tS_le hpo))))))
      exact hend _ _ _ _ _ _ ((tS tx n (tS tx n (tS tx n po))), v, (nI (tF tx n po)), (optI (tV tx n (tS tx n (tS tx n (tS tx n po)))))) hw (by first | exact cR_l hpo (tS_le (tS_le (tS_le hpo))) (if_pos c5) | exact cR_l (tS_le hpo) (tS_le (tS_le (tS_le hpo))) ((if_neg c5).trans (two_1 hN1)) | exact cR_l (tS_le (tS_le hpo)) (tS_le (tS_le (tS_le hpo))) ((if_neg c5).trans (two_2 hN1 hN2)) | exact cR_r (tS_le (tS_le (tS_le hpo))) ((if_neg c5).trans (two_3 hN1 hN2)) | exact cR_l (tS_le hpo) (tS_le (tS_le (tS_le hpo))) (two_1 hN1) | exact cR_l (tS_le (tS_le hpo)) (tS_le (tS_le (tS_le hpo))) (two_2 hN1 hN2) | exact cR_r (tS_le (tS_le (tS_le hpo))) (two_3 hN1 hN2)) (Nat.le_of_ble_eq_true rfl) (Nat.le_of_ble_eq_true rfl) dX2_tellsSquirrel_98
    · skip
      rw [ifP_f c5] at hw
      have hw : zS G ((mo, zo 2 (mF q (nI n) (nI (tS tx n po)) (nI (tF tx n po)) tk ln va (-1) cl un si)) :: (q 0, zc G 0 (zI 200 g0)) :: (q 10, zc G 0 (zI 46 (vI v))) :: rest) s H locs := hw
      have hl : lv_has ls 5 [(0, .ref mo), (1, .int (nI kd))] := hl
      have hw : zS G ((mo, zo 2 (mF q (nI n) (nI (tS tx n po)) (nI (tF tx n po)) tk ln va (-1) cl un si)) :: (q 0, zc G 0 (zI 200 g0)) :: (q 10, zc G 0 (zI 46 (vI v))) :: rest) s H locs := hw
      refine lv_aload_n hx hb dX2_tellsSquirrel_19 rfl (lv_at hl 0 rfl) ?_
      refine z_cv (z_runV (As := []) (rest := []) hC zv_X2_100 (m_X2_advances G l mo q cl un si n tx g0 (by omega) (by first | assumption | (omega)) (by first | assumption | (omega)) (nI (tF tx n po)) tk ln va (-1) (tS tx n po) (by first | exact tS_le hpo | exact tS_le (tS_le hpo) | exact tS_le (tS_le (tS_le hpo))) (zrem [0, 1] _)) hw (hw.perm (z_cut (is := [0, 1]) (cells := [(mo, zo 2 (mF q (nI n) (nI (tS tx n po)) (nI (tF tx n po)) tk ln va (-1) cl un si)), (q 0, zc G 0 (zI 200 g0))]) rfl rfl)) 0 rfl rfl rfl rfl rfl (Nat.le_of_ble_eq_true rfl) hl.1 ⟨Nat.le_of_ble_eq_true rfl, Nat.le_of_ble_eq_true rfl⟩ ⟨(Nat.le_of_ble_eq_true rfl), (Nat.le_of_ble_eq_true rfl)⟩ dX2_tellsSquirrel_20) hw (fun _ => z_pput (is := [0, 1]) (cells := [(mo, zo 2 (mF q (nI n) (nI (tS tx n po)) (nI (tF tx n po)) tk ln va (-1) cl un si)), (q 0, zc G 0 (zI 200 g0))]) (cells' := [(mo, zo 2 (mF q (nI n) (nI (tS tx n (tS tx n po))) (nI (tF tx n (tS tx n po))) (nI (tK tx n (tS tx n po))) (nI (tL tx n (tS tx n po))) (optI (tV tx n (tS tx n po))) (-1) cl un si)), (q 0, zc G 0 (zI 200 g0))]) rfl rfl rfl) (fun u H locs hp hw => ?_)
      have hw : zS G ((mo, zo 2 (mF q (nI n) (nI (tS tx n (tS tx n po))) (nI (tF tx n (tS tx n po))) (nI (tK tx n (tS tx n po))) (nI (tL tx n (tS tx n po))) (optI (tV tx n (tS tx n po))) (-1) cl un si)) :: (q 0, zc G 0 (zI 200 g0)) :: (q 10, zc G 0 (zI 46 (vI v))) :: rest) s H locs := hw
      refine lv_aload_n hx hb dX2_tellsSquirrel_23 rfl (lv_at hl 0 rfl) ?_
      refine lv_iconst (v := (nI 0)) hx hb dX2_tellsSquirrel_24 zk_0 ?_
      refine lv_bipush (v := (nI 19)) hx hb dX2_tellsSquirrel_25 zb_19 ?_
      refine z_ci (z_runV (As := [.int (nI 0), .int (nI 19)]) (rest := []) hC zv_X2_110 (m_X2_figure G l mo q cl un si n tx g0 (by omega) (by first | assumption | (omega)) (by first | assumption | (omega)) (tS tx n po) (by first | exact tS_le hpo | exact tS_le (tS_le hpo) | exact tS_le (tS_le (tS_le hpo))) 0 20 (nI 19) (hf_c (lo := 0) (hh := 20) (by decide) (by decide) (by decide)) (zrem [0, 1] _)) hw (hw.perm (z_cut (is := [0, 1]) (cells := [(mo, zo 2 (mF q (nI n) (nI (tS tx n (tS tx n po))) (nI (tF tx n (tS tx n po))) (nI (tK tx n (tS tx n po))) (nI (tL tx n (tS tx n po))) (optI (tV tx n (tS tx n po))) (-1) cl un si)), (q 0, zc G 0 (zI 200 g0))]) rfl rfl)) 0 rfl rfl rfl rfl rfl (Nat.le_of_ble_eq_true rfl) hl.1 ⟨Nat.le_of_ble_eq_true rfl, Nat.le_of_ble_eq_true rfl⟩ ⟨(Nat.le_of_ble_eq_true rfl), (Nat.le_of_ble_eq_true rfl)⟩ dX2_tellsSquirrel_27) hw (fun _ => z_pput (is := [0, 1]) (cells := [(mo, zo 2 (mF q (nI n) (nI (tS tx n (tS tx n po))) (nI (tF tx n (tS tx n po))) (nI (tK tx n (tS tx n po))) (nI (tL tx n (tS tx n po))) (optI (tV tx n (tS tx n po))) (-1) cl un si)), (q 0, zc G 0 (zI 200 g0))]) (cells' := [(mo, zo 2 (mF q (nI n) (nI (tS tx n (tS tx n (tS tx n po)))) (nI (tF tx n (tS tx n (tS tx n po)))) (nI (tK tx n (tS tx n (tS tx n po)))) (nI (tL tx n (tS tx n (tS tx n po)))) (optI (tV tx n (tS tx n (tS tx n po)))) (fgW tx n (tS tx n po) 0 20) cl un si)), (q 0, zc G 0 (zI 200 g0))]) rfl rfl rfl) (fun r u H locs hp hw => ?_)
      have hw : zS G ((mo, zo 2 (mF q (nI n) (nI (tS tx n (tS tx n (tS tx n po)))) (nI (tF tx n (tS tx n (tS tx n po)))) (nI (tK tx n (tS tx n (tS tx n po)))) (nI (tL tx n (tS tx n (tS tx n po)))) (optI (tV tx n (tS tx n (tS tx n po)))) (fgW tx n (tS tx n po) 0 20) cl un si)) :: (q 0, zc G 0 (zI 200 g0)) :: (q 10, zc G 0 (zI 46 (vI v))) :: rest) s H locs := hw
      obtain rfl : r = nI (fgV tx n (tS tx n po) 0 20) := hp
      rcases fg_cases tx n (tS tx n po) 0 20 with ⟨hN1, e1_1, e2_1⟩ | ⟨hN1, e1_1, e2_1⟩
      · skip
        rw [e1_1]
        rw [e2_1] at hw
        have hq1 : tQ tx n (tS tx n po) < 20 := hN1.2.2.2
        have hw : zS G ((mo, zo 2 (mF q (nI n) (nI (tS tx n (tS tx n (tS tx n po)))) (nI (tF tx n (tS tx n (tS tx n po)))) (nI (tK tx n (tS tx n (tS tx n po)))) (nI (tL tx n (tS tx n (tS tx n po)))) (optI (tV tx n (tS tx n (tS tx n po)))) (-1) cl un si)) :: (q 0, zc G 0 (zI 200 g0)) :: (q 10, zc G 0 (zI 46 (vI v))) :: rest) s H locs := hw
        have hl : lv_has ls 5 [(0, .ref mo), (1, .int (nI kd))] := hl
        have hw : zS G ((mo, zo 2 (mF q (nI n) (nI (tS tx n (tS tx n (tS tx n po)))) (nI (tF tx n (tS tx n (tS tx n po)))) (nI (tK tx n (tS tx n (tS tx n po)))) (nI (tL tx n (tS tx n (tS tx n po)))) (optI (tV tx n (tS tx n (tS tx n po)))) (-1) cl un si)) :: (q 0, zc G 0 (zI 200 g0)) :: (q 10, zc G 0 (zI 46 (vI v))) :: rest) s H locs := hw
        refine lv_istore_n (lv' := [(2, .int (nI (tQ tx n (tS tx n po)))), (0, .ref mo), (1, .int (nI kd))]) hx hb dX2_tellsSquirrel_30 rfl hl (by decide) rfl (fun ls hl => ?_)
        refine lv_aload_n hx hb dX2_tellsSquirrel_31 rfl (lv_at hl 1 rfl) ?_
        refine lv_iconst (v := (nI 1)) hx hb dX2_tellsSquirrel_32 zk_1 ?_
        refine lv_bipush (v := (nI 9)) hx hb dX2_tellsSquirrel_33 zb_9 ?_
        refine z_ci (z_runV (As := [.int (nI 1), .int (nI 9)]) (rest := []) hC zv_X2_110 (m_X2_figure G l mo q cl un si n tx g0 (by omega) (by first | assumption | (omega)) (by first | assumption | (omega)) (tS tx n (tS tx n po)) (by first | exact tS_le hpo | exact tS_le (tS_le hpo) | exact tS_le (tS_le (tS_le hpo))) 1 10 (nI 9) (hf_c (lo := 1) (hh := 10) (by decide) (by decide) (by decide)) (zrem [0, 1] _)) hw (hw.perm (z_cut (is := [0, 1]) (cells := [(mo, zo 2 (mF q (nI n) (nI (tS tx n (tS tx n (tS tx n po)))) (nI (tF tx n (tS tx n (tS tx n po)))) (nI (tK tx n (tS tx n (tS tx n po)))) (nI (tL tx n (tS tx n (tS tx n po)))) (optI (tV tx n (tS tx n (tS tx n po)))) (-1) cl un si)), (q 0, zc G 0 (zI 200 g0))]) rfl rfl)) 0 rfl rfl rfl rfl rfl (Nat.le_of_ble_eq_true rfl) hl.1 ⟨Nat.le_of_ble_eq_true rfl, Nat.le_of_ble_eq_true rfl⟩ ⟨(Nat.le_of_ble_eq_true rfl), (Nat.le_of_ble_eq_true rfl)⟩ dX2_tellsSquirrel_35) hw (fun _ => z_pput (is := [0, 1]) (cells := [(mo, zo 2 (mF q (nI n) (nI (tS tx n (tS tx n (tS tx n po)))) (nI (tF tx n (tS tx n (tS tx n po)))) (nI (tK tx n (tS tx n (tS tx n po)))) (nI (tL tx n (tS tx n (tS tx n po)))) (optI (tV tx n (tS tx n (tS tx n po)))) (-1) cl un si)), (q 0, zc G 0 (zI 200 g0))]) (cells' := [(mo, zo 2 (mF q (nI n) (nI (tS tx n (tS tx n (tS tx n (tS tx n po))))) (nI (tF tx n (tS tx n (tS tx n (tS tx n po))))) (nI (tK tx n (tS tx n (tS tx n (tS tx n po))))) (nI (tL tx n (tS tx n (tS tx n (tS tx n po))))) (optI (tV tx n (tS tx n (tS tx n (tS tx n po))))) (fgW tx n (tS tx n (tS tx n po)) 1 10) cl un si)), (q 0, zc G 0 (zI 200 g0))]) rfl rfl rfl) (fun r u H locs hp hw => ?_)
        have hw : zS G ((mo, zo 2 (mF q (nI n) (nI (tS tx n (tS tx n (tS tx n (tS tx n po))))) (nI (tF tx n (tS tx n (tS tx n (tS tx n po))))) (nI (tK tx n (tS tx n (tS tx n (tS tx n po))))) (nI (tL tx n (tS tx n (tS tx n (tS tx n po))))) (optI (tV tx n (tS tx n (tS tx n (tS tx n po))))) (fgW tx n (tS tx n (tS tx n po)) 1 10) cl un si)) :: (q 0, zc G 0 (zI 200 g0)) :: (q 10, zc G 0 (zI 46 (vI v))) :: rest) s H locs := hw
        obtain rfl : r = nI (fgV tx n (tS tx n (tS tx n po)) 1 10) := hp
        rcases fg_cases tx n (tS tx n (tS tx n po)) 1 10 with ⟨hN2, e1_2, e2_2⟩ | ⟨hN2, e1_2, e2_2⟩
        · skip
          rw [e1_2]
          rw [e2_2] at hw
          have hq2 : tQ tx n (tS tx n (tS tx n po)) < 10 := hN2.2.2.2
          have hw : zS G ((mo, zo 2 (mF q (nI n) (nI (tS tx n (tS tx n (tS tx n (tS tx n po))))) (nI (tF tx n (tS tx n (tS tx n (tS tx n po))))) (nI (tK tx n (tS tx n (tS tx n (tS tx n po))))) (nI (tL tx n (tS tx n (tS tx n (tS tx n po))))) (optI (tV tx n (tS tx n (tS tx n (tS tx n po))))) (-1) cl un si)) :: (q 0, zc G 0 (zI 200 g0)) :: (q 10, zc G 0 (zI 46 (vI v))) :: rest) s H locs := hw
          have hl : lv_has ls 5 [(2, .int (nI (tQ tx n (tS tx n po)))), (0, .ref mo), (1, .int (nI kd))] := hl
          have hw : zS G ((mo, zo 2 (mF q (nI n) (nI (tS tx n (tS tx n (tS tx n (tS tx n po))))) (nI (tF tx n (tS tx n (tS tx n (tS tx n po))))) (nI (tK tx n (tS tx n (tS tx n (tS tx n po))))) (nI (tL tx n (tS tx n (tS tx n (tS tx n po))))) (optI (tV tx n (tS tx n (tS tx n (tS tx n po))))) (-1) cl un si)) :: (q 0, zc G 0 (zI 200 g0)) :: (q 10, zc G 0 (zI 46 (vI v))) :: rest) s H locs := hw
          refine lv_istore_n (lv' := [(3, .int (nI (tQ tx n (tS tx n (tS tx n po))))), (2, .int (nI (tQ tx n (tS tx n po)))), (0, .ref mo), (1, .int (nI kd))]) hx hb dX2_tellsSquirrel_38 rfl hl (by decide) rfl (fun ls hl => ?_)
          refine lv_aload_n hx hb dX2_tellsSquirrel_39 rfl (lv_at hl 2 rfl) ?_
          refine z_get (v := .int (-1)) hC zf_X2_93_2 hw 0 rfl rfl dX2_tellsSquirrel_40 ?_
          refine lv_iconst (v := -1) hx hb dX2_tellsSquirrel_43 zk_m1 ?_
          refine lv_icmp_ne (tgt := 98) hx hb dX2_tellsSquirrel_44 (by decide) (fun h => absurd h (by decide)) (fun _ => ?_)
          refine lv_bipush (v := (nI 21)) hx hb dX2_tellsSquirrel_47 zb_21 ?_
          refine lv_iconst (v := (nI 5)) hx hb dX2_tellsSquirrel_49 zk_5 ?_
          refine lv_aload_n hx hb dX2_tellsSquirrel_50 rfl (lv_at hl 2 rfl) ?_
          refine z_get (v := .ref (q 10)) hC zf_X2_16_2 hw 0 rfl rfl dX2_tellsSquirrel_51 ?_
          refine lv_iconst (v := (nI 1)) hx hb dX2_tellsSquirrel_54 zk_1 ?_
          refine z_iald (x := (nI (v 1))) hC hw 2 rfl (by decide) (by decide) rfl dX2_tellsSquirrel_55 ?_
          refine zn_imul hx hb dX2_tellsSquirrel_56 ?_
          refine zn_iadd hx hb dX2_tellsSquirrel_57 ?_
          refine lv_istore (lv' := [(4, .int (nI (21 + (5 * (v 1))))), (3, .int (nI (tQ tx n (tS tx n (tS tx n po))))), (2, .int (nI (tQ tx n (tS tx n po)))), (0, .ref mo), (1, .int (nI kd))]) hx hb dX2_tellsSquirrel_58 hl (by decide) rfl (fun ls hl => ?_)
          refine lv_aload_n hx hb dX2_tellsSquirrel_60 rfl (lv_at hl 3 rfl) ?_
          refine z_get (v := .ref (q 10)) hC zf_X2_16_2 hw 0 rfl rfl dX2_tellsSquirrel_61 ?_
          refine lv_iload hx hb dX2_tellsSquirrel_64 (lv_at hl 0 rfl) ?_
          refine lv_iload_n hx hb dX2_tellsSquirrel_66 rfl (lv_at hl 4 rfl) ?_
          refine z_iast (f' := vI (updN v (21 + (5 * (v 1))) kd)) hC hw 2 rfl (by have := hH.2.2.1 1; omega) (by decide) (vI_upd _ _ _) dX2_tellsSquirrel_67 (fun H locs hw => ?_)
          have hw : zS G ((mo, zo 2 (mF q (nI n) (nI (tS tx n (tS tx n (tS tx n (tS tx n po))))) (nI (tF tx n (tS tx n (tS tx n (tS tx n po))))) (nI (tK tx n (tS tx n (tS tx n (tS tx n po))))) (nI (tL tx n (tS tx n (tS tx n (tS tx n po))))) (optI (tV tx n (tS tx n (tS tx n (tS tx n po))))) (-1) cl un si)) :: (q 0, zc G 0 (zI 200 g0)) :: (q 10, zc G 0 (zI 46 (vI (updN v (21 + (5 * (v 1))) kd)))) :: rest) s H locs := hw
          refine lv_aload_n hx hb dX2_tellsSquirrel_68 rfl (lv_at hl 3 rfl) ?_
          refine z_get (v := .ref (q 10)) hC zf_X2_16_2 hw 0 rfl rfl dX2_tellsSquirrel_69 ?_
          refine lv_iload hx hb dX2_tellsSquirrel_72 (lv_at hl 0 rfl) ?_
          refine lv_iconst (v := (nI 1)) hx hb dX2_tellsSquirrel_74 zk_1 ?_
          refine zn_iadd hx hb dX2_tellsSquirrel_75 ?_
          refine lv_iload_n hx hb dX2_tellsSquirrel_76 rfl (lv_at hl 2 rfl) ?_
          refine z_iast (f' := vI (updN (updN v (21 + (5 * (v 1))) kd) (21 + (5 * (v 1)) + 1) (tQ tx n (tS tx n po)))) hC hw 2 rfl (by have := hH.2.2.1 1; omega) (by decide) (vI_upd _ _ _) dX2_tellsSquirrel_77 (fun H locs hw => ?_)
          have hw : zS G ((mo, zo 2 (mF q (nI n) (nI (tS tx n (tS tx n (tS tx n (tS tx n po))))) (nI (tF tx n (tS tx n (tS tx n (tS tx n po))))) (nI (tK tx n (tS tx n (tS tx n (tS tx n po))))) (nI (tL tx n (tS tx n (tS tx n (tS tx n po))))) (optI (tV tx n (tS tx n (tS tx n (tS tx n po))))) (-1) cl un si)) :: (q 0, zc G 0 (zI 200 g0)) :: (q 10, zc G 0 (zI 46 (vI (updN (updN v (21 + (5 * (v 1))) kd) (21 + (5 * (v 1)) + 1) (tQ tx n (tS tx n po)))))) :: rest) s H locs := hw
          refine lv_aload_n hx hb dX2_tellsSquirrel_78 rfl (lv_at hl 3 rfl) ?_
          refine z_get (v := .ref (q 10)) hC zf_X2_16_2 hw 0 rfl rfl dX2_tellsSquirrel_79 ?_
          refine lv_iload hx hb dX2_tellsSquirrel_82 (lv_at hl 0 rfl) ?_
          refine lv_iconst (v := (nI 2)) hx hb dX2_tellsSquirrel_84 zk_2 ?_
          refine zn_iadd hx hb dX2_tellsSquirrel_85 ?_
          refine lv_iload_n hx hb dX2_tellsSquirrel_86 rfl (lv_at hl 1 rfl) ?_
          refine z_iast (f' := vI (updN (updN (updN v (21 + (5 * (v 1))) kd) (21 + (5 * (v 1)) + 1) (tQ tx n (tS tx n po))) (21 + (5 * (v 1)) + 2) (tQ tx n (tS tx n (tS tx n po))))) hC hw 2 rfl (by have := hH.2.2.1 1; omega) (by decide) (vI_upd _ _ _) dX2_tellsSquirrel_87 (fun H locs hw => ?_)
          have hw : zS G ((mo, zo 2 (mF q (nI n) (nI (tS tx n (tS tx n (tS tx n (tS tx n po))))) (nI (tF tx n (tS tx n (tS tx n (tS tx n po))))) (nI (tK tx n (tS tx n (tS tx n (tS tx n po))))) (nI (tL tx n (tS tx n (tS tx n (tS tx n po))))) (optI (tV tx n (tS tx n (tS tx n (tS tx n po))))) (-1) cl un si)) :: (q 0, zc G 0 (zI 200 g0)) :: (q 10, zc G 0 (zI 46 (vI (updN (updN (updN v (21 + (5 * (v 1))) kd) (21 + (5 * (v 1)) + 1) (tQ tx n (tS tx n po))) (21 + (5 * (v 1)) + 2) (tQ tx n (tS tx n (tS tx n po))))))) :: rest) s H locs := hw
          refine lv_aload_n hx hb dX2_tellsSquirrel_88 rfl (lv_at hl 3 rfl) ?_
          refine z_get (v := .ref (q 10)) hC zf_X2_16_2 hw 0 rfl rfl dX2_tellsSquirrel_89 ?_
          refine lv_iconst (v := (nI 1)) hx hb dX2_tellsSquirrel_92 zk_1 ?_
          refine lv_dup2_11 hx hb dX2_tellsSquirrel_93 rfl rfl ?_
          refine z_iald (x := (nI (v 1))) hC hw 2 rfl (by decide) (by decide) (congrArg nI ((updN_ne _ _ (by omega)).trans ((updN_ne _ _ (by omega)).trans (updN_ne _ _ (by omega))))) dX2_tellsSquirrel_94 ?_
          refine lv_iconst (v := (nI 1)) hx hb dX2_tellsSquirrel_95 zk_1 ?_
          refine zn_iadd hx hb dX2_tellsSquirrel_96 ?_
          refine z_iast (f' := vI (updN (updN (updN (updN v (21 + (5 * (v 1))) kd) (21 + (5 * (v 1)) + 1) (tQ tx n (tS tx n po))) (21 + (5 * (v 1)) + 2) (tQ tx n (tS tx n (tS tx n po)))) 1 (v 1 + 1))) hC hw 2 rfl (by decide) (by decide) (vI_upd _ _ _) dX2_tellsSquirrel_97 (fun H locs hw => ?_)
          have hw : zS G ((mo, zo 2 (mF q (nI n) (nI (tS tx n (tS tx n (tS tx n (tS tx n po))))) (nI (tF tx n (tS tx n (tS tx n (tS tx n po))))) (nI (tK tx n (tS tx n (tS tx n (tS tx n po))))) (nI (tL tx n (tS tx n (tS tx n (tS tx n po))))) (optI (tV tx n (tS tx n (tS tx n (tS tx n po))))) (-1) cl un si)) :: (q 0, zc G 0 (zI 200 g0)) :: (q 10, zc G 0 (zI 46 (vI (updN (updN (updN (updN v (21 + (5 * (v 1))) kd) (21 + (5 * (v 1)) + 1) (tQ tx n (tS tx n po))) (21 + (5 * (v 1)) + 2) (tQ tx n (tS tx n (tS tx n po)))) 1 (v 1 + 1))))) :: rest) s H locs := hw
          exact hend _ _ _ _ _ _ ((tS tx n (tS tx n (tS tx n po))), (updN (updN (updN (updN v (21 + (5 * (v 1))) kd) (21 + (5 * (v 1)) + 1) (tQ tx n (tS tx n po))) (21 + (5 * (v 1)) + 2) (tQ tx n (tS tx n (tS tx n po)))) 1 (v 1 + 1)), (-1), (optI (tV tx n (tS tx n (tS tx n (tS tx n po)))))) hw (by first | exact cR_l hpo (tS_le (tS_le (tS_le hpo))) (if_pos c5) | exact cR_l (tS_le hpo) (tS_le (tS_le (tS_le hpo))) ((if_neg c5).trans (two_1 hN1)) | exact cR_l (tS_le (tS_le hpo)) (tS_le (tS_le (tS_le hpo))) ((if_neg c5).trans (two_2 hN1 hN2)) | exact cR_r (tS_le (tS_le (tS_le hpo))) ((if_neg c5).trans (two_3 hN1 hN2)) | exact cR_l (tS_le hpo) (tS_le (tS_le (tS_le hpo))) (two_1 hN1) | exact cR_l (tS_le (tS_le hpo)) (tS_le (tS_le (tS_le hpo))) (two_2 hN1 hN2) | exact cR_r (tS_le (tS_le (tS_le hpo))) (two_3 hN1 hN2)) (Nat.le_of_ble_eq_true rfl) (Nat.le_of_ble_eq_true rfl) dX2_tellsSquirrel_98
        · skip
          rw [e1_2]
          rw [e2_2] at hw
          have hw : zS G ((mo, zo 2 (mF q (nI n) (nI (tS tx n (tS tx n (tS tx n (tS tx n po))))) (nI (tF tx n (tS tx n (tS tx n (tS tx n po))))) (nI (tK tx n (tS tx n (tS tx n (tS tx n po))))) (nI (tL tx n (tS tx n (tS tx n (tS tx n po))))) (optI (tV tx n (tS tx n (tS tx n (tS tx n po))))) (nI (tF tx n (tS tx n (tS tx n po)))) cl un si)) :: (q 0, zc G 0 (zI 200 g0)) :: (q 10, zc G 0 (zI 46 (vI v))) :: rest) s H locs := hw
          have hl : lv_has ls 5 [(2, .int (nI (tQ tx n (tS tx n po)))), (0, .ref mo), (1, .int (nI kd))] := hl
          have hw : zS G ((mo, zo 2 (mF q (nI n) (nI (tS tx n (tS tx n (tS tx n (tS tx n po))))) (nI (tF tx n (tS tx n (tS tx n (tS tx n po))))) (nI (tK tx n (tS tx n (tS tx n (tS tx n po))))) (nI (tL tx n (tS tx n (tS tx n (tS tx n po))))) (optI (tV tx n (tS tx n (tS tx n (tS tx n po))))) (nI (tF tx n (tS tx n (tS tx n po)))) cl un si)) :: (q 0, zc G 0 (zI 200 g0)) :: (q 10, zc G 0 (zI 46 (vI v))) :: rest) s H locs := hw
          refine lv_istore_n (lv' := [(3, .int (nI (0))), (2, .int (nI (tQ tx n (tS tx n po)))), (0, .ref mo), (1, .int (nI kd))]) hx hb dX2_tellsSquirrel_38 rfl hl (by decide) rfl (fun ls hl => ?_)
          refine lv_aload_n hx hb dX2_tellsSquirrel_39 rfl (lv_at hl 2 rfl) ?_
          refine z_get (v := .int (nI (tF tx n (tS tx n (tS tx n po))))) hC zf_X2_93_2 hw 0 rfl rfl dX2_tellsSquirrel_40 ?_
          refine lv_iconst (v := -1) hx hb dX2_tellsSquirrel_43 zk_m1 ?_
          refine lv_icmp_ne (tgt := 98) hx hb dX2_tellsSquirrel_44 (by decide) (fun _ => ?_) (fun h => absurd h (nI_nm1 (tF_lt hn (by first | exact hpo | exact tS_le hpo | exact tS_le (tS_le hpo) | exact tS_le (tS_le (tS_le hpo))))))
          exact hend _ _ _ _ _ _ ((tS tx n (tS tx n (tS tx n po))), v, (nI (tF tx n (tS tx n (tS tx n po)))), (optI (tV tx n (tS tx n (tS tx n (tS tx n po)))))) hw (by first | exact cR_l hpo (tS_le (tS_le (tS_le hpo))) (if_pos c5) | exact cR_l (tS_le hpo) (tS_le (tS_le (tS_le hpo))) ((if_neg c5).trans (two_1 hN1)) | exact cR_l (tS_le (tS_le hpo)) (tS_le (tS_le (tS_le hpo))) ((if_neg c5).trans (two_2 hN1 hN2)) | exact cR_r (tS_le (tS_le (tS_le hpo))) ((if_neg c5).trans (two_3 hN1 hN2)) | exact cR_l (tS_le hpo) (tS_le (tS_le (tS_le hpo))) (two_1 hN1) | exact cR_l (tS_le (tS_le hpo)) (tS_le (tS_le (tS_le hpo))) (two_2 hN1 hN2) | exact cR_r (tS_le (tS_le (tS_le hpo))) (two_3 hN1 hN2)) (Nat.le_of_ble_eq_true rfl) (Nat.le_of_ble_eq_true rfl) dX2_tellsSquirrel_98
      · skip
        rw [e1_1]
        rw [e2_1] at hw
        have hw : zS G ((mo, zo 2 (mF q (nI n) (nI (tS tx n (tS tx n (tS tx n po)))) (nI (tF tx n (tS tx n (tS tx n po)))) (nI (tK tx n (tS tx n (tS tx n po)))) (nI (tL tx n (tS tx n (tS tx n po)))) (optI (tV tx n (tS tx n (tS tx n po)))) (nI (tF tx n (tS tx n po))) cl un si)) :: (q 0, zc G 0 (zI 200 g0)) :: (q 10, zc G 0 (zI 46 (vI v))) :: rest) s H locs := hw
        have hl : lv_has ls 5 [(0, .ref mo), (1, .int (nI kd))] := hl
        have hw : zS G ((mo, zo 2 (mF q (nI n) (nI (tS tx n (tS tx n (tS tx n po)))) (nI (tF tx n (tS tx n (tS tx n po)))) (nI (tK tx n (tS tx n (tS tx n po)))) (nI (tL tx n (tS tx n (tS tx n po)))) (optI (tV tx n (tS tx n (tS tx n po)))) (nI (tF tx n (tS tx n po))) cl un si)) :: (q 0, zc G 0 (zI 200 g0)) :: (q 10, zc G 0 (zI 46 (vI v))) :: rest) s H locs := hw
        refine lv_istore_n (lv' := [(2, .int (nI (0))), (0, .ref mo), (1, .int (nI kd))]) hx hb dX2_tellsSquirrel_30 rfl hl (by decide) rfl (fun ls hl => ?_)
        refine lv_aload_n hx hb dX2_tellsSquirrel_31 rfl (lv_at hl 1 rfl) ?_
        refine lv_iconst (v := (nI 1)) hx hb dX2_tellsSquirrel_32 zk_1 ?_
        refine lv_bipush (v := (nI 9)) hx hb dX2_tellsSquirrel_33 zb_9 ?_
        refine z_ci (z_runV (As := [.int (nI 1), .int (nI 9)]) (rest := []) hC zv_X2_110 (m_X2_figure_w G l mo q cl un si n tx g0 (by omega) (by first | assumption | (omega)) (by first | assumption | (omega)) (tS tx n (tS tx n po)) (by first | exact tS_le hpo | exact tS_le (tS_le hpo) | exact tS_le (tS_le (tS_le hpo))) (nI 1) (nI 9) (tF tx n (tS tx n po)) (by have := (tF_le (tx := tx) (n := n) (p := po) hpo).2; have := (tF_le (tx := tx) (tS_le (tx := tx) hpo)).2; have := (tF_le (tx := tx) (tS_le (tx := tx) (tS_le (tx := tx) hpo))).2; omega) (zrem [0, 1] _)) hw (hw.perm (z_cut (is := [0, 1]) (cells := [(mo, zo 2 (mF q (nI n) (nI (tS tx n (tS tx n (tS tx n po)))) (nI (tF tx n (tS tx n (tS tx n po)))) (nI (tK tx n (tS tx n (tS tx n po)))) (nI (tL tx n (tS tx n (tS tx n po)))) (optI (tV tx n (tS tx n (tS tx n po)))) (nI (tF tx n (tS tx n po))) cl un si)), (q 0, zc G 0 (zI 200 g0))]) rfl rfl)) 0 rfl rfl rfl rfl rfl (Nat.le_of_ble_eq_true rfl) hl.1 ⟨Nat.le_of_ble_eq_true rfl, Nat.le_of_ble_eq_true rfl⟩ ⟨(Nat.le_of_ble_eq_true rfl), (Nat.le_of_ble_eq_true rfl)⟩ dX2_tellsSquirrel_35) hw (fun _ => z_pput (is := [0, 1]) (cells := [(mo, zo 2 (mF q (nI n) (nI (tS tx n (tS tx n (tS tx n po)))) (nI (tF tx n (tS tx n (tS tx n po)))) (nI (tK tx n (tS tx n (tS tx n po)))) (nI (tL tx n (tS tx n (tS tx n po)))) (optI (tV tx n (tS tx n (tS tx n po)))) (nI (tF tx n (tS tx n po))) cl un si)), (q 0, zc G 0 (zI 200 g0))]) (cells' := [(mo, zo 2 (mF q (nI n) (nI (tS tx n (tS tx n (tS tx n (tS tx n po))))) (nI (tF tx n (tS tx n (tS tx n (tS tx n po))))) (nI (tK tx n (tS tx n (tS tx n (tS tx n po))))) (nI (tL tx n (tS tx n (tS tx n (tS tx n po))))) (optI (tV tx n (tS tx n (tS tx n (tS tx n po))))) (nI (tF tx n (tS tx n po))) cl un si)), (q 0, zc G 0 (zI 200 g0))]) rfl rfl rfl) (fun r u H locs hp hw => ?_)
        have hw : zS G ((mo, zo 2 (mF q (nI n) (nI (tS tx n (tS tx n (tS tx n (tS tx n po))))) (nI (tF tx n (tS tx n (tS tx n (tS tx n po))))) (nI (tK tx n (tS tx n (tS tx n (tS tx n po))))) (nI (tL tx n (tS tx n (tS tx n (tS tx n po))))) (optI (tV tx n (tS tx n (tS tx n (tS tx n po))))) (nI (tF tx n (tS tx n po))) cl un si)) :: (q 0, zc G 0 (zI 200 g0)) :: (q 10, zc G 0 (zI 46 (vI v))) :: rest) s H locs := hw
        obtain rfl : r = nI 0 := hp
        refine lv_istore_n (lv' := [(3, .int (nI 0)), (2, .int (nI (0))), (0, .ref mo), (1, .int (nI kd))]) hx hb dX2_tellsSquirrel_38 rfl hl (by decide) rfl (fun ls hl => ?_)
        refine lv_aload_n hx hb dX2_tellsSquirrel_39 rfl (lv_at hl 2 rfl) ?_
        refine z_get (v := .int (nI (tF tx n (tS tx n po)))) hC zf_X2_93_2 hw 0 rfl rfl dX2_tellsSquirrel_40 ?_
        refine lv_iconst (v := -1) hx hb dX2_tellsSquirrel_43 zk_m1 ?_
        refine lv_icmp_ne (tgt := 98) hx hb dX2_tellsSquirrel_44 (by decide) (fun _ => ?_) (fun h => absurd h (nI_nm1 (tF_lt hn (by first | exact hpo | exact tS_le hpo | exact tS_le (tS_le hpo) | exact tS_le (tS_le (tS_le hpo))))))
        exact hend _ _ _ _ _ _ ((tS tx n (tS tx n (tS tx n po))), v, (nI (tF tx n (tS tx n po))), (optI (tV tx n (tS tx n (tS tx n (tS tx n po)))))) hw (by first | exact cR_l hpo (tS_le (tS_le (tS_le hpo))) (if_pos c5) | exact cR_l (tS_le hpo) (tS_le (tS_le (tS_le hpo))) ((if_neg c5).trans (two_1 hN1)) | exact cR_l (tS_le (tS_le hpo)) (tS_le (tS_le (tS_le hpo))) ((if_neg c5).trans (two_2 hN1 hN2)) | exact cR_r (tS_le (tS_le (tS_le hpo))) ((if_neg c5).trans (two_3 hN1 hN2)) | exact cR_l (tS_le hpo) (tS_le (tS_le (tS_le hpo))) (two_1 hN1) | exact cR_l (tS_le (tS_le hpo)) (tS_le (tS_le (tS_le hpo))) (two_2 hN1 hN2) | exact cR_r (tS_le (tS_le (tS_le hpo))) (two_3 hN1 hN2)) (Nat.le_of_ble_eq_true rfl) (Nat.le_of_ble_eq_true rfl) dX2_tellsSquirrel_98
  refine lv_iconst (v := (nI 5)) hx hb dX2_tellsSquirrel_7 zk_5 ?_
  refine zi_ne (tgt := 15) hx hb (by have := hH.2.2.1 1; omega) (by decide) dX2_tellsSquirrel_8 (by decide) (fun c_8 => ?_) (fun c_8 => ?_)
  · skip
    refine lv_iconst (v := (nI 0)) hx hb dX2_tellsSquirrel_15 zk_0 ?_
    exact join_16 (nI 0) (by first | exact (bI_t c_8).symm | exact (bI_f c_8).symm) s.heap [] ls hw (lv_sub hl [0, 1] rfl)
  · skip
    refine lv_iconst (v := (nI 1)) hx hb dX2_tellsSquirrel_11 zk_1 ?_
    refine lv_goto (tgt := 16) hx hb dX2_tellsSquirrel_12 (by decide) ?_
    exact join_16 (nI 1) (by first | exact (bI_t c_8).symm | exact (bI_f c_8).symm) s.heap [] ls hw (lv_sub hl [0, 1] rfl)
set_option maxHeartbeats 4000000 in
theorem m_X2_tellsKnown (G : zE) (l : Launch) (mo : Nat) (q : Nat → Nat) (cl : Int32) (un : Int32) (si : Int32) (n : Nat) (tx : Nat → Nat) (g0 : Nat → Int32) (hn : n ≤ 200) (hg : ∀ j, j < n → g0 j = nI (tx j)) (ht : ∀ j, j < n → tx j < 256) (po : Nat) (hpo : po ≤ n) (tk : Int32) (ln : Int32) (va : Int32) (v : Nat → Nat) (hH : Hw v) (rest : va_W) : zMv G l yX2_tellsKnown cX2_tellsKnown 3 4 0 0 [.ref mo] ((mo, zo 2 (mF q (nI n) (nI (tS tx n po)) (nI (tF tx n po)) tk ln va (-1) cl un si)) :: (q 0, zc G 0 (zI 200 g0)) :: (q 10, zc G 0 (zI 46 (vI v))) :: rest) (fun u => cR n (twoN tx n po 0 (v 1) 0 (v 0) (putK v)) u) (fun (u : CU) => (mo, zo 2 (mF q (nI n) (nI (tS tx n u.1)) (nI (tF tx n u.1)) (nI (tK tx n u.1)) (nI (tL tx n u.1)) u.2.2.2 u.2.2.1 cl un si)) :: (q 0, zc G 0 (zI 200 g0)) :: (q 10, zc G 0 (zI 46 (vI u.2.1))) :: rest) := by
  refine z_begV (by decide) (Nat.le_of_ble_eq_true rfl) (fun p e s m args below meth c ls Q hC hnm hl hw hend => ?_)
  have hx := hC.hx
  have hb := hC.hb
  have hl : lv_has ls 3 [(0, .ref mo)] := hl
  have hw : zS G ((mo, zo 2 (mF q (nI n) (nI (tS tx n po)) (nI (tF tx n po)) tk ln va (-1) cl un si)) :: (q 0, zc G 0 (zI 200 g0)) :: (q 10, zc G 0 (zI 46 (vI v))) :: rest) s s.heap [] := hw
  have hv0 := hH.1
  have hv1 := hH.2.1
  refine lv_aload_n hx hb dX2_tellsKnown_0 rfl (lv_at hl 0 rfl) ?_
  refine z_cv (z_runV (As := []) (rest := []) hC zv_X2_100 (m_X2_advances G l mo q cl un si n tx g0 (by omega) (by first | assumption | (omega)) (by first | assumption | (omega)) (nI (tF tx n po)) tk ln va (-1) (tS tx n po) (by first | exact tS_le hpo | exact tS_le (tS_le hpo) | exact tS_le (tS_le (tS_le hpo))) (zrem [0, 1] _)) hw (hw.perm (z_cut (is := [0, 1]) (cells := [(mo, zo 2 (mF q (nI n) (nI (tS tx n po)) (nI (tF tx n po)) tk ln va (-1) cl un si)), (q 0, zc G 0 (zI 200 g0))]) rfl rfl)) 0 rfl rfl rfl rfl rfl (Nat.le_of_ble_eq_true rfl) hl.1 ⟨Nat.le_of_ble_eq_true rfl, Nat.le_of_ble_eq_true rfl⟩ ⟨(Nat.le_of_ble_eq_true rfl), (Nat.le_of_ble_eq_true rfl)⟩ dX2_tellsKnown_1) hw (fun _ => z_pput (is := [0, 1]) (cells := [(mo, zo 2 (mF q (nI n) (nI (tS tx n po)) (nI (tF tx n po)) tk ln va (-1) cl un si)), (q 0, zc G 0 (zI 200 g0))]) (cells' := [(mo, zo 2 (mF q (nI n) (nI (tS tx n (tS tx n po))) (nI (tF tx n (tS tx n po))) (nI (tK tx n (tS tx n po))) (nI (tL tx n (tS tx n po))) (optI (tV tx n (tS tx n po))) (-1) cl un si)), (q 0, zc G 0 (zI 200 g0))]) rfl rfl rfl) (fun u H locs hp hw => ?_)
  have hw : zS G ((mo, zo 2 (mF q (nI n) (nI (tS tx n (tS tx n po))) (nI (tF tx n (tS tx n po))) (nI (tK tx n (tS tx n po))) (nI (tL tx n (tS tx n po))) (optI (tV tx n (tS tx n po))) (-1) cl un si)) :: (q 0, zc G 0 (zI 200 g0)) :: (q 10, zc G 0 (zI 46 (vI v))) :: rest) s H locs := hw
  refine lv_aload_n hx hb dX2_tellsKnown_4 rfl (lv_at hl 0 rfl) ?_
  refine lv_iconst (v := (nI 0)) hx hb dX2_tellsKnown_5 zk_0 ?_
  refine lv_aload_n hx hb dX2_tellsKnown_6 rfl (lv_at hl 0 rfl) ?_
  refine z_get (v := .ref (q 10)) hC zf_X2_16_2 hw 0 rfl rfl dX2_tellsKnown_7 ?_
  refine lv_iconst (v := (nI 1)) hx hb dX2_tellsKnown_10 zk_1 ?_
  refine z_iald (x := (nI (v 1))) hC hw 2 rfl (by decide) (by decide) rfl dX2_tellsKnown_11 ?_
  refine lv_iconst (v := (nI 1)) hx hb dX2_tellsKnown_12 zk_1 ?_
  refine zv_isub (v := (nI (v 1) - nI 1)) hx hb rfl dX2_tellsKnown_13 ?_
  refine z_ci (z_runV (As := [.int (nI 0), .int (nI (v 1) - nI 1)]) (rest := []) hC zv_X2_110 (m_X2_figure G l mo q cl un si n tx g0 (by omega) (by first | assumption | (omega)) (by first | assumption | (omega)) (tS tx n po) (by first | exact tS_le hpo | exact tS_le (tS_le hpo) | exact tS_le (tS_le (tS_le hpo))) 0 (v 1) (nI (v 1) - nI 1) (hf_v (by omega)) (zrem [0, 1] _)) hw (hw.perm (z_cut (is := [0, 1]) (cells := [(mo, zo 2 (mF q (nI n) (nI (tS tx n (tS tx n po))) (nI (tF tx n (tS tx n po))) (nI (tK tx n (tS tx n po))) (nI (tL tx n (tS tx n po))) (optI (tV tx n (tS tx n po))) (-1) cl un si)), (q 0, zc G 0 (zI 200 g0))]) rfl rfl)) 0 rfl rfl rfl rfl rfl (Nat.le_of_ble_eq_true rfl) hl.1 ⟨Nat.le_of_ble_eq_true rfl, Nat.le_of_ble_eq_true rfl⟩ ⟨(Nat.le_of_ble_eq_true rfl), (Nat.le_of_ble_eq_true rfl)⟩ dX2_tellsKnown_14) hw (fun _ => z_pput (is := [0, 1]) (cells := [(mo, zo 2 (mF q (nI n) (nI (tS tx n (tS tx n po))) (nI (tF tx n (tS tx n po))) (nI (tK tx n (tS tx n po))) (nI (tL tx n (tS tx n po))) (optI (tV tx n (tS tx n po))) (-1) cl un si)), (q 0, zc G 0 (zI 200 g0))]) (cells' := [(mo, zo 2 (mF q (nI n) (nI (tS tx n (tS tx n (tS tx n po)))) (nI (tF tx n (tS tx n (tS tx n po)))) (nI (tK tx n (tS tx n (tS tx n po)))) (nI (tL tx n (tS tx n (tS tx n po)))) (optI (tV tx n (tS tx n (tS tx n po)))) (fgW tx n (tS tx n po) 0 (v 1)) cl un si)), (q 0, zc G 0 (zI 200 g0))]) rfl rfl rfl) (fun r u H locs hp hw => ?_)
  have hw : zS G ((mo, zo 2 (mF q (nI n) (nI (tS tx n (tS tx n (tS tx n po)))) (nI (tF tx n (tS tx n (tS tx n po)))) (nI (tK tx n (tS tx n (tS tx n po)))) (nI (tL tx n (tS tx n (tS tx n po)))) (optI (tV tx n (tS tx n (tS tx n po)))) (fgW tx n (tS tx n po) 0 (v 1)) cl un si)) :: (q 0, zc G 0 (zI 200 g0)) :: (q 10, zc G 0 (zI 46 (vI v))) :: rest) s H locs := hw
  obtain rfl : r = nI (fgV tx n (tS tx n po) 0 (v 1)) := hp
  rcases fg_cases tx n (tS tx n po) 0 (v 1) with ⟨hN1, e1_1, e2_1⟩ | ⟨hN1, e1_1, e2_1⟩
  · skip
    rw [e1_1]
    rw [e2_1] at hw
    have hq1 : tQ tx n (tS tx n po) < (v 1) := hN1.2.2.2
    have hw : zS G ((mo, zo 2 (mF q (nI n) (nI (tS tx n (tS tx n (tS tx n po)))) (nI (tF tx n (tS tx n (tS tx n po)))) (nI (tK tx n (tS tx n (tS tx n po)))) (nI (tL tx n (tS tx n (tS tx n po)))) (optI (tV tx n (tS tx n (tS tx n po)))) (-1) cl un si)) :: (q 0, zc G 0 (zI 200 g0)) :: (q 10, zc G 0 (zI 46 (vI v))) :: rest) s H locs := hw
    have hl : lv_has ls 3 [(0, .ref mo)] := hl
    have hw : zS G ((mo, zo 2 (mF q (nI n) (nI (tS tx n (tS tx n (tS tx n po)))) (nI (tF tx n (tS tx n (tS tx n po)))) (nI (tK tx n (tS tx n (tS tx n po)))) (nI (tL tx n (tS tx n (tS tx n po)))) (optI (tV tx n (tS tx n (tS tx n po)))) (-1) cl un si)) :: (q 0, zc G 0 (zI 200 g0)) :: (q 10, zc G 0 (zI 46 (vI v))) :: rest) s H locs := hw
    refine lv_istore_n (lv' := [(1, .int (nI (tQ tx n (tS tx n po)))), (0, .ref mo)]) hx hb dX2_tellsKnown_17 rfl hl (by decide) rfl (fun ls hl => ?_)
    refine lv_aload_n hx hb dX2_tellsKnown_18 rfl (lv_at hl 1 rfl) ?_
    refine lv_iconst (v := (nI 0)) hx hb dX2_tellsKnown_19 zk_0 ?_
    refine lv_aload_n hx hb dX2_tellsKnown_20 rfl (lv_at hl 1 rfl) ?_
    refine z_get (v := .ref (q 10)) hC zf_X2_16_2 hw 0 rfl rfl dX2_tellsKnown_21 ?_
    refine lv_iconst (v := (nI 0)) hx hb dX2_tellsKnown_24 zk_0 ?_
    refine z_iald (x := (nI (v 0))) hC hw 2 rfl (by decide) (by decide) rfl dX2_tellsKnown_25 ?_
    refine lv_iconst (v := (nI 1)) hx hb dX2_tellsKnown_26 zk_1 ?_
    refine zv_isub (v := (nI (v 0) - nI 1)) hx hb rfl dX2_tellsKnown_27 ?_
    refine z_ci (z_runV (As := [.int (nI 0), .int (nI (v 0) - nI 1)]) (rest := []) hC zv_X2_110 (m_X2_figure G l mo q cl un si n tx g0 (by omega) (by first | assumption | (omega)) (by first | assumption | (omega)) (tS tx n (tS tx n po)) (by first | exact tS_le hpo | exact tS_le (tS_le hpo) | exact tS_le (tS_le (tS_le hpo))) 0 (v 0) (nI (v 0) - nI 1) (hf_v (by omega)) (zrem [0, 1] _)) hw (hw.perm (z_cut (is := [0, 1]) (cells := [(mo, zo 2 (mF q (nI n) (nI (tS tx n (tS tx n (tS tx n po)))) (nI (tF tx n (tS tx n (tS tx n po)))) (nI (tK tx n (tS tx n (tS tx n po)))) (nI (tL tx n (tS tx n (tS tx n po)))) (optI (tV tx n (tS tx n (tS tx n po)))) (-1) cl un si)), (q 0, zc G 0 (zI 200 g0))]) rfl rfl)) 0 rfl rfl rfl rfl rfl (Nat.le_of_ble_eq_true rfl) hl.1 ⟨Nat.le_of_ble_eq_true rfl, Nat.le_of_ble_eq_true rfl⟩ ⟨(Nat.le_of_ble_eq_true rfl), (Nat.le_of_ble_eq_true rfl)⟩ dX2_tellsKnown_28) hw (fun _ => z_pput (is := [0, 1]) (cells := [(mo, zo 2 (mF q (nI n) (nI (tS tx n (tS tx n (tS tx n po)))) (nI (tF tx n (tS tx n (tS tx n po)))) (nI (tK tx n (tS tx n (tS tx n po)))) (nI (tL tx n (tS tx n (tS tx n po)))) (optI (tV tx n (tS tx n (tS tx n po)))) (-1) cl un si)), (q 0, zc G 0 (zI 200 g0))]) (cells' := [(mo, zo 2 (mF q (nI n) (nI (tS tx n (tS tx n (tS tx n (tS tx n po))))) (nI (tF tx n (tS tx n (tS tx n (tS tx n po))))) (nI (tK tx n (tS tx n (tS tx n (tS tx n po))))) (nI (tL tx n (tS tx n (tS tx n (tS tx n po))))) (optI (tV tx n (tS tx n (tS tx n (tS tx n po))))) (fgW tx n (tS tx n (tS tx n po)) 0 (v 0)) cl un si)), (q 0, zc G 0 (zI 200 g0))]) rfl rfl rfl) (fun r u H locs hp hw => ?_)
    have hw : zS G ((mo, zo 2 (mF q (nI n) (nI (tS tx n (tS tx n (tS tx n (tS tx n po))))) (nI (tF tx n (tS tx n (tS tx n (tS tx n po))))) (nI (tK tx n (tS tx n (tS tx n (tS tx n po))))) (nI (tL tx n (tS tx n (tS tx n (tS tx n po))))) (optI (tV tx n (tS tx n (tS tx n (tS tx n po))))) (fgW tx n (tS tx n (tS tx n po)) 0 (v 0)) cl un si)) :: (q 0, zc G 0 (zI 200 g0)) :: (q 10, zc G 0 (zI 46 (vI v))) :: rest) s H locs := hw
    obtain rfl : r = nI (fgV tx n (tS tx n (tS tx n po)) 0 (v 0)) := hp
    rcases fg_cases tx n (tS tx n (tS tx n po)) 0 (v 0) with ⟨hN2, e1_2, e2_2⟩ | ⟨hN2, e1_2, e2_2⟩
    · skip
      rw [e1_2]
      rw [e2_2] at hw
      have hq2 : tQ tx n (tS tx n (tS tx n po)) < (v 0) := hN2.2.2.2
      have hw : zS G ((mo, zo 2 (mF q (nI n) (nI (tS tx n (tS tx n (tS tx n (tS tx n po))))) (nI (tF tx n (tS tx n (tS tx n (tS tx n po))))) (nI (tK tx n (tS tx n (tS tx n (tS tx n po))))) (nI (tL tx n (tS tx n (tS tx n (tS tx n po))))) (optI (tV tx n (tS tx n (tS tx n (tS tx n po))))) (-1) cl un si)) :: (q 0, zc G 0 (zI 200 g0)) :: (q 10, zc G 0 (zI 46 (vI v))) :: rest) s H locs := hw
      have hl : lv_has ls 3 [(1, .int (nI (tQ tx n (tS tx n po)))), (0, .ref mo)] := hl
      have hw : zS G ((mo, zo 2 (mF q (nI n) (nI (tS tx n (tS tx n (tS tx n (tS tx n po))))) (nI (tF tx n (tS tx n (tS tx n (tS tx n po))))) (nI (tK tx n (tS tx n (tS tx n (tS tx n po))))) (nI (tL tx n (tS tx n (tS tx n (tS tx n po))))) (optI (tV tx n (tS tx n (tS tx n (tS tx n po))))) (-1) cl un si)) :: (q 0, zc G 0 (zI 200 g0)) :: (q 10, zc G 0 (zI 46 (vI v))) :: rest) s H locs := hw
      refine lv_istore_n (lv' := [(2, .int (nI (tQ tx n (tS tx n (tS tx n po))))), (1, .int (nI (tQ tx n (tS tx n po)))), (0, .ref mo)]) hx hb dX2_tellsKnown_31 rfl hl (by decide) rfl (fun ls hl => ?_)
      refine lv_aload_n hx hb dX2_tellsKnown_32 rfl (lv_at hl 2 rfl) ?_
      refine z_get (v := .int (-1)) hC zf_X2_93_2 hw 0 rfl rfl dX2_tellsKnown_33 ?_
      refine lv_iconst (v := -1) hx hb dX2_tellsKnown_36 zk_m1 ?_
      refine lv_icmp_ne (tgt := 59) hx hb dX2_tellsKnown_37 (by decide) (fun h => absurd h (by decide)) (fun _ => ?_)
      refine lv_aload_n hx hb dX2_tellsKnown_40 rfl (lv_at hl 2 rfl) ?_
      refine z_get (v := .ref (q 10)) hC zf_X2_16_2 hw 0 rfl rfl dX2_tellsKnown_41 ?_
      refine lv_bipush (v := (nI 21)) hx hb dX2_tellsKnown_44 zb_21 ?_
      refine lv_iconst (v := (nI 5)) hx hb dX2_tellsKnown_46 zk_5 ?_
      refine lv_iload_n hx hb dX2_tellsKnown_47 rfl (lv_at hl 1 rfl) ?_
      refine zn_imul hx hb dX2_tellsKnown_48 ?_
      refine zn_iadd hx hb dX2_tellsKnown_49 ?_
      refine lv_iconst (v := (nI 4)) hx hb dX2_tellsKnown_50 zk_4 ?_
      refine zn_iadd hx hb dX2_tellsKnown_51 ?_
      refine lv_dup2_11 hx hb dX2_tellsKnown_52 rfl rfl ?_
      refine z_iald (x := (nI (v (21 + (5 * (tQ tx n (tS tx n po))) + 4)))) hC hw 2 rfl (by omega) (by decide) rfl dX2_tellsKnown_53 ?_
      refine lv_iconst (v := (nI 1)) hx hb dX2_tellsKnown_54 zk_1 ?_
      refine lv_iload_n hx hb dX2_tellsKnown_55 rfl (lv_at hl 0 rfl) ?_
      refine zv_ishl (v := (nI (2 ^ (tQ tx n (tS tx n (tS tx n po)))))) hx hb (nI_shl1 (by omega)) dX2_tellsKnown_56 ?_
      refine zv_ior (v := (nI ((v (21 + (5 * (tQ tx n (tS tx n po))) + 4)) ||| (2 ^ (tQ tx n (tS tx n (tS tx n po))))))) hx hb (nI_or _ _) dX2_tellsKnown_57 ?_
      refine z_iast (f' := vI (updN v (21 + (5 * (tQ tx n (tS tx n po))) + 4) ((v (21 + (5 * (tQ tx n (tS tx n po))) + 4)) ||| (2 ^ (tQ tx n (tS tx n (tS tx n po))))))) hC hw 2 rfl (by omega) (by decide) (vI_upd _ _ _) dX2_tellsKnown_58 (fun H locs hw => ?_)
      have hw : zS G ((mo, zo 2 (mF q (nI n) (nI (tS tx n (tS tx n (tS tx n (tS tx n po))))) (nI (tF tx n (tS tx n (tS tx n (tS tx n po))))) (nI (tK tx n (tS tx n (tS tx n (tS tx n po))))) (nI (tL tx n (tS tx n (tS tx n (tS tx n po))))) (optI (tV tx n (tS tx n (tS tx n (tS tx n po))))) (-1) cl un si)) :: (q 0, zc G 0 (zI 200 g0)) :: (q 10, zc G 0 (zI 46 (vI (updN v (21 + (5 * (tQ tx n (tS tx n po))) + 4) ((v (21 + (5 * (tQ tx n (tS tx n po))) + 4)) ||| (2 ^ (tQ tx n (tS tx n (tS tx n po))))))))) :: rest) s H locs := hw
      exact hend _ _ _ _ _ _ ((tS tx n (tS tx n (tS tx n po))), (updN v (21 + (5 * (tQ tx n (tS tx n po))) + 4) ((v (21 + (5 * (tQ tx n (tS tx n po))) + 4)) ||| (2 ^ (tQ tx n (tS tx n (tS tx n po)))))), (-1), (optI (tV tx n (tS tx n (tS tx n (tS tx n po)))))) hw (by first | exact cR_l hpo (tS_le (tS_le (tS_le hpo))) (if_pos c5) | exact cR_l (tS_le hpo) (tS_le (tS_le (tS_le hpo))) ((if_neg c5).trans (two_1 hN1)) | exact cR_l (tS_le (tS_le hpo)) (tS_le (tS_le (tS_le hpo))) ((if_neg c5).trans (two_2 hN1 hN2)) | exact cR_r (tS_le (tS_le (tS_le hpo))) ((if_neg c5).trans (two_3 hN1 hN2)) | exact cR_l (tS_le hpo) (tS_le (tS_le (tS_le hpo))) (two_1 hN1) | exact cR_l (tS_le (tS_le hpo)) (tS_le (tS_le (tS_le hpo))) (two_2 hN1 hN2) | exact cR_r (tS_le (tS_le (tS_le hpo))) (two_3 hN1 hN2)) (Nat.le_of_ble_eq_true rfl) (Nat.le_of_ble_eq_true rfl) dX2_tellsKnown_59
    · skip
      rw [e1_2]
      rw [e2_2] at hw
      have hw : zS G ((mo, zo 2 (mF q (nI n) (nI (tS tx n (tS tx n (tS tx n (tS tx n po))))) (nI (tF tx n (tS tx n (tS tx n (tS tx n po))))) (nI (tK tx n (tS tx n (tS tx n (tS tx n po))))) (nI (tL tx n (tS tx n (tS tx n (tS tx n po))))) (optI (tV tx n (tS tx n (tS tx n (tS tx n po))))) (nI (tF tx n (tS tx n (tS tx n po)))) cl un si)) :: (q 0, zc G 0 (zI 200 g0)) :: (q 10, zc G 0 (zI 46 (vI v))) :: rest) s H locs := hw
      have hl : lv_has ls 3 [(1, .int (nI (tQ tx n (tS tx n po)))), (0, .ref mo)] := hl
      have hw : zS G ((mo, zo 2 (mF q (nI n) (nI (tS tx n (tS tx n (tS tx n (tS tx n po))))) (nI (tF tx n (tS tx n (tS tx n (tS tx n po))))) (nI (tK tx n (tS tx n (tS tx n (tS tx n po))))) (nI (tL tx n (tS tx n (tS tx n (tS tx n po))))) (optI (tV tx n (tS tx n (tS tx n (tS tx n po))))) (nI (tF tx n (tS tx n (tS tx n po)))) cl un si)) :: (q 0, zc G 0 (zI 200 g0)) :: (q 10, zc G 0 (zI 46 (vI v))) :: rest) s H locs := hw
      refine lv_istore_n (lv' := [(2, .int (nI (0))), (1, .int (nI (tQ tx n (tS tx n po)))), (0, .ref mo)]) hx hb dX2_tellsKnown_31 rfl hl (by decide) rfl (fun ls hl => ?_)
      refine lv_aload_n hx hb dX2_tellsKnown_32 rfl (lv_at hl 2 rfl) ?_
      refine z_get (v := .int (nI (tF tx n (tS tx n (tS tx n po))))) hC zf_X2_93_2 hw 0 rfl rfl dX2_tellsKnown_33 ?_
      refine lv_iconst (v := -1) hx hb dX2_tellsKnown_36 zk_m1 ?_
      refine lv_icmp_ne (tgt := 59) hx hb dX2_tellsKnown_37 (by decide) (fun _ => ?_) (fun h => absurd h (nI_nm1 (tF_lt hn (by first | exact hpo | exact tS_le hpo | exact tS_le (tS_le hpo) | exact tS_le (tS_le (tS_le hpo))))))
      exact hend _ _ _ _ _ _ ((tS tx n (tS tx n (tS tx n po))), v, (nI (tF tx n (tS tx n (tS tx n po)))), (optI (tV tx n (tS tx n (tS tx n (tS tx n po)))))) hw (by first | exact cR_l hpo (tS_le (tS_le (tS_le hpo))) (if_pos c5) | exact cR_l (tS_le hpo) (tS_le (tS_le (tS_le hpo))) ((if_neg c5).trans (two_1 hN1)) | exact cR_l (tS_le (tS_le hpo)) (tS_le (tS_le (tS_le hpo))) ((if_neg c5).trans (two_2 hN1 hN2)) | exact cR_r (tS_le (tS_le (tS_le hpo))) ((if_neg c5).trans (two_3 hN1 hN2)) | exact cR_l (tS_le hpo) (tS_le (tS_le (tS_le hpo))) (two_1 hN1) | exact cR_l (tS_le (tS_le hpo)) (tS_le (tS_le (tS_le hpo))) (two_2 hN1 hN2) | exact cR_r (tS_le (tS_le (tS_le hpo))) (two_3 hN1 hN2)) (Nat.le_of_ble_eq_true rfl) (Nat.le_of_ble_eq_true rfl) dX2_tellsKnown_59
  · skip
    rw [e1_1]
    rw [e2_1] at hw
    have hw : zS G ((mo, zo 2 (mF q (nI n) (nI (tS tx n (tS tx n (tS tx n po)))) (nI (tF tx n (tS tx n (tS tx n po)))) (nI (tK tx n (tS tx n (tS tx n po)))) (nI (tL tx n (tS tx n (tS tx n po)))) (optI (tV tx n (tS tx n (tS tx n po)))) (nI (tF tx n (tS tx n po))) cl un si)) :: (q 0, zc G 0 (zI 200 g0)) :: (q 10, zc G 0 (zI 46 (vI v))) :: rest) s H locs := hw
    have hl : lv_has ls 3 [(0, .ref mo)] := hl
    have hw : zS G ((mo, zo 2 (mF q (nI n) (nI (tS tx n (tS tx n (tS tx n po)))) (nI (tF tx n (tS tx n (tS tx n po)))) (nI (tK tx n (tS tx n (tS tx n po)))) (nI (tL tx n (tS tx n (tS tx n po)))) (optI (tV tx n (tS tx n (tS tx n po)))) (nI (tF tx n (tS tx n po))) cl un si)) :: (q 0, zc G 0 (zI 200 g0)) :: (q 10, zc G 0 (zI 46 (vI v))) :: rest) s H locs := hw
    refine lv_istore_n (lv' := [(1, .int (nI (0))), (0, .ref mo)]) hx hb dX2_tellsKnown_17 rfl hl (by decide) rfl (fun ls hl => ?_)
    refine lv_aload_n hx hb dX2_tellsKnown_18 rfl (lv_at hl 1 rfl) ?_
    refine lv_iconst (v := (nI 0)) hx hb dX2_tellsKnown_19 zk_0 ?_
    refine lv_aload_n hx hb dX2_tellsKnown_20 rfl (lv_at hl 1 rfl) ?_
    refine z_get (v := .ref (q 10)) hC zf_X2_16_2 hw 0 rfl rfl dX2_tellsKnown_21 ?_
    refine lv_iconst (v := (nI 0)) hx hb dX2_tellsKnown_24 zk_0 ?_
    refine z_iald (x := (nI (v 0))) hC hw 2 rfl (by decide) (by decide) rfl dX2_tellsKnown_25 ?_
    refine lv_iconst (v := (nI 1)) hx hb dX2_tellsKnown_26 zk_1 ?_
    refine zv_isub (v := (nI (v 0) - nI 1)) hx hb rfl dX2_tellsKnown_27 ?_
    refine z_ci (z_runV (As := [.int (nI 0), .int (nI (v 0) - nI 1)]) (rest := []) hC zv_X2_110 (m_X2_figure_w G l mo q cl un si n tx g0 (by omega) (by first | assumption | (omega)) (by first | assumption | (omega)) (tS tx n (tS tx n po)) (by first | exact tS_le hpo | exact tS_le (tS_le hpo) | exact tS_le (tS_le (tS_le hpo))) (nI 0) (nI (v 0) - nI 1) (tF tx n (tS tx n po)) (by have := (tF_le (tx := tx) (n := n) (p := po) hpo).2; have := (tF_le (tx := tx) (tS_le (tx := tx) hpo)).2; have := (tF_le (tx := tx) (tS_le (tx := tx) (tS_le (tx := tx) hpo))).2; omega) (zrem [0, 1] _)) hw (hw.perm (z_cut (is := [0, 1]) (cells := [(mo, zo 2 (mF q (nI n) (nI (tS tx n (tS tx n (tS tx n po)))) (nI (tF tx n (tS tx n (tS tx n po)))) (nI (tK tx n (tS tx n (tS tx n po)))) (nI (tL tx n (tS tx n (tS tx n po)))) (optI (tV tx n (tS tx n (tS tx n po)))) (nI (tF tx n (tS tx n po))) cl un si)), (q 0, zc G 0 (zI 200 g0))]) rfl rfl)) 0 rfl rfl rfl rfl rfl (Nat.le_of_ble_eq_true rfl) hl.1 ⟨Nat.le_of_ble_eq_true rfl, Nat.le_of_ble_eq_true rfl⟩ ⟨(Nat.le_of_ble_eq_true rfl), (Nat.le_of_ble_eq_true rfl)⟩ dX2_tellsKnown_28) hw (fun _ => z_pput (is := [0, 1]) (cells := [(mo, zo 2 (mF q (nI n) (nI (tS tx n (tS tx n (tS tx n po)))) (nI (tF tx n (tS tx n (tS tx n po)))) (nI (tK tx n (tS tx n (tS tx n po)))) (nI (tL tx n (tS tx n (tS tx n po)))) (optI (tV tx n (tS tx n (tS tx n po)))) (nI (tF tx n (tS tx n po))) cl un si)), (q 0, zc G 0 (zI 200 g0))]) (cells' := [(mo, zo 2 (mF q (nI n) (nI (tS tx n (tS tx n (tS tx n (tS tx n po))))) (nI (tF tx n (tS tx n (tS tx n (tS tx n po))))) (nI (tK tx n (tS tx n (tS tx n (tS tx n po))))) (nI (tL tx n (tS tx n (tS tx n (tS tx n po))))) (optI (tV tx n (tS tx n (tS tx n (tS tx n po))))) (nI (tF tx n (tS tx n po))) cl un si)), (q 0, zc G 0 (zI 200 g0))]) rfl rfl rfl) (fun r u H locs hp hw => ?_)
    have hw : zS G ((mo, zo 2 (mF q (nI n) (nI (tS tx n (tS tx n (tS tx n (tS tx n po))))) (nI (tF tx n (tS tx n (tS tx n (tS tx n po))))) (nI (tK tx n (tS tx n (tS tx n (tS tx n po))))) (nI (tL tx n (tS tx n (tS tx n (tS tx n po))))) (optI (tV tx n (tS tx n (tS tx n (tS tx n po))))) (nI (tF tx n (tS tx n po))) cl un si)) :: (q 0, zc G 0 (zI 200 g0)) :: (q 10, zc G 0 (zI 46 (vI v))) :: rest) s H locs := hw
    obtain rfl : r = nI 0 := hp
    refine lv_istore_n (lv' := [(2, .int (nI 0)), (1, .int (nI (0))), (0, .ref mo)]) hx hb dX2_tellsKnown_31 rfl hl (by decide) rfl (fun ls hl => ?_)
    refine lv_aload_n hx hb dX2_tellsKnown_32 rfl (lv_at hl 2 rfl) ?_
    refine z_get (v := .int (nI (tF tx n (tS tx n po)))) hC zf_X2_93_2 hw 0 rfl rfl dX2_tellsKnown_33 ?_
    refine lv_iconst (v := -1) hx hb dX2_tellsKnown_36 zk_m1 ?_
    refine lv_icmp_ne (tgt := 59) hx hb dX2_tellsKnown_37 (by decide) (fun _ => ?_) (fun h => absurd h (nI_nm1 (tF_lt hn (by first | exact hpo | exact tS_le hpo | exact tS_le (tS_le hpo) | exact tS_le (tS_le (tS_le hpo))))))
    exact hend _ _ _ _ _ _ ((tS tx n (tS tx n (tS tx n po))), v, (nI (tF tx n (tS tx n po))), (optI (tV tx n (tS tx n (tS tx n (tS tx n po)))))) hw (by first | exact cR_l hpo (tS_le (tS_le (tS_le hpo))) (if_pos c5) | exact cR_l (tS_le hpo) (tS_le (tS_le (tS_le hpo))) ((if_neg c5).trans (two_1 hN1)) | exact cR_l (tS_le (tS_le hpo)) (tS_le (tS_le (tS_le hpo))) ((if_neg c5).trans (two_2 hN1 hN2)) | exact cR_r (tS_le (tS_le (tS_le hpo))) ((if_neg c5).trans (two_3 hN1 hN2)) | exact cR_l (tS_le hpo) (tS_le (tS_le (tS_le hpo))) (two_1 hN1) | exact cR_l (tS_le (tS_le hpo)) (tS_le (tS_le (tS_le hpo))) (two_2 hN1 hN2) | exact cR_r (tS_le (tS_le (tS_le hpo))) (two_3 hN1 hN2)) (Nat.le_of_ble_eq_true rfl) (Nat.le_of_ble_eq_true rfl) dX2_tellsKnown_59
theorem vI_z {v : Nat → Nat} {k : Nat} : vI (updN (fun j => if j < k then 0 else v j) k 0) = vI (fun j => if j < k + 1 then 0 else v j) := by
  funext j
  unfold vI updN
  by_cases e : j = k
  · subst e; rw [if_pos rfl]; simp only [if_pos (Nat.lt_succ_self j)]
  · rw [if_neg e]
    by_cases e2 : j < k
    · simp only [if_pos e2, if_pos (Nat.lt_succ_of_lt e2)]
    · simp only [if_neg e2, if_neg (show ¬ j < k + 1 by omega)]
set_option maxHeartbeats 4000000 in
theorem m_X2_tellsNothing (G : zE) (l : Launch) (mo : Nat) (q : Nat → Nat) (cl : Int32) (un : Int32) (si : Int32) (n : Nat) (tx : Nat → Nat) (g0 : Nat → Int32) (hn : n ≤ 200) (hg : ∀ j, j < n → g0 j = nI (tx j)) (ht : ∀ j, j < n → tx j < 256) (po : Nat) (hpo : po ≤ n) (tk : Int32) (ln : Int32) (va : Int32) (v : Nat → Nat) (hH : Hw v) (rest : va_W) : zMv G l yX2_tellsNothing cX2_tellsNothing 2 3 0 0 [.ref mo] ((mo, zo 2 (mF q (nI n) (nI (tS tx n po)) (nI (tF tx n po)) tk ln va (-1) cl un si)) :: (q 0, zc G 0 (zI 200 g0)) :: (q 10, zc G 0 (zI 46 (vI v))) :: rest) (fun u => cR n (.inr (fun _ => 0, tS tx n po)) u) (fun (u : CU) => (mo, zo 2 (mF q (nI n) (nI (tS tx n u.1)) (nI (tF tx n u.1)) (nI (tK tx n u.1)) (nI (tL tx n u.1)) u.2.2.2 u.2.2.1 cl un si)) :: (q 0, zc G 0 (zI 200 g0)) :: (q 10, zc G 0 (zI 46 (vI u.2.1))) :: rest) := by
  refine z_begV (by decide) (Nat.le_of_ble_eq_true rfl) (fun p e s m args below meth c ls Q hC hnm hl hw hend => ?_)
  have hx := hC.hx
  have hb := hC.hb
  have hl : lv_has ls 2 [(0, .ref mo)] := hl
  have hw : zS G ((mo, zo 2 (mF q (nI n) (nI (tS tx n po)) (nI (tF tx n po)) tk ln va (-1) cl un si)) :: (q 0, zc G 0 (zI 200 g0)) :: (q 10, zc G 0 (zI 46 (vI v))) :: rest) s s.heap [] := hw
  refine lv_iconst (v := (nI 0)) hx hb dX2_tellsNothing_0 zk_0 ?_
  refine lv_istore_n (lv' := [(1, .int (nI 0)), (0, .ref mo)]) hx hb dX2_tellsNothing_1 rfl hl (by decide) rfl (fun ls hl => ?_)
  have loop_2 : ∀ (fuel : Nat) (k : Nat), (k ≤ 46) → (46 - k) < fuel → ∀ (H : Heap) (locs : List Loc) (ls : Array Slot), zS G ((mo, zo 2 (mF q (nI n) (nI (tS tx n po)) (nI (tF tx n po)) tk ln va (-1) cl un si)) :: (q 0, zc G 0 (zI 200 g0)) :: (q 10, zc G 0 (zI 46 (vI (fun j => if j < k then 0 else v j)))) :: rest) s H locs → lv_has ls 2 [(0, .ref mo), (1, .int (nI k))] → W p l e (zR 3 0 0) s m args below meth c H locs 0 0 Q (F0 m 2 ls []) := by
    intro fuel
    induction fuel with
    | zero => intro k hk hfuel; exact absurd hfuel (Nat.not_lt_zero _)
    | succ fuel_2 ih_2 =>
      intro k hk hfuel_2 H locs ls hw hl
      refine lv_iload_n hx hb dX2_tellsNothing_2 rfl (lv_at hl 1 rfl) ?_
      refine lv_bipush (v := (nI 46)) hx hb dX2_tellsNothing_3 zb_46 ?_
      refine zi_ge (tgt := 21) hx hb (by omega) (by decide) dX2_tellsNothing_5 (by decide) (fun c_5 => ?_) (fun c_5 => ?_)
      · skip
        refine lv_aload_n hx hb dX2_tellsNothing_21 rfl (lv_at hl 0 rfl) ?_
        refine z_cv (z_runV (As := []) (rest := []) hC zv_X2_100 (m_X2_advances G l mo q cl un si n tx g0 (by omega) (by first | assumption | (omega)) (by first | assumption | (omega)) (nI (tF tx n po)) tk ln va (-1) (tS tx n po) (by first | exact tS_le hpo | exact tS_le (tS_le hpo) | exact tS_le (tS_le (tS_le hpo))) (zrem [0, 1] _)) hw (hw.perm (z_cut (is := [0, 1]) (cells := [(mo, zo 2 (mF q (nI n) (nI (tS tx n po)) (nI (tF tx n po)) tk ln va (-1) cl un si)), (q 0, zc G 0 (zI 200 g0))]) rfl rfl)) 0 rfl rfl rfl rfl rfl (Nat.le_of_ble_eq_true rfl) hl.1 ⟨Nat.le_of_ble_eq_true rfl, Nat.le_of_ble_eq_true rfl⟩ ⟨(Nat.le_of_ble_eq_true rfl), (Nat.le_of_ble_eq_true rfl)⟩ dX2_tellsNothing_22) hw (fun _ => z_pput (is := [0, 1]) (cells := [(mo, zo 2 (mF q (nI n) (nI (tS tx n po)) (nI (tF tx n po)) tk ln va (-1) cl un si)), (q 0, zc G 0 (zI 200 g0))]) (cells' := [(mo, zo 2 (mF q (nI n) (nI (tS tx n (tS tx n po))) (nI (tF tx n (tS tx n po))) (nI (tK tx n (tS tx n po))) (nI (tL tx n (tS tx n po))) (optI (tV tx n (tS tx n po))) (-1) cl un si)), (q 0, zc G 0 (zI 200 g0))]) rfl rfl rfl) (fun u H locs hp hw => ?_)
        have hw : zS G ((mo, zo 2 (mF q (nI n) (nI (tS tx n (tS tx n po))) (nI (tF tx n (tS tx n po))) (nI (tK tx n (tS tx n po))) (nI (tL tx n (tS tx n po))) (optI (tV tx n (tS tx n po))) (-1) cl un si)) :: (q 0, zc G 0 (zI 200 g0)) :: (q 10, zc G 0 (zI 46 (vI (fun j => if j < k then 0 else v j)))) :: rest) s H locs := hw
        have hk46 : k = 46 := by omega
        subst hk46
        have hw := hw.cellI 2 rfl (g := vI (fun _ => 0)) (fun j hj => by show nI (if j < 46 then 0 else v j) = nI 0; rw [if_pos hj])
        have hw : zS G ((mo, zo 2 (mF q (nI n) (nI (tS tx n (tS tx n po))) (nI (tF tx n (tS tx n po))) (nI (tK tx n (tS tx n po))) (nI (tL tx n (tS tx n po))) (optI (tV tx n (tS tx n po))) (-1) cl un si)) :: (q 0, zc G 0 (zI 200 g0)) :: (q 10, zc G 0 (zI 46 (vI (fun _ => 0)))) :: rest) s H locs := hw
        exact hend _ _ _ _ _ _ ((tS tx n po), (fun _ => 0), (-1), (optI (tV tx n (tS tx n po)))) hw (by exact cR_r (tS_le hpo) rfl) (Nat.le_of_ble_eq_true rfl) (Nat.le_of_ble_eq_true rfl) dX2_tellsNothing_25
      · skip
        refine lv_aload_n hx hb dX2_tellsNothing_8 rfl (lv_at hl 0 rfl) ?_
        refine z_get (v := .ref (q 10)) hC zf_X2_16_2 hw 0 rfl rfl dX2_tellsNothing_9 ?_
        refine lv_iload_n hx hb dX2_tellsNothing_12 rfl (lv_at hl 1 rfl) ?_
        refine lv_iconst (v := (nI 0)) hx hb dX2_tellsNothing_13 zk_0 ?_
        refine z_iast (f' := vI (fun j => if j < k + 1 then 0 else v j)) hC hw 2 rfl (by omega) (by decide) ((vI_upd _ _ _).trans vI_z) dX2_tellsNothing_14 (fun H locs hw => ?_)
        have hw : zS G ((mo, zo 2 (mF q (nI n) (nI (tS tx n po)) (nI (tF tx n po)) tk ln va (-1) cl un si)) :: (q 0, zc G 0 (zI 200 g0)) :: (q 10, zc G 0 (zI 46 (vI (fun j => if j < k + 1 then 0 else v j)))) :: rest) s H locs := hw
        refine lv_iinc (v := (nI (k + 1))) (lv' := [(1, .int (nI (k + 1))), (0, .ref mo)]) hx hb dX2_tellsNothing_15 hl (k := 1) rfl (zincn _ 1) (by decide) rfl (fun ls hl => ?_)
        refine lv_goto (tgt := 2) hx hb dX2_tellsNothing_18 (by decide) ?_
        have hw : zS G ((mo, zo 2 (mF q (nI n) (nI (tS tx n po)) (nI (tF tx n po)) tk ln va (-1) cl un si)) :: (q 0, zc G 0 (zI 200 g0)) :: (q 10, zc G 0 (zI 46 (vI (fun j => if j < (k + 1) then 0 else v j)))) :: rest) s H locs := hw
        exact ih_2 (k + 1) (by omega) (by omega) H locs ls hw (lv_sub hl [1, 0] rfl)
  have hw : zS G ((mo, zo 2 (mF q (nI n) (nI (tS tx n po)) (nI (tF tx n po)) tk ln va (-1) cl un si)) :: (q 0, zc G 0 (zI 200 g0)) :: (q 10, zc G 0 (zI 46 (vI (fun j => if j < 0 then 0 else v j)))) :: rest) s s.heap [] := hw
  exact loop_2 ((46 - 0) + 1) 0 (by decide) (Nat.lt_succ_self _) s.heap [] ls hw (lv_sub hl [1, 0] rfl)
