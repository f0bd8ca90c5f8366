/-! COMPONENT: a day -/
set_option maxRecDepth 100000
/-- the squirrels' cells -/
def sqC (sq v : Nat → Nat) (i : Nat) : Nat × va_E := (sq i, zo (5 + v (21 + 5 * i)) (sqF (nI i) (nI (v (21 + 5 * i + 2)))))
def sqW (sq v : Nat → Nat) : va_W := (List.range (v 1)).map (sqC sq v)
def sqX (sq v : Nat → Nat) (i : Nat) : va_W := ((List.range (v 1)).erase i).map (sqC sq v)
theorem sq_get {sq v : Nat → Nat} {i : Nat} {E R : va_W} (hi : i < v 1) : (E ++ (sqW sq v ++ R)).Perm (sqC sq v i :: (E ++ (sqX sq v i ++ R))) := by
  have h : (sqW sq v).Perm (sqC sq v i :: sqX sq v i) := (List.perm_cons_erase (List.mem_range.mpr hi)).map (sqC sq v)
  exact ((h.append_right R).append_left E).trans List.perm_middle
theorem Hg_upd {v : Nat → Nat} {i x : Nat} (hg : Hg v) (hi : i < 5) (hx : x < 512) : Hg (updN v (21 + 5 * i + 4) x) := by
  have h0 := hg.1.1
  have h1 := hg.1.2.1
  have e0 : updN v (21 + 5 * i + 4) x 0 = v 0 := updN_ne _ _ (by omega)
  have e1 : updN v (21 + 5 * i + 4) x 1 = v 1 := updN_ne _ _ (by omega)
  refine ⟨Hw_upd hg.1 (by omega) (by omega) (by omega) (fun _ _ _ => hx) (fun i hi h => by omega) (fun i hi h => by omega), fun t ht => ?_, fun j hj => ?_⟩
  · rw [e0] at ht; rw [updN_ne _ _ (by omega), updN_ne _ _ (by omega)]; exact hg.2.1 t ht
  · rw [e1] at hj; rw [updN_ne _ _ (by omega), updN_ne _ _ (by omega), updN_ne _ _ (by omega)]; exact hg.2.2 j hj
theorem Hg_lean {v : Nat → Nat} {i x : Nat} (hg : Hg v) (hi : i < 5) (hx : x ≤ 3) : Hg (updN v (21 + 5 * i + 3) x) := by
  have h0 := hg.1.1
  have h1 := hg.1.2.1
  have e0 : updN v (21 + 5 * i + 3) x 0 = v 0 := updN_ne _ _ (by omega)
  have e1 : updN v (21 + 5 * i + 3) x 1 = v 1 := updN_ne _ _ (by omega)
  refine ⟨Hw_upd hg.1 (by omega) (by omega) (by omega) (fun i hi h => by omega) (fun i hi h => by omega) (fun i hi h => hx), fun t ht => ?_, fun j hj => ?_⟩
  · rw [e0] at ht; rw [updN_ne _ _ (by omega), updN_ne _ _ (by omega)]; exact hg.2.1 t ht
  · rw [e1] at hj; rw [updN_ne _ _ (by omega), updN_ne _ _ (by omega), updN_ne _ _ (by omega)]; exact hg.2.2 j hj
theorem Hg_day {v : Nat → Nat} {x : Nat} (hg : Hg v) (hx : x < 65536) : Hg (updN v 2 x) := by
  have h0 := hg.1.1
  have h1 := hg.1.2.1
  refine ⟨Hw_upd hg.1 (by omega) (by omega) hx (fun i hi h => by omega) (fun i hi h => by omega) (fun i hi h => by omega), fun t ht => ?_, fun j hj => ?_⟩
  · rw [updN_ne _ _ (by omega)] at ht; rw [updN_ne _ _ (by omega), updN_ne _ _ (by omega)]; exact hg.2.1 t ht
  · rw [updN_ne _ _ (by omega)] at hj; rw [updN_ne _ _ (by omega), updN_ne _ _ (by omega), updN_ne _ _ (by omega)]; exact hg.2.2 j hj
theorem eatN_Hg {v : Nat → Nat} {i : Nat} (hg : Hg v) (hi : i < v 1) : Hg (eatN v i).2 :=
  ((eatsN_all (i := i) (by have := hg.1.2.1; omega) (fun v => Hg v ∧ i < v 1) (fun v t its hH hP ht h1 h2 h3 => ⟨eatOne_Hg hP.1 hP.2 ht, by rw [eatOne_ne (by omega) (by omega) (by omega)]; exact hP.2⟩) 20 v 0 hg.1 ⟨hg, hi⟩).2).1
theorem sRel_day {v pl nu ax le kn : Nat → Nat} {x : Nat} (h : sRel v pl nu ax le kn) : sRel (updN v 2 x) pl nu ax le kn := by
  refine ⟨fun t ht => ?_, fun i hi => ?_, fun i hi => ?_, h.2.2.2⟩
  · rw [updN_ne _ _ (by omega)] at ht; rw [updN_ne _ _ (by omega), updN_ne _ _ (by omega)]; exact h.1 t ht
  · rw [updN_ne _ _ (by omega)] at hi; rw [updN_ne _ _ (by omega)]; exact h.2.1 i hi
  · rw [updN_ne _ _ (by omega), updN_ne _ _ (by omega)]; exact h.2.2.1 i hi
theorem sRel_kn {v pl nu ax le kn : Nat → Nat} {i x : Nat} (hv : v 0 ≤ 9) (h : sRel v pl nu ax le kn) (hx : x < 512) : sRel (updN v (21 + 5 * i + 4) x) pl nu ax le (updN kn i x) := by
  refine ⟨fun t ht => ?_, fun j hj => ?_, fun j hj => ?_, fun j => ?_⟩
  · rw [updN_ne _ _ (by omega)] at ht; rw [updN_ne _ _ (by omega), updN_ne _ _ (by omega)]; exact h.1 t ht
  · rw [updN_ne _ _ (by omega)] at hj; rw [updN_ne _ _ (by omega)]; exact h.2.1 j hj
  · rw [updN_ne _ _ (by omega)]
    refine ⟨(h.2.2.1 j hj).1, ?_⟩
    unfold updN
    by_cases q : j = i
    · subst q; rw [if_pos rfl, if_pos rfl]
    · rw [if_neg q, if_neg (by omega)]; exact (h.2.2.1 j hj).2
  · have ej := h.2.2.2 j
    refine ⟨ej.1, ej.2.1, ej.2.2.1, ej.2.2.2.1, ?_⟩
    unfold updN; split
    · exact hx
    · exact ej.2.2.2.2
theorem sRel_le {v pl nu ax le kn : Nat → Nat} {i x : Nat} (hv : v 0 ≤ 9) (h : sRel v pl nu ax le kn) (hx : x < 128) : sRel (updN v (21 + 5 * i + 3) x) pl nu ax (updN le i x) kn := by
  refine ⟨fun t ht => ?_, fun j hj => ?_, fun j hj => ?_, fun j => ?_⟩
  · rw [updN_ne _ _ (by omega)] at ht; rw [updN_ne _ _ (by omega), updN_ne _ _ (by omega)]; exact h.1 t ht
  · rw [updN_ne _ _ (by omega)] at hj; rw [updN_ne _ _ (by omega)]; exact h.2.1 j hj
  · rw [updN_ne v _ (show 21 + 5 * j + 4 ≠ 21 + 5 * i + 3 by omega)]
    refine ⟨?_, (h.2.2.1 j hj).2⟩
    unfold updN
    by_cases q : j = i
    · subst q; rw [if_pos rfl, if_pos rfl]
    · rw [if_neg q, if_neg (by omega)]; exact (h.2.2.1 j hj).1
  · have ej := h.2.2.2 j
    refine ⟨ej.1, ej.2.1, ej.2.2.1, ?_, ej.2.2.2.2⟩
    unfold updN; split
    · exact hx
    · exact ej.2.2.2.1
theorem spy_near {v pl nu ax le kn : Nat → Nat} {i : Nat} (h : sRel v pl nu ax le kn) (hi : i < v 1) : orB (spyF pl nu ax i) (v 0) = nearN v i := by
  unfold nearN
  apply Nat.eq_of_testBit_eq
  intro j
  rw [orB_bit, Nat.testBit_and, orB_bit]
  by_cases hj : j < v 0
  · have e := h.1 j hj
    have e2 := h.2.1 i hi
    have hb : (fullN v).testBit j = decide (0 < v (3 + 2 * j + 1)) := by
      unfold fullN; rw [orB_bit]; simp [hj]
    rw [hb]
    unfold spyF
    rw [e.1, e.2, e2]
    have hc : apartN (v (21 + 5 * i + 1)) (v (3 + 2 * j)) = apartN (v (3 + 2 * j)) (v (21 + 5 * i + 1)) := by unfold apartN; split <;> split <;> omega
    rw [hc]
    by_cases h1 : 0 < v (3 + 2 * j + 1) <;> by_cases h2 : apartN (v (3 + 2 * j)) (v (21 + 5 * i + 1)) < 3 <;> simp [hj, h1, h2] <;> omega
  · simp [hj]
theorem zm_dec {x : Nat} (hx : x < 128) : (if nI 0 < nI x - nI 1 then nI x - nI 1 else nI 0) = nI (x - 1) := by
  revert x; decide
