/-! truth values as ints; rows that the walker names -/
set_option maxRecDepth 100000
noncomputable def bI (P : Prop) : Int32 := @ite _ P (Classical.propDecidable P) (nI 1) (nI 0)
theorem bI_t {P : Prop} (h : P) : bI P = nI 1 := by unfold bI; exact if_pos h
theorem bI_f {P : Prop} (h : ¬ P) : bI P = nI 0 := by unfold bI; exact if_neg h
theorem bI_nar (P : Prop) : narrow .boolean (.int (bI P)) = .int (bI P) := by
  rcases Classical.em P with h | h
  · rw [bI_t h]; rfl
  · rw [bI_f h]; rfl
theorem bI_iff {P Q : Prop} (h : P ↔ Q) : bI P = bI Q := by rw [propext h]
theorem zincn (a n : Nat) : nI a + Int32.ofInt n = nI (a + n) := by
  rw [← nI_add]; congr 1
theorem zdec1 {a : Nat} (h : 0 < a) : nI a + Int32.ofInt (-1) = nI (a - 1) := by
  obtain ⟨b, rfl⟩ : ∃ b, a = b + 1 := ⟨a - 1, by omega⟩
  exact pk_m1 b
theorem nI_and (a b : Nat) : nI a &&& nI b = nI (a &&& b) := by
  apply Int32.toBitVec_inj.mp
  simp [nI]
theorem nI_shr {a k : Nat} (ha : a < 2147483648) (hk : k < 31) : nI a >>> (nI k &&& 31) = nI (a / 2 ^ k) := by
  have h2 : ∀ j, j < 31 → (((nI j &&& 31) : Int32).toBitVec.smod 32).toNat = j := by decide +kernel
  exact pk_shrN ha _ k (h2 k hk)
theorem nI_inj8 : ∀ k, k < 128 → (nI k).toInt8.toInt32 = nI k := by decide +kernel
theorem zi2b {k : Nat} (h : k < 128) : (nI k).toInt8.toInt32 = nI k := nI_inj8 k h
theorem znbyte {k : Nat} (h : k < 128) : vp_nar .byte (nI k) = nI k := by rw [vp_nar_byte]; exact nI_inj8 k h
theorem znboolean {k : Nat} (h : k < 2) : vp_nar .boolean (nI k) = nI k := by
  rcases (show k = 0 ∨ k = 1 by omega) with rfl | rfl <;> decide
theorem zi2s {k : Nat} (h : k < 32768) : (nI k).toInt16.toInt32 = nI k := by
  have h1 : (nI k).toInt16.toInt32.toInt = (nI k).toInt := by
    rw [Int16.toInt_toInt32, Int32.toInt_toInt16, nI_toInt (by omega)]
    rw [Int.bmod_def]
    omega
  exact Int32.toInt_inj.mp h1
theorem znshort {k : Nat} (h : k < 32768) : vp_nar .short (nI k) = nI k := by rw [vp_nar_short]; exact zi2s h
def optI (o : Option Nat) : Int32 := match o with
  | none => -1
  | some b => nI b
section ZQ
variable {p : Program} {l : Launch} {e : Env} {R : Room} {s : State} {m : MethodId} {args : Array Value} {below : List Frame} {meth : Method} {c : Code} {H : Heap} {locs : List Loc} {cells slots : Nat} {Q : State → Prop}
variable {cc : ByteArray} {pc : Nat} {ls : Array Slot} {rest : List Value}
theorem zb_eq {P : Prop} (hx : p.tables.exec = Jvm.exec) (hb : c.code = cc) {off : Int} {tgt : Nat} (hdg : decode cc pc = .ok (.ifCond .eq off, 3)) (ht : (pc : Int) + off = (tgt : Int)) (kt : ¬ P → W p l e R s m args below meth c H locs cells slots Q (F0 m tgt ls rest)) (kf : P → W p l e R s m args below meth c H locs cells slots Q (F0 m (pc + 3) ls rest)) : W p l e R s m args below meth c H locs cells slots Q (F0 m pc ls (.int (bI P) :: rest)) :=
  lv_if_eq hx hb hdg ht (fun h => kt (fun q => absurd h (by rw [bI_t q]; decide))) (fun h => kf (Classical.byContradiction (fun q => h (by rw [bI_f q]; decide))))
theorem zb_ne {P : Prop} (hx : p.tables.exec = Jvm.exec) (hb : c.code = cc) {off : Int} {tgt : Nat} (hdg : decode cc pc = .ok (.ifCond .ne off, 3)) (ht : (pc : Int) + off = (tgt : Int)) (kt : P → W p l e R s m args below meth c H locs cells slots Q (F0 m tgt ls rest)) (kf : ¬ P → W p l e R s m args below meth c H locs cells slots Q (F0 m (pc + 3) ls rest)) : W p l e R s m args below meth c H locs cells slots Q (F0 m pc ls (.int (bI P) :: rest)) :=
  lv_if_ne hx hb hdg ht (fun h => kt (Classical.byContradiction (fun q => h (by rw [bI_f q]; decide)))) (fun h => kf (fun q => absurd ((bI_t q).symm.trans h) (by decide)))
theorem z_aload_nQ {k : Fin 4} {i : Nat} {x : Option Nat} (hx : p.tables.exec = Jvm.exec) (hb : c.code = cc) (hdg : decode cc pc = .ok (.aload_n k, 1)) (hi : (k : Nat) = i) (hl : ls[i]? = some (.val (va_rf x))) (kk : W p l e R s m args below meth c H locs cells slots Q (F0 m (pc + 1) ls (va_rf x :: rest))) : W p l e R s m args below meth c H locs cells slots Q (F0 m pc ls rest) := by
  cases x with
  | none => exact lv_aload_nN hx hb hdg hi hl kk
  | some a => exact lv_aload_n hx hb hdg hi hl kk
theorem z_aloadQ {i : Nat} {x : Option Nat} (hx : p.tables.exec = Jvm.exec) (hb : c.code = cc) (hdg : decode cc pc = .ok (.aload i, 2)) (hl : ls[i]? = some (.val (va_rf x))) (kk : W p l e R s m args below meth c H locs cells slots Q (F0 m (pc + 2) ls (va_rf x :: rest))) : W p l e R s m args below meth c H locs cells slots Q (F0 m pc ls rest) := by
  cases x with
  | none => exact lv_aloadN hx hb hdg hl kk
  | some a => exact lv_aload hx hb hdg hl kk
theorem z_astore_nQ {k : Fin 4} {i nL : Nat} {x : Option Nat} {lv lv' : List (Nat × Value)} (hx : p.tables.exec = Jvm.exec) (hb : c.code = cc) (hdg : decode cc pc = .ok (.astore_n k, 1)) (hi : (k : Nat) = i) (h : lv_has ls nL lv) (hn : i < nL) (hl : (i, va_rf x) :: lv.filter (fun q => !(q.1 == i) && !(q.1 + 1 == i && q.2.category == 2)) = lv') (kk : ∀ ls' : Array Slot, lv_has ls' nL lv' → W p l e R s m args below meth c H locs cells slots Q (F0 m (pc + 1) ls' rest)) : W p l e R s m args below meth c H locs cells slots Q (F0 m pc ls (va_rf x :: rest)) := by
  cases x with
  | none => exact lv_astore_nN hx hb hdg hi h hn hl kk
  | some a => exact lv_astore_n hx hb hdg hi h hn hl kk
theorem z_astoreQ {i nL : Nat} {x : Option Nat} {lv lv' : List (Nat × Value)} (hx : p.tables.exec = Jvm.exec) (hb : c.code = cc) (hdg : decode cc pc = .ok (.astore i, 2)) (h : lv_has ls nL lv) (hn : i < nL) (hl : (i, va_rf x) :: lv.filter (fun q => !(q.1 == i) && !(q.1 + 1 == i && q.2.category == 2)) = lv') (kk : ∀ ls' : Array Slot, lv_has ls' nL lv' → W p l e R s m args below meth c H locs cells slots Q (F0 m (pc + 2) ls' rest)) : W p l e R s m args below meth c H locs cells slots Q (F0 m pc ls (va_rf x :: rest)) := by
  cases x with
  | none => exact lv_astoreN hx hb hdg h hn hl kk
  | some a => exact lv_astore hx hb hdg h hn hl kk
end ZQ
/-! contents by what they are below their length -/
theorem z_arrV {cA : ClassId} {n : Nat} {f g : Nat → Value} (h : ∀ j, j < n → f j = g j) : arrV cA n f = arrV cA n g := by
  unfold arrV
  have e : (fun j : Fin n => f j.val) = fun j : Fin n => g j.val := funext fun j => h j.val j.isLt
  rw [e]
theorem z_cellI {D : va_G} {cl : List vw_C} {a n : Nat} {cA : ClassId} {f g : Nat → Int32} {H : Heap} (h : ∀ j, j < n → f j = g j) (h1 : va_at D cl (a, .inl (cA, n, .inl f)) H) : va_at D cl (a, .inl (cA, n, .inl g)) H := by
  have h2 : H[a]? = some (vp_cell cA (n, .inl f)) := h1
  show H[a]? = some (vp_cell cA (n, .inl g))
  rw [h2, vp_cell_i, vp_cell_i, z_arrV (fun j hj => by rw [h j hj])]
theorem z_cellO {D : va_G} {cl : List vw_C} {a n : Nat} {cA : ClassId} {f g : Nat → Option Nat} {H : Heap} (h : ∀ j, j < n → f j = g j) (h1 : va_at D cl (a, .inl (cA, zO n f)) H) : va_at D cl (a, .inl (cA, zO n g)) H := by
  have h2 : H[a]? = some (vp_cell cA (zO n f)) := h1
  show H[a]? = some (vp_cell cA (zO n g))
  rw [h2, vp_cell_q, vp_cell_q, z_arrV (fun j hj => by rw [h j hj])]
theorem zP_set {D : va_G} {cl : List vw_C} {ws : va_W} {H : Heap} {k a : Nat} {e e' : va_E} (h : va_P D cl ws H) (hk : ws[k]? = some (a, e)) (he : va_at D cl (a, e') H) : va_P D cl (ws.set k (a, e')) H := by
  have hl := (List.getElem?_eq_some_iff.mp hk).1
  intro j q hj
  by_cases hkj : j = k
  · subst hkj
    rw [List.getElem?_set_self hl] at hj
    cases hj
    exact he
  · rw [List.getElem?_set_ne (Ne.symm hkj)] at hj
    exact h j q hj
theorem zS.cellI {G : zE} {ws : va_W} {s : State} {H : Heap} {locs : List Loc} {a n t : Nat} {f g : Nat → Int32} (h : zS G ws s H locs) (k : Nat) (hk : ws[k]? = some (a, zc G t (zI n f))) (hf : ∀ j, j < n → f j = g j) : zS G (ws.set k (a, zc G t (zI n g))) s H locs :=
  ⟨zP_set h.1 hk (z_cellI hf (h.1 k _ hk)), h.2.1.set hk, h.2.2⟩
theorem zS.cellO {G : zE} {ws : va_W} {s : State} {H : Heap} {locs : List Loc} {a n t : Nat} {f g : Nat → Option Nat} (h : zS G ws s H locs) (k : Nat) (hk : ws[k]? = some (a, zc G t (zO n f))) (hf : ∀ j, j < n → f j = g j) : zS G (ws.set k (a, zc G t (zO n g))) s H locs :=
  ⟨zP_set h.1 hk (z_cellO hf (h.1 k _ hk)), h.2.1.set hk, h.2.2⟩
