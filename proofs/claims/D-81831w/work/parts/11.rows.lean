/-! ROWS over the one world -/
set_option maxRecDepth 100000
/-- a field, by its class's place, its own place, its link -/
def zFl (ci k : Nat) (own : String) (idx : Nat) (fin : Bool) (ty : FieldType) : Prop := ∃ (C : String) (T : u_T) (N : Nat) (tyf : Nat → FieldType), zcl[ci]? = some (C, T, N) ∧ k < N ∧ (∀ w ∈ u_ws C T N, w ∈ lw_all) ∧ Cond.fieldLink own idx (T k).1 (T k).2.1 (T k).2.2.1 ∈ lw_all ∧ (T k).2.2.2 = fin ∧ parseFieldDescriptor (T k).2.2.1 = some ty ∧ (∀ j, j < N → parseFieldDescriptor (T j).2.2.1 = some (tyf j)) ∧ ∀ a, a < N → ∀ b, b < N → a ≠ b → (T a).2.1 ≠ (T b).2.1
abbrev zO (n : Nat) (f : Nat → Option Nat) : vp_A := (n, .inr (.inr (.inr (.inr f))))
abbrev zI (n : Nat) (f : Nat → Int32) : vp_A := (n, .inl f)
/-- an array's cell: its class by its place in zT -/
abbrev zc (G : zE) (t : Nat) (x : vp_A) : va_E := .inl (G.2.1 t, x)
abbrev zo (ci : Nat) (fs : List Value) : va_E := .inr (ci, fs)
theorem z_cl {i N : Nat} (h : i < N) (hN : N < 2147483648) : vp_in (nI i) N := vp_in_nI h hN
section ZR
variable {p : Program} {l : Launch} {e : Env} {R : Room} {s : State} {m : MethodId} {args : Array Value} {below : List Frame} {meth : Method} {c : Code} {H : Heap} {locs : List Loc} {cells slots : Nat} {Q : State → Prop}
variable {cc : ByteArray} {pc : Nat} {ls : Array Slot} {rest : List Value} {G : zE} {ws : va_W} {own : String} {nL : Nat} {a : Nat}
theorem z_get {ci k idx : Nat} {fin : Bool} {ty : FieldType} {fs : List Value} {v : Value} (hC : zCx G own cc nL p s m args meth c) (hF : zFl ci k own idx fin ty) (hw : zS G ws s H locs) (q0 : Nat) (he : ws[q0]? = some (a, zo ci fs)) (hv : fs[k]? = some v) (hdg : decode cc pc = .ok (.getfield idx, 3))
    (kk : W p l e R s m args below meth c H locs cells slots Q (F0 m (pc + 3) ls (v :: rest))) : W p l e R s m args below meth c H locs cells slots Q (F0 m pc ls (.ref a :: rest)) := by
  obtain ⟨C, T, N, tyf, h1, h2, h3, h4, h5, h6, h7, h8⟩ := hF
  exact va_get hC.hx hC.hb hC.hts h3 hC.hown hC.hK hw.1 q0 he h1 k h2 (hC.hts _ h4) (fun _ h => h) hv hdg kk
theorem z_put {ci k idx : Nat} {ty : FieldType} {fs : List Value} {v : Value} (hC : zCx G own cc nL p s m args meth c) (hF : zFl ci k own idx false ty) (hw : zS G ws s H locs) (q0 : Nat) (he : ws[q0]? = some (a, zo ci fs)) (hn : narrow ty v = v) (hfit : fits ty v = true) (hl : k < fs.length) (hdg : decode cc pc = .ok (.putfield idx, 3))
    (kk : ∀ (H1 : Heap) (locs1 : List Loc), zS G (ws.set q0 (a, zo ci (fs.set k v))) s H1 locs1 → W p l e R s m args below meth c H1 locs1 cells slots Q (F0 m (pc + 3) ls rest)) : W p l e R s m args below meth c H locs cells slots Q (F0 m pc ls (v :: .ref a :: rest)) := by
  obtain ⟨C, T, N, tyf, h1, h2, h3, h4, h5, h6, h7, h8⟩ := hF
  exact va_put hC.hx hC.hb hC.hts h3 tyf h7 h8 hC.hown hC.hK hw.1 hw.2.1 hw.2.2 q0 he h1 k h2 (hC.hts _ h4) (fun _ h => h) h5 h6 hn hfit hl hdg (fun H1 locs1 a1 a2 a3 => kk H1 locs1 ⟨a1, a2, a3⟩)
theorem z_puti {ci k idx : Nat} {fs : List Value} {x : Int32} (hC : zCx G own cc nL p s m args meth c) (hF : zFl ci k own idx false .int) (hw : zS G ws s H locs) (q0 : Nat) (he : ws[q0]? = some (a, zo ci fs)) (hl : k < fs.length) (hdg : decode cc pc = .ok (.putfield idx, 3))
    (kk : ∀ (H1 : Heap) (locs1 : List Loc), zS G (ws.set q0 (a, zo ci (fs.set k (.int x)))) s H1 locs1 → W p l e R s m args below meth c H1 locs1 cells slots Q (F0 m (pc + 3) ls rest)) : W p l e R s m args below meth c H locs cells slots Q (F0 m pc ls (.int x :: .ref a :: rest)) := z_put hC hF hw q0 he rfl rfl hl hdg kk
theorem z_putF {ci k idx : Nat} {ty : FieldType} {fs : List Value} {v : Value} (hC : zCx G own cc nL p s m args meth c) (hF : zFl ci k own idx true ty) (hown : ∃ q, zcl[ci]? = some q ∧ (q.2.1 k).1 = own) (hin : meth.name = "<init>") (hw : zS G ws s H locs) (q0 : Nat) (he : ws[q0]? = some (a, zo ci fs)) (hn : narrow ty v = v) (hfit : fits ty v = true) (hl : k < fs.length) (hdg : decode cc pc = .ok (.putfield idx, 3))
    (kk : ∀ (H1 : Heap) (locs1 : List Loc), zS G (ws.set q0 (a, zo ci (fs.set k v))) s H1 locs1 → W p l e R s m args below meth c H1 locs1 cells slots Q (F0 m (pc + 3) ls rest)) : W p l e R s m args below meth c H locs cells slots Q (F0 m pc ls (v :: .ref a :: rest)) := by
  obtain ⟨C, T, N, tyf, h1, h2, h3, h4, h5, h6, h7, h8⟩ := hF
  obtain ⟨q, h9, h10⟩ := hown
  have e : q = (C, T, N) := Option.some.inj (h9.symm.trans h1)
  subst e
  exact va_putF hC.hx hC.hb hC.hts h3 tyf h7 h8 hC.hown hC.hK hw.1 hw.2.1 hw.2.2 q0 he h1 k h2 (hC.hts _ h4) (fun _ h => h) h5 hin h10 h6 hn hfit hl hdg (fun H1 locs1 a1 a2 a3 => kk H1 locs1 ⟨a1, a2, a3⟩)
theorem z_iald {n i : Nat} {f : Nat → Int32} {x : Int32} (hC : zCx G own cc nL p s m args meth c) (hw : zS G ws s H locs) (q0 : Nat) (ha : ws[q0]? = some (a, zc G 0 (zI n f))) (hi : i < n) (hn : n < 2147483648) (hx : f i = x) (hdg : decode cc pc = .ok (.iaload, 1))
    (kk : W p l e R s m args below meth c H locs cells slots Q (F0 m (pc + 1) ls (.int x :: rest))) : W p l e R s m args below meth c H locs cells slots Q (F0 m pc ls (.int (nI i) :: .ref a :: rest)) := by
  refine va_iald hC.hx hC.hb hC.hK hw.1 q0 0 ha rfl (z_cl hi hn) hdg ?_
  rw [nI_clamp (by omega), hx]; exact kk
theorem z_bald {n i : Nat} {f : Nat → Int32} {x : Int32} (hC : zCx G own cc nL p s m args meth c) (hw : zS G ws s H locs) (q0 : Nat) (ha : ws[q0]? = some (a, zc G 1 (zI n f))) (hi : i < n) (hn : n < 2147483648) (hx : f i = x) (hdg : decode cc pc = .ok (.baload, 1))
    (kk : W p l e R s m args below meth c H locs cells slots Q (F0 m (pc + 1) ls (.int x :: rest))) : W p l e R s m args below meth c H locs cells slots Q (F0 m pc ls (.int (nI i) :: .ref a :: rest)) := by
  refine va_bald hC.hx hC.hb hC.hK hw.1 q0 1 ha rfl (z_cl hi hn) hdg ?_
  rw [nI_clamp (by omega), hx]; exact kk
theorem z_sald {n i : Nat} {f : Nat → Int32} {x : Int32} (hC : zCx G own cc nL p s m args meth c) (hw : zS G ws s H locs) (q0 : Nat) (ha : ws[q0]? = some (a, zc G 2 (zI n f))) (hi : i < n) (hn : n < 2147483648) (hx : f i = x) (hdg : decode cc pc = .ok (.saload, 1))
    (kk : W p l e R s m args below meth c H locs cells slots Q (F0 m (pc + 1) ls (.int x :: rest))) : W p l e R s m args below meth c H locs cells slots Q (F0 m pc ls (.int (nI i) :: .ref a :: rest)) := by
  refine va_sald hC.hx hC.hb hC.hK hw.1 q0 2 ha rfl (z_cl hi hn) hdg ?_
  rw [nI_clamp (by omega), hx]; exact kk
theorem z_zald {n i : Nat} {f : Nat → Int32} {x : Int32} (hC : zCx G own cc nL p s m args meth c) (hw : zS G ws s H locs) (q0 : Nat) (ha : ws[q0]? = some (a, zc G 3 (zI n f))) (hi : i < n) (hn : n < 2147483648) (hx : f i = x) (hdg : decode cc pc = .ok (.baload, 1))
    (kk : W p l e R s m args below meth c H locs cells slots Q (F0 m (pc + 1) ls (.int x :: rest))) : W p l e R s m args below meth c H locs cells slots Q (F0 m pc ls (.int (nI i) :: .ref a :: rest)) := by
  refine va_zald hC.hx hC.hb hC.hK hw.1 q0 3 ha rfl (z_cl hi hn) hdg ?_
  rw [nI_clamp (by omega), hx]; exact kk
theorem z_aald {n i t : Nat} {C : String} {f : Nat → Option Nat} {x : Value} (hC : zCx G own cc nL p s m args meth c) (hw : zS G ws s H locs) (q0 : Nat) (ha : ws[q0]? = some (a, zc G t (zO n f))) (ht : ∀ d, (zT d)[t]? = some (d t, .object C)) (hi : i < n) (hn : n < 2147483648) (hx : va_rf (f i) = x) (hdg : decode cc pc = .ok (.aaload, 1))
    (kk : W p l e R s m args below meth c H locs cells slots Q (F0 m (pc + 1) ls (x :: rest))) : W p l e R s m args below meth c H locs cells slots Q (F0 m pc ls (.int (nI i) :: .ref a :: rest)) := by
  refine va_aldq hC.hx hC.hb hC.hK hw.1 q0 t ha (ht _) (z_cl hi hn) hdg ?_
  rw [nI_clamp (by omega), hx]; exact kk
theorem z_iast {n i : Nat} {f f' : Nat → Int32} {x : Int32} (hC : zCx G own cc nL p s m args meth c) (hw : zS G ws s H locs) (q0 : Nat) (ha : ws[q0]? = some (a, zc G 0 (zI n f))) (hi : i < n) (hn : n < 2147483648) (hx : upd f i x = f') (hdg : decode cc pc = .ok (.iastore, 1))
    (kk : ∀ (H1 : Heap) (locs1 : List Loc), zS G (ws.set q0 (a, zc G 0 (zI n f'))) s H1 locs1 → W p l e R s m args below meth c H1 locs1 cells slots Q (F0 m (pc + 1) ls rest)) : W p l e R s m args below meth c H locs cells slots Q (F0 m pc ls (.int x :: .int (nI i) :: .ref a :: rest)) := by
  refine va_iast hC.hx hC.hb hC.hK hw.1 hw.2.1 hw.2.2 q0 0 ha rfl (z_cl hi hn) hdg (fun H1 locs1 a1 a2 a3 => ?_)
  rw [nI_clamp (by omega)] at a1 a2
  subst hx
  exact kk H1 locs1 ⟨a1, a2, a3⟩
theorem z_bast {n i : Nat} {f f' : Nat → Int32} {x : Int32} (hC : zCx G own cc nL p s m args meth c) (hw : zS G ws s H locs) (q0 : Nat) (ha : ws[q0]? = some (a, zc G 1 (zI n f))) (hi : i < n) (hn : n < 2147483648) (hx : upd f i (vp_nar .byte x) = f') (hdg : decode cc pc = .ok (.bastore, 1))
    (kk : ∀ (H1 : Heap) (locs1 : List Loc), zS G (ws.set q0 (a, zc G 1 (zI n f'))) s H1 locs1 → W p l e R s m args below meth c H1 locs1 cells slots Q (F0 m (pc + 1) ls rest)) : W p l e R s m args below meth c H locs cells slots Q (F0 m pc ls (.int x :: .int (nI i) :: .ref a :: rest)) := by
  refine va_bast hC.hx hC.hb hC.hK hw.1 hw.2.1 hw.2.2 q0 1 ha rfl (z_cl hi hn) hdg (fun H1 locs1 a1 a2 a3 => ?_)
  rw [nI_clamp (by omega)] at a1 a2
  subst hx
  exact kk H1 locs1 ⟨a1, a2, a3⟩
theorem z_sast {n i : Nat} {f f' : Nat → Int32} {x : Int32} (hC : zCx G own cc nL p s m args meth c) (hw : zS G ws s H locs) (q0 : Nat) (ha : ws[q0]? = some (a, zc G 2 (zI n f))) (hi : i < n) (hn : n < 2147483648) (hx : upd f i (vp_nar .short x) = f') (hdg : decode cc pc = .ok (.sastore, 1))
    (kk : ∀ (H1 : Heap) (locs1 : List Loc), zS G (ws.set q0 (a, zc G 2 (zI n f'))) s H1 locs1 → W p l e R s m args below meth c H1 locs1 cells slots Q (F0 m (pc + 1) ls rest)) : W p l e R s m args below meth c H locs cells slots Q (F0 m pc ls (.int x :: .int (nI i) :: .ref a :: rest)) := by
  refine va_sast hC.hx hC.hb hC.hK hw.1 hw.2.1 hw.2.2 q0 2 ha rfl (z_cl hi hn) hdg (fun H1 locs1 a1 a2 a3 => ?_)
  rw [nI_clamp (by omega)] at a1 a2
  subst hx
  exact kk H1 locs1 ⟨a1, a2, a3⟩
theorem z_zast {n i : Nat} {f f' : Nat → Int32} {x : Int32} (hC : zCx G own cc nL p s m args meth c) (hw : zS G ws s H locs) (q0 : Nat) (ha : ws[q0]? = some (a, zc G 3 (zI n f))) (hi : i < n) (hn : n < 2147483648) (hx : upd f i (vp_nar .boolean x) = f') (hdg : decode cc pc = .ok (.bastore, 1))
    (kk : ∀ (H1 : Heap) (locs1 : List Loc), zS G (ws.set q0 (a, zc G 3 (zI n f'))) s H1 locs1 → W p l e R s m args below meth c H1 locs1 cells slots Q (F0 m (pc + 1) ls rest)) : W p l e R s m args below meth c H locs cells slots Q (F0 m pc ls (.int x :: .int (nI i) :: .ref a :: rest)) := by
  refine va_zast hC.hx hC.hb hC.hK hw.1 hw.2.1 hw.2.2 q0 3 ha rfl (z_cl hi hn) hdg (fun H1 locs1 a1 a2 a3 => ?_)
  rw [nI_clamp (by omega)] at a1 a2
  subst hx
  exact kk H1 locs1 ⟨a1, a2, a3⟩
theorem z_alen {t : Nat} {x : vp_A} {ty : FieldType} (hC : zCx G own cc nL p s m args meth c) (hw : zS G ws s H locs) (q0 : Nat) (ha : ws[q0]? = some (a, zc G t x)) (ht : ∀ d, (zT d)[t]? = some (d t, ty)) (hdg : decode cc pc = .ok (.arraylength, 1))
    (kk : W p l e R s m args below meth c H locs cells slots Q (F0 m (pc + 1) ls (.int (nI x.1) :: rest))) : W p l e R s m args below meth c H locs cells slots Q (F0 m pc ls (.ref a :: rest)) :=
  va_alen (v := nI x.1) hC.hx hC.hb hC.hK hw.1 q0 t ha (ht _) rfl hdg kk
/-- a cell that is made: ahead of the others -/
theorem z_push {q : Nat} {x : va_E} {H1 : Heap} {locs1 : List Loc} (h1 : va_P G.1 zcl (ws ++ [(q, x)]) H1) (h2 : va_D (zA G) (ws ++ [(q, x)])) (h3 : va_S (zA G) s.heap H1 locs1) : zS G ((q, x) :: ws) s H1 locs1 :=
  zS.perm ⟨h1, h2, h3⟩ List.perm_append_comm
theorem z_newa {t : Nat} {atype : ArrayType} {n : Nat} {a0 : vp_A} (hC : zCx G own cc nL p s m args meth c) (harr : (Cond.arrayClass (newarray.typeOf atype)).before args s = true) (ht : ∀ d, (zT d)[t]? = some (d t, newarray.typeOf atype)) (hw : zS G ws s H locs) (ha : ∀ cA : ClassId, vp_cell cA a0 = arrV cA n (fun _ => defaultValue (newarray.typeOf atype))) (hn : n < 65536) (hb8 : componentBytes (newarray.typeOf atype) ≤ 8) (hcells : cells + 1 ≤ R.cells) (hslots : slots + n ≤ R.slots) (hdg : decode cc pc = .ok (.newarray atype, 2))
    (kk : ∀ (q : Nat) (H1 : Heap), zS G ((q, zc G t a0) :: ws) s H1 locs → W p l e R s m args below meth c H1 locs (cells + 1) (slots + n) Q (F0 m (pc + 2) ls (.ref q :: rest))) : W p l e R s m args below meth c H locs cells slots Q (F0 m pc ls (.int (nI n) :: rest)) := by
  obtain ⟨hP, hD, hS⟩ := hw
  refine va_newaK hC.hx hC.hb harr rfl hdg rfl (nI_pos (by omega)) (nI_clamp (by omega)) (Nat.le_trans (Nat.mul_le_mul (Nat.le_of_lt hn) hb8) (by decide)) hcells hslots rfl fun H1 cA e1 z1 o1 hAr hNm => ?_
  have hk : ∀ (k : Nat) (x : Nat × va_E), ws[k]? = some x → H1[x.1]? = H[x.1]? := fun k x hx => o1 x.1 ((hP k x hx).lt)
  have hcA : cA = G.2.1 t := by
    have h2 := (hC.hK.2 t _ (ht G.2.1)).2
    have h3 : s.vm.findClass ("[" ++ (newarray.typeOf atype).toString) = some (G.2.1 t) := by cases atype <;> exact h2
    exact Option.some.inj (hNm.symm.trans h3)
  subst hcA
  refine kk H.size H1 (z_push ((hP.kept hk).app (fun k x hx => ?_)) (hD.push hP rfl (zA_ge hC.hN.1 _ hS.1)) ⟨Nat.le_trans hS.1 (by omega), fun x h1 h2 => (o1 x (Nat.lt_of_lt_of_le h1 hS.1)).trans (hS.2.1 x h1 h2), hS.2.2⟩)
  have hz : k < 1 := (List.getElem?_eq_some_iff.mp hx).1
  rw [show k = 0 by omega] at hx
  cases hx
  show H1[H.size]? = some (vp_cell _ _)
  rw [ha]
  exact e1
theorem z_new {ci index : Nat} {C : String} {T : u_T} {N : Nat} {tyf : Nat → FieldType} {fs : List Value} (hC : zCx G own cc nL p s m args meth c) (hc : zcl[ci]? = some (C, T, N)) (hin : ∀ w ∈ u_ws C T N, w ∈ lw_all) (hty : ∀ k, k < N → parseFieldDescriptor (T k).2.2.1 = some (tyf k)) (hcl : Cond.classLink own index C ∈ lw_all) (hinst : Cond.instantiable C N ∈ lw_all) (hini : Cond.initialized C ∈ lw_all) (hw : zS G ws s H locs) (hfs : ∀ j, j < N → defaultValue (tyf j) = vp_V fs j) (hcells : cells + 1 ≤ R.cells) (hslots : slots + N ≤ R.slots) (hdg : decode cc pc = .ok (.new index, 3))
    (kk : ∀ (q : Nat) (H1 : Heap), zS G ((q, zo ci fs) :: ws) s H1 locs → W p l e R s m args below meth c H1 locs (cells + 1) (slots + N) Q (F0 m (pc + 3) ls (.ref q :: rest))) : W p l e R s m args below meth c H locs cells slots Q (F0 m pc ls rest) :=
  va_new hC.hx hC.hb hC.hts hin tyf hty hC.hown (hC.hts _ hcl) (hC.hts _ hinst) (hC.hts _ hini) hC.hK hw.1 hw.2.1 hw.2.2 (zA_ge hC.hN.1) hc hfs hcells hslots hdg (fun q H1 a1 a2 a3 => kk q H1 (z_push a1 a2 a3))
end ZR
