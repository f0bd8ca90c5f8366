/-! COMPONENT, rows: nest mates, statics, casts, arrays of references, copying, calls of other kinds -/
set_option maxRecDepth 100000
/-- words that aren't the tables' own, carried along -/
def cOK : Cond → Bool
  | .fieldLinkNest .. => true
  | .methodLinkNest .. => true
  | .castable .. => true
  | .declares .. => true
  | .publicMethod .. => true
  | .unhidden .. => true
  | .interfaceMethod a b _ _ => decide (a = b) && (b != "java/lang/invoke/MethodHandle" && b != "java/lang/invoke/VarHandle")
  | .landsInDefault .. => true
  | .methodLink .. => true
  | .sameMethod .. => true
  | .arrayOver _ => true
  | _ => false
theorem cOK_warm {w : Cond} (hk : cOK w = true) {s U : State} (hW : s.WarmedH U.vm) (h : va_Nw w s) : va_Nw w U := by
  have tr : ∀ {c : Cond}, c.onTables = true → c.before #[] (s.setVm U.vm) = true → c.before #[] U = true := by
    intro c hc h
    have e := Cond.onTables_vm (A := #[]) (A' := #[]) (U := s) (U' := U) U.vm c hc
    have hU : U.setVm U.vm = U := rfl
    rw [hU] at e
    rw [← e]
    exact h
  have hvm := hW.alike
  cases w
  case fieldLinkNest => exact va_Nw.warmF hW h
  case methodLinkNest => exact va_Nw.warmM hW h
  case castable => exact va_Nw.warmC hW h
  case declares => exact va_Nw.warmD hW h
  case publicMethod => exact tr rfl (by rw [Cond.publicMethod_setVm hvm]; exact h)
  case unhidden => exact tr rfl (by rw [Cond.unhidden_setVm hvm]; exact h)
  case interfaceMethod a b n d =>
    obtain ⟨cL, kL, r1, -, -, -, -, hn1⟩ := Cond.interfaceMethod_spec h
    have hx : a = b ∧ b ≠ "java/lang/invoke/MethodHandle" ∧ b ≠ "java/lang/invoke/VarHandle" := by simpa [cOK] using hk
    obtain ⟨rfl, hx⟩ := hx
    exact tr rfl (by rw [Cond.interfaceMethod_setVm hvm (r := r1) hn1 hx]; exact h)
  case landsInDefault C x y =>
    have h1 : (Cond.landsInDefault C x y).before #[] (s.setVm U.vm) = true := (Cond.landsInDefault_setVm hvm (State.methodFound?_setVm hvm _ _ _)).trans h
    exact h1
  case methodLink => exact word_at hW (Or.inl rfl) h
  case sameMethod => exact word_at hW (Or.inl rfl) h
  case arrayOver ty =>
    have h1 : (Cond.arrayOver ty).before #[] (s.setVm U.vm) = true := (Cond.arrayOver_setVmC hvm ty).trans h
    exact h1
  all_goals exact absurd hk Bool.false_ne_true
section ZR
variable {p : Program} {l : Launch} {e : Env} {R : Room} {s : State} {m : MethodId} {args : Array Value} {below : List Frame} {meth : Method} {c : Code} {H : Heap} {locs : List Loc} {cells slots : Nat} {Q : State → Prop}
variable {cc : ByteArray} {pc : Nat} {ls : Array Slot} {rest st0 : List Value} {G : zE} {ws wc : va_W} {own : String} {nL : Nat} {a : Nat}
/-- a nest mate's field is read -/
theorem z_getN {ci k idx : Nat} {ref n d host C : String} {T : u_T} {N : Nat} {fs : List Value} {v : Value} (hC : zCx G own cc nL p s m args meth c) (hc : zcl[ci]? = some (C, T, N)) (hin : ∀ w ∈ u_ws C T N, w ∈ lw_all) (hk : k < N) (e0 : (T k).1 = ref) (e1 : (T k).2.1 = n) (e2 : (T k).2.2.1 = d) (hl : va_Nw (.fieldLinkNest own idx ref n d host) s) (hw : zS G ws s H locs) (q0 : Nat) (he : ws[q0]? = some (a, zo ci fs)) (hv : fs[k]? = some v) (hdg : decode cc pc = .ok (.getfield idx, 3))
    (kk : W p l e R s m args below meth c H locs cells slots Q (F0 m (pc + 3) ls (v :: rest))) : W p l e R s m args below meth c H locs cells slots Q (F0 m pc ls (.ref a :: rest)) := by
  subst e0 e1 e2
  exact va_getN hC.hx hC.hb hC.hts hin hC.hown hC.hK hw.1 q0 he hc k hk (va_Nw.use rfl hl) (fun _ h => h) hv hdg kk
/-- a static is read -/
theorem z_gets {C n d : String} {idx : Nat} {v : Value} (hC : zCx G own cc nL p s m args meth c) (hZ : va_Z C n d v (zA G) s s.heap) (hw : zS G ws s H locs) (hl : Cond.fieldLink own idx C n d ∈ lw_all) (hdg : decode cc pc = .ok (.getstatic idx, 3))
    (kk : W p l e R s m args below meth c H locs cells slots Q (F0 m (pc + 3) ls (v :: rest))) : W p l e R s m args below meth c H locs cells slots Q (F0 m pc ls rest) :=
  va_gets hC.hx hC.hb hZ hw.2.2 hC.hown (hC.hts _ hl) (fun _ h => h) hdg kk
theorem z_getsN {C n d host : String} {idx : Nat} {v : Value} (hC : zCx G own cc nL p s m args meth c) (hZ : va_Z C n d v (zA G) s s.heap) (hw : zS G ws s H locs) (hl : va_Nw (.fieldLinkNest own idx C n d host) s) (hdg : decode cc pc = .ok (.getstatic idx, 3))
    (kk : W p l e R s m args below meth c H locs cells slots Q (F0 m (pc + 3) ls (v :: rest))) : W p l e R s m args below meth c H locs cells slots Q (F0 m pc ls rest) :=
  va_getsN hC.hx hC.hb hZ hw.2.2 hC.hown (va_Nw.use rfl hl) (fun _ h => h) hdg kk
/-! casts -/
theorem z_recv {ci : Nat} {fs : List Value} {r : vw_C} (hC : zCx G own cc nL p s m args meth c) (hw : zS G ws s H locs) (q0 : Nat) (he : ws[q0]? = some (a, zo ci fs)) (hc : zcl[ci]? = some r) : ∃ cell : Cell, H[a]? = some cell ∧ cell.vm.isStatics = false ∧ s.vm.findClass r.1 = some cell.cls := va_recv hC.hK hw.1 hc he
/-- a cast up (or to the class itself) of an object of class C -/
theorem z_castY {C nm : String} {idx : Nat} (hC : zCx G own cc nL p s m args meth c) (hl : Cond.classLink own idx nm ∈ lw_all) (hca : va_Nw (.castable C nm) s) (hr : ∃ cell : Cell, H[a]? = some cell ∧ cell.vm.isStatics = false ∧ s.vm.findClass C = some cell.cls) (hdg : decode cc pc = .ok (.checkcast idx, 3))
    (kk : W p l e R s m args below meth c H locs cells slots Q (F0 m (pc + 3) ls (.ref a :: rest))) : W p l e R s m args below meth c H locs cells slots Q (F0 m pc ls (.ref a :: rest)) :=
  va_castY hC.hx hC.hb hC.hown (hC.hts _ hl) hca hr hdg kk
theorem z_castE {nm : String} {idx : Nat} (hC : zCx G own cc nL p s m args meth c) (hl : Cond.classLink own idx nm ∈ lw_all) (hr : ∃ cell : Cell, H[a]? = some cell ∧ cell.vm.isStatics = false ∧ s.vm.findClass nm = some cell.cls) (hdg : decode cc pc = .ok (.checkcast idx, 3))
    (kk : W p l e R s m args below meth c H locs cells slots Q (F0 m (pc + 3) ls (.ref a :: rest))) : W p l e R s m args below meth c H locs cells slots Q (F0 m pc ls (.ref a :: rest)) :=
  va_castE hC.hx hC.hb hC.hown (hC.hts _ hl) hr hdg kk
theorem z_instE {nm : String} {idx : Nat} (hC : zCx G own cc nL p s m args meth c) (hl : Cond.classLink own idx nm ∈ lw_all) (hr : ∃ cell : Cell, H[a]? = some cell ∧ cell.vm.isStatics = false ∧ s.vm.findClass nm = some cell.cls) (hdg : decode cc pc = .ok (.instanceof idx, 3))
    (kk : W p l e R s m args below meth c H locs cells slots Q (F0 m (pc + 3) ls (.int 1 :: rest))) : W p l e R s m args below meth c H locs cells slots Q (F0 m pc ls (.ref a :: rest)) :=
  va_instE hC.hx hC.hb hC.hown (hC.hts _ hl) hr hdg kk
theorem z_instNo {C nm : String} {idx : Nat} (hC : zCx G own cc nL p s m args meth c) (hl : Cond.classLink own idx nm ∈ lw_all) (hca : va_Nc C nm s) (hr : ∃ cell : Cell, H[a]? = some cell ∧ cell.vm.isStatics = false ∧ s.vm.findClass C = some cell.cls) (hdg : decode cc pc = .ok (.instanceof idx, 3))
    (kk : W p l e R s m args below meth c H locs cells slots Q (F0 m (pc + 3) ls (.int 0 :: rest))) : W p l e R s m args below meth c H locs cells slots Q (F0 m pc ls (.ref a :: rest)) :=
  va_instNo hC.hx hC.hb hC.hown (hC.hts _ hl) hca hr hdg kk
/-! arrays of references -/
theorem z_any {ci : Nat} {fs : List Value} {r : vw_C} {E : String} (hC : zCx G own cc nL p s m args meth c) (hw : zS G ws s H locs) (q0 : Nat) (he : ws[q0]? = some (a, zo ci fs)) (hc : zcl[ci]? = some r) (hca : va_Nw (.castable r.1 E) s) : va_Any E s H a :=
  va_rAny hC.hK hw.1 he hc (vb_asgC hca)
theorem z_anyE {ci : Nat} {fs : List Value} {r : vw_C} (hC : zCx G own cc nL p s m args meth c) (hw : zS G ws s H locs) (q0 : Nat) (he : ws[q0]? = some (a, zo ci fs)) (hc : zcl[ci]? = some r) : va_Any r.1 s H a :=
  va_rAny hC.hK hw.1 he hc (fun comp c0 h1 h2 => by cases h1.symm.trans h2; exact va_asg _ _)
theorem z_aast {n i t v : Nat} {E : String} {f f' : Nat → Option Nat} (hC : zCx G own cc nL p s m args meth c) (hw : zS G ws s H locs) (q0 : Nat) (ha : ws[q0]? = some (a, zc G t (zO n f))) (ht : ∀ d, (zT d)[t]? = some (d t, .object E)) (hi : i < n) (hn : n < 2147483648) (hr : va_Any E s H v) (hx : va_up f i (some v) = f') (hdg : decode cc pc = .ok (.aastore, 1))
    (kk : ∀ (H1 : Heap) (locs1 : List Loc), zS G (ws.set q0 (a, zc G t (zO n f'))) s H1 locs1 → W p l e R s m args below meth c H1 locs1 cells slots Q (F0 m (pc + 1) ls rest)) : W p l e R s m args below meth c H locs cells slots Q (F0 m pc ls (.ref v :: .int (nI i) :: .ref a :: rest)) := by
  subst hx
  refine va_astqM hC.hx hC.hb hC.hK hw.1 hw.2.1 hw.2.2 q0 t ha (ht _) hr (z_cl hi hn) hdg (fun H1 locs1 a1 a2 a3 => kk H1 locs1 ?_)
  rw [nI_clamp (show i < 2 ^ 31 by omega)] at a1 a2
  exact ⟨a1, a2, a3⟩
theorem z_aastN {n i t : Nat} {E : String} {f f' : Nat → Option Nat} (hC : zCx G own cc nL p s m args meth c) (hw : zS G ws s H locs) (q0 : Nat) (ha : ws[q0]? = some (a, zc G t (zO n f))) (ht : ∀ d, (zT d)[t]? = some (d t, .object E)) (hi : i < n) (hn : n < 2147483648) (hx : va_up f i none = f') (hdg : decode cc pc = .ok (.aastore, 1))
    (kk : ∀ (H1 : Heap) (locs1 : List Loc), zS G (ws.set q0 (a, zc G t (zO n f'))) s H1 locs1 → W p l e R s m args below meth c H1 locs1 cells slots Q (F0 m (pc + 1) ls rest)) : W p l e R s m args below meth c H locs cells slots Q (F0 m pc ls (.null :: .int (nI i) :: .ref a :: rest)) := by
  subst hx
  refine va_astqN hC.hx hC.hb hC.hK hw.1 hw.2.1 hw.2.2 q0 t ha (ht _) (z_cl hi hn) hdg (fun H1 locs1 a1 a2 a3 => kk H1 locs1 ?_)
  rw [nI_clamp (show i < 2 ^ 31 by omega)] at a1 a2
  exact ⟨a1, a2, a3⟩
theorem z_anew {t n idx : Nat} {C : String} (hC : zCx G own cc nL p s m args meth c) (hl : Cond.classLink own idx C ∈ lw_all) (ho : va_AO C s) (ht : ∀ d, (zT d)[t]? = some (d t, .object C)) (hw : zS G ws s H locs) (hn : n < 65536) (hcells : cells + 1 ≤ R.cells) (hslots : slots + n ≤ R.slots) (hdg : decode cc pc = .ok (.anewarray idx, 3))
    (kk : ∀ (q : Nat) (H1 : Heap), zS G ((q, zc G t (zO n (fun _ => none))) :: ws) s H1 locs → W p l e R s m args below meth c H1 locs (cells + 1) (slots + n) Q (F0 m (pc + 3) ls (.ref q :: rest))) : W p l e R s m args below meth c H locs cells slots Q (F0 m pc ls (.int (nI n) :: rest)) := by
  refine va_newq hC.hx hC.hb hC.hown (hC.hts _ hl) ho hC.hK hw.1 hw.2.1 hw.2.2 (zA_ge hC.hN.1) (nI_pos (by omega)) (nI_clamp (by omega)) (by omega) hcells hslots hdg (fun q cA H1 a0 a1 a2 a3 => ?_)
  have e1 := (a0.2 (zT G.2.1).length (cA, .object C) (by rw [List.getElem?_append_right (Nat.le_refl _), Nat.sub_self]; rfl)).2
  have e2 := (hC.hK.2 t _ (ht G.2.1)).2
  obtain ⟨_, _, _, _, _, f1⟩ := e1
  obtain ⟨_, _, _, _, _, f2⟩ := e2
  cases f1.symm.trans f2
  exact kk q H1 (z_push a1 a2 a3)
end ZR
