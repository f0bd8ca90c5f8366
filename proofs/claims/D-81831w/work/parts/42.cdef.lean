/-! COMPONENT, rows: calls that land in an interface's default method -/
set_option maxRecDepth 100000
/-- of more values than there are, two are alike -/
theorem pg_two : ∀ (n : Nat) (f : Nat → Nat), (∀ i, i ≤ n → f i < n) → ∃ i j, i < j ∧ j ≤ n ∧ f i = f j
  | 0, f, h => absurd (h 0 (Nat.le_refl 0)) (Nat.not_lt_zero _)
  | n + 1, f, h => by
    by_cases hx : ∃ i, i < n + 1 ∧ f i = f (n + 1)
    · obtain ⟨i, h1, h2⟩ := hx
      exact ⟨i, n + 1, h1, Nat.le_refl _, h2⟩
    · have hne : ∀ i, i < n + 1 → f i ≠ f (n + 1) := fun i hi e => hx ⟨i, hi, e⟩
      obtain ⟨i, j, h1, h2, h3⟩ := pg_two n (fun i => if f i = n then f (n + 1) else f i) (fun i hi => by
        have a := h i (by omega)
        have b := h (n + 1) (Nat.le_refl _)
        have c := hne i (by omega)
        show (if f i = n then f (n + 1) else f i) < n
        split
        · next e => rw [e] at c; omega
        · omega)
      refine ⟨i, j, h1, by omega, ?_⟩
      have ci := hne i (by omega)
      have cj := hne j (by omega)
      have h4 : (if f i = n then f (n + 1) else f i) = (if f j = n then f (n + 1) else f j) := h3
      split at h4
      · next e1 =>
        split at h4
        · next e2 => rw [e1, e2]
        · exact absurd h4.symm cj
      · split at h4
        · exact absurd h4 ci
        · exact h4
def up1 (vm : Vm) (c : ClassId) : Option ClassId := vm.classes[c]?.bind (·.super)
def upN (vm : Vm) : Nat → ClassId → Option ClassId
  | 0, c => some c
  | n + 1, c => (upN vm n c).bind (up1 vm)
theorem upN_s (vm : Vm) : ∀ (n : Nat) (c : ClassId), upN vm (n + 1) c = (up1 vm c).bind (upN vm n)
  | 0, c => by
    show up1 vm c = (up1 vm c).bind (upN vm 0)
    cases up1 vm c <;> rfl
  | n + 1, c => by
    show (upN vm (n + 1) c).bind (up1 vm) = _
    rw [upN_s vm n c]
    cases up1 vm c <;> rfl
theorem upN_add (vm : Vm) (i : Nat) : ∀ (j : Nat) (c : ClassId), upN vm (i + j) c = (upN vm i c).bind (upN vm j)
  | 0, c => by
    show upN vm i c = _
    cases upN vm i c <;> rfl
  | j + 1, c => by
    show (upN vm (i + j) c).bind (up1 vm) = _
    rw [upN_add vm i j c]
    cases upN vm i c <;> rfl
theorem look_cover {vm : Vm} {name desc : String} : ∀ (n : Nat) (c : ClassId), lookupInSuperclasses vm name desc n c = none → ∀ k q, k < n → upN vm k c = some q → ownMethod vm name desc q = none
  | 0, _, _, _, _, hk, _ => absurd hk (Nat.not_lt_zero _)
  | n + 1, c, h, k, q, hk, hq => by
    unfold lookupInSuperclasses at h
    cases hc : vm.classes[c]? with
    | none =>
      cases k with
      | zero => cases hq; simp [ownMethod, hc]
      | succ k =>
        rw [upN_s] at hq
        simp [up1, hc] at hq
    | some kc =>
      simp only [hc, Option.bind_eq_bind, Option.bind_some] at h
      cases hf : kc.findMethod name desc with
      | some i => simp [hf] at h
      | none =>
        simp only [hf] at h
        cases k with
        | zero => cases hq; simp [ownMethod, hc, hf]
        | succ k =>
          rw [upN_s] at hq
          cases hs : kc.super with
          | none => simp [up1, hc, hs] at hq
          | some w =>
            have hu : up1 vm c = some w := by simp [up1, hc, hs]
            rw [hu] at hq
            simp only [hs, Option.bind_some] at h
            exact look_cover n w h k q (by omega) hq
theorem look_all {vm : Vm} {name desc : String} {c : ClassId} (h : lookupInSuperclasses vm name desc (vm.classes.size + 1) c = none) : ∀ (N k : Nat) (q : ClassId), k ≤ N → upN vm k c = some q → ownMethod vm name desc q = none := by
  intro N
  induction N with
  | zero => intro k q hk hq; exact look_cover _ c h k q (by omega) hq
  | succ N ih =>
    intro k q hk hq
    by_cases hk1 : k < vm.classes.size + 1
    · exact look_cover _ c h k q hk1 hq
    by_cases hv : vm.classes[q]? = none
    · simp [ownMethod, hv]
    have hsome : ∀ i, i ≤ k → ∃ w, upN vm i c = some w := by
      intro i hi
      have e := upN_add vm i (k - i) c
      rw [show i + (k - i) = k by omega, hq] at e
      cases hx : upN vm i c with
      | none => rw [hx] at e; cases e
      | some w => exact ⟨w, rfl⟩
    have hlt : ∀ i, i ≤ vm.classes.size → (upN vm i c).getD 0 < vm.classes.size := by
      intro i hi
      obtain ⟨w, hw⟩ := hsome i (by omega)
      obtain ⟨w', hw'⟩ := hsome (i + 1) (by omega)
      rw [hw]
      show w < _
      have e : (upN vm i c).bind (up1 vm) = some w' := hw'
      rw [hw] at e
      have e2 : vm.classes[w]?.bind (·.super) = some w' := e
      cases hc : vm.classes[w]? with
      | none => rw [hc] at e2; cases e2
      | some kk => exact (Array.getElem?_eq_some_iff.mp hc).1
    obtain ⟨i, j, h1, h2, h3⟩ := pg_two _ (fun i => (upN vm i c).getD 0) hlt
    obtain ⟨wi, hwi⟩ := hsome i (by omega)
    obtain ⟨wj, hwj⟩ := hsome j (by omega)
    have h3' : (upN vm i c).getD 0 = (upN vm j c).getD 0 := h3
    rw [hwi, hwj] at h3'
    have h4 : wi = wj := h3'
    have e1 := upN_add vm j (k - j) c
    rw [show j + (k - j) = k by omega, hq, hwj] at e1
    have e2 := upN_add vm i (k - j) c
    rw [hwi, h4] at e2
    exact ih (i + (k - j)) q (by omega) (e2.trans e1.symm)
theorem supers_mem {vm : Vm} : ∀ (n : Nat) (c q : ClassId), q ∈ vm.superclassesAux n c → ∃ k, upN vm k c = some q
  | 0, _, _, h => absurd h (by simp [Vm.superclassesAux])
  | n + 1, c, q, h => by
    unfold Vm.superclassesAux at h
    cases hu : vm.classes[c]?.bind (·.super) with
    | none => simp [hu] at h
    | some w =>
      simp only [hu, List.mem_cons] at h
      have hw : up1 vm c = some w := hu
      rcases h with rfl | h
      · exact ⟨1, by rw [upN_s, hw]; rfl⟩
      · obtain ⟨k, hk⟩ := supers_mem n w q h
        exact ⟨k + 1, by rw [upN_s, hw]; exact hk⟩
/-- super.m() finds an interface's default where resolution and selection do -/
theorem look_default {vm : Vm} {c : ClassId} {k : Class} {m : MethodId} {meth : Method} (hk : vm.classes[c]? = some k) (hni : k.isInterface = false)
    (hl : vm.lookupUp c meth.name meth.desc = some m) (hm : vm.method? m = some meth) (hst : meth.isStatic = false) (hsel : selectMethod {} vm c m = .method m) : lookupSpecial vm c meth.name meth.desc = .method m := by
  cases hx : lookupInSuperclasses vm meth.name meth.desc (vm.classes.size + 1) c with
  | some x => exact lookupSpecial_of_lookupUp hk hni hl (by rw [hx]; rfl) hm hst
  | none =>
    have hall := look_all hx
    have hown : ownMethod vm meth.name meth.desc c = none := hall 0 0 c (Nat.le_refl 0) rfl
    have hsup : superclassMethods vm c meth.name meth.desc = [] := by
      unfold superclassMethods
      apply List.filterMap_eq_nil_iff.mpr
      intro q hq
      obtain ⟨n, hn⟩ := supers_mem _ _ _ hq
      exact hall n n q (Nat.le_refl n) hn
    have hl2 : lookupInSuperinterfaces vm c meth.name meth.desc = some m := by
      have h0 := hl
      unfold Vm.lookupUp at h0
      rw [hx] at h0
      exact h0
    unfold lookupSpecial
    have hown' : (vm.classes[c]?.bind (·.findMethod meth.name meth.desc)).map (fun i => (⟨c, i⟩ : MethodId)) = none := hown
    simp only [hown', hsup, Option.toList_none, List.nil_append, List.filter_nil, List.find?_nil]
    unfold lookupInSuperinterfaces at hl2
    split at hl2
    · next m1 e => rw [e]; cases hl2; rfl
    · next hne =>
      exfalso
      have hsi : selectInSuperclasses vm m meth.name meth.desc (vm.classes.size + 1) c = none := by
        have aux : ∀ (n : Nat) (c' : ClassId), (∀ k q, upN vm k c' = some q → ownMethod vm meth.name meth.desc q = none) → selectInSuperclasses vm m meth.name meth.desc n c' = none := by
          intro n
          induction n with
          | zero => intro c' _; rfl
          | succ n ih =>
            intro c' h
            unfold selectInSuperclasses
            have h0 := h 0 c' rfl
            cases hc : vm.classes[c']? with
            | none => rfl
            | some kc =>
              have hf : kc.findMethod meth.name meth.desc = none := by
                simpa [ownMethod, hc] using h0
              cases hs : kc.super with
              | none => simp [hf, hs]
              | some w =>
                have hu : up1 vm c' = some w := by simp [up1, hc, hs]
                have := ih w (fun k q hq => h (k + 1) q (by rw [upN_s, hu]; exact hq))
                simp [hf, hs, this]
        exact aux _ c (fun k q hq => hall k k q (Nat.le_refl k) hq)
      have hro : refusedOverriding {} vm c meth.name meth.desc = false := by
        unfold refusedOverriding
        simp only [hown', hsup, Option.toList_none, List.nil_append, List.filter_nil]
        rfl
      have hpr : meth.isPrivate = false := by
        obtain ⟨i, hi1, hi2⟩ := List.exists_of_findSome?_eq_some hl2
        have hmem := List.mem_of_find?_eq_some hi2
        unfold superinterfaceMethods at hmem
        obtain ⟨w, -, hw⟩ := List.mem_filterMap.mp hmem
        simp only [Option.bind_eq_bind, Option.bind_eq_some_iff] at hw
        obtain ⟨kc, -, idx, -, mm, hmm, hif⟩ := hw
        split at hif
        · cases hif
        · next hpp =>
          have e : (⟨w, idx⟩ : MethodId) = m := Option.some.inj hif
          rw [e, hm] at hmm
          cases hmm
          cases hq : meth.isPrivate with
          | false => rfl
          | true => exact absurd (by rw [hq]; rfl) hpp
      unfold selectMethod at hsel
      rw [hm] at hsel
      simp only [hpr, hro, Bool.false_and, Bool.false_eq_true, if_false, hsi] at hsel
      split at hsel
      · next m1 e => exact hne m1 e
      · cases hsel
      · cases hsel
section ZF
variable {p : Program} {l : Launch} {e : Env} {R : Room} {s : State} {m : MethodId} {args : Array Value} {below : List Frame} {meth : Method} {c : Code} {H : Heap} {locs : List Loc} {cells slots : Nat} {Q : State → Prop}
variable {cc : ByteArray} {pc : Nat} {ls : Array Slot} {rest st0 : List Value} {G : zE} {ws wc : va_W} {own : String} {nL : Nat} {a : Nat}
variable {y x : MethodName} {bytes : ByteArray} {maxL k mc ms n index : Nat} {ret : Option FieldType} {Qc : Array Value → State → Outcome → State → Prop} {As : List Value} {b : Nat}
theorem z_len {x : MethodName} {n : Nat} {As : List Value} (h : (parseMethodDescriptor x.desc).map (fun d => d.parameters.length) = some n) (hlen : As.length = n) : ∀ sig, parseMethodDescriptor x.desc = some sig → As.length = sig.parameters.length := by
  intro sig hs
  rw [hs] at h
  exact hlen.trans (Option.some.inj h).symm
/-- a call that lands in an interface's default y, of an object of class C -/
theorem z_runD {ci : Nat} {fs : List Value} {qc : vw_C} {owner : String} (hC : zCx G own cc nL p s m args meth c) (hv : zNs y bytes maxL ret n ∧ Cond.instanceMethod y ∈ lw_all ∧ (owner ≠ "java/lang/invoke/MethodHandle" ∧ owner ≠ "java/lang/invoke/VarHandle") ∧ (parseMethodDescriptor x.desc).map (fun d => d.parameters.length) = some n)
    (h1 : va_Nw (.methodLink own index x) s) (h2 : va_Nw (.sameMethod x.cls owner x.name x.desc) s) (h3 : va_Nw (.declares ⟨owner, x.name, x.desc⟩) s) (h4 : va_Nw (.landsInDefault qc.1 x y) s)
    (hM : Met l y (ws_ y bytes maxL ret) (zR k mc ms) (va_Pc (.ref b :: As) (zU G wc)) Qc mc ms (zA G)) (hw : zS G ws s H locs) (hwc : zS G wc s H locs) (q0 : Nat) (he : ws[q0]? = some (b, zo ci fs)) (hc : zcl[ci]? = some qc) (hlen : As.length = n) (hst : st0 = As.reverse ++ .ref b :: rest) (hcat : (rest.map fun v => v.category).sum ≤ 8) (hls : ls.size = nL)
    (hR : k + 1 ≤ R.frames ∧ 8 + (maxL + 11) + 40 * k ≤ R.locals) (hf : cells + mc ≤ R.cells ∧ slots + ms ≤ R.slots) (hdg : decode cc pc = .ok (.invokevirtual index, 3)) :
    va_Run p l e R s m args below meth c H locs cells slots mc ms (F0 m pc ls st0) rest (Qc (Value.ref b :: As).toArray) (zA G) := by
  subst hst
  obtain ⟨⟨c1, c2, c3, c4⟩, c5, c6, c7⟩ := hv
  have hK : Back l R p e below s args y 3 8 (PreOf R mc ms (va_Pc (.ref b :: As) (zU G wc))) (PostOf Qc mc ms (zA G)) := back_of (bytes := bytes) (maxL := maxL) (ret := ret) hM zU_blind rfl rfl hR.1 hR.2 (pay_in hC.hts (lw_meth c1)) List.mem_cons_self (fun a' U hW => word_at hW (Or.inl rfl) (hC.hts _ c2))
  obtain ⟨cellB, hcB, hoB, hclB⟩ := va_recv hC.hK hw.1 hc he
  intro T hT X
  obtain ⟨v, vm₁, ⟨U', l2, c2', s2⟩, hW₁, X', ⟨g', mk, t, L, e1, e2, hq, h1', hL, h2', h3'⟩, st⟩ := X.virtualBackUpD hC.hx (C := qc.1) (owner := owner) (x := x) hC.hown (va_Nw.use rfl h1) (va_Nw.use rfl h2) (va_Nw.use rfl h3) c6 h4 (hC.hts _ c5) hK (b := b) hclB ⟨cellB, by rw [hT]; exact hcB, rfl, hoB⟩ (g := F0 m pc ls (As.reverse ++ .ref b :: rest)) rfl (hls.trans hC.hml.symm) (Steps.refl _) (argsL := As) (rest := rest) (z_len c7 hlen) rfl (lv_room hcat) (by rw [hC.hb]; exact hdg)
    (fun vm₁ hW₁ => ⟨hf.1, hf.2, ⟨rfl, zU_of hwc hC.hK hC.hN hT hW₁⟩⟩)
  dsimp only [Pt.U, Pt.locs, Pt.cells, Pt.slots] at X' e1 e2 h1' h2' h3' st
  subst h1'; subst h2'; subst h3'
  exact ⟨v, (T.setVm vm₁).calling g' mk (Value.ref b :: As).toArray, t, U', L, hT, X', hL, e1, e2, hq, fun target h => st.trans h⟩
/-- super.m(..) that lands in an interface's default y -/
theorem z_runSD {ci : Nat} {fs : List Value} {qc : vw_C} {owner : String} (hC : zCx G own cc nL p s m args meth c) (hv : zNs y bytes maxL ret n ∧ Cond.instanceMethod y ∈ lw_all ∧ Cond.superclass own x.cls ∈ lw_all ∧ y = ⟨owner, x.name, x.desc⟩ ∧ y.name ≠ "<init>" ∧ (parseMethodDescriptor x.desc).map (fun d => d.parameters.length) = some n)
    (h1 : va_Nw (.methodLink own index x) s) (h2 : va_Nw (.sameMethod x.cls owner x.name x.desc) s) (h4 : va_Nw (.landsInDefault x.cls x y) s)
    (hM : Met l y (ws_ y bytes maxL ret) (zR k mc ms) (va_Pc (.ref b :: As) (zU G wc)) Qc mc ms (zA G)) (hw : zS G ws s H locs) (hwc : zS G wc s H locs) (q0 : Nat) (he : ws[q0]? = some (b, zo ci fs)) (hc : zcl[ci]? = some qc) (hlen : As.length = n) (hst : st0 = As.reverse ++ .ref b :: rest) (hcat : (rest.map fun v => v.category).sum ≤ 8) (hls : ls.size = nL)
    (hR : k + 1 ≤ R.frames ∧ 8 + (maxL + 11) + 40 * k ≤ R.locals) (hf : cells + mc ≤ R.cells ∧ slots + ms ≤ R.slots) (hdg : decode cc pc = .ok (.invokespecial index, 3)) :
    va_Run p l e R s m args below meth c H locs cells slots mc ms (F0 m pc ls st0) rest (Qc (Value.ref b :: As).toArray) (zA G) := by
  subst hst
  obtain ⟨⟨c1, c2, c3, c4⟩, c5, c6, c7, c8, c9⟩ := hv
  have hK : Back l R p e below s args y 3 8 (PreOf R mc ms (va_Pc (.ref b :: As) (zU G wc))) (PostOf Qc mc ms (zA G)) := back_of (bytes := bytes) (maxL := maxL) (ret := ret) hM zU_blind rfl rfl hR.1 hR.2 (pay_in hC.hts (lw_meth c1)) List.mem_cons_self (fun a' U hW => word_at hW (Or.inl rfl) (hC.hts _ c2))
  obtain ⟨cellB, hcB, hoB, hclB⟩ := va_recv hC.hK hw.1 hc he
  obtain ⟨mk, methM, hnamed, hmethM, hstM, habM⟩ := Cond.instanceMethod_spec (hC.hts _ c5)
  obtain ⟨methM', cM, hmethM', -, -, -, -, -, -, hsigM⟩ := Cond.code_spec hnamed (hC.hts _ c1)
  cases hmethM.symm.trans hmethM'
  obtain ⟨ps, dk, kp, hps, hdk, hkp, hsuper, -, -, hnid⟩ := Cond.superclass_spec hC.hown (hC.hts _ c6)
  obtain ⟨kB, hkB, -⟩ := Vm.findClass_spec hclB
  have hlink : (Cond.methodLink own index x).before args s = true := va_Nw.use rfl h1
  have hsame : (Cond.sameMethod x.cls owner x.name x.desc).before args s = true := va_Nw.use rfl h2
  intro T hT X
  have hpl : e.platform.magicAccessors = ({} : Platform).magicAccessors := by rw [X.admits.platform]
  obtain ⟨cn', ck, r1, hcn', hck, hni, hf1, hn1⟩ := Cond.sameMethod_found hsame
  have hn : s.methodNamed? ⟨owner, x.name, x.desc⟩ = some mk := c7 ▸ hnamed
  cases hn.symm.trans hn1
  cases hps.symm.trans hcn'
  obtain ⟨ci', hl, hright⟩ := Cond.methodLink_specUp hC.hown hps hck hni hf1 hlink e.platform hpl (by rw [X.admits.platform])
  obtain ⟨kr, hkr, -⟩ := className_of_methodNamed hn
  obtain ⟨hrn, hrd⟩ := name_of_methodNamed hn hmethM
  obtain ⟨dk₀, cfile, nt, _, _, ck₀, _, _, hd₀, hcf, hcp, -, -, -, hc₀, -, hpoly, -⟩ := hl.here
  cases hdk.symm.trans hd₀
  cases hck.symm.trans hc₀
  obtain ⟨cD, rD, mD, rmD, q1, q2, q3, q5, q4, -, -, -⟩ := Cond.landsInDefault_spec h4
  cases hps.symm.trans q1
  cases hf1.symm.trans q2
  have e3 : mD = mk := by rw [c7] at q3; exact Option.some.inj (q3.symm.trans hn)
  subst e3
  have hup : s.vm.lookupUp ps x.name x.desc = some mD := ((State.methodFound?_class hps hck hni hpoly mD).mp hf1).1
  have hrn' : methM.name = x.name := hrn
  have hrd' : methM.desc = x.desc := hrd
  have hfound0 : lookupSpecial s.vm ps methM.name methM.desc = .method mD := look_default hck hni (by rw [hrn', hrd']; exact hup) hmethM hstM q4
  have hname : x.name ≠ "<init>" := by rw [c7] at c8; exact c8
  obtain ⟨vm₁, hW', st1⟩ := Steps.invokeSuperColdArgs (tb := p.tables) (e := e) (s₀ := s) (U := T) (f := F0 m pc ls (As.reverse ++ .ref b :: rest)) (args := As) (rest := rest) (a := b) (cell := cellB) (m := mD) X.here hC.hx (by rw [hC.hb]; exact hdg) X.warmed hl hright hdk hcf hcp hmethM hck
    (by rw [hrn']; simp [hname]) hstM (by rw [hsuper]; simpa using hfound0) hnid hkr habM (z_len c4 hlen _ hsigM) rfl (by rw [hT]; exact hcB) (fun z h => by rw [h] at hoB; cases hoB) hkB
  have X₁ := X.noted hW'
  obtain ⟨v, ⟨U', l2, c2', s2⟩, X', ⟨g', mk', t, L, e1, e2, hq, h1', hL, h2', h3'⟩, hsteps⟩ := hK m meth c ⟨T.setVm vm₁, locs, cells, slots⟩ { F0 m pc ls (As.reverse ++ .ref b :: rest) with stack := rest } (.invokespecial index) mD (Value.ref b :: As).toArray X₁ rfl (hls.trans hC.hml.symm) (by rw [hC.hb]; exact hdg) (lv_room hcat) (X₁.named hnamed) ⟨hf.1, hf.2, ⟨rfl, zU_of hwc hC.hK hC.hN hT X₁.warmed⟩⟩
  dsimp only [Pt.U, Pt.locs, Pt.cells, Pt.slots] at X' e1 e2 h1' h2' h3' hsteps
  subst h1'; subst h2'; subst h3'
  exact ⟨v, (T.setVm vm₁).calling g' mk' (Value.ref b :: As).toArray, t, U', L, hT, X', hL, e1, e2, hq, fun target h => st1 _ (by rw [doInvoke_state]; exact hsteps.trans h)⟩
end ZF
