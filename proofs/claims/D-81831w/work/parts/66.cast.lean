/-! CASTS that fail -/
set_option maxRecDepth 100000
section ZK
variable {p : Program} {l : Launch} {e : Env} {R : Room} {s : State} {m : MethodId} {args : Array Value} {below : List Frame} {meth : Method} {c : Code} {T : State} {H : Heap} {locs : List Loc} {cells slots : Nat} {Q : State → Prop}
variable {cc : ByteArray} {pc : Nat} {ls : Array Slot} {rest st0 : List Value} {G : zE} {ws wc : va_W} {own : String} {nL : Nat} {a : Nat}
/-- from a cast that fails to the machine's note of it -/
theorem k_castNo (X : Stand p l e R s m args below meth c T locs cells slots) (hexec : p.tables.exec = Jvm.exec)
    {own name : String} {index : Nat} (hown : s.vm.findClass own = some m.cls) (hlink : (Cond.classLink own index name).before args s = true)
    {a : Addr} {cell : Cell} {cT : ClassId} {ks : Class} (hcell : T.heap[a]? = some cell) (hobj : ∀ k, cell.vm ≠ .statics k) (hks : s.vm.classes[cell.cls]? = some ks)
    (hcT : s.vm.findClass name = some cT) (hasg : s.vm.assignable cell.cls cT = false)
    {g : JFrame} (hg : g.method = m) {rest : List Value} (hstack : g.stack = .ref a :: rest) (hdg : decode c.code g.pc = .ok (.checkcast index, 3)) :
    ∃ (vm' : Vm) (ks' kt' : Class), Stand p l e R s m args below meth c (T.setVm vm') locs cells slots ∧ s.WarmedH vm' ∧ vm'.classes[cell.cls]? = some ks' ∧ vm'.classes[cT]? = some kt' ∧
      ∀ target, Steps p.tables e below (((T.setVm vm').setTop g).pushFrame (.throwNew "java/lang/ClassCastException" (some (Jvm.Op.checkcast.message vm' ks' kt')) none)) target → Steps p.tables e below (T.setTop g) target := by
  have hpl : e.platform.magicAccessors = ({} : Platform).magicAccessors := by rw [X.admits.platform]
  obtain ⟨c', hc', hcl⟩ := Cond.classLink_spec hown hlink e.platform hpl
  cases hcT.symm.trans hc'
  obtain ⟨dk, _, _, kt, hd, _, _, _, _, hkt, _, hopen⟩ := hcl.here
  have hcl₀ := X.warmed.classLinks hcl
  have hW' : s.WarmedH (T.vm.noted m.cls index (.cls cT)) := X.warmed.noted hd hopen (State.rightAt_cls hcl)
  obtain ⟨ks', hks', -⟩ := hW'.alike.2.2 _ _ hks
  obtain ⟨kt', hkt', -⟩ := hW'.alike.2.2 _ _ hkt
  refine ⟨_, ks', kt', X.noted hW', hW', hks', hkt', fun target hrest => ?_⟩
  subst hg
  jvm_step X.here [hexec, hdg, checkcast.wp_cold (e := e) (s := T) (f := g) X.here.top hstack (resolveClass_links e.toSetting hcl₀) hcl₀.ready,
    checkcast.wp_ready (e := e) (s := T.setVm (T.vm.noted g.method.cls index (.cls cT))) (f := g) X.here.top hcl₀.ready hstack]
  refine ⟨cell, hcell, hobj, ks', hks', kt', hkt', ?_⟩
  rw [if_neg (by rw [hW'.alike.assignable, hasg]; decide)]
  exact hrest
end ZK
/-- a class as the text names it -/
def kNm (n : String) : Bool := castPackages_1.contains (packageOf n) && decide ((dotted n).toList.length ≤ 20)
theorem k_cls {vm : Vm} {n : String} {c : ClassId} {k : Class} (h : vm.findClass n = some c) (hk : vm.classes[c]? = some k) : k.name = n ∧ k.hidden = none ∧ k.loader = none := by
  obtain ⟨hlt, hp, -⟩ := Array.findIdx?_eq_some_iff_getElem.mp h
  have e : vm.classes[c] = k := (Array.getElem?_eq_some_iff.mp hk).2
  rw [e] at hp
  simp only [Bool.and_eq_true, beq_iff_eq, Option.isNone_iff_eq_none] at hp
  exact ⟨hp.1.1.1, hp.1.1.2, hp.2⟩
theorem k_mod {U : State} {k : Class} (hm : modulesRight_1 U = true) (hl : k.loader = none) (hp : castPackages_1.contains (packageOf k.name) = true) : (match U.vm.moduleOf k with | some m => "module " ++ m.name | none => "unnamed module").toList.length ≤ 16 := by
  have key : ∀ m : ModuleInfo, U.vm.moduleOf k = some m → m.name = "java.base" := by
    intro m h
    unfold Vm.moduleOf at h
    split at h
    · have := List.find?_some h
      exact beq_iff_eq.mp this
    · have h1 := List.find?_some h
      have h2 := List.mem_of_find?_eq_some h
      simp only [Bool.and_eq_true, beq_iff_eq] at h1
      have h3 := List.all_eq_true.mp hm m h2
      rw [h1.1, hl] at h3
      have h4 : castPackages_1.any (fun p => m.packages.contains p) = true := List.any_eq_true.mpr ⟨packageOf k.name, List.contains_iff_mem.mp hp, h1.2⟩
      rw [h4] at h3
      simp only [Option.isSome_none, Bool.not_true, Bool.or_false, Bool.false_or, beq_iff_eq] at h3
      exact h3
  cases h : U.vm.moduleOf k with
  | none => decide
  | some m =>
    show ("module " ++ m.name).toList.length ≤ 16
    rw [key m h]
    decide
theorem k_home {U : State} {k : Class} (hm : modulesRight_1 U = true) (hl : k.loader = none) (hp : castPackages_1.contains (packageOf k.name) = true) : (U.vm.home k).toList.length ≤ 38 := by
  have h1 := k_mod hm hl hp
  unfold Vm.home
  rw [hl]
  show (((match U.vm.moduleOf k with | some m => "module " ++ m.name | none => "unnamed module") ++ " of loader ") ++ "'bootstrap'").toList.length ≤ 38
  rw [String.toList_append, String.toList_append, List.length_append, List.length_append]
  have e1 : " of loader ".toList.length = 11 := by decide
  have e2 : "'bootstrap'".toList.length = 11 := by decide
  omega
theorem k_text {U : State} {ks kt : Class} (hm : modulesRight_1 U = true) (h1 : ks.hidden = none ∧ ks.loader = none ∧ kNm ks.name = true) (h2 : kt.hidden = none ∧ kt.loader = none ∧ kNm kt.name = true) :
    (Jvm.Op.checkcast.message U.vm ks kt).toList.length ≤ 220 ∧ (Jvm.Op.checkcast.message U.vm ks kt == notModelled) = false := by
  obtain ⟨a1, a2, a3⟩ := h1
  obtain ⟨b1, b2, b3⟩ := h2
  simp only [kNm, Bool.and_eq_true, decide_eq_true_eq] at a3 b3
  have c1 := k_home hm a2 a3.1
  have c2 := k_home hm b2 b3.1
  have s1 : ks.shown = dotted ks.name := by unfold Class.shown; rw [a1]
  have s2 : kt.shown = dotted kt.name := by unfold Class.shown; rw [b1]
  have hh : (U.vm.homes ks kt).toList.length ≤ 135 := by
    unfold Vm.homes
    split
    · show (((ks.shown ++ " and ") ++ kt.shown ++ " are in ") ++ U.vm.home ks).toList.length ≤ 135
      simp only [String.toList_append, List.length_append, s1, s2]
      have e1 : " and ".toList.length = 5 := by decide
      have e2 : " are in ".toList.length = 8 := by decide
      omega
    · show (((((ks.shown ++ " is in ") ++ U.vm.home ks) ++ "; ") ++ kt.shown ++ " is in ") ++ U.vm.home kt).toList.length ≤ 135
      simp only [String.toList_append, List.length_append, s1, s2]
      have e1 : " is in ".toList.length = 7 := by decide
      have e2 : "; ".toList.length = 2 := by decide
      omega
  have em : (Jvm.Op.checkcast.message U.vm ks kt).toList.length = 34 + (dotted ks.name).toList.length + (dotted kt.name).toList.length + (U.vm.homes ks kt).toList.length := by
    show (((((("class " ++ ks.shown) ++ " cannot be cast to class ") ++ kt.shown) ++ " (") ++ U.vm.homes ks kt) ++ ")").toList.length = _
    simp only [String.toList_append, List.length_append, s1, s2]
    have e1 : "class ".toList.length = 6 := by decide
    have e2 : " cannot be cast to class ".toList.length = 25 := by decide
    have e3 : " (".toList.length = 2 := by decide
    have e4 : ")".toList.length = 1 := by decide
    omega
  refine ⟨by omega, ?_⟩
  cases hb : (Jvm.Op.checkcast.message U.vm ks kt == notModelled) with
  | false => rfl
  | true =>
    have e := beq_iff_eq.mp hb
    rw [e] at em
    have : notModelled.toList.length ≤ 33 := by decide
    omega
section ZK
variable {p : Program} {l : Launch} {e : Env} {R : Room} {s : State} {m : MethodId} {args : Array Value} {below : List Frame} {meth : Method} {c : Code} {H : Heap} {locs : List Loc} {cells slots : Nat} {Q : State → Prop}
variable {cc : ByteArray} {pc : Nat} {ls : Array Slot} {rest st0 : List Value} {G : zE} {ws wc : va_W} {own : String} {nL : Nat} {a : Nat}
/-- a cast that fails -/
theorem z_castX {C nm : String} {idx : Nat} (hC : zCx G own cc nL p s m args meth c) (hlt : l.stackTraces = false) (hzy : cY G.2.2.1 s) (hl : Cond.classLink own idx nm ∈ lw_all) (hn : va_Nc C nm s) (hk1 : kNm C = true) (hk2 : kNm nm = true) (hr : ∃ cell : Cell, H[a]? = some cell ∧ cell.vm.isStatics = false ∧ s.vm.findClass C = some cell.cls) (hw : zS G ws s H locs) (hls : ls.size = nL) (hcat : (rest.map fun v => v.category).sum ≤ 8) (hR : 8 ≤ R.frames ∧ 10249 ≤ R.locals) (h1 : cells + 3 ≤ R.cells) (h2 : slots + 890 ≤ R.slots) (hdg : decode cc pc = .ok (.checkcast idx, 3))
    (kk : ∀ (q : Nat) (H1 : Heap) (ce : Cell), zT9 "java/lang/ClassCastException" G ws s H1 locs q ce → vx_W p l e R s m args below meth c H1 locs (cells + 3) (slots + 890) Q (F0 m pc ls (.ref a :: rest)) q) : W p l e R s m args below meth c H locs cells slots Q (F0 m pc ls (.ref a :: rest)) := by
  obtain ⟨cell, g1, g2, g3⟩ := hr
  obtain ⟨cS, cT, n1, n2, n3⟩ := hn
  cases Option.some.inj (n1.symm.trans g3)
  obtain ⟨ks, hks, -⟩ := Vm.findClass_spec g3
  intro T hT X
  obtain ⟨vm', ks', kt', X', hW, hks', hkt', st⟩ := k_castNo X hC.hx hC.hown (hC.hts _ hl) (cell := cell) (by rw [hT]; exact g1) (fun q h => by rw [h] at g2; cases g2) hks n2 n3 (g := F0 m pc ls (.ref a :: rest)) rfl rfl (by rw [hC.hb]; exact hdg)
  have f1 := k_cls (vm := vm') (by rw [hW.alike.findClass]; exact g3) hks'
  have f2 := k_cls (vm := vm') (by rw [hW.alike.findClass]; exact n2) hkt'
  have hm : modulesRight_1 (T.setVm vm') = true := by
    have e1 : vm'.modules = s.vm.modules := by rw [hW.alike.1]
    have e2 := hzy.2.2.2.2
    unfold modulesRight_1 at e2 ⊢
    show vm'.modules.all _ = true
    rw [e1]; exact e2
  have tx := k_text (U := T.setVm vm') (ks := ks') (kt := kt') hm ⟨f1.2.1, f1.2.2, by rw [f1.1]; exact hk1⟩ ⟨f2.2.1, f2.2.2, by rw [f2.1]; exact hk2⟩
  have hnb : (stringBytes (stringToUtf16 (Jvm.Op.checkcast.message (T.setVm vm').vm ks' kt'))).size ≤ 880 := by
    have a1 := Jvm.stringBytes_size_le (stringToUtf16 (Jvm.Op.checkcast.message (T.setVm vm').vm ks' kt'))
    have a2 := Jvm.utf16_size_le (Jvm.Op.checkcast.message (T.setVm vm').vm ks' kt')
    omega
  have hN := vx_vm (p := p) (e := e) (R := R) (below := below) (Q := Q) (rest := .ref a :: rest) (cells := cells) (slots := slots) hC.hx hlt (names := ["java/lang/RuntimeException", "java/lang/Exception"]) (nb := 880) (A := zA G) (by decide +kernel) (by decide +kernel) (by decide) (by decide) (cY_at hzy exM_tbl exM_ot) exM_ot hzy.2.1 hzy.2.2.1 hw.2.2 (hls.trans hC.hml.symm) tx.2 hnb (by decide) (by show 2 + 4 < _; omega) (by show (1 + (rest.map fun v => v.category).sum) + 10240 ≤ _; omega) (by decide) h1 h2 hC.hlk
    (fun H1 q9 ce a1 a2 a3 a4 a5 a6 => kk q9 H1 ce ⟨⟨hw.1.kept (fun j x hx => a2 x.1 ((hw.1 j x hx).lt)), hw.2.1, a3⟩, a4, a5, a6⟩)
  obtain ⟨t, b1, b2⟩ := hN (T.setVm vm') hT X'
  exact ⟨t, st t b1, b2⟩
end ZK
theorem kNm_all : kNm "NutCaches$Squirrel" = true ∧ kNm "NutCaches$Plain" = true ∧ kNm "NutCaches$Greedy" = true ∧ kNm "NutCaches$Neat" = true ∧ kNm "NutCaches$Dozy" = true ∧ kNm "NutCaches$Spy" = true ∧ kNm "java/lang/Integer" = true ∧ kNm "java/lang/Byte" = true := by decide +kernel
section ZK
variable {p : Program} {l : Launch} {e : Env} {R : Room} {s : State} {m : MethodId} {args : Array Value} {below : List Frame} {meth : Method} {c : Code} {H : Heap} {locs : List Loc} {cells slots : Nat} {Q : State → Prop}
variable {cc : ByteArray} {pc : Nat} {ls : Array Slot} {rest st0 : List Value} {G : zE} {ws wc : va_W} {own : String} {nL : Nat} {a : Nat}
theorem z_getfX {ci k idx : Nat} {fin : Bool} {ty : FieldType} (hC : zCx G own cc nL p s m args meth c) (hlt : l.stackTraces = false) (hzy : cY G.2.2.1 s) (hF : zFl ci k own idx fin ty) (hw : zS G ws s H locs) (hls : ls.size = nL) (hcat : (rest.map fun v => v.category).sum ≤ 8) (hR : 8 ≤ R.frames ∧ 10248 ≤ R.locals) (h1 : cells + 1 ≤ R.cells) (h2 : slots + 8 ≤ R.slots) (hdg : decode cc pc = .ok (.getfield idx, 3))
    (kk : ∀ (q : Nat) (H1 : Heap) (ce : Cell), zT9 "java/lang/NullPointerException" G ws s H1 locs q ce → vx_W p l e R s m args below meth c H1 locs (cells + 1) (slots + 8) Q (F0 m pc ls rest) q) : W p l e R s m args below meth c H locs cells slots Q (F0 m pc ls (.null :: rest)) := by
  obtain ⟨C, T, N, tyf, g1, g2, g3, g4, g5, g6, g7, g8⟩ := hF
  exact vx_getfN hC.hx hC.hb hC.hts g3 hC.hown hC.hK g1 k g2 (hC.hts _ g4) (fun _ h => h) hdg (z_npe hC hlt hzy hw hls hcat hR h1 h2 kk)
/-- an object of the world is thrown -/
theorem z_athrow {ci : Nat} {fs : List Value} {r : vw_C} (hC : zCx G own cc nL p s m args meth c) (hw : zS G ws s H locs) (q0 : Nat) (he : ws[q0]? = some (a, zo ci fs)) (hc : zcl[ci]? = some r) (hdg : decode cc pc = .ok (.athrow, 1))
    (kk : ∀ ce : Cell, zT9 r.1 G ws s H locs a ce → vx_W p l e R s m args below meth c H locs cells slots Q (F0 m pc ls rest) a) : W p l e R s m args below meth c H locs cells slots Q (F0 m pc ls (.ref a :: rest)) := by
  obtain ⟨r', hr', cellV, g1, g2, g3, -⟩ := hw.1 q0 _ he
  cases hc.symm.trans hr'
  exact vx_athrow hC.hx hC.hb hdg (kk cellV ⟨hw, g1, g3, by rw [g2]; exact (hC.hK.1 ci r hc).2.1⟩)
def exNames : List String := ["java/lang/RuntimeException", "java/lang/Exception"]
/-- 'throw new E()' -/
theorem z_thr0 {E : String} {ik ic mc ms : Nat} {B : Nat → va_W} {hh : List (Nat × Nat × Nat × Nat)} (hC : zCx G own cc nL p s m args meth c) (hlt : l.stackTraces = false) (hzy : cY G.2.2.1 s) (hQ : Q = vx_MQ below zQ0 (zXC G E B) args s mc ms (zA G)) (htb : c.exceptionTable.toList = tableOf hh) (hfit : Bundle.fit E = true)
    (hk : Cond.classLink own ik E ∈ lw_all) (hini : Cond.initialized E ∈ lw_all) (h1t : ∀ w ∈ vx_at0 own ic E exNames, w ∈ lw_tbl) (h1o : ∀ w ∈ Cond.classLink own ik E :: Cond.initialized E :: vx_at0 own ic E exNames, vx_ot w = true)
    (d0 : decode cc pc = .ok (.new ik, 3)) (d3 : decode cc (pc + 3) = .ok (.dup, 1)) (d4 : decode cc (pc + 4) = .ok (.invokespecial ic, 3)) (d7 : decode cc (pc + 7) = .ok (.athrow, 1)) (hcv : ∀ x ∈ tableOf hh, covers x (pc + 7) = false)
    (hw : zS G ws s H locs) (hB : ∀ q, B q = ws) (hls : ls.size = nL) (hcat : (rest.map fun v => v.category).sum ≤ 8) (hR : 8 ≤ R.frames ∧ 200 ≤ R.locals) (h1 : cells + 1 ≤ R.cells) (h2 : slots + 6 ≤ R.slots) (hc : cells + 1 ≤ mc) (hs : slots + 6 ≤ ms) : W p l e R s m args below meth c H locs cells slots Q (F0 m pc ls rest) := by
  subst hQ
  refine vx_throw0 (names := exNames) (A := zA G) hC.hx hC.hb hlt hC.hown hfit (by decide +kernel) (hC.hts _ hk) (hC.hts _ hini) (cY_at hzy h1t (fun w h => h1o w (List.mem_cons_of_mem _ (List.mem_cons_of_mem _ h)))) h1o hzy.2.1 hzy.2.2.1 hw.2.2 (hls.trans hC.hml.symm) d0 d3 d4 d7 (by rw [htb]; exact hcv) (by show 2 + 3 < _; omega) (by show (rest.map fun v => v.category).sum + (13 * (2 + 1) + 42) ≤ _; omega) h1 h2 hC.hlk (fun t hW f1 f2 q => ?_) hw.2.2.2.2 hc hs
  have hw1 : zS G (B q) s t.heap locs := by
    rw [hB q]
    exact ⟨hw.1.kept (fun j x hx => f2 x.1 ((hw.1 j x hx).lt)), hw.2.1, Nat.le_trans hw.2.2.1 f1, fun q h1 h2 => (f2 q (Nat.lt_of_lt_of_le h1 hw.2.2.1)).trans (hw.2.2.2.1 q h1 h2), hw.2.2.2.2⟩
  exact ⟨rfl, zU_of hw1 hC.hK hC.hN rfl hW, hw1.2.2.F rfl⟩
def zEx (E : String) (q : Nat) (U : State) : Prop := ∃ ce : Cell, U.heap[q]? = some ce ∧ ce.vm = .none ∧ U.vm.findClass E = some ce.cls
/-- a method that is given what was thrown -/
abbrev zFi {S : Type} (G : zE) (l : Launch) (y : MethodName) (b : ByteArray) (L : Nat) (E : String) (q : Nat) (k mc ms : Nat) (av : List Value) (ws : va_W) (post : Int32 → S → Prop) (B : S → va_W) : Prop :=
  Met l y (ws_ y b L (some .int)) (zR k mc ms) (va_Pc av (fun U => zU G ws U ∧ zEx E q U)) (va_Qi post (fun u t => zU G (B u) t) (zA G)) mc ms (zA G)
variable {y : MethodName} {bytes : ByteArray} {maxL k mc ms n index : Nat} {ret : Option FieldType} {Qc : Array Value → State → Outcome → State → Prop} {As : List Value} {b : Nat} {E : String} {q : Nat} {ce : Cell}
theorem z_begE {S : Type} {post : Int32 → S → Prop} {B : S → va_W} {b : ByteArray} {L : Nat} {av : List Value} (hy : plainName y.cls = true) (hL : (lg_sl av).length ≤ L)
    (body : ∀ (p : Program) (e : Env) (s : State) (m : MethodId) (args : Array Value) (below : List Frame) (meth : Method) (c : Code) (ls : Array Slot) (Q : State → Prop) (ce9 : Cell), zCx G y.cls b L p s m args meth c → (s.heap[q]? = some ce9 ∧ ce9.vm = .none ∧ s.vm.findClass E = some ce9.cls) → lv_has ls L (lv_args 0 av) → zS G ws s s.heap [] →
      (∀ (H : Heap) (locs : List Loc) (cells slots pc : Nat) (ls : Array Slot) (v : Int32) (u : S), zS G (B u) s H locs → post v u → cells ≤ mc → slots ≤ ms → decode b pc = .ok (.ireturn, 1) → W p l e (zR k mc ms) s m args below meth c H locs cells slots Q (F0 m pc ls [.int v])) →
      W p l e (zR k mc ms) s m args below meth c s.heap [] 0 0 Q (F0 m 0 ls [])) : zFi G l y b L E q k mc ms av ws post B := by
  refine Met.ofW (cc := b) (maxL := L) (ret := some .int) hy rfl ?_
  intro p e s m args below meth c s₁ B9 hml hv
  obtain ⟨rfl, ⟨hP, hD, hK, hN⟩, ce9, hx9⟩ := hv
  have hts := atoms_spec (ws := ws_ y b L (some .int)) B9.pre
  have hts : ∀ w ∈ lw_all, w.before _ s = true := fun w h => hts w (List.mem_cons_of_mem _ h)
  have hown : s.vm.findClass y.cls = some m.cls := findClass_of_methodNamed B9.named
  rw [lg_entry_eq]
  have hC : zCx G y.cls b L p s m av.toArray meth c := ⟨B9.exec, B9.bytes, hml, hown, hts, B9.notSynchronized, hK, hN⟩
  exact body p e s m _ below meth c _ _ ce9 hC hx9 (lv_entry av hL) ⟨hP, hD, va_S.rf⟩ (fun H locs cells slots pc ls v u h1 h2 h3 h4 h5 => z_iret hC B9.returns u h1 h2 h3 h4 h5)
theorem z_runSE (hC : zCx G own cc nL p s m args meth c) (hv : zSs own index y bytes maxL (some .int) n) (hM : Met l y (ws_ y bytes maxL (some .int)) (zR k mc ms) (va_Pc As (fun U => zU G wc U ∧ zEx E q U)) Qc mc ms (zA G)) (hwc : zS G wc s H locs) (hx9 : H[q]? = some ce ∧ ce.vm = .none ∧ s.vm.findClass E = some ce.cls) (hlen : As.length = n) (hst : st0 = As.reverse ++ rest) (hcat : (rest.map fun v => v.category).sum ≤ 8) (hls : ls.size = nL)
    (hR : k + 1 ≤ R.frames ∧ 8 + (maxL + 11) + 40 * k ≤ R.locals) (hf : cells + mc ≤ R.cells ∧ slots + ms ≤ R.slots) (hdg : decode cc pc = .ok (.invokestatic index, 3)) :
    va_Run p l e R s m args below meth c H locs cells slots mc ms (F0 m pc ls st0) rest (Qc As.toArray) (zA G) := by
  subst hst
  obtain ⟨h1, h2, h3⟩ := hv
  refine va_runS (As := As) (rest := rest) hC.fix hM (va_cwS n hC.hts h1 rfl rfl rfl ⟨h2.1, h2.2, h3⟩ hR) ⟨?_, fun U hU hW => ⟨rfl, zU_of hwc hC.hK hC.hN hU hW, ce, by rw [hU]; exact hx9.1, hx9.2.1, by rw [hW.alike.findClass]; exact hx9.2.2⟩⟩ rfl hlen hls rfl (lv_room hcat) hdg hf
  intro a U g mk ⟨h1, h2, h3⟩
  obtain ⟨g1, g2⟩ := zU_blind (av := As) a U g mk ⟨h1, h2⟩
  exact ⟨g1, g2, h3⟩
end ZK
