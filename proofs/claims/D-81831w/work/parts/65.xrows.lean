/-! EXCEPTIONS over the one world: what is carried; methods that throw; null; calls; catching -/
set_option maxRecDepth 100000
def cNx : List (String × String) := [("java/util/NoSuchElementException", "java/lang/NullPointerException"), ("java/lang/ClassCastException", "java/lang/NullPointerException"), ("java/lang/ClassCastException", "java/util/NoSuchElementException"), ("java/lang/IllegalStateException", "java/lang/NullPointerException"), ("java/lang/IllegalStateException", "java/util/NoSuchElementException"), ("java/lang/ClassCastException", "java/lang/IllegalStateException")]
def cY (N : Nat) (U : State) : Prop := (∀ w ∈ lw_tbl, vx_ot w = true → va_Nw w U) ∧ vx_Zq Bundle.tN "UNASSIGNED_STACK" Bundle.steD (fun q => N ≤ q) U U.heap ∧ vx_Zq Bundle.tN "SUPPRESSED_SENTINEL" Bundle.listD (fun q => N ≤ q) U U.heap ∧ (∀ q ∈ cNx, va_Nc q.1 q.2 U) ∧ modulesRight_1 U = true
def zY (G : zE) : Prop := ∀ U : State, G.2.2.2 U → cY G.2.2.1 U
theorem cY_at {N : Nat} {s : State} {args : Array Value} (h : cY N s) {L : List Cond} (h1 : ∀ w ∈ L, w ∈ lw_tbl) (h2 : ∀ w ∈ L, vx_ot w = true) : ∀ w ∈ L, w.before args s = true :=
  fun w hw => vx_ot_at (State.WarmedH.refl s) rfl (h2 w hw) (h.1 w (h1 w hw) (h2 w hw))
theorem exN_tbl : ∀ w ∈ vx_atN 8, w ∈ lw_tbl := by decide +kernel
theorem exN_ot : ∀ w ∈ vx_atN 8, vx_ot w = true := by decide +kernel
def zXC (G : zE) (E : String) (B : Nat → va_W) : Addr → String → State → State → Prop := fun q E' st t => E' = E ∧ zU G (B q) t ∧ va_F (zA G) st t
def zQ0 : Array Value → State → Outcome → State → Prop := fun _ _ _ _ => False
/-- a method that throws E (the object at q), and leaves the world B q -/
def zTh (G : zE) (l : Launch) (y : MethodName) (b : ByteArray) (L : Nat) (r : Option FieldType) (k mc ms : Nat) (av : List Value) (ws : va_W) (E : String) (B : Nat → va_W) : Prop :=
  vx_Met l y (ws_ y b L r) (zR k mc ms) (va_Pc av (zU G ws)) zQ0 (zXC G E B) mc ms (zA G)
/-- .. that has a table of its own -/
def zThW (G : zE) (l : Launch) (y : MethodName) (b : ByteArray) (L : Nat) (r : Option FieldType) (hh : List (Nat × Nat × Nat × Nat)) (k mc ms : Nat) (av : List Value) (ws : va_W) (E : String) (B : Nat → va_W) : Prop :=
  vx_Met l y (wsW_ y b L r hh) (zR k mc ms) (va_Pc av (zU G ws)) zQ0 (zXC G E B) mc ms (zA G)
/-- .. that has a table, and returns -/
abbrev zWi {S : Type} (G : zE) (l : Launch) (y : MethodName) (b : ByteArray) (L : Nat) (r : Option FieldType) (hh : List (Nat × Nat × Nat × Nat)) (k mc ms : Nat) (av : List Value) (ws : va_W) (post : Int32 → S → Prop) (B : S → va_W) : Prop :=
  Met l y (wsW_ y b L r hh) (zR k mc ms) (va_Pc av (zU G ws)) (va_Qi post (fun u t => zU G (B u) t) (zA G)) mc ms (zA G)
abbrev zWv {S : Type} (G : zE) (l : Launch) (y : MethodName) (b : ByteArray) (L : Nat) (hh : List (Nat × Nat × Nat × Nat)) (k mc ms : Nat) (av : List Value) (ws : va_W) (post : S → Prop) (B : S → va_W) : Prop :=
  Met l y (wsW_ y b L none hh) (zR k mc ms) (va_Pc av (zU G ws)) (va_Qv post (fun u t => zU G (B u) t) (zA G)) mc ms (zA G)
section ZX
variable {p : Program} {l : Launch} {e : Env} {R : Room} {s : State} {m : MethodId} {args : Array Value} {below : List Frame} {meth : Method} {c : Code} {H : Heap} {locs : List Loc} {cells slots : Nat} {Q : State → Prop}
variable {cc : ByteArray} {pc : Nat} {ls : Array Slot} {rest st0 : List Value} {G : zE} {ws wc : va_W} {own : String} {nL : Nat} {a : Nat}
variable {y : MethodName} {bytes : ByteArray} {maxL k mc ms n index : Nat} {ret : Option FieldType} {As : List Value} {b : Nat} {E : String} {q : Nat} {ce : Cell}
/-- q of the class E is thrown over the world ws -/
def zT9 (E : String) (G : zE) (ws : va_W) (s : State) (H : Heap) (locs : List Loc) (q : Nat) (ce : Cell) : Prop := zS G ws s H locs ∧ H[q]? = some ce ∧ ce.vm = .none ∧ s.vm.findClass E = some ce.cls
theorem z_endX {B : Nat → va_W} {hh : List (Nat × Nat × Nat × Nat)} (hC : zCx G own cc nL p s m args meth c) (htb : c.exceptionTable.toList = tableOf hh) (hw : zT9 E G (B q) s H locs q ce) (hcv : ∀ x ∈ tableOf hh, covers x pc = false) (h1 : cells ≤ mc) (h2 : slots ≤ ms) :
    vx_W p l e R s m args below meth c H locs cells slots (vx_MQ below zQ0 (zXC G E B) args s mc ms (zA G)) (F0 m pc ls rest) q :=
  vx_out (by rw [htb]; exact hcv) hC.hlk hw.2.1 hw.2.2.1 hw.2.2.2 (fun t ht hW => ⟨rfl, zU_of hw.1 hC.hK hC.hN ht hW, hw.1.2.2.F ht⟩) hw.1.2.2.2.2 h1 h2
theorem z_npe (hC : zCx G own cc nL p s m args meth c) (hlt : l.stackTraces = false) (hzy : cY G.2.2.1 s) (hw : zS G ws s H locs) (hls : ls.size = nL) (hcat : (rest.map fun v => v.category).sum ≤ 8) (hR : 8 ≤ R.frames ∧ 10248 ≤ R.locals) (h1 : cells + 1 ≤ R.cells) (h2 : slots + 8 ≤ R.slots)
    (kk : ∀ (q : Nat) (H1 : Heap) (ce : Cell), zT9 "java/lang/NullPointerException" G ws s H1 locs q ce → vx_W p l e R s m args below meth c H1 locs (cells + 1) (slots + 8) Q (F0 m pc ls rest) q) : vx_NoteN p l e R s m args below meth c H locs cells slots Q (F0 m pc ls rest) :=
  vx_npe hC.hx hlt (nb := 8) (A := zA G) (cY_at hzy exN_tbl exN_ot) exN_ot hzy.2.1 hzy.2.2.1 hw.2.2 (hls.trans hC.hml.symm) hR.1 (by omega) h1 h2 hC.hlk
    (fun H1 q9 ce a1 a2 a3 a4 a5 a6 => kk q9 H1 ce ⟨⟨hw.1.kept (fun j x hx => a2 x.1 ((hw.1 j x hx).lt)), hw.2.1, a3⟩, a4, a5, a6⟩)
/-- a call on null -/
theorem z_invN (hC : zCx G own cc nL p s m args meth c) (hlt : l.stackTraces = false) (hzy : cY G.2.2.1 s) (hv : zVs own index y bytes maxL ret n) (hw : zS G ws s H locs) (hlen : As.length = n) (hst : st0 = As.reverse ++ .null :: rest) (hls : ls.size = nL) (hcat : (rest.map fun v => v.category).sum ≤ 8) (hR : 8 ≤ R.frames ∧ 10248 ≤ R.locals) (h1 : cells + 1 ≤ R.cells) (h2 : slots + 8 ≤ R.slots) (hdg : decode cc pc = .ok (.invokevirtual index, 3))
    (kk : ∀ (q : Nat) (H1 : Heap) (ce : Cell), zT9 "java/lang/NullPointerException" G ws s H1 locs q ce → vx_W p l e R s m args below meth c H1 locs (cells + 1) (slots + 8) Q (F0 m pc ls rest) q) : W p l e R s m args below meth c H locs cells slots Q (F0 m pc ls st0) := by
  obtain ⟨g1, g2, g3⟩ := hv
  have ok : ∀ w ∈ wsV own index y.cls y (ws_ y bytes maxL ret), w.before args s = true := fun w h => hC.hts w (g1 w h).1
  exact vx_invokeN (C := y.cls) (bytes := bytes) (maxL := maxL) (ret := ret) (As := As) (rest := rest) hC.hx hC.hb hC.hown (ok _ (by simp [wsV])) (ok _ (by simp [wsV])) (ok _ (by simp [wsV, ws_])) (ok _ (by simp [wsV])) g2 (by rw [g3, hlen]) hdg (z_npe hC hlt hzy hw hls hcat hR h1 h2 kk) hst
theorem z_ct {B B' : Nat → va_W} (hr : vx_Run p l e R s m args below meth c H locs cells slots mc ms (F0 m pc ls st0) rest (fun _ _ _ => False) (zXC G E B) (zA G)) (hw : zS G ws s H locs) (hB : ∀ q, (B q).Perm (B' q))
    (kk : ∀ (q : Nat) (H1 : Heap) (locs1 : List Loc) (ce : Cell), zT9 E G (B' q) s H1 locs1 q ce → vx_W p l e R s m args below meth c H1 locs1 (cells + mc) (slots + ms) Q (F0 m pc ls rest) q) : W p l e R s m args below meth c H locs cells slots Q (F0 m pc ls st0) := by
  intro T hT X
  rcases hr T hT X with ⟨v, st₀, t, T', L, h0, X', hL, e1, e2, hq, st⟩ | ⟨q, st₀, t, T', L, E', ce, h0, X', hL, e1, e2, ⟨rfl, hU, hF⟩, hce, hcv, hcl, st⟩
  · exact hq.elim
  · obtain ⟨k1, k2, k3⟩ := vx_keep h0 e1 hw.2.2 (fun _ _ h => h) (fun _ h => h) hL hF
    obtain ⟨t2, a1, b1⟩ := kk q T'.heap (locs ++ L) ce ⟨zS.perm ⟨by rw [e1]; exact hU.1, hU.2.1, k3⟩ (hB q), by rw [e1]; exact hce, hcv, hcl⟩ T' rfl X'
    exact ⟨t2, st.trans a1, b1⟩
theorem z_runVT {B : Nat → va_W} {ci : Nat} {fs : List Value} {qc : vw_C} (hC : zCx G own cc nL p s m args meth c) (hv : zVs own index y bytes maxL ret n) (hM : zTh G l y bytes maxL ret k mc ms (.ref b :: As) wc E B) (hw : zS G ws s H locs) (hwc : zS G wc s H locs) (q0 : Nat) (he : ws[q0]? = some (b, zo ci fs)) (hc : zcl[ci]? = some qc) (hqc : qc.1 = y.cls) (hlen : As.length = n) (hst : st0 = As.reverse ++ .ref b :: rest) (hcat : (rest.map fun v => v.category).sum ≤ 8) (hls : ls.size = nL)
    (hR : k + 1 ≤ R.frames ∧ 8 + (maxL + 11) + 40 * k ≤ R.locals) (hf : cells + mc ≤ R.cells ∧ slots + ms ≤ R.slots) (hdg : decode cc pc = .ok (.invokevirtual index, 3)) :
    vx_Run p l e R s m args below meth c H locs cells slots mc ms (F0 m pc ls st0) rest (fun _ _ _ => False) (zXC G E B) (zA G) := by
  subst hst
  obtain ⟨h1, h2, h3⟩ := hv
  exact vx_runV (As := As) (rest := rest) hC.fix hM (cwV n hC.hts h1 rfl rfl rfl ⟨rfl, h2.1, h2.2, h3⟩ hR) ⟨zU_blind, by rw [← hqc]; exact va_recv hC.hK hw.1 hc he, fun U hU hW => ⟨rfl, zU_of hwc hC.hK hC.hN hU hW⟩⟩ rfl hlen hls rfl (lv_room hcat) hdg hf
theorem z_runST {B : Nat → va_W} (hC : zCx G own cc nL p s m args meth c) (hv : zSs own index y bytes maxL ret n) (hM : zTh G l y bytes maxL ret k mc ms As wc E B) (hwc : zS G wc s H locs) (hlen : As.length = n) (hst : st0 = As.reverse ++ rest) (hcat : (rest.map fun v => v.category).sum ≤ 8) (hls : ls.size = nL)
    (hR : k + 1 ≤ R.frames ∧ 8 + (maxL + 11) + 40 * k ≤ R.locals) (hf : cells + mc ≤ R.cells ∧ slots + ms ≤ R.slots) (hdg : decode cc pc = .ok (.invokestatic index, 3)) :
    vx_Run p l e R s m args below meth c H locs cells slots mc ms (F0 m pc ls st0) rest (fun _ _ _ => False) (zXC G E B) (zA G) := by
  subst hst
  obtain ⟨h1, h2, h3⟩ := hv
  exact vx_runS (As := As) (rest := rest) hC.fix hM (va_cwS n hC.hts h1 rfl rfl rfl ⟨h2.1, h2.2, h3⟩ hR) ⟨zU_blind, fun U hU hW => ⟨rfl, zU_of hwc hC.hK hC.hN hU hW⟩⟩ rfl hlen hls rfl (lv_room hcat) hdg hf
/-- caught by the row 'x' of the table -/
theorem z_catch {hh : List (Nat × Nat × Nat × Nat)} {nm : String} (hC : zCx G own cc nL p s m args meth c) (htb : c.exceptionTable.toList = tableOf hh) (pre : List ExceptionTableEntry) (x : ExceptionTableEntry) (suf : List ExceptionTableEntry) (hsp : tableOf hh = pre ++ x :: suf) (hpass : ∀ z ∈ pre, covers z pc = false ∨ (z.catchType ≠ 0 ∧ ∃ nm : String, Cond.classLink own z.catchType nm ∈ lw_all ∧ va_Nc E nm s)) (hx : covers x pc = true) (h0 : x.catchType ≠ 0)
    (hl : Cond.classLink own x.catchType nm ∈ lw_all) (hca : va_Nw (.castable E nm) s) (hw : zT9 E G ws s H locs q ce) (kk : W p l e R s m args below meth c H locs cells slots Q (F0 m x.handlerPc ls [.ref q])) : vx_W p l e R s m args below meth c H locs cells slots Q (F0 m pc ls rest) q :=
  vx_catch hC.hown pre x suf (htb.trans hsp) (fun z hz => (hpass z hz).imp id (fun ⟨a, nm, b, c⟩ => ⟨a, nm, hC.hts _ b, c⟩)) hx h0 (hC.hts _ hl) (show (Cond.castable E nm).before args s = true from va_Nw.use rfl hca) hw.2.1 hw.2.2.1 hw.2.2.2 kk
end ZX
section ZB
variable {l : Launch} {G : zE} {ws : va_W} {y : MethodName} {b : ByteArray} {L : Nat} {k mc ms : Nat} {av : List Value} {r : Option FieldType}
theorem z_begX {E : String} {B : Nat → va_W} (hy : plainName y.cls = true) (hL : (lg_sl av).length ≤ L)
    (body : ∀ (p : Program) (e : Env) (s : State) (m : MethodId) (args : Array Value) (below : List Frame) (meth : Method) (c : Code) (ls : Array Slot) (Q : State → Prop), Q = vx_MQ below zQ0 (zXC G E B) args s mc ms (zA G) → zCx G y.cls b L p s m args meth c → c.exceptionTable.toList = tableOf [] → lv_has ls L (lv_args 0 av) → zS G ws s s.heap [] →
      (∀ (H : Heap) (locs : List Loc) (cells slots pc : Nat) (ls : Array Slot) (rest : List Value) (q : Nat) (ce : Cell), zT9 E G (B q) s H locs q ce → (∀ x ∈ tableOf [], covers x pc = false) → cells ≤ mc → slots ≤ ms → vx_W p l e (zR k mc ms) s m args below meth c H locs cells slots Q (F0 m pc ls rest) q) →
      W p l e (zR k mc ms) s m args below meth c s.heap [] 0 0 Q (F0 m 0 ls [])) : zTh G l y b L r k mc ms av ws E B := by
  refine vx_ofW (cc := b) (maxL := L) (ret := r) hy rfl ?_
  intro p e s m args below meth c s₁ B9 hml htb hv
  obtain ⟨rfl, hP, hD, hK, hN⟩ := hv
  have hts := atoms_spec (ws := ws_ y b L r) B9.pre
  have hts : ∀ w ∈ lw_all, w.before _ s = true := fun w h => hts w (List.mem_cons_of_mem _ h)
  have hown : s.vm.findClass y.cls = some m.cls := findClass_of_methodNamed B9.named
  have htb' : c.exceptionTable.toList = tableOf [] := List.eq_nil_iff_forall_not_mem.mpr htb
  rw [lg_entry_eq]
  have hC : zCx G y.cls b L p s m av.toArray meth c := ⟨B9.exec, B9.bytes, hml, hown, hts, B9.notSynchronized, hK, hN⟩
  exact body p e s m _ below meth c _ _ rfl hC htb' (lv_entry av hL) ⟨hP, hD, va_S.rf⟩ (fun H locs cells slots pc ls rest q ce a1 a2 a3 a4 => z_endX hC htb' a1 a2 a3 a4)
theorem z_begXW {E : String} {B : Nat → va_W} {hh : List (Nat × Nat × Nat × Nat)} (hy : plainName y.cls = true) (hL : (lg_sl av).length ≤ L)
    (body : ∀ (p : Program) (e : Env) (s : State) (m : MethodId) (args : Array Value) (below : List Frame) (meth : Method) (c : Code) (ls : Array Slot) (Q : State → Prop), Q = vx_MQ below zQ0 (zXC G E B) args s mc ms (zA G) → zCx G y.cls b L p s m args meth c → c.exceptionTable.toList = tableOf hh → lv_has ls L (lv_args 0 av) → zS G ws s s.heap [] →
      (∀ (H : Heap) (locs : List Loc) (cells slots pc : Nat) (ls : Array Slot) (rest : List Value) (q : Nat) (ce : Cell), zT9 E G (B q) s H locs q ce → (∀ x ∈ tableOf hh, covers x pc = false) → cells ≤ mc → slots ≤ ms → vx_W p l e (zR k mc ms) s m args below meth c H locs cells slots Q (F0 m pc ls rest) q) →
      W p l e (zR k mc ms) s m args below meth c s.heap [] 0 0 Q (F0 m 0 ls [])) : zThW G l y b L r hh k mc ms av ws E B := by
  refine vx_ofWH (cc := b) (maxL := L) (ret := r) (hh := hh) hy rfl ?_
  intro p e s m args below meth c s₁ B9 hml hv
  obtain ⟨rfl, hP, hD, hK, hN⟩ := hv
  have hts0 := atoms_spec (ws := wsW_ y b L r hh) B9.pre
  have hts : ∀ w ∈ lw_all, w.before _ s = true := fun w h => hts0 w (List.mem_cons_of_mem _ h)
  have hown : s.vm.findClass y.cls = some m.cls := findClass_of_methodNamed B9.named
  have htb := vx_table (x := y) B9 (hts0 _ List.mem_cons_self)
  rw [lg_entry_eq]
  have hC : zCx G y.cls b L p s m av.toArray meth c := ⟨B9.exec, B9.bytes, hml, hown, hts, B9.notSynchronized, hK, hN⟩
  exact body p e s m _ below meth c _ _ rfl hC htb (lv_entry av hL) ⟨hP, hD, va_S.rf⟩ (fun H locs cells slots pc ls rest q ce a1 a2 a3 a4 => z_endX hC htb a1 a2 a3 a4)
theorem z_startW {Qc : Array Value → State → Outcome → State → Prop} {hh : List (Nat × Nat × Nat × Nat)} (hy : plainName y.cls = true) (hL : (lg_sl av).length ≤ L)
    (body : ∀ (p : Program) (e : Env) (s : State) (m : MethodId) (below : List Frame) (meth : Method) (c : Code) (ls : Array Slot), zCx G y.cls b L p s m av.toArray meth c → c.exceptionTable.toList = tableOf hh → meth.sig.returnType = r → meth.name = y.name → lv_has ls L (lv_args 0 av) → zS G ws s s.heap [] →
      W p l e (zR k mc ms) s m av.toArray below meth c s.heap [] 0 0 (MQ below Qc av.toArray s mc ms (zA G)) (F0 m 0 ls [])) : Met l y (wsW_ y b L r hh) (zR k mc ms) (va_Pc av (zU G ws)) Qc mc ms (zA G) := by
  refine va_MetW (cc := b) (maxL := L) (ret := r) (hh := hh) hy rfl ?_
  intro p e s m args below meth c s₁ B9 hml hv
  obtain ⟨rfl, hP, hD, hK, hN⟩ := hv
  have hts0 := atoms_spec (ws := wsW_ y b L r hh) B9.pre
  have hts : ∀ w ∈ lw_all, w.before _ s = true := fun w h => hts0 w (List.mem_cons_of_mem _ h)
  have hown : s.vm.findClass y.cls = some m.cls := findClass_of_methodNamed B9.named
  rw [lg_entry_eq]
  exact body p e s m below meth c _ ⟨B9.exec, B9.bytes, hml, hown, hts, B9.notSynchronized, hK, hN⟩ (vx_table (x := y) B9 (hts0 _ List.mem_cons_self)) B9.returns (name_of_methodNamed B9.named B9.method).1 (lv_entry av hL) ⟨hP, hD, va_S.rf⟩
theorem z_begIW {S : Type} {post : Int32 → S → Prop} {B : S → va_W} {hh : List (Nat × Nat × Nat × Nat)} (hy : plainName y.cls = true) (hL : (lg_sl av).length ≤ L)
    (body : ∀ (p : Program) (e : Env) (s : State) (m : MethodId) (args : Array Value) (below : List Frame) (meth : Method) (c : Code) (ls : Array Slot) (Q : State → Prop), zCx G y.cls b L p s m args meth c → c.exceptionTable.toList = tableOf hh → lv_has ls L (lv_args 0 av) → zS G ws s s.heap [] →
      (∀ (H : Heap) (locs : List Loc) (cells slots pc : Nat) (ls : Array Slot) (v : Int32) (u : S), zS G (B u) s H locs → post v u → cells ≤ mc → slots ≤ ms → decode b pc = .ok (.ireturn, 1) → W p l e (zR k mc ms) s m args below meth c H locs cells slots Q (F0 m pc ls [.int v])) →
      W p l e (zR k mc ms) s m args below meth c s.heap [] 0 0 Q (F0 m 0 ls [])) : zWi G l y b L (some .int) hh k mc ms av ws post B := by
  refine z_startW hy hL (fun p e s m below meth c ls hC htb hr hnm hl hw => body p e s m _ below meth c ls _ hC htb hl hw ?_)
  intro H locs cells slots pc ls v u h1 h2 h3 h4 h5
  exact z_iret hC hr u h1 h2 h3 h4 h5
theorem z_begVW {S : Type} {post : S → Prop} {B : S → va_W} {hh : List (Nat × Nat × Nat × Nat)} (hy : plainName y.cls = true) (hL : (lg_sl av).length ≤ L)
    (body : ∀ (p : Program) (e : Env) (s : State) (m : MethodId) (args : Array Value) (below : List Frame) (meth : Method) (c : Code) (ls : Array Slot) (Q : State → Prop), zCx G y.cls b L p s m args meth c → c.exceptionTable.toList = tableOf hh → meth.name = y.name → lv_has ls L (lv_args 0 av) → zS G ws s s.heap [] →
      (∀ (H : Heap) (locs : List Loc) (cells slots pc : Nat) (ls : Array Slot) (u : S), zS G (B u) s H locs → post u → cells ≤ mc → slots ≤ ms → decode b pc = .ok (.return_, 1) → W p l e (zR k mc ms) s m args below meth c H locs cells slots Q (F0 m pc ls [])) →
      W p l e (zR k mc ms) s m args below meth c s.heap [] 0 0 Q (F0 m 0 ls [])) : zWv G l y b L hh k mc ms av ws post B := by
  refine z_startW hy hL (fun p e s m below meth c ls hC htb hr hnm hl hw => body p e s m _ below meth c ls _ hC htb hnm hl hw ?_)
  intro H locs cells slots pc ls u h1 h2 h3 h4 h5
  exact z_vret hC hr u h1 h2 h3 h4 h5
end ZB
theorem exM_tbl : ∀ w ∈ vx_atM "java/lang/ClassCastException" ["java/lang/RuntimeException", "java/lang/Exception"], w ∈ lw_tbl := by decide +kernel
theorem exM_ot : ∀ w ∈ vx_atM "java/lang/ClassCastException" ["java/lang/RuntimeException", "java/lang/Exception"], vx_ot w = true := by decide +kernel
