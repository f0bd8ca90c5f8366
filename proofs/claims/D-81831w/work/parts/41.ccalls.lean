/-! COMPONENT, rows: copying, calls of nest mates, by super, by an interface, of what a class above declares -/
set_option maxRecDepth 100000
def zNat : Prop := Cond.native arraycopyName ∈ lw_all ∧ Cond.static arraycopyName ∈ lw_all ∧ Cond.initialized "java/lang/System" ∈ lw_all
/-- links: of a nest mate's own method; of a method named in one class and found in another -/
def zNs (y : MethodName) (b : ByteArray) (L : Nat) (r : Option FieldType) (n : Nat) : Prop := Cond.code y b L r ∈ lw_all ∧ Cond.initialized y.cls ∈ lw_all ∧ zNot y ∧ (parseMethodDescriptor y.desc).map (fun d => d.parameters.length) = some n
section ZD
variable {p : Program} {l : Launch} {e : Env} {R : Room} {s : State} {m : MethodId} {args : Array Value} {below : List Frame} {meth : Method} {c : Code} {H : Heap} {locs : List Loc} {cells slots : Nat} {Q : State → Prop}
variable {cc : ByteArray} {pc : Nat} {ls : Array Slot} {rest st0 : List Value} {G : zE} {ws wc : va_W} {own : String} {nL : Nat} {a : Nat}
theorem z_copyI {idx t n0 n1 sp dp n a0 : Nat} {ty : FieldType} {f g h : Nat → Int32} (hC : zCx G own cc nL p s m args meth c) (hls : ls.size = nL) (hl : Cond.methodLink own idx arraycopyName ∈ lw_all) (hN : zNat) (hw : zS G ws s H locs) (q0 q1 : Nat) (ha0 : ws[q0]? = some (a0, zc G t (zI n0 f))) (ha1 : ws[q1]? = some (a, zc G t (zI n1 g))) (ht : ∀ d, (zT d)[t]? = some (d t, ty)) (hp : refKind ty = false) (h4 : sp + n ≤ n0) (h5 : dp + n ≤ n1) (h0 : n0 < 65536) (h1 : n1 < 65536) (hfit : ∀ i, i < n → fits ty (.int (f (sp + i))) = true) (hx : va_cpy f g sp dp n = h) (hcat : (rest.map fun v => v.category).sum ≤ 8) (hR : 1 ≤ R.frames ∧ 40 ≤ R.locals) (hdg : decode cc pc = .ok (.invokestatic idx, 3))
    (kk : ∀ (H1 : Heap) (locs1 : List Loc), zS G (ws.set q1 (a, zc G t (zI n1 h))) s H1 locs1 → W p l e R s m args below meth c H1 locs1 cells slots Q (F0 m (pc + 3) ls rest)) : W p l e R s m args below meth c H locs cells slots Q (F0 m pc ls (.int (nI n) :: .int (nI dp) :: .ref a :: .int (nI sp) :: .ref a0 :: rest)) := by
  subst hx
  have c1 : (nI sp).toNatClampNeg = sp := nI_clamp (by omega)
  have c2 : (nI dp).toNatClampNeg = dp := nI_clamp (by omega)
  have c3 : (nI n).toNatClampNeg = n := nI_clamp (by omega)
  refine va_copyi hC.hx hC.hb (hC.hml.trans hls.symm) hC.hown (hC.hts _ hl) (hC.hts _ hN.1) (hC.hts _ hN.2.1) (hC.hts _ hN.2.2) hC.hK hw.1 hw.2.1 hw.2.2 q0 q1 t t ha0 ha1 (ht _) (ht _) hp (nI_pos (by omega)) (nI_pos (by omega)) (nI_pos (by omega)) (by rw [c1, c3]; exact h4) (by rw [c2, c3]; exact h5) (by rw [c1, c3]; exact hfit) hR.1 (Nat.le_trans (Nat.add_le_add_right hcat _) (Nat.le_trans (by decide) hR.2)) hdg (fun H1 locs1 a1 a2 a3 => kk H1 locs1 ?_)
  rw [c1, c2, c3] at a1 a2
  exact ⟨a1, a2, a3⟩
theorem z_copyQ {idx t n0 n1 sp dp n a0 : Nat} {E : String} {f g h : Nat → Option Nat} (hC : zCx G own cc nL p s m args meth c) (hls : ls.size = nL) (hl : Cond.methodLink own idx arraycopyName ∈ lw_all) (hN : zNat) (hw : zS G ws s H locs) (q0 q1 : Nat) (ha0 : ws[q0]? = some (a0, zc G t (zO n0 f))) (ha1 : ws[q1]? = some (a, zc G t (zO n1 g))) (ht : ∀ d, (zT d)[t]? = some (d t, .object E)) (h4 : sp + n ≤ n0) (h5 : dp + n ≤ n1) (h0 : n0 < 65536) (h1 : n1 < 65536) (hel : ∀ i : Nat, i < n → ∀ y : Nat, f (sp + i) = some y → va_Any E s H y) (hx : va_cpy f g sp dp n = h) (hcat : (rest.map fun v => v.category).sum ≤ 8) (hR : 1 ≤ R.frames ∧ 40 ≤ R.locals) (hdg : decode cc pc = .ok (.invokestatic idx, 3))
    (kk : ∀ (H1 : Heap) (locs1 : List Loc), zS G (ws.set q1 (a, zc G t (zO n1 h))) s H1 locs1 → W p l e R s m args below meth c H1 locs1 cells slots Q (F0 m (pc + 3) ls rest)) : W p l e R s m args below meth c H locs cells slots Q (F0 m pc ls (.int (nI n) :: .int (nI dp) :: .ref a :: .int (nI sp) :: .ref a0 :: rest)) := by
  subst hx
  have c1 : (nI sp).toNatClampNeg = sp := nI_clamp (by omega)
  have c2 : (nI dp).toNatClampNeg = dp := nI_clamp (by omega)
  have c3 : (nI n).toNatClampNeg = n := nI_clamp (by omega)
  refine va_copyM hC.hx hC.hb (hC.hml.trans hls.symm) hC.hown (hC.hts _ hl) (hC.hts _ hN.1) (hC.hts _ hN.2.1) (hC.hts _ hN.2.2) hC.hK hw.1 hw.2.1 hw.2.2 q0 q1 t t ha0 ha1 (ht _) (ht _) (nI_pos (by omega)) (nI_pos (by omega)) (nI_pos (by omega)) (by rw [c1, c3]; exact h4) (by rw [c2, c3]; exact h5) (by rw [c1, c3]; exact hel) hR.1 (Nat.le_trans (Nat.add_le_add_right hcat _) (Nat.le_trans (by decide) hR.2)) hdg (fun H1 locs1 a1 a2 a3 => kk H1 locs1 ?_)
  rw [c1, c2, c3] at a1 a2
  exact ⟨a1, a2, a3⟩
variable {y x : MethodName} {bytes : ByteArray} {maxL k mc ms n index : Nat} {ret : Option FieldType} {Qc : Array Value → State → Outcome → State → Prop} {As : List Value} {b : Nat}
theorem z_runVN {ci : Nat} {fs : List Value} {qc : vw_C} {host : String} (hC : zCx G own cc nL p s m args meth c) (hv : zNs y bytes maxL ret n ∧ Cond.instanceMethod y ∈ lw_all ∧ Cond.selects y.cls y y ∈ lw_all) (hl : va_Nw (.methodLinkNest own index y host) s) (hM : Met l y (ws_ y bytes maxL ret) (zR k mc ms) (va_Pc (.ref b :: As) (zU G wc)) Qc mc ms (zA G)) (hw : zS G ws s H locs) (hwc : zS G wc s H locs) (q0 : Nat) (he : ws[q0]? = some (b, zo ci fs)) (hc : zcl[ci]? = some qc) (hqc : qc.1 = y.cls) (hlen : As.length = n) (hst : st0 = As.reverse ++ .ref b :: rest) (hcat : (rest.map fun v => v.category).sum ≤ 8) (hls : ls.size = nL)
    (hR : k + 1 ≤ R.frames ∧ 8 + (maxL + 11) + 40 * k ≤ R.locals) (hf : cells + mc ≤ R.cells ∧ slots + ms ≤ R.slots) (hdg : decode cc pc = .ok (.invokevirtual index, 3)) :
    va_Run p l e R s m args below meth c H locs cells slots mc ms (F0 m pc ls st0) rest (Qc (Value.ref b :: As).toArray) (zA G) := by
  subst hst
  obtain ⟨⟨h1, h2, h3, h4⟩, h5, h6⟩ := hv
  exact va_runVN (C := y.cls) (As := As) (rest := rest) hC.fix hM ⟨va_cnB n hC.hts (lw_meth h1) rfl rfl rfl hl (hC.hts _ h2) ⟨h3.1, h3.2, h4⟩ hR, hC.hts _ h5, hC.hts _ h6⟩ ⟨zU_blind, by rw [← hqc]; exact va_recv hC.hK hw.1 hc he, fun U hU hW => ⟨rfl, zU_of hwc hC.hK hC.hN hU hW⟩⟩ rfl hlen hls rfl (lv_room hcat) hdg hf
theorem z_runSN {host : String} (hC : zCx G own cc nL p s m args meth c) (hv : zNs y bytes maxL ret n ∧ Cond.static y ∈ lw_all) (hl : va_Nw (.methodLinkNest own index y host) s) (hM : Met l y (ws_ y bytes maxL ret) (zR k mc ms) (va_Pc As (zU G wc)) Qc mc ms (zA G)) (hwc : zS G wc s H locs) (hlen : As.length = n) (hst : st0 = As.reverse ++ rest) (hcat : (rest.map fun v => v.category).sum ≤ 8) (hls : ls.size = nL)
    (hR : k + 1 ≤ R.frames ∧ 8 + (maxL + 11) + 40 * k ≤ R.locals) (hf : cells + mc ≤ R.cells ∧ slots + ms ≤ R.slots) (hdg : decode cc pc = .ok (.invokestatic index, 3)) :
    va_Run p l e R s m args below meth c H locs cells slots mc ms (F0 m pc ls st0) rest (Qc As.toArray) (zA G) := by
  subst hst
  obtain ⟨⟨h1, h2, h3, h4⟩, h5⟩ := hv
  exact va_runSN (As := As) (rest := rest) hC.fix hM ⟨va_cnB n hC.hts (lw_meth h1) rfl rfl rfl hl (hC.hts _ h2) ⟨h3.1, h3.2, h4⟩ hR, hC.hts _ h5, trivial⟩ ⟨zU_blind, fun U hU hW => ⟨rfl, zU_of hwc hC.hK hC.hN hU hW⟩⟩ rfl hlen hls rfl (lv_room hcat) hdg hf
theorem z_runIN {host : String} (hC : zCx G own cc nL p s m args meth c) (hv : zNs y bytes maxL none n ∧ Cond.instanceMethod y ∈ lw_all ∧ y.name = "<init>") (hl : va_Nw (.methodLinkNest own index y host) s) (hM : Met l y (ws_ y bytes maxL none) (zR k mc ms) (va_Pc (.ref b :: As) (zU G wc)) Qc mc ms (zA G)) (hwc : zS G wc s H locs) (hlen : As.length = n) (hst : st0 = As.reverse ++ .ref b :: rest) (hcat : (rest.map fun v => v.category).sum ≤ 8) (hls : ls.size = nL)
    (hR : k + 1 ≤ R.frames ∧ 8 + (maxL + 11) + 40 * k ≤ R.locals) (hf : cells + mc ≤ R.cells ∧ slots + ms ≤ R.slots) (hdg : decode cc pc = .ok (.invokespecial index, 3)) :
    va_Run p l e R s m args below meth c H locs cells slots mc ms (F0 m pc ls st0) rest (Qc (Value.ref b :: As).toArray) (zA G) := by
  subst hst
  obtain ⟨⟨h1, h2, h3, h4⟩, h5, h6⟩ := hv
  exact va_runIN (As := As) (rest := rest) hC.fix hM ⟨va_cnB n hC.hts (lw_meth h1) rfl rfl rfl hl (hC.hts _ h2) ⟨h3.1, h3.2, h4⟩ hR, h6, hC.hts _ h5⟩ ⟨zU_blind, fun U hU hW => ⟨rfl, zU_of hwc hC.hK hC.hN hU hW⟩⟩ rfl hlen hls rfl (lv_room hcat) hdg hf
/-- super.m(..), of an object of class C -/
theorem z_runSU {ci : Nat} {fs : List Value} {qc : vw_C} (hC : zCx G own cc nL p s m args meth c) (hv : GoodIn lw_all (va_wsSU own index y (ws_ y bytes maxL ret)) ∧ y.name ≠ "<init>" ∧ (parseMethodDescriptor y.desc).map (fun d => d.parameters.length) = some n) (hM : Met l y (ws_ y bytes maxL ret) (zR k mc ms) (va_Pc (.ref b :: As) (zU G wc)) Qc mc ms (zA G)) (hw : zS G ws s H locs) (hwc : zS G wc s H locs) (q0 : Nat) (he : ws[q0]? = some (b, zo ci fs)) (hc : zcl[ci]? = some qc) (hlen : As.length = n) (hst : st0 = As.reverse ++ .ref b :: rest) (hcat : (rest.map fun v => v.category).sum ≤ 8) (hls : ls.size = nL)
    (hR : k + 1 ≤ R.frames ∧ 8 + (maxL + 11) + 40 * k ≤ R.locals) (hf : cells + mc ≤ R.cells ∧ slots + ms ≤ R.slots) (hdg : decode cc pc = .ok (.invokespecial index, 3)) :
    va_Run p l e R s m args below meth c H locs cells slots mc ms (F0 m pc ls st0) rest (Qc (Value.ref b :: As).toArray) (zA G) := by
  subst hst
  obtain ⟨cell, r1, r2, r3⟩ := va_recv hC.hK hw.1 hc he
  exact va_runSU (C := qc.1) (As := As) (rest := rest) ⟨(hC.hK.1 ci qc hc).2.1, (hC.hK.1 ci qc hc).2.2⟩ hC.fix hM (va_cwSU n hC.hts hv.1 rfl rfl rfl hv.2 hR) ⟨zU_blind, ⟨cell, r1, r2, r3⟩, fun U hU hW => ⟨rfl, zU_of hwc hC.hK hC.hN hU hW⟩⟩ rfl hlen hls rfl (lv_room hcat) hdg hf
/-- a call whose method is named in a class above, and found by the object's class C -/
theorem z_runA {ci : Nat} {fs : List Value} {qc : vw_C} {owner : String} (hC : zCx G own cc nL p s m args meth c) (hv : GoodIn lw_all (va_wsU own index qc.1 owner x y (ws_ y bytes maxL ret)) ∧ (owner ≠ "java/lang/invoke/MethodHandle" ∧ owner ≠ "java/lang/invoke/VarHandle") ∧ (parseMethodDescriptor x.desc).map (fun d => d.parameters.length) = some n) (hz : va_Nw (.declares ⟨owner, x.name, x.desc⟩) s) (hM : Met l y (ws_ y bytes maxL ret) (zR k mc ms) (va_Pc (.ref b :: As) (zU G wc)) Qc mc ms (zA G)) (hw : zS G ws s H locs) (hwc : zS G wc s H locs) (q0 : Nat) (he : ws[q0]? = some (b, zo ci fs)) (hc : zcl[ci]? = some qc) (hlen : As.length = n) (hst : st0 = As.reverse ++ .ref b :: rest) (hcat : (rest.map fun v => v.category).sum ≤ 8) (hls : ls.size = nL)
    (hR : k + 1 ≤ R.frames ∧ 8 + (maxL + 11) + 40 * k ≤ R.locals) (hf : cells + mc ≤ R.cells ∧ slots + ms ≤ R.slots) (hdg : decode cc pc = .ok (.invokevirtual index, 3)) :
    va_Run p l e R s m args below meth c H locs cells slots mc ms (F0 m pc ls st0) rest (Qc (Value.ref b :: As).toArray) (zA G) := by
  subst hst
  exact va_runU (C := qc.1) (As := As) (rest := rest) hC.fix hM (va_cwA n hC.hts hv.1 rfl rfl rfl hz ⟨hv.2.1.1, hv.2.1.2, hv.2.2⟩ hR) ⟨zU_blind, va_recv hC.hK hw.1 hc he, fun U hU hW => ⟨rfl, zU_of hwc hC.hK hC.hN hU hW⟩⟩ rfl hlen hls rfl (lv_room hcat) hdg hf
end ZD
