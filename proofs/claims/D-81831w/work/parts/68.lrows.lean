/-! LISTS, rows: fields of one name; calls by an interface; constants of the run -/
set_option maxRecDepth 100000
/-- as zFl, k's name its own -/
def zFu (ci k : Nat) (own : String) (idx : Nat) (fin : Bool) (ty : FieldType) : Prop := ∃ (C : String) (T : u_T) (N : Nat) (tyf : Nat → FieldType), zcl[ci]? = some (C, T, N) ∧ k < N ∧ (∀ w ∈ u_ws C T N, w ∈ lw_all) ∧ (∃ ref : String, Cond.fieldLink own idx ref (T k).2.1 (T k).2.2.1 ∈ lw_all ∧ (ref = (T k).1 ∨ Cond.sameField ref (T k).1 (T k).2.1 (T k).2.2.1 ∈ lw_all)) ∧ (T k).2.2.2 = fin ∧ parseFieldDescriptor (T k).2.2.1 = some ty ∧ (∀ j, j < N → parseFieldDescriptor (T j).2.2.1 = some (tyf j))
/-- the empty array's place; where constants lie, what the statics hold -/
def cV (G : zE) (kA : Nat → Nat) (U : State) : Prop :=
  (va_Z "java/util/ArrayList" "DEFAULTCAPACITY_EMPTY_ELEMENTDATA" "[Ljava/lang/Object;" (.ref (kA 5)) (zA G) U U.heap ∧ va_T (.object "java/lang/Object") (kA 5) 0 (fun _ => .null) (zA G) U U.heap) ∧
  (va_Z "java/lang/Integer$IntegerCache" "high" "I" (.int 127) (zA G) U U.heap ∧ va_Z "java/lang/Integer$IntegerCache" "cache" "[Ljava/lang/Integer;" (.ref (kA 1)) (zA G) U U.heap ∧ va_T (.object "java/lang/Integer") (kA 1) 256 (fun j => .ref (kA (100 + j))) (zA G) U U.heap ∧ ∀ j, j < 256 → va_O "java/lang/Integer" (kA (100 + j)) (zA G) U U.heap ∧ va_OF "java/lang/Integer" "value" "I" (.int (vb_c j)) (kA (100 + j)) (zA G) U U.heap) ∧
  (va_Z "java/lang/Byte$ByteCache" "cache" "[Ljava/lang/Byte;" (.ref (kA 2)) (zA G) U U.heap ∧ va_T (.object "java/lang/Byte") (kA 2) 256 (fun j => .ref (kA (400 + j))) (zA G) U U.heap ∧ ∀ j, j < 256 → va_O "java/lang/Byte" (kA (400 + j)) (zA G) U U.heap ∧ va_OF "java/lang/Byte" "value" "B" (.int (vb_c j)) (kA (400 + j)) (zA G) U U.heap) ∧
  va_Mi "[Ljava/lang/Object;" (kA 6) U ∧ va_Dc U
def zV (G : zE) (kA : Nat → Nat) : Prop := ∀ U : State, G.2.2.2 U → cV G kA U
section ZX
variable {p : Program} {l : Launch} {e : Env} {R : Room} {s : State} {m : MethodId} {args : Array Value} {below : List Frame} {meth : Method} {c : Code} {H : Heap} {locs : List Loc} {cells slots : Nat} {Q : State → Prop}
variable {cc : ByteArray} {pc : Nat} {ls : Array Slot} {rest st0 : List Value} {G : zE} {ws wc : va_W} {own : String} {nL : Nat} {a : Nat}
theorem z_same {T1 ref n d : String} (hC : zCx G own cc nL p s m args meth c) (h : ref = T1 ∨ Cond.sameField ref T1 n d ∈ lw_all) : ∀ x, s.fieldFound? T1 n d = some x → s.fieldFound? ref n d = some x := by
  rcases h with rfl | h
  · exact fun _ h => h
  · exact fun x hx => u_same (hC.hts _ h) x hx
theorem z_getU {ci k idx : Nat} {fin : Bool} {ty : FieldType} {fs : List Value} {v : Value} (hC : zCx G own cc nL p s m args meth c) (hF : zFu ci k own idx fin ty) (hw : zS G ws s H locs) (q0 : Nat) (he : ws[q0]? = some (a, zo ci fs)) (hv : fs[k]? = some v) (hdg : decode cc pc = .ok (.getfield idx, 3))
    (kk : W p l e R s m args below meth c H locs cells slots Q (F0 m (pc + 3) ls (v :: rest))) : W p l e R s m args below meth c H locs cells slots Q (F0 m pc ls (.ref a :: rest)) := by
  obtain ⟨C, T, N, tyf, h1, h2, h3, ⟨ref, h4, h4'⟩, h5, h6, h7⟩ := hF
  exact va_get hC.hx hC.hb hC.hts h3 hC.hown hC.hK hw.1 q0 he h1 k h2 (hC.hts _ h4) (z_same hC h4') hv hdg kk
theorem z_slot {ci : Nat} {C : String} {T : u_T} {N : Nat} {tyf : Nat → FieldType} (hC : zCx G own cc nL p s m args meth c) (hc : zcl[ci]? = some (C, T, N)) (hin : ∀ w ∈ u_ws C T N, w ∈ lw_all) (hty : ∀ j, j < N → parseFieldDescriptor (T j).2.2.1 = some (tyf j)) {x y : Nat} (hx : x < N) (hy : y < N) (hne : (T x).2.1 ≠ (T y).2.1) : (G.1.2 ci) x ≠ (G.1.2 ci) y := by
  obtain ⟨hS, -⟩ := hC.hK.1 ci _ hc
  obtain ⟨_, _, _, fa, hia, ea⟩ := hS x hx
  obtain ⟨_, _, _, fb, hib, eb⟩ := hS y hy
  rw [← ea, ← eb]
  refine u_apart (u_lays hC.hts hin hx) (u_lays hC.hts hin hy) hia hib ?_
  rw [(State.fieldFound?_type hia (hty x hx)).1, (State.fieldFound?_type hib (hty y hy)).1]
  exact hne
theorem z_set1 {cell : Cell} {N : Nat} {iS : Nat → Nat} {V : Nat → Value} (h : ∀ k, k < N → cell.slots[iS k]? = some (V k)) {k : Nat} (hap : ∀ a, a < N → a ≠ k → iS k ≠ iS a) (hk : k < N) (v : Value) : ∀ j, j < N → (cell.setSlot (iS k) v).slots[iS j]? = some (updV V k v j) := by
  intro j hj
  by_cases hjk : j = k
  · subst hjk
    rw [Cell.slots_setSlot_self _ (k2_hasslot (h j hj))]
    simp [updV]
  · rw [slot_ne _ _ (hap j hj hjk), h j hj]
    simp [updV, hjk]
/-- an int field whose name is its own -/
theorem z_putU {ci k idx : Nat} {fs : List Value} {x : Int32} (hC : zCx G own cc nL p s m args meth c) (hF : zFu ci k own idx false .int) (hnm : ∀ q, zcl[ci]? = some q → ∀ a, a < q.2.2 → a ≠ k → (q.2.1 k).2.1 ≠ (q.2.1 a).2.1) (hw : zS G ws s H locs) (q0 : Nat) (he : ws[q0]? = some (a, zo ci fs)) (hl : k < fs.length) (hdg : decode cc pc = .ok (.putfield idx, 3))
    (kk : ∀ (H1 : Heap) (locs1 : List Loc), zS G (ws.set q0 (a, zo ci (fs.set k (.int x)))) s H1 locs1 → W p l e R s m args below meth c H1 locs1 cells slots Q (F0 m (pc + 3) ls rest)) : W p l e R s m args below meth c H locs cells slots Q (F0 m pc ls (.int x :: .ref a :: rest)) := by
  obtain ⟨C, T, N, tyf, h1, h2, h3, ⟨ref, h4, h4'⟩, h5, h6, h7⟩ := hF
  obtain ⟨hP, hD, hS0⟩ := hw
  have hnm := hnm _ h1
  obtain ⟨r, g1, cell, q1, q2, q3, q4⟩ := hP q0 _ he
  have hr : r = (C, T, N) := Option.some.inj (g1.symm.trans h1)
  subst hr
  have hap : ∀ a, a < N → a ≠ k → (G.1.2 ci) k ≠ (G.1.2 ci) a := fun a ha hne => z_slot hC h1 h3 h7 h2 ha (hnm a ha hne)
  obtain ⟨hS, hfc, kC, hkC, hkind⟩ := hC.hK.1 ci _ h1
  obtain ⟨cf, kf, fi, f, hi, hsl⟩ := hS k h2
  have hlay := hC.hts _ (h3 _ (u_in_lay h2))
  unfold u_lay at hlay
  rw [if_neg (by rw [h5]; decide)] at hlay
  have hst := (u_facts hfc hkC (u_lays hC.hts h3 h2) hi).1
  have h6 := u_store (v := .int x) hfc hkC hkind hlay hi h6 rfl rfl
  refine W.putK hC.hx hC.hb (f := f) ⟨hC.hown, hC.hts _ h4, ⟨_, _, _, z_same hC h4' _ hi⟩, hst⟩ (by rw [q2]; exact h6) q1 q3 (by rw [hsl]; exact k2_hasslot (q4 k h2)) rfl rfl hdg fun H' e1 e2 e3 => ?_
  rw [hsl] at e1 ⊢
  exact kk H' _ ⟨hP.set hD he ⟨_, h1, t_OB.to (V := updV (vp_V fs) k (.int x)) ⟨_, e1, q2, q3, z_set1 q4 hap h2 (.int x)⟩ (fun j _ => vp_updV_set hl (.int x) j)⟩ e3, hD.set he, hS0.put e2 e3 (hD.2 q0 _ he)⟩
/-- a final reference whose name another field (k2) has too -/
theorem z_putTw {ci k k2 idx v : Nat} {ty : FieldType} {fs : List Value} {v2 : Value} (hC : zCx G own cc nL p s m args meth c) (hF : zFu ci k own idx true ty) (hty : refKind ty = true) (hown : ∃ q, zcl[ci]? = some q ∧ (q.2.1 k).1 = own) (hin : meth.name = "<init>") (hnm : ∀ q, zcl[ci]? = some q → k2 < q.2.2 ∧ ∀ a, a < q.2.2 → a ≠ k → a ≠ k2 → (q.2.1 k).2.1 ≠ (q.2.1 a).2.1) (hk2 : k2 ≠ k) (hv2 : fs[k2]? = some v2) (hw : zS G ws s H locs) (q0 : Nat) (he : ws[q0]? = some (a, zo ci fs)) (hl : k < fs.length) (hdg : decode cc pc = .ok (.putfield idx, 3))
    (kk : ∀ (w : Value) (H1 : Heap) (locs1 : List Loc), (w = v2 ∨ w = .ref v) → zS G (ws.set q0 (a, zo ci ((fs.set k (.ref v)).set k2 w))) s H1 locs1 → W p l e R s m args below meth c H1 locs1 cells slots Q (F0 m (pc + 3) ls rest)) : W p l e R s m args below meth c H locs cells slots Q (F0 m pc ls (.ref v :: .ref a :: rest)) := by
  obtain ⟨C, T, N, tyf, h1, h2, h3, ⟨ref, h4, h4'⟩, h5, h6, h7⟩ := hF
  obtain ⟨q9, h9, h10⟩ := hown
  obtain ⟨hP, hD, hS0⟩ := hw
  obtain ⟨hk2N, hnm⟩ := hnm _ h1
  have e9 : q9 = (C, T, N) := Option.some.inj (h9.symm.trans h1)
  subst e9
  obtain ⟨r, g1, cell, q1, q2, q3, q4⟩ := hP q0 _ he
  have hr : r = (C, T, N) := Option.some.inj (g1.symm.trans h1)
  subst hr
  have hap : ∀ a, a < N → a ≠ k → a ≠ k2 → (G.1.2 ci) k ≠ (G.1.2 ci) a := fun a ha hne hne2 => z_slot hC h1 h3 h7 h2 ha (hnm a ha hne hne2)
  obtain ⟨hS, hfc, kC, hkC, hkind⟩ := hC.hK.1 ci _ h1
  obtain ⟨cf, kf, fi, f, hi, hsl⟩ := hS k h2
  have hlay := hC.hts _ (h3 _ (u_in_lay h2))
  unfold u_lay at hlay
  rw [if_pos h5] at hlay
  have hst := (u_facts hfc hkC (u_lays hC.hts h3 h2) hi).1
  have hcf : m.cls = cf := by
    obtain ⟨_, _, c', _, _, _, -, -, hf', -, -, -, hown2, -⟩ := Cond.laysFinal_spec hlay
    have e1 : c' = cf := by have := hi.symm.trans hf'; simp at this; exact this.1.symm
    rw [h10] at hown2
    rw [← e1]; exact Option.some.inj (hC.hown.symm.trans hown2)
  have hn : narrow ty (.ref v) = .ref v := by cases ty <;> first | rfl | exact absurd hty (by decide)
  have hfit : fits ty (.ref v) = true := by cases ty <;> first | rfl | exact absurd hty (by decide)
  have h6 := u_fits (v := .ref v) hfc hkC hkind (Or.inr hlay) hi h6 hn hfit
  refine W.putFinK hC.hx hC.hb hC.hown (hC.hts _ h4) (z_same hC h4' _ hi) hst hcf hin (by rw [q2]; exact h6) q1 q3 (by rw [hsl]; exact k2_hasslot (q4 k h2)) rfl rfl hdg fun H' e1 e2 e3 => ?_
  rw [hsl] at e1 ⊢
  have hk2l : k2 < fs.length := (List.getElem?_eq_some_iff.mp hv2).1
  have hV2 : vp_V fs k2 = v2 := by unfold vp_V; rw [List.getD_eq_getElem?_getD, hv2]; rfl
  have main : ∀ w : Value, (cell.setSlot ((G.1.2 ci) k) (.ref v)).slots[(G.1.2 ci) k2]? = some w → zS G (ws.set q0 (a, zo ci ((fs.set k (.ref v)).set k2 w))) s H' (locs ++ [⟨a, (G.1.2 ci) k⟩]) := by
    intro w hwv
    refine ⟨hP.set hD he ⟨_, h1, t_OB.to (V := updV (updV (vp_V fs) k (.ref v)) k2 w) ⟨_, e1, q2, q3, fun j hj => ?_⟩ (fun j _ => ?_)⟩ e3, hD.set he, hS0.put e2 e3 (hD.2 q0 _ he)⟩
    · by_cases j2 : j = k2
      · subst j2; rw [hwv]; simp [updV]
      · by_cases jk : j = k
        · subst jk
          rw [Cell.slots_setSlot_self _ (k2_hasslot (q4 j hj))]; simp [updV, j2]
        · rw [slot_ne _ _ (hap j hj jk j2), q4 j hj]; simp [updV, j2, jk]
    · rw [← vp_updV_set (by rw [List.length_set]; exact hk2l) w j]
      unfold updV
      split
      · rfl
      · exact vp_updV_set hl (.ref v) j
  by_cases hsame : (G.1.2 ci) k = (G.1.2 ci) k2
  · exact kk (.ref v) H' _ (Or.inr rfl) (main _ (by rw [← hsame]; exact Cell.slots_setSlot_self _ (k2_hasslot (q4 k h2))))
  · exact kk v2 H' _ (Or.inl rfl) (main _ (by rw [slot_ne _ _ hsame, q4 k2 hk2N]; exact congrArg some hV2))
/-! calls by an interface -/
variable {x y : MethodName} {bytes : ByteArray} {maxL k mc ms n index count : Nat} {ret : Option FieldType} {Qc : Array Value → State → Outcome → State → Prop} {As : List Value} {b : Nat} {hh : List (Nat × Nat × Nat × Nat)} {C : String}
/-- links of a call by an interface -/
def zIf (own : String) (index : Nat) (C : String) (x y : MethodName) (n : Nat) : Prop := Cond.methodLink own index x ∈ lw_all ∧ Cond.selects C x y ∈ lw_all ∧ Cond.instanceMethod y ∈ lw_all ∧ Cond.initialized y.cls ∈ lw_all ∧ zNot x ∧ (parseMethodDescriptor x.desc).map (fun d => d.parameters.length) = some n
theorem z_wsF (h : zIf own index C x y n) {ws : List Cond} (hg : GoodIn lw_all ws) : GoodIn lw_all (va_wsF own index C x y ws) := by
  obtain ⟨h1, h2, h3, h4, -, -⟩ := h
  refine lw_app ?_ hg
  intro w hw
  simp only [List.mem_cons, List.not_mem_nil, or_false] at hw
  rcases hw with e | e | e | e
  · rw [e]; exact h1
  · rw [e]; exact h2
  · rw [e]; exact h3
  · rw [e]; exact h4
theorem z_runF {ci : Nat} {fs : List Value} {qc : vw_C} (hC : zCx G own cc nL p s m args meth c) (hv : zIf own index C x y n) (hcd : Cond.code y bytes maxL ret ∈ lw_all) (hF : va_Fw C x y s) (hM : Met l y (ws_ y bytes maxL ret) (zR k mc ms) (va_Pc (.ref b :: As) (zU G wc)) Qc mc ms (zA G)) (hw : zS G ws s H locs) (hwc : zS G wc s H locs) (q0 : Nat) (he : ws[q0]? = some (b, zo ci fs)) (hc : zcl[ci]? = some qc) (hqc : qc.1 = C) (hlen : As.length = n) (hst : st0 = As.reverse ++ .ref b :: rest) (hcat : (rest.map fun v => v.category).sum ≤ 8) (hls : ls.size = nL)
    (hR : k + 1 ≤ R.frames ∧ 8 + (maxL + 11) + 40 * k ≤ R.locals) (hf : cells + mc ≤ R.cells ∧ slots + ms ≤ R.slots) (hdg : decode cc pc = .ok (.invokeinterface index count, 5)) :
    va_Run5 p l e R s m args below meth c H locs cells slots mc ms (F0 m pc ls st0) rest (Qc (Value.ref b :: As).toArray) (zA G) := by
  subst hst hqc
  exact va_runF (As := As) (rest := rest) (hC.hK.1 ci qc hc).2 hC.fix hM (va_cwF n hC.hts (z_wsF hv (lw_meth hcd)) rfl rfl rfl hF ⟨hv.2.2.2.2.1.1, hv.2.2.2.2.1.2, hv.2.2.2.2.2⟩ hR) ⟨zU_blind, va_recv hC.hK hw.1 hc he, fun U hU hW => ⟨rfl, zU_of hwc hC.hK hC.hN hU hW⟩⟩ rfl hlen hls rfl (lv_room hcat) hdg hf
theorem z_runFW {ci : Nat} {fs : List Value} {qc : vw_C} (hC : zCx G own cc nL p s m args meth c) (hv : zIf own index C x y n) (hcd : Cond.codeWith y bytes maxL ret hh ∈ lw_all) (hF : va_Fw C x y s) (hM : Met l y (wsW_ y bytes maxL ret hh) (zR k mc ms) (va_Pc (.ref b :: As) (zU G wc)) Qc mc ms (zA G)) (hw : zS G ws s H locs) (hwc : zS G wc s H locs) (q0 : Nat) (he : ws[q0]? = some (b, zo ci fs)) (hc : zcl[ci]? = some qc) (hqc : qc.1 = C) (hlen : As.length = n) (hst : st0 = As.reverse ++ .ref b :: rest) (hcat : (rest.map fun v => v.category).sum ≤ 8) (hls : ls.size = nL)
    (hR : k + 1 ≤ R.frames ∧ 8 + (maxL + 11) + 40 * k ≤ R.locals) (hf : cells + mc ≤ R.cells ∧ slots + ms ≤ R.slots) (hdg : decode cc pc = .ok (.invokeinterface index count, 5)) :
    va_Run5 p l e R s m args below meth c H locs cells slots mc ms (F0 m pc ls st0) rest (Qc (Value.ref b :: As).toArray) (zA G) := by
  subst hst hqc
  exact va_runFW (hh := hh) (As := As) (rest := rest) (hC.hK.1 ci qc hc).2 hC.fix hM (va_cwFW n hC.hts (z_wsF hv (lw_methW hcd)) rfl rfl rfl hF ⟨hv.2.2.2.2.1.1, hv.2.2.2.2.1.2, hv.2.2.2.2.2⟩ hR) ⟨zU_blind, va_recv hC.hK hw.1 hc he, fun U hU hW => ⟨rfl, zU_of hwc hC.hK hC.hN hU hW⟩⟩ rfl hlen hls rfl (lv_room hcat) hdg hf
theorem z_runFT {E : String} {B : Nat → va_W} {ci : Nat} {fs : List Value} {qc : vw_C} (hC : zCx G own cc nL p s m args meth c) (hv : zIf own index C x y n) (hcd : Cond.codeWith y bytes maxL ret hh ∈ lw_all) (hF : va_Fw C x y s) (hM : zThW G l y bytes maxL ret hh k mc ms (.ref b :: As) wc E B) (hw : zS G ws s H locs) (hwc : zS G wc s H locs) (q0 : Nat) (he : ws[q0]? = some (b, zo ci fs)) (hc : zcl[ci]? = some qc) (hqc : qc.1 = C) (hlen : As.length = n) (hst : st0 = As.reverse ++ .ref b :: rest) (hcat : (rest.map fun v => v.category).sum ≤ 8) (hls : ls.size = nL)
    (hR : k + 1 ≤ R.frames ∧ 8 + (maxL + 11) + 40 * k ≤ R.locals) (hf : cells + mc ≤ R.cells ∧ slots + ms ≤ R.slots) (hdg : decode cc pc = .ok (.invokeinterface index count, 5)) :
    vx_Run5 p l e R s m args below meth c H locs cells slots mc ms (F0 m pc ls st0) rest (fun _ _ _ => False) (zXC G E B) (zA G) := by
  subst hst hqc
  exact vx_runFW (hh := hh) (As := As) (rest := rest) (hC.hK.1 ci qc hc).2 hC.fix hM (va_cwFW n hC.hts (z_wsF hv (lw_methW hcd)) rfl rfl rfl hF ⟨hv.2.2.2.2.1.1, hv.2.2.2.2.1.2, hv.2.2.2.2.2⟩ hR) ⟨zU_blind, va_recv hC.hK hw.1 hc he, fun U hU hW => ⟨rfl, zU_of hwc hC.hK hC.hN hU hW⟩⟩ rfl hlen hls rfl (lv_room hcat) hdg hf
theorem z_c5i {S : Type} {post : Int32 → S → Prop} {B B' : S → va_W} {av : Array Value} (hr : va_Run5 p l e R s m args below meth c H locs cells slots mc ms (F0 m pc ls st0) rest (va_Qi post (fun u t => zU G (B u) t) (zA G) av) (zA G)) (hw : zS G ws s H locs) (hB : ∀ u, (B u).Perm (B' u))
    (kk : ∀ (r : Int32) (u : S) (H1 : Heap) (locs1 : List Loc), post r u → zS G (B' u) s H1 locs1 → W p l e R s m args below meth c H1 locs1 (cells + mc) (slots + ms) Q (F0 m (pc + 5) ls (.int r :: rest))) : W p l e R s m args below meth c H locs cells slots Q (F0 m pc ls st0) :=
  va_callFi hr hw.2.2 (fun _ _ h => h) (fun _ h => h) (fun r u t H1 locs1 e1 _ hp h _ _ hS => kk r u H1 locs1 hp (z_back hB h e1 hS))
theorem z_c5v {S : Type} {post : S → Prop} {B B' : S → va_W} {av : Array Value} (hr : va_Run5 p l e R s m args below meth c H locs cells slots mc ms (F0 m pc ls st0) rest (va_Qv post (fun u t => zU G (B u) t) (zA G) av) (zA G)) (hw : zS G ws s H locs) (hB : ∀ u, (B u).Perm (B' u))
    (kk : ∀ (u : S) (H1 : Heap) (locs1 : List Loc), post u → zS G (B' u) s H1 locs1 → W p l e R s m args below meth c H1 locs1 (cells + mc) (slots + ms) Q (F0 m (pc + 5) ls rest)) : W p l e R s m args below meth c H locs cells slots Q (F0 m pc ls st0) :=
  va_callFv hr hw.2.2 (fun _ _ h => h) (fun _ h => h) (fun u t H1 locs1 e1 _ hp h _ _ hS => kk u H1 locs1 hp (z_back hB h e1 hS))
theorem z_c5q {S : Type} {post : Option Nat → S → Prop} {B B' : S → va_W} {av : Array Value} (hr : va_Run5 p l e R s m args below meth c H locs cells slots mc ms (F0 m pc ls st0) rest (va_Qq post (fun u t => zU G (B u) t) (zA G) av) (zA G)) (hw : zS G ws s H locs) (hB : ∀ u, (B u).Perm (B' u))
    (kk : ∀ (r : Option Nat) (u : S) (H1 : Heap) (locs1 : List Loc), post r u → zS G (B' u) s H1 locs1 → W p l e R s m args below meth c H1 locs1 (cells + mc) (slots + ms) Q (F0 m (pc + 5) ls (va_rf r :: rest))) : W p l e R s m args below meth c H locs cells slots Q (F0 m pc ls st0) :=
  va_callFq hr hw.2.2 (fun _ _ h => h) (fun _ h => h) (fun r u t H1 locs1 e1 _ hp h _ _ hS => kk r u H1 locs1 hp (z_back hB h e1 hS))
theorem z_ct5 {E : String} {B B' : Nat → va_W} (hr : vx_Run5 p l e R s m args below meth c H locs cells slots mc ms (F0 m pc ls st0) rest (fun _ _ _ => False) (zXC G E B) (zA G)) (hw : zS G ws s H locs) (hB : ∀ q, (B q).Perm (B' q))
    (kk : ∀ (q : Nat) (H1 : Heap) (locs1 : List Loc) (ce : Cell), zT9 E G (B' q) s H1 locs1 q ce → vx_W p l e R s m args below meth c H1 locs1 (cells + mc) (slots + ms) Q (F0 m pc ls rest) q) : W p l e R s m args below meth c H locs cells slots Q (F0 m pc ls st0) := by
  intro T hT X
  rcases hr T hT X with ⟨v, st₀, t, T', L, h0, X', hL, e1, e2, hq, st⟩ | ⟨q, st₀, t, T', L, E', ce, h0, X', hL, e1, e2, ⟨rfl, hU, hF⟩, hce, hcv, hcl, st⟩
  · exact hq.elim
  · obtain ⟨k1, k2, k3⟩ := vx_keep h0 e1 hw.2.2 (fun _ _ h => h) (fun _ h => h) hL hF
    obtain ⟨t2, a1, b1⟩ := kk q T'.heap (locs ++ L) ce ⟨zS.perm ⟨by rw [e1]; exact hU.1, hU.2.1, k3⟩ (hB q), by rw [e1]; exact hce, hcv, hcl⟩ T' rfl X'
    exact ⟨t2, st.trans a1, b1⟩
end ZX
section ZX
variable {p : Program} {l : Launch} {e : Env} {R : Room} {s : State} {m : MethodId} {args : Array Value} {below : List Frame} {meth : Method} {c : Code} {H : Heap} {locs : List Loc} {cells slots : Nat} {Q : State → Prop}
variable {cc : ByteArray} {pc : Nat} {ls : Array Slot} {rest st0 : List Value} {G : zE} {ws wc : va_W} {own : String} {nL : Nat} {a : Nat}
theorem z_alenK {ty : FieldType} {t N : Nat} {f : Nat → Value} (hC : zCx G own cc nL p s m args meth c) (hT : va_T ty t N f (zA G) s s.heap) (hw : zS G ws s H locs) (hdg : decode cc pc = .ok (.arraylength, 1))
    (kk : W p l e R s m args below meth c H locs cells slots Q (F0 m (pc + 1) ls (.int (nI N) :: rest))) : W p l e R s m args below meth c H locs cells slots Q (F0 m pc ls (.ref t :: rest)) := va_tlen hC.hx hC.hb hT hw.2.2 rfl hdg kk
theorem z_aaldK {C : String} {t N i : Nat} {f : Nat → Value} {x : Value} (hC : zCx G own cc nL p s m args meth c) (hT : va_T (.object C) t N f (zA G) s s.heap) (hw : zS G ws s H locs) (hi : i < N) (hN : N < 2147483648) (hx : f i = x) (hdg : decode cc pc = .ok (.aaload, 1))
    (kk : W p l e R s m args below meth c H locs cells slots Q (F0 m (pc + 1) ls (x :: rest))) : W p l e R s m args below meth c H locs cells slots Q (F0 m pc ls (.int (nI i) :: .ref t :: rest)) := vb_tq hC.hx hC.hb hT hw.2.2 (z_cl hi hN) (by rw [nI_clamp (by omega)]; exact hx) hdg kk
theorem z_getfK {o n d : String} {idx q : Nat} {v : Value} (hC : zCx G own cc nL p s m args meth c) (hE : va_OF o n d v q (zA G) s s.heap) (hw : zS G ws s H locs) (hl : Cond.fieldLink own idx o n d ∈ lw_all) (hdg : decode cc pc = .ok (.getfield idx, 3))
    (kk : W p l e R s m args below meth c H locs cells slots Q (F0 m (pc + 3) ls (v :: rest))) : W p l e R s m args below meth c H locs cells slots Q (F0 m pc ls (.ref q :: rest)) := vk_getf hC.hx hC.hb hE hw.2.2 hC.hown (hC.hts _ hl) (fun _ h => h) hdg kk
theorem z_ldcM {C : String} {idx mi : Nat} (hC : zCx G own cc nL p s m args meth c) (hl : Cond.classLink own idx C ∈ lw_all) (hM : va_Mi C mi s) (hdg : decode cc pc = .ok (.ldc idx, 2))
    (kk : W p l e R s m args below meth c H locs cells slots Q (F0 m (pc + 2) ls (.ref mi :: rest))) : W p l e R s m args below meth c H locs cells slots Q (F0 m pc ls rest) := va_ldcM hC.hx hC.hb hC.hown (hC.hts _ hl) hM hdg kk
def oGc : MethodName := ⟨"java/lang/Object", "getClass", "()Ljava/lang/Class;"⟩
/-- an Object[]'s class object -/
theorem z_getC {n idx mi : Nat} {f : Nat → Option Nat} (hC : zCx G own cc nL p s m args meth c) (hls : ls.size = nL) (hl : Cond.methodLink own idx oGc ∈ lw_all) (hd : va_Dc s) (hsel : Cond.selects "[Ljava/lang/Object;" oGc oGc ∈ lw_all) (hi : Cond.instanceMethod oGc ∈ lw_all) (hn : Cond.native oGc ∈ lw_all) (hM : va_Mi "[Ljava/lang/Object;" mi s) (hw : zS G ws s H locs) (q0 : Nat) (he : ws[q0]? = some (a, zc G 4 (zO n f))) (hcat : (rest.map fun v => v.category).sum ≤ 8) (hR : 1 ≤ R.frames ∧ 40 ≤ R.locals) (hdg : decode cc pc = .ok (.invokevirtual idx, 3))
    (kk : W p l e R s m args below meth c H locs cells slots Q (F0 m (pc + 3) ls (.ref mi :: rest))) : W p l e R s m args below meth c H locs cells slots Q (F0 m pc ls (.ref a :: rest)) := by
  obtain ⟨kA, comp, k1, k2, k3, k4⟩ := (hC.hK.2 4 _ rfl).2
  exact va_getC hC.hx hC.hb (hC.hml.trans hls.symm) hC.hown (hC.hts _ hl) (va_Dc.use hd) (hC.hts _ hsel) (hC.hts _ hi) (hC.hts _ hn) hM ⟨_, hw.1 q0 _ he, rfl, k4⟩ hR.1 (by omega) hdg kk
def oNm : List String := ["java/lang/Integer", "NutCaches$Plain", "NutCaches$Greedy", "NutCaches$Neat", "NutCaches$Dozy", "NutCaches$Spy", "java/lang/Byte"]
theorem o_cast : ∀ C ∈ oNm, Cond.castable C "java/lang/Object" ∈ cWords := by
  intro C hC
  simp only [oNm, List.mem_cons, List.not_mem_nil, or_false] at hC
  rcases hC with rfl | rfl | rfl | rfl | rfl | rfl | rfl
  · exact cw_t q2225 rfl
  · exact cw_t q2215 rfl
  · exact cw_t q2216 rfl
  · exact cw_t q2217 rfl
  · exact cw_t q2218 rfl
  · exact cw_t q2219 rfl
  · exact cw_t q2229 rfl
/-- what a row of things may hold: an object of W, or a constant -/
def elOk (kA : Nat → Nat) (W : va_W) (y : Nat) : Prop := (∃ ci fs r, (y, zo ci fs) ∈ W ∧ zcl[ci]? = some r ∧ r.1 ∈ oNm) ∨ ∃ j, j < 256 ∧ (y = kA (100 + j) ∨ y = kA (400 + j))
theorem elOk.mono {kA : Nat → Nat} {W W' : va_W} {y : Nat} (h : elOk kA W y) (hs : ∀ x ∈ W, x ∈ W') : elOk kA W' y := by
  rcases h with ⟨ci, fs, r, h1, h2⟩ | h
  · exact Or.inl ⟨ci, fs, r, hs _ h1, h2⟩
  · exact Or.inr h
theorem any_of {N : Nat} {kA : Nat → Nat} {C : String} {y : Nat} (hz : cZ N kA s) (hC : C ∈ oNm) (h : ∃ cell : Cell, H[y]? = some cell ∧ cell.vm.isStatics = false ∧ s.vm.findClass C = some cell.cls) : va_Any "java/lang/Object" s H y := by
  obtain ⟨cell, g1, g2, g3⟩ := h
  obtain ⟨kC, hkC, -⟩ := Vm.findClass_spec g3
  exact ⟨cell, g1, g2, ⟨kC, hkC⟩, fun comp h => vb_asgC (hz.1 _ (o_cast C hC)) comp _ h g3⟩
theorem any_el {N y : Nat} {kA : Nat → Nat} {E X Y T : va_W} (hC : zCx G own cc nL p s m args meth c) (hz : cZ N kA s) (hzv : cV G kA s) (hw : zS G (E ++ (X ++ (Y ++ T))) s H locs) (h : elOk kA (X ++ Y) y) : va_Any "java/lang/Object" s H y := by
  rcases h with ⟨ci, fs, r, h1, h2, h3⟩ | ⟨j, hj, rfl | rfl⟩
  · refine any_of hz h3 ?_
    have hm : (y, zo ci fs) ∈ E ++ (X ++ (Y ++ T)) := by
      refine List.mem_append_right _ ?_
      rw [← List.append_assoc]
      exact List.mem_append_left _ h1
    obtain ⟨q0, he⟩ := List.getElem?_of_mem hm
    exact va_recv hC.hK hw.1 h2 he
  · obtain ⟨cell, a1, a2, a3, -⟩ := ((hzv.2.1.2.2.2 j hj).1).kept hw.2.2.2.1
    exact any_of hz (by simp [oNm]) ⟨cell, a1, a2, a3⟩
  · obtain ⟨cell, a1, a2, a3, -⟩ := ((hzv.2.2.1.2.2 j hj).1).kept hw.2.2.2.1
    exact any_of hz (by simp [oNm]) ⟨cell, a1, a2, a3⟩
end ZX
