/-! CALLS over the one world -/
set_option maxRecDepth 100000
def zNot (y : MethodName) : Prop := y.cls ≠ "java/lang/invoke/MethodHandle" ∧ y.cls ≠ "java/lang/invoke/VarHandle"
/-- links of calls: on an object, static, of a constructor -/
def zVs (own : String) (idx : Nat) (y : MethodName) (b : ByteArray) (L : Nat) (r : Option FieldType) (n : Nat) : Prop := GoodIn lw_all (wsV own idx y.cls y (ws_ y b L r)) ∧ zNot y ∧ (parseMethodDescriptor y.desc).map (fun d => d.parameters.length) = some n
def zSs (own : String) (idx : Nat) (y : MethodName) (b : ByteArray) (L : Nat) (r : Option FieldType) (n : Nat) : Prop := GoodIn lw_all (va_wsS own idx y (ws_ y b L r)) ∧ zNot y ∧ (parseMethodDescriptor y.desc).map (fun d => d.parameters.length) = some n
def zIs (own : String) (idx : Nat) (y : MethodName) (b : ByteArray) (L : Nat) (n : Nat) : Prop := (Cond.code y b L none ∈ lw_all ∧ Cond.initialized y.cls ∈ lw_all ∧ Cond.methodLink own idx y ∈ lw_all ∧ Cond.instanceMethod y ∈ lw_all ∧ y.name = "<init>") ∧ zNot y ∧ (parseMethodDescriptor y.desc).map (fun d => d.parameters.length) = some n
section ZC
variable {p : Program} {l : Launch} {e : Env} {R : Room} {s : State} {m : MethodId} {args : Array Value} {below : List Frame} {meth : Method} {c : Code} {H : Heap} {locs : List Loc} {cells slots : Nat} {Q : State → Prop}
variable {cc : ByteArray} {pc : Nat} {ls : Array Slot} {rest st0 : List Value} {G : zE} {ws wc : va_W} {own : String} {nL : Nat} {a : Nat}
variable {y : MethodName} {bytes : ByteArray} {maxL k mc ms n index : Nat} {ret : Option FieldType} {Qc : Array Value → State → Outcome → State → Prop} {As : List Value} {b : Nat}
theorem z_runV {ci : Nat} {fs : List Value} {qc : vw_C} (hC : zCx G own cc nL p s m args meth c) (hv : zVs own index y bytes maxL ret n) (hM : Met l y (ws_ y bytes maxL ret) (zR k mc ms) (va_Pc (.ref b :: As) (zU G wc)) Qc mc ms (zA G)) (hw : zS G ws s H locs) (hwc : zS G wc s H locs) (q0 : Nat) (he : ws[q0]? = some (b, zo ci fs)) (hc : zcl[ci]? = some qc) (hqc : qc.1 = y.cls) (hlen : As.length = n) (hst : st0 = As.reverse ++ .ref b :: rest) (hcat : (rest.map fun v => v.category).sum ≤ 8) (hls : ls.size = nL)
    (hR : k + 1 ≤ R.frames ∧ 8 + (maxL + 11) + 40 * k ≤ R.locals) (hf : cells + mc ≤ R.cells ∧ slots + ms ≤ R.slots) (hdg : decode cc pc = .ok (.invokevirtual index, 3)) :
    va_Run p l e R s m args below meth c H locs cells slots mc ms (F0 m pc ls st0) rest (Qc (Value.ref b :: As).toArray) (zA G) := by
  subst hst
  obtain ⟨h1, h2, h3⟩ := hv
  exact va_runV (As := As) (rest := rest) hC.fix hM (cwV n hC.hts h1 rfl rfl rfl ⟨rfl, h2.1, h2.2, h3⟩ hR) ⟨zU_blind, by rw [← hqc]; exact va_recv hC.hK hw.1 hc he, fun U hU hW => ⟨rfl, zU_of hwc hC.hK hC.hN hU hW⟩⟩ rfl hlen hls rfl (lv_room hcat) hdg hf
theorem z_runS (hC : zCx G own cc nL p s m args meth c) (hv : zSs own index y bytes maxL ret n) (hM : Met l y (ws_ y bytes maxL ret) (zR k mc ms) (va_Pc As (zU G wc)) Qc mc ms (zA G)) (hwc : zS G wc s H locs) (hlen : As.length = n) (hst : st0 = As.reverse ++ rest) (hcat : (rest.map fun v => v.category).sum ≤ 8) (hls : ls.size = nL)
    (hR : k + 1 ≤ R.frames ∧ 8 + (maxL + 11) + 40 * k ≤ R.locals) (hf : cells + mc ≤ R.cells ∧ slots + ms ≤ R.slots) (hdg : decode cc pc = .ok (.invokestatic index, 3)) :
    va_Run p l e R s m args below meth c H locs cells slots mc ms (F0 m pc ls st0) rest (Qc As.toArray) (zA G) := by
  subst hst
  obtain ⟨h1, h2, h3⟩ := hv
  exact va_runS (As := As) (rest := rest) hC.fix hM (va_cwS n hC.hts h1 rfl rfl rfl ⟨h2.1, h2.2, h3⟩ hR) ⟨zU_blind, fun U hU hW => ⟨rfl, zU_of hwc hC.hK hC.hN hU hW⟩⟩ rfl hlen hls rfl (lv_room hcat) hdg hf
theorem z_runI (hC : zCx G own cc nL p s m args meth c) (hv : zIs own index y bytes maxL n) (hM : Met l y (ws_ y bytes maxL none) (zR k mc ms) (va_Pc (.ref b :: As) (zU G wc)) Qc mc ms (zA G)) (hwc : zS G wc s H locs) (hlen : As.length = n) (hst : st0 = As.reverse ++ .ref b :: rest) (hcat : (rest.map fun v => v.category).sum ≤ 8) (hls : ls.size = nL)
    (hR : k + 1 ≤ R.frames ∧ 8 + (maxL + 11) + 40 * k ≤ R.locals) (hf : cells + mc ≤ R.cells ∧ slots + ms ≤ R.slots) (hdg : decode cc pc = .ok (.invokespecial index, 3)) :
    va_Run p l e R s m args below meth c H locs cells slots mc ms (F0 m pc ls st0) rest (Qc (Value.ref b :: As).toArray) (zA G) := by
  subst hst
  obtain ⟨⟨h1, h4, h5, h6, h7⟩, h2, h3⟩ := hv
  exact va_runI (As := As) (rest := rest) hC.fix hM (cwI n hC.hts (lw_meth h1) rfl rfl rfl (hC.hts _ h4) (hC.hts _ h5) (hC.hts _ h6) h7 ⟨h2.1, h2.2, h3⟩ hR) ⟨zU_blind, fun U hU hW => ⟨rfl, zU_of hwc hC.hK hC.hN hU hW⟩⟩ rfl hlen hls rfl (lv_room hcat) hdg hf
theorem z_back {S : Type} {B B' : S → va_W} {u : S} {t : State} {H1 : Heap} {locs1 : List Loc} (hB : ∀ u, (B u).Perm (B' u)) (h : zU G (B u) t) (e1 : t.heap = H1) (hS : va_S (zA G) s.heap H1 locs1) : zS G (B' u) s H1 locs1 :=
  zS.perm ⟨by rw [← e1]; exact h.1, h.2.1, hS⟩ (hB u)
theorem z_ci {S : Type} {post : Int32 → S → Prop} {B B' : S → va_W} {av : Array Value} (hr : va_Run p l e R s m args below meth c H locs cells slots mc ms (F0 m pc ls st0) rest (va_Qi post (fun u t => zU G (B u) t) (zA G) av) (zA G)) (hw : zS G ws s H locs) (hB : ∀ u, (B u).Perm (B' u))
    (kk : ∀ (r : Int32) (u : S) (H1 : Heap) (locs1 : List Loc), post r u → zS G (B' u) s H1 locs1 → W p l e R s m args below meth c H1 locs1 (cells + mc) (slots + ms) Q (F0 m (pc + 3) ls (.int r :: rest))) : W p l e R s m args below meth c H locs cells slots Q (F0 m pc ls st0) :=
  va_calli hr hw.2.2 (fun _ _ h => h) (fun _ h => h) (fun r u t H1 locs1 e1 _ hp h _ _ hS => kk r u H1 locs1 hp (z_back hB h e1 hS))
theorem z_cv {S : Type} {post : S → Prop} {B B' : S → va_W} {av : Array Value} (hr : va_Run p l e R s m args below meth c H locs cells slots mc ms (F0 m pc ls st0) rest (va_Qv post (fun u t => zU G (B u) t) (zA G) av) (zA G)) (hw : zS G ws s H locs) (hB : ∀ u, (B u).Perm (B' u))
    (kk : ∀ (u : S) (H1 : Heap) (locs1 : List Loc), post u → zS G (B' u) s H1 locs1 → W p l e R s m args below meth c H1 locs1 (cells + mc) (slots + ms) Q (F0 m (pc + 3) ls rest)) : W p l e R s m args below meth c H locs cells slots Q (F0 m pc ls st0) :=
  va_callv hr hw.2.2 (fun _ _ h => h) (fun _ h => h) (fun u t H1 locs1 e1 _ hp h _ _ hS => kk u H1 locs1 hp (z_back hB h e1 hS))
theorem z_cq {S : Type} {post : Option Nat → S → Prop} {B B' : S → va_W} {av : Array Value} (hr : va_Run p l e R s m args below meth c H locs cells slots mc ms (F0 m pc ls st0) rest (va_Qq post (fun u t => zU G (B u) t) (zA G) av) (zA G)) (hw : zS G ws s H locs) (hB : ∀ u, (B u).Perm (B' u))
    (kk : ∀ (r : Option Nat) (u : S) (H1 : Heap) (locs1 : List Loc), post r u → zS G (B' u) s H1 locs1 → W p l e R s m args below meth c H1 locs1 (cells + mc) (slots + ms) Q (F0 m (pc + 3) ls (va_rf r :: rest))) : W p l e R s m args below meth c H locs cells slots Q (F0 m pc ls st0) :=
  va_callq hr hw.2.2 (fun _ _ h => h) (fun _ h => h) (fun r u t H1 locs1 e1 _ hp h _ _ hS => kk r u H1 locs1 hp (z_back hB h e1 hS))
theorem z_keep {is : List Nat} {cs : va_W} (hn : va_nd is = true) (h : is.map (fun i => ws[i]?) = cs.map some) : (cs ++ zrem is ws).Perm ws := (z_cut hn h).symm
theorem z_new1 {is : List Nat} {cs cs' nw : va_W} (hn : va_nd is = true) (h : is.map (fun i => ws[i]?) = cs.map some) (hl : cs'.length = is.length) : (nw ++ (cs' ++ zrem is ws)).Perm (nw ++ zset is cs' ws) := (z_pput hn h hl).append_left nw
end ZC
