/-! STARTS: a method's walk, with its end as a hypothesis -/
set_option maxRecDepth 100000
section ZB
variable {l : Launch} {G : zE} {ws : va_W} {y : MethodName} {b : ByteArray} {L : Nat} {k mc ms : Nat} {av : List Value}
theorem z_begI {S : Type} {post : Int32 → S → Prop} {B : S → va_W} (hy : plainName y.cls = true) (hL : (lg_sl av).length ≤ L)
    (body : ∀ (p : Program) (e : Env) (s : State) (m : MethodId) (args : Array Value) (below : List Frame) (meth : Method) (c : Code) (ls : Array Slot) (Q : State → Prop), zCx G y.cls b L p s m args meth c → lv_has ls L (lv_args 0 av) → zS G ws s s.heap [] →
      (∀ (H : Heap) (locs : List Loc) (cells slots pc : Nat) (ls : Array Slot) (v : Int32) (u : S), zS G (B u) s H locs → post v u → cells ≤ mc → slots ≤ ms → decode b pc = .ok (.ireturn, 1) → W p l e (zR k mc ms) s m args below meth c H locs cells slots Q (F0 m pc ls [.int v])) →
      W p l e (zR k mc ms) s m args below meth c s.heap [] 0 0 Q (F0 m 0 ls [])) : zMi G l y b L (some .int) k mc ms av ws post B := by
  refine z_start hy hL (fun p e s m below meth c ls hC hr hnm hl hw => body p e s m _ below meth c ls _ hC hl hw ?_)
  intro H locs cells slots pc ls v u h1 h2 h3 h4 h5
  exact z_iret hC hr u h1 h2 h3 h4 h5
theorem z_begZ {S : Type} {post : Int32 → S → Prop} {B : S → va_W} {ty : FieldType} (hy : plainName y.cls = true) (hL : (lg_sl av).length ≤ L)
    (body : ∀ (p : Program) (e : Env) (s : State) (m : MethodId) (args : Array Value) (below : List Frame) (meth : Method) (c : Code) (ls : Array Slot) (Q : State → Prop), zCx G y.cls b L p s m args meth c → lv_has ls L (lv_args 0 av) → zS G ws s s.heap [] →
      (∀ (H : Heap) (locs : List Loc) (cells slots pc : Nat) (ls : Array Slot) (v : Int32) (u : S), narrow ty (.int v) = .int v → zS G (B u) s H locs → post v u → cells ≤ mc → slots ≤ ms → decode b pc = .ok (.ireturn, 1) → W p l e (zR k mc ms) s m args below meth c H locs cells slots Q (F0 m pc ls [.int v])) →
      W p l e (zR k mc ms) s m args below meth c s.heap [] 0 0 Q (F0 m 0 ls [])) : zMi G l y b L (some ty) k mc ms av ws post B := by
  refine z_start hy hL (fun p e s m below meth c ls hC hr hnm hl hw => body p e s m _ below meth c ls _ hC hl hw ?_)
  intro H locs cells slots pc ls v u h0 h1 h2 h3 h4 h5
  exact z_zret hC hr h0 u h1 h2 h3 h4 h5
theorem z_begV {S : Type} {post : S → Prop} {B : S → va_W} (hy : plainName y.cls = true) (hL : (lg_sl av).length ≤ L)
    (body : ∀ (p : Program) (e : Env) (s : State) (m : MethodId) (args : Array Value) (below : List Frame) (meth : Method) (c : Code) (ls : Array Slot) (Q : State → Prop), zCx G y.cls b L p s m args meth c → meth.name = y.name → lv_has ls L (lv_args 0 av) → zS G ws s s.heap [] →
      (∀ (H : Heap) (locs : List Loc) (cells slots pc : Nat) (ls : Array Slot) (u : S), zS G (B u) s H locs → post u → cells ≤ mc → slots ≤ ms → decode b pc = .ok (.return_, 1) → W p l e (zR k mc ms) s m args below meth c H locs cells slots Q (F0 m pc ls [])) →
      W p l e (zR k mc ms) s m args below meth c s.heap [] 0 0 Q (F0 m 0 ls [])) : zMv G l y b L k mc ms av ws post B := by
  refine z_start hy hL (fun p e s m below meth c ls hC hr hnm hl hw => body p e s m _ below meth c ls _ hC hnm hl hw ?_)
  intro H locs cells slots pc ls u h1 h2 h3 h4 h5
  exact z_vret hC hr u h1 h2 h3 h4 h5
theorem z_begQ {S : Type} {post : Option Nat → S → Prop} {B : S → va_W} {rt : FieldType} (hrt : (∃ n, rt = .object n) ∨ ∃ t, rt = .array t) (hy : plainName y.cls = true) (hL : (lg_sl av).length ≤ L)
    (body : ∀ (p : Program) (e : Env) (s : State) (m : MethodId) (args : Array Value) (below : List Frame) (meth : Method) (c : Code) (ls : Array Slot) (Q : State → Prop), zCx G y.cls b L p s m args meth c → lv_has ls L (lv_args 0 av) → zS G ws s s.heap [] →
      (∀ (H : Heap) (locs : List Loc) (cells slots pc : Nat) (ls : Array Slot) (v : Option Nat) (u : S), zS G (B u) s H locs → post v u → cells ≤ mc → slots ≤ ms → decode b pc = .ok (.areturn, 1) → W p l e (zR k mc ms) s m args below meth c H locs cells slots Q (F0 m pc ls [va_rf v])) →
      W p l e (zR k mc ms) s m args below meth c s.heap [] 0 0 Q (F0 m 0 ls [])) : zMq G l y b L (some rt) k mc ms av ws post B := by
  refine z_start hy hL (fun p e s m below meth c ls hC hr hnm hl hw => body p e s m _ below meth c ls _ hC hl hw ?_)
  intro H locs cells slots pc ls v u h1 h2 h3 h4 h5
  exact z_aret hC hr hrt u h1 h2 h3 h4 h5
end ZB
theorem zS.drop {G : zE} {c : Nat × va_E} {ws : va_W} {s : State} {H : Heap} {locs : List Loc} (h : zS G (c :: ws) s H locs) : zS G ws s H locs := by
  obtain ⟨h1, h2, h3⟩ := h
  refine ⟨zP_iff.mpr fun q hq => zP_iff.mp h1 q (List.mem_cons_of_mem _ hq), zD_iff.mpr ?_, h3⟩
  obtain ⟨a, b⟩ := zD_iff.mp h2
  exact ⟨(List.nodup_cons.mp a).2, fun q hq => b q (List.mem_cons_of_mem _ hq)⟩
/-- a hedge's numbers as an int array's contents -/
def vI (v : Nat → Nat) : Nat → Int32 := fun i => nI (v i)
def updN (v : Nat → Nat) (k x : Nat) : Nat → Nat := fun i => if i = k then x else v i
theorem vI_upd (v : Nat → Nat) (k x : Nat) : upd (vI v) k (nI x) = vI (updN v k x) := by
  funext i
  simp only [upd, vI, updN]
  split <;> rfl
theorem updN_same (v : Nat → Nat) (k x : Nat) : updN v k x k = x := by simp [updN]
theorem updN_ne (v : Nat → Nat) {k j : Nat} (x : Nat) (h : j ≠ k) : updN v k x j = v j := by simp [updN, h]
