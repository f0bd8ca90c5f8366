/-! COMPONENT: rows for Strings: constants, an array's clone, casts of arrays -/
set_option maxRecDepth 100000
/-- the heads, "" and ";" -/
def hdB : List (List Nat) := heads ++ [[], [59]]
def pvE : MethodName := ⟨"java/lang/AbstractStringBuilder", "ensureCapacityInternal", "(I)V"⟩
def pvN : MethodName := ⟨"java/lang/AbstractStringBuilder", "newCapacity", "(I)I"⟩
/-- String constants and the table of digits: where they lie -/
def cS (G : zE) (kA : Nat → Nat) (U : State) : Prop :=
  (va_Z "NutCaches" "HEADS" "[Ljava/lang/String;" (.ref (kA 0)) (zA G) U U.heap ∧ va_T (.object "java/lang/String") (kA 0) 8 (fun j => .ref (kA (10 + j))) (zA G) U U.heap ∧ va_O "[Ljava/lang/String;" (kA 0) (zA G) U U.heap) ∧
  (∀ j, j < 10 → va_O "java/lang/String" (kA (10 + j)) (zA G) U U.heap ∧ va_OF "java/lang/String" "coder" "B" (.int (nI 0)) (kA (10 + j)) (zA G) U U.heap ∧ va_OF "java/lang/String" "value" "[B" (.ref (kA (30 + j))) (kA (10 + j)) (zA G) U U.heap ∧ va_T .byte (kA (30 + j)) (hdB.getD j []).length (fun i => .int (nI ((hdB.getD j []).getD i 0))) (zA G) U U.heap) ∧
  (vk_R "NutCaches$Reader" 15 "" (kA (10 + 8)) U ∧ vk_R "NutCaches$Reader" 143 ";" (kA (10 + 9)) U) ∧
  (va_Z "java/lang/CharacterDataLatin1" "instance" "Ljava/lang/CharacterDataLatin1;" (.ref (kA 3)) (zA G) U U.heap ∧ va_O "java/lang/CharacterDataLatin1" (kA 3) (zA G) U U.heap) ∧
  (va_Z "java/lang/CharacterDataLatin1" "DIGITS" "[B" (.ref (kA 4)) (zA G) U U.heap ∧ ∃ dg : Nat → Int32, va_T .byte (kA 4) 256 (fun j => .int (dg j)) (zA G) U U.heap ∧ ∀ j, j < 10 → dg (48 + j) = nI j) ∧
  va_Zq "jdk/internal/util/Preconditions" "SIOOBE_FORMATTER" "Ljava/util/function/BiFunction;" (zA G) U U.heap ∧
  va_Nw (.privateMethod pvE) U ∧ va_Nw (.privateMethod pvN) U
def zS9 (G : zE) (kA : Nat → Nat) : Prop := ∀ U : State, G.2.2.2 U → cS G kA U
theorem asg_fuel {vm : Vm} {f g : Nat} {x y : ClassId} {kx : Class} (hx : vm.classes[x]? = some kx) (hk : kx.kind = .ordinary) : vm.assignableAux (f + 1) x y = vm.assignableAux (g + 1) x y := by
  unfold Vm.assignableAux
  rw [hx]
  cases hO : vm.classes[y]? with
  | none => rfl
  | some ky => simp only [hk]; cases ky.kind <;> rfl
theorem asg_prim {vm : Vm} {f : Nat} {x y : ClassId} {kx : Class} (hx : vm.classes[x]? = some kx) (hk : kx.kind = .ordinary) (h : vm.assignableAux (f + 1) x y = true) : vm.isPrimitive y = false := by
  unfold Vm.isPrimitive
  cases hO : vm.classes[y]? with
  | none => rfl
  | some ky =>
    cases hky : ky.kind with
    | primitive t =>
      exfalso
      unfold Vm.assignableAux at h
      rw [hx, hO] at h
      simp only [hk, hky, Bool.or_false, beq_iff_eq] at h
      rw [h, hO] at hx
      cases hx
      rw [hk] at hky
      cases hky
    | _ => simp only [hky]
theorem asg_arr {vm : Vm} {f : Nat} {a b x y : ClassId} {ka kb kx : Class} {tx ty : FieldType} (ha : vm.classes[a]? = some ka) (hb : vm.classes[b]? = some kb) (hka : ka.kind = .array x tx) (hkb : kb.kind = .array y ty) (hx : vm.classes[x]? = some kx) (hk : kx.kind = .ordinary) (h : vm.assignableAux (f + 1 + 1) x y = true) : vm.assignableAux (f + 1 + 1) a b = true := by
  have hp1 : vm.isPrimitive x = false := by unfold Vm.isPrimitive; rw [hx]; simp only [hk]
  have hp2 := asg_prim hx hk h
  rw [asg_fuel (g := f) hx hk] at h
  rw [Vm.assignableAux.eq_2, ha, hb]
  simp only [hka, hkb, hp1, hp2, h]
  simp
section ZSR
variable {p : Program} {l : Launch} {e : Env} {R : Room} {s : State} {m : MethodId} {args : Array Value} {below : List Frame} {meth : Method} {c : Code} {H : Heap} {locs : List Loc} {cells slots : Nat} {Q : State → Prop}
variable {cc : ByteArray} {pc : Nat} {ls : Array Slot} {rest st0 : List Value} {G : zE} {ws wc : va_W} {own : String} {nL : Nat} {a : Nat}
theorem z_baldK {t N i : Nat} {f : Nat → Value} {x : Value} (hC : zCx G own cc nL p s m args meth c) (hT : va_T .byte t N f (zA G) s s.heap) (hw : zS G ws s H locs) (hi : i < N) (hN : N < 2147483648) (hx : f i = x) (hdg : decode cc pc = .ok (.baload, 1))
    (kk : W p l e R s m args below meth c H locs cells slots Q (F0 m (pc + 1) ls (x :: rest))) : W p l e R s m args below meth c H locs cells slots Q (F0 m pc ls (.int (nI i) :: .ref t :: rest)) := va_tb hC.hx hC.hb hT hw.2.2 (z_cl hi hN) (by rw [nI_clamp (by omega)]; exact hx) hdg kk
theorem z_ldcS {tx : String} {idx q : Nat} (hC : zCx G own cc nL p s m args meth c) (hZ : vk_R own idx tx q s) (hdg : decode cc pc = .ok (.ldc idx, 2))
    (kk : W p l e R s m args below meth c H locs cells slots Q (F0 m (pc + 2) ls (.ref q :: rest))) : W p l e R s m args below meth c H locs cells slots Q (F0 m pc ls rest) := va_ldcS hC.hx hC.hb hC.hown hZ hdg kk
theorem z_clone {idx n : Nat} {f : Nat → Int32} (hC : zCx G own cc nL p s m args meth c) (hz : ∀ w ∈ cWords, va_Nw w s) (hls : ls.size = nL) (hl : Cond.methodLink own idx ⟨"[B", "clone", "()Ljava/lang/Object;"⟩ ∈ lw_all) (hw : zS G ws s H locs) (q0 : Nat) (he : ws[q0]? = some (a, zc G 1 (zI n f)))
    (hfit : ∀ j, j < n → fits .byte (.int (f j)) = true) (hcat : (rest.map fun v => v.category).sum ≤ 8) (hR : 1 ≤ R.frames ∧ 22 ≤ R.locals) (h1 : cells + 1 ≤ R.cells) (h2 : slots + n ≤ R.slots) (hdg : decode cc pc = .ok (.invokevirtual idx, 3))
    (kk : ∀ (q : Nat) (H1 : Heap), zS G ((q, zc G 1 (zI n f)) :: ws) s H1 locs → W p l e R s m args below meth c H1 locs (cells + 1) (slots + n) Q (F0 m (pc + 3) ls (.ref q :: rest))) : W p l e R s m args below meth c H locs cells slots Q (F0 m pc ls (.ref a :: rest)) := by
  have hnm : s.vm.findClass "[B" = some (G.2.1 1) := (hC.hK.2 1 _ rfl).2
  exact va_clone (ad := "[B") (x := zI n f) (ty := .byte) hC.hx hC.hb (hC.hml.trans hls.symm) hC.hown (hC.hts _ hl) (hC.hts _ q349) (hC.hts _ q350) (hC.hts _ q351) (hC.hts _ q352) (hz _ (cw_t q353 rfl)) hC.hK hw.1 hw.2.1 hw.2.2 (fun q hq => zA_ge hC.hN.1 _ hq) q0 1 he rfl hnm (fun i v h => va_fit (F := fun j => .int (f j)) hfit i v h) hR.1 (by omega) h1 h2 hdg
    (fun q H1 _ b1 b2 b3 => kk q H1 (z_push b1 b2 b3))
theorem z_castB {idx n : Nat} {f : Nat → Int32} (hC : zCx G own cc nL p s m args meth c) (hl : Cond.classLink own idx "[B" ∈ lw_all) (hw : zS G ws s H locs) (q0 : Nat) (he : ws[q0]? = some (a, zc G 1 (zI n f))) (hdg : decode cc pc = .ok (.checkcast idx, 3))
    (kk : W p l e R s m args below meth c H locs cells slots Q (F0 m (pc + 3) ls (.ref a :: rest))) : W p l e R s m args below meth c H locs cells slots Q (F0 m pc ls (.ref a :: rest)) :=
  va_castA hC.hx hC.hb hC.hown (hC.hts _ hl) hw.1 q0 he (hC.hK.2 1 _ rfl).2 hdg kk
/-- a String[] is an Object[] -/
theorem k_asA (hC : zCx G own cc nL p s m args meth c) (hz : ∀ w ∈ cWords, va_Nw w s) : va_Nw (.castable "[Ljava/lang/String;" "[Ljava/lang/Object;") s := by
  obtain ⟨cS9, cO, f1, f2, f3⟩ := Cond.castable_spec (va_Nw.use (A := #[]) rfl (hz _ (cw_t q2206 rfl)))
  obtain ⟨comp, c1, k1, g1, g2, g3, g4, g5⟩ := Cond.arrayOver_spec (args := #[]) (first := s) (o := none) (hz _ (cw_t q2251 rfl))
  obtain ⟨kA, compO, o1, o2, o3, o4⟩ := (hC.hK.2 4 _ rfl).2
  obtain ⟨hS, hfc, kS, hkS, hkind⟩ := hC.hK.1 12 _ rfl
  have e1 := Option.some.inj (f1.symm.trans g1)
  have e2 := Option.some.inj (f2.symm.trans o3)
  have e3 := Option.some.inj (f1.symm.trans hfc)
  have g5 : s.vm.findClass "[Ljava/lang/String;" = some c1 := g5
  have o4 : s.vm.findClass "[Ljava/lang/Object;" = some (G.2.1 4) := o4
  have main : s.vm.assignable c1 (G.2.1 4) = true := asg_arr (f := 254) g3 o1 g4 o2 (by rw [← e1, e3]; exact hkS) hkind (by rw [← e1, ← e2]; exact f3)
  show (Cond.castable "[Ljava/lang/String;" "[Ljava/lang/Object;").before #[] s = true
  simp only [Cond.before, Cond.holds, Cond.value]
  rw [g5, o4]
  simp [main]
/-- a private method is what a call through an object of a class below finds -/
theorem z_selP {y : MethodName} {C : String} {cC : ClassId} (hC : zCx G own cc nL p s m args meth c) (h1 : s.vm.findClass C = some cC) (hpv : va_Nw (.privateMethod y) s) (hin : Cond.instanceMethod y ∈ lw_all) (hy : y.cls = "java/lang/AbstractStringBuilder") : (Cond.selects C y y).before args s = true := by
  obtain ⟨mk, methM, hnamed, hmethM, -, -⟩ := Cond.instanceMethod_spec (hC.hts _ hin)
  have hp := Cond.privateMethod_at hpv mk methM hnamed hmethM
  have hf : s.methodFound? y.cls y.name y.desc = some mk := State.methodFound?_of_named hnamed ⟨by rw [hy]; decide, by rw [hy]; decide⟩
  have hown := findClass_of_methodNamed hnamed
  rw [hy] at hown
  have hsm := hC.hts _ q2174
  obtain ⟨k, hk, hni⟩ : ∃ k, s.vm.classes[mk.cls]? = some k ∧ k.isInterface = false := by
    obtain ⟨mk2, methM2, hnamed2, -⟩ := Cond.instanceMethod_spec (hC.hts _ q332)
    exact (Cond.sameMethod_spec hown (State.methodFound?_of_named hnamed2 ⟨by decide, by decide⟩) hsm).2
  simp only [Cond.before, Cond.holds, Cond.value]
  rw [h1, hf, hnamed]
  simp [selectMethod_private hmethM hp, hk, hni]
variable {y : MethodName} {bytes : ByteArray} {maxL : Nat} {ret : Option FieldType} {index b n : Nat} {As : List Value} {k mc ms : Nat} {Qc : Array Value → State → Outcome → State → Prop}
theorem z_runBP {ci : Nat} {fs : List Value} {qc : vw_C} (hC : zCx G own cc nL p s m args meth c) (hv : zNs y bytes maxL ret n ∧ Cond.instanceMethod y ∈ lw_all ∧ (y.cls ≠ "java/lang/invoke/MethodHandle" ∧ y.cls ≠ "java/lang/invoke/VarHandle") ∧ (parseMethodDescriptor y.desc).map (fun d => d.parameters.length) = some n) (hy : y.cls = "java/lang/AbstractStringBuilder") (hpv : va_Nw (.privateMethod y) s)
    (h1 : (Cond.methodLink own index y).before args s = true) (h2 : (Cond.sameMethod y.cls y.cls y.name y.desc).before args s = true) (hd : va_Decl s y) (hM : Met l y (ws_ y bytes maxL ret) (zR k mc ms) (va_Pc (.ref b :: As) (zU G wc)) Qc mc ms (zA G)) (hw : zS G ws s H locs) (hwc : zS G wc s H locs) (q0 : Nat) (he : ws[q0]? = some (b, zo ci fs)) (hc : zcl[ci]? = some qc) (hlen : As.length = n) (hst : st0 = As.reverse ++ .ref b :: rest) (hcat : (rest.map fun v => v.category).sum ≤ 8) (hls : ls.size = nL)
    (hR : k + 1 ≤ R.frames ∧ 8 + (maxL + 11) + 40 * k ≤ R.locals) (hf : cells + mc ≤ R.cells ∧ slots + ms ≤ R.slots) (hdg : decode cc pc = .ok (.invokevirtual index, 3)) :
    va_Run p l e R s m args below meth c H locs cells slots mc ms (F0 m pc ls st0) rest (Qc (Value.ref b :: As).toArray) (zA G) := by
  subst hst
  obtain ⟨⟨c1, c2, c3, c4⟩, c5, c7, c8⟩ := hv
  exact va_runU (C := qc.1) (owner := y.cls) (x := y) (As := As) (rest := rest) hC.fix hM ⟨⟨rfl, rfl, hR.1, hR.2, pay_in hC.hts (lw_meth c1), List.mem_cons_self⟩, hC.hts _ c1, hC.hts _ c2, c7, fun sig h => hlen ▸ z_len c8 hlen sig h, h1, h2, hd, sel_up h2 c7 (z_selP hC (hC.hK.1 ci _ hc).2.1 hpv c5 hy), hC.hts _ c5⟩ ⟨zU_blind, va_recv hC.hK hw.1 hc he, fun U hU hW => ⟨rfl, zU_of hwc hC.hK hC.hN hU hW⟩⟩ rfl hlen hls rfl (lv_room hcat) hdg hf
/-- an own cell is no constant -/
theorem z_neK {E : String} {t q0 : Nat} {x : va_E} (hw : zS G ws s H locs) (he : ws[q0]? = some (a, x)) (hO : va_O E t (zA G) s s.heap) : a ≠ t := by
  obtain ⟨cell, h1, h2, h3, h4⟩ := hO
  intro e
  subst e
  exact h4 (hw.2.1.2 q0 _ he)
end ZSR
