/-! COMPONENT: what is carried along: words, constants; calls found by the object's class -/
set_option maxRecDepth 100000
def cWords : List Cond := lw_tbl.filter cOK ++ defaultWords_1.filter cOK
theorem cw_t {w : Cond} (h : w ∈ lw_tbl) (g : cOK w = true) : w ∈ cWords := List.mem_append_left _ (List.mem_filter.mpr ⟨h, g⟩)
theorem cw_d {w : Cond} (i : Nat) (h : defaultWords_1[i]? = some w) (g : cOK w = true) : w ∈ cWords := List.mem_append_right _ (List.mem_filter.mpr ⟨List.mem_of_getElem? h, g⟩)
def cLid : List Cond := [.landsInDefault "NutCaches$Squirrel" ⟨"NutCaches$Squirrel", "wants", "(I)I"⟩ ⟨"NutCaches$Habit", "wants", "(I)I"⟩, .landsInDefault "NutCaches$Plain" ⟨"NutCaches$Plain", "wants", "(I)I"⟩ ⟨"NutCaches$Habit", "wants", "(I)I"⟩, .landsInDefault "NutCaches$Neat" ⟨"NutCaches$Squirrel", "wants", "(I)I"⟩ ⟨"NutCaches$Habit", "wants", "(I)I"⟩, .landsInDefault "NutCaches$Plain" ⟨"NutCaches$Squirrel", "wants", "(I)I"⟩ ⟨"NutCaches$Habit", "wants", "(I)I"⟩, .landsInDefault "NutCaches$Dozy" ⟨"NutCaches$Squirrel", "spies", "()Z"⟩ ⟨"NutCaches$Habit", "spies", "()Z"⟩, .landsInDefault "NutCaches$Greedy" ⟨"NutCaches$Squirrel", "spies", "()Z"⟩ ⟨"NutCaches$Habit", "spies", "()Z"⟩, .landsInDefault "NutCaches$Neat" ⟨"NutCaches$Squirrel", "spies", "()Z"⟩ ⟨"NutCaches$Habit", "spies", "()Z"⟩, .landsInDefault "NutCaches$Plain" ⟨"NutCaches$Squirrel", "spies", "()Z"⟩ ⟨"NutCaches$Habit", "spies", "()Z"⟩, .landsInDefault "NutCaches$Dozy" ⟨"NutCaches$Dozy", "spies", "()Z"⟩ ⟨"NutCaches$Habit", "spies", "()Z"⟩, .landsInDefault "NutCaches$Squirrel" ⟨"NutCaches$Squirrel", "wakes", "(I)Z"⟩ ⟨"NutCaches$Habit", "wakes", "(I)Z"⟩, .landsInDefault "NutCaches$Greedy" ⟨"NutCaches$Squirrel", "wakes", "(I)Z"⟩ ⟨"NutCaches$Habit", "wakes", "(I)Z"⟩, .landsInDefault "NutCaches$Neat" ⟨"NutCaches$Squirrel", "wakes", "(I)Z"⟩ ⟨"NutCaches$Habit", "wakes", "(I)Z"⟩, .landsInDefault "NutCaches$Plain" ⟨"NutCaches$Squirrel", "wakes", "(I)Z"⟩ ⟨"NutCaches$Habit", "wakes", "(I)Z"⟩]
def cNc : List (String × String) := [("NutCaches$Plain", "NutCaches$Greedy"), ("NutCaches$Plain", "NutCaches$Neat"), ("NutCaches$Plain", "NutCaches$Dozy"), ("NutCaches$Plain", "NutCaches$Spy"), ("NutCaches$Greedy", "NutCaches$Neat"), ("NutCaches$Greedy", "NutCaches$Dozy"), ("NutCaches$Greedy", "NutCaches$Spy"), ("NutCaches$Neat", "NutCaches$Greedy"), ("NutCaches$Neat", "NutCaches$Dozy"), ("NutCaches$Neat", "NutCaches$Spy"), ("NutCaches$Dozy", "NutCaches$Plain"), ("NutCaches$Dozy", "NutCaches$Greedy"), ("NutCaches$Dozy", "NutCaches$Neat"), ("NutCaches$Dozy", "NutCaches$Spy"), ("NutCaches$Spy", "NutCaches$Plain"), ("NutCaches$Spy", "NutCaches$Greedy"), ("NutCaches$Spy", "NutCaches$Neat")]
/-- constants of the run, below the cells that may change: k says where they lie -/
def cK (N : Nat) (k : Nat → Nat) (U : State) : Prop := va_Z "java/lang/String" "COMPACT_STRINGS" "Z" (.int 1) (fun q => N ≤ q) U U.heap
def cZ (N : Nat) (k : Nat → Nat) (U : State) : Prop := (∀ w ∈ cWords, va_Nw w U) ∧ (∀ (n : Nat) (w : Cond), cLid[n]? = some w → va_Nw w U) ∧ (∀ q ∈ cNc, va_Nc q.1 q.2 U) ∧ cK N k U
def zG (G : zE) (kA : Nat → Nat) : Prop := ∀ U : State, G.2.2.2 U → cZ G.2.2.1 kA U
/-- what a class selects for an interface's method, asked by a class that has it from there -/
theorem sel_up {args : Array Value} {s : State} {C sq own n d : String} {y : MethodName} (hs : (Cond.sameMethod sq own n d).before args s = true) (hO : own ≠ "java/lang/invoke/MethodHandle" ∧ own ≠ "java/lang/invoke/VarHandle") (h : (Cond.selects C ⟨own, n, d⟩ y).before args s = true) : (Cond.selects C ⟨sq, n, d⟩ y).before args s = true := by
  obtain ⟨cn, ck, r1, hcn, hck, hni, hf, hn1⟩ := Cond.sameMethod_found hs
  have e : s.methodFound? own n d = some r1 := State.methodFound?_of_named hn1 hO
  have hf' : s.methodFound? sq n d = some r1 := hf
  unfold Cond.before Cond.holds at h ⊢
  simp only [Cond.value] at h ⊢
  rw [e] at h
  rw [hf']
  exact h
section ZH
variable {p : Program} {l : Launch} {e : Env} {R : Room} {s : State} {m : MethodId} {args : Array Value} {below : List Frame} {meth : Method} {c : Code} {H : Heap} {locs : List Loc} {cells slots : Nat} {Q : State → Prop}
variable {cc : ByteArray} {pc : Nat} {ls : Array Slot} {rest st0 : List Value} {G : zE} {ws wc : va_W} {own : String} {nL : Nat} {a : Nat}
variable {y x : MethodName} {bytes : ByteArray} {maxL k mc ms n index : Nat} {ret : Option FieldType} {Qc : Array Value → State → Outcome → State → Prop} {As : List Value} {b : Nat}
/-- a call whose method is named in a class (or found above it), and selected by the object's class C -/
theorem z_runB {ci : Nat} {fs : List Value} {qc : vw_C} {owner C : String} (hC : zCx G own cc nL p s m args meth c) (hv : zNs y bytes maxL ret n ∧ Cond.instanceMethod y ∈ lw_all ∧ Cond.selects C ⟨owner, x.name, x.desc⟩ y ∈ lw_all ∧ (owner ≠ "java/lang/invoke/MethodHandle" ∧ owner ≠ "java/lang/invoke/VarHandle") ∧ (parseMethodDescriptor x.desc).map (fun d => d.parameters.length) = some n)
    (h1 : (Cond.methodLink own index x).before args s = true) (h2 : (Cond.sameMethod x.cls owner x.name x.desc).before args s = true) (hd : va_Decl s ⟨owner, x.name, x.desc⟩) (hM : Met l y (ws_ y bytes maxL ret) (zR k mc ms) (va_Pc (.ref b :: As) (zU G wc)) Qc mc ms (zA G)) (hw : zS G ws s H locs) (hwc : zS G wc s H locs) (q0 : Nat) (he : ws[q0]? = some (b, zo ci fs)) (hc : zcl[ci]? = some qc) (hqc : qc.1 = C) (hlen : As.length = n) (hst : st0 = As.reverse ++ .ref b :: rest) (hcat : (rest.map fun v => v.category).sum ≤ 8) (hls : ls.size = nL)
    (hR : k + 1 ≤ R.frames ∧ 8 + (maxL + 11) + 40 * k ≤ R.locals) (hf : cells + mc ≤ R.cells ∧ slots + ms ≤ R.slots) (hdg : decode cc pc = .ok (.invokevirtual index, 3)) :
    va_Run p l e R s m args below meth c H locs cells slots mc ms (F0 m pc ls st0) rest (Qc (Value.ref b :: As).toArray) (zA G) := by
  subst hst hqc
  obtain ⟨⟨c1, c2, c3, c4⟩, c5, c6, c7, c8⟩ := hv
  exact va_runU (C := qc.1) (owner := owner) (x := x) (As := As) (rest := rest) hC.fix hM ⟨⟨rfl, rfl, hR.1, hR.2, pay_in hC.hts (lw_meth c1), List.mem_cons_self⟩, hC.hts _ c1, hC.hts _ c2, c7, fun sig h => hlen ▸ z_len c8 hlen sig h, h1, h2, hd, sel_up h2 c7 (hC.hts _ c6), hC.hts _ c5⟩ ⟨zU_blind, va_recv hC.hK hw.1 hc he, fun U hU hW => ⟨rfl, zU_of hwc hC.hK hC.hN hU hW⟩⟩ rfl hlen hls rfl (lv_room hcat) hdg hf
theorem z_declO {y : MethodName} {b : ByteArray} {L : Nat} {r : Option FieldType} (hC : zCx G own cc nL p s m args meth c) (h1 : Cond.instanceMethod y ∈ lw_all) (h2 : Cond.code y b L r ∈ lw_all) : va_Decl s y := va_Decl.of (hC.hts _ h1) (hC.hts _ h2)
theorem z_mabs {idx : Nat} {x v : Int32} (hC : zCx G own cc nL p s m args meth c) (hls : ls.size = nL) (hl : Cond.methodLink own idx Lib.Math.abs.name ∈ lw_all) (hm : Cond.static Lib.Math.abs.name ∈ lw_all ∧ Cond.initialized "java/lang/Math" ∈ lw_all ∧ Cond.code Lib.Math.abs.name Lib.Math.abs.code 1 (some .int) ∈ lw_all) (hv : (if 0 ≤ x then x else 0 - x) = v) (hcat : (rest.map fun v => v.category).sum ≤ 8) (hR : 1 ≤ R.frames ∧ 40 ≤ R.locals) (h1 : cells + 0 ≤ R.cells) (h2 : slots + 0 ≤ R.slots) (hdg : decode cc pc = .ok (.invokestatic idx, 3))
    (kk : W p l e R s m args below meth c H locs cells slots Q (F0 m (pc + 3) ls (.int v :: rest))) : W p l e R s m args below meth c H locs cells slots Q (F0 m pc ls (.int x :: rest)) := by
  subst hv
  exact va_mabs hC.hx hC.hb (hC.hml.trans hls.symm) hC.hown (hC.hts _ hl) (hC.hts _ hm.1) (hC.hts _ hm.2.1) (hC.hts _ hm.2.2) hR.1 (Nat.le_trans (Nat.add_le_add_right hcat _) (Nat.le_trans (by decide) hR.2)) h1 h2 hdg kk
theorem z_mmax {idx : Nat} {x y v : Int32} (hC : zCx G own cc nL p s m args meth c) (hls : ls.size = nL) (hl : Cond.methodLink own idx Lib.Math.max.name ∈ lw_all) (hm : Cond.static Lib.Math.max.name ∈ lw_all ∧ Cond.initialized "java/lang/Math" ∈ lw_all ∧ Cond.code Lib.Math.max.name Lib.Math.max.code 2 (some .int) ∈ lw_all) (hv : (if x < y then y else x) = v) (hcat : (rest.map fun v => v.category).sum ≤ 8) (hR : 1 ≤ R.frames ∧ 40 ≤ R.locals) (h1 : cells + 0 ≤ R.cells) (h2 : slots + 0 ≤ R.slots) (hdg : decode cc pc = .ok (.invokestatic idx, 3))
    (kk : W p l e R s m args below meth c H locs cells slots Q (F0 m (pc + 3) ls (.int v :: rest))) : W p l e R s m args below meth c H locs cells slots Q (F0 m pc ls (.int y :: .int x :: rest)) := by
  subst hv
  exact va_mmax hC.hx hC.hb (hC.hml.trans hls.symm) hC.hown (hC.hts _ hl) (hC.hts _ hm.1) (hC.hts _ hm.2.1) (hC.hts _ hm.2.2) hR.1 (Nat.le_trans (Nat.add_le_add_right hcat _) (Nat.le_trans (by decide) hR.2)) h1 h2 hdg kk
theorem z_mmin {idx : Nat} {x y v : Int32} (hC : zCx G own cc nL p s m args meth c) (hls : ls.size = nL) (hl : Cond.methodLink own idx Lib.Math.min.name ∈ lw_all) (hm : Cond.static Lib.Math.min.name ∈ lw_all ∧ Cond.initialized "java/lang/Math" ∈ lw_all ∧ Cond.code Lib.Math.min.name Lib.Math.min.code 2 (some .int) ∈ lw_all) (hv : (if y < x then y else x) = v) (hcat : (rest.map fun v => v.category).sum ≤ 8) (hR : 1 ≤ R.frames ∧ 40 ≤ R.locals) (h1 : cells + 0 ≤ R.cells) (h2 : slots + 0 ≤ R.slots) (hdg : decode cc pc = .ok (.invokestatic idx, 3))
    (kk : W p l e R s m args below meth c H locs cells slots Q (F0 m (pc + 3) ls (.int v :: rest))) : W p l e R s m args below meth c H locs cells slots Q (F0 m pc ls (.int y :: .int x :: rest)) := by
  subst hv
  exact va_mmin hC.hx hC.hb (hC.hml.trans hls.symm) hC.hown (hC.hts _ hl) (hC.hts _ hm.1) (hC.hts _ hm.2.1) (hC.hts _ hm.2.2) hR.1 (Nat.le_trans (Nat.add_le_add_right hcat _) (Nat.le_trans (by decide) hR.2)) h1 h2 hdg kk
theorem z_getS0 {kd idx : Nat} {fs : List Value} {v : Value} (hC : zCx G own cc nL p s m args meth c) (hF : ∀ kd, kd < 5 → zFl (5 + kd) 0 own idx true .int) (hw : zS G ws s H locs) (q0 : Nat) (he : ws[q0]? = some (a, zo (5 + kd) fs)) (hv : fs[0]? = some v) (hk : kd < 5) (hdg : decode cc pc = .ok (.getfield idx, 3))
    (kk : W p l e R s m args below meth c H locs cells slots Q (F0 m (pc + 3) ls (v :: rest))) : W p l e R s m args below meth c H locs cells slots Q (F0 m pc ls (.ref a :: rest)) := z_get hC (hF kd hk) hw q0 he hv hdg kk
theorem z_getS1 {kd idx : Nat} {fs : List Value} {v : Value} (hC : zCx G own cc nL p s m args meth c) (hF : ∀ kd, kd < 5 → zFl (5 + kd) 1 own idx true .int) (hw : zS G ws s H locs) (q0 : Nat) (he : ws[q0]? = some (a, zo (5 + kd) fs)) (hv : fs[1]? = some v) (hk : kd < 5) (hdg : decode cc pc = .ok (.getfield idx, 3))
    (kk : W p l e R s m args below meth c H locs cells slots Q (F0 m (pc + 3) ls (v :: rest))) : W p l e R s m args below meth c H locs cells slots Q (F0 m pc ls (.ref a :: rest)) := z_get hC (hF kd hk) hw q0 he hv hdg kk
theorem z_castS {kd idx N : Nat} {kA : Nat → Nat} {fs : List Value} (hC : zCx G own cc nL p s m args meth c) (hl : Cond.classLink own idx "NutCaches$Squirrel" ∈ lw_all) (hz : cZ N kA s) (hw : zS G ws s H locs) (q0 : Nat) (he : ws[q0]? = some (a, zo (5 + kd) fs)) (hk : kd < 5) (hdg : decode cc pc = .ok (.checkcast idx, 3))
    (kk : W p l e R s m args below meth c H locs cells slots Q (F0 m (pc + 3) ls (.ref a :: rest))) : W p l e R s m args below meth c H locs cells slots Q (F0 m pc ls (.ref a :: rest)) := by
  match kd, hk with
  | 0, _ => exact z_castY hC hl (hz.1 _ (cw_t q2199 rfl)) (z_recv hC hw q0 he rfl) hdg kk
  | 1, _ => exact z_castY hC hl (hz.1 _ (cw_t q2197 rfl)) (z_recv hC hw q0 he rfl) hdg kk
  | 2, _ => exact z_castY hC hl (hz.1 _ (cw_t q2198 rfl)) (z_recv hC hw q0 he rfl) hdg kk
  | 3, _ => exact z_castY hC hl (hz.1 _ (cw_t q2196 rfl)) (z_recv hC hw q0 he rfl) hdg kk
  | 4, _ => exact z_castY hC hl (hz.1 _ (cw_t q2200 rfl)) (z_recv hC hw q0 he rfl) hdg kk
end ZH
theorem zm_max_d {a b : Nat} (ha : a < 2147483648) (hb : b < 2147483648) : (if nI a < nI b then nI b else nI a) = nI (max a b) := by
  by_cases h : a < b
  · rw [if_pos ((nI_ltI ha hb).mpr h), Nat.max_eq_right (by omega)]
  · rw [if_neg (fun q => h ((nI_ltI ha hb).mp q)), Nat.max_eq_left (by omega)]
theorem zm_min_d {a b : Nat} (ha : a < 2147483648) (hb : b < 2147483648) : (if nI b < nI a then nI b else nI a) = nI (min a b) := by
  by_cases h : b < a
  · rw [if_pos ((nI_ltI hb ha).mpr h), Nat.min_eq_right (by omega)]
  · rw [if_neg (fun q => h ((nI_ltI hb ha).mp q)), Nat.min_eq_left (by omega)]
theorem zm_abs_d {a b : Nat} (ha : a < 1073741824) (hb : b < 1073741824) : (if 0 ≤ nI a - nI b then nI a - nI b else 0 - (nI a - nI b)) = nI (apartN a b) := by
  unfold apartN
  by_cases h : a < b
  · rw [if_pos h, if_neg (fun q => absurd (pk_sneg hb h) (Int32.not_lt.mpr q))]
    apply Int32.toInt_inj.mp
    have e1 := pk_sub_toInt (a := a) (b := b) (by omega) (by omega)
    rw [nI_toInt (by omega)]
    have e2 : (0 - (nI a - nI b)).toInt = (-(nI a - nI b)).toInt := by rw [Int32.zero_sub]
    rw [e2, Int32.neg_sub, pk_sub_toInt (by omega) (by omega)]
    omega
  · rw [if_neg h, nI_sub (by omega), if_pos (nI_pos' (by omega))]
