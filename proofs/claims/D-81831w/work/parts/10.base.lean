/-! BASE: one world for every contract: a list of cells, its part named by places, the rest unchanged -/
set_option maxRecDepth 100000
def zcl : List vw_C := [(RX0, TX0, 13), (RX1, TX1, 9), (RX2, TX2, 25), (RX3, TX3, 8), (RX4, TX4, 7), (RX6, TX6, 2), (RX7, TX7, 2), (RX8, TX8, 2), (RX9, TX9, 2), (RX10, TX10, 2), (RX11, TX11, 3), (RJ2, TJ2, 4), (RJ3, TJ3, 4), (RJ18, TJ18, 1), (RJ23, TJ23, 3), (RJ25, TJ25, 5), (RJ11, TJ11, 2), (RJ16, TJ16, 8), (RJ22, TJ22, 6), (RJ28, TJ28, 6), (RJ31, TJ31, 6)]
abbrev zE : Type := va_G × (Nat → ClassId) × Nat × (State → Prop)
def zT (d : Nat → ClassId) : List (ClassId × FieldType) := [(d 0, .int), (d 1, .byte), (d 2, .short), (d 3, .boolean), (d 4, .object "java/lang/Object"), (d 5, .object "NutCaches$State"), (d 6, .object "NutCaches$Trail"), (d 7, .array .int)]
def zA (G : zE) : Nat → Prop := fun q => G.2.2.1 ≤ q
/-- what the run carries besides: constants, links that aren't the tables' (the last part of G says what; it stays so as long as the cells ahead of the run's stay) -/
def zN (G : zE) (U : State) : Prop := G.2.2.2 U ∧ ∀ s V : State, G.2.2.2 s → s.heap.size ≤ V.heap.size → (∀ q : Nat, q < s.heap.size → ¬ zA G q → V.heap[q]? = s.heap[q]?) → s.WarmedH V.vm → G.2.2.2 V
def zU (G : zE) (ws : va_W) (U : State) : Prop := va_P G.1 zcl ws U.heap ∧ va_D (zA G) ws ∧ va_K G.1 zcl (zT G.2.1) U ∧ G.2.2.1 ≤ U.heap.size ∧ zN G U
def zS (G : zE) (ws : va_W) (s : State) (H : Heap) (locs : List Loc) : Prop := va_P G.1 zcl ws H ∧ va_D (zA G) ws ∧ va_S (zA G) s.heap H locs
def zCx (G : zE) (own : String) (cc : ByteArray) (nL : Nat) (p : Program) (s : State) (m : MethodId) (args : Array Value) (meth : Method) (c : Code) : Prop :=
  p.tables.exec = Jvm.exec ∧ c.code = cc ∧ c.maxLocals = nL ∧ s.vm.findClass own = some m.cls ∧ (∀ w ∈ lw_all, w.before args s = true) ∧ meth.locks = false ∧ va_K G.1 zcl (zT G.2.1) s ∧ G.2.2.1 ≤ s.heap.size ∧ zN G s
abbrev zR (k mc ms : Nat) : Room := { frames := k, cells := mc, slots := ms, locals := 40 * k }
theorem zA_ge {G : zE} {s : State} (h : G.2.2.1 ≤ s.heap.size) : ∀ q, s.heap.size ≤ q → zA G q := fun _ hq => Nat.le_trans h hq
/-! worlds up to the order of their cells -/
theorem zD_iff {A : Nat → Prop} {ws : va_W} : va_D A ws ↔ (ws.map Prod.fst).Nodup ∧ ∀ q ∈ ws, A q.1 := by
  constructor
  · intro h
    refine ⟨?_, fun q hq => ?_⟩
    · rw [List.Nodup, List.pairwise_iff_getElem]
      intro i j hi hj hij he
      simp only [List.length_map] at hi hj
      have := h.1 i j ws[i] ws[j] (List.getElem?_eq_getElem hi) (List.getElem?_eq_getElem hj) (by simpa using he)
      omega
    · obtain ⟨k, hk⟩ := List.getElem?_of_mem hq
      exact h.2 k q hk
  · intro ⟨h1, h2⟩
    refine ⟨fun i j p q hp hq he => ?_, fun k q hk => h2 q (List.mem_of_getElem? hk)⟩
    have a1 : (ws.map Prod.fst)[i]? = some p.1 := by rw [List.getElem?_map, hp]; rfl
    have a2 : (ws.map Prod.fst)[j]? = some p.1 := by rw [List.getElem?_map, hq, he]; rfl
    have hi := (List.getElem?_eq_some_iff.mp a1).1
    exact (List.getElem?_inj hi h1).mp (a1.trans a2.symm)
theorem zP_iff {D : va_G} {cl : List vw_C} {ws : va_W} {H : Heap} : va_P D cl ws H ↔ ∀ q ∈ ws, va_at D cl q H := by
  constructor
  · intro h q hq
    obtain ⟨k, hk⟩ := List.getElem?_of_mem hq
    exact h k q hk
  · exact fun h k q hk => h q (List.mem_of_getElem? hk)
theorem zP_perm {D : va_G} {cl : List vw_C} {ws ws' : va_W} {H : Heap} (hp : ws.Perm ws') (h : va_P D cl ws H) : va_P D cl ws' H :=
  zP_iff.mpr fun q hq => zP_iff.mp h q (hp.mem_iff.mpr hq)
theorem zD_perm {A : Nat → Prop} {ws ws' : va_W} (hp : ws.Perm ws') (h : va_D A ws) : va_D A ws' := by
  obtain ⟨h1, h2⟩ := zD_iff.mp h
  exact zD_iff.mpr ⟨(hp.map Prod.fst).nodup_iff.mp h1, fun q hq => h2 q (hp.mem_iff.mpr hq)⟩
theorem zS.perm {G : zE} {ws ws' : va_W} {s : State} {H : Heap} {locs : List Loc} (h : zS G ws s H locs) (hp : ws.Perm ws') : zS G ws' s H locs := ⟨zP_perm hp h.1, zD_perm hp h.2.1, h.2.2⟩
theorem zU.perm {G : zE} {ws ws' : va_W} {U : State} (h : zU G ws U) (hp : ws.Perm ws') : zU G ws' U := ⟨zP_perm hp h.1, zD_perm hp h.2.1, h.2.2⟩
/-- the cells at no place of is -/
def zrem (is : List Nat) (ws : va_W) : va_W := ((List.range ws.length).filter (fun i => !is.contains i)).filterMap (fun i => ws[i]?)
/-- the cells at the places is, anew -/
def zset : List Nat → va_W → va_W → va_W
  | i :: is, c :: cs, ws => zset is cs (ws.set i c)
  | _, _, ws => ws
theorem z_range (ws : va_W) : (List.range ws.length).filterMap (fun i => ws[i]?) = ws := by
  induction ws with
  | nil => rfl
  | cons a l ih =>
    rw [List.length_cons, List.range_succ_eq_map, List.filterMap_cons, List.filterMap_map]
    simp only [List.getElem?_cons_zero]
    congr 1
theorem z_nd {is : List Nat} (h : va_nd is = true) : is.Nodup := by
  induction is with
  | nil => exact List.nodup_nil
  | cons a l ih =>
    simp only [va_nd, Bool.and_eq_true, decide_eq_true_eq] at h
    exact List.nodup_cons.mpr ⟨h.1, ih h.2⟩
theorem z_fm {is : List Nat} {ws cells : va_W} (h : is.map (fun i => ws[i]?) = cells.map some) : is.filterMap (fun i => ws[i]?) = cells := by
  have : (is.map (fun i => ws[i]?)).filterMap id = (cells.map some).filterMap id := by rw [h]
  simpa [List.filterMap_map] using this
theorem z_cut {is : List Nat} {ws cells : va_W} (hn : va_nd is = true) (h : is.map (fun i => ws[i]?) = cells.map some) : ws.Perm (cells ++ zrem is ws) := by
  have hlt : ∀ i ∈ is, i < ws.length := by
    intro i hi
    have : ws[i]? ∈ is.map (fun i => ws[i]?) := List.mem_map.mpr ⟨i, hi, rfl⟩
    rw [h] at this
    obtain ⟨c, -, hc⟩ := List.mem_map.mp this
    exact (List.getElem?_eq_some_iff.mp hc.symm).1
  have hp : (List.range ws.length).Perm (is ++ (List.range ws.length).filter (fun i => !is.contains i)) := by
    have hnd : (is ++ (List.range ws.length).filter (fun i => !is.contains i)).Nodup := by
      rw [List.nodup_append]
      refine ⟨z_nd hn, List.nodup_range.filter _, fun a ha b hb hab => ?_⟩
      subst hab
      simp at hb
      exact hb.2 ha
    rw [List.perm_ext_iff_of_nodup List.nodup_range hnd]
    intro a
    simp only [List.mem_append, List.mem_filter, List.mem_range, Bool.not_eq_true', List.contains_eq_mem, decide_eq_false_iff_not]
    constructor
    · intro ha
      by_cases hi : a ∈ is
      · exact Or.inl hi
      · exact Or.inr ⟨ha, hi⟩
    · rintro (ha | ha)
      · exact hlt a ha
      · exact ha.1
  have h2 := hp.filterMap (fun i => ws[i]?)
  rw [z_range, List.filterMap_append, z_fm h] at h2
  exact h2
theorem zset_len (is : List Nat) : ∀ (cs ws : va_W), (zset is cs ws).length = ws.length := by
  induction is with
  | nil => intro cs ws; cases cs <;> rfl
  | cons i is ih =>
    intro cs ws
    cases cs with
    | nil => rfl
    | cons c cs => show (zset is cs (ws.set i c)).length = _; rw [ih, List.length_set]
theorem zset_off {is : List Nat} : ∀ {cs ws : va_W} {j : Nat}, j ∉ is → (zset is cs ws)[j]? = ws[j]? := by
  induction is with
  | nil => intro cs ws j _; cases cs <;> rfl
  | cons i is ih =>
    intro cs ws j hj
    cases cs with
    | nil => rfl
    | cons c cs =>
      show (zset is cs (ws.set i c))[j]? = _
      rw [ih (fun q => hj (List.mem_cons_of_mem _ q)), List.getElem?_set_ne (fun q => hj (by rw [q]; exact List.mem_cons_self))]
theorem zset_on {is : List Nat} : ∀ {cs ws : va_W}, is.Nodup → (∀ i ∈ is, i < ws.length) → cs.length = is.length → is.map (fun i => (zset is cs ws)[i]?) = cs.map some := by
  induction is with
  | nil => intro cs ws _ _ h; cases cs with
    | nil => rfl
    | cons _ _ => simp at h
  | cons i is ih =>
    intro cs ws hn hl h
    cases cs with
    | nil => simp at h
    | cons c cs =>
      obtain ⟨h1, h2⟩ := List.nodup_cons.mp hn
      show _ :: _ = _ :: _
      congr 1
      · show (zset is cs (ws.set i c))[i]? = some c
        rw [zset_off h1, List.getElem?_set_self (hl i List.mem_cons_self)]
      · exact ih (ws := ws.set i c) h2 (fun j hj => by rw [List.length_set]; exact hl j (List.mem_cons_of_mem _ hj)) (by simpa using h)
theorem z_fmc {α β : Type} {f g : α → Option β} {l : List α} (h : ∀ a ∈ l, f a = g a) : l.filterMap f = l.filterMap g := by
  induction l with
  | nil => rfl
  | cons a l ih =>
    rw [List.filterMap_cons, List.filterMap_cons, h a List.mem_cons_self, ih (fun b hb => h b (List.mem_cons_of_mem _ hb))]
theorem zrem_set {is : List Nat} {cs ws : va_W} : zrem is (zset is cs ws) = zrem is ws := by
  unfold zrem
  rw [zset_len]
  refine z_fmc (fun i hi => ?_)
  refine zset_off (fun q => ?_)
  simp at hi
  exact hi.2 q
theorem z_pput {is : List Nat} {ws cells cells' : va_W} (hn : va_nd is = true) (h : is.map (fun i => ws[i]?) = cells.map some) (hl : cells'.length = is.length) : (cells' ++ zrem is ws).Perm (zset is cells' ws) := by
  have hlt : ∀ i ∈ is, i < ws.length := by
    intro i hi
    have : ws[i]? ∈ is.map (fun i => ws[i]?) := List.mem_map.mpr ⟨i, hi, rfl⟩
    rw [h] at this
    obtain ⟨c, -, hc⟩ := List.mem_map.mp this
    exact (List.getElem?_eq_some_iff.mp hc.symm).1
  have h1 := z_cut (ws := zset is cells' ws) (cells := cells') hn (zset_on (z_nd hn) hlt hl)
  rw [zrem_set] at h1
  exact h1.symm
theorem zset_same {is : List Nat} : ∀ {cs ws : va_W}, is.map (fun i => ws[i]?) = cs.map some → zset is cs ws = ws := by
  induction is with
  | nil => intro cs ws _; cases cs <;> rfl
  | cons i is ih =>
    intro cs ws h
    cases cs with
    | nil => rfl
    | cons c cs =>
      have h1 : ws[i]? = some c := (List.cons.inj h).1
      have h2 : ws.set i c = ws := by
        apply List.ext_getElem?
        intro j
        by_cases hj : j = i
        · subst hj
          rw [List.getElem?_set_self (List.getElem?_eq_some_iff.mp h1).1, h1]
        · rw [List.getElem?_set_ne (Ne.symm hj)]
      show zset is cs (ws.set i c) = ws
      rw [h2]
      exact ih (List.cons.inj h).2
/-! contracts -/
abbrev zMi {S : Type} (G : zE) (l : Launch) (y : MethodName) (b : ByteArray) (L : Nat) (r : Option FieldType) (k mc ms : Nat) (av : List Value) (ws : va_W) (post : Int32 → S → Prop) (B : S → va_W) : Prop :=
  Met l y (ws_ y b L r) (zR k mc ms) (va_Pc av (zU G ws)) (va_Qi post (fun u t => zU G (B u) t) (zA G)) mc ms (zA G)
abbrev zMv {S : Type} (G : zE) (l : Launch) (y : MethodName) (b : ByteArray) (L : Nat) (k mc ms : Nat) (av : List Value) (ws : va_W) (post : S → Prop) (B : S → va_W) : Prop :=
  Met l y (ws_ y b L none) (zR k mc ms) (va_Pc av (zU G ws)) (va_Qv post (fun u t => zU G (B u) t) (zA G)) mc ms (zA G)
abbrev zMq {S : Type} (G : zE) (l : Launch) (y : MethodName) (b : ByteArray) (L : Nat) (r : Option FieldType) (k mc ms : Nat) (av : List Value) (ws : va_W) (post : Option Nat → S → Prop) (B : S → va_W) : Prop :=
  Met l y (ws_ y b L r) (zR k mc ms) (va_Pc av (zU G ws)) (va_Qq post (fun u t => zU G (B u) t) (zA G)) mc ms (zA G)
theorem zU_blind {G : zE} {ws : va_W} {av : List Value} : FrameBlind (va_Pc av (zU G ws)) := by
  intro a U g mk ⟨h1, h2, h3, h4, h5, h6⟩
  exact ⟨h1, h2, h3, va_K.moved (u := U) (U := U.calling g mk a) (Vm.Alike.refl U.vm) h4, h5, h6.2 _ _ h6.1 (Nat.le_refl _) (fun _ _ _ => rfl) (State.WarmedH.refl U), h6.2⟩
theorem zN_of {G : zE} {ws : va_W} {s U : State} {H : Heap} {locs : List Loc} (hw : zS G ws s H locs) (hZ : zN G s) (hU : U.heap = H) (hvm : s.WarmedH U.vm) : zN G U :=
  ⟨hZ.2 _ _ hZ.1 (by rw [hU]; exact hw.2.2.1) (fun q h1 h2 => by rw [hU]; exact hw.2.2.2.1 q h1 h2) hvm, hZ.2⟩
theorem zU_of {G : zE} {ws : va_W} {s U : State} {H : Heap} {locs : List Loc} (hw : zS G ws s H locs) (hK : va_K G.1 zcl (zT G.2.1) s) (hN : G.2.2.1 ≤ s.heap.size ∧ zN G s) (hU : U.heap = H) (hvm : s.WarmedH U.vm) : zU G ws U :=
  ⟨by rw [hU]; exact hw.1, hw.2.1, va_K.moved hvm.alike hK, by rw [hU]; exact Nat.le_trans hN.1 hw.2.2.1, zN_of hw hN.2 hU hvm⟩
section ZW
variable {p : Program} {l : Launch} {e : Env} {R : Room} {s : State} {m : MethodId} {args : Array Value} {below : List Frame} {meth : Method} {c : Code} {H : Heap} {locs : List Loc} {cells slots : Nat} {Q : State → Prop}
variable {cc : ByteArray} {pc : Nat} {ls : Array Slot} {rest : List Value} {G : zE} {ws : va_W} {own : String} {nL : Nat} {a : Nat}
theorem zCx.hx (h : zCx G own cc nL p s m args meth c) : p.tables.exec = Jvm.exec := h.1
theorem zCx.hb (h : zCx G own cc nL p s m args meth c) : c.code = cc := h.2.1
theorem zCx.hml (h : zCx G own cc nL p s m args meth c) : c.maxLocals = nL := h.2.2.1
theorem zCx.hown (h : zCx G own cc nL p s m args meth c) : s.vm.findClass own = some m.cls := h.2.2.2.1
theorem zCx.hts (h : zCx G own cc nL p s m args meth c) : ∀ w ∈ lw_all, w.before args s = true := h.2.2.2.2.1
theorem zCx.hlk (h : zCx G own cc nL p s m args meth c) : meth.locks = false := h.2.2.2.2.2.1
theorem zCx.hK (h : zCx G own cc nL p s m args meth c) : va_K G.1 zcl (zT G.2.1) s := h.2.2.2.2.2.2.1
theorem zCx.hN (h : zCx G own cc nL p s m args meth c) : G.2.2.1 ≤ s.heap.size ∧ zN G s := h.2.2.2.2.2.2.2
theorem zCx.hZ (h : zCx G own cc nL p s m args meth c) : zN G s := h.2.2.2.2.2.2.2.2
theorem zCx.fix (h : zCx G own cc nL p s m args meth c) : CallFix p m c cc nL s args lw_all own := ⟨h.1, h.2.1, h.2.2.1, h.2.2.2.1, h.2.2.2.2.1⟩
/-- a method's start -/
theorem z_start {y : MethodName} {b : ByteArray} {L : Nat} {r : Option FieldType} {k mc ms : Nat} {av : List Value} {Qc : Array Value → State → Outcome → State → Prop} (hy : plainName y.cls = true) (hL : (lg_sl av).length ≤ L)
    (body : ∀ (p : Program) (e : Env) (s : State) (m : MethodId) (below : List Frame) (meth : Method) (c : Code) (ls : Array Slot), zCx G y.cls b L p s m av.toArray meth c → meth.sig.returnType = r → meth.name = y.name → lv_has ls L (lv_args 0 av) → zS G ws s s.heap [] →
      W p l e (zR k mc ms) s m av.toArray below meth c s.heap [] 0 0 (MQ below Qc av.toArray s mc ms (zA G)) (F0 m 0 ls [])) : Met l y (ws_ y b L r) (zR k mc ms) (va_Pc av (zU G ws)) Qc mc ms (zA G) := by
  refine Met.ofW (cc := b) (maxL := L) (ret := r) hy rfl ?_
  intro p e s m args below meth c s₁ B hml hv
  obtain ⟨rfl, hP, hD, hK, hN⟩ := hv
  have hts := atoms_spec (ws := ws_ y b L r) B.pre
  have hts : ∀ w ∈ lw_all, w.before _ s = true := fun w h => hts w (List.mem_cons_of_mem _ h)
  have hown : s.vm.findClass y.cls = some m.cls := findClass_of_methodNamed B.named
  rw [lg_entry_eq]
  exact body p e s m below meth c _ ⟨B.exec, B.bytes, hml, hown, hts, B.notSynchronized, hK, hN⟩ B.returns (name_of_methodNamed B.named B.method).1 (lv_entry av hL) ⟨hP, hD, va_S.rf⟩
/-- a method's ends -/
theorem z_iret {S : Type} {post : Int32 → S → Prop} {B : S → va_W} {mc ms : Nat} {v : Int32} (hC : zCx G own cc nL p s m args meth c) (hr : meth.sig.returnType = some .int) (u : S) (hw : zS G (B u) s H locs) (hp : post v u) (h1 : cells ≤ mc) (h2 : slots ≤ ms) (hdg : decode cc pc = .ok (.ireturn, 1)) :
    W p l e R s m args below meth c H locs cells slots (MQ below (va_Qi post (fun u t => zU G (B u) t) (zA G)) args s mc ms (zA G)) (F0 m pc ls [.int v]) := by
  refine W.widen h1 h2 ?_
  exact W.iret (v := v) hC.hx hC.hb hr (fun t ht hW => ⟨⟨v, u, rfl, hp, zU_of hw hC.hK hC.hN ht hW⟩, hw.2.2.F ht⟩) hw.2.2.2.2 hdg hC.hlk
theorem z_zret {S : Type} {post : Int32 → S → Prop} {B : S → va_W} {mc ms : Nat} {v : Int32} {ty : FieldType} (hC : zCx G own cc nL p s m args meth c) (hr : meth.sig.returnType = some ty) (hn : narrow ty (.int v) = .int v) (u : S) (hw : zS G (B u) s H locs) (hp : post v u) (h1 : cells ≤ mc) (h2 : slots ≤ ms) (hdg : decode cc pc = .ok (.ireturn, 1)) :
    W p l e R s m args below meth c H locs cells slots (MQ below (va_Qi post (fun u t => zU G (B u) t) (zA G)) args s mc ms (zA G)) (F0 m pc ls [.int v]) := by
  refine W.widen h1 h2 ?_
  exact W.zret (v := v) hC.hx hC.hb hr hn (fun t ht hW => ⟨⟨v, u, rfl, hp, zU_of hw hC.hK hC.hN ht hW⟩, hw.2.2.F ht⟩) hw.2.2.2.2 hdg hC.hlk
theorem z_vret {S : Type} {post : S → Prop} {B : S → va_W} {mc ms : Nat} (hC : zCx G own cc nL p s m args meth c) (hr : meth.sig.returnType = none) (u : S) (hw : zS G (B u) s H locs) (hp : post u) (h1 : cells ≤ mc) (h2 : slots ≤ ms) (hdg : decode cc pc = .ok (.return_, 1)) :
    W p l e R s m args below meth c H locs cells slots (MQ below (va_Qv post (fun u t => zU G (B u) t) (zA G)) args s mc ms (zA G)) (F0 m pc ls []) := by
  refine W.widen h1 h2 ?_
  exact W.vret hC.hx hC.hb hr (fun t ht hW => ⟨⟨u, rfl, hp, zU_of hw hC.hK hC.hN ht hW⟩, hw.2.2.F ht⟩) hw.2.2.2.2 hdg hC.hlk
theorem z_aret {S : Type} {post : Option Nat → S → Prop} {B : S → va_W} {mc ms : Nat} {rt : FieldType} {v : Option Nat} (hC : zCx G own cc nL p s m args meth c) (hr : meth.sig.returnType = some rt) (hrt : (∃ n, rt = .object n) ∨ ∃ t, rt = .array t) (u : S) (hw : zS G (B u) s H locs) (hp : post v u) (h1 : cells ≤ mc) (h2 : slots ≤ ms) (hdg : decode cc pc = .ok (.areturn, 1)) :
    W p l e R s m args below meth c H locs cells slots (MQ below (va_Qq post (fun u t => zU G (B u) t) (zA G)) args s mc ms (zA G)) (F0 m pc ls [va_rf v]) := by
  refine W.widen h1 h2 ?_
  exact W.aret (v := va_rf v) hC.hx hC.hb hr hrt (va_rf_or v) (fun t ht hW => ⟨⟨v, u, rfl, hp, zU_of hw hC.hK hC.hN ht hW⟩, hw.2.2.F ht⟩) hw.2.2.2.2 hdg hC.hlk
end ZW
