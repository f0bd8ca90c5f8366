/-! THE LAW: rows; what each call leaves alone; the classes at the start -/
set_option maxRecDepth 100000
def RLw : String := "NutCachesLaw"
def zVsW (own : String) (index : Nat) (y : MethodName) (bytes : ByteArray) (maxL : Nat) (ret : Option FieldType) (hh : List (Nat × Nat × Nat × Nat)) (n : Nat) : Prop := GoodIn lw_all (wsV own index y.cls y (wsW_ y bytes maxL ret hh)) ∧ (y.cls ≠ "java/lang/invoke/MethodHandle" ∧ y.cls ≠ "java/lang/invoke/VarHandle") ∧ (parseMethodDescriptor y.desc).map (fun d => d.parameters.length) = some n
section ZLW
variable {p : Program} {l : Launch} {e : Env} {R : Room} {s : State} {m : MethodId} {args : Array Value} {below : List Frame} {meth : Method} {c : Code} {H : Heap} {locs : List Loc} {cells slots : Nat} {Q : State → Prop}
variable {cc : ByteArray} {pc : Nat} {ls : Array Slot} {rest st0 : List Value} {G : zE} {ws wc : va_W} {own : String} {nL : Nat} {y : MethodName} {bytes : ByteArray} {maxL : Nat} {ret : Option FieldType} {index b n : Nat} {As : List Value} {k mc ms : Nat} {Qc : Array Value → State → Outcome → State → Prop}
theorem z_runVW {hh : List (Nat × Nat × Nat × Nat)} {ci : Nat} {fs : List Value} {qc : vw_C} (hC : zCx G own cc nL p s m args meth c) (hv : zVsW own index y bytes maxL ret hh n) (hM : Met l y (wsW_ y bytes maxL ret hh) (zR k mc ms) (va_Pc (.ref b :: As) (zU G wc)) Qc mc ms (zA G)) (hw : zS G ws s H locs) (hwc : zS G wc s H locs) (q0 : Nat) (he : ws[q0]? = some (b, zo ci fs)) (hc : zcl[ci]? = some qc) (hqc : qc.1 = y.cls) (hlen : As.length = n) (hst : st0 = As.reverse ++ .ref b :: rest) (hcat : (rest.map fun v => v.category).sum ≤ 8) (hls : ls.size = nL)
    (hR : k + 1 ≤ R.frames ∧ 8 + (maxL + 11) + 40 * k ≤ R.locals) (hf : cells + mc ≤ R.cells ∧ slots + ms ≤ R.slots) (hdg : decode cc pc = .ok (.invokevirtual index, 3)) :
    va_Run p l e R s m args below meth c H locs cells slots mc ms (F0 m pc ls st0) rest (Qc (Value.ref b :: As).toArray) (zA G) := by
  subst hst
  obtain ⟨h1, h2, h3⟩ := hv
  exact vx_runVW (hh := hh) (As := As) (rest := rest) hC.fix hM (vx_cwVW n hC.hts h1 rfl rfl rfl ⟨rfl, h2.1, h2.2, h3⟩ hR) ⟨zU_blind, by rw [← hqc]; exact va_recv hC.hK hw.1 hc he, fun U hU hW => ⟨rfl, zU_of hwc hC.hK hC.hN hU hW⟩⟩ rfl hlen hls rfl (lv_room hcat) hdg hf
theorem z_ialdK {t N i : Nat} {f : Nat → Value} {x : Value} (hC : zCx G own cc nL p s m args meth c) (hT : va_T .int t N f (zA G) s s.heap) (hw : zS G ws s H locs) (hi : i < N) (hN : N < 2147483648) (hx : f i = x) (hdg : decode cc pc = .ok (.iaload, 1))
    (kk : W p l e R s m args below meth c H locs cells slots Q (F0 m (pc + 1) ls (x :: rest))) : W p l e R s m args below meth c H locs cells slots Q (F0 m pc ls (.int (nI i) :: .ref t :: rest)) := va_ti hC.hx hC.hb hT hw.2.2 (z_cl hi hN) (by rw [nI_clamp (by omega)]; exact hx) hdg kk
end ZLW
theorem va_X.toT {b L : Nat} {xs : Nat → Int32} {U : State} {H : Heap} {A : Nat → Prop} (h : va_X b L xs U H) (hA : ¬ A b) : va_T .int b L (fun j => .int (xs j)) A U H := by
  obtain ⟨scr, h1, h2, h3, h4, h5⟩ := h
  exact ⟨scr, h1, h2, h3, by omega, by rw [h4], h5, hA⟩
theorem and63 (x : Int32) : ∃ k, k < 64 ∧ x &&& nI 63 = nI k := by
  refine ⟨(x &&& nI 63).toUInt32.toNat, ?_, ?_⟩
  · have e : (x &&& nI 63).toUInt32.toNat = x.toUInt32.toNat &&& 63 := by
      rw [Int32.toUInt32_and, UInt32.toNat_and]; rfl
    rw [e]
    exact Nat.lt_of_le_of_lt Nat.and_le_right (by decide)
  · have h : ∀ y : Int32, y = Int32.ofNat y.toUInt32.toNat := by
      intro y
      cases y with
      | ofUInt32 u =>
        show Int32.ofUInt32 u = Int32.ofUInt32 (UInt32.ofNat u.toNat)
        rw [UInt32.ofNat_toNat]
    exact h _
theorem law_le {i L : Nat} (hi : i ≤ 120) (hL : L ≤ 120) (h : ¬ nI L - nI 5 < nI i) : i + 5 ≤ L := by
  have key : ∀ i L : Fin 121, ¬ nI L.1 - nI 5 < nI i.1 → i.1 + 5 ≤ L.1 := by decide +kernel
  exact key ⟨i, by omega⟩ ⟨L, by omega⟩ h
/-! what each call leaves alone -/
theorem slS_no {G : zE} {co : Nat} {o : Option Nat} {v : Option (Nat → Nat)} {x : va_W} (h : slS G co o v x) : slS G co o none x := by
  cases o with
  | none => exact ⟨h.1, rfl⟩
  | some a =>
    obtain ⟨z, ps, dy, hg, p, nu, ax, le, kn, h1, h2, -⟩ := h
    exact ⟨z, ps, dy, hg, p, nu, ax, le, kn, h1, h2, fun w hw => by cases hw⟩
theorem slG_no {G : zE} {o : Option Nat} {f : Option (Nat → Int32)} {x : va_W} (h : slG G o f x) : slG G o none x := by
  cases o with
  | none => exact ⟨h.1, rfl⟩
  | some a =>
    obtain ⟨g, h1, -⟩ := h
    exact ⟨g, h1, fun w hw => by cases hw⟩
theorem slB_0 {G : zE} {co um : Nat} {bf : Nat → Option Nat} {U : Nat → Nat → Nat} {bs : Nat → va_W} (h : slB G co bf um U bs) (U' : Nat → Nat → Nat) : slB G co bf 0 U' bs := fun j hj => by rw [if_neg (Nat.not_lt_zero j)]; exact slS_no (h j hj)
theorem sgR_0 {G : zE} {A A' : AS} {sm : Nat} {gf : Nat → Option Nat} {gs : Nat → va_W} (h : sgR G A sm gf gs) (h0 : aS A' = 0) : sgR G A' 0 gf gs := ⟨h0.symm, fun j hj => by rw [if_neg (Nat.not_lt_zero j)]; exact slG_no (h.2 j hj)⟩
section KEEP
variable {G : zE} {A A' : AS} {co : Nat} {kA sq : Nat → Nat}
theorem aV1_eq (hA : AOk A) (hA' : AOk A') (h0 : aV0 A' = aV0 A) : aV A 1 = aV A' 1 := hA.2.2.1.2.1.1.symm.trans (by rw [← hA'.2.2.1.2.1.1, h0])
theorem sqW_AA (hA : AOk A) (hA' : AOk A') (h0 : aV0 A' = aV0 A) : sqW sq (aV A) = sqW sq (aV A') := by
  have a := hA.2.2.1.2.1
  have b := hA'.2.2.1.2.1
  rw [h0] at b
  refine sqW_eq (aV1_eq hA hA' h0) (fun i hi => ?_)
  have hi0 : i < aV0 A 1 := by rw [a.1]; exact hi
  exact ⟨(a.2 i hi0).1.symm.trans (b.2 i hi0).1, (a.2 i hi0).2.symm.trans (b.2 i hi0).2⟩
theorem kpR_c {kf : Nat → Option Nat} {ks : Nat → va_W} (h : aK A' = aK A) (hK : kpR G co A kf ks) : kpR G co A' kf ks := by unfold kpR; rw [h]; exact hK
theorem sgR_c {sm : Nat} {gf : Nat → Option Nat} {gs : Nat → va_W} (h1 : aS A' = aS A) (h2 : aSg A' = aSg A) (hg : sgR G A sm gf gs) : sgR G A' sm gf gs := by unfold sgR; rw [h1, h2]; exact hg
theorem trR_c {tf : Nat → Option Nat} {ts : Nat → va_W} (h : aTr A' = aTr A) (hT : trR G kA A sq tf ts) : trR G kA A' sq tf ts := by unfold trR; rw [h]; exact hT
theorem txR_c {lt : Nat} {tx : Nat → Int32} (h1 : aT A' = aT A) (h2 : aL A' = aL A) (h : txR A lt tx) : txR A' lt tx := by unfold txR; rw [h1, h2]; exact h
end KEEP
/-- what a call leaves: text (1), told (2), now (3), backs (4), kept (5), sights (6), trails (7) -/
def e1 (A A' : AS) : Prop := aT A' = aT A ∧ aL A' = aL A
def e3 (A A' : AS) : Prop := aV A' = aV A
def e4 (A A' : AS) : Prop := aU A' = aU A ∧ aUs A' = aUs A
def e6 (A A' : AS) : Prop := aS A' = aS A ∧ aSg A' = aSg A
def eN (A A' : AS) : Prop := aV0 A' = aV0 A ∧ e1 A A' ∧ aK A' = aK A ∧ e6 A A' ∧ aTr A' = aTr A
def eK (A A' : AS) : Prop := aV0 A' = aV0 A ∧ e1 A A' ∧ e3 A A' ∧ e4 A A' ∧ e6 A A' ∧ aTr A' = aTr A
def eS (A A' : AS) : Prop := aV0 A' = aV0 A ∧ e1 A A' ∧ e3 A A' ∧ e4 A A' ∧ aK A' = aK A ∧ aTr A' = aTr A
def eX (A A' : AS) : Prop := aV0 A' = aV0 A ∧ e3 A A' ∧ e4 A A' ∧ aK A' = aK A ∧ e6 A A' ∧ aTr A' = aTr A
def eT (A A' : AS) : Prop := aV0 A' = aV0 A ∧ e1 A A' ∧ e3 A A' ∧ e4 A A' ∧ aK A' = aK A ∧ e6 A A'
def eB (A A' : AS) : Prop := eN A A' ∧ aUs A' = aUs A ∧ (aU A' = aU A ∨ aU A' = 0)
theorem eN_day {A : AS} {n : Int32} : eN A (F_day A n).2 := by
  unfold F_day ifP
  repeat' split
  all_goals exact ⟨rfl, ⟨rfl, rfl⟩, rfl, ⟨rfl, rfl⟩, rfl⟩
theorem eN_bury {A : AS} {x n : Int32} : eN A (F_bury A x n).2 := by
  unfold F_bury ifP
  repeat' split
  all_goals exact ⟨rfl, ⟨rfl, rfl⟩, rfl, ⟨rfl, rfl⟩, rfl⟩
theorem eN_raid {A : AS} {x n : Int32} : eN A (F_raid A x n).2 := by
  unfold F_raid ifP
  repeat' split
  all_goals exact ⟨rfl, ⟨rfl, rfl⟩, rfl, ⟨rfl, rfl⟩, rfl⟩
theorem eN_tell {A : AS} {x y : Int32} : eN A (F_tell A x y).2 := by
  unfold F_tell ifP
  repeat' split
  all_goals exact ⟨rfl, ⟨rfl, rfl⟩, rfl, ⟨rfl, rfl⟩, rfl⟩
theorem eN_undo {A : AS} : eN A (F_undo A).2 := by
  unfold F_undo
  repeat' split
  all_goals exact ⟨rfl, ⟨rfl, rfl⟩, rfl, ⟨rfl, rfl⟩, rfl⟩
theorem eK_keep {A : AS} {k : Int32} : eK A (F_keep A k).2 := by
  unfold F_keep ifP
  repeat' split
  all_goals exact ⟨rfl, ⟨rfl, rfl⟩, rfl, ⟨rfl, rfl⟩, ⟨rfl, rfl⟩, rfl⟩
theorem eS_seen {A : AS} {m d e w : Int32} : eS A (F_seen A m d e w).2 := by
  unfold F_seen ifP
  repeat' split
  all_goals exact ⟨rfl, ⟨rfl, rfl⟩, rfl, ⟨rfl, rfl⟩, rfl, rfl⟩
theorem eS_forget {A : AS} : eS A (F_forget A).2 := by
  unfold F_forget
  repeat' split
  all_goals exact ⟨rfl, ⟨rfl, rfl⟩, rfl, ⟨rfl, rfl⟩, rfl, rfl⟩
theorem eX_write {A : AS} {x : Int32} : eX A (F_write A x).2 := by
  unfold F_write ifP
  repeat' split
  all_goals exact ⟨rfl, rfl, ⟨rfl, rfl⟩, rfl, ⟨rfl, rfl⟩, rfl⟩
theorem eX_erase {A : AS} : eX A (F_erase A).2 := by
  unfold F_erase
  repeat' split
  all_goals exact ⟨rfl, rfl, ⟨rfl, rfl⟩, rfl, ⟨rfl, rfl⟩, rfl⟩
theorem eT_trail {A : AS} {x : Int32} : eT A (F_trail A x).2 := by
  unfold F_trail ifP
  repeat' split
  all_goals exact ⟨rfl, ⟨rfl, rfl⟩, rfl, ⟨rfl, rfl⟩, rfl, ⟨rfl, rfl⟩⟩
theorem eT_step {A : AS} {x w k : Int32} : eT A (F_step A x w k).2 := by
  unfold F_step ifP
  repeat' split
  all_goals exact ⟨rfl, ⟨rfl, rfl⟩, rfl, ⟨rfl, rfl⟩, rfl, ⟨rfl, rfl⟩⟩
theorem eT_add {A : AS} {x k v : Int32} : eT A (F_add A x k v).2 := by
  unfold F_add ifP
  repeat' split
  all_goals exact ⟨rfl, ⟨rfl, rfl⟩, rfl, ⟨rfl, rfl⟩, rfl, ⟨rfl, rfl⟩⟩
theorem eT_set {A : AS} {x k v : Int32} : eT A (F_set A x k v).2 := by
  unfold F_set ifP
  repeat' split
  all_goals exact ⟨rfl, ⟨rfl, rfl⟩, rfl, ⟨rfl, rfl⟩, rfl, ⟨rfl, rfl⟩⟩
theorem eT_cut {A : AS} {x : Int32} : eT A (F_cut A x).2 := by
  unfold F_cut ifP
  repeat' split
  all_goals exact ⟨rfl, ⟨rfl, rfl⟩, rfl, ⟨rfl, rfl⟩, rfl, ⟨rfl, rfl⟩⟩
theorem eT_rewind {A : AS} {x : Int32} : eT A (F_rewind A x).2 := by
  unfold F_rewind ifP
  repeat' split
  all_goals exact ⟨rfl, ⟨rfl, rfl⟩, rfl, ⟨rfl, rfl⟩, rfl, ⟨rfl, rfl⟩⟩
theorem eT_drop {A : AS} {x : Int32} : eT A (F_drop A x).2 := by
  unfold F_drop ifP
  repeat' split
  all_goals exact ⟨rfl, ⟨rfl, rfl⟩, rfl, ⟨rfl, rfl⟩, rfl, ⟨rfl, rfl⟩⟩
theorem eB_back {A : AS} {k : Int32} : eB A (F_back A k).2 := by
  unfold F_back ifP
  repeat' split
  all_goals exact (by first | exact ⟨⟨rfl, ⟨rfl, rfl⟩, rfl, ⟨rfl, rfl⟩, rfl⟩, rfl, Or.inl rfl⟩ | exact ⟨⟨rfl, ⟨rfl, rfl⟩, rfl, ⟨rfl, rfl⟩, rfl⟩, rfl, Or.inr rfl⟩)
theorem F_fault_l {A : AS} {w9 : Nat} (h : parA A = .inl w9) : F_fault A = nI w9 := by unfold F_fault; rw [h]
theorem F_fault_r {A : AS} {r : (Nat → Nat) × Nat} (h : parA A = .inr r) : F_fault A = -1 := by unfold F_fault; rw [h]
theorem F_hedge_l {A : AS} {w9 : Nat} (h : parA A = .inl w9) : F_hedge A = (-4, A) := by unfold F_hedge; rw [h]
theorem F_hedge_r {A : AS} {vz : Nat → Nat} {cz : Nat} (h : parA A = .inr (vz, cz)) : F_hedge A = (nI cz, mkA (aT A) 0 vz vz 0 (aUs A) (fun _ => none) 0 (aSg A) (fun _ => none)) := by unfold F_hedge; rw [h]
/-- a state with its arrays; the model's arrays -/
def tdW (G : zE) (co a : Nat) (z : Nat → Nat) (ps dy : Nat) (g : Int32) (p nu ax le kn : Nat → Nat) : va_W := [(a, zo 1 (stF z co (nI ps) (nI dy) (g))), ((z 0), zc G 1 (zI 9 (vI p))), ((z 1), zc G 1 (zI 9 (vI nu))), ((z 2), zc G 1 (zI 5 (vI ax))), ((z 3), zc G 1 (zI 5 (vI le))), ((z 4), zc G 2 (zI 5 (vI kn)))]
def mdW (G : zE) (q : Nat → Nat) (b : Nat → Nat → Int32) : va_W := [(q 0, zc G 0 (zI 200 (b 0))), (q 9, zc G 0 (zI 46 (b 9))), (q 10, zc G 0 (zI 46 (b 10))), (q 11, zc G 0 (zI 46 (b 11))), (q 12, zc G 0 (zI 46 (b 12))), (q 13, zc G 0 (zI 368 (b 13))), (q 15, zc G 0 (zI 92 (b 15))), (q 16, zc G 3 (zI 2 (b 16))), (q 17, zc G 0 (zI 5 (b 17))), (q 18, zc G 0 (zI 24 (b 18))), (q 20, zc G 0 (zI 3 (b 20))), (q 21, zc G 0 (zI 3 (b 21))), (q 22, zc G 0 (zI 3 (b 22))), (q 23, zc G 0 (zI 36 (b 23))), (q 24, zc G 0 (zI 36 (b 24)))]
theorem z_mv5 (A B C D E F T : va_W) : (A ++ (B ++ (C ++ (D ++ (E ++ (F ++ T)))))).Perm (F ++ (A ++ (B ++ (C ++ (D ++ (E ++ T)))))) := ((z_mv4 B C D E F T).append_left A).trans (z_mv1 A F _)
theorem z_mv6 (A B C D E F K T : va_W) : (A ++ (B ++ (C ++ (D ++ (E ++ (F ++ (K ++ T))))))).Perm (K ++ (A ++ (B ++ (C ++ (D ++ (E ++ (F ++ T))))))) := ((z_mv5 B C D E F K T).append_left A).trans (z_mv1 A K _)
theorem z_mv7 (A B C D E F K L T : va_W) : (A ++ (B ++ (C ++ (D ++ (E ++ (F ++ (K ++ (L ++ T)))))))).Perm (L ++ (A ++ (B ++ (C ++ (D ++ (E ++ (F ++ (K ++ T)))))))) := ((z_mv6 B C D E F K L T).append_left A).trans (z_mv1 A L _)
theorem w_X2_add (G : zE) (l : Launch) (mo : Nat) (q : Nat → Nat) (A : AS) (b : Nat → Nat → Int32) (f : Nat → Int32) (hA : AOk A) (hM : MRel A b f) (x : Int32) (y : Int32) (z : Int32) (rest : va_W) : zMi G l yX2_add cX2_add 5 (some .int) 2 0 0 [.ref mo, .int x, .int y, .int z] ((mo, zo 2 (mF q (f 1) (f 2) (f 3) (f 4) (f 5) (f 6) (f 7) (f 8) (f 14) (f 19))) :: (mdW G q b ++ rest)) (fun (r : Int32) (u : MB) => r = (F_add A x y z).1 ∧ MRel (F_add A x y z).2 u.1 u.2) (fun (u : MB) => (mo, zo 2 (mF q (u.2 1) (u.2 2) (u.2 3) (u.2 4) (u.2 5) (u.2 6) (u.2 7) (u.2 8) (u.2 14) (u.2 19))) :: (mdW G q u.1 ++ rest)) := m_X2_add G l mo q A b f hA hM x y z rest
theorem w_X2_as (G : zE) (l : Launch) (mo : Nat) (q : Nat → Nat) (A : AS) (b : Nat → Nat → Int32) (f : Nat → Int32) (hA : AOk A) (hM : MRel A b f) (x : Int32) (y : Int32) (rest : va_W) : zMi G l yX2_as cX2_as 5 (some .int) 2 0 0 [.ref mo, .int x, .int y] ((mo, zo 2 (mF q (f 1) (f 2) (f 3) (f 4) (f 5) (f 6) (f 7) (f 8) (f 14) (f 19))) :: (mdW G q b ++ rest)) (fun (r : Int32) (u : MB) => r = F_as A x y ∧ MRel A u.1 u.2) (fun (u : MB) => (mo, zo 2 (mF q (u.2 1) (u.2 2) (u.2 3) (u.2 4) (u.2 5) (u.2 6) (u.2 7) (u.2 8) (u.2 14) (u.2 19))) :: (mdW G q u.1 ++ rest)) := m_X2_as G l mo q A b f hA hM x y rest
theorem w_X2_ask (G : zE) (l : Launch) (mo : Nat) (q : Nat → Nat) (A : AS) (b : Nat → Nat → Int32) (f : Nat → Int32) (hA : AOk A) (hM : MRel A b f) (rest : va_W) : zMi G l yX2_ask cX2_ask 6 (some .int) 3 0 0 [.ref mo] ((mo, zo 2 (mF q (f 1) (f 2) (f 3) (f 4) (f 5) (f 6) (f 7) (f 8) (f 14) (f 19))) :: (mdW G q b ++ rest)) (fun (r : Int32) (u : MB) => r = F_ask A ∧ MRel A u.1 u.2) (fun (u : MB) => (mo, zo 2 (mF q (u.2 1) (u.2 2) (u.2 3) (u.2 4) (u.2 5) (u.2 6) (u.2 7) (u.2 8) (u.2 14) (u.2 19))) :: (mdW G q u.1 ++ rest)) := m_X2_ask G l mo q A b f hA hM rest
theorem w_X2_back (G : zE) (l : Launch) (mo : Nat) (q : Nat → Nat) (A : AS) (b : Nat → Nat → Int32) (f : Nat → Int32) (hA : AOk A) (hM : MRel A b f) (x : Int32) (rest : va_W) : zMi G l yX2_back cX2_back 2 (some .int) 1 0 0 [.ref mo, .int x] ((mo, zo 2 (mF q (f 1) (f 2) (f 3) (f 4) (f 5) (f 6) (f 7) (f 8) (f 14) (f 19))) :: (mdW G q b ++ rest)) (fun (r : Int32) (u : MB) => r = (F_back A x).1 ∧ MRel (F_back A x).2 u.1 u.2) (fun (u : MB) => (mo, zo 2 (mF q (u.2 1) (u.2 2) (u.2 3) (u.2 4) (u.2 5) (u.2 6) (u.2 7) (u.2 8) (u.2 14) (u.2 19))) :: (mdW G q u.1 ++ rest)) := m_X2_back G l mo q A b f hA hM x rest
theorem w_X2_behind (G : zE) (l : Launch) (mo : Nat) (q : Nat → Nat) (A : AS) (b : Nat → Nat → Int32) (f : Nat → Int32) (hA : AOk A) (hM : MRel A b f) (x : Int32) (y : Int32) (z : Int32) (rest : va_W) : zMi G l yX2_behind cX2_behind 4 (some .int) 6 0 0 [.ref mo, .int x, .int y, .int z] ((mo, zo 2 (mF q (f 1) (f 2) (f 3) (f 4) (f 5) (f 6) (f 7) (f 8) (f 14) (f 19))) :: (mdW G q b ++ rest)) (fun (r : Int32) (u : MB) => r = F_behind A x y z ∧ MRel A u.1 u.2) (fun (u : MB) => (mo, zo 2 (mF q (u.2 1) (u.2 2) (u.2 3) (u.2 4) (u.2 5) (u.2 6) (u.2 7) (u.2 8) (u.2 14) (u.2 19))) :: (mdW G q u.1 ++ rest)) := m_X2_behind G l mo q A b f hA hM x y z rest
theorem w_X2_bury (G : zE) (l : Launch) (mo : Nat) (q : Nat → Nat) (A : AS) (b : Nat → Nat → Int32) (f : Nat → Int32) (hA : AOk A) (hM : MRel A b f) (x : Int32) (y : Int32) (rest : va_W) : zMi G l yX2_bury cX2_bury 4 (some .int) 2 0 0 [.ref mo, .int x, .int y] ((mo, zo 2 (mF q (f 1) (f 2) (f 3) (f 4) (f 5) (f 6) (f 7) (f 8) (f 14) (f 19))) :: (mdW G q b ++ rest)) (fun (r : Int32) (u : MB) => r = (F_bury A x y).1 ∧ MRel (F_bury A x y).2 u.1 u.2) (fun (u : MB) => (mo, zo 2 (mF q (u.2 1) (u.2 2) (u.2 3) (u.2 4) (u.2 5) (u.2 6) (u.2 7) (u.2 8) (u.2 14) (u.2 19))) :: (mdW G q u.1 ++ rest)) := m_X2_bury G l mo q A b f hA hM x y rest
theorem w_X2_count (G : zE) (l : Launch) (mo : Nat) (q : Nat → Nat) (A : AS) (b : Nat → Nat → Int32) (f : Nat → Int32) (hA : AOk A) (hM : MRel A b f) (x : Int32) (rest : va_W) : zMi G l yX2_count cX2_count 2 (some .int) 2 0 0 [.ref mo, .int x] ((mo, zo 2 (mF q (f 1) (f 2) (f 3) (f 4) (f 5) (f 6) (f 7) (f 8) (f 14) (f 19))) :: (mdW G q b ++ rest)) (fun (r : Int32) (u : MB) => r = F_count A x ∧ MRel A u.1 u.2) (fun (u : MB) => (mo, zo 2 (mF q (u.2 1) (u.2 2) (u.2 3) (u.2 4) (u.2 5) (u.2 6) (u.2 7) (u.2 8) (u.2 14) (u.2 19))) :: (mdW G q u.1 ++ rest)) := m_X2_count G l mo q A b f hA hM x rest
theorem w_X2_cut (G : zE) (l : Launch) (mo : Nat) (q : Nat → Nat) (A : AS) (b : Nat → Nat → Int32) (f : Nat → Int32) (hA : AOk A) (hM : MRel A b f) (x : Int32) (rest : va_W) : zMi G l yX2_cut cX2_cut 4 (some .int) 2 0 0 [.ref mo, .int x] ((mo, zo 2 (mF q (f 1) (f 2) (f 3) (f 4) (f 5) (f 6) (f 7) (f 8) (f 14) (f 19))) :: (mdW G q b ++ rest)) (fun (r : Int32) (u : MB) => r = (F_cut A x).1 ∧ MRel (F_cut A x).2 u.1 u.2) (fun (u : MB) => (mo, zo 2 (mF q (u.2 1) (u.2 2) (u.2 3) (u.2 4) (u.2 5) (u.2 6) (u.2 7) (u.2 8) (u.2 14) (u.2 19))) :: (mdW G q u.1 ++ rest)) := m_X2_cut G l mo q A b f hA hM x rest
theorem w_X2_day (G : zE) (l : Launch) (mo : Nat) (q : Nat → Nat) (A : AS) (b : Nat → Nat → Int32) (f : Nat → Int32) (hA : AOk A) (hM : MRel A b f) (x : Int32) (rest : va_W) : zMi G l yX2_day cX2_day 3 (some .int) 5 0 0 [.ref mo, .int x] ((mo, zo 2 (mF q (f 1) (f 2) (f 3) (f 4) (f 5) (f 6) (f 7) (f 8) (f 14) (f 19))) :: (mdW G q b ++ rest)) (fun (r : Int32) (u : MB) => r = (F_day A x).1 ∧ MRel (F_day A x).2 u.1 u.2) (fun (u : MB) => (mo, zo 2 (mF q (u.2 1) (u.2 2) (u.2 3) (u.2 4) (u.2 5) (u.2 6) (u.2 7) (u.2 8) (u.2 14) (u.2 19))) :: (mdW G q u.1 ++ rest)) := m_X2_day G l mo q A b f hA hM x rest
theorem w_X2_drop (G : zE) (l : Launch) (mo : Nat) (q : Nat → Nat) (A : AS) (b : Nat → Nat → Int32) (f : Nat → Int32) (hA : AOk A) (hM : MRel A b f) (x : Int32) (rest : va_W) : zMi G l yX2_drop cX2_drop 3 (some .int) 2 0 0 [.ref mo, .int x] ((mo, zo 2 (mF q (f 1) (f 2) (f 3) (f 4) (f 5) (f 6) (f 7) (f 8) (f 14) (f 19))) :: (mdW G q b ++ rest)) (fun (r : Int32) (u : MB) => r = (F_drop A x).1 ∧ MRel (F_drop A x).2 u.1 u.2) (fun (u : MB) => (mo, zo 2 (mF q (u.2 1) (u.2 2) (u.2 3) (u.2 4) (u.2 5) (u.2 6) (u.2 7) (u.2 8) (u.2 14) (u.2 19))) :: (mdW G q u.1 ++ rest)) := m_X2_drop G l mo q A b f hA hM x rest
theorem w_X2_enough (G : zE) (l : Launch) (mo : Nat) (q : Nat → Nat) (A : AS) (b : Nat → Nat → Int32) (f : Nat → Int32) (hA : AOk A) (hM : MRel A b f) (x : Int32) (y : Int32) (rest : va_W) : zMi G l yX2_enough cX2_enough 5 (some .int) 6 0 0 [.ref mo, .int x, .int y] ((mo, zo 2 (mF q (f 1) (f 2) (f 3) (f 4) (f 5) (f 6) (f 7) (f 8) (f 14) (f 19))) :: (mdW G q b ++ rest)) (fun (r : Int32) (u : MB) => r = F_enough A x y ∧ MRel A u.1 u.2) (fun (u : MB) => (mo, zo 2 (mF q (u.2 1) (u.2 2) (u.2 3) (u.2 4) (u.2 5) (u.2 6) (u.2 7) (u.2 8) (u.2 14) (u.2 19))) :: (mdW G q u.1 ++ rest)) := m_X2_enough G l mo q A b f hA hM x y rest
theorem w_X2_erase (G : zE) (l : Launch) (mo : Nat) (q : Nat → Nat) (A : AS) (b : Nat → Nat → Int32) (f : Nat → Int32) (hA : AOk A) (hM : MRel A b f) (rest : va_W) : zMi G l yX2_erase cX2_erase 2 (some .int) 0 0 0 [.ref mo] ((mo, zo 2 (mF q (f 1) (f 2) (f 3) (f 4) (f 5) (f 6) (f 7) (f 8) (f 14) (f 19))) :: (mdW G q b ++ rest)) (fun (r : Int32) (u : MB) => r = (F_erase A).1 ∧ MRel (F_erase A).2 u.1 u.2) (fun (u : MB) => (mo, zo 2 (mF q (u.2 1) (u.2 2) (u.2 3) (u.2 4) (u.2 5) (u.2 6) (u.2 7) (u.2 8) (u.2 14) (u.2 19))) :: (mdW G q u.1 ++ rest)) := m_X2_erase G l mo q A b f hA hM rest
theorem w_X2_fault (G : zE) (l : Launch) (mo : Nat) (q : Nat → Nat) (A : AS) (b : Nat → Nat → Int32) (f : Nat → Int32) (hA : AOk A) (hM : MRel A b f) (rest : va_W) : zMi G l yX2_fault cX2_fault 1 (some .int) 7 0 0 [.ref mo] ((mo, zo 2 (mF q (f 1) (f 2) (f 3) (f 4) (f 5) (f 6) (f 7) (f 8) (f 14) (f 19))) :: (mdW G q b ++ rest)) (fun (r : Int32) (u : MB) => r = F_fault A ∧ MRel A u.1 u.2) (fun (u : MB) => (mo, zo 2 (mF q (u.2 1) (u.2 2) (u.2 3) (u.2 4) (u.2 5) (u.2 6) (u.2 7) (u.2 8) (u.2 14) (u.2 19))) :: (mdW G q u.1 ++ rest)) := m_X2_fault G l mo q A b f hA hM rest
theorem w_X2_forget (G : zE) (l : Launch) (mo : Nat) (q : Nat → Nat) (A : AS) (b : Nat → Nat → Int32) (f : Nat → Int32) (hA : AOk A) (hM : MRel A b f) (rest : va_W) : zMi G l yX2_forget cX2_forget 2 (some .int) 0 0 0 [.ref mo] ((mo, zo 2 (mF q (f 1) (f 2) (f 3) (f 4) (f 5) (f 6) (f 7) (f 8) (f 14) (f 19))) :: (mdW G q b ++ rest)) (fun (r : Int32) (u : MB) => r = (F_forget A).1 ∧ MRel (F_forget A).2 u.1 u.2) (fun (u : MB) => (mo, zo 2 (mF q (u.2 1) (u.2 2) (u.2 3) (u.2 4) (u.2 5) (u.2 6) (u.2 7) (u.2 8) (u.2 14) (u.2 19))) :: (mdW G q u.1 ++ rest)) := m_X2_forget G l mo q A b f hA hM rest
theorem w_X2_hedge (G : zE) (l : Launch) (mo : Nat) (q : Nat → Nat) (A : AS) (b : Nat → Nat → Int32) (f : Nat → Int32) (hA : AOk A) (hM : MRel A b f) (rest : va_W) : zMi G l yX2_hedge cX2_hedge 1 (some .int) 7 0 0 [.ref mo] ((mo, zo 2 (mF q (f 1) (f 2) (f 3) (f 4) (f 5) (f 6) (f 7) (f 8) (f 14) (f 19))) :: (mdW G q b ++ rest)) (fun (r : Int32) (u : MB) => r = (F_hedge A).1 ∧ MRel (F_hedge A).2 u.1 u.2) (fun (u : MB) => (mo, zo 2 (mF q (u.2 1) (u.2 2) (u.2 3) (u.2 4) (u.2 5) (u.2 6) (u.2 7) (u.2 8) (u.2 14) (u.2 19))) :: (mdW G q u.1 ++ rest)) := m_X2_hedge G l mo q A b f hA hM rest
theorem w_X2_hungry (G : zE) (l : Launch) (mo : Nat) (q : Nat → Nat) (A : AS) (b : Nat → Nat → Int32) (f : Nat → Int32) (hA : AOk A) (hM : MRel A b f) (x : Int32) (rest : va_W) : zMi G l yX2_hungry cX2_hungry 3 (some .int) 5 0 0 [.ref mo, .int x] ((mo, zo 2 (mF q (f 1) (f 2) (f 3) (f 4) (f 5) (f 6) (f 7) (f 8) (f 14) (f 19))) :: (mdW G q b ++ rest)) (fun (r : Int32) (u : MB) => r = F_hungry A x ∧ MRel A u.1 u.2) (fun (u : MB) => (mo, zo 2 (mF q (u.2 1) (u.2 2) (u.2 3) (u.2 4) (u.2 5) (u.2 6) (u.2 7) (u.2 8) (u.2 14) (u.2 19))) :: (mdW G q u.1 ++ rest)) := m_X2_hungry G l mo q A b f hA hM x rest
theorem w_X2_jay (G : zE) (l : Launch) (mo : Nat) (q : Nat → Nat) (A : AS) (b : Nat → Nat → Int32) (f : Nat → Int32) (hA : AOk A) (hM : MRel A b f) (x : Int32) (y : Int32) (z : Int32) (rest : va_W) : zMi G l yX2_jay cX2_jay 11 (some .int) 5 0 0 [.ref mo, .int x, .int y, .int z] ((mo, zo 2 (mF q (f 1) (f 2) (f 3) (f 4) (f 5) (f 6) (f 7) (f 8) (f 14) (f 19))) :: (mdW G q b ++ rest)) (fun (r : Int32) (u : MB) => r = F_jay A x y z ∧ MRel A u.1 u.2) (fun (u : MB) => (mo, zo 2 (mF q (u.2 1) (u.2 2) (u.2 3) (u.2 4) (u.2 5) (u.2 6) (u.2 7) (u.2 8) (u.2 14) (u.2 19))) :: (mdW G q u.1 ++ rest)) := m_X2_jay G l mo q A b f hA hM x y z rest
theorem w_X2_keep (G : zE) (l : Launch) (mo : Nat) (q : Nat → Nat) (A : AS) (b : Nat → Nat → Int32) (f : Nat → Int32) (hA : AOk A) (hM : MRel A b f) (x : Int32) (rest : va_W) : zMi G l yX2_keep cX2_keep 2 (some .int) 1 0 0 [.ref mo, .int x] ((mo, zo 2 (mF q (f 1) (f 2) (f 3) (f 4) (f 5) (f 6) (f 7) (f 8) (f 14) (f 19))) :: (mdW G q b ++ rest)) (fun (r : Int32) (u : MB) => r = (F_keep A x).1 ∧ MRel (F_keep A x).2 u.1 u.2) (fun (u : MB) => (mo, zo 2 (mF q (u.2 1) (u.2 2) (u.2 3) (u.2 4) (u.2 5) (u.2 6) (u.2 7) (u.2 8) (u.2 14) (u.2 19))) :: (mdW G q u.1 ++ rest)) := m_X2_keep G l mo q A b f hA hM x rest
theorem w_X2_kindsT (G : zE) (l : Launch) (mo : Nat) (q : Nat → Nat) (A : AS) (b : Nat → Nat → Int32) (f : Nat → Int32) (hA : AOk A) (hM : MRel A b f) (rest : va_W) : zMi G l yX2_kinds cX2_kinds 5 (some .int) 2 0 0 [.ref mo] ((mo, zo 2 (mF q (f 1) (f 2) (f 3) (f 4) (f 5) (f 6) (f 7) (f 8) (f 14) (f 19))) :: (mdW G q b ++ rest)) (fun (r : Int32) (u : MB) => r = F_kinds A ∧ MRel A u.1 u.2) (fun (u : MB) => (mo, zo 2 (mF q (u.2 1) (u.2 2) (u.2 3) (u.2 4) (u.2 5) (u.2 6) (u.2 7) (u.2 8) (u.2 14) (u.2 19))) :: (mdW G q u.1 ++ rest)) := m_X2_kindsT G l mo q A b f hA hM rest
theorem w_X2_lasts (G : zE) (l : Launch) (mo : Nat) (q : Nat → Nat) (A : AS) (b : Nat → Nat → Int32) (f : Nat → Int32) (hA : AOk A) (hM : MRel A b f) (x : Int32) (rest : va_W) : zMi G l yX2_lasts cX2_lasts 3 (some .int) 5 0 0 [.ref mo, .int x] ((mo, zo 2 (mF q (f 1) (f 2) (f 3) (f 4) (f 5) (f 6) (f 7) (f 8) (f 14) (f 19))) :: (mdW G q b ++ rest)) (fun (r : Int32) (u : MB) => r = F_lasts A x ∧ MRel A u.1 u.2) (fun (u : MB) => (mo, zo 2 (mF q (u.2 1) (u.2 2) (u.2 3) (u.2 4) (u.2 5) (u.2 6) (u.2 7) (u.2 8) (u.2 14) (u.2 19))) :: (mdW G q u.1 ++ rest)) := m_X2_lasts G l mo q A b f hA hM x rest
theorem w_X2_live (G : zE) (l : Launch) (mo : Nat) (q : Nat → Nat) (A : AS) (b : Nat → Nat → Int32) (f : Nat → Int32) (hA : AOk A) (hM : MRel A b f) (x : Int32) (rest : va_W) : zMi G l yX2_live cX2_live 2 (some .int) 6 0 0 [.ref mo, .int x] ((mo, zo 2 (mF q (f 1) (f 2) (f 3) (f 4) (f 5) (f 6) (f 7) (f 8) (f 14) (f 19))) :: (mdW G q b ++ rest)) (fun (r : Int32) (u : MB) => r = F_live A x ∧ MRel A u.1 u.2) (fun (u : MB) => (mo, zo 2 (mF q (u.2 1) (u.2 2) (u.2 3) (u.2 4) (u.2 5) (u.2 6) (u.2 7) (u.2 8) (u.2 14) (u.2 19))) :: (mdW G q u.1 ++ rest)) := m_X2_live G l mo q A b f hA hM x rest
theorem w_X2_nuts (G : zE) (l : Launch) (mo : Nat) (q : Nat → Nat) (A : AS) (b : Nat → Nat → Int32) (f : Nat → Int32) (hA : AOk A) (hM : MRel A b f) (x : Int32) (y : Int32) (rest : va_W) : zMi G l yX2_nuts cX2_nuts 3 (some .int) 6 0 0 [.ref mo, .int x, .int y] ((mo, zo 2 (mF q (f 1) (f 2) (f 3) (f 4) (f 5) (f 6) (f 7) (f 8) (f 14) (f 19))) :: (mdW G q b ++ rest)) (fun (r : Int32) (u : MB) => r = F_nuts A x y ∧ MRel A u.1 u.2) (fun (u : MB) => (mo, zo 2 (mF q (u.2 1) (u.2 2) (u.2 3) (u.2 4) (u.2 5) (u.2 6) (u.2 7) (u.2 8) (u.2 14) (u.2 19))) :: (mdW G q u.1 ++ rest)) := m_X2_nuts G l mo q A b f hA hM x y rest
theorem w_X2_pit (G : zE) (l : Launch) (mo : Nat) (q : Nat → Nat) (A : AS) (b : Nat → Nat → Int32) (f : Nat → Int32) (hA : AOk A) (hM : MRel A b f) (x : Int32) (y : Int32) (rest : va_W) : zMi G l yX2_pit cX2_pit 3 (some .int) 2 0 0 [.ref mo, .int x, .int y] ((mo, zo 2 (mF q (f 1) (f 2) (f 3) (f 4) (f 5) (f 6) (f 7) (f 8) (f 14) (f 19))) :: (mdW G q b ++ rest)) (fun (r : Int32) (u : MB) => r = F_pit A x y ∧ MRel A u.1 u.2) (fun (u : MB) => (mo, zo 2 (mF q (u.2 1) (u.2 2) (u.2 3) (u.2 4) (u.2 5) (u.2 6) (u.2 7) (u.2 8) (u.2 14) (u.2 19))) :: (mdW G q u.1 ++ rest)) := m_X2_pit G l mo q A b f hA hM x y rest
theorem w_X2_raid (G : zE) (l : Launch) (mo : Nat) (q : Nat → Nat) (A : AS) (b : Nat → Nat → Int32) (f : Nat → Int32) (hA : AOk A) (hM : MRel A b f) (x : Int32) (y : Int32) (rest : va_W) : zMi G l yX2_raid cX2_raid 3 (some .int) 2 0 0 [.ref mo, .int x, .int y] ((mo, zo 2 (mF q (f 1) (f 2) (f 3) (f 4) (f 5) (f 6) (f 7) (f 8) (f 14) (f 19))) :: (mdW G q b ++ rest)) (fun (r : Int32) (u : MB) => r = (F_raid A x y).1 ∧ MRel (F_raid A x y).2 u.1 u.2) (fun (u : MB) => (mo, zo 2 (mF q (u.2 1) (u.2 2) (u.2 3) (u.2 4) (u.2 5) (u.2 6) (u.2 7) (u.2 8) (u.2 14) (u.2 19))) :: (mdW G q u.1 ++ rest)) := m_X2_raid G l mo q A b f hA hM x y rest
theorem w_X2_rewind (G : zE) (l : Launch) (mo : Nat) (q : Nat → Nat) (A : AS) (b : Nat → Nat → Int32) (f : Nat → Int32) (hA : AOk A) (hM : MRel A b f) (x : Int32) (rest : va_W) : zMi G l yX2_rewind cX2_rewind 3 (some .int) 2 0 0 [.ref mo, .int x] ((mo, zo 2 (mF q (f 1) (f 2) (f 3) (f 4) (f 5) (f 6) (f 7) (f 8) (f 14) (f 19))) :: (mdW G q b ++ rest)) (fun (r : Int32) (u : MB) => r = (F_rewind A x).1 ∧ MRel (F_rewind A x).2 u.1 u.2) (fun (u : MB) => (mo, zo 2 (mF q (u.2 1) (u.2 2) (u.2 3) (u.2 4) (u.2 5) (u.2 6) (u.2 7) (u.2 8) (u.2 14) (u.2 19))) :: (mdW G q u.1 ++ rest)) := m_X2_rewind G l mo q A b f hA hM x rest
theorem w_X2_seen (G : zE) (l : Launch) (mo : Nat) (q : Nat → Nat) (A : AS) (b : Nat → Nat → Int32) (f : Nat → Int32) (hA : AOk A) (hM : MRel A b f) (x : Int32) (y : Int32) (z : Int32) (w : Int32) (rest : va_W) : zMi G l yX2_seen cX2_seen 5 (some .int) 1 0 0 [.ref mo, .int x, .int y, .int z, .int w] ((mo, zo 2 (mF q (f 1) (f 2) (f 3) (f 4) (f 5) (f 6) (f 7) (f 8) (f 14) (f 19))) :: (mdW G q b ++ rest)) (fun (r : Int32) (u : MB) => r = (F_seen A x y z w).1 ∧ MRel (F_seen A x y z w).2 u.1 u.2) (fun (u : MB) => (mo, zo 2 (mF q (u.2 1) (u.2 2) (u.2 3) (u.2 4) (u.2 5) (u.2 6) (u.2 7) (u.2 8) (u.2 14) (u.2 19))) :: (mdW G q u.1 ++ rest)) := m_X2_seen G l mo q A b f hA hM x y z w rest
theorem w_X2_set (G : zE) (l : Launch) (mo : Nat) (q : Nat → Nat) (A : AS) (b : Nat → Nat → Int32) (f : Nat → Int32) (hA : AOk A) (hM : MRel A b f) (x : Int32) (y : Int32) (z : Int32) (rest : va_W) : zMi G l yX2_set cX2_set 4 (some .int) 2 0 0 [.ref mo, .int x, .int y, .int z] ((mo, zo 2 (mF q (f 1) (f 2) (f 3) (f 4) (f 5) (f 6) (f 7) (f 8) (f 14) (f 19))) :: (mdW G q b ++ rest)) (fun (r : Int32) (u : MB) => r = (F_set A x y z).1 ∧ MRel (F_set A x y z).2 u.1 u.2) (fun (u : MB) => (mo, zo 2 (mF q (u.2 1) (u.2 2) (u.2 3) (u.2 4) (u.2 5) (u.2 6) (u.2 7) (u.2 8) (u.2 14) (u.2 19))) :: (mdW G q u.1 ++ rest)) := m_X2_set G l mo q A b f hA hM x y z rest
theorem w_X2_squirrel (G : zE) (l : Launch) (mo : Nat) (q : Nat → Nat) (A : AS) (b : Nat → Nat → Int32) (f : Nat → Int32) (hA : AOk A) (hM : MRel A b f) (x : Int32) (y : Int32) (rest : va_W) : zMi G l yX2_squirrel cX2_squirrel 3 (some .int) 2 0 0 [.ref mo, .int x, .int y] ((mo, zo 2 (mF q (f 1) (f 2) (f 3) (f 4) (f 5) (f 6) (f 7) (f 8) (f 14) (f 19))) :: (mdW G q b ++ rest)) (fun (r : Int32) (u : MB) => r = F_squirrel A x y ∧ MRel A u.1 u.2) (fun (u : MB) => (mo, zo 2 (mF q (u.2 1) (u.2 2) (u.2 3) (u.2 4) (u.2 5) (u.2 6) (u.2 7) (u.2 8) (u.2 14) (u.2 19))) :: (mdW G q u.1 ++ rest)) := m_X2_squirrel G l mo q A b f hA hM x y rest
theorem w_X2_step (G : zE) (l : Launch) (mo : Nat) (q : Nat → Nat) (A : AS) (b : Nat → Nat → Int32) (f : Nat → Int32) (hA : AOk A) (hM : MRel A b f) (x : Int32) (y : Int32) (z : Int32) (rest : va_W) : zMi G l yX2_step cX2_step 6 (some .int) 2 0 0 [.ref mo, .int x, .int y, .int z] ((mo, zo 2 (mF q (f 1) (f 2) (f 3) (f 4) (f 5) (f 6) (f 7) (f 8) (f 14) (f 19))) :: (mdW G q b ++ rest)) (fun (r : Int32) (u : MB) => r = (F_step A x y z).1 ∧ MRel (F_step A x y z).2 u.1 u.2) (fun (u : MB) => (mo, zo 2 (mF q (u.2 1) (u.2 2) (u.2 3) (u.2 4) (u.2 5) (u.2 6) (u.2 7) (u.2 8) (u.2 14) (u.2 19))) :: (mdW G q u.1 ++ rest)) := m_X2_step G l mo q A b f hA hM x y z rest
theorem w_X2_tell (G : zE) (l : Launch) (mo : Nat) (q : Nat → Nat) (A : AS) (b : Nat → Nat → Int32) (f : Nat → Int32) (hA : AOk A) (hM : MRel A b f) (x : Int32) (y : Int32) (rest : va_W) : zMi G l yX2_tell cX2_tell 4 (some .int) 2 0 0 [.ref mo, .int x, .int y] ((mo, zo 2 (mF q (f 1) (f 2) (f 3) (f 4) (f 5) (f 6) (f 7) (f 8) (f 14) (f 19))) :: (mdW G q b ++ rest)) (fun (r : Int32) (u : MB) => r = (F_tell A x y).1 ∧ MRel (F_tell A x y).2 u.1 u.2) (fun (u : MB) => (mo, zo 2 (mF q (u.2 1) (u.2 2) (u.2 3) (u.2 4) (u.2 5) (u.2 6) (u.2 7) (u.2 8) (u.2 14) (u.2 19))) :: (mdW G q u.1 ++ rest)) := m_X2_tell G l mo q A b f hA hM x y rest
theorem w_X2_trail (G : zE) (l : Launch) (mo : Nat) (q : Nat → Nat) (A : AS) (b : Nat → Nat → Int32) (f : Nat → Int32) (hA : AOk A) (hM : MRel A b f) (x : Int32) (rest : va_W) : zMi G l yX2_trail cX2_trail 2 (some .int) 2 0 0 [.ref mo, .int x] ((mo, zo 2 (mF q (f 1) (f 2) (f 3) (f 4) (f 5) (f 6) (f 7) (f 8) (f 14) (f 19))) :: (mdW G q b ++ rest)) (fun (r : Int32) (u : MB) => r = (F_trail A x).1 ∧ MRel (F_trail A x).2 u.1 u.2) (fun (u : MB) => (mo, zo 2 (mF q (u.2 1) (u.2 2) (u.2 3) (u.2 4) (u.2 5) (u.2 6) (u.2 7) (u.2 8) (u.2 14) (u.2 19))) :: (mdW G q u.1 ++ rest)) := m_X2_trail G l mo q A b f hA hM x rest
theorem w_X2_undo (G : zE) (l : Launch) (mo : Nat) (q : Nat → Nat) (A : AS) (b : Nat → Nat → Int32) (f : Nat → Int32) (hA : AOk A) (hM : MRel A b f) (rest : va_W) : zMi G l yX2_undo cX2_undo 1 (some .int) 1 0 0 [.ref mo] ((mo, zo 2 (mF q (f 1) (f 2) (f 3) (f 4) (f 5) (f 6) (f 7) (f 8) (f 14) (f 19))) :: (mdW G q b ++ rest)) (fun (r : Int32) (u : MB) => r = (F_undo A).1 ∧ MRel (F_undo A).2 u.1 u.2) (fun (u : MB) => (mo, zo 2 (mF q (u.2 1) (u.2 2) (u.2 3) (u.2 4) (u.2 5) (u.2 6) (u.2 7) (u.2 8) (u.2 14) (u.2 19))) :: (mdW G q u.1 ++ rest)) := m_X2_undo G l mo q A b f hA hM rest
theorem w_X2_whisper (G : zE) (l : Launch) (mo : Nat) (q : Nat → Nat) (A : AS) (b : Nat → Nat → Int32) (f : Nat → Int32) (hA : AOk A) (hM : MRel A b f) (x : Int32) (rest : va_W) : zMi G l yX2_whisper cX2_whisper 7 (some .int) 6 0 0 [.ref mo, .int x] ((mo, zo 2 (mF q (f 1) (f 2) (f 3) (f 4) (f 5) (f 6) (f 7) (f 8) (f 14) (f 19))) :: (mdW G q b ++ rest)) (fun (r : Int32) (u : MB) => r = F_whisper A x ∧ MRel A u.1 u.2) (fun (u : MB) => (mo, zo 2 (mF q (u.2 1) (u.2 2) (u.2 3) (u.2 4) (u.2 5) (u.2 6) (u.2 7) (u.2 8) (u.2 14) (u.2 19))) :: (mdW G q u.1 ++ rest)) := m_X2_whisper G l mo q A b f hA hM x rest
theorem w_X2_worst (G : zE) (l : Launch) (mo : Nat) (q : Nat → Nat) (A : AS) (b : Nat → Nat → Int32) (f : Nat → Int32) (hA : AOk A) (hM : MRel A b f) (x : Int32) (y : Int32) (rest : va_W) : zMi G l yX2_worst cX2_worst 8 (some .int) 6 0 0 [.ref mo, .int x, .int y] ((mo, zo 2 (mF q (f 1) (f 2) (f 3) (f 4) (f 5) (f 6) (f 7) (f 8) (f 14) (f 19))) :: (mdW G q b ++ rest)) (fun (r : Int32) (u : MB) => r = F_worst A x y ∧ MRel A u.1 u.2) (fun (u : MB) => (mo, zo 2 (mF q (u.2 1) (u.2 2) (u.2 3) (u.2 4) (u.2 5) (u.2 6) (u.2 7) (u.2 8) (u.2 14) (u.2 19))) :: (mdW G q u.1 ++ rest)) := m_X2_worst G l mo q A b f hA hM x y rest
theorem w_X2_write (G : zE) (l : Launch) (mo : Nat) (q : Nat → Nat) (A : AS) (b : Nat → Nat → Int32) (f : Nat → Int32) (hA : AOk A) (hM : MRel A b f) (x : Int32) (rest : va_W) : zMi G l yX2_write cX2_write 2 (some .int) 1 0 0 [.ref mo, .int x] ((mo, zo 2 (mF q (f 1) (f 2) (f 3) (f 4) (f 5) (f 6) (f 7) (f 8) (f 14) (f 19))) :: (mdW G q b ++ rest)) (fun (r : Int32) (u : MB) => r = (F_write A x).1 ∧ MRel (F_write A x).2 u.1 u.2) (fun (u : MB) => (mo, zo 2 (mF q (u.2 1) (u.2 2) (u.2 3) (u.2 4) (u.2 5) (u.2 6) (u.2 7) (u.2 8) (u.2 14) (u.2 19))) :: (mdW G q u.1 ++ rest)) := m_X2_write G l mo q A b f hA hM x rest
/-! the classes -/
theorem lw_tb {args : Array Value} {s : State} (hts : ∀ w ∈ lw_tbl, w.before args s = true) : ∀ w ∈ lw_all, w.before args s = true := fun w hw => hts w (List.mem_filter.mp hw).1
theorem arr_of {s : State} {c comp : ClassId} {k : Class} {ty : FieldType} (h2 : s.vm.classes[c]? = some k) (h3 : k.kind = .array comp ty) : ArrOfT s c ty := fun n z => ⟨fun k h => (by cases h), k, h2, comp, h3⟩
theorem zK_at {args : Array Value} {s : State} (hts : ∀ w ∈ lw_tbl, w.before args s = true) : ∃ (D : va_G) (d : Nat → ClassId), va_K D zcl (zT d) s := by
  have key : ∀ q ∈ zcl, ∃ (cC : ClassId) (iS : Nat → Nat), u_Kn s q.1 q.2.1 q.2.2 cC iS := by
    intro q hq
    simp only [zcl, List.mem_cons, List.not_mem_nil, or_false] at hq
    rcases hq with rfl | rfl | rfl | rfl | rfl | rfl | rfl | rfl | rfl | rfl | rfl | rfl | rfl | rfl | rfl | rfl | rfl | rfl | rfl | rfl | rfl
    · exact u_known (lw_tb hts) in_X0 (hts (.instantiable RX0 13) (by decide +kernel))
    · exact u_known (lw_tb hts) in_X1 (hts (.instantiable RX1 9) (by decide +kernel))
    · exact u_known (lw_tb hts) in_X2 (hts (.instantiable RX2 25) (by decide +kernel))
    · exact u_known (lw_tb hts) in_X3 (hts (.instantiable RX3 8) (by decide +kernel))
    · exact u_known (lw_tb hts) in_X4 (hts (.instantiable RX4 7) (by decide +kernel))
    · exact u_known (lw_tb hts) in_X6 (hts (.instantiable RX6 2) (by decide +kernel))
    · exact u_known (lw_tb hts) in_X7 (hts (.instantiable RX7 2) (by decide +kernel))
    · exact u_known (lw_tb hts) in_X8 (hts (.instantiable RX8 2) (by decide +kernel))
    · exact u_known (lw_tb hts) in_X9 (hts (.instantiable RX9 2) (by decide +kernel))
    · exact u_known (lw_tb hts) in_X10 (hts (.instantiable RX10 2) (by decide +kernel))
    · exact u_known (lw_tb hts) in_X11 (hts (.instantiable RX11 3) (by decide +kernel))
    · exact u_known (lw_tb hts) in_J2 (hts (.instantiable RJ2 4) (by decide +kernel))
    · exact u_known (lw_tb hts) in_J3 (hts (.instantiable RJ3 4) (by decide +kernel))
    · exact u_known (lw_tb hts) in_J18 (hts (.instantiable RJ18 1) (by decide +kernel))
    · exact u_known (lw_tb hts) in_J23 (hts (.instantiable RJ23 3) (by decide +kernel))
    · exact u_known (lw_tb hts) in_J25 (hts (.instantiable RJ25 5) (by decide +kernel))
    · exact u_known (lw_tb hts) in_J11 (hts (.instantiable RJ11 2) (by decide +kernel))
    · exact u_known (lw_tb hts) in_J16 (hts (.instantiable RJ16 8) (by decide +kernel))
    · exact u_known (lw_tb hts) in_J22 (hts (.instantiable RJ22 6) (by decide +kernel))
    · exact u_known (lw_tb hts) in_J28 (hts (.instantiable RJ28 6) (by decide +kernel))
    · exact u_known (lw_tb hts) in_J31 (hts (.instantiable RJ31 6) (by decide +kernel))
  have h0 : ∀ k : Nat, ∃ x : ClassId × (Nat → Nat), ∀ q, zcl[k]? = some q → u_Kn s q.1 q.2.1 q.2.2 x.1 x.2 := by
    intro k
    cases hk : zcl[k]? with
    | none => exact ⟨(0, fun _ => 0), fun q h => by cases h⟩
    | some q =>
      obtain ⟨a, b, h⟩ := key q (List.mem_of_getElem? hk)
      exact ⟨(a, b), fun q' h' => by cases h'; exact h⟩
  obtain ⟨f, hf⟩ := Classical.axiomOfChoice h0
  obtain ⟨c0, k0, p0, a0, b0, d0⟩ := Cond.arrayClass_spec (hts (.arrayClass .int) (by decide +kernel))
  obtain ⟨c1, k1, p1, a1, b1, d1⟩ := Cond.arrayClass_spec (hts (.arrayClass .byte) (by decide +kernel))
  obtain ⟨c2, k2, p2, a2, b2, d2⟩ := Cond.arrayClass_spec (hts (.arrayClass .short) (by decide +kernel))
  obtain ⟨c3, k3, p3, a3, b3, d3⟩ := Cond.arrayClass_spec (hts (.arrayClass .boolean) (by decide +kernel))
  obtain ⟨p4, c4, k4, f4, -, b4, d4, a4⟩ := Cond.arrayOver_spec (hts (.arrayOver (.object "java/lang/Object")) (by decide +kernel))
  obtain ⟨p5, c5, k5, f5, -, b5, d5, a5⟩ := Cond.arrayOver_spec (hts (.arrayOver (.object "NutCaches$State")) (by decide +kernel))
  obtain ⟨p6, c6, k6, f6, -, b6, d6, a6⟩ := Cond.arrayOver_spec (hts (.arrayOver (.object "NutCaches$Trail")) (by decide +kernel))
  obtain ⟨p7, c7, k7, -, b7, d7, a7⟩ := Cond.arrayOver_specA (hts (.arrayOver (.array .int)) (by decide +kernel))
  refine ⟨(fun k => (f k).1, fun k => (f k).2), fun k => if k = 0 then c0 else if k = 1 then c1 else if k = 2 then c2 else if k = 3 then c3 else if k = 4 then c4 else if k = 5 then c5 else if k = 6 then c6 else c7, fun k q h => hf k q h, fun k q h => ?_⟩
  match k, h with
  | 0, h => cases h; exact ⟨arr_of b0 d0, a0⟩
  | 1, h => cases h; exact ⟨arr_of b1 d1, a1⟩
  | 2, h => cases h; exact ⟨arr_of b2 d2, a2⟩
  | 3, h => cases h; exact ⟨arr_of b3 d3, a3⟩
  | 4, h => cases h; exact ⟨arr_of b4 d4, k4, p4, b4, d4, f4, a4⟩
  | 5, h => cases h; exact ⟨arr_of b5 d5, k5, p5, b5, d5, f5, a5⟩
  | 6, h => cases h; exact ⟨arr_of b6 d6, k6, p6, b6, d6, f6, a6⟩
  | 7, h => cases h; exact ⟨arr_of b7 d7, a7⟩
  | k + 8, h => cases h
