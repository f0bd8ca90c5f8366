/-! START: what is carried holds at the start, and stays -/
set_option maxRecDepth 100000
def isPv : Cond → Bool
  | .privateMethod _ => true
  | _ => false
theorem ot_kinds : ∀ w ∈ lw_tbl, vx_ot w = true → goodWord w = true ∨ cOK w = true ∨ isPv w = true := by decide +kernel
theorem nw_warm {w : Cond} (hk : goodWord w = true ∨ cOK w = true ∨ isPv w = true) {s U : State} (hW : s.WarmedH U.vm) (h : va_Nw w s) : va_Nw w U := by
  rcases hk with hg | hg | hg
  · exact word_at hW (good_of_word hg) h
  · exact cOK_warm hg hW h
  · cases w with
    | privateMethod y => exact Cond.privateMethod_warm hW h
    | _ => cases hg
def zG0 (N : Nat) : zE := ((fun _ => 0, fun _ _ => 0), fun _ => 0, N, fun _ => True)
/-- all that is carried: k says where the constants lie, below N -/
def zP9 (N : Nat) (k : Nat → Nat) (U : State) : Prop := cZ N k U ∧ cY N U ∧ cV (zG0 N) k U ∧ (∀ q ∈ cNt, va_Nc q.1 q.2 U) ∧ cS (zG0 N) k U
theorem cWords_ok {w : Cond} (h : w ∈ cWords) : cOK w = true := by
  rcases List.mem_append.mp h with h | h
  · exact (List.mem_filter.mp h).2
  · exact (List.mem_filter.mp h).2
theorem cLid_ok : ∀ w ∈ cLid, cOK w = true := by decide
theorem zP9_st {N : Nat} {k : Nat → Nat} {s V : State} (h : zP9 N k s) (hq : ∀ q : Nat, q < s.heap.size → ¬ N ≤ q → V.heap[q]? = s.heap[q]?) (hW : s.WarmedH V.vm) : zP9 N k V := by
  have hvm := hW.alike
  obtain ⟨⟨z1, z2, z3, z4⟩, ⟨y1, y2, y3, y4, y5⟩, ⟨⟨v1, v2⟩, ⟨v3, v4, v5, v6⟩, ⟨v7, v8, v9⟩, v10, v11⟩, n1, ⟨⟨s1, s2, s3⟩, s4, ⟨s5, s6⟩, ⟨s7, s8⟩, ⟨s9, dg, s10, s11⟩, s12, s13, s14⟩⟩ := h
  have hp : ∀ y, va_Nw (.privateMethod y) s → va_Nw (.privateMethod y) V := fun y hy => nw_warm (Or.inr (Or.inr rfl)) hW hy
  refine ⟨⟨fun w hw => cOK_warm (cWords_ok hw) hW (z1 w hw), fun n w hw => cOK_warm (cLid_ok w (List.mem_of_getElem? hw)) hW (z2 n w hw), fun q hq' => va_Nc.moved hvm (z3 q hq'), (va_Z.moved hvm z4).kept hq⟩,
    ⟨fun w hw ho => nw_warm (ot_kinds w hw ho) hW (y1 w hw ho), (vx_Zq.moved hvm y2).kept hq, (vx_Zq.moved hvm y3).kept hq, fun q hq' => va_Nc.moved hvm (y4 q hq'), ?_⟩,
    ⟨⟨(va_Z.moved hvm v1).kept hq, (va_T.moved hvm v2).kept hq⟩, ⟨(va_Z.moved hvm v3).kept hq, (va_Z.moved hvm v4).kept hq, (va_T.moved hvm v5).kept hq, fun j hj => ⟨(va_O.moved hvm (v6 j hj).1).kept hq, (va_OF.moved hvm (v6 j hj).2).kept hq⟩⟩,
      ⟨(va_Z.moved hvm v7).kept hq, (va_T.moved hvm v8).kept hq, fun j hj => ⟨(va_O.moved hvm (v9 j hj).1).kept hq, (va_OF.moved hvm (v9 j hj).2).kept hq⟩⟩, va_Mi.moved hvm v10, va_Dc.moved hvm v11⟩,
    fun q hq' => va_Nc.moved hvm (n1 q hq'),
    ⟨⟨(va_Z.moved hvm s1).kept hq, (va_T.moved hvm s2).kept hq, (va_O.moved hvm s3).kept hq⟩, fun j hj => ⟨(va_O.moved hvm (s4 j hj).1).kept hq, (va_OF.moved hvm (s4 j hj).2.1).kept hq, (va_OF.moved hvm (s4 j hj).2.2.1).kept hq, (va_T.moved hvm (s4 j hj).2.2.2).kept hq⟩,
      ⟨vk_R.warm hW s5, vk_R.warm hW s6⟩, ⟨(va_Z.moved hvm s7).kept hq, (va_O.moved hvm s8).kept hq⟩, ⟨(va_Z.moved hvm s9).kept hq, dg, (va_T.moved hvm s10).kept hq, s11⟩, (va_Zq.moved hvm s12).kept hq, hp _ s13, hp _ s14⟩⟩
  unfold modulesRight_1 at y5 ⊢
  have e1 : V.vm.modules = s.vm.modules := by rw [hvm.1]
  rw [e1]; exact y5
/-! at the start -/
abbrev fl9 : List Cond := flatC (Cond.and given_1 narrow_1)
theorem fl_def : ∀ w ∈ defaultWords_1, w ∈ fl9 := by decide +kernel
theorem fl_lid : ∀ w ∈ cLid, w ∈ fl9 := by decide +kernel
theorem fl_nc : ∀ q ∈ cNc ++ (cNx ++ cNt), (Cond.not (.castable q.1 q.2)) ∈ fl9 := by decide +kernel
theorem cOK_any {w : Cond} (hk : cOK w = true) {A : Array Value} {s : State} (h : w.before A s = true) : va_Nw w s := by
  cases w <;> first | exact va_any rfl h | exact va_Nw.of rfl h | exact h | cases hk
def tmS (i : Nat) : Term := if i < 8 then .string "NutCaches" (348 + 2 * i) else if i = 8 then .string "NutCaches$Reader" 15 else .string "NutCaches$Reader" 143
def lnS : List Nat := hdB.map List.length
def byS : List (List Int32) := hdB.map (fun l => l.map nI)
theorem fl_s1 : ∀ i, i < 10 → (Cond.exactly (tmS i) "java/lang/String") ∈ fl9 ∧ (Cond.eq (.field (tmS i) "java/lang/String" "coder" "B") (.int 0)) ∈ fl9 ∧ (Cond.arrayOf (.field (tmS i) "java/lang/String" "value" "[B") .byte) ∈ fl9 ∧ (Cond.eq (.length (.field (tmS i) "java/lang/String" "value" "[B")) (.int (Int32.ofNat (lnS.getD i 0)))) ∈ fl9 := by decide +kernel
theorem fl_s2 : ∀ i, i < 10 → ∀ j, j < lnS.getD i 0 → (Cond.eq (.elem (.field (tmS i) "java/lang/String" "value" "[B") (.int (Int32.ofNat j))) (.int ((byS.getD i []).getD j 0))) ∈ fl9 := by decide +kernel
def isNe : Cond → Bool
  | .not (.eq (.string _ _) (.string _ _)) => true
  | _ => false
def neL : List (Term × Term) := [(.string "NutCaches$Reader" 15, .string "NutCaches$Reader" 143), (.string "NutCaches$Reader" 15, .string "java/lang/Throwable" 81), (.string "NutCaches$Reader" 143, .string "java/lang/Throwable" 81), (.string "NutCaches$Reader" 15, .string "NutCaches" 348), (.string "NutCaches$Reader" 143, .string "NutCaches" 348), (.string "java/lang/Throwable" 81, .string "NutCaches" 348), (.string "NutCaches$Reader" 15, .string "NutCaches" 350), (.string "NutCaches$Reader" 143, .string "NutCaches" 350), (.string "java/lang/Throwable" 81, .string "NutCaches" 350), (.string "NutCaches" 348, .string "NutCaches" 350), (.string "NutCaches$Reader" 15, .string "NutCaches" 352), (.string "NutCaches$Reader" 143, .string "NutCaches" 352), (.string "java/lang/Throwable" 81, .string "NutCaches" 352), (.string "NutCaches" 348, .string "NutCaches" 352), (.string "NutCaches" 350, .string "NutCaches" 352), (.string "NutCaches$Reader" 15, .string "NutCaches" 354), (.string "NutCaches$Reader" 143, .string "NutCaches" 354), (.string "java/lang/Throwable" 81, .string "NutCaches" 354), (.string "NutCaches" 348, .string "NutCaches" 354), (.string "NutCaches" 350, .string "NutCaches" 354), (.string "NutCaches" 352, .string "NutCaches" 354), (.string "NutCaches$Reader" 15, .string "NutCaches" 356), (.string "NutCaches$Reader" 143, .string "NutCaches" 356), (.string "java/lang/Throwable" 81, .string "NutCaches" 356), (.string "NutCaches" 348, .string "NutCaches" 356), (.string "NutCaches" 350, .string "NutCaches" 356), (.string "NutCaches" 352, .string "NutCaches" 356), (.string "NutCaches" 354, .string "NutCaches" 356), (.string "NutCaches$Reader" 15, .string "NutCaches" 358), (.string "NutCaches$Reader" 143, .string "NutCaches" 358), (.string "java/lang/Throwable" 81, .string "NutCaches" 358), (.string "NutCaches" 348, .string "NutCaches" 358), (.string "NutCaches" 350, .string "NutCaches" 358), (.string "NutCaches" 352, .string "NutCaches" 358), (.string "NutCaches" 354, .string "NutCaches" 358), (.string "NutCaches" 356, .string "NutCaches" 358), (.string "NutCaches$Reader" 15, .string "NutCaches" 360), (.string "NutCaches$Reader" 143, .string "NutCaches" 360), (.string "java/lang/Throwable" 81, .string "NutCaches" 360), (.string "NutCaches" 348, .string "NutCaches" 360), (.string "NutCaches" 350, .string "NutCaches" 360), (.string "NutCaches" 352, .string "NutCaches" 360), (.string "NutCaches" 354, .string "NutCaches" 360), (.string "NutCaches" 356, .string "NutCaches" 360), (.string "NutCaches" 358, .string "NutCaches" 360), (.string "NutCaches$Reader" 15, .string "NutCaches" 362), (.string "NutCaches$Reader" 143, .string "NutCaches" 362), (.string "java/lang/Throwable" 81, .string "NutCaches" 362), (.string "NutCaches" 348, .string "NutCaches" 362), (.string "NutCaches" 350, .string "NutCaches" 362), (.string "NutCaches" 352, .string "NutCaches" 362), (.string "NutCaches" 354, .string "NutCaches" 362), (.string "NutCaches" 356, .string "NutCaches" 362), (.string "NutCaches" 358, .string "NutCaches" 362), (.string "NutCaches" 360, .string "NutCaches" 362)]
theorem fl_ne : fl9.filter isNe = neL.map (fun q => Cond.not (Cond.eq q.1 q.2)) := by decide +kernel
theorem ne_l : ∀ i, i < 10 → ∀ j, j < 10 → i ≠ j → (Cond.not (Cond.eq (tmS i) (tmS j))) ∈ neL.map (fun q => Cond.not (Cond.eq q.1 q.2)) ∨ (Cond.not (Cond.eq (tmS j) (tmS i))) ∈ neL.map (fun q => Cond.not (Cond.eq q.1 q.2)) := by decide +kernel
theorem ne_mem {q : Cond} (h : q ∈ neL.map (fun q => Cond.not (Cond.eq q.1 q.2))) : q ∈ fl9 := by
  have h1 : q ∈ fl9.filter isNe := by rw [fl_ne]; exact h
  exact (List.mem_filter.mp h1).1
theorem fl_s3 (i : Nat) (hi : i < 10) (j : Nat) (hj : j < 10) (h : i ≠ j) : (Cond.not (Cond.eq (tmS i) (tmS j))) ∈ fl9 ∨ (Cond.not (Cond.eq (tmS j) (tmS i))) ∈ fl9 := (ne_l i hi j hj h).imp ne_mem ne_mem
theorem fl_s4 : ∀ j, j < 8 → (Cond.eq (.elem (.static "NutCaches" "HEADS" "[Ljava/lang/String;") (.int (Int32.ofNat j))) (tmS j)) ∈ fl9 := by decide +kernel
theorem ln_lt : ∀ i, i < 10 → lnS.getD i 0 < 2 ^ 31 := by decide
theorem ln_eq : ∀ i, i < 10 → lnS.getD i 0 = (hdB.getD i []).length := by decide
theorem map_nI (l : List Nat) (j : Nat) : (l.map nI).getD j 0 = nI (l.getD j 0) := by
  rw [List.getD_eq_getElem?_getD, List.getD_eq_getElem?_getD, List.getElem?_map]
  cases l[j]? <;> rfl
theorem by_eq (i j : Nat) : (byS.getD i []).getD j 0 = nI ((hdB.getD i []).getD j 0) := by
  have e : byS.getD i [] = (hdB.getD i []).map nI := by
    unfold byS
    rw [List.getD_eq_getElem?_getD, List.getD_eq_getElem?_getD, List.getElem?_map]
    cases hdB[i]? <;> rfl
  rw [e, map_nI]
def dgS : List Int32 := [-1, -1, -1, -1, -1, -1, -1, -1, -1, -1, -1, -1, -1, -1, -1, -1, -1, -1, -1, -1, -1, -1, -1, -1, -1, -1, -1, -1, -1, -1, -1, -1, -1, -1, -1, -1, -1, -1, -1, -1, -1, -1, -1, -1, -1, -1, -1, -1, 0, 1, 2, 3, 4, 5, 6, 7, 8, 9, -1, -1, -1, -1, -1, -1, -1, 10, 11, 12, 13, 14, 15, 16, 17, 18, 19, 20, 21, 22, 23, 24, 25, 26, 27, 28, 29, 30, 31, 32, 33, 34, 35, -1, -1, -1, -1, -1, -1, 10, 11, 12, 13, 14, 15, 16, 17, 18, 19, 20, 21, 22, 23, 24, 25, 26, 27, 28, 29, 30, 31, 32, 33, 34, 35, -1, -1, -1, -1, -1, -1, -1, -1, -1, -1, -1, -1, -1, -1, -1, -1, -1, -1, -1, -1, -1, -1, -1, -1, -1, -1, -1, -1, -1, -1, -1, -1, -1, -1, -1, -1, -1, -1, -1, -1, -1, -1, -1, -1, -1, -1, -1, -1, -1, -1, -1, -1, -1, -1, -1, -1, -1, -1, -1, -1, -1, -1, -1, -1, -1, -1, -1, -1, -1, -1, -1, -1, -1, -1, -1, -1, -1, -1, -1, -1, -1, -1, -1, -1, -1, -1, -1, -1, -1, -1, -1, -1, -1, -1, -1, -1, -1, -1, -1, -1, -1, -1, -1, -1, -1, -1, -1, -1, -1, -1, -1, -1, -1, -1, -1, -1, -1, -1, -1, -1, -1, -1, -1, -1, -1, -1, -1, -1, -1, -1, -1, -1, -1]
def isDt : Cond → Bool
  | .eq (.elem (.static a _ _) _) (.int _) => decide (a = "java/lang/CharacterDataLatin1")
  | _ => false
def dgT (j : Nat) : Cond := .eq (.elem (.static "java/lang/CharacterDataLatin1" "DIGITS" "[B") (.int (Int32.ofNat j))) (.int (dgS.getD j 0))
theorem fl_dt : fl9.filter isDt = (List.range 256).map dgT := by decide +kernel
theorem fl_d (j : Nat) (hj : j < 256) : dgT j ∈ fl9 := by
  have h1 : dgT j ∈ fl9.filter isDt := by rw [fl_dt]; exact List.mem_map.mpr ⟨j, List.mem_range.mpr hj, rfl⟩
  exact (List.mem_filter.mp h1).1
theorem dg_d : ∀ j, j < 10 → dgS.getD (48 + j) 0 = nI j := by decide
/-- the boxes of a cache -/
theorem zb_Cof {args : Array Value} {s : State} {A : Nat → Prop} {st : Term} {E n d : String} (hc : st.closed = true) (hlen : (Term.length st).eval args s none [] s = some (.int (Int32.ofNat 256)))
    (hall : (Cond.all st (.and (.exactly (.elem st (.index 0)) E) (.eq (.field (.elem st (.index 0)) E n d) (.sub (.index 0) (.int 128))))).before args s = true) (hA : ∀ a : Nat, a < s.heap.size → ¬ A a) :
    ∃ ad : Nat → Nat, ∀ j : Nat, j < 256 → va_O E (ad j) A s s.heap ∧ va_OF E n d (.int (vb_c j)) (ad j) A s s.heap ∧ (Term.elem st (.int (Int32.ofNat j))).eval args s none [] s = some (.ref (ad j)) := by
  obtain ⟨b, cell, ht, hat, hv⟩ := Term.length_spec hlen
  have hsz : ∀ k : Nat, k < 256 → k < cell.slots.size := by
    intro k hk
    refine Nat.not_le.mp (fun hle => ?_)
    have e := congrArg Int32.toNatClampNeg (Value.int.inj hv)
    rw [Int32.toNatClampNeg_ofNat_of_lt (by omega), Int32.toNatClampNeg_ofNat_of_lt (by omega)] at e
    omega
  have hall' := Cond.all_elim ht hat (by simpa [Cond.before, Cond.holds] using hall)
  have key : ∀ k : Nat, ∃ a : Nat, k < 256 → va_O E a A s s.heap ∧ va_OF E n d (.int (vb_c k)) a A s s.heap ∧ (Term.elem st (.int (Int32.ofNat k))).eval args s none [] s = some (.ref a) := by
    intro k
    by_cases hk : k < 256
    · obtain ⟨hE, hF⟩ := va_andE (hall' k (hsz k hk))
      obtain ⟨a, c, cA, kA, q1, q2, q3, q4, q5, q6, -⟩ := Cond.exactly_spec (args := args) (first := s) (o := none) (s := s) (idx := [k]) (t := .elem st (.index 0)) (cls := E) (by simp [Cond.holds, hE])
      have hfv := va_eqI hF (v := .int (vb_c k)) (by simp [Term.eval, vb_c])
      refine ⟨a, fun _ => ⟨⟨cA, q3, q5, by rw [q6]; exact q2, hA a (Array.getElem?_eq_some_iff.mp q3).1⟩, ?_, ?_⟩⟩
      · cases hfo : s.fieldFound? E n d with
        | none => rw [va_fe q1] at hfv; simp [State.fieldOf?, State.fieldNamed?, hfo] at hfv
        | some x =>
          obtain ⟨cf, kf, fi, f⟩ := x
          obtain ⟨g1, cell2, g2, g3, -, -, g6⟩ := Term.field_spec hfo q1 hfv
          exact ⟨cf, kf, fi, f, cell2, hfo, g1, g2, g3, g6, hA _ (Array.getElem?_eq_some_iff.mp g2).1⟩
      · rw [← q1]
        simp only [Term.eval, Term.eval_closed none [k] st s hc]
        rfl
    · exact ⟨0, fun h => absurd h hk⟩
  obtain ⟨ad, had⟩ := Classical.axiomOfChoice key
  exact ⟨ad, had⟩
/-- where the constants lie -/
def kF (a0 a1 a2 a3 a4 a5 a6 : Nat) (aK aV aI aB : Nat → Nat) (k : Nat) : Nat :=
  if k = 0 then a0 else if k = 1 then a1 else if k = 2 then a2 else if k = 3 then a3 else if k = 4 then a4 else if k = 5 then a5 else if k = 6 then a6 else if k < 30 then aK (k - 10) else if k < 100 then aV (k - 30) else if k < 400 then aI (k - 100) else aB (k - 400)
section KF
variable {a0 a1 a2 a3 a4 a5 a6 : Nat} {aK aV aI aB : Nat → Nat} {j : Nat}
theorem kF_K (h : j < 10) : kF a0 a1 a2 a3 a4 a5 a6 aK aV aI aB (10 + j) = aK j := by
  unfold kF
  rw [if_neg (by omega), if_neg (by omega), if_neg (by omega), if_neg (by omega), if_neg (by omega), if_neg (by omega), if_neg (by omega), if_pos (by omega)]
  congr 1; omega
theorem kF_V (h : j < 10) : kF a0 a1 a2 a3 a4 a5 a6 aK aV aI aB (30 + j) = aV j := by
  unfold kF
  rw [if_neg (by omega), if_neg (by omega), if_neg (by omega), if_neg (by omega), if_neg (by omega), if_neg (by omega), if_neg (by omega), if_neg (by omega), if_pos (by omega)]
  congr 1; omega
theorem kF_I (h : j < 256) : kF a0 a1 a2 a3 a4 a5 a6 aK aV aI aB (100 + j) = aI j := by
  unfold kF
  rw [if_neg (by omega), if_neg (by omega), if_neg (by omega), if_neg (by omega), if_neg (by omega), if_neg (by omega), if_neg (by omega), if_neg (by omega), if_neg (by omega), if_pos (by omega)]
  congr 1; omega
theorem kF_B (h : j < 256) : kF a0 a1 a2 a3 a4 a5 a6 aK aV aI aB (400 + j) = aB j := by
  unfold kF
  rw [if_neg (by omega), if_neg (by omega), if_neg (by omega), if_neg (by omega), if_neg (by omega), if_neg (by omega), if_neg (by omega), if_neg (by omega), if_neg (by omega), if_neg (by omega)]
  congr 1; omega
end KF
theorem va_T.fn {ty : FieldType} {t N : Nat} {f g : Nat → Value} {A : Nat → Prop} {U : State} {H : Heap} (h : va_T ty t N f A U H) (e : ∀ j, j < N → f j = g j) : va_T ty t N g A U H := by
  obtain ⟨cell, h1, h2, h3, h4, h5, h6, h7⟩ := h
  exact ⟨cell, h1, h2, h3, h4, h5, fun j hj => by rw [← e j hj]; exact h6 j hj, h7⟩
theorem zP9_at {b : Nat} {s : State} (hts : ∀ w ∈ lw_tbl, w.before #[Value.ref b] s = true) (hgv : (Jvm.Cond.and given_1 narrow_1).before #[Value.ref b] s = true) (hmod : modulesRight_1 s = true) : ∃ k : Nat → Nat, zP9 s.heap.size k s := by
  have hs : ∀ c ∈ fl9, c.before #[Value.ref b] s = true := flat_of_before _ hgv
  have hA : ∀ a : Nat, a < s.heap.size → ¬ s.heap.size ≤ a := fun a h => Nat.not_le.mpr h
  have hNc : ∀ q ∈ cNc ++ (cNx ++ cNt), va_Nc q.1 q.2 s := fun q hq => va_Nc.of (hs _ (fl_nc q hq))
  -- strings
  obtain ⟨aK, aV, hS, hSe⟩ := vk_Sof (args := #[Value.ref b]) (s := s) (N := 10) (tm := tmS) (len := lnS) (byt := byS) (A := fun q => s.heap.size ≤ q) ln_lt (fun i hi => hs _ (fl_s1 i hi).1) (fun i hi => hs _ (fl_s1 i hi).2.1) (fun i hi => hs _ (fl_s1 i hi).2.2.1) (fun i hi => hs _ (fl_s1 i hi).2.2.2) (fun i hi j hj => hs _ (fl_s2 i hi j hj)) (fun i j hi hj hij => (fl_s3 i hi j hj hij).imp (hs _) (hs _)) hA
  have el : ∀ {t u : Term} {v : Value}, (Cond.eq t u).before #[Value.ref b] s = true → u.eval #[Value.ref b] s none [] s = some v → t.eval #[Value.ref b] s none [] s = some v := fun {t u v} h hu => va_eqI (by simpa [Cond.before, Cond.holds] using h) hu
  -- HEADS
  obtain ⟨a0, h0e, h0T⟩ := va_Tof (tm := .static "NutCaches" "HEADS" "[Ljava/lang/String;") (ty := .object "java/lang/String") (N := 8) (f := fun j => .ref (aK j)) (A := fun q => s.heap.size ≤ q) (by decide) (hs _ (by decide +kernel)) (va_eqt (hs _ (by decide +kernel))) (fun j hj => el (hs _ (fl_s4 j hj)) (hSe j (by omega))) hA
  have h0Z := va_Zof (A := fun q => s.heap.size ≤ q) (hts (.laysStatic "NutCaches" "HEADS" "[Ljava/lang/String;") (by decide +kernel)) (hts (.initialized "NutCaches") (by decide +kernel)) h0e hA
  have h0O := va_Oof (A := fun q => s.heap.size ≤ q) (nm := "[Ljava/lang/String;") (hs _ (by decide +kernel)) h0e hA
  -- the caches
  have hlI := va_eqt (hs (.eq (.length (.static "java/lang/Integer$IntegerCache" "cache" "[Ljava/lang/Integer;")) (.int 256)) (by decide +kernel))
  obtain ⟨aI, hI⟩ := zb_Cof (A := fun q => s.heap.size ≤ q) (st := .static "java/lang/Integer$IntegerCache" "cache" "[Ljava/lang/Integer;") (E := "java/lang/Integer") (n := "value") (d := "I") rfl hlI (hs _ (by decide +kernel)) hA
  obtain ⟨a1, h1e, h1T⟩ := va_Tof (tm := .static "java/lang/Integer$IntegerCache" "cache" "[Ljava/lang/Integer;") (ty := .object "java/lang/Integer") (N := 256) (f := fun j => .ref (aI j)) (A := fun q => s.heap.size ≤ q) (by decide) (hs _ (by decide +kernel)) hlI (fun j hj => (hI j hj).2.2) hA
  have h1Z := va_Zof (A := fun q => s.heap.size ≤ q) (hts (.laysStatic "java/lang/Integer$IntegerCache" "cache" "[Ljava/lang/Integer;") (by decide +kernel)) (hts (.initialized "java/lang/Integer$IntegerCache") (by decide +kernel)) h1e hA
  have h1H := va_Zof (A := fun q => s.heap.size ≤ q) (v := .int 127) (hts (.laysStatic "java/lang/Integer$IntegerCache" "high" "I") (by decide +kernel)) (hts (.initialized "java/lang/Integer$IntegerCache") (by decide +kernel)) (va_eqt (hs _ (by decide +kernel))) hA
  have hlB := va_eqt (hs (.eq (.length (.static "java/lang/Byte$ByteCache" "cache" "[Ljava/lang/Byte;")) (.int 256)) (by decide +kernel))
  obtain ⟨aB, hB⟩ := zb_Cof (A := fun q => s.heap.size ≤ q) (st := .static "java/lang/Byte$ByteCache" "cache" "[Ljava/lang/Byte;") (E := "java/lang/Byte") (n := "value") (d := "B") rfl hlB (hs _ (by decide +kernel)) hA
  obtain ⟨a2, h2e, h2T⟩ := va_Tof (tm := .static "java/lang/Byte$ByteCache" "cache" "[Ljava/lang/Byte;") (ty := .object "java/lang/Byte") (N := 256) (f := fun j => .ref (aB j)) (A := fun q => s.heap.size ≤ q) (by decide) (hs _ (by decide +kernel)) hlB (fun j hj => (hB j hj).2.2) hA
  have h2Z := va_Zof (A := fun q => s.heap.size ≤ q) (hts (.laysStatic "java/lang/Byte$ByteCache" "cache" "[Ljava/lang/Byte;") (by decide +kernel)) (hts (.initialized "java/lang/Byte$ByteCache") (by decide +kernel)) h2e hA
  -- the digits
  have hci : (Cond.exactly (.static "java/lang/CharacterDataLatin1" "instance" "Ljava/lang/CharacterDataLatin1;") "java/lang/CharacterDataLatin1").before #[Value.ref b] s = true := hs _ (by decide +kernel)
  obtain ⟨a3, -, -, -, h3e, -⟩ := Cond.exactly_spec (args := #[Value.ref b]) (first := s) (o := none) (s := s) (idx := []) (t := .static "java/lang/CharacterDataLatin1" "instance" "Ljava/lang/CharacterDataLatin1;") (cls := "java/lang/CharacterDataLatin1") hci
  have h3Z := va_Zof (A := fun q => s.heap.size ≤ q) (hts (.laysStatic "java/lang/CharacterDataLatin1" "instance" "Ljava/lang/CharacterDataLatin1;") (by decide +kernel)) (hts (.initialized "java/lang/CharacterDataLatin1") (by decide +kernel)) h3e hA
  have h3O := va_Oof (A := fun q => s.heap.size ≤ q) hci h3e hA
  obtain ⟨a4, h4e, h4T⟩ := va_Tof (tm := .static "java/lang/CharacterDataLatin1" "DIGITS" "[B") (ty := .byte) (N := 256) (f := fun j => .int (dgS.getD j 0)) (A := fun q => s.heap.size ≤ q) (by decide) (hs _ (by decide +kernel)) (va_eqt (hs _ (by decide +kernel))) (fun j hj => va_eqt (hs _ (fl_d j hj))) hA
  have h4Z := va_Zof (A := fun q => s.heap.size ≤ q) (hts (.laysStatic "java/lang/CharacterDataLatin1" "DIGITS" "[B") (by decide +kernel)) (hts (.initialized "java/lang/CharacterDataLatin1") (by decide +kernel)) h4e hA
  -- the empty list's array, the mirror
  obtain ⟨a5, h5e, h5T⟩ := va_Tof (tm := .static "java/util/ArrayList" "DEFAULTCAPACITY_EMPTY_ELEMENTDATA" "[Ljava/lang/Object;") (ty := .object "java/lang/Object") (N := 0) (f := fun _ => .null) (A := fun q => s.heap.size ≤ q) (by decide) (hs _ (by decide +kernel)) (va_eqt (hs _ (by decide +kernel))) (fun j hj => absurd hj (Nat.not_lt_zero j)) hA
  have h5Z := va_Zof (A := fun q => s.heap.size ≤ q) (hts (.laysStatic "java/util/ArrayList" "DEFAULTCAPACITY_EMPTY_ELEMENTDATA" "[Ljava/lang/Object;") (by decide +kernel)) (hts (.initialized "java/util/ArrayList") (by decide +kernel)) h5e hA
  obtain ⟨a6, h6⟩ := va_Mi.of (C := "[Ljava/lang/Object;") (hs _ (by decide +kernel))
  refine ⟨kF a0 a1 a2 a3 a4 a5 a6 aK aV aI aB, ⟨fun w hw => ?_, fun n w hw => ?_, fun q hq => hNc q (List.mem_append_left _ hq), ?_⟩, ⟨fun w hw ho => ?_, ?_, ?_, fun q hq => hNc q (List.mem_append_right _ (List.mem_append_left _ hq)), hmod⟩,
    ⟨⟨h5Z, h5T⟩, ⟨h1H, h1Z, h1T.fn (fun j hj => by rw [kF_I hj]), fun j hj => by rw [kF_I hj]; exact ⟨(hI j hj).1, (hI j hj).2.1⟩⟩, ⟨h2Z, h2T.fn (fun j hj => by rw [kF_B hj]), fun j hj => by rw [kF_B hj]; exact ⟨(hB j hj).1, (hB j hj).2.1⟩⟩, h6, va_Dc.of (hts _ (by decide +kernel))⟩,
    fun q hq => hNc q (List.mem_append_right _ (List.mem_append_right _ hq)),
    ⟨⟨h0Z, h0T.fn (fun j hj => by rw [kF_K (by omega)]), h0O⟩, fun j hj => ?_, ⟨?_, ?_⟩, ⟨h3Z, h3O⟩, ⟨h4Z, fun j => dgS.getD j 0, h4T, dg_d⟩, va_Zqof (hts _ (by decide +kernel)) (hts _ (by decide +kernel)) (hs _ (by decide +kernel)) hA, va_Nw.of rfl (hts _ (by decide +kernel)), va_Nw.of rfl (hts _ (by decide +kernel))⟩⟩
  · rcases List.mem_append.mp hw with h | h
    · obtain ⟨h1, h2⟩ := List.mem_filter.mp h
      exact cOK_any h2 (hts w h1)
    · obtain ⟨h1, h2⟩ := List.mem_filter.mp h
      exact cOK_any h2 (hs w (fl_def w h1))
  · exact cOK_any (cLid_ok w (List.mem_of_getElem? hw)) (hs w (fl_lid w (List.mem_of_getElem? hw)))
  · exact va_Zof (hts (.laysStatic "java/lang/String" "COMPACT_STRINGS" "Z") (by decide +kernel)) (hts (.initialized "java/lang/String") (by decide +kernel)) (va_eqt (hs _ (by decide +kernel))) hA
  · exact vx_ot_at (State.WarmedH.refl s) rfl ho (hts w hw)
  · exact vx_Zqof (hts _ (by decide +kernel)) (hts _ (by decide +kernel)) (hs _ (by decide +kernel)) hA
  · exact vx_Zqof (hts _ (by decide +kernel)) (hts _ (by decide +kernel)) (hs _ (by decide +kernel)) hA
  · obtain ⟨q1, q2, q3, q4⟩ := hS.1 j hj
    rw [kF_K hj, kF_V hj]
    refine ⟨q1, q2, q3, ?_⟩
    rw [ln_eq j hj] at q4
    exact q4.fn (fun i _ => by rw [by_eq])
  · exact vk_R.of (hts (.stringRef "NutCaches$Reader" 15 "") (by decide +kernel)) (by rw [kF_K (by decide)]; exact hSe 8 (by decide))
  · exact vk_R.of (hts (.stringRef "NutCaches$Reader" 143 ";") (by decide +kernel)) (by rw [kF_K (by decide)]; exact hSe 9 (by decide))
