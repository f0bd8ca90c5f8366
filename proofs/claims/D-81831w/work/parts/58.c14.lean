/-! COMPONENT: what can be undone -/
set_option maxRecDepth 100000
/-! pools of a world: brought to the front; taken along into a call; slots out and in -/
theorem z_mv1 (A B T : va_W) : (A ++ (B ++ T)).Perm (B ++ (A ++ T)) := List.perm_append_comm_assoc A B T
theorem z_mv2 (A B C T : va_W) : (A ++ (B ++ (C ++ T))).Perm (C ++ (A ++ (B ++ T))) := ((z_mv1 B C T).append_left A).trans (z_mv1 A C _)
theorem z_mv3 (A B C D T : va_W) : (A ++ (B ++ (C ++ (D ++ T)))).Perm (D ++ (A ++ (B ++ (C ++ T)))) := ((z_mv2 B C D T).append_left A).trans (z_mv1 A D _)
theorem z_mv4 (A B C D E T : va_W) : (A ++ (B ++ (C ++ (D ++ (E ++ T))))).Perm (E ++ (A ++ (B ++ (C ++ (D ++ T))))) := ((z_mv3 B C D E T).append_left A).trans (z_mv1 A E _)
theorem z_cutP2 {E cells E' P P2 T : va_W} (h : E.Perm (cells ++ E')) : (E ++ (P ++ (P2 ++ T))).Perm (cells ++ (P ++ (P2 ++ (E' ++ T)))) := (z_cutP h).trans (((List.perm_append_comm_assoc E' P2 T).append_left P).append_left cells)
theorem z_putP2 {E cells E' P P2 T : va_W} (h : (cells ++ E').Perm E) : (cells ++ (P ++ (P2 ++ (E' ++ T)))).Perm (E ++ (P ++ (P2 ++ T))) := (z_cutP2 h.symm).symm
theorem z_cutP3 {E cells E' P P2 P3 T : va_W} (h : E.Perm (cells ++ E')) : (E ++ (P ++ (P2 ++ (P3 ++ T)))).Perm (cells ++ (P ++ (P2 ++ (P3 ++ (E' ++ T))))) := (z_cutP2 h).trans ((((List.perm_append_comm_assoc E' P3 T).append_left P2).append_left P).append_left cells)
theorem z_putP3 {E cells E' P P2 P3 T : va_W} (h : (cells ++ E').Perm E) : (cells ++ (P ++ (P2 ++ (P3 ++ (E' ++ T))))).Perm (E ++ (P ++ (P2 ++ (P3 ++ T)))) := (z_cutP3 h.symm).symm
theorem pl_get {n j : Nat} {sl : Nat → va_W} {E T : va_W} (hj : j < n) : (E ++ (pw n sl ++ T)).Perm (sl j ++ (E ++ (pwX n sl j ++ T))) :=
  (((pl_out hj).append_right T).append_left E).trans (by rw [List.append_assoc]; exact List.perm_append_comm_assoc E (sl j) _)
theorem pl_put {n j : Nat} {sl : Nat → va_W} {x E T : va_W} (hj : j < n) : (x ++ (E ++ (pwX n sl j ++ T))).Perm (E ++ (pw n (va_up sl j x) ++ T)) :=
  (List.perm_append_comm_assoc x E _).trans (List.Perm.append_left E (by rw [← List.append_assoc]; exact (pl_in hj).append_right T))
theorem zS.dropP {G : zE} {s : State} {H : Heap} {locs : List Loc} {ws : va_W} : ∀ x : va_W, zS G (x ++ ws) s H locs → zS G ws s H locs
  | [], h => h
  | _ :: x, h => zS.dropP x h.drop
theorem pl_none {n : Nat} : pw n (fun _ => []) = [] := by
  unfold pw
  have e : ∀ l : List Nat, l.flatMap (fun _ => ([] : va_W)) = [] := by
    intro l
    induction l with
    | nil => rfl
    | cons a l ih => rw [List.flatMap_cons, ih]; rfl
  exact e _
/-- slots one place on, the first at the end -/
def rotF {α : Type} (f : Nat → α) : Nat → α := fun j => if j < 7 then f (j + 1) else if j = 7 then f 0 else f j
theorem rot_arr {f : Nat → Option Nat} {s0 : Nat} (h : f 0 = some s0) : va_up (va_cpy f f 1 0 7) 7 (some s0) = rotF f := by
  funext j
  unfold va_up va_cpy rotF
  by_cases h7 : j < 7
  · rw [if_neg (by omega), if_pos ⟨by omega, by omega⟩, if_pos h7]; congr 1; omega
  · rw [if_neg h7]
    by_cases h8 : j = 7
    · rw [if_pos h8, if_pos h8, h]
    · rw [if_neg h8, if_neg (by omega), if_neg h8]
theorem pl_rot {sl : Nat → va_W} : (pw 8 sl).Perm (pw 8 (rotF sl)) := by
  have e : ∀ f : Nat → va_W, pw 8 f = f 0 ++ (f 1 ++ (f 2 ++ (f 3 ++ (f 4 ++ (f 5 ++ (f 6 ++ (f 7 ++ []))))))) := fun f => rfl
  rw [e sl, e (rotF sl)]
  show (sl 0 ++ (sl 1 ++ (sl 2 ++ (sl 3 ++ (sl 4 ++ (sl 5 ++ (sl 6 ++ (sl 7 ++ [])))))))).Perm (sl 1 ++ (sl 2 ++ (sl 3 ++ (sl 4 ++ (sl 5 ++ (sl 6 ++ (sl 7 ++ (sl 0 ++ []))))))))
  exact (z_mv1 _ _ _).trans (List.Perm.append_left _ ((z_mv1 _ _ _).trans (List.Perm.append_left _ ((z_mv1 _ _ _).trans (List.Perm.append_left _ ((z_mv1 _ _ _).trans (List.Perm.append_left _ ((z_mv1 _ _ _).trans (List.Perm.append_left _ ((z_mv1 _ _ _).trans (List.Perm.append_left _ (z_mv1 _ _ _))))))))))))
theorem slS_none {G : zE} {co a : Nat} {v : Option (Nat → Nat)} {x : va_W} (h : slS G co (some a) v x) : slS G co (some a) none x := by
  obtain ⟨z, ps, dy, hg, p, nu, ax, le, kn, h1, h2, -⟩ := h
  exact ⟨z, ps, dy, hg, p, nu, ax, le, kn, h1, h2, fun w hw => nomatch hw⟩
theorem slS_mem {G : zE} {co a : Nat} {v : Option (Nat → Nat)} {x : va_W} (h : slS G co (some a) v x) : ∃ fs, (a, zo 1 fs) ∈ x := by
  obtain ⟨z, ps, dy, hg, p, nu, ax, le, kn, h1, -, -⟩ := h
  exact ⟨_, by rw [h1]; exact List.mem_cons_self⟩
def noteM (um : Nat) : Nat := if um = 8 then 8 else um + 1
def noteU (v : Nat → Nat) (um : Nat) (U : Nat → Nat → Nat) : Nat → Nat → Nat := if um = 8 then (fun j => if j = 7 then v else U (j + 1)) else (fun j => if j = um then v else U j)
/-- the slots of what can be undone -/
def slB (G : zE) (co : Nat) (bf : Nat → Option Nat) (um : Nat) (U : Nat → Nat → Nat) (bs : Nat → va_W) : Prop := ∀ j, j < 8 → slS G co (bf j) (if j < um then some (U j) else none) (bs j)
theorem slB_some {G : zE} {co um j : Nat} {bf : Nat → Option Nat} {U : Nat → Nat → Nat} {bs : Nat → va_W} (h8 : um ≤ 8) (hj : j < um) (h : slB G co bf um U bs) : ∃ a, bf j = some a := by
  have h1 := h j (by omega)
  rw [if_pos hj] at h1
  cases hb : bf j with
  | none => rw [hb] at h1; exact nomatch h1.2
  | some a => exact ⟨a, rfl⟩
theorem sBd_0 : sBd (fun _ => 0) (fun _ => 0) (fun _ => 0) (fun _ => 0) (fun _ => 0) := fun _ => ⟨(by decide : 0 < 128), (by decide : 0 < 128), (by decide : 0 < 128), (by decide : 0 < 128), (by decide : 0 < 512)⟩
theorem note_rot {G : zE} {co : Nat} {bf : Nat → Option Nat} {U : Nat → Nat → Nat} {bs : Nat → va_W} {s0 : Nat} (h0 : bf 0 = some s0) (h : slB G co bf 8 U bs) : slB G co (rotF bf) 7 (fun j => U (j + 1)) (rotF bs) := by
  intro j hj
  unfold rotF
  by_cases q : j < 7
  · rw [if_pos q, if_pos q, if_pos q]
    have := h (j + 1) (by omega)
    rw [if_pos (by omega)] at this
    exact this
  · rw [if_neg q, if_neg q, if_neg q, if_pos (by omega), if_pos (by omega), h0]
    have := h 0 (by omega)
    rw [h0] at this
    exact slS_none this
theorem note_end {G : zE} {co um um1 sa : Nat} {v : Nat → Nat} {U U1 : Nat → Nat → Nat} {bf1 bf2 : Nat → Option Nat} {bs1 : Nat → va_W} {x : va_W} (h8 : um ≤ 8) (h1 : um1 = if um = 8 then 7 else um) (hU : U1 = if um = 8 then (fun j => U (j + 1)) else U) (hb1 : slB G co bf1 um1 U1 bs1) (hb2 : ∀ j, j ≠ um1 → bf2 j = bf1 j) (hb3 : bf2 um1 = some sa) (hx : slS G co (some sa) (some v) x) : um1 + 1 = noteM um ∧ slB G co bf2 (noteM um) (noteU v um U) (va_up bs1 um1 x) := by
  have hm : um1 + 1 = noteM um := by unfold noteM; rw [h1]; split <;> omega
  refine ⟨hm, fun j hj => ?_⟩
  rw [← hm]
  by_cases q : j = um1
  · rw [q, hb3, va_up_self, if_pos (Nat.lt_succ_self _)]
    have e : noteU v um U um1 = v := by
      unfold noteU
      by_cases h : um = 8
      · rw [if_pos h]; rw [if_pos h] at h1; rw [h1]; rfl
      · rw [if_neg h]; rw [if_neg h] at h1; rw [h1]; exact if_pos rfl
    rw [e]; exact hx
  · rw [hb2 j q, va_up_ne _ _ q]
    have h2 := hb1 j hj
    by_cases h3 : j < um1
    · rw [if_pos h3] at h2
      rw [if_pos (by omega)]
      have e : noteU v um U j = U1 j := by
        unfold noteU
        by_cases h : um = 8
        · rw [hU, if_pos h, if_pos h]; rw [if_pos h] at h1; exact if_neg (by omega)
        · rw [hU, if_neg h, if_neg h]; rw [if_neg h] at h1; exact if_neg (by omega)
      rw [e]; exact h2
    · rw [if_neg h3] at h2
      rw [if_neg (by omega)]; exact h2
section ZH
variable {p : Program} {l : Launch} {s : State} {m : MethodId} {args : Array Value} {meth : Method} {c : Code} {H : Heap} {locs : List Loc} {cc : ByteArray} {G : zE} {ws : va_W} {own : String} {nL : Nat}
theorem z_anyM {a ci : Nat} {fs : List Value} {r : vw_C} (hC : zCx G own cc nL p s m args meth c) (hw : zS G ws s H locs) (hm : (a, zo ci fs) ∈ ws) (hc : zcl[ci]? = some r) : va_Any r.1 s H a := by
  obtain ⟨q0, he⟩ := List.getElem?_of_mem hm
  exact z_anyE hC hw q0 he hc
theorem slS_any {E T : va_W} {n co : Nat} {bf : Nat → Option Nat} {vv : Nat → Option (Nat → Nat)} {bs : Nat → va_W} (hC : zCx G own cc nL p s m args meth c) (hbs : ∀ j, j < n → slS G co (bf j) (vv j) (bs j)) (hw : zS G (E ++ (pw n bs ++ T)) s H locs) : ∀ j, j < n → ∀ y, bf j = some y → va_Any "NutCaches$State" s H y := by
  intro j hj y hy
  have h1 := hbs j hj
  rw [hy] at h1
  obtain ⟨fs, hm⟩ := slS_mem h1
  exact z_anyM (r := (RX1, TX1, 9)) hC hw (List.mem_append_right _ (List.mem_append_left _ (List.mem_flatMap.mpr ⟨j, List.mem_range.mpr hj, hm⟩))) rfl
end ZH
theorem zf_X0_61_0 : zFl 0 6 RX0 61 true (.array (.object "NutCaches$State")) := ⟨RX0, TX0, 13, tyX0, rfl, by decide, in_X0, q179, rfl, by decide +kernel, tyX0_ok, nmX0⟩
theorem zf_X0_40_0 : zFl 0 7 RX0 40 false .int := ⟨RX0, TX0, 13, tyX0, rfl, by decide, in_X0, q180, rfl, by decide +kernel, tyX0_ok, nmX0⟩
theorem zn_X1_init : zNs yX1_init cX1_init 2 none 1 := ⟨q110, q50, ⟨by decide +kernel, by decide +kernel⟩, by decide +kernel⟩
set_option maxHeartbeats 4000000 in
theorem m_X0_note (G : zE) (l : Launch) (kA : Nat → Nat) (hG : zG G kA) (co : Nat) (w : Nat → Nat) (zn : Nat → Nat) (v : Nat → Nat) (U : Nat → Nat → Nat) (um : Nat) (mn : Nat) (ps : Nat) (dy : Nat) (sm : Int32) (lt : Int32) (gg : Int32) (pl : Nat → Nat) (nu : Nat → Nat) (ax : Nat → Nat) (le : Nat → Nat) (kn : Nat → Nat) (bf : Nat → Option Nat) (bs : Nat → va_W) (h8 : um ≤ 8) (hps : ps = v 0) (hdy : dy = v 2) (hH : Hw v) (hR : sRel v pl nu ax le kn) (hbs : slB G co bf um U bs) (rest : va_W) : zMv G l yX0_note cX0_note 2 2 6 42 [.ref co] ((co, zo 0 (cF w (nI mn) (nI um) sm lt)) :: (w 2, zo 1 (stF zn co (nI ps) (nI dy) (gg))) :: (zn 0, zc G 1 (zI 9 (vI pl))) :: (zn 1, zc G 1 (zI 9 (vI nu))) :: (zn 2, zc G 1 (zI 5 (vI ax))) :: (zn 3, zc G 1 (zI 5 (vI le))) :: (zn 4, zc G 2 (zI 5 (vI kn))) :: (w 5, zc G 5 (zO 8 bf)) :: (pw 8 bs ++ rest)) (fun u => u.1 = noteM um ∧ slB G co u.2.1 u.1 (noteU v um U) u.2.2) (fun (u : Nat × (Nat → Option Nat) × (Nat → va_W)) => (co, zo 0 (cF w (nI mn) (nI u.1) sm lt)) :: (w 2, zo 1 (stF zn co (nI ps) (nI dy) (gg))) :: (zn 0, zc G 1 (zI 9 (vI pl))) :: (zn 1, zc G 1 (zI 9 (vI nu))) :: (zn 2, zc G 1 (zI 5 (vI ax))) :: (zn 3, zc G 1 (zI 5 (vI le))) :: (zn 4, zc G 2 (zI 5 (vI kn))) :: (w 5, zc G 5 (zO 8 u.2.1)) :: (pw 8 u.2.2 ++ rest)) := by
  refine z_begV (by decide) (Nat.le_of_ble_eq_true rfl) (fun p e s m args below meth c ls Q hC hnm hl hw hend => ?_)
  have hx := hC.hx
  have hb := hC.hb
  have hl : lv_has ls 2 [(0, .ref co)] := hl
  have hw : zS G ((co, zo 0 (cF w (nI mn) (nI um) sm lt)) :: (w 2, zo 1 (stF zn co (nI ps) (nI dy) (gg))) :: (zn 0, zc G 1 (zI 9 (vI pl))) :: (zn 1, zc G 1 (zI 9 (vI nu))) :: (zn 2, zc G 1 (zI 5 (vI ax))) :: (zn 3, zc G 1 (zI 5 (vI le))) :: (zn 4, zc G 2 (zI 5 (vI kn))) :: (w 5, zc G 5 (zO 8 bf)) :: (pw 8 bs ++ rest)) s s.heap [] := hw
  have hz := hG s hC.hZ.1
  have hpl := fun j => (hR.2.2.2 j).1
  have hnu := fun j => (hR.2.2.2 j).2.1
  have hax := fun j => (hR.2.2.2 j).2.2.1
  have hle := fun j => (hR.2.2.2 j).2.2.2.1
  have hkn := fun j => (hR.2.2.2 j).2.2.2.2
  have join_49 : ∀ (um1 : Nat) (U1 : Nat → Nat → Nat) (bf1 : Nat → Option Nat) (bs1 : Nat → va_W), (um1 = if um = 8 then 7 else um) → (U1 = if um = 8 then (fun j => U (j + 1)) else U) → (slB G co bf1 um1 U1 bs1) → ∀ (H : Heap) (locs : List Loc) (ls : Array Slot), zS G ((co, zo 0 (cF w (nI mn) (nI um1) sm lt)) :: (w 2, zo 1 (stF zn co (nI ps) (nI dy) (gg))) :: (zn 0, zc G 1 (zI 9 (vI pl))) :: (zn 1, zc G 1 (zI 9 (vI nu))) :: (zn 2, zc G 1 (zI 5 (vI ax))) :: (zn 3, zc G 1 (zI 5 (vI le))) :: (zn 4, zc G 2 (zI 5 (vI kn))) :: (w 5, zc G 5 (zO 8 bf1)) :: (pw 8 bs1 ++ rest)) s H locs → lv_has ls 2 [(0, .ref co)] → W p l e (zR 2 6 42) s m args below meth c H locs 0 0 Q (F0 m 49 ls []) := by
    intro um1 U1 bf1 bs1 hu1 hU1 hb1 H locs ls hw hl
    have hj9 : um1 < 8 := by rw [hu1]; split <;> omega
    refine lv_aload_n hx hb dX0_note_49 rfl (lv_at hl 0 rfl) ?_
    refine z_get (v := .ref (w 5)) hC zf_X0_61_0 hw 0 rfl rfl dX0_note_50 ?_
    refine lv_aload_n hx hb dX0_note_53 rfl (lv_at hl 0 rfl) ?_
    refine z_get (v := .int (nI um1)) hC zf_X0_40_0 hw 0 rfl rfl dX0_note_54 ?_
    refine z_aald (x := va_rf (bf1 um1)) (t := 5) hC hw 7 rfl (fun _ => rfl) (by omega) (by decide) rfl dX0_note_57 ?_
    rcases hbo : bf1 um1 with _ | sa
    · skip
      show W p l e (zR 2 6 42) s m args below meth c H locs 0 0 Q (F0 m 58 ls [.null])
      have hl : lv_has ls 2 [(0, .ref co)] := hl
      have hw : zS G ((co, zo 0 (cF w (nI mn) (nI um1) sm lt)) :: (w 2, zo 1 (stF zn co (nI ps) (nI dy) (gg))) :: (zn 0, zc G 1 (zI 9 (vI pl))) :: (zn 1, zc G 1 (zI 9 (vI nu))) :: (zn 2, zc G 1 (zI 5 (vI ax))) :: (zn 3, zc G 1 (zI 5 (vI le))) :: (zn 4, zc G 2 (zI 5 (vI kn))) :: (w 5, zc G 5 (zO 8 bf1)) :: (pw 8 bs1 ++ rest)) s H locs := hw
      have join_78 : ∀ (sa : Nat) (zb : Nat → Nat) (psb : Nat) (dyb : Nat) (hgb : Nat) (b0 : Nat → Nat) (b1 : Nat → Nat) (b2 : Nat → Nat) (b3 : Nat → Nat) (b4 : Nat → Nat) (bf2 : Nat → Option Nat), (sBd b0 b1 b2 b3 b4) → (∀ j, j ≠ um1 → bf2 j = bf1 j) → (bf2 um1 = some sa) → ∀ (H : Heap) (locs : List Loc) (ls : Array Slot), zS G ((sa, zo 1 (stF zb co (nI psb) (nI dyb) (nI hgb))) :: (zb 0, zc G 1 (zI 9 (vI b0))) :: (zb 1, zc G 1 (zI 9 (vI b1))) :: (zb 2, zc G 1 (zI 5 (vI b2))) :: (zb 3, zc G 1 (zI 5 (vI b3))) :: (zb 4, zc G 2 (zI 5 (vI b4))) :: (co, zo 0 (cF w (nI mn) (nI um1) sm lt)) :: (w 2, zo 1 (stF zn co (nI ps) (nI dy) (gg))) :: (zn 0, zc G 1 (zI 9 (vI pl))) :: (zn 1, zc G 1 (zI 9 (vI nu))) :: (zn 2, zc G 1 (zI 5 (vI ax))) :: (zn 3, zc G 1 (zI 5 (vI le))) :: (zn 4, zc G 2 (zI 5 (vI kn))) :: (w 5, zc G 5 (zO 8 bf2)) :: (pwX 8 bs1 um1 ++ rest)) s H locs → lv_has ls 2 [(0, .ref co)] → W p l e (zR 2 6 42) s m args below meth c H locs 6 42 Q (F0 m 78 ls []) := by
        intro sa zb psb dyb hgb b0 b1 b2 b3 b4 bf2 hbd hb2 hb3 H locs ls hw hl
        refine lv_aload_n hx hb dX0_note_78 rfl (lv_at hl 0 rfl) ?_
        refine z_get (v := .ref (w 5)) hC zf_X0_61_0 hw 6 rfl rfl dX0_note_79 ?_
        refine lv_aload_n hx hb dX0_note_82 rfl (lv_at hl 0 rfl) ?_
        refine lv_dup hx hb dX0_note_83 rfl ?_
        refine z_get (v := .int (nI um1)) hC zf_X0_40_0 hw 6 rfl rfl dX0_note_84 ?_
        refine lv_dup_x1 hx hb dX0_note_87 rfl rfl ?_
        refine lv_iconst (v := (nI 1)) hx hb dX0_note_88 zk_1 ?_
        refine zn_iadd hx hb dX0_note_89 ?_
        refine z_puti hC zf_X0_40_0 hw 6 rfl (Nat.le_of_ble_eq_true rfl) dX0_note_90 (fun H locs hw => ?_)
        have hw : zS G ((sa, zo 1 (stF zb co (nI psb) (nI dyb) (nI hgb))) :: (zb 0, zc G 1 (zI 9 (vI b0))) :: (zb 1, zc G 1 (zI 9 (vI b1))) :: (zb 2, zc G 1 (zI 5 (vI b2))) :: (zb 3, zc G 1 (zI 5 (vI b3))) :: (zb 4, zc G 2 (zI 5 (vI b4))) :: (co, zo 0 (cF w (nI mn) (nI (um1 + 1)) sm lt)) :: (w 2, zo 1 (stF zn co (nI ps) (nI dy) (gg))) :: (zn 0, zc G 1 (zI 9 (vI pl))) :: (zn 1, zc G 1 (zI 9 (vI nu))) :: (zn 2, zc G 1 (zI 5 (vI ax))) :: (zn 3, zc G 1 (zI 5 (vI le))) :: (zn 4, zc G 2 (zI 5 (vI kn))) :: (w 5, zc G 5 (zO 8 bf2)) :: (pwX 8 bs1 um1 ++ rest)) s H locs := hw
        refine z_aald (x := .ref sa) (t := 5) hC hw 13 rfl (fun _ => rfl) (by omega) (by decide) (congrArg va_rf hb3) dX0_note_93 ?_
        refine lv_aload_n hx hb dX0_note_94 rfl (lv_at hl 0 rfl) ?_
        refine z_get (v := .ref (w 2)) hC zf_X0_27_0 hw 6 rfl rfl dX0_note_95 ?_
        refine z_cq (z_runV (As := [.ref (w 2)]) (rest := []) hC zv_X0_34 (m_X1_set G l sa (w 2) co zb zn psb dyb ps dy (nI hgb) gg b0 b1 b2 b3 b4 pl nu ax le kn hpl hnu hax hle hkn (zrem [0, 1, 2, 3, 4, 5, 7, 8, 9, 10, 11, 12] _)) hw (hw.perm (z_cut (is := [0, 1, 2, 3, 4, 5, 7, 8, 9, 10, 11, 12]) (cells := [(sa, zo 1 (stF zb co (nI psb) (nI dyb) ((nI hgb)))), (zb 0, zc G 1 (zI 9 (vI b0))), (zb 1, zc G 1 (zI 9 (vI b1))), (zb 2, zc G 1 (zI 5 (vI b2))), (zb 3, zc G 1 (zI 5 (vI b3))), (zb 4, zc G 2 (zI 5 (vI b4))), (w 2, zo 1 (stF zn co (nI ps) (nI dy) (gg))), (zn 0, zc G 1 (zI 9 (vI pl))), (zn 1, zc G 1 (zI 9 (vI nu))), (zn 2, zc G 1 (zI 5 (vI ax))), (zn 3, zc G 1 (zI 5 (vI le))), (zn 4, zc G 2 (zI 5 (vI kn)))]) rfl rfl)) 0 rfl rfl rfl rfl rfl (Nat.le_of_ble_eq_true rfl) hl.1 ⟨Nat.le_of_ble_eq_true rfl, Nat.le_of_ble_eq_true rfl⟩ ⟨(Nat.le_of_ble_eq_true rfl), (Nat.le_of_ble_eq_true rfl)⟩ dX0_note_98) hw (fun _ => z_pput (is := [0, 1, 2, 3, 4, 5, 7, 8, 9, 10, 11, 12]) (cells := [(sa, zo 1 (stF zb co (nI psb) (nI dyb) ((nI hgb)))), (zb 0, zc G 1 (zI 9 (vI b0))), (zb 1, zc G 1 (zI 9 (vI b1))), (zb 2, zc G 1 (zI 5 (vI b2))), (zb 3, zc G 1 (zI 5 (vI b3))), (zb 4, zc G 2 (zI 5 (vI b4))), (w 2, zo 1 (stF zn co (nI ps) (nI dy) (gg))), (zn 0, zc G 1 (zI 9 (vI pl))), (zn 1, zc G 1 (zI 9 (vI nu))), (zn 2, zc G 1 (zI 5 (vI ax))), (zn 3, zc G 1 (zI 5 (vI le))), (zn 4, zc G 2 (zI 5 (vI kn)))]) (cells' := [(sa, zo 1 (stF zb co (nI ps) (nI dy) ((nI hgb)))), (zb 0, zc G 1 (zI 9 (vI (cpN pl b0 9)))), (zb 1, zc G 1 (zI 9 (vI (cpN nu b1 9)))), (zb 2, zc G 1 (zI 5 (vI (cpN ax b2 5)))), (zb 3, zc G 1 (zI 5 (vI (cpN le b3 5)))), (zb 4, zc G 2 (zI 5 (vI (cpN kn b4 5)))), (w 2, zo 1 (stF zn co (nI ps) (nI dy) (gg))), (zn 0, zc G 1 (zI 9 (vI pl))), (zn 1, zc G 1 (zI 9 (vI nu))), (zn 2, zc G 1 (zI 5 (vI ax))), (zn 3, zc G 1 (zI 5 (vI le))), (zn 4, zc G 2 (zI 5 (vI kn)))]) rfl rfl rfl) (fun r u H locs hp hw => ?_)
        have hw : zS G ((sa, zo 1 (stF zb co (nI ps) (nI dy) ((nI hgb)))) :: (zb 0, zc G 1 (zI 9 (vI (cpN pl b0 9)))) :: (zb 1, zc G 1 (zI 9 (vI (cpN nu b1 9)))) :: (zb 2, zc G 1 (zI 5 (vI (cpN ax b2 5)))) :: (zb 3, zc G 1 (zI 5 (vI (cpN le b3 5)))) :: (zb 4, zc G 2 (zI 5 (vI (cpN kn b4 5)))) :: (co, zo 0 (cF w (nI mn) (nI (um1 + 1)) sm lt)) :: (w 2, zo 1 (stF zn co (nI ps) (nI dy) (gg))) :: (zn 0, zc G 1 (zI 9 (vI pl))) :: (zn 1, zc G 1 (zI 9 (vI nu))) :: (zn 2, zc G 1 (zI 5 (vI ax))) :: (zn 3, zc G 1 (zI 5 (vI le))) :: (zn 4, zc G 2 (zI 5 (vI kn))) :: (w 5, zc G 5 (zO 8 bf2)) :: (pwX 8 bs1 um1 ++ rest)) s H locs := hw
        obtain rfl : r = some sa := hp
        refine lv_pop hx hb dX0_note_101 rfl ?_
        have hxx : slS G co (some sa) (some v) (stW G co sa zb ps dy hgb (cpN pl b0 9) (cpN nu b1 9) (cpN ax b2 5) (cpN le b3 5) (cpN kn b4 5)) := ⟨_, _, _, _, _, _, _, _, _, rfl, (sRel_cp hH hR hbd).2.2.2, fun w hw => by cases hw; exact ⟨hps, hdy, sRel_cp hH hR hbd⟩⟩
        obtain ⟨hne, hnb⟩ := note_end h8 hu1 hU1 hb1 hb2 hb3 hxx
        have hw : zS G ((co, zo 0 (cF w (nI mn) (nI (um1 + 1)) sm lt)) :: (w 2, zo 1 (stF zn co (nI ps) (nI dy) (gg))) :: (zn 0, zc G 1 (zI 9 (vI pl))) :: (zn 1, zc G 1 (zI 9 (vI nu))) :: (zn 2, zc G 1 (zI 5 (vI ax))) :: (zn 3, zc G 1 (zI 5 (vI le))) :: (zn 4, zc G 2 (zI 5 (vI kn))) :: (w 5, zc G 5 (zO 8 bf2)) :: (pw 8 (va_up bs1 um1 (stW G co sa zb ps dy hgb (cpN pl b0 9) (cpN nu b1 9) (cpN ax b2 5) (cpN le b3 5) (cpN kn b4 5))) ++ rest)) s H locs := hw.perm (pl_put (x := stW G co sa zb ps dy hgb (cpN pl b0 9) (cpN nu b1 9) (cpN ax b2 5) (cpN le b3 5) (cpN kn b4 5)) (E := [(co, zo 0 (cF w (nI mn) (nI (um1 + 1)) sm lt)), (w 2, zo 1 (stF zn co (nI ps) (nI dy) (gg))), (zn 0, zc G 1 (zI 9 (vI pl))), (zn 1, zc G 1 (zI 9 (vI nu))), (zn 2, zc G 1 (zI 5 (vI ax))), (zn 3, zc G 1 (zI 5 (vI le))), (zn 4, zc G 2 (zI 5 (vI kn))), (w 5, zc G 5 (zO 8 bf2))]) (sl := bs1) hj9)
        exact hend _ _ _ _ _ _ (um1 + 1, bf2, va_up bs1 um1 (stW G co sa zb ps dy hgb (cpN pl b0 9) (cpN nu b1 9) (cpN ax b2 5) (cpN le b3 5) (cpN kn b4 5))) hw ⟨hne, by rw [hne]; exact hnb⟩ (Nat.le_of_ble_eq_true rfl) (Nat.le_of_ble_eq_true rfl) dX0_note_102
      refine lv_ifnonnullN hx hb dX0_note_58 ?_
      have hx0 : bs1 um1 = [] := by have h := hb1 um1 hj9; rw [hbo] at h; exact h.1
      have hw := hw.perm (pl_get (E := [(co, zo 0 (cF w (nI mn) (nI um1) sm lt)), (w 2, zo 1 (stF zn co (nI ps) (nI dy) (gg))), (zn 0, zc G 1 (zI 9 (vI pl))), (zn 1, zc G 1 (zI 9 (vI nu))), (zn 2, zc G 1 (zI 5 (vI ax))), (zn 3, zc G 1 (zI 5 (vI le))), (zn 4, zc G 2 (zI 5 (vI kn))), (w 5, zc G 5 (zO 8 bf1))]) (sl := bs1) hj9)
      rw [hx0] at hw
      have hw : zS G ((co, zo 0 (cF w (nI mn) (nI um1) sm lt)) :: (w 2, zo 1 (stF zn co (nI ps) (nI dy) (gg))) :: (zn 0, zc G 1 (zI 9 (vI pl))) :: (zn 1, zc G 1 (zI 9 (vI nu))) :: (zn 2, zc G 1 (zI 5 (vI ax))) :: (zn 3, zc G 1 (zI 5 (vI le))) :: (zn 4, zc G 2 (zI 5 (vI kn))) :: (w 5, zc G 5 (zO 8 bf1)) :: (pwX 8 bs1 um1 ++ rest)) s H locs := hw
      refine lv_aload_n hx hb dX0_note_61 rfl (lv_at hl 0 rfl) ?_
      refine z_get (v := .ref (w 5)) hC zf_X0_61_0 hw 0 rfl rfl dX0_note_62 ?_
      refine lv_aload_n hx hb dX0_note_65 rfl (lv_at hl 0 rfl) ?_
      refine z_get (v := .int (nI um1)) hC zf_X0_40_0 hw 0 rfl rfl dX0_note_66 ?_
      refine z_new (ci := 1) (fs := [.null, .null, .int 0, .null, .null, .null, .int 0, .int 0, .null]) hC rfl in_X1 tyX1_ok q106 q107 q50 hw (fun j hj => by revert hj; revert j; decide) (Nat.le_of_ble_eq_true rfl) (Nat.le_of_ble_eq_true rfl) dX0_note_69 (fun q_69 H hw => ?_)
      have hw : zS G ((q_69, zo 1 [.null, .null, .int 0, .null, .null, .null, .int 0, .int 0, .null]) :: (co, zo 0 (cF w (nI mn) (nI um1) sm lt)) :: (w 2, zo 1 (stF zn co (nI ps) (nI dy) (gg))) :: (zn 0, zc G 1 (zI 9 (vI pl))) :: (zn 1, zc G 1 (zI 9 (vI nu))) :: (zn 2, zc G 1 (zI 5 (vI ax))) :: (zn 3, zc G 1 (zI 5 (vI le))) :: (zn 4, zc G 2 (zI 5 (vI kn))) :: (w 5, zc G 5 (zO 8 bf1)) :: (pwX 8 bs1 um1 ++ rest)) s H locs := hw
      refine lv_dup hx hb dX0_note_72 rfl ?_
      refine lv_aload_n hx hb dX0_note_73 rfl (lv_at hl 0 rfl) ?_
      refine z_cv (z_runIN (n := 1) (As := [.ref co]) (rest := [.ref q_69, .int (nI um1), .ref (w 5)]) hC ⟨zn_X1_init, q109, rfl⟩ (hz.1 _ (cw_t q108 rfl)) (m_X1_init G l kA (by first | assumption | (omega)) q_69 co (zrem [0] _)) (hw.perm (z_cut (is := [0]) (cells := [(q_69, zo 1 [.null, .null, .int 0, .null, .null, .null, .int 0, .int 0, .null])]) rfl rfl)) rfl rfl (Nat.le_of_ble_eq_true rfl) hl.1 ⟨Nat.le_of_ble_eq_true rfl, Nat.le_of_ble_eq_true rfl⟩ ⟨(Nat.le_of_ble_eq_true rfl), (Nat.le_of_ble_eq_true rfl)⟩ dX0_note_74) hw (fun u => z_new1 (is := [0]) (cs := [(q_69, zo 1 [.null, .null, .int 0, .null, .null, .null, .int 0, .int 0, .null])]) (cs' := [(q_69, zo 1 (stF u co (nI 0) (nI 0) (nI 0)))]) (nw := [(u 0, zc G 1 (zI 9 (vI (fun _ => 0)))), (u 1, zc G 1 (zI 9 (vI (fun _ => 0)))), (u 2, zc G 1 (zI 5 (vI (fun _ => 0)))), (u 3, zc G 1 (zI 5 (vI (fun _ => 0)))), (u 4, zc G 2 (zI 5 (vI (fun _ => 0))))]) rfl rfl rfl) (fun u H locs hp hw => ?_)
      obtain ⟨zb, rfl⟩ : ∃ z, z = u := ⟨_, rfl⟩
      have hw : zS G ((zb 0, zc G 1 (zI 9 (vI (fun _ => 0)))) :: (zb 1, zc G 1 (zI 9 (vI (fun _ => 0)))) :: (zb 2, zc G 1 (zI 5 (vI (fun _ => 0)))) :: (zb 3, zc G 1 (zI 5 (vI (fun _ => 0)))) :: (zb 4, zc G 2 (zI 5 (vI (fun _ => 0)))) :: (q_69, zo 1 (stF zb co (nI 0) (nI 0) (nI 0))) :: (co, zo 0 (cF w (nI mn) (nI um1) sm lt)) :: (w 2, zo 1 (stF zn co (nI ps) (nI dy) (gg))) :: (zn 0, zc G 1 (zI 9 (vI pl))) :: (zn 1, zc G 1 (zI 9 (vI nu))) :: (zn 2, zc G 1 (zI 5 (vI ax))) :: (zn 3, zc G 1 (zI 5 (vI le))) :: (zn 4, zc G 2 (zI 5 (vI kn))) :: (w 5, zc G 5 (zO 8 bf1)) :: (pwX 8 bs1 um1 ++ rest)) s H locs := hw
      have hw : zS G ((q_69, zo 1 (stF zb co (nI 0) (nI 0) (nI 0))) :: (zb 0, zc G 1 (zI 9 (vI (fun _ => 0)))) :: (zb 1, zc G 1 (zI 9 (vI (fun _ => 0)))) :: (zb 2, zc G 1 (zI 5 (vI (fun _ => 0)))) :: (zb 3, zc G 1 (zI 5 (vI (fun _ => 0)))) :: (zb 4, zc G 2 (zI 5 (vI (fun _ => 0)))) :: (co, zo 0 (cF w (nI mn) (nI um1) sm lt)) :: (w 2, zo 1 (stF zn co (nI ps) (nI dy) (gg))) :: (zn 0, zc G 1 (zI 9 (vI pl))) :: (zn 1, zc G 1 (zI 9 (vI nu))) :: (zn 2, zc G 1 (zI 5 (vI ax))) :: (zn 3, zc G 1 (zI 5 (vI le))) :: (zn 4, zc G 2 (zI 5 (vI kn))) :: (w 5, zc G 5 (zO 8 bf1)) :: (pwX 8 bs1 um1 ++ rest)) s H locs := hw.perm (((z_cut (is := [5, 0, 1, 2, 3, 4, 6, 7, 8, 9, 10, 11, 12, 13]) (ws := [(zb 0, zc G 1 (zI 9 (vI (fun _ => 0)))), (zb 1, zc G 1 (zI 9 (vI (fun _ => 0)))), (zb 2, zc G 1 (zI 5 (vI (fun _ => 0)))), (zb 3, zc G 1 (zI 5 (vI (fun _ => 0)))), (zb 4, zc G 2 (zI 5 (vI (fun _ => 0)))), (q_69, zo 1 (stF zb co (nI 0) (nI 0) (nI 0))), (co, zo 0 (cF w (nI mn) (nI um1) sm lt)), (w 2, zo 1 (stF zn co (nI ps) (nI dy) (gg))), (zn 0, zc G 1 (zI 9 (vI pl))), (zn 1, zc G 1 (zI 9 (vI nu))), (zn 2, zc G 1 (zI 5 (vI ax))), (zn 3, zc G 1 (zI 5 (vI le))), (zn 4, zc G 2 (zI 5 (vI kn))), (w 5, zc G 5 (zO 8 bf1))]) (cells := [(q_69, zo 1 (stF zb co (nI 0) (nI 0) (nI 0))), (zb 0, zc G 1 (zI 9 (vI (fun _ => 0)))), (zb 1, zc G 1 (zI 9 (vI (fun _ => 0)))), (zb 2, zc G 1 (zI 5 (vI (fun _ => 0)))), (zb 3, zc G 1 (zI 5 (vI (fun _ => 0)))), (zb 4, zc G 2 (zI 5 (vI (fun _ => 0)))), (co, zo 0 (cF w (nI mn) (nI um1) sm lt)), (w 2, zo 1 (stF zn co (nI ps) (nI dy) (gg))), (zn 0, zc G 1 (zI 9 (vI pl))), (zn 1, zc G 1 (zI 9 (vI nu))), (zn 2, zc G 1 (zI 5 (vI ax))), (zn 3, zc G 1 (zI 5 (vI le))), (zn 4, zc G 2 (zI 5 (vI kn))), (w 5, zc G 5 (zO 8 bf1))]) rfl rfl).append_right (pwX 8 bs1 um1 ++ rest)).trans (by rw [List.append_assoc]; exact List.Perm.refl _))
      refine z_aast (t := 5) (f' := va_up bf1 um1 (some q_69)) hC hw 13 rfl (fun _ => rfl) (by omega) (by decide) (z_anyE hC hw 0 rfl rfl) rfl dX0_note_77 (fun H locs hw => ?_)
      have hw : zS G ((q_69, zo 1 (stF zb co (nI 0) (nI 0) (nI 0))) :: (zb 0, zc G 1 (zI 9 (vI (fun _ => 0)))) :: (zb 1, zc G 1 (zI 9 (vI (fun _ => 0)))) :: (zb 2, zc G 1 (zI 5 (vI (fun _ => 0)))) :: (zb 3, zc G 1 (zI 5 (vI (fun _ => 0)))) :: (zb 4, zc G 2 (zI 5 (vI (fun _ => 0)))) :: (co, zo 0 (cF w (nI mn) (nI um1) sm lt)) :: (w 2, zo 1 (stF zn co (nI ps) (nI dy) (gg))) :: (zn 0, zc G 1 (zI 9 (vI pl))) :: (zn 1, zc G 1 (zI 9 (vI nu))) :: (zn 2, zc G 1 (zI 5 (vI ax))) :: (zn 3, zc G 1 (zI 5 (vI le))) :: (zn 4, zc G 2 (zI 5 (vI kn))) :: (w 5, zc G 5 (zO 8 (va_up bf1 um1 (some q_69)))) :: (pwX 8 bs1 um1 ++ rest)) s H locs := hw
      exact join_78 q_69 zb 0 0 0 (fun _ => 0) (fun _ => 0) (fun _ => 0) (fun _ => 0) (fun _ => 0) (va_up bf1 um1 (some q_69)) (by first | exact hbd | exact sBd_0) (by first | exact fun _ _ => rfl | exact fun j hj => va_up_ne _ _ hj) (by first | exact hbo | exact va_up_self _ _ _) H locs ls hw (lv_sub hl [0] rfl)
    · skip
      show W p l e (zR 2 6 42) s m args below meth c H locs 0 0 Q (F0 m 58 ls [.ref sa])
      have hsl := hb1 um1 hj9
      rw [hbo] at hsl
      obtain ⟨zb, psb, dyb, hgb, b0, b1, b2, b3, b4, hxb, hbd, hvb⟩ := hsl
      have hw := hw.perm (pl_get (E := [(co, zo 0 (cF w (nI mn) (nI um1) sm lt)), (w 2, zo 1 (stF zn co (nI ps) (nI dy) (gg))), (zn 0, zc G 1 (zI 9 (vI pl))), (zn 1, zc G 1 (zI 9 (vI nu))), (zn 2, zc G 1 (zI 5 (vI ax))), (zn 3, zc G 1 (zI 5 (vI le))), (zn 4, zc G 2 (zI 5 (vI kn))), (w 5, zc G 5 (zO 8 bf1))]) (sl := bs1) hj9)
      rw [hxb] at hw
      have hw : zS G ((sa, zo 1 (stF zb co (nI psb) (nI dyb) (nI hgb))) :: (zb 0, zc G 1 (zI 9 (vI b0))) :: (zb 1, zc G 1 (zI 9 (vI b1))) :: (zb 2, zc G 1 (zI 5 (vI b2))) :: (zb 3, zc G 1 (zI 5 (vI b3))) :: (zb 4, zc G 2 (zI 5 (vI b4))) :: (co, zo 0 (cF w (nI mn) (nI um1) sm lt)) :: (w 2, zo 1 (stF zn co (nI ps) (nI dy) (gg))) :: (zn 0, zc G 1 (zI 9 (vI pl))) :: (zn 1, zc G 1 (zI 9 (vI nu))) :: (zn 2, zc G 1 (zI 5 (vI ax))) :: (zn 3, zc G 1 (zI 5 (vI le))) :: (zn 4, zc G 2 (zI 5 (vI kn))) :: (w 5, zc G 5 (zO 8 bf1)) :: (pwX 8 bs1 um1 ++ rest)) s H locs := hw
      have hl : lv_has ls 2 [(0, .ref co)] := hl
      have hw : zS G ((sa, zo 1 (stF zb co (nI psb) (nI dyb) (nI hgb))) :: (zb 0, zc G 1 (zI 9 (vI b0))) :: (zb 1, zc G 1 (zI 9 (vI b1))) :: (zb 2, zc G 1 (zI 5 (vI b2))) :: (zb 3, zc G 1 (zI 5 (vI b3))) :: (zb 4, zc G 2 (zI 5 (vI b4))) :: (co, zo 0 (cF w (nI mn) (nI um1) sm lt)) :: (w 2, zo 1 (stF zn co (nI ps) (nI dy) (gg))) :: (zn 0, zc G 1 (zI 9 (vI pl))) :: (zn 1, zc G 1 (zI 9 (vI nu))) :: (zn 2, zc G 1 (zI 5 (vI ax))) :: (zn 3, zc G 1 (zI 5 (vI le))) :: (zn 4, zc G 2 (zI 5 (vI kn))) :: (w 5, zc G 5 (zO 8 bf1)) :: (pwX 8 bs1 um1 ++ rest)) s H locs := hw
      have join_78 : ∀ (sa : Nat) (zb : Nat → Nat) (psb : Nat) (dyb : Nat) (hgb : Nat) (b0 : Nat → Nat) (b1 : Nat → Nat) (b2 : Nat → Nat) (b3 : Nat → Nat) (b4 : Nat → Nat) (bf2 : Nat → Option Nat), (sBd b0 b1 b2 b3 b4) → (∀ j, j ≠ um1 → bf2 j = bf1 j) → (bf2 um1 = some sa) → ∀ (H : Heap) (locs : List Loc) (ls : Array Slot), zS G ((sa, zo 1 (stF zb co (nI psb) (nI dyb) (nI hgb))) :: (zb 0, zc G 1 (zI 9 (vI b0))) :: (zb 1, zc G 1 (zI 9 (vI b1))) :: (zb 2, zc G 1 (zI 5 (vI b2))) :: (zb 3, zc G 1 (zI 5 (vI b3))) :: (zb 4, zc G 2 (zI 5 (vI b4))) :: (co, zo 0 (cF w (nI mn) (nI um1) sm lt)) :: (w 2, zo 1 (stF zn co (nI ps) (nI dy) (gg))) :: (zn 0, zc G 1 (zI 9 (vI pl))) :: (zn 1, zc G 1 (zI 9 (vI nu))) :: (zn 2, zc G 1 (zI 5 (vI ax))) :: (zn 3, zc G 1 (zI 5 (vI le))) :: (zn 4, zc G 2 (zI 5 (vI kn))) :: (w 5, zc G 5 (zO 8 bf2)) :: (pwX 8 bs1 um1 ++ rest)) s H locs → lv_has ls 2 [(0, .ref co)] → W p l e (zR 2 6 42) s m args below meth c H locs 6 42 Q (F0 m 78 ls []) := by
        intro sa zb psb dyb hgb b0 b1 b2 b3 b4 bf2 hbd hb2 hb3 H locs ls hw hl
        refine lv_aload_n hx hb dX0_note_78 rfl (lv_at hl 0 rfl) ?_
        refine z_get (v := .ref (w 5)) hC zf_X0_61_0 hw 6 rfl rfl dX0_note_79 ?_
        refine lv_aload_n hx hb dX0_note_82 rfl (lv_at hl 0 rfl) ?_
        refine lv_dup hx hb dX0_note_83 rfl ?_
        refine z_get (v := .int (nI um1)) hC zf_X0_40_0 hw 6 rfl rfl dX0_note_84 ?_
        refine lv_dup_x1 hx hb dX0_note_87 rfl rfl ?_
        refine lv_iconst (v := (nI 1)) hx hb dX0_note_88 zk_1 ?_
        refine zn_iadd hx hb dX0_note_89 ?_
        refine z_puti hC zf_X0_40_0 hw 6 rfl (Nat.le_of_ble_eq_true rfl) dX0_note_90 (fun H locs hw => ?_)
        have hw : zS G ((sa, zo 1 (stF zb co (nI psb) (nI dyb) (nI hgb))) :: (zb 0, zc G 1 (zI 9 (vI b0))) :: (zb 1, zc G 1 (zI 9 (vI b1))) :: (zb 2, zc G 1 (zI 5 (vI b2))) :: (zb 3, zc G 1 (zI 5 (vI b3))) :: (zb 4, zc G 2 (zI 5 (vI b4))) :: (co, zo 0 (cF w (nI mn) (nI (um1 + 1)) sm lt)) :: (w 2, zo 1 (stF zn co (nI ps) (nI dy) (gg))) :: (zn 0, zc G 1 (zI 9 (vI pl))) :: (zn 1, zc G 1 (zI 9 (vI nu))) :: (zn 2, zc G 1 (zI 5 (vI ax))) :: (zn 3, zc G 1 (zI 5 (vI le))) :: (zn 4, zc G 2 (zI 5 (vI kn))) :: (w 5, zc G 5 (zO 8 bf2)) :: (pwX 8 bs1 um1 ++ rest)) s H locs := hw
        refine z_aald (x := .ref sa) (t := 5) hC hw 13 rfl (fun _ => rfl) (by omega) (by decide) (congrArg va_rf hb3) dX0_note_93 ?_
        refine lv_aload_n hx hb dX0_note_94 rfl (lv_at hl 0 rfl) ?_
        refine z_get (v := .ref (w 2)) hC zf_X0_27_0 hw 6 rfl rfl dX0_note_95 ?_
        refine z_cq (z_runV (As := [.ref (w 2)]) (rest := []) hC zv_X0_34 (m_X1_set G l sa (w 2) co zb zn psb dyb ps dy (nI hgb) gg b0 b1 b2 b3 b4 pl nu ax le kn hpl hnu hax hle hkn (zrem [0, 1, 2, 3, 4, 5, 7, 8, 9, 10, 11, 12] _)) hw (hw.perm (z_cut (is := [0, 1, 2, 3, 4, 5, 7, 8, 9, 10, 11, 12]) (cells := [(sa, zo 1 (stF zb co (nI psb) (nI dyb) ((nI hgb)))), (zb 0, zc G 1 (zI 9 (vI b0))), (zb 1, zc G 1 (zI 9 (vI b1))), (zb 2, zc G 1 (zI 5 (vI b2))), (zb 3, zc G 1 (zI 5 (vI b3))), (zb 4, zc G 2 (zI 5 (vI b4))), (w 2, zo 1 (stF zn co (nI ps) (nI dy) (gg))), (zn 0, zc G 1 (zI 9 (vI pl))), (zn 1, zc G 1 (zI 9 (vI nu))), (zn 2, zc G 1 (zI 5 (vI ax))), (zn 3, zc G 1 (zI 5 (vI le))), (zn 4, zc G 2 (zI 5 (vI kn)))]) rfl rfl)) 0 rfl rfl rfl rfl rfl (Nat.le_of_ble_eq_true rfl) hl.1 ⟨Nat.le_of_ble_eq_true rfl, Nat.le_of_ble_eq_true rfl⟩ ⟨(Nat.le_of_ble_eq_true rfl), (Nat.le_of_ble_eq_true rfl)⟩ dX0_note_98) hw (fun _ => z_pput (is := [0, 1, 2, 3, 4, 5, 7, 8, 9, 10, 11, 12]) (cells := [(sa, zo 1 (stF zb co (nI psb) (nI dyb) ((nI hgb)))), (zb 0, zc G 1 (zI 9 (vI b0))), (zb 1, zc G 1 (zI 9 (vI b1))), (zb 2, zc G 1 (zI 5 (vI b2))), (zb 3, zc G 1 (zI 5 (vI b3))), (zb 4, zc G 2 (zI 5 (vI b4))), (w 2, zo 1 (stF zn co (nI ps) (nI dy) (gg))), (zn 0, zc G 1 (zI 9 (vI pl))), (zn 1, zc G 1 (zI 9 (vI nu))), (zn 2, zc G 1 (zI 5 (vI ax))), (zn 3, zc G 1 (zI 5 (vI le))), (zn 4, zc G 2 (zI 5 (vI kn)))]) (cells' := [(sa, zo 1 (stF zb co (nI ps) (nI dy) ((nI hgb)))), (zb 0, zc G 1 (zI 9 (vI (cpN pl b0 9)))), (zb 1, zc G 1 (zI 9 (vI (cpN nu b1 9)))), (zb 2, zc G 1 (zI 5 (vI (cpN ax b2 5)))), (zb 3, zc G 1 (zI 5 (vI (cpN le b3 5)))), (zb 4, zc G 2 (zI 5 (vI (cpN kn b4 5)))), (w 2, zo 1 (stF zn co (nI ps) (nI dy) (gg))), (zn 0, zc G 1 (zI 9 (vI pl))), (zn 1, zc G 1 (zI 9 (vI nu))), (zn 2, zc G 1 (zI 5 (vI ax))), (zn 3, zc G 1 (zI 5 (vI le))), (zn 4, zc G 2 (zI 5 (vI kn)))]) rfl rfl rfl) (fun r u H locs hp hw => ?_)
        have hw : zS G ((sa, zo 1 (stF zb co (nI ps) (nI dy) ((nI hgb)))) :: (zb 0, zc G 1 (zI 9 (vI (cpN pl b0 9)))) :: (zb 1, zc G 1 (zI 9 (vI (cpN nu b1 9)))) :: (zb 2, zc G 1 (zI 5 (vI (cpN ax b2 5)))) :: (zb 3, zc G 1 (zI 5 (vI (cpN le b3 5)))) :: (zb 4, zc G 2 (zI 5 (vI (cpN kn b4 5)))) :: (co, zo 0 (cF w (nI mn) (nI (um1 + 1)) sm lt)) :: (w 2, zo 1 (stF zn co (nI ps) (nI dy) (gg))) :: (zn 0, zc G 1 (zI 9 (vI pl))) :: (zn 1, zc G 1 (zI 9 (vI nu))) :: (zn 2, zc G 1 (zI 5 (vI ax))) :: (zn 3, zc G 1 (zI 5 (vI le))) :: (zn 4, zc G 2 (zI 5 (vI kn))) :: (w 5, zc G 5 (zO 8 bf2)) :: (pwX 8 bs1 um1 ++ rest)) s H locs := hw
        obtain rfl : r = some sa := hp
        refine lv_pop hx hb dX0_note_101 rfl ?_
        have hxx : slS G co (some sa) (some v) (stW G co sa zb ps dy hgb (cpN pl b0 9) (cpN nu b1 9) (cpN ax b2 5) (cpN le b3 5) (cpN kn b4 5)) := ⟨_, _, _, _, _, _, _, _, _, rfl, (sRel_cp hH hR hbd).2.2.2, fun w hw => by cases hw; exact ⟨hps, hdy, sRel_cp hH hR hbd⟩⟩
        obtain ⟨hne, hnb⟩ := note_end h8 hu1 hU1 hb1 hb2 hb3 hxx
        have hw : zS G ((co, zo 0 (cF w (nI mn) (nI (um1 + 1)) sm lt)) :: (w 2, zo 1 (stF zn co (nI ps) (nI dy) (gg))) :: (zn 0, zc G 1 (zI 9 (vI pl))) :: (zn 1, zc G 1 (zI 9 (vI nu))) :: (zn 2, zc G 1 (zI 5 (vI ax))) :: (zn 3, zc G 1 (zI 5 (vI le))) :: (zn 4, zc G 2 (zI 5 (vI kn))) :: (w 5, zc G 5 (zO 8 bf2)) :: (pw 8 (va_up bs1 um1 (stW G co sa zb ps dy hgb (cpN pl b0 9) (cpN nu b1 9) (cpN ax b2 5) (cpN le b3 5) (cpN kn b4 5))) ++ rest)) s H locs := hw.perm (pl_put (x := stW G co sa zb ps dy hgb (cpN pl b0 9) (cpN nu b1 9) (cpN ax b2 5) (cpN le b3 5) (cpN kn b4 5)) (E := [(co, zo 0 (cF w (nI mn) (nI (um1 + 1)) sm lt)), (w 2, zo 1 (stF zn co (nI ps) (nI dy) (gg))), (zn 0, zc G 1 (zI 9 (vI pl))), (zn 1, zc G 1 (zI 9 (vI nu))), (zn 2, zc G 1 (zI 5 (vI ax))), (zn 3, zc G 1 (zI 5 (vI le))), (zn 4, zc G 2 (zI 5 (vI kn))), (w 5, zc G 5 (zO 8 bf2))]) (sl := bs1) hj9)
        exact hend _ _ _ _ _ _ (um1 + 1, bf2, va_up bs1 um1 (stW G co sa zb ps dy hgb (cpN pl b0 9) (cpN nu b1 9) (cpN ax b2 5) (cpN le b3 5) (cpN kn b4 5))) hw ⟨hne, by rw [hne]; exact hnb⟩ (Nat.le_of_ble_eq_true rfl) (Nat.le_of_ble_eq_true rfl) dX0_note_102
      refine lv_ifnonnull (tgt := 78) hx hb dX0_note_58 (by decide) ?_
      refine W.widen (k := 6) (n := 42) (by omega) (by omega) ?_
      exact join_78 sa zb psb dyb hgb b0 b1 b2 b3 b4 bf1 (by first | exact hbd | exact sBd_0) (by first | exact fun _ _ => rfl | exact fun j hj => va_up_ne _ _ hj) (by first | exact hbo | exact va_up_self _ _ _) H locs ls hw (lv_sub hl [0] rfl)
  refine lv_aload_n hx hb dX0_note_0 rfl (lv_at hl 0 rfl) ?_
  refine z_get (v := .int (nI um)) hC zf_X0_40_0 hw 0 rfl rfl dX0_note_1 ?_
  refine lv_bipush (v := (nI 8)) hx hb dX0_note_4 zb_8 ?_
  refine zi_ne (tgt := 49) hx hb (by omega) (by decide) dX0_note_6 (by decide) (fun c_6 => ?_) (fun c_6 => ?_)
  · skip
    exact join_49 um U bf bs (if_neg c_6).symm (if_neg c_6).symm hbs s.heap [] ls hw (lv_sub hl [0] rfl)
  · skip
    obtain rfl : um = 8 := by omega
    have hw : zS G ((co, zo 0 (cF w (nI mn) (nI 8) sm lt)) :: (w 2, zo 1 (stF zn co (nI ps) (nI dy) (gg))) :: (zn 0, zc G 1 (zI 9 (vI pl))) :: (zn 1, zc G 1 (zI 9 (vI nu))) :: (zn 2, zc G 1 (zI 5 (vI ax))) :: (zn 3, zc G 1 (zI 5 (vI le))) :: (zn 4, zc G 2 (zI 5 (vI kn))) :: (w 5, zc G 5 (zO 8 bf)) :: (pw 8 bs ++ rest)) s s.heap [] := hw
    obtain ⟨s0, hs0⟩ := slB_some h8 (show 0 < 8 by decide) hbs
    refine lv_aload_n hx hb dX0_note_9 rfl (lv_at hl 0 rfl) ?_
    refine z_get (v := .ref (w 5)) hC zf_X0_61_0 hw 0 rfl rfl dX0_note_10 ?_
    refine lv_iconst (v := (nI 0)) hx hb dX0_note_13 zk_0 ?_
    refine z_aald (x := .ref s0) (t := 5) hC hw 7 rfl (fun _ => rfl) (by decide) (by decide) (congrArg va_rf hs0) dX0_note_14 ?_
    refine lv_astore_n (lv' := [(1, .ref s0), (0, .ref co)]) hx hb dX0_note_15 rfl hl (by decide) rfl (fun ls hl => ?_)
    refine lv_aload_n hx hb dX0_note_16 rfl (lv_at hl 1 rfl) ?_
    refine z_get (v := .ref (w 5)) hC zf_X0_61_0 hw 0 rfl rfl dX0_note_17 ?_
    refine lv_iconst (v := (nI 1)) hx hb dX0_note_20 zk_1 ?_
    refine lv_aload_n hx hb dX0_note_21 rfl (lv_at hl 1 rfl) ?_
    refine z_get (v := .ref (w 5)) hC zf_X0_61_0 hw 0 rfl rfl dX0_note_22 ?_
    refine lv_iconst (v := (nI 0)) hx hb dX0_note_25 zk_0 ?_
    refine lv_bipush (v := (nI 7)) hx hb dX0_note_26 zb_7 ?_
    have hany := slS_any hC hbs (E := [(co, zo 0 (cF w (nI mn) (nI 8) sm lt)), (w 2, zo 1 (stF zn co (nI ps) (nI dy) (gg))), (zn 0, zc G 1 (zI 9 (vI pl))), (zn 1, zc G 1 (zI 9 (vI nu))), (zn 2, zc G 1 (zI 5 (vI ax))), (zn 3, zc G 1 (zI 5 (vI le))), (zn 4, zc G 2 (zI 5 (vI kn))), (w 5, zc G 5 (zO 8 bf))]) (bs := bs) hw
    refine z_copyQ (t := 5) (h := va_cpy bf bf 1 0 7) hC hl.1 q923 zNat_ok hw 7 7 rfl rfl (fun _ => rfl) (by omega) (by omega) (by decide) (by decide) (fun i hi y hy => hany (1 + i) (by omega) y hy) rfl (Nat.le_of_ble_eq_true rfl) ⟨Nat.le_of_ble_eq_true rfl, Nat.le_of_ble_eq_true rfl⟩ dX0_note_28 (fun H locs hw => ?_)
    have hw : zS G ((co, zo 0 (cF w (nI mn) (nI 8) sm lt)) :: (w 2, zo 1 (stF zn co (nI ps) (nI dy) (gg))) :: (zn 0, zc G 1 (zI 9 (vI pl))) :: (zn 1, zc G 1 (zI 9 (vI nu))) :: (zn 2, zc G 1 (zI 5 (vI ax))) :: (zn 3, zc G 1 (zI 5 (vI le))) :: (zn 4, zc G 2 (zI 5 (vI kn))) :: (w 5, zc G 5 (zO 8 (va_cpy bf bf 1 0 7))) :: (pw 8 bs ++ rest)) s H locs := hw
    refine lv_aload_n hx hb dX0_note_31 rfl (lv_at hl 1 rfl) ?_
    refine z_get (v := .ref (w 5)) hC zf_X0_61_0 hw 0 rfl rfl dX0_note_32 ?_
    refine lv_bipush (v := (nI 7)) hx hb dX0_note_35 zb_7 ?_
    refine lv_aload_n hx hb dX0_note_37 rfl (lv_at hl 0 rfl) ?_
    have hany := slS_any hC hbs (E := [(co, zo 0 (cF w (nI mn) (nI 8) sm lt)), (w 2, zo 1 (stF zn co (nI ps) (nI dy) (gg))), (zn 0, zc G 1 (zI 9 (vI pl))), (zn 1, zc G 1 (zI 9 (vI nu))), (zn 2, zc G 1 (zI 5 (vI ax))), (zn 3, zc G 1 (zI 5 (vI le))), (zn 4, zc G 2 (zI 5 (vI kn))), (w 5, zc G 5 (zO 8 (va_cpy bf bf 1 0 7)))]) (bs := bs) hw
    refine z_aast (t := 5) (f' := rotF bf) hC hw 7 rfl (fun _ => rfl) (by decide) (by decide) (hany 0 (by decide) _ hs0) (rot_arr hs0) dX0_note_38 (fun H locs hw => ?_)
    have hw : zS G ((co, zo 0 (cF w (nI mn) (nI 8) sm lt)) :: (w 2, zo 1 (stF zn co (nI ps) (nI dy) (gg))) :: (zn 0, zc G 1 (zI 9 (vI pl))) :: (zn 1, zc G 1 (zI 9 (vI nu))) :: (zn 2, zc G 1 (zI 5 (vI ax))) :: (zn 3, zc G 1 (zI 5 (vI le))) :: (zn 4, zc G 2 (zI 5 (vI kn))) :: (w 5, zc G 5 (zO 8 (rotF bf))) :: (pw 8 bs ++ rest)) s H locs := hw
    refine lv_aload_n hx hb dX0_note_39 rfl (lv_at hl 1 rfl) ?_
    refine lv_dup hx hb dX0_note_40 rfl ?_
    refine z_get (v := .int (nI 8)) hC zf_X0_40_0 hw 0 rfl rfl dX0_note_41 ?_
    refine lv_iconst (v := (nI 1)) hx hb dX0_note_44 zk_1 ?_
    refine zn_isub hx hb (by decide) dX0_note_45 ?_
    have hw : zS G ((co, zo 0 (cF w (nI mn) (nI 8) sm lt)) :: (w 2, zo 1 (stF zn co (nI ps) (nI dy) (gg))) :: (zn 0, zc G 1 (zI 9 (vI pl))) :: (zn 1, zc G 1 (zI 9 (vI nu))) :: (zn 2, zc G 1 (zI 5 (vI ax))) :: (zn 3, zc G 1 (zI 5 (vI le))) :: (zn 4, zc G 2 (zI 5 (vI kn))) :: (w 5, zc G 5 (zO 8 (rotF bf))) :: (pw 8 (rotF bs) ++ rest)) s H locs := hw.perm ((pl_rot.append_right _).append_left [(co, zo 0 (cF w (nI mn) (nI 8) sm lt)), (w 2, zo 1 (stF zn co (nI ps) (nI dy) (gg))), (zn 0, zc G 1 (zI 9 (vI pl))), (zn 1, zc G 1 (zI 9 (vI nu))), (zn 2, zc G 1 (zI 5 (vI ax))), (zn 3, zc G 1 (zI 5 (vI le))), (zn 4, zc G 2 (zI 5 (vI kn))), (w 5, zc G 5 (zO 8 (rotF bf)))])
    refine z_puti hC zf_X0_40_0 hw 0 rfl (Nat.le_of_ble_eq_true rfl) dX0_note_46 (fun H locs hw => ?_)
    have hw : zS G ((co, zo 0 (cF w (nI mn) (nI 7) sm lt)) :: (w 2, zo 1 (stF zn co (nI ps) (nI dy) (gg))) :: (zn 0, zc G 1 (zI 9 (vI pl))) :: (zn 1, zc G 1 (zI 9 (vI nu))) :: (zn 2, zc G 1 (zI 5 (vI ax))) :: (zn 3, zc G 1 (zI 5 (vI le))) :: (zn 4, zc G 2 (zI 5 (vI kn))) :: (w 5, zc G 5 (zO 8 (rotF bf))) :: (pw 8 (rotF bs) ++ rest)) s H locs := hw
    exact join_49 7 (fun j => U (j + 1)) (rotF bf) (rotF bs) (if_pos rfl).symm (if_pos rfl).symm (note_rot hs0 hbs) H locs ls hw (lv_sub hl [1] rfl)
