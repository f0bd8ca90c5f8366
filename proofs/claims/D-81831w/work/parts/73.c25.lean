/-! TRAILS: as the component holds them -/
set_option maxRecDepth 100000
def elW (els : List (Nat × va_W)) : va_W := els.flatMap (·.2)
/-- the trails, as the state A has them -/
def trR (G : zE) (kA : Nat → Nat) (A : AS) (sq : Nat → Nat) (tf : Nat → Option Nat) (ts : Nat → va_W) : Prop := ∀ t, t < 3 → slT G kA sq (tf t) (aTr A t) (ts t)
theorem trR_up {G : zE} {kA sq : Nat → Nat} {A : AS} {tf : Nat → Option Nat} {ts : Nat → va_W} {t : Nat} {o : Option Nat} {tr : Option TR} {x : va_W} (h : trR G kA A sq tf ts) (hx : slT G kA sq o tr x) : trR G kA (sT A t tr) sq (va_up tf t o) (va_up ts t x) := by
  intro j hj
  show slT G kA sq _ (va_up (aTr A) t tr j) _
  by_cases e : j = t
  · subst e; rw [va_up_self, va_up_self, va_up_self]; exact hx
  · rw [va_up_ne _ _ e, va_up_ne _ _ e, va_up_ne _ _ e]; exact h j hj
theorem trR_up2 {G : zE} {kA sq : Nat → Nat} {A : AS} {tf : Nat → Option Nat} {ts : Nat → va_W} {t a : Nat} {tr : Option TR} {x : va_W} (h : trR G kA A sq tf ts) (hf : tf t = some a) (hx : slT G kA sq (some a) tr x) : trR G kA (sT A t tr) sq tf (va_up ts t x) := by
  have h2 := trR_up (t := t) h hx
  rw [← hf, va_up_id] at h2
  exact h2
theorem tr_cases {G : zE} {kA sq : Nat → Nat} {o : Option Nat} {tr : Option TR} {x : va_W} {m : Nat} (h : slT G kA sq o tr x) (hk : okTr m tr) :
    (o = none ∧ tr = none ∧ x = []) ∨
    (∃ (a lst it : Nat) (mq bk : Int32), o = some a ∧ tr = some ([], 0, none) ∧ (bk = nI 0 ∨ bk = nI 1) ∧ x = [(a, zo 10 [.ref lst, .ref it, .int bk]), (lst, zo 14 [.int mq, .ref (kA 5), .int (nI 0)]), (it, zo 15 [.int (nI 0), .int (-1), .int mq, .ref lst, .ref lst])]) ∨
    (∃ (a : Nat) (l : List (Nat × Int32)) (cu : Nat) (c : Option Nat) (lst it ed cap : Nat) (ef : Nat → Option Nat) (els : List (Nat × va_W)) (mq bk : Int32), o = some a ∧ tr = some (l, cu, c) ∧ els.length = l.length ∧ (∀ k, k < l.length → isEl kA sq (l.getD k (0, 0)) (els.getD k (0, [])).1 (els.getD k (0, [])).2 ∧ ef k = some (els.getD k (0, [])).1) ∧ l.length ≤ cap ∧ (cap = 10 ∨ cap = 15) ∧ (∀ p, c = some p → (bk = nI 1 ∧ p = cu) ∨ (bk = nI 0 ∧ p + 1 = cu)) ∧ (bk = nI 0 ∨ bk = nI 1) ∧ l.length ≤ 12 ∧ cu ≤ l.length ∧ (∀ j, c = some j → j < l.length) ∧ (∀ x ∈ l, okItem m x) ∧
      x = [(a, zo 10 [.ref lst, .ref it, .int bk]), (lst, zo 14 [.int mq, .ref ed, .int (nI l.length)]), (it, zo 15 [.int (nI cu), .int (optI c), .int mq, .ref lst, .ref lst]), (ed, zc G 4 (zO cap ef))] ++ elW els) := by
  cases o with
  | none =>
    cases tr with
    | none => exact Or.inl ⟨rfl, rfl, h⟩
    | some r => exact h.elim
  | some a =>
    cases tr with
    | none => exact h.elim
    | some r =>
      obtain ⟨l, cu, c⟩ := r
      obtain ⟨lst, it, ed, cap, ef, els, mq, bk, ar, h1, h2, h3, h4, h5, h6⟩ := h
      obtain ⟨k1, k2, k3, k4⟩ := hk l cu c rfl
      rcases h3 with ⟨rfl, rfl, h0⟩ | ⟨rfl, g1, g2⟩
      · have hl : l = [] := List.length_eq_zero_iff.mp h0
        subst hl
        have hes : els = [] := List.length_eq_zero_iff.mp h1
        subst hes
        obtain rfl : cu = 0 := Nat.le_zero.mp k2
        cases c with
        | some p => exact absurd (k3 p rfl) (Nat.not_lt_zero _)
        | none => exact Or.inr (Or.inl ⟨a, lst, it, mq, bk, rfl, rfl, h5, h6⟩)
      · exact Or.inr (Or.inr ⟨a, l, cu, c, lst, it, ed, cap, ef, els, mq, bk, rfl, rfl, h1, h2, g1, g2, h4, h5, k1, k2, k3, k4, h6⟩)
theorem sl_open {n j : Nat} {sl : Nat → va_W} {C P E T : va_W} (hj : j < n) (h : sl j = C ++ P) : (E ++ (pw n sl ++ T)).Perm (C ++ (E ++ (P ++ (pwX n sl j ++ T)))) := by
  refine (pl_get hj).trans ?_
  rw [h, List.append_assoc]
  exact (List.perm_append_comm_assoc P E _).append_left C
theorem sl_close {n j : Nat} {sl : Nat → va_W} {C P E T : va_W} (hj : j < n) : (C ++ (E ++ (P ++ (pwX n sl j ++ T)))).Perm (E ++ (pw n (va_up sl j (C ++ P)) ++ T)) := by
  refine List.Perm.trans ?_ (pl_put (x := C ++ P) hj)
  rw [List.append_assoc]
  exact (List.perm_append_comm_assoc E P _).append_left C
theorem zS.dropM {G : zE} {s : State} {H : Heap} {locs : List Loc} {E P T : va_W} (h : zS G (E ++ (P ++ T)) s H locs) : zS G (E ++ T) s H locs := (h.perm (List.perm_append_comm_assoc E P T)).dropP _
def cutL {α : Type} (l : List α) (p : Nat) : List α := l.take p ++ l.drop (p + 1)
theorem el_split {els : List (Nat × va_W)} {p : Nat} (hp : p < els.length) : els = els.take p ++ els.getD p (0, []) :: els.drop (p + 1) := by
  rw [List.getD_eq_getElem?_getD, List.getElem?_eq_getElem hp, Option.getD_some]
  exact (List.take_append_drop p els).symm.trans (by rw [List.drop_eq_getElem_cons hp])
theorem el_cut {els : List (Nat × va_W)} {p : Nat} (hp : p < els.length) : (elW els).Perm ((els.getD p (0, [])).2 ++ elW (cutL els p)) := by
  have e := congrArg elW (el_split hp)
  rw [e]
  unfold elW cutL
  rw [List.flatMap_append, List.flatMap_append, List.flatMap_cons]
  exact List.perm_append_comm_assoc _ _ _
theorem zS.cutE {G : zE} {s : State} {H : Heap} {locs : List Loc} {E T : va_W} {els : List (Nat × va_W)} {p : Nat} (hp : p < els.length) (h : zS G (E ++ (elW els ++ T)) s H locs) : zS G (E ++ (elW (cutL els p) ++ T)) s H locs := by
  have h2 := h.perm (((el_cut hp).append_right T).append_left E)
  rw [List.append_assoc] at h2
  exact zS.dropM h2
theorem el_ok {kA sq v : Nat → Nat} {x : Nat × Int32} {e m : Nat} {own W : va_W} (h : isEl kA sq x e own) (hk : okItem m x) (hm : m = v 1) (hv5 : v 1 ≤ 5) (h5 : ∀ i, i < v 1 → v (21 + 5 * i) < 5) (hW : ∀ c ∈ own, c ∈ W) : elOk kA (W ++ sqW sq v) e := by
  rcases h with ⟨h0, ⟨k, hk1, -, rfl, -⟩ | rfl⟩ | ⟨h1, i, hi5, hi, rfl, -⟩ | ⟨h2, k, hk1, -, rfl, -⟩
  · exact Or.inr ⟨k, hk1, Or.inl rfl⟩
  · exact Or.inl ⟨13, _, _, List.mem_append_left _ (hW _ List.mem_cons_self), rfl, (List.mem_cons_self : "java/lang/Integer" ∈ oNm)⟩
  · rcases hk with ⟨g, -⟩ | ⟨-, t, ht, g⟩ | ⟨g, -⟩
    · rw [h1] at g; cases g
    · subst hm
      have ei : i = t := by
        have e := congrArg Int32.toInt (hi.symm.trans g)
        rw [nI_toInt (by omega), nI_toInt (by omega)] at e
        omega
      subst ei
      have hk5 := h5 i ht
      have hm : sqC sq v i ∈ W ++ sqW sq v := List.mem_append_right _ (List.mem_map.mpr ⟨i, List.mem_range.mpr ht, rfl⟩)
      have main : ∀ kd, kd < 5 → ∃ r, zcl[5 + kd]? = some r ∧ r.1 ∈ oNm := by
        intro kd hkd
        rcases (show kd = 0 ∨ kd = 1 ∨ kd = 2 ∨ kd = 3 ∨ kd = 4 by omega) with rfl | rfl | rfl | rfl | rfl
        · exact ⟨_, rfl, (List.mem_cons_of_mem _ List.mem_cons_self : "NutCaches$Plain" ∈ oNm)⟩
        · exact ⟨_, rfl, (List.mem_cons_of_mem _ (List.mem_cons_of_mem _ List.mem_cons_self) : "NutCaches$Greedy" ∈ oNm)⟩
        · exact ⟨_, rfl, (List.mem_cons_of_mem _ (List.mem_cons_of_mem _ (List.mem_cons_of_mem _ List.mem_cons_self)) : "NutCaches$Neat" ∈ oNm)⟩
        · exact ⟨_, rfl, (List.mem_cons_of_mem _ (List.mem_cons_of_mem _ (List.mem_cons_of_mem _ (List.mem_cons_of_mem _ List.mem_cons_self))) : "NutCaches$Dozy" ∈ oNm)⟩
        · exact ⟨_, rfl, (List.mem_cons_of_mem _ (List.mem_cons_of_mem _ (List.mem_cons_of_mem _ (List.mem_cons_of_mem _ (List.mem_cons_of_mem _ List.mem_cons_self)))) : "NutCaches$Spy" ∈ oNm)⟩
      obtain ⟨r, hr1, hr2⟩ := main _ hk5
      exact Or.inl ⟨_, _, r, hm, hr1, hr2⟩
    · rw [h1] at g; cases g
  · exact Or.inr ⟨128 + k, by omega, Or.inr (by rw [show 400 + (128 + k) = 528 + k by omega])⟩
set_option maxHeartbeats 4000000 in
theorem m_X0_isTrail (G : zE) (l : Launch) (x : Int32) (rest : va_W) : zMi G l yX0_isTrail cX0_isTrail 1 (some .boolean) 1 0 0 [.int x] (rest) (fun (r : Int32) (_ : Unit) => r = bI (inR x 0 2)) (fun (_ : Unit) => rest) := by
  refine z_begZ (by decide) (Nat.le_of_ble_eq_true rfl) (fun p e s m args below meth c ls Q hC hl hw hend => ?_)
  have hx := hC.hx
  have hb := hC.hb
  have hl : lv_has ls 1 [(0, .int x)] := hl
  refine lv_iload_n hx hb dX0_isTrail_0 rfl (lv_at hl 0 rfl) ?_
  refine lv_i2l (v := (iL x)) hx hb dX0_isTrail_1 rfl ?_
  refine lv_lconst (v := lN 0) hx hb dX0_isTrail_2 rfl ?_
  refine lv_ldc2 (v := (lN 2)) hx hb hC.hown (hC.hts _ q1120) dX0_isTrail_3 ?_
  refine z_ci (z_runS (As := [.long (iL x), .long (lN 0), .long (lN 2)]) (rest := []) hC zs_X0_126 (m_X0_in G l x 0 2 (by decide) (by decide) _) hw rfl rfl (Nat.le_of_ble_eq_true rfl) hl.1 ⟨Nat.le_of_ble_eq_true rfl, Nat.le_of_ble_eq_true rfl⟩ ⟨(Nat.le_of_ble_eq_true rfl), (Nat.le_of_ble_eq_true rfl)⟩ dX0_isTrail_6) hw (fun _ => List.Perm.refl _) (fun r u H locs hp hw => ?_)
  obtain rfl : r = bI (inR x 0 2) := hp
  exact hend _ _ _ _ _ _ _ () (bI_nar _) hw rfl (Nat.le_of_ble_eq_true rfl) (Nat.le_of_ble_eq_true rfl) dX0_isTrail_9
set_option maxHeartbeats 4000000 in
theorem m_X0_found_NPE (G : zE) (l : Launch) (kA : Nat → Nat) (hG : zG G kA) (hY : zY G) (hlt : l.stackTraces = false) (q9 : Nat) (rest : va_W) : zFi G l yX0_found cX0_found 1 "java/lang/NullPointerException" q9 0 0 0 [.ref q9] (rest) (fun (r : Int32) (_ : Unit) => r = -11) (fun (_ : Unit) => rest) := by
  refine z_begE (by decide) (Nat.le_of_ble_eq_true rfl) (fun p e s m args below meth c ls Q ce9 hC hx9 hl hw hend => ?_)
  have hx := hC.hx
  have hb := hC.hb
  have hl : lv_has ls 1 [(0, .ref q9)] := hl
  have hz := hG s hC.hZ.1
  have hzy := hY s hC.hZ.1
  refine lv_aload_n hx hb dX0_found_0 rfl (lv_at hl 0 rfl) ?_
  refine z_instE hC q1025 ⟨ce9, hx9.1, by rw [hx9.2.1]; rfl, hx9.2.2⟩ dX0_found_1 ?_
  refine zj_eq (tgt := 10) hx hb (by decide) dX0_found_4 (by decide) (fun h => absurd h (by decide)) (fun _ => ?_)
  refine lv_bipush (v := (-11)) hx hb dX0_found_7 zb_m11 ?_
  exact hend _ _ _ _ _ _ _ () hw (by first | rfl | simp_all) (Nat.le_of_ble_eq_true rfl) (Nat.le_of_ble_eq_true rfl) dX0_found_9
set_option maxHeartbeats 4000000 in
theorem m_X0_found_NSEE (G : zE) (l : Launch) (kA : Nat → Nat) (hG : zG G kA) (hY : zY G) (hlt : l.stackTraces = false) (q9 : Nat) (rest : va_W) : zFi G l yX0_found cX0_found 1 "java/util/NoSuchElementException" q9 0 0 0 [.ref q9] (rest) (fun (r : Int32) (_ : Unit) => r = -12) (fun (_ : Unit) => rest) := by
  refine z_begE (by decide) (Nat.le_of_ble_eq_true rfl) (fun p e s m args below meth c ls Q ce9 hC hx9 hl hw hend => ?_)
  have hx := hC.hx
  have hb := hC.hb
  have hl : lv_has ls 1 [(0, .ref q9)] := hl
  have hz := hG s hC.hZ.1
  have hzy := hY s hC.hZ.1
  refine lv_aload_n hx hb dX0_found_0 rfl (lv_at hl 0 rfl) ?_
  refine z_instNo hC q1025 (hzy.2.2.2.1 ("java/util/NoSuchElementException", "java/lang/NullPointerException") (by decide)) ⟨ce9, hx9.1, by rw [hx9.2.1]; rfl, hx9.2.2⟩ dX0_found_1 ?_
  refine zj_eq (tgt := 10) hx hb (by decide) dX0_found_4 (by decide) (fun _ => ?_) (fun h => absurd h (by decide))
  refine lv_aload_n hx hb dX0_found_10 rfl (lv_at hl 0 rfl) ?_
  refine z_instE hC q1260 ⟨ce9, hx9.1, by rw [hx9.2.1]; rfl, hx9.2.2⟩ dX0_found_11 ?_
  refine zj_eq (tgt := 20) hx hb (by decide) dX0_found_14 (by decide) (fun h => absurd h (by decide)) (fun _ => ?_)
  refine lv_bipush (v := (-12)) hx hb dX0_found_17 zb_m12 ?_
  exact hend _ _ _ _ _ _ _ () hw (by first | rfl | simp_all) (Nat.le_of_ble_eq_true rfl) (Nat.le_of_ble_eq_true rfl) dX0_found_19
set_option maxHeartbeats 4000000 in
theorem m_X0_found_ISE (G : zE) (l : Launch) (kA : Nat → Nat) (hG : zG G kA) (hY : zY G) (hlt : l.stackTraces = false) (q9 : Nat) (rest : va_W) : zFi G l yX0_found cX0_found 1 "java/lang/IllegalStateException" q9 0 0 0 [.ref q9] (rest) (fun (r : Int32) (_ : Unit) => r = -13) (fun (_ : Unit) => rest) := by
  refine z_begE (by decide) (Nat.le_of_ble_eq_true rfl) (fun p e s m args below meth c ls Q ce9 hC hx9 hl hw hend => ?_)
  have hx := hC.hx
  have hb := hC.hb
  have hl : lv_has ls 1 [(0, .ref q9)] := hl
  have hz := hG s hC.hZ.1
  have hzy := hY s hC.hZ.1
  refine lv_aload_n hx hb dX0_found_0 rfl (lv_at hl 0 rfl) ?_
  refine z_instNo hC q1025 (hzy.2.2.2.1 ("java/lang/IllegalStateException", "java/lang/NullPointerException") (by decide)) ⟨ce9, hx9.1, by rw [hx9.2.1]; rfl, hx9.2.2⟩ dX0_found_1 ?_
  refine zj_eq (tgt := 10) hx hb (by decide) dX0_found_4 (by decide) (fun _ => ?_) (fun h => absurd h (by decide))
  refine lv_aload_n hx hb dX0_found_10 rfl (lv_at hl 0 rfl) ?_
  refine z_instNo hC q1260 (hzy.2.2.2.1 ("java/lang/IllegalStateException", "java/util/NoSuchElementException") (by decide)) ⟨ce9, hx9.1, by rw [hx9.2.1]; rfl, hx9.2.2⟩ dX0_found_11 ?_
  refine zj_eq (tgt := 20) hx hb (by decide) dX0_found_14 (by decide) (fun _ => ?_) (fun h => absurd h (by decide))
  refine lv_aload_n hx hb dX0_found_20 rfl (lv_at hl 0 rfl) ?_
  refine z_instE hC q1552 ⟨ce9, hx9.1, by rw [hx9.2.1]; rfl, hx9.2.2⟩ dX0_found_21 ?_
  refine zj_eq (tgt := 32) hx hb (by decide) dX0_found_24 (by decide) (fun h => absurd h (by decide)) (fun _ => ?_)
  refine lv_bipush (v := (-13)) hx hb dX0_found_27 zb_m13 ?_
  refine lv_goto (tgt := 34) hx hb dX0_found_29 (by decide) ?_
  exact hend _ _ _ _ _ _ _ () hw (by first | rfl | simp_all) (Nat.le_of_ble_eq_true rfl) (Nat.le_of_ble_eq_true rfl) dX0_found_34
set_option maxHeartbeats 4000000 in
theorem m_X0_found_CCE (G : zE) (l : Launch) (kA : Nat → Nat) (hG : zG G kA) (hY : zY G) (hlt : l.stackTraces = false) (q9 : Nat) (rest : va_W) : zFi G l yX0_found cX0_found 1 "java/lang/ClassCastException" q9 0 0 0 [.ref q9] (rest) (fun (r : Int32) (_ : Unit) => r = -14) (fun (_ : Unit) => rest) := by
  refine z_begE (by decide) (Nat.le_of_ble_eq_true rfl) (fun p e s m args below meth c ls Q ce9 hC hx9 hl hw hend => ?_)
  have hx := hC.hx
  have hb := hC.hb
  have hl : lv_has ls 1 [(0, .ref q9)] := hl
  have hz := hG s hC.hZ.1
  have hzy := hY s hC.hZ.1
  refine lv_aload_n hx hb dX0_found_0 rfl (lv_at hl 0 rfl) ?_
  refine z_instNo hC q1025 (hzy.2.2.2.1 ("java/lang/ClassCastException", "java/lang/NullPointerException") (by decide)) ⟨ce9, hx9.1, by rw [hx9.2.1]; rfl, hx9.2.2⟩ dX0_found_1 ?_
  refine zj_eq (tgt := 10) hx hb (by decide) dX0_found_4 (by decide) (fun _ => ?_) (fun h => absurd h (by decide))
  refine lv_aload_n hx hb dX0_found_10 rfl (lv_at hl 0 rfl) ?_
  refine z_instNo hC q1260 (hzy.2.2.2.1 ("java/lang/ClassCastException", "java/util/NoSuchElementException") (by decide)) ⟨ce9, hx9.1, by rw [hx9.2.1]; rfl, hx9.2.2⟩ dX0_found_11 ?_
  refine zj_eq (tgt := 20) hx hb (by decide) dX0_found_14 (by decide) (fun _ => ?_) (fun h => absurd h (by decide))
  refine lv_aload_n hx hb dX0_found_20 rfl (lv_at hl 0 rfl) ?_
  refine z_instNo hC q1552 (hzy.2.2.2.1 ("java/lang/ClassCastException", "java/lang/IllegalStateException") (by decide)) ⟨ce9, hx9.1, by rw [hx9.2.1]; rfl, hx9.2.2⟩ dX0_found_21 ?_
  refine zj_eq (tgt := 32) hx hb (by decide) dX0_found_24 (by decide) (fun _ => ?_) (fun h => absurd h (by decide))
  refine lv_bipush (v := (-14)) hx hb dX0_found_32 zb_m14 ?_
  exact hend _ _ _ _ _ _ _ () hw (by first | rfl | simp_all) (Nat.le_of_ble_eq_true rfl) (Nat.le_of_ble_eq_true rfl) dX0_found_34
theorem zs_X0_275 : zSs RX0 275 yX0_isTrail cX0_isTrail 1 (some .boolean) 1 := ⟨lw_S q1117 q1118 q49 q1119, ⟨by decide +kernel, by decide +kernel⟩, by decide +kernel⟩
theorem zf_X0_57_0 : zFl 0 10 RX0 57 true (.array (.object "NutCaches$Trail")) := ⟨RX0, TX0, 13, tyX0, rfl, by decide, in_X0, q183, rfl, by decide +kernel, tyX0_ok, nmX0⟩
theorem zv_X0_335 : zVs RX0 335 yX11_rewind cX11_rewind 2 (some .int) 0 := ⟨lw_V q1767 q1768 q1769 q84 q1770, ⟨by decide +kernel, by decide +kernel⟩, by decide +kernel⟩
theorem zs_X0_304 : zSs RX0 304 yX0_found cX0_found 1 (some .int) 1 := ⟨lw_S q1549 q1550 q49 q1551, ⟨by decide +kernel, by decide +kernel⟩, by decide +kernel⟩
set_option maxHeartbeats 4000000 in
theorem m_X0_rewind (G : zE) (l : Launch) (kA : Nat → Nat) (hG : zG G kA) (hV : zV G kA) (hY : zY G) (hlt : l.stackTraces = false) (co : Nat) (w : Nat → Nat) (mn : Int32) (bm : Int32) (sm : Int32) (lt : Int32) (A : AS) (tf : Nat → Option Nat) (ts : Nat → va_W) (sq : Nat → Nat) (hA : AOk A) (hT : trR G kA A sq tf ts) (x : Int32) (rest : va_W) : zWi G l yX0_rewind cX0_rewind 3 (some .int) [(10, 19, 20, 216)] 262 1 8 [.ref co, .int x] ((co, zo 0 (cF w mn bm sm lt)) :: (w 7, zc G 6 (zO 3 tf)) :: (pw 3 ts ++ rest)) (fun (r : Int32) u => r = (F_rewind A x).1 ∧ trR G kA (F_rewind A x).2 sq u.1 u.2) (fun (u : (Nat → Option Nat) × (Nat → va_W)) => (co, zo 0 (cF w mn bm sm lt)) :: (w 7, zc G 6 (zO 3 u.1)) :: (pw 3 u.2 ++ rest)) := by
  refine z_begIW (by decide) (Nat.le_of_ble_eq_true rfl) (fun p e s m args below meth c ls Q hC htb hl hw hend => ?_)
  have hx := hC.hx
  have hb := hC.hb
  have hl : lv_has ls 3 [(0, .ref co), (1, .int x)] := hl
  have hw : zS G ((co, zo 0 (cF w mn bm sm lt)) :: (w 7, zc G 6 (zO 3 tf)) :: (pw 3 ts ++ rest)) s s.heap [] := hw
  have hz := hG s hC.hZ.1
  have hzv := hV s hC.hZ.1
  have hzy := hY s hC.hZ.1
  refine lv_iload_n hx hb dX0_rewind_0 rfl (lv_at hl 1 rfl) ?_
  refine z_ci (z_runS (As := [.int x]) (rest := []) hC zs_X0_275 (m_X0_isTrail G l x _) hw rfl rfl (Nat.le_of_ble_eq_true rfl) hl.1 ⟨Nat.le_of_ble_eq_true rfl, Nat.le_of_ble_eq_true rfl⟩ ⟨(Nat.le_of_ble_eq_true rfl), (Nat.le_of_ble_eq_true rfl)⟩ dX0_rewind_1) hw (fun _ => List.Perm.refl _) (fun r u H locs hp hw => ?_)
  obtain rfl : r = bI (inR x 0 2) := hp
  refine zb_ne (tgt := 10) hx hb dX0_rewind_4 (by decide) (fun c_4 => ?_) (fun c_4 => ?_)
  · skip
    obtain ⟨t, ht0, ht2, rfl⟩ := c_4
    have hl : lv_has ls 3 [(0, .ref co), (1, .int (nI t))] := hl
    have ht3 : t < 3 := by omega
    refine lv_aload_n hx hb dX0_rewind_10 rfl (lv_at hl 0 rfl) ?_
    refine z_get (v := .ref (w 7)) hC zf_X0_57_0 hw 0 rfl rfl dX0_rewind_11 ?_
    refine lv_iload_n hx hb dX0_rewind_14 rfl (lv_at hl 1 rfl) ?_
    refine z_aald (x := va_rf (tf t)) (t := 6) hC hw 1 rfl (fun _ => rfl) (by omega) (by decide) rfl dX0_rewind_15 ?_
    rcases tr_cases (hT t ht3) (hA.2.2.2.2.2.2 t ht3) with ⟨htf, hat, hxb⟩ | ⟨a, lst, it, mq, bk, htf, hat, hbk, hxb⟩ | ⟨a, l9, cu, c9, lst, it, ed, cap, ef, els, mq, bk, htf, hat, hle, hla, hcap, hcp2, hlc, hbk, hl12, hcl, hcp, hok, hxb⟩
    · skip
      rw [htf]
      show W p l e (zR 262 1 8) s m args below meth c H locs 0 0 Q (F0 m 16 ls [.null])
      have hl : lv_has ls 3 [(0, .ref co), (1, .int (nI t))] := hl
      have hw : zS G ((co, zo 0 (cF w mn bm sm lt)) :: (w 7, zc G 6 (zO 3 tf)) :: (pw 3 ts ++ rest)) s H locs := hw
      refine z_invN (As := []) (rest := []) hC hlt hzy zv_X0_335 hw rfl rfl hl.1 (Nat.le_of_ble_eq_true rfl) ⟨Nat.le_of_ble_eq_true rfl, Nat.le_of_ble_eq_true rfl⟩ (Nat.le_of_ble_eq_true rfl) (Nat.le_of_ble_eq_true rfl) dX0_rewind_16 (fun q9 H ce9 hex => ?_)
      obtain ⟨hw, hx9⟩ := hex
      have hw : zS G ((co, zo 0 (cF w mn bm sm lt)) :: (w 7, zc G 6 (zO 3 tf)) :: (pw 3 ts ++ rest)) s H locs := hw
      refine z_catch (ce := ce9) (hh := [(10, 19, 20, 216)]) (E := "java/lang/NullPointerException") hC htb (tableOf []) ⟨10, 19, 20, 216⟩ (tableOf []) rfl (fun z hz => nomatch hz) (by decide) (by decide) q1025 (hz.1 _ (cw_t q495 rfl)) ⟨hw, hx9⟩ ?_
      show W p l e (zR 262 1 8) s m args below meth c H locs 1 8 Q (F0 m 20 ls [.ref q9])
      refine lv_astore_n (lv' := [(2, .ref q9), (0, .ref co), (1, .int (nI t))]) hx hb dX0_rewind_20 rfl hl (by decide) rfl (fun ls hl => ?_)
      refine lv_aload_n hx hb dX0_rewind_21 rfl (lv_at hl 0 rfl) ?_
      refine z_ci (z_runSE (As := [.ref q9]) (rest := []) hC zs_X0_304 (m_X0_found_NPE G l kA (by first | assumption | (omega)) (by first | assumption | (omega)) (by omega) q9 _) hw hx9 rfl rfl (Nat.le_of_ble_eq_true rfl) hl.1 ⟨Nat.le_of_ble_eq_true rfl, Nat.le_of_ble_eq_true rfl⟩ ⟨(Nat.le_of_ble_eq_true rfl), (Nat.le_of_ble_eq_true rfl)⟩ dX0_rewind_22) hw (fun _ => List.Perm.refl _) (fun r u H locs hp hw => ?_)
      obtain rfl : r = -11 := hp
      have hF : F_rewind A (nI t) = (-11, A) := by unfold F_rewind; rw [ifP_t ⟨t, ht0, ht2, rfl⟩, cl_nI (by omega), hat]
      exact hend _ _ _ _ _ _ _ (tf, ts) hw (by rw [hF]; exact ⟨rfl, hT⟩) (Nat.le_of_ble_eq_true rfl) (Nat.le_of_ble_eq_true rfl) dX0_rewind_25
    · skip
      rw [htf]
      show W p l e (zR 262 1 8) s m args below meth c H locs 0 0 Q (F0 m 16 ls [.ref a])
      have hw : zS G ((a, zo 10 [.ref lst, .ref it, .int bk]) :: (lst, zo 14 [.int mq, .ref (kA 5), .int (nI 0)]) :: (it, zo 15 [.int (nI 0), .int (-1), .int mq, .ref lst, .ref lst]) :: (co, zo 0 (cF w mn bm sm lt)) :: (w 7, zc G 6 (zO 3 tf)) :: (pwX 3 ts t ++ rest)) s H locs := hw.perm (sl_open (E := [(co, zo 0 (cF w mn bm sm lt)), (w 7, zc G 6 (zO 3 tf))]) (C := [(a, zo 10 [.ref lst, .ref it, .int bk]), (lst, zo 14 [.int mq, .ref (kA 5), .int (nI 0)]), (it, zo 15 [.int (nI 0), .int (-1), .int mq, .ref lst, .ref lst])]) (P := []) ht3 (hxb.trans (List.append_nil _).symm))
      have hl : lv_has ls 3 [(0, .ref co), (1, .int (nI t))] := hl
      have hw : zS G ((a, zo 10 [.ref lst, .ref it, .int bk]) :: (lst, zo 14 [.int mq, .ref (kA 5), .int (nI 0)]) :: (it, zo 15 [.int (nI 0), .int (-1), .int mq, .ref lst, .ref lst]) :: (co, zo 0 (cF w mn bm sm lt)) :: (w 7, zc G 6 (zO 3 tf)) :: (pwX 3 ts t ++ rest)) s H locs := hw
      refine z_ci (z_runV (As := []) (rest := []) hC zv_X0_335 (m_X11_rewind G l kA (by first | assumption | (omega)) lst (kA 5) 0 mq a bk it 0 (-1) (zrem [0, 1, 2] _)) hw (hw.perm (z_cut (is := [0, 1, 2]) (cells := [(a, zo 10 [.ref lst, .ref it, .int bk]), (lst, zo 14 [.int mq, .ref (kA 5), .int (nI 0)]), (it, zo 15 [.int (nI 0), .int (-1), .int mq, .ref lst, .ref lst])]) rfl rfl)) 0 rfl rfl rfl rfl rfl (Nat.le_of_ble_eq_true rfl) hl.1 ⟨Nat.le_of_ble_eq_true rfl, Nat.le_of_ble_eq_true rfl⟩ ⟨(Nat.le_of_ble_eq_true rfl), (Nat.le_of_ble_eq_true rfl)⟩ dX0_rewind_16) hw (fun u => z_new1 (is := [0, 1, 2]) (cs := [(a, zo 10 [.ref lst, .ref it, .int bk]), (lst, zo 14 [.int mq, .ref (kA 5), .int (nI 0)]), (it, zo 15 [.int (nI 0), .int (-1), .int mq, .ref lst, .ref lst])]) (cs' := [(a, zo 10 [.ref lst, .ref u, .int bk]), (lst, zo 14 [.int mq, .ref (kA 5), .int (nI 0)]), (it, zo 15 [.int (nI 0), .int (-1), .int mq, .ref lst, .ref lst])]) (nw := [(u, zo 15 [.int (nI 0), .int (-1), .int mq, .ref lst, .ref lst])]) rfl rfl rfl) (fun r u H locs hp hw => ?_)
      obtain ⟨it2, rfl⟩ : ∃ z, z = u := ⟨_, rfl⟩
      have hw : zS G ((it2, zo 15 [.int (nI 0), .int (-1), .int mq, .ref lst, .ref lst]) :: (a, zo 10 [.ref lst, .ref it2, .int bk]) :: (lst, zo 14 [.int mq, .ref (kA 5), .int (nI 0)]) :: (it, zo 15 [.int (nI 0), .int (-1), .int mq, .ref lst, .ref lst]) :: (co, zo 0 (cF w mn bm sm lt)) :: (w 7, zc G 6 (zO 3 tf)) :: (pwX 3 ts t ++ rest)) s H locs := hw
      obtain rfl := hp
      have hw : zS G ((it, zo 15 [.int (nI 0), .int (-1), .int mq, .ref lst, .ref lst]) :: (it2, zo 15 [.int (nI 0), .int (-1), .int mq, .ref lst, .ref lst]) :: (a, zo 10 [.ref lst, .ref it2, .int bk]) :: (lst, zo 14 [.int mq, .ref (kA 5), .int (nI 0)]) :: (co, zo 0 (cF w mn bm sm lt)) :: (w 7, zc G 6 (zO 3 tf)) :: (pwX 3 ts t ++ rest)) s H locs := hw.perm (((z_cut (is := [3, 0, 1, 2, 4, 5]) (ws := [(it2, zo 15 [.int (nI 0), .int (-1), .int mq, .ref lst, .ref lst]), (a, zo 10 [.ref lst, .ref it2, .int bk]), (lst, zo 14 [.int mq, .ref (kA 5), .int (nI 0)]), (it, zo 15 [.int (nI 0), .int (-1), .int mq, .ref lst, .ref lst]), (co, zo 0 (cF w mn bm sm lt)), (w 7, zc G 6 (zO 3 tf))]) (cells := [(it, zo 15 [.int (nI 0), .int (-1), .int mq, .ref lst, .ref lst]), (it2, zo 15 [.int (nI 0), .int (-1), .int mq, .ref lst, .ref lst]), (a, zo 10 [.ref lst, .ref it2, .int bk]), (lst, zo 14 [.int mq, .ref (kA 5), .int (nI 0)]), (co, zo 0 (cF w mn bm sm lt)), (w 7, zc G 6 (zO 3 tf))]) rfl rfl).append_right (pwX 3 ts t ++ rest)).trans (by rw [List.append_assoc]; exact List.Perm.refl _))
      have hw := hw.drop
      have hw : zS G ((a, zo 10 [.ref lst, .ref it2, .int bk]) :: (lst, zo 14 [.int mq, .ref (kA 5), .int (nI 0)]) :: (it2, zo 15 [.int (nI 0), .int (-1), .int mq, .ref lst, .ref lst]) :: (co, zo 0 (cF w mn bm sm lt)) :: (w 7, zc G 6 (zO 3 tf)) :: (pwX 3 ts t ++ rest)) s H locs := hw.perm (((z_cut (is := [1, 2, 0, 3, 4]) (ws := [(it2, zo 15 [.int (nI 0), .int (-1), .int mq, .ref lst, .ref lst]), (a, zo 10 [.ref lst, .ref it2, .int bk]), (lst, zo 14 [.int mq, .ref (kA 5), .int (nI 0)]), (co, zo 0 (cF w mn bm sm lt)), (w 7, zc G 6 (zO 3 tf))]) (cells := [(a, zo 10 [.ref lst, .ref it2, .int bk]), (lst, zo 14 [.int mq, .ref (kA 5), .int (nI 0)]), (it2, zo 15 [.int (nI 0), .int (-1), .int mq, .ref lst, .ref lst]), (co, zo 0 (cF w mn bm sm lt)), (w 7, zc G 6 (zO 3 tf))]) rfl rfl).append_right (pwX 3 ts t ++ rest)).trans (by rw [List.append_assoc]; exact List.Perm.refl _))
      have hw : zS G ((co, zo 0 (cF w mn bm sm lt)) :: (w 7, zc G 6 (zO 3 tf)) :: (pw 3 (va_up ts t ([(a, zo 10 [.ref lst, .ref it2, .int bk]), (lst, zo 14 [.int mq, .ref (kA 5), .int (nI 0)]), (it2, zo 15 [.int (nI 0), .int (-1), .int mq, .ref lst, .ref lst])] ++ [])) ++ rest)) s H locs := hw.perm (sl_close (E := [(co, zo 0 (cF w mn bm sm lt)), (w 7, zc G 6 (zO 3 tf))]) (C := [(a, zo 10 [.ref lst, .ref it2, .int bk]), (lst, zo 14 [.int mq, .ref (kA 5), .int (nI 0)]), (it2, zo 15 [.int (nI 0), .int (-1), .int mq, .ref lst, .ref lst])]) (P := []) (sl := ts) ht3)
      have hF : F_rewind A (nI t) = (nI 0, sT A t (some ([], 0, none))) := by unfold F_rewind; rw [ifP_t ⟨t, ht0, ht2, rfl⟩, cl_nI (by omega), hat]
      exact hend _ _ _ _ _ _ _ (tf, (va_up ts t ([(a, zo 10 [.ref lst, .ref it2, .int bk]), (lst, zo 14 [.int mq, .ref (kA 5), .int (nI 0)]), (it2, zo 15 [.int (nI 0), .int (-1), .int mq, .ref lst, .ref lst])] ++ []))) hw (by rw [hF]; exact ⟨rfl, (trR_up2 hT htf ⟨lst, it2, kA 5, 0, fun _ => none, [], mq, bk, [], rfl, fun k hk => absurd hk (Nat.not_lt_zero _), Or.inl ⟨rfl, rfl, rfl⟩, fun p hp => (nomatch hp), hbk, rfl⟩)⟩) (Nat.le_of_ble_eq_true rfl) (Nat.le_of_ble_eq_true rfl) dX0_rewind_19
    · skip
      rw [htf]
      show W p l e (zR 262 1 8) s m args below meth c H locs 0 0 Q (F0 m 16 ls [.ref a])
      have hw : zS G ((a, zo 10 [.ref lst, .ref it, .int bk]) :: (lst, zo 14 [.int mq, .ref ed, .int (nI l9.length)]) :: (it, zo 15 [.int (nI cu), .int (optI c9), .int mq, .ref lst, .ref lst]) :: (ed, zc G 4 (zO cap ef)) :: (co, zo 0 (cF w mn bm sm lt)) :: (w 7, zc G 6 (zO 3 tf)) :: (elW els ++ (pwX 3 ts t ++ rest))) s H locs := hw.perm (sl_open (E := [(co, zo 0 (cF w mn bm sm lt)), (w 7, zc G 6 (zO 3 tf))]) (C := [(a, zo 10 [.ref lst, .ref it, .int bk]), (lst, zo 14 [.int mq, .ref ed, .int (nI l9.length)]), (it, zo 15 [.int (nI cu), .int (optI c9), .int mq, .ref lst, .ref lst]), (ed, zc G 4 (zO cap ef))]) (P := elW els) ht3 hxb)
      have hl : lv_has ls 3 [(0, .ref co), (1, .int (nI t))] := hl
      have hw : zS G ((a, zo 10 [.ref lst, .ref it, .int bk]) :: (lst, zo 14 [.int mq, .ref ed, .int (nI l9.length)]) :: (it, zo 15 [.int (nI cu), .int (optI c9), .int mq, .ref lst, .ref lst]) :: (ed, zc G 4 (zO cap ef)) :: (co, zo 0 (cF w mn bm sm lt)) :: (w 7, zc G 6 (zO 3 tf)) :: (elW els ++ (pwX 3 ts t ++ rest))) s H locs := hw
      refine z_ci (z_runV (As := []) (rest := []) hC zv_X0_335 (m_X11_rewind G l kA (by first | assumption | (omega)) lst ed l9.length mq a bk it cu (optI c9) (zrem [0, 1, 2] _)) hw (hw.perm (z_cut (is := [0, 1, 2]) (cells := [(a, zo 10 [.ref lst, .ref it, .int bk]), (lst, zo 14 [.int mq, .ref ed, .int (nI l9.length)]), (it, zo 15 [.int (nI cu), .int (optI c9), .int mq, .ref lst, .ref lst])]) rfl rfl)) 0 rfl rfl rfl rfl rfl (Nat.le_of_ble_eq_true rfl) hl.1 ⟨Nat.le_of_ble_eq_true rfl, Nat.le_of_ble_eq_true rfl⟩ ⟨(Nat.le_of_ble_eq_true rfl), (Nat.le_of_ble_eq_true rfl)⟩ dX0_rewind_16) hw (fun u => z_new1 (is := [0, 1, 2]) (cs := [(a, zo 10 [.ref lst, .ref it, .int bk]), (lst, zo 14 [.int mq, .ref ed, .int (nI l9.length)]), (it, zo 15 [.int (nI cu), .int (optI c9), .int mq, .ref lst, .ref lst])]) (cs' := [(a, zo 10 [.ref lst, .ref u, .int bk]), (lst, zo 14 [.int mq, .ref ed, .int (nI l9.length)]), (it, zo 15 [.int (nI cu), .int (optI c9), .int mq, .ref lst, .ref lst])]) (nw := [(u, zo 15 [.int (nI 0), .int (-1), .int mq, .ref lst, .ref lst])]) rfl rfl rfl) (fun r u H locs hp hw => ?_)
      obtain ⟨it2, rfl⟩ : ∃ z, z = u := ⟨_, rfl⟩
      have hw : zS G ((it2, zo 15 [.int (nI 0), .int (-1), .int mq, .ref lst, .ref lst]) :: (a, zo 10 [.ref lst, .ref it2, .int bk]) :: (lst, zo 14 [.int mq, .ref ed, .int (nI l9.length)]) :: (it, zo 15 [.int (nI cu), .int (optI c9), .int mq, .ref lst, .ref lst]) :: (ed, zc G 4 (zO cap ef)) :: (co, zo 0 (cF w mn bm sm lt)) :: (w 7, zc G 6 (zO 3 tf)) :: (elW els ++ (pwX 3 ts t ++ rest))) s H locs := hw
      obtain rfl := hp
      have hw : zS G ((it, zo 15 [.int (nI cu), .int (optI c9), .int mq, .ref lst, .ref lst]) :: (it2, zo 15 [.int (nI 0), .int (-1), .int mq, .ref lst, .ref lst]) :: (a, zo 10 [.ref lst, .ref it2, .int bk]) :: (lst, zo 14 [.int mq, .ref ed, .int (nI l9.length)]) :: (ed, zc G 4 (zO cap ef)) :: (co, zo 0 (cF w mn bm sm lt)) :: (w 7, zc G 6 (zO 3 tf)) :: (elW els ++ (pwX 3 ts t ++ rest))) s H locs := hw.perm (((z_cut (is := [3, 0, 1, 2, 4, 5, 6]) (ws := [(it2, zo 15 [.int (nI 0), .int (-1), .int mq, .ref lst, .ref lst]), (a, zo 10 [.ref lst, .ref it2, .int bk]), (lst, zo 14 [.int mq, .ref ed, .int (nI l9.length)]), (it, zo 15 [.int (nI cu), .int (optI c9), .int mq, .ref lst, .ref lst]), (ed, zc G 4 (zO cap ef)), (co, zo 0 (cF w mn bm sm lt)), (w 7, zc G 6 (zO 3 tf))]) (cells := [(it, zo 15 [.int (nI cu), .int (optI c9), .int mq, .ref lst, .ref lst]), (it2, zo 15 [.int (nI 0), .int (-1), .int mq, .ref lst, .ref lst]), (a, zo 10 [.ref lst, .ref it2, .int bk]), (lst, zo 14 [.int mq, .ref ed, .int (nI l9.length)]), (ed, zc G 4 (zO cap ef)), (co, zo 0 (cF w mn bm sm lt)), (w 7, zc G 6 (zO 3 tf))]) rfl rfl).append_right (elW els ++ (pwX 3 ts t ++ rest))).trans (by rw [List.append_assoc]; exact List.Perm.refl _))
      have hw := hw.drop
      have hw : zS G ((it2, zo 15 [.int (nI 0), .int (-1), .int mq, .ref lst, .ref lst]) :: (a, zo 10 [.ref lst, .ref it2, .int bk]) :: (lst, zo 14 [.int mq, .ref ed, .int (nI l9.length)]) :: (ed, zc G 4 (zO cap ef)) :: (co, zo 0 (cF w mn bm sm lt)) :: (w 7, zc G 6 (zO 3 tf)) :: (pwX 3 ts t ++ (elW els ++ rest))) s H locs := hw.perm (((z_mv1 (elW els) (pwX 3 ts t) rest)).append_left [(it2, zo 15 [.int (nI 0), .int (-1), .int mq, .ref lst, .ref lst]), (a, zo 10 [.ref lst, .ref it2, .int bk]), (lst, zo 14 [.int mq, .ref ed, .int (nI l9.length)]), (ed, zc G 4 (zO cap ef)), (co, zo 0 (cF w mn bm sm lt)), (w 7, zc G 6 (zO 3 tf))])
      have hw : zS G ((it2, zo 15 [.int (nI 0), .int (-1), .int mq, .ref lst, .ref lst]) :: (a, zo 10 [.ref lst, .ref it2, .int bk]) :: (lst, zo 14 [.int mq, .ref ed, .int (nI l9.length)]) :: (ed, zc G 4 (zO cap ef)) :: (co, zo 0 (cF w mn bm sm lt)) :: (w 7, zc G 6 (zO 3 tf)) :: (elW els ++ (pwX 3 ts t ++ rest))) s H locs := hw.perm (((z_mv1 (pwX 3 ts t) (elW els) rest)).append_left [(it2, zo 15 [.int (nI 0), .int (-1), .int mq, .ref lst, .ref lst]), (a, zo 10 [.ref lst, .ref it2, .int bk]), (lst, zo 14 [.int mq, .ref ed, .int (nI l9.length)]), (ed, zc G 4 (zO cap ef)), (co, zo 0 (cF w mn bm sm lt)), (w 7, zc G 6 (zO 3 tf))])
      have hw : zS G ((a, zo 10 [.ref lst, .ref it2, .int bk]) :: (lst, zo 14 [.int mq, .ref ed, .int (nI l9.length)]) :: (it2, zo 15 [.int (nI 0), .int (-1), .int mq, .ref lst, .ref lst]) :: (ed, zc G 4 (zO cap ef)) :: (co, zo 0 (cF w mn bm sm lt)) :: (w 7, zc G 6 (zO 3 tf)) :: (elW els ++ (pwX 3 ts t ++ rest))) s H locs := hw.perm (((z_cut (is := [1, 2, 0, 3, 4, 5]) (ws := [(it2, zo 15 [.int (nI 0), .int (-1), .int mq, .ref lst, .ref lst]), (a, zo 10 [.ref lst, .ref it2, .int bk]), (lst, zo 14 [.int mq, .ref ed, .int (nI l9.length)]), (ed, zc G 4 (zO cap ef)), (co, zo 0 (cF w mn bm sm lt)), (w 7, zc G 6 (zO 3 tf))]) (cells := [(a, zo 10 [.ref lst, .ref it2, .int bk]), (lst, zo 14 [.int mq, .ref ed, .int (nI l9.length)]), (it2, zo 15 [.int (nI 0), .int (-1), .int mq, .ref lst, .ref lst]), (ed, zc G 4 (zO cap ef)), (co, zo 0 (cF w mn bm sm lt)), (w 7, zc G 6 (zO 3 tf))]) rfl rfl).append_right (elW els ++ (pwX 3 ts t ++ rest))).trans (by rw [List.append_assoc]; exact List.Perm.refl _))
      have hw : zS G ((co, zo 0 (cF w mn bm sm lt)) :: (w 7, zc G 6 (zO 3 tf)) :: (pw 3 (va_up ts t ([(a, zo 10 [.ref lst, .ref it2, .int bk]), (lst, zo 14 [.int mq, .ref ed, .int (nI l9.length)]), (it2, zo 15 [.int (nI 0), .int (-1), .int mq, .ref lst, .ref lst]), (ed, zc G 4 (zO cap ef))] ++ elW els)) ++ rest)) s H locs := hw.perm (sl_close (E := [(co, zo 0 (cF w mn bm sm lt)), (w 7, zc G 6 (zO 3 tf))]) (C := [(a, zo 10 [.ref lst, .ref it2, .int bk]), (lst, zo 14 [.int mq, .ref ed, .int (nI l9.length)]), (it2, zo 15 [.int (nI 0), .int (-1), .int mq, .ref lst, .ref lst]), (ed, zc G 4 (zO cap ef))]) (P := elW els) (sl := ts) ht3)
      have hF : F_rewind A (nI t) = (nI cu, sT A t (some (l9, 0, none))) := by unfold F_rewind; rw [ifP_t ⟨t, ht0, ht2, rfl⟩, cl_nI (by omega), hat]
      exact hend _ _ _ _ _ _ _ (tf, (va_up ts t ([(a, zo 10 [.ref lst, .ref it2, .int bk]), (lst, zo 14 [.int mq, .ref ed, .int (nI l9.length)]), (it2, zo 15 [.int (nI 0), .int (-1), .int mq, .ref lst, .ref lst]), (ed, zc G 4 (zO cap ef))] ++ elW els))) hw (by rw [hF]; exact ⟨rfl, (trR_up2 hT htf ⟨lst, it2, ed, cap, ef, els, mq, bk, [(ed, zc G 4 (zO cap ef))], hle, hla, Or.inr ⟨rfl, hcap, hcp2⟩, fun p hp => (nomatch hp), hbk, rfl⟩)⟩) (Nat.le_of_ble_eq_true rfl) (Nat.le_of_ble_eq_true rfl) dX0_rewind_19
  · skip
    refine lv_bipush (v := (-2)) hx hb dX0_rewind_7 zb_m2 ?_
    have hF : F_rewind A x = (-2, A) := by exact ifP_f c_4
    exact hend _ _ _ _ _ _ _ (tf, ts) hw (by rw [hF]; exact ⟨rfl, hT⟩) (Nat.le_of_ble_eq_true rfl) (Nat.le_of_ble_eq_true rfl) dX0_rewind_9
