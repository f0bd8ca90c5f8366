/-! READER: clauses -/
set_option maxRecDepth 100000
theorem z_drp {is : List Nat} {ws cells rem N : va_W} (hn : va_nd is = true) (h : is.map (fun i => ws[i]?) = cells.map some) (h2 : ws.Perm (cells ++ rem)) : (N ++ zrem is ws).Perm (N ++ rem) := ((List.perm_append_left_iff cells).mp ((z_cut hn h).symm.trans h2)).append_left N
theorem nI_m1 {x : Nat} (h : x < 1073741824) : ¬ nI x = -1 := by
  intro q
  have e := congrArg Int32.toInt q
  rw [nI_toInt (by omega)] at e
  have : (-1 : Int32).toInt = -1 := by decide
  omega
theorem bt_nI {c d : Nat} (hc : c < 256) (hd : d < 123) : btL c = nI d ↔ c = d := by
  have key : ∀ c : Fin 256, ∀ d : Fin 123, btL c.1 = nI d.1 ↔ c.1 = d.1 := by decide +kernel
  exact key ⟨c, hc⟩ ⟨d, hd⟩
theorem hd_eq : ∀ h, h < 8 → hdB.getD h [] = heads.getD h [] := by decide
theorem hd_low : ∀ h, h < 8 → 0 < (heads.getD h []).length ∧ ∀ i, i < (heads.getD h []).length → 97 ≤ (heads.getD h []).getD i 0 ∧ (heads.getD h []).getD i 0 ≤ 122 := by decide
theorem tH_w {tx : Nat → Nat} {n p h : Nat} {g : Nat → Int32} (hp : p ≤ n) (htx : ∀ k, k < n → tx k < 256) (hg : ∀ j, j < wL tx n p → g j = btL (tx (tF tx n p + j))) (hh : h < 8) : (wL tx n p = (hdB.getD h []).length ∧ ∀ i, i < wL tx n p → g i = nI ((hdB.getD h []).getD i 0)) ↔ tH tx n p h := by
  rw [hd_eq h hh]
  obtain ⟨hl0, hlo⟩ := hd_low h hh
  have hin : ∀ j, j < wL tx n p → tx (tF tx n p + j) < 256 := fun j hj => htx _ (by have := tS_le (tx := tx) hp; unfold wL at hj; omega)
  constructor
  · intro ⟨e, k⟩
    have hf : tF tx n p < n := wL_in.mp (by omega)
    have let1 : ∀ i, i < wL tx n p → tx (tF tx n p + i) = (heads.getD h []).getD i 0 := fun i hi => (bt_nI (hin i hi) (by have := hlo i (by omega); omega)).mp ((hg i hi).symm.trans (k i hi))
    have h0 := let1 0 (by omega)
    have l0 := hlo 0 hl0
    rw [Nat.add_zero] at h0
    have hk : tK tx n p = 1 := by
      rw [tK_c hf, h0]
      unfold clsN
      rw [if_pos (isSm_iff.mpr l0)]
    refine ⟨hk, ?_, fun m hm => let1 m (by omega)⟩
    rw [← wL_tL (Or.inl hk), e]
  · intro ⟨hk, hl, k⟩
    rw [wL_tL (Or.inl hk)]
    refine ⟨hl, fun i hi => ?_⟩
    rw [hg i (by rw [wL_tL (Or.inl hk)]; exact hi)]
    have hi2 : i < (heads.getD h []).length := by omega
    exact (bt_nI (hin i (by rw [wL_tL (Or.inl hk)]; exact hi)) (by have := hlo i hi2; omega)).mpr (k i hi2)
/-- what a clause of len ints g makes of v -/
def okC (v v2 : Nat → Nat) (len : Nat) (g : Nat → Int32) : Prop :=
  (len = 1 ∧ g 0 = nI 5 ∧ v2 = fun _ => 0) ∨ (len = 3 ∧ ∃ k x y, k < 5 ∧ x < 20 ∧ 1 ≤ y ∧ y < 10 ∧ v 1 ≠ 5 ∧ g 0 = nI k ∧ g 1 = nI x ∧ g 2 = nI y ∧ v2 = putQ v k x y) ∨ (len = 3 ∧ ∃ x y, x < 20 ∧ y < 100 ∧ v 0 ≠ 9 ∧ g 0 = nI 6 ∧ g 1 = nI x ∧ g 2 = nI y ∧ v2 = putP v x y) ∨ (len = 3 ∧ ∃ x y, x < v 1 ∧ y < v 0 ∧ g 0 = nI 7 ∧ g 1 = nI x ∧ g 2 = nI y ∧ v2 = putK v x y)
theorem putQ_c {v : Nat → Nat} {k x y : Nat} : putQ v k x y 0 = v 0 ∧ putQ v k x y 1 = v 1 + 1 := by
  unfold putQ updN
  refine ⟨?_, if_pos rfl⟩
  rw [if_neg (by decide), if_neg (by omega), if_neg (by omega), if_neg (by omega)]
theorem putP_c {v : Nat → Nat} {x y : Nat} : putP v x y 0 = v 0 + 1 ∧ putP v x y 1 = v 1 := by
  unfold putP updN
  refine ⟨if_pos rfl, ?_⟩
  rw [if_neg (by decide), if_neg (by omega), if_neg (by omega)]
theorem putK_c {v : Nat → Nat} {x y : Nat} : putK v x y 0 = v 0 ∧ putK v x y 1 = v 1 := by
  unfold putK updN
  exact ⟨if_neg (by omega), if_neg (by omega)⟩
theorem two_ok {tx : Nat → Nat} {n p l1 h1 l2 h2 : Nat} {k : Nat → Nat → (Nat → Nat)} {r : (Nat → Nat) × Nat} (e : twoN tx n p l1 h1 l2 h2 k = .inr r) : tN tx n (tS tx n p) l1 h1 ∧ tN tx n (tS tx n (tS tx n p)) l2 h2 ∧ r = (k (tQ tx n (tS tx n p)) (tQ tx n (tS tx n (tS tx n p))), tS tx n (tS tx n (tS tx n p))) := by
  rcases Classical.em (tN tx n (tS tx n p) l1 h1) with a | a
  · rcases Classical.em (tN tx n (tS tx n (tS tx n p)) l2 h2) with c | c
    · rw [two_3 a c] at e; injection e with e; exact ⟨a, c, e.symm⟩
    · rw [two_2 a c] at e; cases e
  · rw [two_1 a] at e; cases e
theorem two_no {tx : Nat → Nat} {n p l1 h1 l2 h2 w : Nat} {k : Nat → Nat → (Nat → Nat)} (e : twoN tx n p l1 h1 l2 h2 k = .inl w) : (¬ tN tx n (tS tx n p) l1 h1 ∧ w = tF tx n (tS tx n p)) ∨ (tN tx n (tS tx n p) l1 h1 ∧ ¬ tN tx n (tS tx n (tS tx n p)) l2 h2 ∧ w = tF tx n (tS tx n (tS tx n p))) := by
  rcases Classical.em (tN tx n (tS tx n p) l1 h1) with a | a
  · rcases Classical.em (tN tx n (tS tx n (tS tx n p)) l2 h2) with c | c
    · rw [two_3 a c] at e; cases e
    · rw [two_2 a c] at e; injection e with e; exact Or.inr ⟨a, c, e.symm⟩
  · rw [two_1 a] at e; injection e with e; exact Or.inl ⟨a, e.symm⟩
theorem cl_heads (tx : Nat → Nat) (n p : Nat) : (∃ k, k < 5 ∧ tH tx n p k) ∨ tH tx n p 5 ∨ tH tx n p 6 ∨ tH tx n p 7 ∨ ∀ h, h < 8 → ¬ tH tx n p h := by
  rcases Classical.em (∃ k, k < 5 ∧ tH tx n p k) with a | a
  · exact Or.inl a
  rcases Classical.em (tH tx n p 5) with b | b
  · exact Or.inr (Or.inl b)
  rcases Classical.em (tH tx n p 6) with c | c
  · exact Or.inr (Or.inr (Or.inl c))
  rcases Classical.em (tH tx n p 7) with d | d
  · exact Or.inr (Or.inr (Or.inr (Or.inl d)))
  refine Or.inr (Or.inr (Or.inr (Or.inr (fun h hh q => ?_))))
  rcases (show h < 5 ∨ h = 5 ∨ h = 6 ∨ h = 7 by omega) with e | rfl | rfl | rfl
  · exact a ⟨h, e, q⟩
  · exact b q
  · exact c q
  · exact d q
theorem cl_walk {tx : Nat → Nat} {n p : Nat} {v : Nat → Nat} {r : (Nat → Nat) × Nat} (h : clauseN tx n v p = .inr r) : (tH tx n p 5 ∧ r = (fun _ => 0, tS tx n p)) ∨ (∃ k, k < 5 ∧ tH tx n p k ∧ v 1 ≠ 5 ∧ tN tx n (tS tx n p) 0 20 ∧ tN tx n (tS tx n (tS tx n p)) 1 10 ∧ r = (putQ v k (tQ tx n (tS tx n p)) (tQ tx n (tS tx n (tS tx n p))), tS tx n (tS tx n (tS tx n p))))
    ∨ (tH tx n p 6 ∧ v 0 ≠ 9 ∧ tN tx n (tS tx n p) 0 20 ∧ tN tx n (tS tx n (tS tx n p)) 0 100 ∧ r = (putP v (tQ tx n (tS tx n p)) (tQ tx n (tS tx n (tS tx n p))), tS tx n (tS tx n (tS tx n p)))) ∨ (tH tx n p 7 ∧ tN tx n (tS tx n p) 0 (v 1) ∧ tN tx n (tS tx n (tS tx n p)) 0 (v 0) ∧ r = (putK v (tQ tx n (tS tx n p)) (tQ tx n (tS tx n (tS tx n p))), tS tx n (tS tx n (tS tx n p)))) := by
  rcases cl_heads tx n p with ⟨k, hk, a⟩ | a | a | a | a
  · rw [cl_sq hk a] at h
    by_cases c : v 1 = 5
    · rw [if_pos c] at h; cases h
    · rw [if_neg c] at h
      obtain ⟨x, y, z⟩ := two_ok h
      exact Or.inr (Or.inl ⟨k, hk, a, c, x, y, z⟩)
  · rw [cl_5 a] at h; injection h with h; exact Or.inl ⟨a, h.symm⟩
  · rw [cl_6 a] at h
    by_cases c : v 0 = 9
    · rw [if_pos c] at h; cases h
    · rw [if_neg c] at h
      obtain ⟨x, y, z⟩ := two_ok h
      exact Or.inr (Or.inr (Or.inl ⟨a, c, x, y, z⟩))
  · rw [cl_7 a] at h
    obtain ⟨x, y, z⟩ := two_ok h
    exact Or.inr (Or.inr (Or.inr ⟨a, x, y, z⟩))
  · rw [cl_n (fun ⟨k, hk, q⟩ => a k (by omega) q) (a 5 (by decide)) (a 6 (by decide)) (a 7 (by decide))] at h; cases h
theorem cl_fail {tx : Nat → Nat} {n p w : Nat} {v : Nat → Nat} (h : clauseN tx n v p = .inl w) : ((∀ h, h < 8 → ¬ tH tx n p h) ∧ w = tF tx n p) ∨ (∃ k, k < 5 ∧ tH tx n p k ∧ v 1 = 5 ∧ w = tF tx n p) ∨ (tH tx n p 6 ∧ v 0 = 9 ∧ w = tF tx n p)
    ∨ (∃ k, k < 5 ∧ tH tx n p k ∧ v 1 ≠ 5 ∧ ¬ tN tx n (tS tx n p) 0 20 ∧ w = tF tx n (tS tx n p)) ∨ (∃ k, k < 5 ∧ tH tx n p k ∧ v 1 ≠ 5 ∧ tN tx n (tS tx n p) 0 20 ∧ ¬ tN tx n (tS tx n (tS tx n p)) 1 10 ∧ w = tF tx n (tS tx n (tS tx n p)))
    ∨ (tH tx n p 6 ∧ v 0 ≠ 9 ∧ ¬ tN tx n (tS tx n p) 0 20 ∧ w = tF tx n (tS tx n p)) ∨ (tH tx n p 6 ∧ v 0 ≠ 9 ∧ tN tx n (tS tx n p) 0 20 ∧ ¬ tN tx n (tS tx n (tS tx n p)) 0 100 ∧ w = tF tx n (tS tx n (tS tx n p)))
    ∨ (tH tx n p 7 ∧ ¬ tN tx n (tS tx n p) 0 (v 1) ∧ w = tF tx n (tS tx n p)) ∨ (tH tx n p 7 ∧ tN tx n (tS tx n p) 0 (v 1) ∧ ¬ tN tx n (tS tx n (tS tx n p)) 0 (v 0) ∧ w = tF tx n (tS tx n (tS tx n p))) := by
  rcases cl_heads tx n p with ⟨k, hk, a⟩ | a | a | a | a
  · rw [cl_sq hk a] at h
    by_cases c : v 1 = 5
    · rw [if_pos c] at h; injection h with h; exact Or.inr (Or.inl ⟨k, hk, a, c, h.symm⟩)
    · rw [if_neg c] at h
      rcases two_no h with ⟨x, y⟩ | ⟨x, y, z⟩
      · exact Or.inr (Or.inr (Or.inr (Or.inl ⟨k, hk, a, c, x, y⟩)))
      · exact Or.inr (Or.inr (Or.inr (Or.inr (Or.inl ⟨k, hk, a, c, x, y, z⟩))))
  · rw [cl_5 a] at h; cases h
  · rw [cl_6 a] at h
    by_cases c : v 0 = 9
    · rw [if_pos c] at h; injection h with h; exact Or.inr (Or.inr (Or.inl ⟨a, c, h.symm⟩))
    · rw [if_neg c] at h
      rcases two_no h with ⟨x, y⟩ | ⟨x, y, z⟩
      · exact Or.inr (Or.inr (Or.inr (Or.inr (Or.inr (Or.inl ⟨a, c, x, y⟩)))))
      · exact Or.inr (Or.inr (Or.inr (Or.inr (Or.inr (Or.inr (Or.inl ⟨a, c, x, y, z⟩))))))
  · rw [cl_7 a] at h
    rcases two_no h with ⟨x, y⟩ | ⟨x, y, z⟩
    · exact Or.inr (Or.inr (Or.inr (Or.inr (Or.inr (Or.inr (Or.inr (Or.inl ⟨a, x, y⟩)))))))
    · exact Or.inr (Or.inr (Or.inr (Or.inr (Or.inr (Or.inr (Or.inr (Or.inr ⟨a, x, y, z⟩)))))))
  · rw [cl_n (fun ⟨k, hk, q⟩ => a k (by omega) q) (a 5 (by decide)) (a 6 (by decide)) (a 7 (by decide))] at h; injection h with h; exact Or.inl ⟨a, h.symm⟩
theorem zs_X3_120 : zSs RX3 120 yJ0_asList cJ0_asList 1 (some (.object "java/util/List")) 1 := ⟨lw_S q475 q476 q52 q477, ⟨by decide +kernel, by decide +kernel⟩, by decide +kernel⟩
theorem zif_X3_126_16 : zIf RX3 126 "java/util/Arrays$ArrayList" (⟨"java/util/List", "indexOf", "(Ljava/lang/Object;)I"⟩ : MethodName) yJ11_indexOf 1 := ⟨q592, q642, q644, q65, ⟨by decide +kernel, by decide +kernel⟩, by decide +kernel⟩
theorem zf_X3_25_3 : zFl 3 3 RX3 25 false .int := ⟨RX3, TX3, 8, tyX3, rfl, by decide, in_X3, q243, rfl, by decide +kernel, tyX3_ok, nmX3⟩
theorem zf_X3_37_3 : zFl 3 4 RX3 37 false .int := ⟨RX3, TX3, 8, tyX3, rfl, by decide, in_X3, q244, rfl, by decide +kernel, tyX3_ok, nmX3⟩
theorem zv_X3_132 : zVs RX3 132 yX3_number cX3_number 4 (some .int) 2 := ⟨lw_V q676 q678 qs7 q54 q679, ⟨by decide +kernel, by decide +kernel⟩, by decide +kernel⟩
set_option maxHeartbeats 4000000 in
theorem m_X3_clause_ok (G : zE) (l : Launch) (kA : Nat → Nat) (hG : zG G kA) (hS : zS9 G kA) (hY : zY G) (rd : Nat) (co : Nat) (wd : Nat) (cl : Nat) (p0 : Nat) (n : Nat) (re : Nat) (fs : Int32) (w : Nat → Nat) (v : Nat → Nat) (mn : Int32) (bm : Int32) (sm : Int32) (xf : Nat → Int32) (tx : Nat → Nat) (hn2 : n ≤ 200) (htx : ∀ k, k < n → tx k < 256) (hxf : ∀ k, k < n → xf k = btL (tx k)) (hpo : p0 ≤ n) (hv0 : v 0 ≤ 9) (hv1 : v 1 ≤ 5) (r : (Nat → Nat) × Nat) (hr : clauseN tx n v p0 = .inr r) (rest : va_W) : zMq G l yX3_clause cX3_clause 2 (some (.array .int)) 9 93 3312 [.ref rd] ((rd, zo 3 [.int (nI p0), .int fs, .ref wd, .int (nI (v 1)), .int (nI (v 0)), .ref cl, .int (nI re), .ref co]) :: (co, zo 0 (cF w mn bm sm (nI n))) :: (w 8, zc G 1 (zI 200 xf)) :: rest) (fun (r9 : Option Nat) u => r9 = some u.2.1 ∧ okC v r.1 u.2.2.1 u.2.2.2.2) (fun (u : Nat × Nat × Nat × Int32 × (Nat → Int32)) => (u.2.1, zc G 0 (zI u.2.2.1 u.2.2.2.2)) :: (rd, zo 3 [.int (nI r.2), .int u.2.2.2.1, .ref u.1, .int (nI (r.1 1)), .int (nI (r.1 0)), .ref cl, .int (nI re), .ref co]) :: (co, zo 0 (cF w mn bm sm (nI n))) :: (w 8, zc G 1 (zI 200 xf)) :: rest) := by
  refine z_begQ (by first | exact Or.inl ⟨_, rfl⟩ | exact Or.inr ⟨_, rfl⟩) (by decide) (Nat.le_of_ble_eq_true rfl) (fun p e s m args below meth c ls Q hC hl hw hend => ?_)
  have hx := hC.hx
  have hb := hC.hb
  have hl : lv_has ls 2 [(0, .ref rd)] := hl
  have hw : zS G ((rd, zo 3 [.int (nI p0), .int fs, .ref wd, .int (nI (v 1)), .int (nI (v 0)), .ref cl, .int (nI re), .ref co]) :: (co, zo 0 (cF w mn bm sm (nI n))) :: (w 8, zc G 1 (zI 200 xf)) :: rest) s s.heap [] := hw
  have hz := hG s hC.hZ.1
  have hzs := hS s hC.hZ.1
  have hzy := hY s hC.hZ.1
  refine lv_aload_n hx hb dX3_clause_0 rfl (lv_at hl 0 rfl) ?_
  refine z_cv (z_runV (As := []) (rest := []) hC zv_X3_91 (m_X3_take G l kA (by first | assumption | (omega)) (by first | assumption | (omega)) rd co wd cl p0 n (v 1) (v 0) re fs w mn bm sm xf tx (by omega) (by first | assumption | (omega)) (by first | assumption | (omega)) (by omega) (zrem [0, 1, 2] _)) hw (hw.perm (z_cut (is := [0, 1, 2]) (cells := [(rd, zo 3 [.int (nI p0), .int fs, .ref wd, .int (nI (v 1)), .int (nI (v 0)), .ref cl, .int (nI re), .ref co]), (co, zo 0 (cF w mn bm sm (nI n))), (w 8, zc G 1 (zI 200 xf))]) rfl rfl)) 0 rfl rfl rfl rfl rfl (Nat.le_of_ble_eq_true rfl) hl.1 ⟨Nat.le_of_ble_eq_true rfl, Nat.le_of_ble_eq_true rfl⟩ ⟨(Nat.le_of_ble_eq_true rfl), (Nat.le_of_ble_eq_true rfl)⟩ dX3_clause_1) hw (fun u => z_new1 (is := [0, 1, 2]) (cs := [(rd, zo 3 [.int (nI p0), .int fs, .ref wd, .int (nI (v 1)), .int (nI (v 0)), .ref cl, .int (nI re), .ref co]), (co, zo 0 (cF w mn bm sm (nI n))), (w 8, zc G 1 (zI 200 xf))]) (cs' := [(rd, zo 3 [.int (nI (tS tx n p0)), .int (nI (tF tx n p0)), .ref u.1, .int (nI (v 1)), .int (nI (v 0)), .ref cl, .int (nI re), .ref co]), (co, zo 0 (cF w mn bm sm (nI n))), (w 8, zc G 1 (zI 200 xf))]) (nw := [(u.1, zo 12 [.ref u.2.1, .int (nI 0), .int 0, .int 0]), (u.2.1, zc G 1 (zI (wL tx n p0) u.2.2))]) rfl rfl rfl) (fun u H locs hp hw => ?_)
  obtain ⟨sr, sv, g4⟩ := u
  have hw : zS G ((sr, zo 12 [.ref sv, .int (nI 0), .int 0, .int 0]) :: (sv, zc G 1 (zI (wL tx n p0) g4)) :: (rd, zo 3 [.int (nI (tS tx n p0)), .int (nI (tF tx n p0)), .ref sr, .int (nI (v 1)), .int (nI (v 0)), .ref cl, .int (nI re), .ref co]) :: (co, zo 0 (cF w mn bm sm (nI n))) :: (w 8, zc G 1 (zI 200 xf)) :: rest) s H locs := hw
  have hg4 := hp
  have hg4 : ∀ j, j < wL tx n p0 → g4 j = btL (tx (tF tx n p0 + j)) := hg4
  have hwn : wL tx n p0 ≤ n := wL_lt hpo
  refine z_getsN (v := .ref (kA 0)) hC hzs.1.1 hw (hz.1 _ (cw_t q473 rfl)) dX3_clause_4 ?_
  refine z_cq (z_runS (As := [.ref (kA 0)]) (rest := []) hC zs_X3_120 (m_J0_asList G l kA (by first | assumption | (omega)) (by first | assumption | (omega)) _) hw rfl rfl (Nat.le_of_ble_eq_true rfl) hl.1 ⟨Nat.le_of_ble_eq_true rfl, Nat.le_of_ble_eq_true rfl⟩ ⟨(Nat.le_of_ble_eq_true rfl), (Nat.le_of_ble_eq_true rfl)⟩ dX3_clause_7) hw (fun _ => List.Perm.refl _) (fun r u H locs hp hw => ?_)
  obtain ⟨al, rfl⟩ : ∃ z, z = u := ⟨_, rfl⟩
  have hw : zS G ((al, zo 16 [.int 0, .ref (kA 0)]) :: (sr, zo 12 [.ref sv, .int (nI 0), .int 0, .int 0]) :: (sv, zc G 1 (zI (wL tx n p0) g4)) :: (rd, zo 3 [.int (nI (tS tx n p0)), .int (nI (tF tx n p0)), .ref sr, .int (nI (v 1)), .int (nI (v 0)), .ref cl, .int (nI re), .ref co]) :: (co, zo 0 (cF w mn bm sm (nI n))) :: (w 8, zc G 1 (zI 200 xf)) :: rest) s H locs := hw
  obtain rfl := hp
  refine lv_aload_n hx hb dX3_clause_10 rfl (lv_at hl 0 rfl) ?_
  refine z_get (v := .ref sr) hC zf_X3_17_3 hw 3 rfl rfl dX3_clause_11 ?_
  rcases cl_walk hr with ⟨hth, hre⟩ | ⟨k, hk, hth, h51, hN1, hN2, hre⟩ | ⟨hth, h90, hN1, hN2, hre⟩ | ⟨hth, hN1, hN2, hre⟩
  · skip
    have hl : lv_has ls 2 [(0, .ref rd)] := hl
    refine z_c5i (z_runF (As := [.ref sr]) (rest := []) hC zif_X3_126_16 q646 ⟨hz.1 _ (cw_t q594 rfl), hz.1 _ (cw_t q593 rfl), hz.1 _ (cw_t q645 rfl), hz.1 _ (cw_t q643 rfl), hz.1 _ (cw_t q641 rfl)⟩ (m_J11_indexOf_y G l kA (by first | assumption | (omega)) (by first | assumption | (omega)) al sr sv (wL tx n p0) g4 (by omega) 5 (by omega) ((tH_w hpo htx hg4 (show 5 < 8 by omega)).mpr hth) (fun j hj q => absurd (tH_1 (show j < 8 by omega) (show 5 < 8 by omega) ((tH_w hpo htx hg4 (show j < 8 by omega)).mp q) hth) (by omega)) (zrem [0, 1, 2] _)) hw (hw.perm (z_cut (is := [0, 1, 2]) (cells := [(al, zo 16 [.int 0, .ref (kA 0)]), (sr, zo 12 [.ref sv, .int (nI 0), .int 0, .int 0]), (sv, zc G 1 (zI (wL tx n p0) g4))]) rfl rfl)) 0 rfl rfl rfl rfl rfl (Nat.le_of_ble_eq_true rfl) hl.1 ⟨Nat.le_of_ble_eq_true rfl, Nat.le_of_ble_eq_true rfl⟩ ⟨(Nat.le_of_ble_eq_true rfl), (Nat.le_of_ble_eq_true rfl)⟩ dX3_clause_14) hw (fun _ => z_keep (is := [0, 1, 2]) (cs := [(al, zo 16 [.int 0, .ref (kA 0)]), (sr, zo 12 [.ref sv, .int (nI 0), .int 0, .int 0]), (sv, zc G 1 (zI (wL tx n p0) g4))]) rfl rfl) (fun r u H locs hp hw => ?_)
    obtain rfl : r = nI 5 := hp
    have hw : zS G ((sr, zo 12 [.ref sv, .int (nI 0), .int 0, .int 0]) :: (sv, zc G 1 (zI (wL tx n p0) g4)) :: (al, zo 16 [.int 0, .ref (kA 0)]) :: (rd, zo 3 [.int (nI (tS tx n p0)), .int (nI (tF tx n p0)), .ref sr, .int (nI (v 1)), .int (nI (v 0)), .ref cl, .int (nI re), .ref co]) :: (co, zo 0 (cF w mn bm sm (nI n))) :: (w 8, zc G 1 (zI 200 xf)) :: rest) s H locs := hw.perm (((z_cut (is := [1, 2, 0, 3, 4, 5]) (ws := [(al, zo 16 [.int 0, .ref (kA 0)]), (sr, zo 12 [.ref sv, .int (nI 0), .int 0, .int 0]), (sv, zc G 1 (zI (wL tx n p0) g4)), (rd, zo 3 [.int (nI (tS tx n p0)), .int (nI (tF tx n p0)), .ref sr, .int (nI (v 1)), .int (nI (v 0)), .ref cl, .int (nI re), .ref co]), (co, zo 0 (cF w mn bm sm (nI n))), (w 8, zc G 1 (zI 200 xf))]) (cells := [(sr, zo 12 [.ref sv, .int (nI 0), .int 0, .int 0]), (sv, zc G 1 (zI (wL tx n p0) g4)), (al, zo 16 [.int 0, .ref (kA 0)]), (rd, zo 3 [.int (nI (tS tx n p0)), .int (nI (tF tx n p0)), .ref sr, .int (nI (v 1)), .int (nI (v 0)), .ref cl, .int (nI re), .ref co]), (co, zo 0 (cF w mn bm sm (nI n))), (w 8, zc G 1 (zI 200 xf))]) rfl rfl).append_right rest).trans (by rw [List.append_assoc]; exact List.Perm.refl _))
    have hw := hw.drop
    have hw := hw.drop
    have hw := hw.drop
    refine lv_istore_n (lv' := [(1, .int (nI 5)), (0, .ref rd)]) hx hb dX3_clause_19 rfl hl (by decide) rfl (fun ls hl => ?_)
    refine lv_aload_n hx hb dX3_clause_20 rfl (lv_at hl 1 rfl) ?_
    refine lv_iload_n hx hb dX3_clause_21 rfl (lv_at hl 0 rfl) ?_
    refine lv_iconst (v := -1) hx hb dX3_clause_22 zk_m1 ?_
    refine lv_icmp_eq (tgt := 58) hx hb dX3_clause_23 (by decide) (fun h => absurd h (nI_m1 (by omega))) (fun _ => ?_)
    refine lv_iload_n hx hb dX3_clause_26 rfl (lv_at hl 0 rfl) ?_
    refine lv_iconst (v := (nI 4)) hx hb dX3_clause_27 zk_4 ?_
    refine zi_gt (tgt := 39) hx hb (by decide) (by decide) dX3_clause_28 (by decide) (fun _ => ?_) (fun h => absurd h (by decide))
    refine lv_iload_n hx hb dX3_clause_39 rfl (lv_at hl 0 rfl) ?_
    refine lv_bipush (v := (nI 6)) hx hb dX3_clause_40 zb_6 ?_
    refine zi_ne (tgt := 54) hx hb (by decide) (by decide) dX3_clause_42 (by decide) (fun _ => ?_) (fun h => absurd h (by decide))
    refine lv_iconst (v := (nI 1)) hx hb dX3_clause_54 zk_1 ?_
    refine lv_goto (tgt := 59) hx hb dX3_clause_55 (by decide) ?_
    refine z_cv (z_runV (As := [.int (nI 1)]) (rest := []) hC zv_X3_106 (m_X3_want_t G l rd _) hw hw 0 rfl rfl rfl rfl rfl (Nat.le_of_ble_eq_true rfl) hl.1 ⟨Nat.le_of_ble_eq_true rfl, Nat.le_of_ble_eq_true rfl⟩ ⟨(Nat.le_of_ble_eq_true rfl), (Nat.le_of_ble_eq_true rfl)⟩ dX3_clause_59) hw (fun _ => List.Perm.refl _) (fun u H locs hp hw => ?_)
    refine lv_iload_n hx hb dX3_clause_62 rfl (lv_at hl 0 rfl) ?_
    refine lv_tableIn (off := 25) (tgt := 88) hx hb dX3_clause_63 (by decide) (by decide) (by decide) (by decide) ?_
    refine lv_aload_n hx hb dX3_clause_88 rfl (lv_at hl 1 rfl) ?_
    refine lv_iconst (v := (nI 0)) hx hb dX3_clause_89 zk_0 ?_
    refine z_puti hC zf_X3_25_3 hw 0 rfl (Nat.le_of_ble_eq_true rfl) dX3_clause_90 (fun H locs hw => ?_)
    have hw : zS G ((rd, zo 3 [.int (nI (tS tx n p0)), .int (nI (tF tx n p0)), .ref sr, .int (nI 0), .int (nI (v 0)), .ref cl, .int (nI re), .ref co]) :: (co, zo 0 (cF w mn bm sm (nI n))) :: (w 8, zc G 1 (zI 200 xf)) :: rest) s H locs := hw
    refine lv_aload_n hx hb dX3_clause_93 rfl (lv_at hl 1 rfl) ?_
    refine lv_iconst (v := (nI 0)) hx hb dX3_clause_94 zk_0 ?_
    refine z_puti hC zf_X3_37_3 hw 0 rfl (Nat.le_of_ble_eq_true rfl) dX3_clause_95 (fun H locs hw => ?_)
    have hw : zS G ((rd, zo 3 [.int (nI (tS tx n p0)), .int (nI (tF tx n p0)), .ref sr, .int (nI 0), .int (nI 0), .ref cl, .int (nI re), .ref co]) :: (co, zo 0 (cF w mn bm sm (nI n))) :: (w 8, zc G 1 (zI 200 xf)) :: rest) s H locs := hw
    refine lv_iconst (v := (nI 1)) hx hb dX3_clause_98 zk_1 ?_
    refine z_newa (t := 0) (atype := .int) (a0 := zI 1 (fun _ => 0)) hC (hC.hts _ q739) (fun _ => rfl) hw (fun _ => rfl) (by decide) (by decide) (Nat.le_of_ble_eq_true rfl) (Nat.le_of_ble_eq_true rfl) dX3_clause_99 (fun q_99 H hw => ?_)
    have hw : zS G ((q_99, zc G 0 (zI 1 (fun _ => 0))) :: (rd, zo 3 [.int (nI (tS tx n p0)), .int (nI (tF tx n p0)), .ref sr, .int (nI 0), .int (nI 0), .ref cl, .int (nI re), .ref co]) :: (co, zo 0 (cF w mn bm sm (nI n))) :: (w 8, zc G 1 (zI 200 xf)) :: rest) s H locs := hw
    refine lv_dup hx hb dX3_clause_101 rfl ?_
    refine lv_iconst (v := (nI 0)) hx hb dX3_clause_102 zk_0 ?_
    refine lv_iload_n hx hb dX3_clause_103 rfl (lv_at hl 0 rfl) ?_
    refine z_iast (f' := upd (fun _ => 0) 0 (nI 5)) hC hw 0 rfl (by decide) (by decide) rfl dX3_clause_104 (fun H locs hw => ?_)
    have hw : zS G ((q_99, zc G 0 (zI 1 (upd (fun _ => 0) 0 (nI 5)))) :: (rd, zo 3 [.int (nI (tS tx n p0)), .int (nI (tF tx n p0)), .ref sr, .int (nI 0), .int (nI 0), .ref cl, .int (nI re), .ref co]) :: (co, zo 0 (cF w mn bm sm (nI n))) :: (w 8, zc G 1 (zI 200 xf)) :: rest) s H locs := hw
    have hw : zS G ((q_99, zc G 0 (zI 1 (upd (fun _ => 0) 0 (nI 5)))) :: (rd, zo 3 [.int (nI r.2), .int (nI (tF tx n p0)), .ref sr, .int (nI (r.1 1)), .int (nI (r.1 0)), .ref cl, .int (nI re), .ref co]) :: (co, zo 0 (cF w mn bm sm (nI n))) :: (w 8, zc G 1 (zI 200 xf)) :: rest) s H locs := by rw [hre]; exact hw
    exact hend _ _ _ _ _ _ (some q_99) (sr, q_99, 1, nI (tF tx n p0), (upd (fun _ => 0) 0 (nI 5))) hw (by exact ⟨rfl, Or.inl ⟨rfl, rfl, by rw [hre]⟩⟩) (Nat.le_of_ble_eq_true rfl) (Nat.le_of_ble_eq_true rfl) dX3_clause_105
  · skip
    have hl : lv_has ls 2 [(0, .ref rd)] := hl
    refine z_c5i (z_runF (As := [.ref sr]) (rest := []) hC zif_X3_126_16 q646 ⟨hz.1 _ (cw_t q594 rfl), hz.1 _ (cw_t q593 rfl), hz.1 _ (cw_t q645 rfl), hz.1 _ (cw_t q643 rfl), hz.1 _ (cw_t q641 rfl)⟩ (m_J11_indexOf_y G l kA (by first | assumption | (omega)) (by first | assumption | (omega)) al sr sv (wL tx n p0) g4 (by omega) k (by omega) ((tH_w hpo htx hg4 (show k < 8 by omega)).mpr hth) (fun j hj q => absurd (tH_1 (show j < 8 by omega) (show k < 8 by omega) ((tH_w hpo htx hg4 (show j < 8 by omega)).mp q) hth) (by omega)) (zrem [0, 1, 2] _)) hw (hw.perm (z_cut (is := [0, 1, 2]) (cells := [(al, zo 16 [.int 0, .ref (kA 0)]), (sr, zo 12 [.ref sv, .int (nI 0), .int 0, .int 0]), (sv, zc G 1 (zI (wL tx n p0) g4))]) rfl rfl)) 0 rfl rfl rfl rfl rfl (Nat.le_of_ble_eq_true rfl) hl.1 ⟨Nat.le_of_ble_eq_true rfl, Nat.le_of_ble_eq_true rfl⟩ ⟨(Nat.le_of_ble_eq_true rfl), (Nat.le_of_ble_eq_true rfl)⟩ dX3_clause_14) hw (fun _ => z_keep (is := [0, 1, 2]) (cs := [(al, zo 16 [.int 0, .ref (kA 0)]), (sr, zo 12 [.ref sv, .int (nI 0), .int 0, .int 0]), (sv, zc G 1 (zI (wL tx n p0) g4))]) rfl rfl) (fun r u H locs hp hw => ?_)
    obtain rfl : r = nI k := hp
    have hw : zS G ((sr, zo 12 [.ref sv, .int (nI 0), .int 0, .int 0]) :: (sv, zc G 1 (zI (wL tx n p0) g4)) :: (al, zo 16 [.int 0, .ref (kA 0)]) :: (rd, zo 3 [.int (nI (tS tx n p0)), .int (nI (tF tx n p0)), .ref sr, .int (nI (v 1)), .int (nI (v 0)), .ref cl, .int (nI re), .ref co]) :: (co, zo 0 (cF w mn bm sm (nI n))) :: (w 8, zc G 1 (zI 200 xf)) :: rest) s H locs := hw.perm (((z_cut (is := [1, 2, 0, 3, 4, 5]) (ws := [(al, zo 16 [.int 0, .ref (kA 0)]), (sr, zo 12 [.ref sv, .int (nI 0), .int 0, .int 0]), (sv, zc G 1 (zI (wL tx n p0) g4)), (rd, zo 3 [.int (nI (tS tx n p0)), .int (nI (tF tx n p0)), .ref sr, .int (nI (v 1)), .int (nI (v 0)), .ref cl, .int (nI re), .ref co]), (co, zo 0 (cF w mn bm sm (nI n))), (w 8, zc G 1 (zI 200 xf))]) (cells := [(sr, zo 12 [.ref sv, .int (nI 0), .int 0, .int 0]), (sv, zc G 1 (zI (wL tx n p0) g4)), (al, zo 16 [.int 0, .ref (kA 0)]), (rd, zo 3 [.int (nI (tS tx n p0)), .int (nI (tF tx n p0)), .ref sr, .int (nI (v 1)), .int (nI (v 0)), .ref cl, .int (nI re), .ref co]), (co, zo 0 (cF w mn bm sm (nI n))), (w 8, zc G 1 (zI 200 xf))]) rfl rfl).append_right rest).trans (by rw [List.append_assoc]; exact List.Perm.refl _))
    have hw := hw.drop
    have hw := hw.drop
    have hw := hw.drop
    refine lv_istore_n (lv' := [(1, .int (nI k)), (0, .ref rd)]) hx hb dX3_clause_19 rfl hl (by decide) rfl (fun ls hl => ?_)
    refine lv_aload_n hx hb dX3_clause_20 rfl (lv_at hl 1 rfl) ?_
    refine lv_iload_n hx hb dX3_clause_21 rfl (lv_at hl 0 rfl) ?_
    refine lv_iconst (v := -1) hx hb dX3_clause_22 zk_m1 ?_
    refine lv_icmp_eq (tgt := 58) hx hb dX3_clause_23 (by decide) (fun h => absurd h (nI_m1 (by omega))) (fun _ => ?_)
    refine lv_iload_n hx hb dX3_clause_26 rfl (lv_at hl 0 rfl) ?_
    refine lv_iconst (v := (nI 4)) hx hb dX3_clause_27 zk_4 ?_
    refine zi_gt (tgt := 39) hx hb (by omega) (by decide) dX3_clause_28 (by decide) (fun h => absurd h (by omega)) (fun _ => ?_)
    refine lv_aload_n hx hb dX3_clause_31 rfl (lv_at hl 1 rfl) ?_
    refine z_get (v := .int (nI (v 1))) hC zf_X3_25_3 hw 0 rfl rfl dX3_clause_32 ?_
    refine lv_iconst (v := (nI 5)) hx hb dX3_clause_35 zk_5 ?_
    refine zi_ge (tgt := 58) hx hb (by omega) (by decide) dX3_clause_36 (by decide) (fun h => absurd h (by omega)) (fun _ => ?_)
    refine lv_iload_n hx hb dX3_clause_39 rfl (lv_at hl 0 rfl) ?_
    refine lv_bipush (v := (nI 6)) hx hb dX3_clause_40 zb_6 ?_
    refine zi_ne (tgt := 54) hx hb (by omega) (by decide) dX3_clause_42 (by decide) (fun _ => ?_) (fun h => absurd h (by omega))
    refine lv_iconst (v := (nI 1)) hx hb dX3_clause_54 zk_1 ?_
    refine lv_goto (tgt := 59) hx hb dX3_clause_55 (by decide) ?_
    refine z_cv (z_runV (As := [.int (nI 1)]) (rest := []) hC zv_X3_106 (m_X3_want_t G l rd _) hw hw 0 rfl rfl rfl rfl rfl (Nat.le_of_ble_eq_true rfl) hl.1 ⟨Nat.le_of_ble_eq_true rfl, Nat.le_of_ble_eq_true rfl⟩ ⟨(Nat.le_of_ble_eq_true rfl), (Nat.le_of_ble_eq_true rfl)⟩ dX3_clause_59) hw (fun _ => List.Perm.refl _) (fun u H locs hp hw => ?_)
    refine lv_iload_n hx hb dX3_clause_62 rfl (lv_at hl 0 rfl) ?_
    refine lv_tableOut (tgt := 180) hx hb dX3_clause_63 (Or.inl (by rw [nI_toInt (by omega)]; omega)) (by decide) ?_
    refine lv_aload_n hx hb dX3_clause_180 rfl (lv_at hl 1 rfl) ?_
    refine lv_dup hx hb dX3_clause_181 rfl ?_
    refine z_get (v := .int (nI (v 1))) hC zf_X3_25_3 hw 0 rfl rfl dX3_clause_182 ?_
    refine lv_iconst (v := (nI 1)) hx hb dX3_clause_185 zk_1 ?_
    refine zn_iadd hx hb dX3_clause_186 ?_
    refine z_puti hC zf_X3_25_3 hw 0 rfl (Nat.le_of_ble_eq_true rfl) dX3_clause_187 (fun H locs hw => ?_)
    have hw : zS G ((rd, zo 3 [.int (nI (tS tx n p0)), .int (nI (tF tx n p0)), .ref sr, .int (nI (v 1 + 1)), .int (nI (v 0)), .ref cl, .int (nI re), .ref co]) :: (co, zo 0 (cF w mn bm sm (nI n))) :: (w 8, zc G 1 (zI 200 xf)) :: rest) s H locs := hw
    refine lv_iconst (v := (nI 3)) hx hb dX3_clause_190 zk_3 ?_
    refine z_newa (t := 0) (atype := .int) (a0 := zI 3 (fun _ => 0)) hC (hC.hts _ q739) (fun _ => rfl) hw (fun _ => rfl) (by decide) (by decide) (Nat.le_of_ble_eq_true rfl) (Nat.le_of_ble_eq_true rfl) dX3_clause_191 (fun q_191 H hw => ?_)
    have hw : zS G ((q_191, zc G 0 (zI 3 (fun _ => 0))) :: (rd, zo 3 [.int (nI (tS tx n p0)), .int (nI (tF tx n p0)), .ref sr, .int (nI (v 1 + 1)), .int (nI (v 0)), .ref cl, .int (nI re), .ref co]) :: (co, zo 0 (cF w mn bm sm (nI n))) :: (w 8, zc G 1 (zI 200 xf)) :: rest) s H locs := hw
    refine lv_dup hx hb dX3_clause_193 rfl ?_
    refine lv_iconst (v := (nI 0)) hx hb dX3_clause_194 zk_0 ?_
    refine lv_iload_n hx hb dX3_clause_195 rfl (lv_at hl 0 rfl) ?_
    refine z_iast (f' := upd (fun _ => 0) 0 (nI k)) hC hw 0 rfl (by decide) (by decide) rfl dX3_clause_196 (fun H locs hw => ?_)
    have hw : zS G ((q_191, zc G 0 (zI 3 (upd (fun _ => 0) 0 (nI k)))) :: (rd, zo 3 [.int (nI (tS tx n p0)), .int (nI (tF tx n p0)), .ref sr, .int (nI (v 1 + 1)), .int (nI (v 0)), .ref cl, .int (nI re), .ref co]) :: (co, zo 0 (cF w mn bm sm (nI n))) :: (w 8, zc G 1 (zI 200 xf)) :: rest) s H locs := hw
    refine lv_dup hx hb dX3_clause_197 rfl ?_
    refine lv_iconst (v := (nI 1)) hx hb dX3_clause_198 zk_1 ?_
    refine lv_aload_n hx hb dX3_clause_199 rfl (lv_at hl 1 rfl) ?_
    refine lv_iconst (v := (nI 0)) hx hb dX3_clause_200 zk_0 ?_
    refine lv_bipush (v := (nI 19)) hx hb dX3_clause_201 zb_19 ?_
    refine z_ci (z_runV (As := [.int (nI 0), .int (nI 19)]) (rest := [.int (nI 1), .ref q_191, .ref q_191]) hC zv_X3_132 (m_X3_number_ok G l kA (by first | assumption | (omega)) (by first | assumption | (omega)) (by first | assumption | (omega)) rd co sr cl (tS tx n p0) n (v 1 + 1) (v 0) re (nI (tF tx n p0)) w mn bm sm xf tx (by omega) (by first | assumption | (omega)) (by first | assumption | (omega)) (tS_le hpo) 0 20 (nI 19) (hf_c (lo := 0) (hh := 20) (by decide) (by decide) (by decide)) hN1 (zrem [1, 2, 3] _)) hw (hw.perm (z_cut (is := [1, 2, 3]) (cells := [(rd, zo 3 [.int (nI (tS tx n p0)), .int (nI (tF tx n p0)), .ref sr, .int (nI (v 1 + 1)), .int (nI (v 0)), .ref cl, .int (nI re), .ref co]), (co, zo 0 (cF w mn bm sm (nI n))), (w 8, zc G 1 (zI 200 xf))]) rfl rfl)) 1 rfl rfl rfl rfl rfl (Nat.le_of_ble_eq_true rfl) hl.1 ⟨Nat.le_of_ble_eq_true rfl, Nat.le_of_ble_eq_true rfl⟩ ⟨(Nat.le_of_ble_eq_true rfl), (Nat.le_of_ble_eq_true rfl)⟩ dX3_clause_203) hw (fun u => z_pput (is := [1, 2, 3]) (cells := [(rd, zo 3 [.int (nI (tS tx n p0)), .int (nI (tF tx n p0)), .ref sr, .int (nI (v 1 + 1)), .int (nI (v 0)), .ref cl, .int (nI re), .ref co]), (co, zo 0 (cF w mn bm sm (nI n))), (w 8, zc G 1 (zI 200 xf))]) (cells' := [(rd, zo 3 [.int (nI (tS tx n (tS tx n p0))), .int (nI (tF tx n (tS tx n p0))), .ref u, .int (nI (v 1 + 1)), .int (nI (v 0)), .ref cl, .int (nI re), .ref co]), (co, zo 0 (cF w mn bm sm (nI n))), (w 8, zc G 1 (zI 200 xf))]) rfl rfl rfl) (fun r u H locs hp hw => ?_)
    obtain ⟨wd0, rfl⟩ : ∃ z, z = u := ⟨_, rfl⟩
    have hw : zS G ((q_191, zc G 0 (zI 3 (upd (fun _ => 0) 0 (nI k)))) :: (rd, zo 3 [.int (nI (tS tx n (tS tx n p0))), .int (nI (tF tx n (tS tx n p0))), .ref wd0, .int (nI (v 1 + 1)), .int (nI (v 0)), .ref cl, .int (nI re), .ref co]) :: (co, zo 0 (cF w mn bm sm (nI n))) :: (w 8, zc G 1 (zI 200 xf)) :: rest) s H locs := hw
    obtain rfl := hp
    refine z_iast (f' := upd (upd (fun _ => 0) 0 (nI k)) 1 (nI (tQ tx n (tS tx n p0)))) hC hw 0 rfl (by decide) (by decide) rfl dX3_clause_206 (fun H locs hw => ?_)
    have hw : zS G ((q_191, zc G 0 (zI 3 (upd (upd (fun _ => 0) 0 (nI k)) 1 (nI (tQ tx n (tS tx n p0)))))) :: (rd, zo 3 [.int (nI (tS tx n (tS tx n p0))), .int (nI (tF tx n (tS tx n p0))), .ref wd0, .int (nI (v 1 + 1)), .int (nI (v 0)), .ref cl, .int (nI re), .ref co]) :: (co, zo 0 (cF w mn bm sm (nI n))) :: (w 8, zc G 1 (zI 200 xf)) :: rest) s H locs := hw
    refine lv_dup hx hb dX3_clause_207 rfl ?_
    refine lv_iconst (v := (nI 2)) hx hb dX3_clause_208 zk_2 ?_
    refine lv_aload_n hx hb dX3_clause_209 rfl (lv_at hl 1 rfl) ?_
    refine lv_iconst (v := (nI 1)) hx hb dX3_clause_210 zk_1 ?_
    refine lv_bipush (v := (nI 9)) hx hb dX3_clause_211 zb_9 ?_
    refine z_ci (z_runV (As := [.int (nI 1), .int (nI 9)]) (rest := [.int (nI 2), .ref q_191, .ref q_191]) hC zv_X3_132 (m_X3_number_ok G l kA (by first | assumption | (omega)) (by first | assumption | (omega)) (by first | assumption | (omega)) rd co wd0 cl (tS tx n (tS tx n p0)) n (v 1 + 1) (v 0) re (nI (tF tx n (tS tx n p0))) w mn bm sm xf tx (by omega) (by first | assumption | (omega)) (by first | assumption | (omega)) (tS_le (tS_le hpo)) 1 10 (nI 9) (hf_c (lo := 1) (hh := 10) (by decide) (by decide) (by decide)) hN2 (zrem [1, 2, 3] _)) hw (hw.perm (z_cut (is := [1, 2, 3]) (cells := [(rd, zo 3 [.int (nI (tS tx n (tS tx n p0))), .int (nI (tF tx n (tS tx n p0))), .ref wd0, .int (nI (v 1 + 1)), .int (nI (v 0)), .ref cl, .int (nI re), .ref co]), (co, zo 0 (cF w mn bm sm (nI n))), (w 8, zc G 1 (zI 200 xf))]) rfl rfl)) 1 rfl rfl rfl rfl rfl (Nat.le_of_ble_eq_true rfl) hl.1 ⟨Nat.le_of_ble_eq_true rfl, Nat.le_of_ble_eq_true rfl⟩ ⟨(Nat.le_of_ble_eq_true rfl), (Nat.le_of_ble_eq_true rfl)⟩ dX3_clause_213) hw (fun u => z_pput (is := [1, 2, 3]) (cells := [(rd, zo 3 [.int (nI (tS tx n (tS tx n p0))), .int (nI (tF tx n (tS tx n p0))), .ref wd0, .int (nI (v 1 + 1)), .int (nI (v 0)), .ref cl, .int (nI re), .ref co]), (co, zo 0 (cF w mn bm sm (nI n))), (w 8, zc G 1 (zI 200 xf))]) (cells' := [(rd, zo 3 [.int (nI (tS tx n (tS tx n (tS tx n p0)))), .int (nI (tF tx n (tS tx n (tS tx n p0)))), .ref u, .int (nI (v 1 + 1)), .int (nI (v 0)), .ref cl, .int (nI re), .ref co]), (co, zo 0 (cF w mn bm sm (nI n))), (w 8, zc G 1 (zI 200 xf))]) rfl rfl rfl) (fun r u H locs hp hw => ?_)
    obtain ⟨wd1, rfl⟩ : ∃ z, z = u := ⟨_, rfl⟩
    have hw : zS G ((q_191, zc G 0 (zI 3 (upd (upd (fun _ => 0) 0 (nI k)) 1 (nI (tQ tx n (tS tx n p0)))))) :: (rd, zo 3 [.int (nI (tS tx n (tS tx n (tS tx n p0)))), .int (nI (tF tx n (tS tx n (tS tx n p0)))), .ref wd1, .int (nI (v 1 + 1)), .int (nI (v 0)), .ref cl, .int (nI re), .ref co]) :: (co, zo 0 (cF w mn bm sm (nI n))) :: (w 8, zc G 1 (zI 200 xf)) :: rest) s H locs := hw
    obtain rfl := hp
    refine z_iast (f' := upd (upd (upd (fun _ => 0) 0 (nI k)) 1 (nI (tQ tx n (tS tx n p0)))) 2 (nI (tQ tx n (tS tx n (tS tx n p0))))) hC hw 0 rfl (by decide) (by decide) rfl dX3_clause_216 (fun H locs hw => ?_)
    have hw : zS G ((q_191, zc G 0 (zI 3 (upd (upd (upd (fun _ => 0) 0 (nI k)) 1 (nI (tQ tx n (tS tx n p0)))) 2 (nI (tQ tx n (tS tx n (tS tx n p0))))))) :: (rd, zo 3 [.int (nI (tS tx n (tS tx n (tS tx n p0)))), .int (nI (tF tx n (tS tx n (tS tx n p0)))), .ref wd1, .int (nI (v 1 + 1)), .int (nI (v 0)), .ref cl, .int (nI re), .ref co]) :: (co, zo 0 (cF w mn bm sm (nI n))) :: (w 8, zc G 1 (zI 200 xf)) :: rest) s H locs := hw
    have hw : zS G ((q_191, zc G 0 (zI 3 (upd (upd (upd (fun _ => 0) 0 (nI k)) 1 (nI (tQ tx n (tS tx n p0)))) 2 (nI (tQ tx n (tS tx n (tS tx n p0))))))) :: (rd, zo 3 [.int (nI r.2), .int (nI (tF tx n (tS tx n (tS tx n p0)))), .ref wd1, .int (nI (r.1 1)), .int (nI (r.1 0)), .ref cl, .int (nI re), .ref co]) :: (co, zo 0 (cF w mn bm sm (nI n))) :: (w 8, zc G 1 (zI 200 xf)) :: rest) s H locs := by rw [hre]; dsimp only; rw [putQ_c.1, putQ_c.2]; exact hw
    exact hend _ _ _ _ _ _ (some q_191) (wd1, q_191, 3, nI (tF tx n (tS tx n (tS tx n p0))), (upd (upd (upd (fun _ => 0) 0 (nI k)) 1 (nI (tQ tx n (tS tx n p0)))) 2 (nI (tQ tx n (tS tx n (tS tx n p0)))))) hw (by exact ⟨rfl, Or.inr (Or.inl ⟨rfl, k, _, _, hk, (tN_w.mp hN1).2.2.2, (tN_w.mp hN2).2.2.1, (tN_w.mp hN2).2.2.2, h51, rfl, rfl, rfl, by rw [hre]⟩)⟩) (Nat.le_of_ble_eq_true rfl) (Nat.le_of_ble_eq_true rfl) dX3_clause_217
  · skip
    have hl : lv_has ls 2 [(0, .ref rd)] := hl
    refine z_c5i (z_runF (As := [.ref sr]) (rest := []) hC zif_X3_126_16 q646 ⟨hz.1 _ (cw_t q594 rfl), hz.1 _ (cw_t q593 rfl), hz.1 _ (cw_t q645 rfl), hz.1 _ (cw_t q643 rfl), hz.1 _ (cw_t q641 rfl)⟩ (m_J11_indexOf_y G l kA (by first | assumption | (omega)) (by first | assumption | (omega)) al sr sv (wL tx n p0) g4 (by omega) 6 (by omega) ((tH_w hpo htx hg4 (show 6 < 8 by omega)).mpr hth) (fun j hj q => absurd (tH_1 (show j < 8 by omega) (show 6 < 8 by omega) ((tH_w hpo htx hg4 (show j < 8 by omega)).mp q) hth) (by omega)) (zrem [0, 1, 2] _)) hw (hw.perm (z_cut (is := [0, 1, 2]) (cells := [(al, zo 16 [.int 0, .ref (kA 0)]), (sr, zo 12 [.ref sv, .int (nI 0), .int 0, .int 0]), (sv, zc G 1 (zI (wL tx n p0) g4))]) rfl rfl)) 0 rfl rfl rfl rfl rfl (Nat.le_of_ble_eq_true rfl) hl.1 ⟨Nat.le_of_ble_eq_true rfl, Nat.le_of_ble_eq_true rfl⟩ ⟨(Nat.le_of_ble_eq_true rfl), (Nat.le_of_ble_eq_true rfl)⟩ dX3_clause_14) hw (fun _ => z_keep (is := [0, 1, 2]) (cs := [(al, zo 16 [.int 0, .ref (kA 0)]), (sr, zo 12 [.ref sv, .int (nI 0), .int 0, .int 0]), (sv, zc G 1 (zI (wL tx n p0) g4))]) rfl rfl) (fun r u H locs hp hw => ?_)
    obtain rfl : r = nI 6 := hp
    have hw : zS G ((sr, zo 12 [.ref sv, .int (nI 0), .int 0, .int 0]) :: (sv, zc G 1 (zI (wL tx n p0) g4)) :: (al, zo 16 [.int 0, .ref (kA 0)]) :: (rd, zo 3 [.int (nI (tS tx n p0)), .int (nI (tF tx n p0)), .ref sr, .int (nI (v 1)), .int (nI (v 0)), .ref cl, .int (nI re), .ref co]) :: (co, zo 0 (cF w mn bm sm (nI n))) :: (w 8, zc G 1 (zI 200 xf)) :: rest) s H locs := hw.perm (((z_cut (is := [1, 2, 0, 3, 4, 5]) (ws := [(al, zo 16 [.int 0, .ref (kA 0)]), (sr, zo 12 [.ref sv, .int (nI 0), .int 0, .int 0]), (sv, zc G 1 (zI (wL tx n p0) g4)), (rd, zo 3 [.int (nI (tS tx n p0)), .int (nI (tF tx n p0)), .ref sr, .int (nI (v 1)), .int (nI (v 0)), .ref cl, .int (nI re), .ref co]), (co, zo 0 (cF w mn bm sm (nI n))), (w 8, zc G 1 (zI 200 xf))]) (cells := [(sr, zo 12 [.ref sv, .int (nI 0), .int 0, .int 0]), (sv, zc G 1 (zI (wL tx n p0) g4)), (al, zo 16 [.int 0, .ref (kA 0)]), (rd, zo 3 [.int (nI (tS tx n p0)), .int (nI (tF tx n p0)), .ref sr, .int (nI (v 1)), .int (nI (v 0)), .ref cl, .int (nI re), .ref co]), (co, zo 0 (cF w mn bm sm (nI n))), (w 8, zc G 1 (zI 200 xf))]) rfl rfl).append_right rest).trans (by rw [List.append_assoc]; exact List.Perm.refl _))
    have hw := hw.drop
    have hw := hw.drop
    have hw := hw.drop
    refine lv_istore_n (lv' := [(1, .int (nI 6)), (0, .ref rd)]) hx hb dX3_clause_19 rfl hl (by decide) rfl (fun ls hl => ?_)
    refine lv_aload_n hx hb dX3_clause_20 rfl (lv_at hl 1 rfl) ?_
    refine lv_iload_n hx hb dX3_clause_21 rfl (lv_at hl 0 rfl) ?_
    refine lv_iconst (v := -1) hx hb dX3_clause_22 zk_m1 ?_
    refine lv_icmp_eq (tgt := 58) hx hb dX3_clause_23 (by decide) (fun h => absurd h (nI_m1 (by omega))) (fun _ => ?_)
    refine lv_iload_n hx hb dX3_clause_26 rfl (lv_at hl 0 rfl) ?_
    refine lv_iconst (v := (nI 4)) hx hb dX3_clause_27 zk_4 ?_
    refine zi_gt (tgt := 39) hx hb (by decide) (by decide) dX3_clause_28 (by decide) (fun _ => ?_) (fun h => absurd h (by decide))
    refine lv_iload_n hx hb dX3_clause_39 rfl (lv_at hl 0 rfl) ?_
    refine lv_bipush (v := (nI 6)) hx hb dX3_clause_40 zb_6 ?_
    refine zi_ne (tgt := 54) hx hb (by decide) (by decide) dX3_clause_42 (by decide) (fun h => absurd h (by decide)) (fun _ => ?_)
    refine lv_aload_n hx hb dX3_clause_45 rfl (lv_at hl 1 rfl) ?_
    refine z_get (v := .int (nI (v 0))) hC zf_X3_37_3 hw 0 rfl rfl dX3_clause_46 ?_
    refine lv_bipush (v := (nI 9)) hx hb dX3_clause_49 zb_9 ?_
    refine zi_ge (tgt := 58) hx hb (by omega) (by decide) dX3_clause_51 (by decide) (fun h => absurd h (by omega)) (fun _ => ?_)
    refine lv_iconst (v := (nI 1)) hx hb dX3_clause_54 zk_1 ?_
    refine lv_goto (tgt := 59) hx hb dX3_clause_55 (by decide) ?_
    refine z_cv (z_runV (As := [.int (nI 1)]) (rest := []) hC zv_X3_106 (m_X3_want_t G l rd _) hw hw 0 rfl rfl rfl rfl rfl (Nat.le_of_ble_eq_true rfl) hl.1 ⟨Nat.le_of_ble_eq_true rfl, Nat.le_of_ble_eq_true rfl⟩ ⟨(Nat.le_of_ble_eq_true rfl), (Nat.le_of_ble_eq_true rfl)⟩ dX3_clause_59) hw (fun _ => List.Perm.refl _) (fun u H locs hp hw => ?_)
    refine lv_iload_n hx hb dX3_clause_62 rfl (lv_at hl 0 rfl) ?_
    refine lv_tableIn (off := 43) (tgt := 106) hx hb dX3_clause_63 (by decide) (by decide) (by decide) (by decide) ?_
    refine lv_aload_n hx hb dX3_clause_106 rfl (lv_at hl 1 rfl) ?_
    refine lv_dup hx hb dX3_clause_107 rfl ?_
    refine z_get (v := .int (nI (v 0))) hC zf_X3_37_3 hw 0 rfl rfl dX3_clause_108 ?_
    refine lv_iconst (v := (nI 1)) hx hb dX3_clause_111 zk_1 ?_
    refine zn_iadd hx hb dX3_clause_112 ?_
    refine z_puti hC zf_X3_37_3 hw 0 rfl (Nat.le_of_ble_eq_true rfl) dX3_clause_113 (fun H locs hw => ?_)
    have hw : zS G ((rd, zo 3 [.int (nI (tS tx n p0)), .int (nI (tF tx n p0)), .ref sr, .int (nI (v 1)), .int (nI (v 0 + 1)), .ref cl, .int (nI re), .ref co]) :: (co, zo 0 (cF w mn bm sm (nI n))) :: (w 8, zc G 1 (zI 200 xf)) :: rest) s H locs := hw
    refine lv_iconst (v := (nI 3)) hx hb dX3_clause_116 zk_3 ?_
    refine z_newa (t := 0) (atype := .int) (a0 := zI 3 (fun _ => 0)) hC (hC.hts _ q739) (fun _ => rfl) hw (fun _ => rfl) (by decide) (by decide) (Nat.le_of_ble_eq_true rfl) (Nat.le_of_ble_eq_true rfl) dX3_clause_117 (fun q_117 H hw => ?_)
    have hw : zS G ((q_117, zc G 0 (zI 3 (fun _ => 0))) :: (rd, zo 3 [.int (nI (tS tx n p0)), .int (nI (tF tx n p0)), .ref sr, .int (nI (v 1)), .int (nI (v 0 + 1)), .ref cl, .int (nI re), .ref co]) :: (co, zo 0 (cF w mn bm sm (nI n))) :: (w 8, zc G 1 (zI 200 xf)) :: rest) s H locs := hw
    refine lv_dup hx hb dX3_clause_119 rfl ?_
    refine lv_iconst (v := (nI 0)) hx hb dX3_clause_120 zk_0 ?_
    refine lv_iload_n hx hb dX3_clause_121 rfl (lv_at hl 0 rfl) ?_
    refine z_iast (f' := upd (fun _ => 0) 0 (nI 6)) hC hw 0 rfl (by decide) (by decide) rfl dX3_clause_122 (fun H locs hw => ?_)
    have hw : zS G ((q_117, zc G 0 (zI 3 (upd (fun _ => 0) 0 (nI 6)))) :: (rd, zo 3 [.int (nI (tS tx n p0)), .int (nI (tF tx n p0)), .ref sr, .int (nI (v 1)), .int (nI (v 0 + 1)), .ref cl, .int (nI re), .ref co]) :: (co, zo 0 (cF w mn bm sm (nI n))) :: (w 8, zc G 1 (zI 200 xf)) :: rest) s H locs := hw
    refine lv_dup hx hb dX3_clause_123 rfl ?_
    refine lv_iconst (v := (nI 1)) hx hb dX3_clause_124 zk_1 ?_
    refine lv_aload_n hx hb dX3_clause_125 rfl (lv_at hl 1 rfl) ?_
    refine lv_iconst (v := (nI 0)) hx hb dX3_clause_126 zk_0 ?_
    refine lv_bipush (v := (nI 19)) hx hb dX3_clause_127 zb_19 ?_
    refine z_ci (z_runV (As := [.int (nI 0), .int (nI 19)]) (rest := [.int (nI 1), .ref q_117, .ref q_117]) hC zv_X3_132 (m_X3_number_ok G l kA (by first | assumption | (omega)) (by first | assumption | (omega)) (by first | assumption | (omega)) rd co sr cl (tS tx n p0) n (v 1) (v 0 + 1) re (nI (tF tx n p0)) w mn bm sm xf tx (by omega) (by first | assumption | (omega)) (by first | assumption | (omega)) (tS_le hpo) 0 20 (nI 19) (hf_c (lo := 0) (hh := 20) (by decide) (by decide) (by decide)) hN1 (zrem [1, 2, 3] _)) hw (hw.perm (z_cut (is := [1, 2, 3]) (cells := [(rd, zo 3 [.int (nI (tS tx n p0)), .int (nI (tF tx n p0)), .ref sr, .int (nI (v 1)), .int (nI (v 0 + 1)), .ref cl, .int (nI re), .ref co]), (co, zo 0 (cF w mn bm sm (nI n))), (w 8, zc G 1 (zI 200 xf))]) rfl rfl)) 1 rfl rfl rfl rfl rfl (Nat.le_of_ble_eq_true rfl) hl.1 ⟨Nat.le_of_ble_eq_true rfl, Nat.le_of_ble_eq_true rfl⟩ ⟨(Nat.le_of_ble_eq_true rfl), (Nat.le_of_ble_eq_true rfl)⟩ dX3_clause_129) hw (fun u => z_pput (is := [1, 2, 3]) (cells := [(rd, zo 3 [.int (nI (tS tx n p0)), .int (nI (tF tx n p0)), .ref sr, .int (nI (v 1)), .int (nI (v 0 + 1)), .ref cl, .int (nI re), .ref co]), (co, zo 0 (cF w mn bm sm (nI n))), (w 8, zc G 1 (zI 200 xf))]) (cells' := [(rd, zo 3 [.int (nI (tS tx n (tS tx n p0))), .int (nI (tF tx n (tS tx n p0))), .ref u, .int (nI (v 1)), .int (nI (v 0 + 1)), .ref cl, .int (nI re), .ref co]), (co, zo 0 (cF w mn bm sm (nI n))), (w 8, zc G 1 (zI 200 xf))]) rfl rfl rfl) (fun r u H locs hp hw => ?_)
    obtain ⟨wd0, rfl⟩ : ∃ z, z = u := ⟨_, rfl⟩
    have hw : zS G ((q_117, zc G 0 (zI 3 (upd (fun _ => 0) 0 (nI 6)))) :: (rd, zo 3 [.int (nI (tS tx n (tS tx n p0))), .int (nI (tF tx n (tS tx n p0))), .ref wd0, .int (nI (v 1)), .int (nI (v 0 + 1)), .ref cl, .int (nI re), .ref co]) :: (co, zo 0 (cF w mn bm sm (nI n))) :: (w 8, zc G 1 (zI 200 xf)) :: rest) s H locs := hw
    obtain rfl := hp
    refine z_iast (f' := upd (upd (fun _ => 0) 0 (nI 6)) 1 (nI (tQ tx n (tS tx n p0)))) hC hw 0 rfl (by decide) (by decide) rfl dX3_clause_132 (fun H locs hw => ?_)
    have hw : zS G ((q_117, zc G 0 (zI 3 (upd (upd (fun _ => 0) 0 (nI 6)) 1 (nI (tQ tx n (tS tx n p0)))))) :: (rd, zo 3 [.int (nI (tS tx n (tS tx n p0))), .int (nI (tF tx n (tS tx n p0))), .ref wd0, .int (nI (v 1)), .int (nI (v 0 + 1)), .ref cl, .int (nI re), .ref co]) :: (co, zo 0 (cF w mn bm sm (nI n))) :: (w 8, zc G 1 (zI 200 xf)) :: rest) s H locs := hw
    refine lv_dup hx hb dX3_clause_133 rfl ?_
    refine lv_iconst (v := (nI 2)) hx hb dX3_clause_134 zk_2 ?_
    refine lv_aload_n hx hb dX3_clause_135 rfl (lv_at hl 1 rfl) ?_
    refine lv_iconst (v := (nI 0)) hx hb dX3_clause_136 zk_0 ?_
    refine lv_bipush (v := (nI 99)) hx hb dX3_clause_137 zb_99 ?_
    refine z_ci (z_runV (As := [.int (nI 0), .int (nI 99)]) (rest := [.int (nI 2), .ref q_117, .ref q_117]) hC zv_X3_132 (m_X3_number_ok G l kA (by first | assumption | (omega)) (by first | assumption | (omega)) (by first | assumption | (omega)) rd co wd0 cl (tS tx n (tS tx n p0)) n (v 1) (v 0 + 1) re (nI (tF tx n (tS tx n p0))) w mn bm sm xf tx (by omega) (by first | assumption | (omega)) (by first | assumption | (omega)) (tS_le (tS_le hpo)) 0 100 (nI 99) (hf_c (lo := 0) (hh := 100) (by decide) (by decide) (by decide)) hN2 (zrem [1, 2, 3] _)) hw (hw.perm (z_cut (is := [1, 2, 3]) (cells := [(rd, zo 3 [.int (nI (tS tx n (tS tx n p0))), .int (nI (tF tx n (tS tx n p0))), .ref wd0, .int (nI (v 1)), .int (nI (v 0 + 1)), .ref cl, .int (nI re), .ref co]), (co, zo 0 (cF w mn bm sm (nI n))), (w 8, zc G 1 (zI 200 xf))]) rfl rfl)) 1 rfl rfl rfl rfl rfl (Nat.le_of_ble_eq_true rfl) hl.1 ⟨Nat.le_of_ble_eq_true rfl, Nat.le_of_ble_eq_true rfl⟩ ⟨(Nat.le_of_ble_eq_true rfl), (Nat.le_of_ble_eq_true rfl)⟩ dX3_clause_139) hw (fun u => z_pput (is := [1, 2, 3]) (cells := [(rd, zo 3 [.int (nI (tS tx n (tS tx n p0))), .int (nI (tF tx n (tS tx n p0))), .ref wd0, .int (nI (v 1)), .int (nI (v 0 + 1)), .ref cl, .int (nI re), .ref co]), (co, zo 0 (cF w mn bm sm (nI n))), (w 8, zc G 1 (zI 200 xf))]) (cells' := [(rd, zo 3 [.int (nI (tS tx n (tS tx n (tS tx n p0)))), .int (nI (tF tx n (tS tx n (tS tx n p0)))), .ref u, .int (nI (v 1)), .int (nI (v 0 + 1)), .ref cl, .int (nI re), .ref co]), (co, zo 0 (cF w mn bm sm (nI n))), (w 8, zc G 1 (zI 200 xf))]) rfl rfl rfl) (fun r u H locs hp hw => ?_)
    obtain ⟨wd1, rfl⟩ : ∃ z, z = u := ⟨_, rfl⟩
    have hw : zS G ((q_117, zc G 0 (zI 3 (upd (upd (fun _ => 0) 0 (nI 6)) 1 (nI (tQ tx n (tS tx n p0)))))) :: (rd, zo 3 [.int (nI (tS tx n (tS tx n (tS tx n p0)))), .int (nI (tF tx n (tS tx n (tS tx n p0)))), .ref wd1, .int (nI (v 1)), .int (nI (v 0 + 1)), .ref cl, .int (nI re), .ref co]) :: (co, zo 0 (cF w mn bm sm (nI n))) :: (w 8, zc G 1 (zI 200 xf)) :: rest) s H locs := hw
    obtain rfl := hp
    refine z_iast (f' := upd (upd (upd (fun _ => 0) 0 (nI 6)) 1 (nI (tQ tx n (tS tx n p0)))) 2 (nI (tQ tx n (tS tx n (tS tx n p0))))) hC hw 0 rfl (by decide) (by decide) rfl dX3_clause_142 (fun H locs hw => ?_)
    have hw : zS G ((q_117, zc G 0 (zI 3 (upd (upd (upd (fun _ => 0) 0 (nI 6)) 1 (nI (tQ tx n (tS tx n p0)))) 2 (nI (tQ tx n (tS tx n (tS tx n p0))))))) :: (rd, zo 3 [.int (nI (tS tx n (tS tx n (tS tx n p0)))), .int (nI (tF tx n (tS tx n (tS tx n p0)))), .ref wd1, .int (nI (v 1)), .int (nI (v 0 + 1)), .ref cl, .int (nI re), .ref co]) :: (co, zo 0 (cF w mn bm sm (nI n))) :: (w 8, zc G 1 (zI 200 xf)) :: rest) s H locs := hw
    have hw : zS G ((q_117, zc G 0 (zI 3 (upd (upd (upd (fun _ => 0) 0 (nI 6)) 1 (nI (tQ tx n (tS tx n p0)))) 2 (nI (tQ tx n (tS tx n (tS tx n p0))))))) :: (rd, zo 3 [.int (nI r.2), .int (nI (tF tx n (tS tx n (tS tx n p0)))), .ref wd1, .int (nI (r.1 1)), .int (nI (r.1 0)), .ref cl, .int (nI re), .ref co]) :: (co, zo 0 (cF w mn bm sm (nI n))) :: (w 8, zc G 1 (zI 200 xf)) :: rest) s H locs := by rw [hre]; dsimp only; rw [putP_c.1, putP_c.2]; exact hw
    exact hend _ _ _ _ _ _ (some q_117) (wd1, q_117, 3, nI (tF tx n (tS tx n (tS tx n p0))), (upd (upd (upd (fun _ => 0) 0 (nI 6)) 1 (nI (tQ tx n (tS tx n p0)))) 2 (nI (tQ tx n (tS tx n (tS tx n p0)))))) hw (by exact ⟨rfl, Or.inr (Or.inr (Or.inl ⟨rfl, _, _, (tN_w.mp hN1).2.2.2, (tN_w.mp hN2).2.2.2, h90, rfl, rfl, rfl, by rw [hre]⟩))⟩) (Nat.le_of_ble_eq_true rfl) (Nat.le_of_ble_eq_true rfl) dX3_clause_143
  · skip
    have hl : lv_has ls 2 [(0, .ref rd)] := hl
    refine z_c5i (z_runF (As := [.ref sr]) (rest := []) hC zif_X3_126_16 q646 ⟨hz.1 _ (cw_t q594 rfl), hz.1 _ (cw_t q593 rfl), hz.1 _ (cw_t q645 rfl), hz.1 _ (cw_t q643 rfl), hz.1 _ (cw_t q641 rfl)⟩ (m_J11_indexOf_y G l kA (by first | assumption | (omega)) (by first | assumption | (omega)) al sr sv (wL tx n p0) g4 (by omega) 7 (by omega) ((tH_w hpo htx hg4 (show 7 < 8 by omega)).mpr hth) (fun j hj q => absurd (tH_1 (show j < 8 by omega) (show 7 < 8 by omega) ((tH_w hpo htx hg4 (show j < 8 by omega)).mp q) hth) (by omega)) (zrem [0, 1, 2] _)) hw (hw.perm (z_cut (is := [0, 1, 2]) (cells := [(al, zo 16 [.int 0, .ref (kA 0)]), (sr, zo 12 [.ref sv, .int (nI 0), .int 0, .int 0]), (sv, zc G 1 (zI (wL tx n p0) g4))]) rfl rfl)) 0 rfl rfl rfl rfl rfl (Nat.le_of_ble_eq_true rfl) hl.1 ⟨Nat.le_of_ble_eq_true rfl, Nat.le_of_ble_eq_true rfl⟩ ⟨(Nat.le_of_ble_eq_true rfl), (Nat.le_of_ble_eq_true rfl)⟩ dX3_clause_14) hw (fun _ => z_keep (is := [0, 1, 2]) (cs := [(al, zo 16 [.int 0, .ref (kA 0)]), (sr, zo 12 [.ref sv, .int (nI 0), .int 0, .int 0]), (sv, zc G 1 (zI (wL tx n p0) g4))]) rfl rfl) (fun r u H locs hp hw => ?_)
    obtain rfl : r = nI 7 := hp
    have hw : zS G ((sr, zo 12 [.ref sv, .int (nI 0), .int 0, .int 0]) :: (sv, zc G 1 (zI (wL tx n p0) g4)) :: (al, zo 16 [.int 0, .ref (kA 0)]) :: (rd, zo 3 [.int (nI (tS tx n p0)), .int (nI (tF tx n p0)), .ref sr, .int (nI (v 1)), .int (nI (v 0)), .ref cl, .int (nI re), .ref co]) :: (co, zo 0 (cF w mn bm sm (nI n))) :: (w 8, zc G 1 (zI 200 xf)) :: rest) s H locs := hw.perm (((z_cut (is := [1, 2, 0, 3, 4, 5]) (ws := [(al, zo 16 [.int 0, .ref (kA 0)]), (sr, zo 12 [.ref sv, .int (nI 0), .int 0, .int 0]), (sv, zc G 1 (zI (wL tx n p0) g4)), (rd, zo 3 [.int (nI (tS tx n p0)), .int (nI (tF tx n p0)), .ref sr, .int (nI (v 1)), .int (nI (v 0)), .ref cl, .int (nI re), .ref co]), (co, zo 0 (cF w mn bm sm (nI n))), (w 8, zc G 1 (zI 200 xf))]) (cells := [(sr, zo 12 [.ref sv, .int (nI 0), .int 0, .int 0]), (sv, zc G 1 (zI (wL tx n p0) g4)), (al, zo 16 [.int 0, .ref (kA 0)]), (rd, zo 3 [.int (nI (tS tx n p0)), .int (nI (tF tx n p0)), .ref sr, .int (nI (v 1)), .int (nI (v 0)), .ref cl, .int (nI re), .ref co]), (co, zo 0 (cF w mn bm sm (nI n))), (w 8, zc G 1 (zI 200 xf))]) rfl rfl).append_right rest).trans (by rw [List.append_assoc]; exact List.Perm.refl _))
    have hw := hw.drop
    have hw := hw.drop
    have hw := hw.drop
    refine lv_istore_n (lv' := [(1, .int (nI 7)), (0, .ref rd)]) hx hb dX3_clause_19 rfl hl (by decide) rfl (fun ls hl => ?_)
    refine lv_aload_n hx hb dX3_clause_20 rfl (lv_at hl 1 rfl) ?_
    refine lv_iload_n hx hb dX3_clause_21 rfl (lv_at hl 0 rfl) ?_
    refine lv_iconst (v := -1) hx hb dX3_clause_22 zk_m1 ?_
    refine lv_icmp_eq (tgt := 58) hx hb dX3_clause_23 (by decide) (fun h => absurd h (nI_m1 (by omega))) (fun _ => ?_)
    refine lv_iload_n hx hb dX3_clause_26 rfl (lv_at hl 0 rfl) ?_
    refine lv_iconst (v := (nI 4)) hx hb dX3_clause_27 zk_4 ?_
    refine zi_gt (tgt := 39) hx hb (by decide) (by decide) dX3_clause_28 (by decide) (fun _ => ?_) (fun h => absurd h (by decide))
    refine lv_iload_n hx hb dX3_clause_39 rfl (lv_at hl 0 rfl) ?_
    refine lv_bipush (v := (nI 6)) hx hb dX3_clause_40 zb_6 ?_
    refine zi_ne (tgt := 54) hx hb (by decide) (by decide) dX3_clause_42 (by decide) (fun _ => ?_) (fun h => absurd h (by decide))
    refine lv_iconst (v := (nI 1)) hx hb dX3_clause_54 zk_1 ?_
    refine lv_goto (tgt := 59) hx hb dX3_clause_55 (by decide) ?_
    refine z_cv (z_runV (As := [.int (nI 1)]) (rest := []) hC zv_X3_106 (m_X3_want_t G l rd _) hw hw 0 rfl rfl rfl rfl rfl (Nat.le_of_ble_eq_true rfl) hl.1 ⟨Nat.le_of_ble_eq_true rfl, Nat.le_of_ble_eq_true rfl⟩ ⟨(Nat.le_of_ble_eq_true rfl), (Nat.le_of_ble_eq_true rfl)⟩ dX3_clause_59) hw (fun _ => List.Perm.refl _) (fun u H locs hp hw => ?_)
    refine lv_iload_n hx hb dX3_clause_62 rfl (lv_at hl 0 rfl) ?_
    refine lv_tableIn (off := 81) (tgt := 144) hx hb dX3_clause_63 (by decide) (by decide) (by decide) (by decide) ?_
    refine lv_iconst (v := (nI 3)) hx hb dX3_clause_144 zk_3 ?_
    refine z_newa (t := 0) (atype := .int) (a0 := zI 3 (fun _ => 0)) hC (hC.hts _ q739) (fun _ => rfl) hw (fun _ => rfl) (by decide) (by decide) (Nat.le_of_ble_eq_true rfl) (Nat.le_of_ble_eq_true rfl) dX3_clause_145 (fun q_145 H hw => ?_)
    have hw : zS G ((q_145, zc G 0 (zI 3 (fun _ => 0))) :: (rd, zo 3 [.int (nI (tS tx n p0)), .int (nI (tF tx n p0)), .ref sr, .int (nI (v 1)), .int (nI (v 0)), .ref cl, .int (nI re), .ref co]) :: (co, zo 0 (cF w mn bm sm (nI n))) :: (w 8, zc G 1 (zI 200 xf)) :: rest) s H locs := hw
    refine lv_dup hx hb dX3_clause_147 rfl ?_
    refine lv_iconst (v := (nI 0)) hx hb dX3_clause_148 zk_0 ?_
    refine lv_iload_n hx hb dX3_clause_149 rfl (lv_at hl 0 rfl) ?_
    refine z_iast (f' := upd (fun _ => 0) 0 (nI 7)) hC hw 0 rfl (by decide) (by decide) rfl dX3_clause_150 (fun H locs hw => ?_)
    have hw : zS G ((q_145, zc G 0 (zI 3 (upd (fun _ => 0) 0 (nI 7)))) :: (rd, zo 3 [.int (nI (tS tx n p0)), .int (nI (tF tx n p0)), .ref sr, .int (nI (v 1)), .int (nI (v 0)), .ref cl, .int (nI re), .ref co]) :: (co, zo 0 (cF w mn bm sm (nI n))) :: (w 8, zc G 1 (zI 200 xf)) :: rest) s H locs := hw
    refine lv_dup hx hb dX3_clause_151 rfl ?_
    refine lv_iconst (v := (nI 1)) hx hb dX3_clause_152 zk_1 ?_
    refine lv_aload_n hx hb dX3_clause_153 rfl (lv_at hl 1 rfl) ?_
    refine lv_iconst (v := (nI 0)) hx hb dX3_clause_154 zk_0 ?_
    refine lv_aload_n hx hb dX3_clause_155 rfl (lv_at hl 1 rfl) ?_
    refine z_get (v := .int (nI (v 1))) hC zf_X3_25_3 hw 1 rfl rfl dX3_clause_156 ?_
    refine lv_iconst (v := (nI 1)) hx hb dX3_clause_159 zk_1 ?_
    refine zv_isub (v := (nI (v 1) - nI 1)) hx hb rfl dX3_clause_160 ?_
    refine z_ci (z_runV (As := [.int (nI 0), .int (nI (v 1) - nI 1)]) (rest := [.int (nI 1), .ref q_145, .ref q_145]) hC zv_X3_132 (m_X3_number_ok G l kA (by first | assumption | (omega)) (by first | assumption | (omega)) (by first | assumption | (omega)) rd co sr cl (tS tx n p0) n (v 1) (v 0) re (nI (tF tx n p0)) w mn bm sm xf tx (by omega) (by first | assumption | (omega)) (by first | assumption | (omega)) (tS_le hpo) 0 (v 1) (nI (v 1) - nI 1) (hf_v (by omega)) hN1 (zrem [1, 2, 3] _)) hw (hw.perm (z_cut (is := [1, 2, 3]) (cells := [(rd, zo 3 [.int (nI (tS tx n p0)), .int (nI (tF tx n p0)), .ref sr, .int (nI (v 1)), .int (nI (v 0)), .ref cl, .int (nI re), .ref co]), (co, zo 0 (cF w mn bm sm (nI n))), (w 8, zc G 1 (zI 200 xf))]) rfl rfl)) 1 rfl rfl rfl rfl rfl (Nat.le_of_ble_eq_true rfl) hl.1 ⟨Nat.le_of_ble_eq_true rfl, Nat.le_of_ble_eq_true rfl⟩ ⟨(Nat.le_of_ble_eq_true rfl), (Nat.le_of_ble_eq_true rfl)⟩ dX3_clause_161) hw (fun u => z_pput (is := [1, 2, 3]) (cells := [(rd, zo 3 [.int (nI (tS tx n p0)), .int (nI (tF tx n p0)), .ref sr, .int (nI (v 1)), .int (nI (v 0)), .ref cl, .int (nI re), .ref co]), (co, zo 0 (cF w mn bm sm (nI n))), (w 8, zc G 1 (zI 200 xf))]) (cells' := [(rd, zo 3 [.int (nI (tS tx n (tS tx n p0))), .int (nI (tF tx n (tS tx n p0))), .ref u, .int (nI (v 1)), .int (nI (v 0)), .ref cl, .int (nI re), .ref co]), (co, zo 0 (cF w mn bm sm (nI n))), (w 8, zc G 1 (zI 200 xf))]) rfl rfl rfl) (fun r u H locs hp hw => ?_)
    obtain ⟨wd0, rfl⟩ : ∃ z, z = u := ⟨_, rfl⟩
    have hw : zS G ((q_145, zc G 0 (zI 3 (upd (fun _ => 0) 0 (nI 7)))) :: (rd, zo 3 [.int (nI (tS tx n (tS tx n p0))), .int (nI (tF tx n (tS tx n p0))), .ref wd0, .int (nI (v 1)), .int (nI (v 0)), .ref cl, .int (nI re), .ref co]) :: (co, zo 0 (cF w mn bm sm (nI n))) :: (w 8, zc G 1 (zI 200 xf)) :: rest) s H locs := hw
    obtain rfl := hp
    refine z_iast (f' := upd (upd (fun _ => 0) 0 (nI 7)) 1 (nI (tQ tx n (tS tx n p0)))) hC hw 0 rfl (by decide) (by decide) rfl dX3_clause_164 (fun H locs hw => ?_)
    have hw : zS G ((q_145, zc G 0 (zI 3 (upd (upd (fun _ => 0) 0 (nI 7)) 1 (nI (tQ tx n (tS tx n p0)))))) :: (rd, zo 3 [.int (nI (tS tx n (tS tx n p0))), .int (nI (tF tx n (tS tx n p0))), .ref wd0, .int (nI (v 1)), .int (nI (v 0)), .ref cl, .int (nI re), .ref co]) :: (co, zo 0 (cF w mn bm sm (nI n))) :: (w 8, zc G 1 (zI 200 xf)) :: rest) s H locs := hw
    refine lv_dup hx hb dX3_clause_165 rfl ?_
    refine lv_iconst (v := (nI 2)) hx hb dX3_clause_166 zk_2 ?_
    refine lv_aload_n hx hb dX3_clause_167 rfl (lv_at hl 1 rfl) ?_
    refine lv_iconst (v := (nI 0)) hx hb dX3_clause_168 zk_0 ?_
    refine lv_aload_n hx hb dX3_clause_169 rfl (lv_at hl 1 rfl) ?_
    refine z_get (v := .int (nI (v 0))) hC zf_X3_37_3 hw 1 rfl rfl dX3_clause_170 ?_
    refine lv_iconst (v := (nI 1)) hx hb dX3_clause_173 zk_1 ?_
    refine zv_isub (v := (nI (v 0) - nI 1)) hx hb rfl dX3_clause_174 ?_
    refine z_ci (z_runV (As := [.int (nI 0), .int (nI (v 0) - nI 1)]) (rest := [.int (nI 2), .ref q_145, .ref q_145]) hC zv_X3_132 (m_X3_number_ok G l kA (by first | assumption | (omega)) (by first | assumption | (omega)) (by first | assumption | (omega)) rd co wd0 cl (tS tx n (tS tx n p0)) n (v 1) (v 0) re (nI (tF tx n (tS tx n p0))) w mn bm sm xf tx (by omega) (by first | assumption | (omega)) (by first | assumption | (omega)) (tS_le (tS_le hpo)) 0 (v 0) (nI (v 0) - nI 1) (hf_v (by omega)) hN2 (zrem [1, 2, 3] _)) hw (hw.perm (z_cut (is := [1, 2, 3]) (cells := [(rd, zo 3 [.int (nI (tS tx n (tS tx n p0))), .int (nI (tF tx n (tS tx n p0))), .ref wd0, .int (nI (v 1)), .int (nI (v 0)), .ref cl, .int (nI re), .ref co]), (co, zo 0 (cF w mn bm sm (nI n))), (w 8, zc G 1 (zI 200 xf))]) rfl rfl)) 1 rfl rfl rfl rfl rfl (Nat.le_of_ble_eq_true rfl) hl.1 ⟨Nat.le_of_ble_eq_true rfl, Nat.le_of_ble_eq_true rfl⟩ ⟨(Nat.le_of_ble_eq_true rfl), (Nat.le_of_ble_eq_true rfl)⟩ dX3_clause_175) hw (fun u => z_pput (is := [1, 2, 3]) (cells := [(rd, zo 3 [.int (nI (tS tx n (tS tx n p0))), .int (nI (tF tx n (tS tx n p0))), .ref wd0, .int (nI (v 1)), .int (nI (v 0)), .ref cl, .int (nI re), .ref co]), (co, zo 0 (cF w mn bm sm (nI n))), (w 8, zc G 1 (zI 200 xf))]) (cells' := [(rd, zo 3 [.int (nI (tS tx n (tS tx n (tS tx n p0)))), .int (nI (tF tx n (tS tx n (tS tx n p0)))), .ref u, .int (nI (v 1)), .int (nI (v 0)), .ref cl, .int (nI re), .ref co]), (co, zo 0 (cF w mn bm sm (nI n))), (w 8, zc G 1 (zI 200 xf))]) rfl rfl rfl) (fun r u H locs hp hw => ?_)
    obtain ⟨wd1, rfl⟩ : ∃ z, z = u := ⟨_, rfl⟩
    have hw : zS G ((q_145, zc G 0 (zI 3 (upd (upd (fun _ => 0) 0 (nI 7)) 1 (nI (tQ tx n (tS tx n p0)))))) :: (rd, zo 3 [.int (nI (tS tx n (tS tx n (tS tx n p0)))), .int (nI (tF tx n (tS tx n (tS tx n p0)))), .ref wd1, .int (nI (v 1)), .int (nI (v 0)), .ref cl, .int (nI re), .ref co]) :: (co, zo 0 (cF w mn bm sm (nI n))) :: (w 8, zc G 1 (zI 200 xf)) :: rest) s H locs := hw
    obtain rfl := hp
    refine z_iast (f' := upd (upd (upd (fun _ => 0) 0 (nI 7)) 1 (nI (tQ tx n (tS tx n p0)))) 2 (nI (tQ tx n (tS tx n (tS tx n p0))))) hC hw 0 rfl (by decide) (by decide) rfl dX3_clause_178 (fun H locs hw => ?_)
    have hw : zS G ((q_145, zc G 0 (zI 3 (upd (upd (upd (fun _ => 0) 0 (nI 7)) 1 (nI (tQ tx n (tS tx n p0)))) 2 (nI (tQ tx n (tS tx n (tS tx n p0))))))) :: (rd, zo 3 [.int (nI (tS tx n (tS tx n (tS tx n p0)))), .int (nI (tF tx n (tS tx n (tS tx n p0)))), .ref wd1, .int (nI (v 1)), .int (nI (v 0)), .ref cl, .int (nI re), .ref co]) :: (co, zo 0 (cF w mn bm sm (nI n))) :: (w 8, zc G 1 (zI 200 xf)) :: rest) s H locs := hw
    have hw : zS G ((q_145, zc G 0 (zI 3 (upd (upd (upd (fun _ => 0) 0 (nI 7)) 1 (nI (tQ tx n (tS tx n p0)))) 2 (nI (tQ tx n (tS tx n (tS tx n p0))))))) :: (rd, zo 3 [.int (nI r.2), .int (nI (tF tx n (tS tx n (tS tx n p0)))), .ref wd1, .int (nI (r.1 1)), .int (nI (r.1 0)), .ref cl, .int (nI re), .ref co]) :: (co, zo 0 (cF w mn bm sm (nI n))) :: (w 8, zc G 1 (zI 200 xf)) :: rest) s H locs := by rw [hre]; dsimp only; rw [putK_c.1, putK_c.2]; exact hw
    exact hend _ _ _ _ _ _ (some q_145) (wd1, q_145, 3, nI (tF tx n (tS tx n (tS tx n p0))), (upd (upd (upd (fun _ => 0) 0 (nI 7)) 1 (nI (tQ tx n (tS tx n p0)))) 2 (nI (tQ tx n (tS tx n (tS tx n p0)))))) hw (by exact ⟨rfl, Or.inr (Or.inr (Or.inr ⟨rfl, _, _, (tN_w.mp hN1).2.2.2, (tN_w.mp hN2).2.2.2, rfl, rfl, rfl, by rw [hre]⟩))⟩) (Nat.le_of_ble_eq_true rfl) (Nat.le_of_ble_eq_true rfl) dX3_clause_179
set_option maxHeartbeats 4000000 in
theorem m_X3_clause_x (G : zE) (l : Launch) (kA : Nat → Nat) (hG : zG G kA) (hS : zS9 G kA) (hY : zY G) (rd : Nat) (co : Nat) (wd : Nat) (cl : Nat) (p0 : Nat) (n : Nat) (re : Nat) (fs : Int32) (w : Nat → Nat) (v : Nat → Nat) (mn : Int32) (bm : Int32) (sm : Int32) (xf : Nat → Int32) (tx : Nat → Nat) (hn2 : n ≤ 200) (htx : ∀ k, k < n → tx k < 256) (hxf : ∀ k, k < n → xf k = btL (tx k)) (hpo : p0 ≤ n) (hv0 : v 0 ≤ 9) (hv1 : v 1 ≤ 5) (w9 : Nat) (hr : clauseN tx n v p0 = .inl w9) (rest : va_W) : zTh G l yX3_clause cX3_clause 2 (some (.array .int)) 9 94 3319 [.ref rd] ((rd, zo 3 [.int (nI p0), .int fs, .ref wd, .int (nI (v 1)), .int (nI (v 0)), .ref cl, .int (nI re), .ref co]) :: (co, zo 0 (cF w mn bm sm (nI n))) :: (w 8, zc G 1 (zI 200 xf)) :: rest) "NutCaches$Fault" (fun q => (q, zo 4 [.null, .null, .null, .null, .null, .int 0, .int (nI w9)]) :: (co, zo 0 (cF w mn bm sm (nI n))) :: (w 8, zc G 1 (zI 200 xf)) :: rest) := by
  refine z_begX (by decide) (Nat.le_of_ble_eq_true rfl) (fun p e s m args below meth c ls Q hQ hC htb hl hw hend => ?_)
  have hx := hC.hx
  have hb := hC.hb
  have hl : lv_has ls 2 [(0, .ref rd)] := hl
  have hw : zS G ((rd, zo 3 [.int (nI p0), .int fs, .ref wd, .int (nI (v 1)), .int (nI (v 0)), .ref cl, .int (nI re), .ref co]) :: (co, zo 0 (cF w mn bm sm (nI n))) :: (w 8, zc G 1 (zI 200 xf)) :: rest) s s.heap [] := hw
  have hz := hG s hC.hZ.1
  have hzs := hS s hC.hZ.1
  have hzy := hY s hC.hZ.1
  refine lv_aload_n hx hb dX3_clause_0 rfl (lv_at hl 0 rfl) ?_
  refine z_cv (z_runV (As := []) (rest := []) hC zv_X3_91 (m_X3_take G l kA (by first | assumption | (omega)) (by first | assumption | (omega)) rd co wd cl p0 n (v 1) (v 0) re fs w mn bm sm xf tx (by omega) (by first | assumption | (omega)) (by first | assumption | (omega)) (by omega) (zrem [0, 1, 2] _)) hw (hw.perm (z_cut (is := [0, 1, 2]) (cells := [(rd, zo 3 [.int (nI p0), .int fs, .ref wd, .int (nI (v 1)), .int (nI (v 0)), .ref cl, .int (nI re), .ref co]), (co, zo 0 (cF w mn bm sm (nI n))), (w 8, zc G 1 (zI 200 xf))]) rfl rfl)) 0 rfl rfl rfl rfl rfl (Nat.le_of_ble_eq_true rfl) hl.1 ⟨Nat.le_of_ble_eq_true rfl, Nat.le_of_ble_eq_true rfl⟩ ⟨(Nat.le_of_ble_eq_true rfl), (Nat.le_of_ble_eq_true rfl)⟩ dX3_clause_1) hw (fun u => z_new1 (is := [0, 1, 2]) (cs := [(rd, zo 3 [.int (nI p0), .int fs, .ref wd, .int (nI (v 1)), .int (nI (v 0)), .ref cl, .int (nI re), .ref co]), (co, zo 0 (cF w mn bm sm (nI n))), (w 8, zc G 1 (zI 200 xf))]) (cs' := [(rd, zo 3 [.int (nI (tS tx n p0)), .int (nI (tF tx n p0)), .ref u.1, .int (nI (v 1)), .int (nI (v 0)), .ref cl, .int (nI re), .ref co]), (co, zo 0 (cF w mn bm sm (nI n))), (w 8, zc G 1 (zI 200 xf))]) (nw := [(u.1, zo 12 [.ref u.2.1, .int (nI 0), .int 0, .int 0]), (u.2.1, zc G 1 (zI (wL tx n p0) u.2.2))]) rfl rfl rfl) (fun u H locs hp hw => ?_)
  obtain ⟨sr, sv, g4⟩ := u
  have hw : zS G ((sr, zo 12 [.ref sv, .int (nI 0), .int 0, .int 0]) :: (sv, zc G 1 (zI (wL tx n p0) g4)) :: (rd, zo 3 [.int (nI (tS tx n p0)), .int (nI (tF tx n p0)), .ref sr, .int (nI (v 1)), .int (nI (v 0)), .ref cl, .int (nI re), .ref co]) :: (co, zo 0 (cF w mn bm sm (nI n))) :: (w 8, zc G 1 (zI 200 xf)) :: rest) s H locs := hw
  have hg4 := hp
  have hg4 : ∀ j, j < wL tx n p0 → g4 j = btL (tx (tF tx n p0 + j)) := hg4
  have hwn : wL tx n p0 ≤ n := wL_lt hpo
  refine z_getsN (v := .ref (kA 0)) hC hzs.1.1 hw (hz.1 _ (cw_t q473 rfl)) dX3_clause_4 ?_
  refine z_cq (z_runS (As := [.ref (kA 0)]) (rest := []) hC zs_X3_120 (m_J0_asList G l kA (by first | assumption | (omega)) (by first | assumption | (omega)) _) hw rfl rfl (Nat.le_of_ble_eq_true rfl) hl.1 ⟨Nat.le_of_ble_eq_true rfl, Nat.le_of_ble_eq_true rfl⟩ ⟨(Nat.le_of_ble_eq_true rfl), (Nat.le_of_ble_eq_true rfl)⟩ dX3_clause_7) hw (fun _ => List.Perm.refl _) (fun r u H locs hp hw => ?_)
  obtain ⟨al, rfl⟩ : ∃ z, z = u := ⟨_, rfl⟩
  have hw : zS G ((al, zo 16 [.int 0, .ref (kA 0)]) :: (sr, zo 12 [.ref sv, .int (nI 0), .int 0, .int 0]) :: (sv, zc G 1 (zI (wL tx n p0) g4)) :: (rd, zo 3 [.int (nI (tS tx n p0)), .int (nI (tF tx n p0)), .ref sr, .int (nI (v 1)), .int (nI (v 0)), .ref cl, .int (nI re), .ref co]) :: (co, zo 0 (cF w mn bm sm (nI n))) :: (w 8, zc G 1 (zI 200 xf)) :: rest) s H locs := hw
  obtain rfl := hp
  refine lv_aload_n hx hb dX3_clause_10 rfl (lv_at hl 0 rfl) ?_
  refine z_get (v := .ref sr) hC zf_X3_17_3 hw 3 rfl rfl dX3_clause_11 ?_
  rcases cl_fail hr with ⟨hno8, rfl⟩ | ⟨k, hk, hth, h51, rfl⟩ | ⟨hth, h90, rfl⟩ | ⟨k, hk, hth, h51, hN1, rfl⟩ | ⟨k, hk, hth, h51, hN1, hN2, rfl⟩ | ⟨hth, h90, hN1, rfl⟩ | ⟨hth, h90, hN1, hN2, rfl⟩ | ⟨hth, hN1, rfl⟩ | ⟨hth, hN1, hN2, rfl⟩
  · skip
    have hl : lv_has ls 2 [(0, .ref rd)] := hl
    have hw : zS G ((al, zo 16 [.int 0, .ref (kA 0)]) :: (sr, zo 12 [.ref sv, .int (nI 0), .int 0, .int 0]) :: (sv, zc G 1 (zI (wL tx n p0) g4)) :: (rd, zo 3 [.int (nI (tS tx n p0)), .int (nI (tF tx n p0)), .ref sr, .int (nI (v 1)), .int (nI (v 0)), .ref cl, .int (nI re), .ref co]) :: (co, zo 0 (cF w mn bm sm (nI n))) :: (w 8, zc G 1 (zI 200 xf)) :: rest) s H locs := hw
    refine z_c5i (z_runF (As := [.ref sr]) (rest := []) hC zif_X3_126_16 q646 ⟨hz.1 _ (cw_t q594 rfl), hz.1 _ (cw_t q593 rfl), hz.1 _ (cw_t q645 rfl), hz.1 _ (cw_t q643 rfl), hz.1 _ (cw_t q641 rfl)⟩ (m_J11_indexOf_n G l kA (by first | assumption | (omega)) (by first | assumption | (omega)) al sr sv (wL tx n p0) g4 (by omega) (fun j hj q => hno8 j hj ((tH_w hpo htx hg4 (show j < 8 by omega)).mp q)) (zrem [0, 1, 2] _)) hw (hw.perm (z_cut (is := [0, 1, 2]) (cells := [(al, zo 16 [.int 0, .ref (kA 0)]), (sr, zo 12 [.ref sv, .int (nI 0), .int 0, .int 0]), (sv, zc G 1 (zI (wL tx n p0) g4))]) rfl rfl)) 0 rfl rfl rfl rfl rfl (Nat.le_of_ble_eq_true rfl) hl.1 ⟨Nat.le_of_ble_eq_true rfl, Nat.le_of_ble_eq_true rfl⟩ ⟨(Nat.le_of_ble_eq_true rfl), (Nat.le_of_ble_eq_true rfl)⟩ dX3_clause_14) hw (fun _ => z_keep (is := [0, 1, 2]) (cs := [(al, zo 16 [.int 0, .ref (kA 0)]), (sr, zo 12 [.ref sv, .int (nI 0), .int 0, .int 0]), (sv, zc G 1 (zI (wL tx n p0) g4))]) rfl rfl) (fun r u H locs hp hw => ?_)
    obtain rfl : r = -1 := hp
    have hw : zS G ((sr, zo 12 [.ref sv, .int (nI 0), .int 0, .int 0]) :: (sv, zc G 1 (zI (wL tx n p0) g4)) :: (al, zo 16 [.int 0, .ref (kA 0)]) :: (rd, zo 3 [.int (nI (tS tx n p0)), .int (nI (tF tx n p0)), .ref sr, .int (nI (v 1)), .int (nI (v 0)), .ref cl, .int (nI re), .ref co]) :: (co, zo 0 (cF w mn bm sm (nI n))) :: (w 8, zc G 1 (zI 200 xf)) :: rest) s H locs := hw.perm (((z_cut (is := [1, 2, 0, 3, 4, 5]) (ws := [(al, zo 16 [.int 0, .ref (kA 0)]), (sr, zo 12 [.ref sv, .int (nI 0), .int 0, .int 0]), (sv, zc G 1 (zI (wL tx n p0) g4)), (rd, zo 3 [.int (nI (tS tx n p0)), .int (nI (tF tx n p0)), .ref sr, .int (nI (v 1)), .int (nI (v 0)), .ref cl, .int (nI re), .ref co]), (co, zo 0 (cF w mn bm sm (nI n))), (w 8, zc G 1 (zI 200 xf))]) (cells := [(sr, zo 12 [.ref sv, .int (nI 0), .int 0, .int 0]), (sv, zc G 1 (zI (wL tx n p0) g4)), (al, zo 16 [.int 0, .ref (kA 0)]), (rd, zo 3 [.int (nI (tS tx n p0)), .int (nI (tF tx n p0)), .ref sr, .int (nI (v 1)), .int (nI (v 0)), .ref cl, .int (nI re), .ref co]), (co, zo 0 (cF w mn bm sm (nI n))), (w 8, zc G 1 (zI 200 xf))]) rfl rfl).append_right rest).trans (by rw [List.append_assoc]; exact List.Perm.refl _))
    have hw := hw.drop
    have hw := hw.drop
    have hw := hw.drop
    refine lv_istore_n (lv' := [(1, .int (-1)), (0, .ref rd)]) hx hb dX3_clause_19 rfl hl (by decide) rfl (fun ls hl => ?_)
    refine lv_aload_n hx hb dX3_clause_20 rfl (lv_at hl 1 rfl) ?_
    refine lv_iload_n hx hb dX3_clause_21 rfl (lv_at hl 0 rfl) ?_
    refine lv_iconst (v := -1) hx hb dX3_clause_22 zk_m1 ?_
    refine lv_icmp_eq (tgt := 58) hx hb dX3_clause_23 (by decide) (fun _ => ?_) (fun h => absurd rfl h)
    refine lv_iconst (v := (nI 0)) hx hb dX3_clause_58 zk_0 ?_
    refine z_ct (z_runVT (As := [.int (nI 0)]) (rest := []) hC zv_X3_106 (m_X3_want_f G l kA (by first | assumption | (omega)) (by first | assumption | (omega)) (by first | assumption | (omega)) rd co sr cl (tS tx n p0) n (v 1) (v 0) re (nI (tF tx n p0)) (zrem [0] _)) hw (hw.perm (z_cut (is := [0]) (cells := [(rd, zo 3 [.int (nI (tS tx n p0)), .int (nI (tF tx n p0)), .ref sr, .int (nI (v 1)), .int (nI (v 0)), .ref cl, .int (nI re), .ref co])]) rfl rfl)) 0 rfl rfl rfl rfl rfl (Nat.le_of_ble_eq_true rfl) hl.1 ⟨Nat.le_of_ble_eq_true rfl, Nat.le_of_ble_eq_true rfl⟩ ⟨(Nat.le_of_ble_eq_true rfl), (Nat.le_of_ble_eq_true rfl)⟩ dX3_clause_59) hw (fun q9 => z_new1 (is := [0]) (cs := [(rd, zo 3 [.int (nI (tS tx n p0)), .int (nI (tF tx n p0)), .ref sr, .int (nI (v 1)), .int (nI (v 0)), .ref cl, .int (nI re), .ref co])]) (cs' := [(rd, zo 3 [.int (nI (tS tx n p0)), .int (nI (tF tx n p0)), .ref sr, .int (nI (v 1)), .int (nI (v 0)), .ref cl, .int (nI re), .ref co])]) (nw := [(q9, zo 4 [.null, .null, .null, .null, .null, .int 0, .int (nI (tF tx n p0))])]) rfl rfl rfl) (fun q9 H locs ce9 hex => ?_)
    obtain ⟨hw, hx9⟩ := hex
    have hw : zS G ((q9, zo 4 [.null, .null, .null, .null, .null, .int 0, .int (nI (tF tx n p0))]) :: (rd, zo 3 [.int (nI (tS tx n p0)), .int (nI (tF tx n p0)), .ref sr, .int (nI (v 1)), .int (nI (v 0)), .ref cl, .int (nI re), .ref co]) :: (co, zo 0 (cF w mn bm sm (nI n))) :: (w 8, zc G 1 (zI 200 xf)) :: rest) s H locs := hw
    have hw : zS G ((rd, zo 3 [.int (nI (tS tx n p0)), .int (nI (tF tx n p0)), .ref sr, .int (nI (v 1)), .int (nI (v 0)), .ref cl, .int (nI re), .ref co]) :: (q9, zo 4 [.null, .null, .null, .null, .null, .int 0, .int (nI (tF tx n p0))]) :: (co, zo 0 (cF w mn bm sm (nI n))) :: (w 8, zc G 1 (zI 200 xf)) :: rest) s H locs := hw.perm (((z_cut (is := [1, 0, 2, 3]) (ws := [(q9, zo 4 [.null, .null, .null, .null, .null, .int 0, .int (nI (tF tx n p0))]), (rd, zo 3 [.int (nI (tS tx n p0)), .int (nI (tF tx n p0)), .ref sr, .int (nI (v 1)), .int (nI (v 0)), .ref cl, .int (nI re), .ref co]), (co, zo 0 (cF w mn bm sm (nI n))), (w 8, zc G 1 (zI 200 xf))]) (cells := [(rd, zo 3 [.int (nI (tS tx n p0)), .int (nI (tF tx n p0)), .ref sr, .int (nI (v 1)), .int (nI (v 0)), .ref cl, .int (nI re), .ref co]), (q9, zo 4 [.null, .null, .null, .null, .null, .int 0, .int (nI (tF tx n p0))]), (co, zo 0 (cF w mn bm sm (nI n))), (w 8, zc G 1 (zI 200 xf))]) rfl rfl).append_right rest).trans (by rw [List.append_assoc]; exact List.Perm.refl _))
    have hw := hw.drop
    exact hend _ _ _ _ _ _ _ _ _ ⟨hw, hx9⟩ (by decide) (Nat.le_of_ble_eq_true rfl) (Nat.le_of_ble_eq_true rfl)
  · skip
    have hl : lv_has ls 2 [(0, .ref rd)] := hl
    have hw : zS G ((al, zo 16 [.int 0, .ref (kA 0)]) :: (sr, zo 12 [.ref sv, .int (nI 0), .int 0, .int 0]) :: (sv, zc G 1 (zI (wL tx n p0) g4)) :: (rd, zo 3 [.int (nI (tS tx n p0)), .int (nI (tF tx n p0)), .ref sr, .int (nI (v 1)), .int (nI (v 0)), .ref cl, .int (nI re), .ref co]) :: (co, zo 0 (cF w mn bm sm (nI n))) :: (w 8, zc G 1 (zI 200 xf)) :: rest) s H locs := hw
    refine z_c5i (z_runF (As := [.ref sr]) (rest := []) hC zif_X3_126_16 q646 ⟨hz.1 _ (cw_t q594 rfl), hz.1 _ (cw_t q593 rfl), hz.1 _ (cw_t q645 rfl), hz.1 _ (cw_t q643 rfl), hz.1 _ (cw_t q641 rfl)⟩ (m_J11_indexOf_y G l kA (by first | assumption | (omega)) (by first | assumption | (omega)) al sr sv (wL tx n p0) g4 (by omega) k (by omega) ((tH_w hpo htx hg4 (show k < 8 by omega)).mpr hth) (fun j hj q => absurd (tH_1 (show j < 8 by omega) (show k < 8 by omega) ((tH_w hpo htx hg4 (show j < 8 by omega)).mp q) hth) (by omega)) (zrem [0, 1, 2] _)) hw (hw.perm (z_cut (is := [0, 1, 2]) (cells := [(al, zo 16 [.int 0, .ref (kA 0)]), (sr, zo 12 [.ref sv, .int (nI 0), .int 0, .int 0]), (sv, zc G 1 (zI (wL tx n p0) g4))]) rfl rfl)) 0 rfl rfl rfl rfl rfl (Nat.le_of_ble_eq_true rfl) hl.1 ⟨Nat.le_of_ble_eq_true rfl, Nat.le_of_ble_eq_true rfl⟩ ⟨(Nat.le_of_ble_eq_true rfl), (Nat.le_of_ble_eq_true rfl)⟩ dX3_clause_14) hw (fun _ => z_keep (is := [0, 1, 2]) (cs := [(al, zo 16 [.int 0, .ref (kA 0)]), (sr, zo 12 [.ref sv, .int (nI 0), .int 0, .int 0]), (sv, zc G 1 (zI (wL tx n p0) g4))]) rfl rfl) (fun r u H locs hp hw => ?_)
    obtain rfl : r = nI k := hp
    have hw : zS G ((sr, zo 12 [.ref sv, .int (nI 0), .int 0, .int 0]) :: (sv, zc G 1 (zI (wL tx n p0) g4)) :: (al, zo 16 [.int 0, .ref (kA 0)]) :: (rd, zo 3 [.int (nI (tS tx n p0)), .int (nI (tF tx n p0)), .ref sr, .int (nI (v 1)), .int (nI (v 0)), .ref cl, .int (nI re), .ref co]) :: (co, zo 0 (cF w mn bm sm (nI n))) :: (w 8, zc G 1 (zI 200 xf)) :: rest) s H locs := hw.perm (((z_cut (is := [1, 2, 0, 3, 4, 5]) (ws := [(al, zo 16 [.int 0, .ref (kA 0)]), (sr, zo 12 [.ref sv, .int (nI 0), .int 0, .int 0]), (sv, zc G 1 (zI (wL tx n p0) g4)), (rd, zo 3 [.int (nI (tS tx n p0)), .int (nI (tF tx n p0)), .ref sr, .int (nI (v 1)), .int (nI (v 0)), .ref cl, .int (nI re), .ref co]), (co, zo 0 (cF w mn bm sm (nI n))), (w 8, zc G 1 (zI 200 xf))]) (cells := [(sr, zo 12 [.ref sv, .int (nI 0), .int 0, .int 0]), (sv, zc G 1 (zI (wL tx n p0) g4)), (al, zo 16 [.int 0, .ref (kA 0)]), (rd, zo 3 [.int (nI (tS tx n p0)), .int (nI (tF tx n p0)), .ref sr, .int (nI (v 1)), .int (nI (v 0)), .ref cl, .int (nI re), .ref co]), (co, zo 0 (cF w mn bm sm (nI n))), (w 8, zc G 1 (zI 200 xf))]) rfl rfl).append_right rest).trans (by rw [List.append_assoc]; exact List.Perm.refl _))
    have hw := hw.drop
    have hw := hw.drop
    have hw := hw.drop
    refine lv_istore_n (lv' := [(1, .int (nI k)), (0, .ref rd)]) hx hb dX3_clause_19 rfl hl (by decide) rfl (fun ls hl => ?_)
    refine lv_aload_n hx hb dX3_clause_20 rfl (lv_at hl 1 rfl) ?_
    refine lv_iload_n hx hb dX3_clause_21 rfl (lv_at hl 0 rfl) ?_
    refine lv_iconst (v := -1) hx hb dX3_clause_22 zk_m1 ?_
    refine lv_icmp_eq (tgt := 58) hx hb dX3_clause_23 (by decide) (fun h => absurd h (nI_m1 (by omega))) (fun _ => ?_)
    refine lv_iload_n hx hb dX3_clause_26 rfl (lv_at hl 0 rfl) ?_
    refine lv_iconst (v := (nI 4)) hx hb dX3_clause_27 zk_4 ?_
    refine zi_gt (tgt := 39) hx hb (by omega) (by decide) dX3_clause_28 (by decide) (fun h => absurd h (by omega)) (fun _ => ?_)
    refine lv_aload_n hx hb dX3_clause_31 rfl (lv_at hl 1 rfl) ?_
    refine z_get (v := .int (nI (v 1))) hC zf_X3_25_3 hw 0 rfl rfl dX3_clause_32 ?_
    refine lv_iconst (v := (nI 5)) hx hb dX3_clause_35 zk_5 ?_
    refine zi_ge (tgt := 58) hx hb (by omega) (by decide) dX3_clause_36 (by decide) (fun _ => ?_) (fun h => absurd h (by omega))
    refine lv_iconst (v := (nI 0)) hx hb dX3_clause_58 zk_0 ?_
    refine z_ct (z_runVT (As := [.int (nI 0)]) (rest := []) hC zv_X3_106 (m_X3_want_f G l kA (by first | assumption | (omega)) (by first | assumption | (omega)) (by first | assumption | (omega)) rd co sr cl (tS tx n p0) n (v 1) (v 0) re (nI (tF tx n p0)) (zrem [0] _)) hw (hw.perm (z_cut (is := [0]) (cells := [(rd, zo 3 [.int (nI (tS tx n p0)), .int (nI (tF tx n p0)), .ref sr, .int (nI (v 1)), .int (nI (v 0)), .ref cl, .int (nI re), .ref co])]) rfl rfl)) 0 rfl rfl rfl rfl rfl (Nat.le_of_ble_eq_true rfl) hl.1 ⟨Nat.le_of_ble_eq_true rfl, Nat.le_of_ble_eq_true rfl⟩ ⟨(Nat.le_of_ble_eq_true rfl), (Nat.le_of_ble_eq_true rfl)⟩ dX3_clause_59) hw (fun q9 => z_new1 (is := [0]) (cs := [(rd, zo 3 [.int (nI (tS tx n p0)), .int (nI (tF tx n p0)), .ref sr, .int (nI (v 1)), .int (nI (v 0)), .ref cl, .int (nI re), .ref co])]) (cs' := [(rd, zo 3 [.int (nI (tS tx n p0)), .int (nI (tF tx n p0)), .ref sr, .int (nI (v 1)), .int (nI (v 0)), .ref cl, .int (nI re), .ref co])]) (nw := [(q9, zo 4 [.null, .null, .null, .null, .null, .int 0, .int (nI (tF tx n p0))])]) rfl rfl rfl) (fun q9 H locs ce9 hex => ?_)
    obtain ⟨hw, hx9⟩ := hex
    have hw : zS G ((q9, zo 4 [.null, .null, .null, .null, .null, .int 0, .int (nI (tF tx n p0))]) :: (rd, zo 3 [.int (nI (tS tx n p0)), .int (nI (tF tx n p0)), .ref sr, .int (nI (v 1)), .int (nI (v 0)), .ref cl, .int (nI re), .ref co]) :: (co, zo 0 (cF w mn bm sm (nI n))) :: (w 8, zc G 1 (zI 200 xf)) :: rest) s H locs := hw
    have hw : zS G ((rd, zo 3 [.int (nI (tS tx n p0)), .int (nI (tF tx n p0)), .ref sr, .int (nI (v 1)), .int (nI (v 0)), .ref cl, .int (nI re), .ref co]) :: (q9, zo 4 [.null, .null, .null, .null, .null, .int 0, .int (nI (tF tx n p0))]) :: (co, zo 0 (cF w mn bm sm (nI n))) :: (w 8, zc G 1 (zI 200 xf)) :: rest) s H locs := hw.perm (((z_cut (is := [1, 0, 2, 3]) (ws := [(q9, zo 4 [.null, .null, .null, .null, .null, .int 0, .int (nI (tF tx n p0))]), (rd, zo 3 [.int (nI (tS tx n p0)), .int (nI (tF tx n p0)), .ref sr, .int (nI (v 1)), .int (nI (v 0)), .ref cl, .int (nI re), .ref co]), (co, zo 0 (cF w mn bm sm (nI n))), (w 8, zc G 1 (zI 200 xf))]) (cells := [(rd, zo 3 [.int (nI (tS tx n p0)), .int (nI (tF tx n p0)), .ref sr, .int (nI (v 1)), .int (nI (v 0)), .ref cl, .int (nI re), .ref co]), (q9, zo 4 [.null, .null, .null, .null, .null, .int 0, .int (nI (tF tx n p0))]), (co, zo 0 (cF w mn bm sm (nI n))), (w 8, zc G 1 (zI 200 xf))]) rfl rfl).append_right rest).trans (by rw [List.append_assoc]; exact List.Perm.refl _))
    have hw := hw.drop
    exact hend _ _ _ _ _ _ _ _ _ ⟨hw, hx9⟩ (by decide) (Nat.le_of_ble_eq_true rfl) (Nat.le_of_ble_eq_true rfl)
  · skip
    have hl : lv_has ls 2 [(0, .ref rd)] := hl
    have hw : zS G ((al, zo 16 [.int 0, .ref (kA 0)]) :: (sr, zo 12 [.ref sv, .int (nI 0), .int 0, .int 0]) :: (sv, zc G 1 (zI (wL tx n p0) g4)) :: (rd, zo 3 [.int (nI (tS tx n p0)), .int (nI (tF tx n p0)), .ref sr, .int (nI (v 1)), .int (nI (v 0)), .ref cl, .int (nI re), .ref co]) :: (co, zo 0 (cF w mn bm sm (nI n))) :: (w 8, zc G 1 (zI 200 xf)) :: rest) s H locs := hw
    refine z_c5i (z_runF (As := [.ref sr]) (rest := []) hC zif_X3_126_16 q646 ⟨hz.1 _ (cw_t q594 rfl), hz.1 _ (cw_t q593 rfl), hz.1 _ (cw_t q645 rfl), hz.1 _ (cw_t q643 rfl), hz.1 _ (cw_t q641 rfl)⟩ (m_J11_indexOf_y G l kA (by first | assumption | (omega)) (by first | assumption | (omega)) al sr sv (wL tx n p0) g4 (by omega) 6 (by omega) ((tH_w hpo htx hg4 (show 6 < 8 by omega)).mpr hth) (fun j hj q => absurd (tH_1 (show j < 8 by omega) (show 6 < 8 by omega) ((tH_w hpo htx hg4 (show j < 8 by omega)).mp q) hth) (by omega)) (zrem [0, 1, 2] _)) hw (hw.perm (z_cut (is := [0, 1, 2]) (cells := [(al, zo 16 [.int 0, .ref (kA 0)]), (sr, zo 12 [.ref sv, .int (nI 0), .int 0, .int 0]), (sv, zc G 1 (zI (wL tx n p0) g4))]) rfl rfl)) 0 rfl rfl rfl rfl rfl (Nat.le_of_ble_eq_true rfl) hl.1 ⟨Nat.le_of_ble_eq_true rfl, Nat.le_of_ble_eq_true rfl⟩ ⟨(Nat.le_of_ble_eq_true rfl), (Nat.le_of_ble_eq_true rfl)⟩ dX3_clause_14) hw (fun _ => z_keep (is := [0, 1, 2]) (cs := [(al, zo 16 [.int 0, .ref (kA 0)]), (sr, zo 12 [.ref sv, .int (nI 0), .int 0, .int 0]), (sv, zc G 1 (zI (wL tx n p0) g4))]) rfl rfl) (fun r u H locs hp hw => ?_)
    obtain rfl : r = nI 6 := hp
    have hw : zS G ((sr, zo 12 [.ref sv, .int (nI 0), .int 0, .int 0]) :: (sv, zc G 1 (zI (wL tx n p0) g4)) :: (al, zo 16 [.int 0, .ref (kA 0)]) :: (rd, zo 3 [.int (nI (tS tx n p0)), .int (nI (tF tx n p0)), .ref sr, .int (nI (v 1)), .int (nI (v 0)), .ref cl, .int (nI re), .ref co]) :: (co, zo 0 (cF w mn bm sm (nI n))) :: (w 8, zc G 1 (zI 200 xf)) :: rest) s H locs := hw.perm (((z_cut (is := [1, 2, 0, 3, 4, 5]) (ws := [(al, zo 16 [.int 0, .ref (kA 0)]), (sr, zo 12 [.ref sv, .int (nI 0), .int 0, .int 0]), (sv, zc G 1 (zI (wL tx n p0) g4)), (rd, zo 3 [.int (nI (tS tx n p0)), .int (nI (tF tx n p0)), .ref sr, .int (nI (v 1)), .int (nI (v 0)), .ref cl, .int (nI re), .ref co]), (co, zo 0 (cF w mn bm sm (nI n))), (w 8, zc G 1 (zI 200 xf))]) (cells := [(sr, zo 12 [.ref sv, .int (nI 0), .int 0, .int 0]), (sv, zc G 1 (zI (wL tx n p0) g4)), (al, zo 16 [.int 0, .ref (kA 0)]), (rd, zo 3 [.int (nI (tS tx n p0)), .int (nI (tF tx n p0)), .ref sr, .int (nI (v 1)), .int (nI (v 0)), .ref cl, .int (nI re), .ref co]), (co, zo 0 (cF w mn bm sm (nI n))), (w 8, zc G 1 (zI 200 xf))]) rfl rfl).append_right rest).trans (by rw [List.append_assoc]; exact List.Perm.refl _))
    have hw := hw.drop
    have hw := hw.drop
    have hw := hw.drop
    refine lv_istore_n (lv' := [(1, .int (nI 6)), (0, .ref rd)]) hx hb dX3_clause_19 rfl hl (by decide) rfl (fun ls hl => ?_)
    refine lv_aload_n hx hb dX3_clause_20 rfl (lv_at hl 1 rfl) ?_
    refine lv_iload_n hx hb dX3_clause_21 rfl (lv_at hl 0 rfl) ?_
    refine lv_iconst (v := -1) hx hb dX3_clause_22 zk_m1 ?_
    refine lv_icmp_eq (tgt := 58) hx hb dX3_clause_23 (by decide) (fun h => absurd h (nI_m1 (by omega))) (fun _ => ?_)
    refine lv_iload_n hx hb dX3_clause_26 rfl (lv_at hl 0 rfl) ?_
    refine lv_iconst (v := (nI 4)) hx hb dX3_clause_27 zk_4 ?_
    refine zi_gt (tgt := 39) hx hb (by decide) (by decide) dX3_clause_28 (by decide) (fun _ => ?_) (fun h => absurd h (by decide))
    refine lv_iload_n hx hb dX3_clause_39 rfl (lv_at hl 0 rfl) ?_
    refine lv_bipush (v := (nI 6)) hx hb dX3_clause_40 zb_6 ?_
    refine zi_ne (tgt := 54) hx hb (by decide) (by decide) dX3_clause_42 (by decide) (fun h => absurd h (by decide)) (fun _ => ?_)
    refine lv_aload_n hx hb dX3_clause_45 rfl (lv_at hl 1 rfl) ?_
    refine z_get (v := .int (nI (v 0))) hC zf_X3_37_3 hw 0 rfl rfl dX3_clause_46 ?_
    refine lv_bipush (v := (nI 9)) hx hb dX3_clause_49 zb_9 ?_
    refine zi_ge (tgt := 58) hx hb (by omega) (by decide) dX3_clause_51 (by decide) (fun _ => ?_) (fun h => absurd h (by omega))
    refine lv_iconst (v := (nI 0)) hx hb dX3_clause_58 zk_0 ?_
    refine z_ct (z_runVT (As := [.int (nI 0)]) (rest := []) hC zv_X3_106 (m_X3_want_f G l kA (by first | assumption | (omega)) (by first | assumption | (omega)) (by first | assumption | (omega)) rd co sr cl (tS tx n p0) n (v 1) (v 0) re (nI (tF tx n p0)) (zrem [0] _)) hw (hw.perm (z_cut (is := [0]) (cells := [(rd, zo 3 [.int (nI (tS tx n p0)), .int (nI (tF tx n p0)), .ref sr, .int (nI (v 1)), .int (nI (v 0)), .ref cl, .int (nI re), .ref co])]) rfl rfl)) 0 rfl rfl rfl rfl rfl (Nat.le_of_ble_eq_true rfl) hl.1 ⟨Nat.le_of_ble_eq_true rfl, Nat.le_of_ble_eq_true rfl⟩ ⟨(Nat.le_of_ble_eq_true rfl), (Nat.le_of_ble_eq_true rfl)⟩ dX3_clause_59) hw (fun q9 => z_new1 (is := [0]) (cs := [(rd, zo 3 [.int (nI (tS tx n p0)), .int (nI (tF tx n p0)), .ref sr, .int (nI (v 1)), .int (nI (v 0)), .ref cl, .int (nI re), .ref co])]) (cs' := [(rd, zo 3 [.int (nI (tS tx n p0)), .int (nI (tF tx n p0)), .ref sr, .int (nI (v 1)), .int (nI (v 0)), .ref cl, .int (nI re), .ref co])]) (nw := [(q9, zo 4 [.null, .null, .null, .null, .null, .int 0, .int (nI (tF tx n p0))])]) rfl rfl rfl) (fun q9 H locs ce9 hex => ?_)
    obtain ⟨hw, hx9⟩ := hex
    have hw : zS G ((q9, zo 4 [.null, .null, .null, .null, .null, .int 0, .int (nI (tF tx n p0))]) :: (rd, zo 3 [.int (nI (tS tx n p0)), .int (nI (tF tx n p0)), .ref sr, .int (nI (v 1)), .int (nI (v 0)), .ref cl, .int (nI re), .ref co]) :: (co, zo 0 (cF w mn bm sm (nI n))) :: (w 8, zc G 1 (zI 200 xf)) :: rest) s H locs := hw
    have hw : zS G ((rd, zo 3 [.int (nI (tS tx n p0)), .int (nI (tF tx n p0)), .ref sr, .int (nI (v 1)), .int (nI (v 0)), .ref cl, .int (nI re), .ref co]) :: (q9, zo 4 [.null, .null, .null, .null, .null, .int 0, .int (nI (tF tx n p0))]) :: (co, zo 0 (cF w mn bm sm (nI n))) :: (w 8, zc G 1 (zI 200 xf)) :: rest) s H locs := hw.perm (((z_cut (is := [1, 0, 2, 3]) (ws := [(q9, zo 4 [.null, .null, .null, .null, .null, .int 0, .int (nI (tF tx n p0))]), (rd, zo 3 [.int (nI (tS tx n p0)), .int (nI (tF tx n p0)), .ref sr, .int (nI (v 1)), .int (nI (v 0)), .ref cl, .int (nI re), .ref co]), (co, zo 0 (cF w mn bm sm (nI n))), (w 8, zc G 1 (zI 200 xf))]) (cells := [(rd, zo 3 [.int (nI (tS tx n p0)), .int (nI (tF tx n p0)), .ref sr, .int (nI (v 1)), .int (nI (v 0)), .ref cl, .int (nI re), .ref co]), (q9, zo 4 [.null, .null, .null, .null, .null, .int 0, .int (nI (tF tx n p0))]), (co, zo 0 (cF w mn bm sm (nI n))), (w 8, zc G 1 (zI 200 xf))]) rfl rfl).append_right rest).trans (by rw [List.append_assoc]; exact List.Perm.refl _))
    have hw := hw.drop
    exact hend _ _ _ _ _ _ _ _ _ ⟨hw, hx9⟩ (by decide) (Nat.le_of_ble_eq_true rfl) (Nat.le_of_ble_eq_true rfl)
  · skip
    have hl : lv_has ls 2 [(0, .ref rd)] := hl
    have hw : zS G ((al, zo 16 [.int 0, .ref (kA 0)]) :: (sr, zo 12 [.ref sv, .int (nI 0), .int 0, .int 0]) :: (sv, zc G 1 (zI (wL tx n p0) g4)) :: (rd, zo 3 [.int (nI (tS tx n p0)), .int (nI (tF tx n p0)), .ref sr, .int (nI (v 1)), .int (nI (v 0)), .ref cl, .int (nI re), .ref co]) :: (co, zo 0 (cF w mn bm sm (nI n))) :: (w 8, zc G 1 (zI 200 xf)) :: rest) s H locs := hw
    refine z_c5i (z_runF (As := [.ref sr]) (rest := []) hC zif_X3_126_16 q646 ⟨hz.1 _ (cw_t q594 rfl), hz.1 _ (cw_t q593 rfl), hz.1 _ (cw_t q645 rfl), hz.1 _ (cw_t q643 rfl), hz.1 _ (cw_t q641 rfl)⟩ (m_J11_indexOf_y G l kA (by first | assumption | (omega)) (by first | assumption | (omega)) al sr sv (wL tx n p0) g4 (by omega) k (by omega) ((tH_w hpo htx hg4 (show k < 8 by omega)).mpr hth) (fun j hj q => absurd (tH_1 (show j < 8 by omega) (show k < 8 by omega) ((tH_w hpo htx hg4 (show j < 8 by omega)).mp q) hth) (by omega)) (zrem [0, 1, 2] _)) hw (hw.perm (z_cut (is := [0, 1, 2]) (cells := [(al, zo 16 [.int 0, .ref (kA 0)]), (sr, zo 12 [.ref sv, .int (nI 0), .int 0, .int 0]), (sv, zc G 1 (zI (wL tx n p0) g4))]) rfl rfl)) 0 rfl rfl rfl rfl rfl (Nat.le_of_ble_eq_true rfl) hl.1 ⟨Nat.le_of_ble_eq_true rfl, Nat.le_of_ble_eq_true rfl⟩ ⟨(Nat.le_of_ble_eq_true rfl), (Nat.le_of_ble_eq_true rfl)⟩ dX3_clause_14) hw (fun _ => z_keep (is := [0, 1, 2]) (cs := [(al, zo 16 [.int 0, .ref (kA 0)]), (sr, zo 12 [.ref sv, .int (nI 0), .int 0, .int 0]), (sv, zc G 1 (zI (wL tx n p0) g4))]) rfl rfl) (fun r u H locs hp hw => ?_)
    obtain rfl : r = nI k := hp
    have hw : zS G ((sr, zo 12 [.ref sv, .int (nI 0), .int 0, .int 0]) :: (sv, zc G 1 (zI (wL tx n p0) g4)) :: (al, zo 16 [.int 0, .ref (kA 0)]) :: (rd, zo 3 [.int (nI (tS tx n p0)), .int (nI (tF tx n p0)), .ref sr, .int (nI (v 1)), .int (nI (v 0)), .ref cl, .int (nI re), .ref co]) :: (co, zo 0 (cF w mn bm sm (nI n))) :: (w 8, zc G 1 (zI 200 xf)) :: rest) s H locs := hw.perm (((z_cut (is := [1, 2, 0, 3, 4, 5]) (ws := [(al, zo 16 [.int 0, .ref (kA 0)]), (sr, zo 12 [.ref sv, .int (nI 0), .int 0, .int 0]), (sv, zc G 1 (zI (wL tx n p0) g4)), (rd, zo 3 [.int (nI (tS tx n p0)), .int (nI (tF tx n p0)), .ref sr, .int (nI (v 1)), .int (nI (v 0)), .ref cl, .int (nI re), .ref co]), (co, zo 0 (cF w mn bm sm (nI n))), (w 8, zc G 1 (zI 200 xf))]) (cells := [(sr, zo 12 [.ref sv, .int (nI 0), .int 0, .int 0]), (sv, zc G 1 (zI (wL tx n p0) g4)), (al, zo 16 [.int 0, .ref (kA 0)]), (rd, zo 3 [.int (nI (tS tx n p0)), .int (nI (tF tx n p0)), .ref sr, .int (nI (v 1)), .int (nI (v 0)), .ref cl, .int (nI re), .ref co]), (co, zo 0 (cF w mn bm sm (nI n))), (w 8, zc G 1 (zI 200 xf))]) rfl rfl).append_right rest).trans (by rw [List.append_assoc]; exact List.Perm.refl _))
    have hw := hw.drop
    have hw := hw.drop
    have hw := hw.drop
    refine lv_istore_n (lv' := [(1, .int (nI k)), (0, .ref rd)]) hx hb dX3_clause_19 rfl hl (by decide) rfl (fun ls hl => ?_)
    refine lv_aload_n hx hb dX3_clause_20 rfl (lv_at hl 1 rfl) ?_
    refine lv_iload_n hx hb dX3_clause_21 rfl (lv_at hl 0 rfl) ?_
    refine lv_iconst (v := -1) hx hb dX3_clause_22 zk_m1 ?_
    refine lv_icmp_eq (tgt := 58) hx hb dX3_clause_23 (by decide) (fun h => absurd h (nI_m1 (by omega))) (fun _ => ?_)
    refine lv_iload_n hx hb dX3_clause_26 rfl (lv_at hl 0 rfl) ?_
    refine lv_iconst (v := (nI 4)) hx hb dX3_clause_27 zk_4 ?_
    refine zi_gt (tgt := 39) hx hb (by omega) (by decide) dX3_clause_28 (by decide) (fun h => absurd h (by omega)) (fun _ => ?_)
    refine lv_aload_n hx hb dX3_clause_31 rfl (lv_at hl 1 rfl) ?_
    refine z_get (v := .int (nI (v 1))) hC zf_X3_25_3 hw 0 rfl rfl dX3_clause_32 ?_
    refine lv_iconst (v := (nI 5)) hx hb dX3_clause_35 zk_5 ?_
    refine zi_ge (tgt := 58) hx hb (by omega) (by decide) dX3_clause_36 (by decide) (fun h => absurd h (by omega)) (fun _ => ?_)
    refine lv_iload_n hx hb dX3_clause_39 rfl (lv_at hl 0 rfl) ?_
    refine lv_bipush (v := (nI 6)) hx hb dX3_clause_40 zb_6 ?_
    refine zi_ne (tgt := 54) hx hb (by omega) (by decide) dX3_clause_42 (by decide) (fun _ => ?_) (fun h => absurd h (by omega))
    refine lv_iconst (v := (nI 1)) hx hb dX3_clause_54 zk_1 ?_
    refine lv_goto (tgt := 59) hx hb dX3_clause_55 (by decide) ?_
    refine z_cv (z_runV (As := [.int (nI 1)]) (rest := []) hC zv_X3_106 (m_X3_want_t G l rd _) hw hw 0 rfl rfl rfl rfl rfl (Nat.le_of_ble_eq_true rfl) hl.1 ⟨Nat.le_of_ble_eq_true rfl, Nat.le_of_ble_eq_true rfl⟩ ⟨(Nat.le_of_ble_eq_true rfl), (Nat.le_of_ble_eq_true rfl)⟩ dX3_clause_59) hw (fun _ => List.Perm.refl _) (fun u H locs hp hw => ?_)
    refine lv_iload_n hx hb dX3_clause_62 rfl (lv_at hl 0 rfl) ?_
    refine lv_tableOut (tgt := 180) hx hb dX3_clause_63 (Or.inl (by rw [nI_toInt (by omega)]; omega)) (by decide) ?_
    refine lv_aload_n hx hb dX3_clause_180 rfl (lv_at hl 1 rfl) ?_
    refine lv_dup hx hb dX3_clause_181 rfl ?_
    refine z_get (v := .int (nI (v 1))) hC zf_X3_25_3 hw 0 rfl rfl dX3_clause_182 ?_
    refine lv_iconst (v := (nI 1)) hx hb dX3_clause_185 zk_1 ?_
    refine zn_iadd hx hb dX3_clause_186 ?_
    refine z_puti hC zf_X3_25_3 hw 0 rfl (Nat.le_of_ble_eq_true rfl) dX3_clause_187 (fun H locs hw => ?_)
    have hw : zS G ((rd, zo 3 [.int (nI (tS tx n p0)), .int (nI (tF tx n p0)), .ref sr, .int (nI (v 1 + 1)), .int (nI (v 0)), .ref cl, .int (nI re), .ref co]) :: (co, zo 0 (cF w mn bm sm (nI n))) :: (w 8, zc G 1 (zI 200 xf)) :: rest) s H locs := hw
    refine lv_iconst (v := (nI 3)) hx hb dX3_clause_190 zk_3 ?_
    refine z_newa (t := 0) (atype := .int) (a0 := zI 3 (fun _ => 0)) hC (hC.hts _ q739) (fun _ => rfl) hw (fun _ => rfl) (by decide) (by decide) (Nat.le_of_ble_eq_true rfl) (Nat.le_of_ble_eq_true rfl) dX3_clause_191 (fun q_191 H hw => ?_)
    have hw : zS G ((q_191, zc G 0 (zI 3 (fun _ => 0))) :: (rd, zo 3 [.int (nI (tS tx n p0)), .int (nI (tF tx n p0)), .ref sr, .int (nI (v 1 + 1)), .int (nI (v 0)), .ref cl, .int (nI re), .ref co]) :: (co, zo 0 (cF w mn bm sm (nI n))) :: (w 8, zc G 1 (zI 200 xf)) :: rest) s H locs := hw
    refine lv_dup hx hb dX3_clause_193 rfl ?_
    refine lv_iconst (v := (nI 0)) hx hb dX3_clause_194 zk_0 ?_
    refine lv_iload_n hx hb dX3_clause_195 rfl (lv_at hl 0 rfl) ?_
    refine z_iast (f' := upd (fun _ => 0) 0 (nI k)) hC hw 0 rfl (by decide) (by decide) rfl dX3_clause_196 (fun H locs hw => ?_)
    have hw : zS G ((q_191, zc G 0 (zI 3 (upd (fun _ => 0) 0 (nI k)))) :: (rd, zo 3 [.int (nI (tS tx n p0)), .int (nI (tF tx n p0)), .ref sr, .int (nI (v 1 + 1)), .int (nI (v 0)), .ref cl, .int (nI re), .ref co]) :: (co, zo 0 (cF w mn bm sm (nI n))) :: (w 8, zc G 1 (zI 200 xf)) :: rest) s H locs := hw
    refine lv_dup hx hb dX3_clause_197 rfl ?_
    refine lv_iconst (v := (nI 1)) hx hb dX3_clause_198 zk_1 ?_
    refine lv_aload_n hx hb dX3_clause_199 rfl (lv_at hl 1 rfl) ?_
    refine lv_iconst (v := (nI 0)) hx hb dX3_clause_200 zk_0 ?_
    refine lv_bipush (v := (nI 19)) hx hb dX3_clause_201 zb_19 ?_
    refine z_ct (z_runVT (As := [.int (nI 0), .int (nI 19)]) (rest := [.int (nI 1), .ref q_191, .ref q_191]) hC zv_X3_132 (m_X3_number_x G l kA (by first | assumption | (omega)) (by first | assumption | (omega)) (by first | assumption | (omega)) rd co sr cl (tS tx n p0) n (v 1 + 1) (v 0) re (nI (tF tx n p0)) w mn bm sm xf tx (by omega) (by first | assumption | (omega)) (by first | assumption | (omega)) (tS_le hpo) 0 20 (nI 19) (hf_c (lo := 0) (hh := 20) (by decide) (by decide) (by decide)) hN1 (zrem [1, 2, 3] _)) hw (hw.perm (z_cut (is := [1, 2, 3]) (cells := [(rd, zo 3 [.int (nI (tS tx n p0)), .int (nI (tF tx n p0)), .ref sr, .int (nI (v 1 + 1)), .int (nI (v 0)), .ref cl, .int (nI re), .ref co]), (co, zo 0 (cF w mn bm sm (nI n))), (w 8, zc G 1 (zI 200 xf))]) rfl rfl)) 1 rfl rfl rfl rfl rfl (Nat.le_of_ble_eq_true rfl) hl.1 ⟨Nat.le_of_ble_eq_true rfl, Nat.le_of_ble_eq_true rfl⟩ ⟨(Nat.le_of_ble_eq_true rfl), (Nat.le_of_ble_eq_true rfl)⟩ dX3_clause_203) hw (fun q9 => z_drp (is := [1, 2, 3]) (ws := (q_191, zc G 0 (zI 3 (upd (fun _ => 0) 0 (nI k)))) :: (rd, zo 3 [.int (nI (tS tx n p0)), .int (nI (tF tx n p0)), .ref sr, .int (nI (v 1 + 1)), .int (nI (v 0)), .ref cl, .int (nI re), .ref co]) :: (co, zo 0 (cF w mn bm sm (nI n))) :: (w 8, zc G 1 (zI 200 xf)) :: rest) (cells := [(rd, zo 3 [.int (nI (tS tx n p0)), .int (nI (tF tx n p0)), .ref sr, .int (nI (v 1 + 1)), .int (nI (v 0)), .ref cl, .int (nI re), .ref co]), (co, zo 0 (cF w mn bm sm (nI n))), (w 8, zc G 1 (zI 200 xf))]) (rem := (q_191, zc G 0 (zI 3 (upd (fun _ => 0) 0 (nI k)))) :: rest) (N := [(q9, zo 4 [.null, .null, .null, .null, .null, .int 0, .int (nI (tF tx n (tS tx n p0)))]), (co, zo 0 (cF w mn bm sm (nI n))), (w 8, zc G 1 (zI 200 xf))]) rfl rfl (((z_cut (is := [1, 2, 3]) (ws := [(q_191, zc G 0 (zI 3 (upd (fun _ => 0) 0 (nI k)))), (rd, zo 3 [.int (nI (tS tx n p0)), .int (nI (tF tx n p0)), .ref sr, .int (nI (v 1 + 1)), .int (nI (v 0)), .ref cl, .int (nI re), .ref co]), (co, zo 0 (cF w mn bm sm (nI n))), (w 8, zc G 1 (zI 200 xf))]) (cells := [(rd, zo 3 [.int (nI (tS tx n p0)), .int (nI (tF tx n p0)), .ref sr, .int (nI (v 1 + 1)), .int (nI (v 0)), .ref cl, .int (nI re), .ref co]), (co, zo 0 (cF w mn bm sm (nI n))), (w 8, zc G 1 (zI 200 xf))]) rfl rfl).append_right rest).trans (by rw [List.append_assoc]; exact List.Perm.refl _))) (fun q9 H locs ce9 hex => ?_)
    obtain ⟨hw, hx9⟩ := hex
    have hw : zS G ((q9, zo 4 [.null, .null, .null, .null, .null, .int 0, .int (nI (tF tx n (tS tx n p0)))]) :: (co, zo 0 (cF w mn bm sm (nI n))) :: (w 8, zc G 1 (zI 200 xf)) :: (q_191, zc G 0 (zI 3 (upd (fun _ => 0) 0 (nI k)))) :: rest) s H locs := hw
    have hw : zS G ((q_191, zc G 0 (zI 3 (upd (fun _ => 0) 0 (nI k)))) :: (q9, zo 4 [.null, .null, .null, .null, .null, .int 0, .int (nI (tF tx n (tS tx n p0)))]) :: (co, zo 0 (cF w mn bm sm (nI n))) :: (w 8, zc G 1 (zI 200 xf)) :: rest) s H locs := hw.perm (((z_cut (is := [3, 0, 1, 2]) (ws := [(q9, zo 4 [.null, .null, .null, .null, .null, .int 0, .int (nI (tF tx n (tS tx n p0)))]), (co, zo 0 (cF w mn bm sm (nI n))), (w 8, zc G 1 (zI 200 xf)), (q_191, zc G 0 (zI 3 (upd (fun _ => 0) 0 (nI k))))]) (cells := [(q_191, zc G 0 (zI 3 (upd (fun _ => 0) 0 (nI k)))), (q9, zo 4 [.null, .null, .null, .null, .null, .int 0, .int (nI (tF tx n (tS tx n p0)))]), (co, zo 0 (cF w mn bm sm (nI n))), (w 8, zc G 1 (zI 200 xf))]) rfl rfl).append_right rest).trans (by rw [List.append_assoc]; exact List.Perm.refl _))
    have hw := hw.drop
    exact hend _ _ _ _ _ _ _ _ _ ⟨hw, hx9⟩ (by decide) (Nat.le_of_ble_eq_true rfl) (Nat.le_of_ble_eq_true rfl)
  · skip
    have hl : lv_has ls 2 [(0, .ref rd)] := hl
    have hw : zS G ((al, zo 16 [.int 0, .ref (kA 0)]) :: (sr, zo 12 [.ref sv, .int (nI 0), .int 0, .int 0]) :: (sv, zc G 1 (zI (wL tx n p0) g4)) :: (rd, zo 3 [.int (nI (tS tx n p0)), .int (nI (tF tx n p0)), .ref sr, .int (nI (v 1)), .int (nI (v 0)), .ref cl, .int (nI re), .ref co]) :: (co, zo 0 (cF w mn bm sm (nI n))) :: (w 8, zc G 1 (zI 200 xf)) :: rest) s H locs := hw
    refine z_c5i (z_runF (As := [.ref sr]) (rest := []) hC zif_X3_126_16 q646 ⟨hz.1 _ (cw_t q594 rfl), hz.1 _ (cw_t q593 rfl), hz.1 _ (cw_t q645 rfl), hz.1 _ (cw_t q643 rfl), hz.1 _ (cw_t q641 rfl)⟩ (m_J11_indexOf_y G l kA (by first | assumption | (omega)) (by first | assumption | (omega)) al sr sv (wL tx n p0) g4 (by omega) k (by omega) ((tH_w hpo htx hg4 (show k < 8 by omega)).mpr hth) (fun j hj q => absurd (tH_1 (show j < 8 by omega) (show k < 8 by omega) ((tH_w hpo htx hg4 (show j < 8 by omega)).mp q) hth) (by omega)) (zrem [0, 1, 2] _)) hw (hw.perm (z_cut (is := [0, 1, 2]) (cells := [(al, zo 16 [.int 0, .ref (kA 0)]), (sr, zo 12 [.ref sv, .int (nI 0), .int 0, .int 0]), (sv, zc G 1 (zI (wL tx n p0) g4))]) rfl rfl)) 0 rfl rfl rfl rfl rfl (Nat.le_of_ble_eq_true rfl) hl.1 ⟨Nat.le_of_ble_eq_true rfl, Nat.le_of_ble_eq_true rfl⟩ ⟨(Nat.le_of_ble_eq_true rfl), (Nat.le_of_ble_eq_true rfl)⟩ dX3_clause_14) hw (fun _ => z_keep (is := [0, 1, 2]) (cs := [(al, zo 16 [.int 0, .ref (kA 0)]), (sr, zo 12 [.ref sv, .int (nI 0), .int 0, .int 0]), (sv, zc G 1 (zI (wL tx n p0) g4))]) rfl rfl) (fun r u H locs hp hw => ?_)
    obtain rfl : r = nI k := hp
    have hw : zS G ((sr, zo 12 [.ref sv, .int (nI 0), .int 0, .int 0]) :: (sv, zc G 1 (zI (wL tx n p0) g4)) :: (al, zo 16 [.int 0, .ref (kA 0)]) :: (rd, zo 3 [.int (nI (tS tx n p0)), .int (nI (tF tx n p0)), .ref sr, .int (nI (v 1)), .int (nI (v 0)), .ref cl, .int (nI re), .ref co]) :: (co, zo 0 (cF w mn bm sm (nI n))) :: (w 8, zc G 1 (zI 200 xf)) :: rest) s H locs := hw.perm (((z_cut (is := [1, 2, 0, 3, 4, 5]) (ws := [(al, zo 16 [.int 0, .ref (kA 0)]), (sr, zo 12 [.ref sv, .int (nI 0), .int 0, .int 0]), (sv, zc G 1 (zI (wL tx n p0) g4)), (rd, zo 3 [.int (nI (tS tx n p0)), .int (nI (tF tx n p0)), .ref sr, .int (nI (v 1)), .int (nI (v 0)), .ref cl, .int (nI re), .ref co]), (co, zo 0 (cF w mn bm sm (nI n))), (w 8, zc G 1 (zI 200 xf))]) (cells := [(sr, zo 12 [.ref sv, .int (nI 0), .int 0, .int 0]), (sv, zc G 1 (zI (wL tx n p0) g4)), (al, zo 16 [.int 0, .ref (kA 0)]), (rd, zo 3 [.int (nI (tS tx n p0)), .int (nI (tF tx n p0)), .ref sr, .int (nI (v 1)), .int (nI (v 0)), .ref cl, .int (nI re), .ref co]), (co, zo 0 (cF w mn bm sm (nI n))), (w 8, zc G 1 (zI 200 xf))]) rfl rfl).append_right rest).trans (by rw [List.append_assoc]; exact List.Perm.refl _))
    have hw := hw.drop
    have hw := hw.drop
    have hw := hw.drop
    refine lv_istore_n (lv' := [(1, .int (nI k)), (0, .ref rd)]) hx hb dX3_clause_19 rfl hl (by decide) rfl (fun ls hl => ?_)
    refine lv_aload_n hx hb dX3_clause_20 rfl (lv_at hl 1 rfl) ?_
    refine lv_iload_n hx hb dX3_clause_21 rfl (lv_at hl 0 rfl) ?_
    refine lv_iconst (v := -1) hx hb dX3_clause_22 zk_m1 ?_
    refine lv_icmp_eq (tgt := 58) hx hb dX3_clause_23 (by decide) (fun h => absurd h (nI_m1 (by omega))) (fun _ => ?_)
    refine lv_iload_n hx hb dX3_clause_26 rfl (lv_at hl 0 rfl) ?_
    refine lv_iconst (v := (nI 4)) hx hb dX3_clause_27 zk_4 ?_
    refine zi_gt (tgt := 39) hx hb (by omega) (by decide) dX3_clause_28 (by decide) (fun h => absurd h (by omega)) (fun _ => ?_)
    refine lv_aload_n hx hb dX3_clause_31 rfl (lv_at hl 1 rfl) ?_
    refine z_get (v := .int (nI (v 1))) hC zf_X3_25_3 hw 0 rfl rfl dX3_clause_32 ?_
    refine lv_iconst (v := (nI 5)) hx hb dX3_clause_35 zk_5 ?_
    refine zi_ge (tgt := 58) hx hb (by omega) (by decide) dX3_clause_36 (by decide) (fun h => absurd h (by omega)) (fun _ => ?_)
    refine lv_iload_n hx hb dX3_clause_39 rfl (lv_at hl 0 rfl) ?_
    refine lv_bipush (v := (nI 6)) hx hb dX3_clause_40 zb_6 ?_
    refine zi_ne (tgt := 54) hx hb (by omega) (by decide) dX3_clause_42 (by decide) (fun _ => ?_) (fun h => absurd h (by omega))
    refine lv_iconst (v := (nI 1)) hx hb dX3_clause_54 zk_1 ?_
    refine lv_goto (tgt := 59) hx hb dX3_clause_55 (by decide) ?_
    refine z_cv (z_runV (As := [.int (nI 1)]) (rest := []) hC zv_X3_106 (m_X3_want_t G l rd _) hw hw 0 rfl rfl rfl rfl rfl (Nat.le_of_ble_eq_true rfl) hl.1 ⟨Nat.le_of_ble_eq_true rfl, Nat.le_of_ble_eq_true rfl⟩ ⟨(Nat.le_of_ble_eq_true rfl), (Nat.le_of_ble_eq_true rfl)⟩ dX3_clause_59) hw (fun _ => List.Perm.refl _) (fun u H locs hp hw => ?_)
    refine lv_iload_n hx hb dX3_clause_62 rfl (lv_at hl 0 rfl) ?_
    refine lv_tableOut (tgt := 180) hx hb dX3_clause_63 (Or.inl (by rw [nI_toInt (by omega)]; omega)) (by decide) ?_
    refine lv_aload_n hx hb dX3_clause_180 rfl (lv_at hl 1 rfl) ?_
    refine lv_dup hx hb dX3_clause_181 rfl ?_
    refine z_get (v := .int (nI (v 1))) hC zf_X3_25_3 hw 0 rfl rfl dX3_clause_182 ?_
    refine lv_iconst (v := (nI 1)) hx hb dX3_clause_185 zk_1 ?_
    refine zn_iadd hx hb dX3_clause_186 ?_
    refine z_puti hC zf_X3_25_3 hw 0 rfl (Nat.le_of_ble_eq_true rfl) dX3_clause_187 (fun H locs hw => ?_)
    have hw : zS G ((rd, zo 3 [.int (nI (tS tx n p0)), .int (nI (tF tx n p0)), .ref sr, .int (nI (v 1 + 1)), .int (nI (v 0)), .ref cl, .int (nI re), .ref co]) :: (co, zo 0 (cF w mn bm sm (nI n))) :: (w 8, zc G 1 (zI 200 xf)) :: rest) s H locs := hw
    refine lv_iconst (v := (nI 3)) hx hb dX3_clause_190 zk_3 ?_
    refine z_newa (t := 0) (atype := .int) (a0 := zI 3 (fun _ => 0)) hC (hC.hts _ q739) (fun _ => rfl) hw (fun _ => rfl) (by decide) (by decide) (Nat.le_of_ble_eq_true rfl) (Nat.le_of_ble_eq_true rfl) dX3_clause_191 (fun q_191 H hw => ?_)
    have hw : zS G ((q_191, zc G 0 (zI 3 (fun _ => 0))) :: (rd, zo 3 [.int (nI (tS tx n p0)), .int (nI (tF tx n p0)), .ref sr, .int (nI (v 1 + 1)), .int (nI (v 0)), .ref cl, .int (nI re), .ref co]) :: (co, zo 0 (cF w mn bm sm (nI n))) :: (w 8, zc G 1 (zI 200 xf)) :: rest) s H locs := hw
    refine lv_dup hx hb dX3_clause_193 rfl ?_
    refine lv_iconst (v := (nI 0)) hx hb dX3_clause_194 zk_0 ?_
    refine lv_iload_n hx hb dX3_clause_195 rfl (lv_at hl 0 rfl) ?_
    refine z_iast (f' := upd (fun _ => 0) 0 (nI k)) hC hw 0 rfl (by decide) (by decide) rfl dX3_clause_196 (fun H locs hw => ?_)
    have hw : zS G ((q_191, zc G 0 (zI 3 (upd (fun _ => 0) 0 (nI k)))) :: (rd, zo 3 [.int (nI (tS tx n p0)), .int (nI (tF tx n p0)), .ref sr, .int (nI (v 1 + 1)), .int (nI (v 0)), .ref cl, .int (nI re), .ref co]) :: (co, zo 0 (cF w mn bm sm (nI n))) :: (w 8, zc G 1 (zI 200 xf)) :: rest) s H locs := hw
    refine lv_dup hx hb dX3_clause_197 rfl ?_
    refine lv_iconst (v := (nI 1)) hx hb dX3_clause_198 zk_1 ?_
    refine lv_aload_n hx hb dX3_clause_199 rfl (lv_at hl 1 rfl) ?_
    refine lv_iconst (v := (nI 0)) hx hb dX3_clause_200 zk_0 ?_
    refine lv_bipush (v := (nI 19)) hx hb dX3_clause_201 zb_19 ?_
    refine z_ci (z_runV (As := [.int (nI 0), .int (nI 19)]) (rest := [.int (nI 1), .ref q_191, .ref q_191]) hC zv_X3_132 (m_X3_number_ok G l kA (by first | assumption | (omega)) (by first | assumption | (omega)) (by first | assumption | (omega)) rd co sr cl (tS tx n p0) n (v 1 + 1) (v 0) re (nI (tF tx n p0)) w mn bm sm xf tx (by omega) (by first | assumption | (omega)) (by first | assumption | (omega)) (tS_le hpo) 0 20 (nI 19) (hf_c (lo := 0) (hh := 20) (by decide) (by decide) (by decide)) hN1 (zrem [1, 2, 3] _)) hw (hw.perm (z_cut (is := [1, 2, 3]) (cells := [(rd, zo 3 [.int (nI (tS tx n p0)), .int (nI (tF tx n p0)), .ref sr, .int (nI (v 1 + 1)), .int (nI (v 0)), .ref cl, .int (nI re), .ref co]), (co, zo 0 (cF w mn bm sm (nI n))), (w 8, zc G 1 (zI 200 xf))]) rfl rfl)) 1 rfl rfl rfl rfl rfl (Nat.le_of_ble_eq_true rfl) hl.1 ⟨Nat.le_of_ble_eq_true rfl, Nat.le_of_ble_eq_true rfl⟩ ⟨(Nat.le_of_ble_eq_true rfl), (Nat.le_of_ble_eq_true rfl)⟩ dX3_clause_203) hw (fun u => z_pput (is := [1, 2, 3]) (cells := [(rd, zo 3 [.int (nI (tS tx n p0)), .int (nI (tF tx n p0)), .ref sr, .int (nI (v 1 + 1)), .int (nI (v 0)), .ref cl, .int (nI re), .ref co]), (co, zo 0 (cF w mn bm sm (nI n))), (w 8, zc G 1 (zI 200 xf))]) (cells' := [(rd, zo 3 [.int (nI (tS tx n (tS tx n p0))), .int (nI (tF tx n (tS tx n p0))), .ref u, .int (nI (v 1 + 1)), .int (nI (v 0)), .ref cl, .int (nI re), .ref co]), (co, zo 0 (cF w mn bm sm (nI n))), (w 8, zc G 1 (zI 200 xf))]) rfl rfl rfl) (fun r u H locs hp hw => ?_)
    obtain ⟨wd0, rfl⟩ : ∃ z, z = u := ⟨_, rfl⟩
    have hw : zS G ((q_191, zc G 0 (zI 3 (upd (fun _ => 0) 0 (nI k)))) :: (rd, zo 3 [.int (nI (tS tx n (tS tx n p0))), .int (nI (tF tx n (tS tx n p0))), .ref wd0, .int (nI (v 1 + 1)), .int (nI (v 0)), .ref cl, .int (nI re), .ref co]) :: (co, zo 0 (cF w mn bm sm (nI n))) :: (w 8, zc G 1 (zI 200 xf)) :: rest) s H locs := hw
    obtain rfl := hp
    refine z_iast (f' := upd (upd (fun _ => 0) 0 (nI k)) 1 (nI (tQ tx n (tS tx n p0)))) hC hw 0 rfl (by decide) (by decide) rfl dX3_clause_206 (fun H locs hw => ?_)
    have hw : zS G ((q_191, zc G 0 (zI 3 (upd (upd (fun _ => 0) 0 (nI k)) 1 (nI (tQ tx n (tS tx n p0)))))) :: (rd, zo 3 [.int (nI (tS tx n (tS tx n p0))), .int (nI (tF tx n (tS tx n p0))), .ref wd0, .int (nI (v 1 + 1)), .int (nI (v 0)), .ref cl, .int (nI re), .ref co]) :: (co, zo 0 (cF w mn bm sm (nI n))) :: (w 8, zc G 1 (zI 200 xf)) :: rest) s H locs := hw
    refine lv_dup hx hb dX3_clause_207 rfl ?_
    refine lv_iconst (v := (nI 2)) hx hb dX3_clause_208 zk_2 ?_
    refine lv_aload_n hx hb dX3_clause_209 rfl (lv_at hl 1 rfl) ?_
    refine lv_iconst (v := (nI 1)) hx hb dX3_clause_210 zk_1 ?_
    refine lv_bipush (v := (nI 9)) hx hb dX3_clause_211 zb_9 ?_
    refine z_ct (z_runVT (As := [.int (nI 1), .int (nI 9)]) (rest := [.int (nI 2), .ref q_191, .ref q_191]) hC zv_X3_132 (m_X3_number_x G l kA (by first | assumption | (omega)) (by first | assumption | (omega)) (by first | assumption | (omega)) rd co wd0 cl (tS tx n (tS tx n p0)) n (v 1 + 1) (v 0) re (nI (tF tx n (tS tx n p0))) w mn bm sm xf tx (by omega) (by first | assumption | (omega)) (by first | assumption | (omega)) (tS_le (tS_le hpo)) 1 10 (nI 9) (hf_c (lo := 1) (hh := 10) (by decide) (by decide) (by decide)) hN2 (zrem [1, 2, 3] _)) hw (hw.perm (z_cut (is := [1, 2, 3]) (cells := [(rd, zo 3 [.int (nI (tS tx n (tS tx n p0))), .int (nI (tF tx n (tS tx n p0))), .ref wd0, .int (nI (v 1 + 1)), .int (nI (v 0)), .ref cl, .int (nI re), .ref co]), (co, zo 0 (cF w mn bm sm (nI n))), (w 8, zc G 1 (zI 200 xf))]) rfl rfl)) 1 rfl rfl rfl rfl rfl (Nat.le_of_ble_eq_true rfl) hl.1 ⟨Nat.le_of_ble_eq_true rfl, Nat.le_of_ble_eq_true rfl⟩ ⟨(Nat.le_of_ble_eq_true rfl), (Nat.le_of_ble_eq_true rfl)⟩ dX3_clause_213) hw (fun q9 => z_drp (is := [1, 2, 3]) (ws := (q_191, zc G 0 (zI 3 (upd (upd (fun _ => 0) 0 (nI k)) 1 (nI (tQ tx n (tS tx n p0)))))) :: (rd, zo 3 [.int (nI (tS tx n (tS tx n p0))), .int (nI (tF tx n (tS tx n p0))), .ref wd0, .int (nI (v 1 + 1)), .int (nI (v 0)), .ref cl, .int (nI re), .ref co]) :: (co, zo 0 (cF w mn bm sm (nI n))) :: (w 8, zc G 1 (zI 200 xf)) :: rest) (cells := [(rd, zo 3 [.int (nI (tS tx n (tS tx n p0))), .int (nI (tF tx n (tS tx n p0))), .ref wd0, .int (nI (v 1 + 1)), .int (nI (v 0)), .ref cl, .int (nI re), .ref co]), (co, zo 0 (cF w mn bm sm (nI n))), (w 8, zc G 1 (zI 200 xf))]) (rem := (q_191, zc G 0 (zI 3 (upd (upd (fun _ => 0) 0 (nI k)) 1 (nI (tQ tx n (tS tx n p0)))))) :: rest) (N := [(q9, zo 4 [.null, .null, .null, .null, .null, .int 0, .int (nI (tF tx n (tS tx n (tS tx n p0))))]), (co, zo 0 (cF w mn bm sm (nI n))), (w 8, zc G 1 (zI 200 xf))]) rfl rfl (((z_cut (is := [1, 2, 3]) (ws := [(q_191, zc G 0 (zI 3 (upd (upd (fun _ => 0) 0 (nI k)) 1 (nI (tQ tx n (tS tx n p0)))))), (rd, zo 3 [.int (nI (tS tx n (tS tx n p0))), .int (nI (tF tx n (tS tx n p0))), .ref wd0, .int (nI (v 1 + 1)), .int (nI (v 0)), .ref cl, .int (nI re), .ref co]), (co, zo 0 (cF w mn bm sm (nI n))), (w 8, zc G 1 (zI 200 xf))]) (cells := [(rd, zo 3 [.int (nI (tS tx n (tS tx n p0))), .int (nI (tF tx n (tS tx n p0))), .ref wd0, .int (nI (v 1 + 1)), .int (nI (v 0)), .ref cl, .int (nI re), .ref co]), (co, zo 0 (cF w mn bm sm (nI n))), (w 8, zc G 1 (zI 200 xf))]) rfl rfl).append_right rest).trans (by rw [List.append_assoc]; exact List.Perm.refl _))) (fun q9 H locs ce9 hex => ?_)
    obtain ⟨hw, hx9⟩ := hex
    have hw : zS G ((q9, zo 4 [.null, .null, .null, .null, .null, .int 0, .int (nI (tF tx n (tS tx n (tS tx n p0))))]) :: (co, zo 0 (cF w mn bm sm (nI n))) :: (w 8, zc G 1 (zI 200 xf)) :: (q_191, zc G 0 (zI 3 (upd (upd (fun _ => 0) 0 (nI k)) 1 (nI (tQ tx n (tS tx n p0)))))) :: rest) s H locs := hw
    have hw : zS G ((q_191, zc G 0 (zI 3 (upd (upd (fun _ => 0) 0 (nI k)) 1 (nI (tQ tx n (tS tx n p0)))))) :: (q9, zo 4 [.null, .null, .null, .null, .null, .int 0, .int (nI (tF tx n (tS tx n (tS tx n p0))))]) :: (co, zo 0 (cF w mn bm sm (nI n))) :: (w 8, zc G 1 (zI 200 xf)) :: rest) s H locs := hw.perm (((z_cut (is := [3, 0, 1, 2]) (ws := [(q9, zo 4 [.null, .null, .null, .null, .null, .int 0, .int (nI (tF tx n (tS tx n (tS tx n p0))))]), (co, zo 0 (cF w mn bm sm (nI n))), (w 8, zc G 1 (zI 200 xf)), (q_191, zc G 0 (zI 3 (upd (upd (fun _ => 0) 0 (nI k)) 1 (nI (tQ tx n (tS tx n p0))))))]) (cells := [(q_191, zc G 0 (zI 3 (upd (upd (fun _ => 0) 0 (nI k)) 1 (nI (tQ tx n (tS tx n p0)))))), (q9, zo 4 [.null, .null, .null, .null, .null, .int 0, .int (nI (tF tx n (tS tx n (tS tx n p0))))]), (co, zo 0 (cF w mn bm sm (nI n))), (w 8, zc G 1 (zI 200 xf))]) rfl rfl).append_right rest).trans (by rw [List.append_assoc]; exact List.Perm.refl _))
    have hw := hw.drop
    exact hend _ _ _ _ _ _ _ _ _ ⟨hw, hx9⟩ (by decide) (Nat.le_of_ble_eq_true rfl) (Nat.le_of_ble_eq_true rfl)
  · skip
    have hl : lv_has ls 2 [(0, .ref rd)] := hl
    have hw : zS G ((al, zo 16 [.int 0, .ref (kA 0)]) :: (sr, zo 12 [.ref sv, .int (nI 0), .int 0, .int 0]) :: (sv, zc G 1 (zI (wL tx n p0) g4)) :: (rd, zo 3 [.int (nI (tS tx n p0)), .int (nI (tF tx n p0)), .ref sr, .int (nI (v 1)), .int (nI (v 0)), .ref cl, .int (nI re), .ref co]) :: (co, zo 0 (cF w mn bm sm (nI n))) :: (w 8, zc G 1 (zI 200 xf)) :: rest) s H locs := hw
    refine z_c5i (z_runF (As := [.ref sr]) (rest := []) hC zif_X3_126_16 q646 ⟨hz.1 _ (cw_t q594 rfl), hz.1 _ (cw_t q593 rfl), hz.1 _ (cw_t q645 rfl), hz.1 _ (cw_t q643 rfl), hz.1 _ (cw_t q641 rfl)⟩ (m_J11_indexOf_y G l kA (by first | assumption | (omega)) (by first | assumption | (omega)) al sr sv (wL tx n p0) g4 (by omega) 6 (by omega) ((tH_w hpo htx hg4 (show 6 < 8 by omega)).mpr hth) (fun j hj q => absurd (tH_1 (show j < 8 by omega) (show 6 < 8 by omega) ((tH_w hpo htx hg4 (show j < 8 by omega)).mp q) hth) (by omega)) (zrem [0, 1, 2] _)) hw (hw.perm (z_cut (is := [0, 1, 2]) (cells := [(al, zo 16 [.int 0, .ref (kA 0)]), (sr, zo 12 [.ref sv, .int (nI 0), .int 0, .int 0]), (sv, zc G 1 (zI (wL tx n p0) g4))]) rfl rfl)) 0 rfl rfl rfl rfl rfl (Nat.le_of_ble_eq_true rfl) hl.1 ⟨Nat.le_of_ble_eq_true rfl, Nat.le_of_ble_eq_true rfl⟩ ⟨(Nat.le_of_ble_eq_true rfl), (Nat.le_of_ble_eq_true rfl)⟩ dX3_clause_14) hw (fun _ => z_keep (is := [0, 1, 2]) (cs := [(al, zo 16 [.int 0, .ref (kA 0)]), (sr, zo 12 [.ref sv, .int (nI 0), .int 0, .int 0]), (sv, zc G 1 (zI (wL tx n p0) g4))]) rfl rfl) (fun r u H locs hp hw => ?_)
    obtain rfl : r = nI 6 := hp
    have hw : zS G ((sr, zo 12 [.ref sv, .int (nI 0), .int 0, .int 0]) :: (sv, zc G 1 (zI (wL tx n p0) g4)) :: (al, zo 16 [.int 0, .ref (kA 0)]) :: (rd, zo 3 [.int (nI (tS tx n p0)), .int (nI (tF tx n p0)), .ref sr, .int (nI (v 1)), .int (nI (v 0)), .ref cl, .int (nI re), .ref co]) :: (co, zo 0 (cF w mn bm sm (nI n))) :: (w 8, zc G 1 (zI 200 xf)) :: rest) s H locs := hw.perm (((z_cut (is := [1, 2, 0, 3, 4, 5]) (ws := [(al, zo 16 [.int 0, .ref (kA 0)]), (sr, zo 12 [.ref sv, .int (nI 0), .int 0, .int 0]), (sv, zc G 1 (zI (wL tx n p0) g4)), (rd, zo 3 [.int (nI (tS tx n p0)), .int (nI (tF tx n p0)), .ref sr, .int (nI (v 1)), .int (nI (v 0)), .ref cl, .int (nI re), .ref co]), (co, zo 0 (cF w mn bm sm (nI n))), (w 8, zc G 1 (zI 200 xf))]) (cells := [(sr, zo 12 [.ref sv, .int (nI 0), .int 0, .int 0]), (sv, zc G 1 (zI (wL tx n p0) g4)), (al, zo 16 [.int 0, .ref (kA 0)]), (rd, zo 3 [.int (nI (tS tx n p0)), .int (nI (tF tx n p0)), .ref sr, .int (nI (v 1)), .int (nI (v 0)), .ref cl, .int (nI re), .ref co]), (co, zo 0 (cF w mn bm sm (nI n))), (w 8, zc G 1 (zI 200 xf))]) rfl rfl).append_right rest).trans (by rw [List.append_assoc]; exact List.Perm.refl _))
    have hw := hw.drop
    have hw := hw.drop
    have hw := hw.drop
    refine lv_istore_n (lv' := [(1, .int (nI 6)), (0, .ref rd)]) hx hb dX3_clause_19 rfl hl (by decide) rfl (fun ls hl => ?_)
    refine lv_aload_n hx hb dX3_clause_20 rfl (lv_at hl 1 rfl) ?_
    refine lv_iload_n hx hb dX3_clause_21 rfl (lv_at hl 0 rfl) ?_
    refine lv_iconst (v := -1) hx hb dX3_clause_22 zk_m1 ?_
    refine lv_icmp_eq (tgt := 58) hx hb dX3_clause_23 (by decide) (fun h => absurd h (nI_m1 (by omega))) (fun _ => ?_)
    refine lv_iload_n hx hb dX3_clause_26 rfl (lv_at hl 0 rfl) ?_
    refine lv_iconst (v := (nI 4)) hx hb dX3_clause_27 zk_4 ?_
    refine zi_gt (tgt := 39) hx hb (by decide) (by decide) dX3_clause_28 (by decide) (fun _ => ?_) (fun h => absurd h (by decide))
    refine lv_iload_n hx hb dX3_clause_39 rfl (lv_at hl 0 rfl) ?_
    refine lv_bipush (v := (nI 6)) hx hb dX3_clause_40 zb_6 ?_
    refine zi_ne (tgt := 54) hx hb (by decide) (by decide) dX3_clause_42 (by decide) (fun h => absurd h (by decide)) (fun _ => ?_)
    refine lv_aload_n hx hb dX3_clause_45 rfl (lv_at hl 1 rfl) ?_
    refine z_get (v := .int (nI (v 0))) hC zf_X3_37_3 hw 0 rfl rfl dX3_clause_46 ?_
    refine lv_bipush (v := (nI 9)) hx hb dX3_clause_49 zb_9 ?_
    refine zi_ge (tgt := 58) hx hb (by omega) (by decide) dX3_clause_51 (by decide) (fun h => absurd h (by omega)) (fun _ => ?_)
    refine lv_iconst (v := (nI 1)) hx hb dX3_clause_54 zk_1 ?_
    refine lv_goto (tgt := 59) hx hb dX3_clause_55 (by decide) ?_
    refine z_cv (z_runV (As := [.int (nI 1)]) (rest := []) hC zv_X3_106 (m_X3_want_t G l rd _) hw hw 0 rfl rfl rfl rfl rfl (Nat.le_of_ble_eq_true rfl) hl.1 ⟨Nat.le_of_ble_eq_true rfl, Nat.le_of_ble_eq_true rfl⟩ ⟨(Nat.le_of_ble_eq_true rfl), (Nat.le_of_ble_eq_true rfl)⟩ dX3_clause_59) hw (fun _ => List.Perm.refl _) (fun u H locs hp hw => ?_)
    refine lv_iload_n hx hb dX3_clause_62 rfl (lv_at hl 0 rfl) ?_
    refine lv_tableIn (off := 43) (tgt := 106) hx hb dX3_clause_63 (by decide) (by decide) (by decide) (by decide) ?_
    refine lv_aload_n hx hb dX3_clause_106 rfl (lv_at hl 1 rfl) ?_
    refine lv_dup hx hb dX3_clause_107 rfl ?_
    refine z_get (v := .int (nI (v 0))) hC zf_X3_37_3 hw 0 rfl rfl dX3_clause_108 ?_
    refine lv_iconst (v := (nI 1)) hx hb dX3_clause_111 zk_1 ?_
    refine zn_iadd hx hb dX3_clause_112 ?_
    refine z_puti hC zf_X3_37_3 hw 0 rfl (Nat.le_of_ble_eq_true rfl) dX3_clause_113 (fun H locs hw => ?_)
    have hw : zS G ((rd, zo 3 [.int (nI (tS tx n p0)), .int (nI (tF tx n p0)), .ref sr, .int (nI (v 1)), .int (nI (v 0 + 1)), .ref cl, .int (nI re), .ref co]) :: (co, zo 0 (cF w mn bm sm (nI n))) :: (w 8, zc G 1 (zI 200 xf)) :: rest) s H locs := hw
    refine lv_iconst (v := (nI 3)) hx hb dX3_clause_116 zk_3 ?_
    refine z_newa (t := 0) (atype := .int) (a0 := zI 3 (fun _ => 0)) hC (hC.hts _ q739) (fun _ => rfl) hw (fun _ => rfl) (by decide) (by decide) (Nat.le_of_ble_eq_true rfl) (Nat.le_of_ble_eq_true rfl) dX3_clause_117 (fun q_117 H hw => ?_)
    have hw : zS G ((q_117, zc G 0 (zI 3 (fun _ => 0))) :: (rd, zo 3 [.int (nI (tS tx n p0)), .int (nI (tF tx n p0)), .ref sr, .int (nI (v 1)), .int (nI (v 0 + 1)), .ref cl, .int (nI re), .ref co]) :: (co, zo 0 (cF w mn bm sm (nI n))) :: (w 8, zc G 1 (zI 200 xf)) :: rest) s H locs := hw
    refine lv_dup hx hb dX3_clause_119 rfl ?_
    refine lv_iconst (v := (nI 0)) hx hb dX3_clause_120 zk_0 ?_
    refine lv_iload_n hx hb dX3_clause_121 rfl (lv_at hl 0 rfl) ?_
    refine z_iast (f' := upd (fun _ => 0) 0 (nI 6)) hC hw 0 rfl (by decide) (by decide) rfl dX3_clause_122 (fun H locs hw => ?_)
    have hw : zS G ((q_117, zc G 0 (zI 3 (upd (fun _ => 0) 0 (nI 6)))) :: (rd, zo 3 [.int (nI (tS tx n p0)), .int (nI (tF tx n p0)), .ref sr, .int (nI (v 1)), .int (nI (v 0 + 1)), .ref cl, .int (nI re), .ref co]) :: (co, zo 0 (cF w mn bm sm (nI n))) :: (w 8, zc G 1 (zI 200 xf)) :: rest) s H locs := hw
    refine lv_dup hx hb dX3_clause_123 rfl ?_
    refine lv_iconst (v := (nI 1)) hx hb dX3_clause_124 zk_1 ?_
    refine lv_aload_n hx hb dX3_clause_125 rfl (lv_at hl 1 rfl) ?_
    refine lv_iconst (v := (nI 0)) hx hb dX3_clause_126 zk_0 ?_
    refine lv_bipush (v := (nI 19)) hx hb dX3_clause_127 zb_19 ?_
    refine z_ct (z_runVT (As := [.int (nI 0), .int (nI 19)]) (rest := [.int (nI 1), .ref q_117, .ref q_117]) hC zv_X3_132 (m_X3_number_x G l kA (by first | assumption | (omega)) (by first | assumption | (omega)) (by first | assumption | (omega)) rd co sr cl (tS tx n p0) n (v 1) (v 0 + 1) re (nI (tF tx n p0)) w mn bm sm xf tx (by omega) (by first | assumption | (omega)) (by first | assumption | (omega)) (tS_le hpo) 0 20 (nI 19) (hf_c (lo := 0) (hh := 20) (by decide) (by decide) (by decide)) hN1 (zrem [1, 2, 3] _)) hw (hw.perm (z_cut (is := [1, 2, 3]) (cells := [(rd, zo 3 [.int (nI (tS tx n p0)), .int (nI (tF tx n p0)), .ref sr, .int (nI (v 1)), .int (nI (v 0 + 1)), .ref cl, .int (nI re), .ref co]), (co, zo 0 (cF w mn bm sm (nI n))), (w 8, zc G 1 (zI 200 xf))]) rfl rfl)) 1 rfl rfl rfl rfl rfl (Nat.le_of_ble_eq_true rfl) hl.1 ⟨Nat.le_of_ble_eq_true rfl, Nat.le_of_ble_eq_true rfl⟩ ⟨(Nat.le_of_ble_eq_true rfl), (Nat.le_of_ble_eq_true rfl)⟩ dX3_clause_129) hw (fun q9 => z_drp (is := [1, 2, 3]) (ws := (q_117, zc G 0 (zI 3 (upd (fun _ => 0) 0 (nI 6)))) :: (rd, zo 3 [.int (nI (tS tx n p0)), .int (nI (tF tx n p0)), .ref sr, .int (nI (v 1)), .int (nI (v 0 + 1)), .ref cl, .int (nI re), .ref co]) :: (co, zo 0 (cF w mn bm sm (nI n))) :: (w 8, zc G 1 (zI 200 xf)) :: rest) (cells := [(rd, zo 3 [.int (nI (tS tx n p0)), .int (nI (tF tx n p0)), .ref sr, .int (nI (v 1)), .int (nI (v 0 + 1)), .ref cl, .int (nI re), .ref co]), (co, zo 0 (cF w mn bm sm (nI n))), (w 8, zc G 1 (zI 200 xf))]) (rem := (q_117, zc G 0 (zI 3 (upd (fun _ => 0) 0 (nI 6)))) :: rest) (N := [(q9, zo 4 [.null, .null, .null, .null, .null, .int 0, .int (nI (tF tx n (tS tx n p0)))]), (co, zo 0 (cF w mn bm sm (nI n))), (w 8, zc G 1 (zI 200 xf))]) rfl rfl (((z_cut (is := [1, 2, 3]) (ws := [(q_117, zc G 0 (zI 3 (upd (fun _ => 0) 0 (nI 6)))), (rd, zo 3 [.int (nI (tS tx n p0)), .int (nI (tF tx n p0)), .ref sr, .int (nI (v 1)), .int (nI (v 0 + 1)), .ref cl, .int (nI re), .ref co]), (co, zo 0 (cF w mn bm sm (nI n))), (w 8, zc G 1 (zI 200 xf))]) (cells := [(rd, zo 3 [.int (nI (tS tx n p0)), .int (nI (tF tx n p0)), .ref sr, .int (nI (v 1)), .int (nI (v 0 + 1)), .ref cl, .int (nI re), .ref co]), (co, zo 0 (cF w mn bm sm (nI n))), (w 8, zc G 1 (zI 200 xf))]) rfl rfl).append_right rest).trans (by rw [List.append_assoc]; exact List.Perm.refl _))) (fun q9 H locs ce9 hex => ?_)
    obtain ⟨hw, hx9⟩ := hex
    have hw : zS G ((q9, zo 4 [.null, .null, .null, .null, .null, .int 0, .int (nI (tF tx n (tS tx n p0)))]) :: (co, zo 0 (cF w mn bm sm (nI n))) :: (w 8, zc G 1 (zI 200 xf)) :: (q_117, zc G 0 (zI 3 (upd (fun _ => 0) 0 (nI 6)))) :: rest) s H locs := hw
    have hw : zS G ((q_117, zc G 0 (zI 3 (upd (fun _ => 0) 0 (nI 6)))) :: (q9, zo 4 [.null, .null, .null, .null, .null, .int 0, .int (nI (tF tx n (tS tx n p0)))]) :: (co, zo 0 (cF w mn bm sm (nI n))) :: (w 8, zc G 1 (zI 200 xf)) :: rest) s H locs := hw.perm (((z_cut (is := [3, 0, 1, 2]) (ws := [(q9, zo 4 [.null, .null, .null, .null, .null, .int 0, .int (nI (tF tx n (tS tx n p0)))]), (co, zo 0 (cF w mn bm sm (nI n))), (w 8, zc G 1 (zI 200 xf)), (q_117, zc G 0 (zI 3 (upd (fun _ => 0) 0 (nI 6))))]) (cells := [(q_117, zc G 0 (zI 3 (upd (fun _ => 0) 0 (nI 6)))), (q9, zo 4 [.null, .null, .null, .null, .null, .int 0, .int (nI (tF tx n (tS tx n p0)))]), (co, zo 0 (cF w mn bm sm (nI n))), (w 8, zc G 1 (zI 200 xf))]) rfl rfl).append_right rest).trans (by rw [List.append_assoc]; exact List.Perm.refl _))
    have hw := hw.drop
    exact hend _ _ _ _ _ _ _ _ _ ⟨hw, hx9⟩ (by decide) (Nat.le_of_ble_eq_true rfl) (Nat.le_of_ble_eq_true rfl)
  · skip
    have hl : lv_has ls 2 [(0, .ref rd)] := hl
    have hw : zS G ((al, zo 16 [.int 0, .ref (kA 0)]) :: (sr, zo 12 [.ref sv, .int (nI 0), .int 0, .int 0]) :: (sv, zc G 1 (zI (wL tx n p0) g4)) :: (rd, zo 3 [.int (nI (tS tx n p0)), .int (nI (tF tx n p0)), .ref sr, .int (nI (v 1)), .int (nI (v 0)), .ref cl, .int (nI re), .ref co]) :: (co, zo 0 (cF w mn bm sm (nI n))) :: (w 8, zc G 1 (zI 200 xf)) :: rest) s H locs := hw
    refine z_c5i (z_runF (As := [.ref sr]) (rest := []) hC zif_X3_126_16 q646 ⟨hz.1 _ (cw_t q594 rfl), hz.1 _ (cw_t q593 rfl), hz.1 _ (cw_t q645 rfl), hz.1 _ (cw_t q643 rfl), hz.1 _ (cw_t q641 rfl)⟩ (m_J11_indexOf_y G l kA (by first | assumption | (omega)) (by first | assumption | (omega)) al sr sv (wL tx n p0) g4 (by omega) 6 (by omega) ((tH_w hpo htx hg4 (show 6 < 8 by omega)).mpr hth) (fun j hj q => absurd (tH_1 (show j < 8 by omega) (show 6 < 8 by omega) ((tH_w hpo htx hg4 (show j < 8 by omega)).mp q) hth) (by omega)) (zrem [0, 1, 2] _)) hw (hw.perm (z_cut (is := [0, 1, 2]) (cells := [(al, zo 16 [.int 0, .ref (kA 0)]), (sr, zo 12 [.ref sv, .int (nI 0), .int 0, .int 0]), (sv, zc G 1 (zI (wL tx n p0) g4))]) rfl rfl)) 0 rfl rfl rfl rfl rfl (Nat.le_of_ble_eq_true rfl) hl.1 ⟨Nat.le_of_ble_eq_true rfl, Nat.le_of_ble_eq_true rfl⟩ ⟨(Nat.le_of_ble_eq_true rfl), (Nat.le_of_ble_eq_true rfl)⟩ dX3_clause_14) hw (fun _ => z_keep (is := [0, 1, 2]) (cs := [(al, zo 16 [.int 0, .ref (kA 0)]), (sr, zo 12 [.ref sv, .int (nI 0), .int 0, .int 0]), (sv, zc G 1 (zI (wL tx n p0) g4))]) rfl rfl) (fun r u H locs hp hw => ?_)
    obtain rfl : r = nI 6 := hp
    have hw : zS G ((sr, zo 12 [.ref sv, .int (nI 0), .int 0, .int 0]) :: (sv, zc G 1 (zI (wL tx n p0) g4)) :: (al, zo 16 [.int 0, .ref (kA 0)]) :: (rd, zo 3 [.int (nI (tS tx n p0)), .int (nI (tF tx n p0)), .ref sr, .int (nI (v 1)), .int (nI (v 0)), .ref cl, .int (nI re), .ref co]) :: (co, zo 0 (cF w mn bm sm (nI n))) :: (w 8, zc G 1 (zI 200 xf)) :: rest) s H locs := hw.perm (((z_cut (is := [1, 2, 0, 3, 4, 5]) (ws := [(al, zo 16 [.int 0, .ref (kA 0)]), (sr, zo 12 [.ref sv, .int (nI 0), .int 0, .int 0]), (sv, zc G 1 (zI (wL tx n p0) g4)), (rd, zo 3 [.int (nI (tS tx n p0)), .int (nI (tF tx n p0)), .ref sr, .int (nI (v 1)), .int (nI (v 0)), .ref cl, .int (nI re), .ref co]), (co, zo 0 (cF w mn bm sm (nI n))), (w 8, zc G 1 (zI 200 xf))]) (cells := [(sr, zo 12 [.ref sv, .int (nI 0), .int 0, .int 0]), (sv, zc G 1 (zI (wL tx n p0) g4)), (al, zo 16 [.int 0, .ref (kA 0)]), (rd, zo 3 [.int (nI (tS tx n p0)), .int (nI (tF tx n p0)), .ref sr, .int (nI (v 1)), .int (nI (v 0)), .ref cl, .int (nI re), .ref co]), (co, zo 0 (cF w mn bm sm (nI n))), (w 8, zc G 1 (zI 200 xf))]) rfl rfl).append_right rest).trans (by rw [List.append_assoc]; exact List.Perm.refl _))
    have hw := hw.drop
    have hw := hw.drop
    have hw := hw.drop
    refine lv_istore_n (lv' := [(1, .int (nI 6)), (0, .ref rd)]) hx hb dX3_clause_19 rfl hl (by decide) rfl (fun ls hl => ?_)
    refine lv_aload_n hx hb dX3_clause_20 rfl (lv_at hl 1 rfl) ?_
    refine lv_iload_n hx hb dX3_clause_21 rfl (lv_at hl 0 rfl) ?_
    refine lv_iconst (v := -1) hx hb dX3_clause_22 zk_m1 ?_
    refine lv_icmp_eq (tgt := 58) hx hb dX3_clause_23 (by decide) (fun h => absurd h (nI_m1 (by omega))) (fun _ => ?_)
    refine lv_iload_n hx hb dX3_clause_26 rfl (lv_at hl 0 rfl) ?_
    refine lv_iconst (v := (nI 4)) hx hb dX3_clause_27 zk_4 ?_
    refine zi_gt (tgt := 39) hx hb (by decide) (by decide) dX3_clause_28 (by decide) (fun _ => ?_) (fun h => absurd h (by decide))
    refine lv_iload_n hx hb dX3_clause_39 rfl (lv_at hl 0 rfl) ?_
    refine lv_bipush (v := (nI 6)) hx hb dX3_clause_40 zb_6 ?_
    refine zi_ne (tgt := 54) hx hb (by decide) (by decide) dX3_clause_42 (by decide) (fun h => absurd h (by decide)) (fun _ => ?_)
    refine lv_aload_n hx hb dX3_clause_45 rfl (lv_at hl 1 rfl) ?_
    refine z_get (v := .int (nI (v 0))) hC zf_X3_37_3 hw 0 rfl rfl dX3_clause_46 ?_
    refine lv_bipush (v := (nI 9)) hx hb dX3_clause_49 zb_9 ?_
    refine zi_ge (tgt := 58) hx hb (by omega) (by decide) dX3_clause_51 (by decide) (fun h => absurd h (by omega)) (fun _ => ?_)
    refine lv_iconst (v := (nI 1)) hx hb dX3_clause_54 zk_1 ?_
    refine lv_goto (tgt := 59) hx hb dX3_clause_55 (by decide) ?_
    refine z_cv (z_runV (As := [.int (nI 1)]) (rest := []) hC zv_X3_106 (m_X3_want_t G l rd _) hw hw 0 rfl rfl rfl rfl rfl (Nat.le_of_ble_eq_true rfl) hl.1 ⟨Nat.le_of_ble_eq_true rfl, Nat.le_of_ble_eq_true rfl⟩ ⟨(Nat.le_of_ble_eq_true rfl), (Nat.le_of_ble_eq_true rfl)⟩ dX3_clause_59) hw (fun _ => List.Perm.refl _) (fun u H locs hp hw => ?_)
    refine lv_iload_n hx hb dX3_clause_62 rfl (lv_at hl 0 rfl) ?_
    refine lv_tableIn (off := 43) (tgt := 106) hx hb dX3_clause_63 (by decide) (by decide) (by decide) (by decide) ?_
    refine lv_aload_n hx hb dX3_clause_106 rfl (lv_at hl 1 rfl) ?_
    refine lv_dup hx hb dX3_clause_107 rfl ?_
    refine z_get (v := .int (nI (v 0))) hC zf_X3_37_3 hw 0 rfl rfl dX3_clause_108 ?_
    refine lv_iconst (v := (nI 1)) hx hb dX3_clause_111 zk_1 ?_
    refine zn_iadd hx hb dX3_clause_112 ?_
    refine z_puti hC zf_X3_37_3 hw 0 rfl (Nat.le_of_ble_eq_true rfl) dX3_clause_113 (fun H locs hw => ?_)
    have hw : zS G ((rd, zo 3 [.int (nI (tS tx n p0)), .int (nI (tF tx n p0)), .ref sr, .int (nI (v 1)), .int (nI (v 0 + 1)), .ref cl, .int (nI re), .ref co]) :: (co, zo 0 (cF w mn bm sm (nI n))) :: (w 8, zc G 1 (zI 200 xf)) :: rest) s H locs := hw
    refine lv_iconst (v := (nI 3)) hx hb dX3_clause_116 zk_3 ?_
    refine z_newa (t := 0) (atype := .int) (a0 := zI 3 (fun _ => 0)) hC (hC.hts _ q739) (fun _ => rfl) hw (fun _ => rfl) (by decide) (by decide) (Nat.le_of_ble_eq_true rfl) (Nat.le_of_ble_eq_true rfl) dX3_clause_117 (fun q_117 H hw => ?_)
    have hw : zS G ((q_117, zc G 0 (zI 3 (fun _ => 0))) :: (rd, zo 3 [.int (nI (tS tx n p0)), .int (nI (tF tx n p0)), .ref sr, .int (nI (v 1)), .int (nI (v 0 + 1)), .ref cl, .int (nI re), .ref co]) :: (co, zo 0 (cF w mn bm sm (nI n))) :: (w 8, zc G 1 (zI 200 xf)) :: rest) s H locs := hw
    refine lv_dup hx hb dX3_clause_119 rfl ?_
    refine lv_iconst (v := (nI 0)) hx hb dX3_clause_120 zk_0 ?_
    refine lv_iload_n hx hb dX3_clause_121 rfl (lv_at hl 0 rfl) ?_
    refine z_iast (f' := upd (fun _ => 0) 0 (nI 6)) hC hw 0 rfl (by decide) (by decide) rfl dX3_clause_122 (fun H locs hw => ?_)
    have hw : zS G ((q_117, zc G 0 (zI 3 (upd (fun _ => 0) 0 (nI 6)))) :: (rd, zo 3 [.int (nI (tS tx n p0)), .int (nI (tF tx n p0)), .ref sr, .int (nI (v 1)), .int (nI (v 0 + 1)), .ref cl, .int (nI re), .ref co]) :: (co, zo 0 (cF w mn bm sm (nI n))) :: (w 8, zc G 1 (zI 200 xf)) :: rest) s H locs := hw
    refine lv_dup hx hb dX3_clause_123 rfl ?_
    refine lv_iconst (v := (nI 1)) hx hb dX3_clause_124 zk_1 ?_
    refine lv_aload_n hx hb dX3_clause_125 rfl (lv_at hl 1 rfl) ?_
    refine lv_iconst (v := (nI 0)) hx hb dX3_clause_126 zk_0 ?_
    refine lv_bipush (v := (nI 19)) hx hb dX3_clause_127 zb_19 ?_
    refine z_ci (z_runV (As := [.int (nI 0), .int (nI 19)]) (rest := [.int (nI 1), .ref q_117, .ref q_117]) hC zv_X3_132 (m_X3_number_ok G l kA (by first | assumption | (omega)) (by first | assumption | (omega)) (by first | assumption | (omega)) rd co sr cl (tS tx n p0) n (v 1) (v 0 + 1) re (nI (tF tx n p0)) w mn bm sm xf tx (by omega) (by first | assumption | (omega)) (by first | assumption | (omega)) (tS_le hpo) 0 20 (nI 19) (hf_c (lo := 0) (hh := 20) (by decide) (by decide) (by decide)) hN1 (zrem [1, 2, 3] _)) hw (hw.perm (z_cut (is := [1, 2, 3]) (cells := [(rd, zo 3 [.int (nI (tS tx n p0)), .int (nI (tF tx n p0)), .ref sr, .int (nI (v 1)), .int (nI (v 0 + 1)), .ref cl, .int (nI re), .ref co]), (co, zo 0 (cF w mn bm sm (nI n))), (w 8, zc G 1 (zI 200 xf))]) rfl rfl)) 1 rfl rfl rfl rfl rfl (Nat.le_of_ble_eq_true rfl) hl.1 ⟨Nat.le_of_ble_eq_true rfl, Nat.le_of_ble_eq_true rfl⟩ ⟨(Nat.le_of_ble_eq_true rfl), (Nat.le_of_ble_eq_true rfl)⟩ dX3_clause_129) hw (fun u => z_pput (is := [1, 2, 3]) (cells := [(rd, zo 3 [.int (nI (tS tx n p0)), .int (nI (tF tx n p0)), .ref sr, .int (nI (v 1)), .int (nI (v 0 + 1)), .ref cl, .int (nI re), .ref co]), (co, zo 0 (cF w mn bm sm (nI n))), (w 8, zc G 1 (zI 200 xf))]) (cells' := [(rd, zo 3 [.int (nI (tS tx n (tS tx n p0))), .int (nI (tF tx n (tS tx n p0))), .ref u, .int (nI (v 1)), .int (nI (v 0 + 1)), .ref cl, .int (nI re), .ref co]), (co, zo 0 (cF w mn bm sm (nI n))), (w 8, zc G 1 (zI 200 xf))]) rfl rfl rfl) (fun r u H locs hp hw => ?_)
    obtain ⟨wd0, rfl⟩ : ∃ z, z = u := ⟨_, rfl⟩
    have hw : zS G ((q_117, zc G 0 (zI 3 (upd (fun _ => 0) 0 (nI 6)))) :: (rd, zo 3 [.int (nI (tS tx n (tS tx n p0))), .int (nI (tF tx n (tS tx n p0))), .ref wd0, .int (nI (v 1)), .int (nI (v 0 + 1)), .ref cl, .int (nI re), .ref co]) :: (co, zo 0 (cF w mn bm sm (nI n))) :: (w 8, zc G 1 (zI 200 xf)) :: rest) s H locs := hw
    obtain rfl := hp
    refine z_iast (f' := upd (upd (fun _ => 0) 0 (nI 6)) 1 (nI (tQ tx n (tS tx n p0)))) hC hw 0 rfl (by decide) (by decide) rfl dX3_clause_132 (fun H locs hw => ?_)
    have hw : zS G ((q_117, zc G 0 (zI 3 (upd (upd (fun _ => 0) 0 (nI 6)) 1 (nI (tQ tx n (tS tx n p0)))))) :: (rd, zo 3 [.int (nI (tS tx n (tS tx n p0))), .int (nI (tF tx n (tS tx n p0))), .ref wd0, .int (nI (v 1)), .int (nI (v 0 + 1)), .ref cl, .int (nI re), .ref co]) :: (co, zo 0 (cF w mn bm sm (nI n))) :: (w 8, zc G 1 (zI 200 xf)) :: rest) s H locs := hw
    refine lv_dup hx hb dX3_clause_133 rfl ?_
    refine lv_iconst (v := (nI 2)) hx hb dX3_clause_134 zk_2 ?_
    refine lv_aload_n hx hb dX3_clause_135 rfl (lv_at hl 1 rfl) ?_
    refine lv_iconst (v := (nI 0)) hx hb dX3_clause_136 zk_0 ?_
    refine lv_bipush (v := (nI 99)) hx hb dX3_clause_137 zb_99 ?_
    refine z_ct (z_runVT (As := [.int (nI 0), .int (nI 99)]) (rest := [.int (nI 2), .ref q_117, .ref q_117]) hC zv_X3_132 (m_X3_number_x G l kA (by first | assumption | (omega)) (by first | assumption | (omega)) (by first | assumption | (omega)) rd co wd0 cl (tS tx n (tS tx n p0)) n (v 1) (v 0 + 1) re (nI (tF tx n (tS tx n p0))) w mn bm sm xf tx (by omega) (by first | assumption | (omega)) (by first | assumption | (omega)) (tS_le (tS_le hpo)) 0 100 (nI 99) (hf_c (lo := 0) (hh := 100) (by decide) (by decide) (by decide)) hN2 (zrem [1, 2, 3] _)) hw (hw.perm (z_cut (is := [1, 2, 3]) (cells := [(rd, zo 3 [.int (nI (tS tx n (tS tx n p0))), .int (nI (tF tx n (tS tx n p0))), .ref wd0, .int (nI (v 1)), .int (nI (v 0 + 1)), .ref cl, .int (nI re), .ref co]), (co, zo 0 (cF w mn bm sm (nI n))), (w 8, zc G 1 (zI 200 xf))]) rfl rfl)) 1 rfl rfl rfl rfl rfl (Nat.le_of_ble_eq_true rfl) hl.1 ⟨Nat.le_of_ble_eq_true rfl, Nat.le_of_ble_eq_true rfl⟩ ⟨(Nat.le_of_ble_eq_true rfl), (Nat.le_of_ble_eq_true rfl)⟩ dX3_clause_139) hw (fun q9 => z_drp (is := [1, 2, 3]) (ws := (q_117, zc G 0 (zI 3 (upd (upd (fun _ => 0) 0 (nI 6)) 1 (nI (tQ tx n (tS tx n p0)))))) :: (rd, zo 3 [.int (nI (tS tx n (tS tx n p0))), .int (nI (tF tx n (tS tx n p0))), .ref wd0, .int (nI (v 1)), .int (nI (v 0 + 1)), .ref cl, .int (nI re), .ref co]) :: (co, zo 0 (cF w mn bm sm (nI n))) :: (w 8, zc G 1 (zI 200 xf)) :: rest) (cells := [(rd, zo 3 [.int (nI (tS tx n (tS tx n p0))), .int (nI (tF tx n (tS tx n p0))), .ref wd0, .int (nI (v 1)), .int (nI (v 0 + 1)), .ref cl, .int (nI re), .ref co]), (co, zo 0 (cF w mn bm sm (nI n))), (w 8, zc G 1 (zI 200 xf))]) (rem := (q_117, zc G 0 (zI 3 (upd (upd (fun _ => 0) 0 (nI 6)) 1 (nI (tQ tx n (tS tx n p0)))))) :: rest) (N := [(q9, zo 4 [.null, .null, .null, .null, .null, .int 0, .int (nI (tF tx n (tS tx n (tS tx n p0))))]), (co, zo 0 (cF w mn bm sm (nI n))), (w 8, zc G 1 (zI 200 xf))]) rfl rfl (((z_cut (is := [1, 2, 3]) (ws := [(q_117, zc G 0 (zI 3 (upd (upd (fun _ => 0) 0 (nI 6)) 1 (nI (tQ tx n (tS tx n p0)))))), (rd, zo 3 [.int (nI (tS tx n (tS tx n p0))), .int (nI (tF tx n (tS tx n p0))), .ref wd0, .int (nI (v 1)), .int (nI (v 0 + 1)), .ref cl, .int (nI re), .ref co]), (co, zo 0 (cF w mn bm sm (nI n))), (w 8, zc G 1 (zI 200 xf))]) (cells := [(rd, zo 3 [.int (nI (tS tx n (tS tx n p0))), .int (nI (tF tx n (tS tx n p0))), .ref wd0, .int (nI (v 1)), .int (nI (v 0 + 1)), .ref cl, .int (nI re), .ref co]), (co, zo 0 (cF w mn bm sm (nI n))), (w 8, zc G 1 (zI 200 xf))]) rfl rfl).append_right rest).trans (by rw [List.append_assoc]; exact List.Perm.refl _))) (fun q9 H locs ce9 hex => ?_)
    obtain ⟨hw, hx9⟩ := hex
    have hw : zS G ((q9, zo 4 [.null, .null, .null, .null, .null, .int 0, .int (nI (tF tx n (tS tx n (tS tx n p0))))]) :: (co, zo 0 (cF w mn bm sm (nI n))) :: (w 8, zc G 1 (zI 200 xf)) :: (q_117, zc G 0 (zI 3 (upd (upd (fun _ => 0) 0 (nI 6)) 1 (nI (tQ tx n (tS tx n p0)))))) :: rest) s H locs := hw
    have hw : zS G ((q_117, zc G 0 (zI 3 (upd (upd (fun _ => 0) 0 (nI 6)) 1 (nI (tQ tx n (tS tx n p0)))))) :: (q9, zo 4 [.null, .null, .null, .null, .null, .int 0, .int (nI (tF tx n (tS tx n (tS tx n p0))))]) :: (co, zo 0 (cF w mn bm sm (nI n))) :: (w 8, zc G 1 (zI 200 xf)) :: rest) s H locs := hw.perm (((z_cut (is := [3, 0, 1, 2]) (ws := [(q9, zo 4 [.null, .null, .null, .null, .null, .int 0, .int (nI (tF tx n (tS tx n (tS tx n p0))))]), (co, zo 0 (cF w mn bm sm (nI n))), (w 8, zc G 1 (zI 200 xf)), (q_117, zc G 0 (zI 3 (upd (upd (fun _ => 0) 0 (nI 6)) 1 (nI (tQ tx n (tS tx n p0))))))]) (cells := [(q_117, zc G 0 (zI 3 (upd (upd (fun _ => 0) 0 (nI 6)) 1 (nI (tQ tx n (tS tx n p0)))))), (q9, zo 4 [.null, .null, .null, .null, .null, .int 0, .int (nI (tF tx n (tS tx n (tS tx n p0))))]), (co, zo 0 (cF w mn bm sm (nI n))), (w 8, zc G 1 (zI 200 xf))]) rfl rfl).append_right rest).trans (by rw [List.append_assoc]; exact List.Perm.refl _))
    have hw := hw.drop
    exact hend _ _ _ _ _ _ _ _ _ ⟨hw, hx9⟩ (by decide) (Nat.le_of_ble_eq_true rfl) (Nat.le_of_ble_eq_true rfl)
  · skip
    have hl : lv_has ls 2 [(0, .ref rd)] := hl
    have hw : zS G ((al, zo 16 [.int 0, .ref (kA 0)]) :: (sr, zo 12 [.ref sv, .int (nI 0), .int 0, .int 0]) :: (sv, zc G 1 (zI (wL tx n p0) g4)) :: (rd, zo 3 [.int (nI (tS tx n p0)), .int (nI (tF tx n p0)), .ref sr, .int (nI (v 1)), .int (nI (v 0)), .ref cl, .int (nI re), .ref co]) :: (co, zo 0 (cF w mn bm sm (nI n))) :: (w 8, zc G 1 (zI 200 xf)) :: rest) s H locs := hw
    refine z_c5i (z_runF (As := [.ref sr]) (rest := []) hC zif_X3_126_16 q646 ⟨hz.1 _ (cw_t q594 rfl), hz.1 _ (cw_t q593 rfl), hz.1 _ (cw_t q645 rfl), hz.1 _ (cw_t q643 rfl), hz.1 _ (cw_t q641 rfl)⟩ (m_J11_indexOf_y G l kA (by first | assumption | (omega)) (by first | assumption | (omega)) al sr sv (wL tx n p0) g4 (by omega) 7 (by omega) ((tH_w hpo htx hg4 (show 7 < 8 by omega)).mpr hth) (fun j hj q => absurd (tH_1 (show j < 8 by omega) (show 7 < 8 by omega) ((tH_w hpo htx hg4 (show j < 8 by omega)).mp q) hth) (by omega)) (zrem [0, 1, 2] _)) hw (hw.perm (z_cut (is := [0, 1, 2]) (cells := [(al, zo 16 [.int 0, .ref (kA 0)]), (sr, zo 12 [.ref sv, .int (nI 0), .int 0, .int 0]), (sv, zc G 1 (zI (wL tx n p0) g4))]) rfl rfl)) 0 rfl rfl rfl rfl rfl (Nat.le_of_ble_eq_true rfl) hl.1 ⟨Nat.le_of_ble_eq_true rfl, Nat.le_of_ble_eq_true rfl⟩ ⟨(Nat.le_of_ble_eq_true rfl), (Nat.le_of_ble_eq_true rfl)⟩ dX3_clause_14) hw (fun _ => z_keep (is := [0, 1, 2]) (cs := [(al, zo 16 [.int 0, .ref (kA 0)]), (sr, zo 12 [.ref sv, .int (nI 0), .int 0, .int 0]), (sv, zc G 1 (zI (wL tx n p0) g4))]) rfl rfl) (fun r u H locs hp hw => ?_)
    obtain rfl : r = nI 7 := hp
    have hw : zS G ((sr, zo 12 [.ref sv, .int (nI 0), .int 0, .int 0]) :: (sv, zc G 1 (zI (wL tx n p0) g4)) :: (al, zo 16 [.int 0, .ref (kA 0)]) :: (rd, zo 3 [.int (nI (tS tx n p0)), .int (nI (tF tx n p0)), .ref sr, .int (nI (v 1)), .int (nI (v 0)), .ref cl, .int (nI re), .ref co]) :: (co, zo 0 (cF w mn bm sm (nI n))) :: (w 8, zc G 1 (zI 200 xf)) :: rest) s H locs := hw.perm (((z_cut (is := [1, 2, 0, 3, 4, 5]) (ws := [(al, zo 16 [.int 0, .ref (kA 0)]), (sr, zo 12 [.ref sv, .int (nI 0), .int 0, .int 0]), (sv, zc G 1 (zI (wL tx n p0) g4)), (rd, zo 3 [.int (nI (tS tx n p0)), .int (nI (tF tx n p0)), .ref sr, .int (nI (v 1)), .int (nI (v 0)), .ref cl, .int (nI re), .ref co]), (co, zo 0 (cF w mn bm sm (nI n))), (w 8, zc G 1 (zI 200 xf))]) (cells := [(sr, zo 12 [.ref sv, .int (nI 0), .int 0, .int 0]), (sv, zc G 1 (zI (wL tx n p0) g4)), (al, zo 16 [.int 0, .ref (kA 0)]), (rd, zo 3 [.int (nI (tS tx n p0)), .int (nI (tF tx n p0)), .ref sr, .int (nI (v 1)), .int (nI (v 0)), .ref cl, .int (nI re), .ref co]), (co, zo 0 (cF w mn bm sm (nI n))), (w 8, zc G 1 (zI 200 xf))]) rfl rfl).append_right rest).trans (by rw [List.append_assoc]; exact List.Perm.refl _))
    have hw := hw.drop
    have hw := hw.drop
    have hw := hw.drop
    refine lv_istore_n (lv' := [(1, .int (nI 7)), (0, .ref rd)]) hx hb dX3_clause_19 rfl hl (by decide) rfl (fun ls hl => ?_)
    refine lv_aload_n hx hb dX3_clause_20 rfl (lv_at hl 1 rfl) ?_
    refine lv_iload_n hx hb dX3_clause_21 rfl (lv_at hl 0 rfl) ?_
    refine lv_iconst (v := -1) hx hb dX3_clause_22 zk_m1 ?_
    refine lv_icmp_eq (tgt := 58) hx hb dX3_clause_23 (by decide) (fun h => absurd h (nI_m1 (by omega))) (fun _ => ?_)
    refine lv_iload_n hx hb dX3_clause_26 rfl (lv_at hl 0 rfl) ?_
    refine lv_iconst (v := (nI 4)) hx hb dX3_clause_27 zk_4 ?_
    refine zi_gt (tgt := 39) hx hb (by decide) (by decide) dX3_clause_28 (by decide) (fun _ => ?_) (fun h => absurd h (by decide))
    refine lv_iload_n hx hb dX3_clause_39 rfl (lv_at hl 0 rfl) ?_
    refine lv_bipush (v := (nI 6)) hx hb dX3_clause_40 zb_6 ?_
    refine zi_ne (tgt := 54) hx hb (by decide) (by decide) dX3_clause_42 (by decide) (fun _ => ?_) (fun h => absurd h (by decide))
    refine lv_iconst (v := (nI 1)) hx hb dX3_clause_54 zk_1 ?_
    refine lv_goto (tgt := 59) hx hb dX3_clause_55 (by decide) ?_
    refine z_cv (z_runV (As := [.int (nI 1)]) (rest := []) hC zv_X3_106 (m_X3_want_t G l rd _) hw hw 0 rfl rfl rfl rfl rfl (Nat.le_of_ble_eq_true rfl) hl.1 ⟨Nat.le_of_ble_eq_true rfl, Nat.le_of_ble_eq_true rfl⟩ ⟨(Nat.le_of_ble_eq_true rfl), (Nat.le_of_ble_eq_true rfl)⟩ dX3_clause_59) hw (fun _ => List.Perm.refl _) (fun u H locs hp hw => ?_)
    refine lv_iload_n hx hb dX3_clause_62 rfl (lv_at hl 0 rfl) ?_
    refine lv_tableIn (off := 81) (tgt := 144) hx hb dX3_clause_63 (by decide) (by decide) (by decide) (by decide) ?_
    refine lv_iconst (v := (nI 3)) hx hb dX3_clause_144 zk_3 ?_
    refine z_newa (t := 0) (atype := .int) (a0 := zI 3 (fun _ => 0)) hC (hC.hts _ q739) (fun _ => rfl) hw (fun _ => rfl) (by decide) (by decide) (Nat.le_of_ble_eq_true rfl) (Nat.le_of_ble_eq_true rfl) dX3_clause_145 (fun q_145 H hw => ?_)
    have hw : zS G ((q_145, zc G 0 (zI 3 (fun _ => 0))) :: (rd, zo 3 [.int (nI (tS tx n p0)), .int (nI (tF tx n p0)), .ref sr, .int (nI (v 1)), .int (nI (v 0)), .ref cl, .int (nI re), .ref co]) :: (co, zo 0 (cF w mn bm sm (nI n))) :: (w 8, zc G 1 (zI 200 xf)) :: rest) s H locs := hw
    refine lv_dup hx hb dX3_clause_147 rfl ?_
    refine lv_iconst (v := (nI 0)) hx hb dX3_clause_148 zk_0 ?_
    refine lv_iload_n hx hb dX3_clause_149 rfl (lv_at hl 0 rfl) ?_
    refine z_iast (f' := upd (fun _ => 0) 0 (nI 7)) hC hw 0 rfl (by decide) (by decide) rfl dX3_clause_150 (fun H locs hw => ?_)
    have hw : zS G ((q_145, zc G 0 (zI 3 (upd (fun _ => 0) 0 (nI 7)))) :: (rd, zo 3 [.int (nI (tS tx n p0)), .int (nI (tF tx n p0)), .ref sr, .int (nI (v 1)), .int (nI (v 0)), .ref cl, .int (nI re), .ref co]) :: (co, zo 0 (cF w mn bm sm (nI n))) :: (w 8, zc G 1 (zI 200 xf)) :: rest) s H locs := hw
    refine lv_dup hx hb dX3_clause_151 rfl ?_
    refine lv_iconst (v := (nI 1)) hx hb dX3_clause_152 zk_1 ?_
    refine lv_aload_n hx hb dX3_clause_153 rfl (lv_at hl 1 rfl) ?_
    refine lv_iconst (v := (nI 0)) hx hb dX3_clause_154 zk_0 ?_
    refine lv_aload_n hx hb dX3_clause_155 rfl (lv_at hl 1 rfl) ?_
    refine z_get (v := .int (nI (v 1))) hC zf_X3_25_3 hw 1 rfl rfl dX3_clause_156 ?_
    refine lv_iconst (v := (nI 1)) hx hb dX3_clause_159 zk_1 ?_
    refine zv_isub (v := (nI (v 1) - nI 1)) hx hb rfl dX3_clause_160 ?_
    refine z_ct (z_runVT (As := [.int (nI 0), .int (nI (v 1) - nI 1)]) (rest := [.int (nI 1), .ref q_145, .ref q_145]) hC zv_X3_132 (m_X3_number_x G l kA (by first | assumption | (omega)) (by first | assumption | (omega)) (by first | assumption | (omega)) rd co sr cl (tS tx n p0) n (v 1) (v 0) re (nI (tF tx n p0)) w mn bm sm xf tx (by omega) (by first | assumption | (omega)) (by first | assumption | (omega)) (tS_le hpo) 0 (v 1) (nI (v 1) - nI 1) (hf_v (by omega)) hN1 (zrem [1, 2, 3] _)) hw (hw.perm (z_cut (is := [1, 2, 3]) (cells := [(rd, zo 3 [.int (nI (tS tx n p0)), .int (nI (tF tx n p0)), .ref sr, .int (nI (v 1)), .int (nI (v 0)), .ref cl, .int (nI re), .ref co]), (co, zo 0 (cF w mn bm sm (nI n))), (w 8, zc G 1 (zI 200 xf))]) rfl rfl)) 1 rfl rfl rfl rfl rfl (Nat.le_of_ble_eq_true rfl) hl.1 ⟨Nat.le_of_ble_eq_true rfl, Nat.le_of_ble_eq_true rfl⟩ ⟨(Nat.le_of_ble_eq_true rfl), (Nat.le_of_ble_eq_true rfl)⟩ dX3_clause_161) hw (fun q9 => z_drp (is := [1, 2, 3]) (ws := (q_145, zc G 0 (zI 3 (upd (fun _ => 0) 0 (nI 7)))) :: (rd, zo 3 [.int (nI (tS tx n p0)), .int (nI (tF tx n p0)), .ref sr, .int (nI (v 1)), .int (nI (v 0)), .ref cl, .int (nI re), .ref co]) :: (co, zo 0 (cF w mn bm sm (nI n))) :: (w 8, zc G 1 (zI 200 xf)) :: rest) (cells := [(rd, zo 3 [.int (nI (tS tx n p0)), .int (nI (tF tx n p0)), .ref sr, .int (nI (v 1)), .int (nI (v 0)), .ref cl, .int (nI re), .ref co]), (co, zo 0 (cF w mn bm sm (nI n))), (w 8, zc G 1 (zI 200 xf))]) (rem := (q_145, zc G 0 (zI 3 (upd (fun _ => 0) 0 (nI 7)))) :: rest) (N := [(q9, zo 4 [.null, .null, .null, .null, .null, .int 0, .int (nI (tF tx n (tS tx n p0)))]), (co, zo 0 (cF w mn bm sm (nI n))), (w 8, zc G 1 (zI 200 xf))]) rfl rfl (((z_cut (is := [1, 2, 3]) (ws := [(q_145, zc G 0 (zI 3 (upd (fun _ => 0) 0 (nI 7)))), (rd, zo 3 [.int (nI (tS tx n p0)), .int (nI (tF tx n p0)), .ref sr, .int (nI (v 1)), .int (nI (v 0)), .ref cl, .int (nI re), .ref co]), (co, zo 0 (cF w mn bm sm (nI n))), (w 8, zc G 1 (zI 200 xf))]) (cells := [(rd, zo 3 [.int (nI (tS tx n p0)), .int (nI (tF tx n p0)), .ref sr, .int (nI (v 1)), .int (nI (v 0)), .ref cl, .int (nI re), .ref co]), (co, zo 0 (cF w mn bm sm (nI n))), (w 8, zc G 1 (zI 200 xf))]) rfl rfl).append_right rest).trans (by rw [List.append_assoc]; exact List.Perm.refl _))) (fun q9 H locs ce9 hex => ?_)
    obtain ⟨hw, hx9⟩ := hex
    have hw : zS G ((q9, zo 4 [.null, .null, .null, .null, .null, .int 0, .int (nI (tF tx n (tS tx n p0)))]) :: (co, zo 0 (cF w mn bm sm (nI n))) :: (w 8, zc G 1 (zI 200 xf)) :: (q_145, zc G 0 (zI 3 (upd (fun _ => 0) 0 (nI 7)))) :: rest) s H locs := hw
    have hw : zS G ((q_145, zc G 0 (zI 3 (upd (fun _ => 0) 0 (nI 7)))) :: (q9, zo 4 [.null, .null, .null, .null, .null, .int 0, .int (nI (tF tx n (tS tx n p0)))]) :: (co, zo 0 (cF w mn bm sm (nI n))) :: (w 8, zc G 1 (zI 200 xf)) :: rest) s H locs := hw.perm (((z_cut (is := [3, 0, 1, 2]) (ws := [(q9, zo 4 [.null, .null, .null, .null, .null, .int 0, .int (nI (tF tx n (tS tx n p0)))]), (co, zo 0 (cF w mn bm sm (nI n))), (w 8, zc G 1 (zI 200 xf)), (q_145, zc G 0 (zI 3 (upd (fun _ => 0) 0 (nI 7))))]) (cells := [(q_145, zc G 0 (zI 3 (upd (fun _ => 0) 0 (nI 7)))), (q9, zo 4 [.null, .null, .null, .null, .null, .int 0, .int (nI (tF tx n (tS tx n p0)))]), (co, zo 0 (cF w mn bm sm (nI n))), (w 8, zc G 1 (zI 200 xf))]) rfl rfl).append_right rest).trans (by rw [List.append_assoc]; exact List.Perm.refl _))
    have hw := hw.drop
    exact hend _ _ _ _ _ _ _ _ _ ⟨hw, hx9⟩ (by decide) (Nat.le_of_ble_eq_true rfl) (Nat.le_of_ble_eq_true rfl)
  · skip
    have hl : lv_has ls 2 [(0, .ref rd)] := hl
    have hw : zS G ((al, zo 16 [.int 0, .ref (kA 0)]) :: (sr, zo 12 [.ref sv, .int (nI 0), .int 0, .int 0]) :: (sv, zc G 1 (zI (wL tx n p0) g4)) :: (rd, zo 3 [.int (nI (tS tx n p0)), .int (nI (tF tx n p0)), .ref sr, .int (nI (v 1)), .int (nI (v 0)), .ref cl, .int (nI re), .ref co]) :: (co, zo 0 (cF w mn bm sm (nI n))) :: (w 8, zc G 1 (zI 200 xf)) :: rest) s H locs := hw
    refine z_c5i (z_runF (As := [.ref sr]) (rest := []) hC zif_X3_126_16 q646 ⟨hz.1 _ (cw_t q594 rfl), hz.1 _ (cw_t q593 rfl), hz.1 _ (cw_t q645 rfl), hz.1 _ (cw_t q643 rfl), hz.1 _ (cw_t q641 rfl)⟩ (m_J11_indexOf_y G l kA (by first | assumption | (omega)) (by first | assumption | (omega)) al sr sv (wL tx n p0) g4 (by omega) 7 (by omega) ((tH_w hpo htx hg4 (show 7 < 8 by omega)).mpr hth) (fun j hj q => absurd (tH_1 (show j < 8 by omega) (show 7 < 8 by omega) ((tH_w hpo htx hg4 (show j < 8 by omega)).mp q) hth) (by omega)) (zrem [0, 1, 2] _)) hw (hw.perm (z_cut (is := [0, 1, 2]) (cells := [(al, zo 16 [.int 0, .ref (kA 0)]), (sr, zo 12 [.ref sv, .int (nI 0), .int 0, .int 0]), (sv, zc G 1 (zI (wL tx n p0) g4))]) rfl rfl)) 0 rfl rfl rfl rfl rfl (Nat.le_of_ble_eq_true rfl) hl.1 ⟨Nat.le_of_ble_eq_true rfl, Nat.le_of_ble_eq_true rfl⟩ ⟨(Nat.le_of_ble_eq_true rfl), (Nat.le_of_ble_eq_true rfl)⟩ dX3_clause_14) hw (fun _ => z_keep (is := [0, 1, 2]) (cs := [(al, zo 16 [.int 0, .ref (kA 0)]), (sr, zo 12 [.ref sv, .int (nI 0), .int 0, .int 0]), (sv, zc G 1 (zI (wL tx n p0) g4))]) rfl rfl) (fun r u H locs hp hw => ?_)
    obtain rfl : r = nI 7 := hp
    have hw : zS G ((sr, zo 12 [.ref sv, .int (nI 0), .int 0, .int 0]) :: (sv, zc G 1 (zI (wL tx n p0) g4)) :: (al, zo 16 [.int 0, .ref (kA 0)]) :: (rd, zo 3 [.int (nI (tS tx n p0)), .int (nI (tF tx n p0)), .ref sr, .int (nI (v 1)), .int (nI (v 0)), .ref cl, .int (nI re), .ref co]) :: (co, zo 0 (cF w mn bm sm (nI n))) :: (w 8, zc G 1 (zI 200 xf)) :: rest) s H locs := hw.perm (((z_cut (is := [1, 2, 0, 3, 4, 5]) (ws := [(al, zo 16 [.int 0, .ref (kA 0)]), (sr, zo 12 [.ref sv, .int (nI 0), .int 0, .int 0]), (sv, zc G 1 (zI (wL tx n p0) g4)), (rd, zo 3 [.int (nI (tS tx n p0)), .int (nI (tF tx n p0)), .ref sr, .int (nI (v 1)), .int (nI (v 0)), .ref cl, .int (nI re), .ref co]), (co, zo 0 (cF w mn bm sm (nI n))), (w 8, zc G 1 (zI 200 xf))]) (cells := [(sr, zo 12 [.ref sv, .int (nI 0), .int 0, .int 0]), (sv, zc G 1 (zI (wL tx n p0) g4)), (al, zo 16 [.int 0, .ref (kA 0)]), (rd, zo 3 [.int (nI (tS tx n p0)), .int (nI (tF tx n p0)), .ref sr, .int (nI (v 1)), .int (nI (v 0)), .ref cl, .int (nI re), .ref co]), (co, zo 0 (cF w mn bm sm (nI n))), (w 8, zc G 1 (zI 200 xf))]) rfl rfl).append_right rest).trans (by rw [List.append_assoc]; exact List.Perm.refl _))
    have hw := hw.drop
    have hw := hw.drop
    have hw := hw.drop
    refine lv_istore_n (lv' := [(1, .int (nI 7)), (0, .ref rd)]) hx hb dX3_clause_19 rfl hl (by decide) rfl (fun ls hl => ?_)
    refine lv_aload_n hx hb dX3_clause_20 rfl (lv_at hl 1 rfl) ?_
    refine lv_iload_n hx hb dX3_clause_21 rfl (lv_at hl 0 rfl) ?_
    refine lv_iconst (v := -1) hx hb dX3_clause_22 zk_m1 ?_
    refine lv_icmp_eq (tgt := 58) hx hb dX3_clause_23 (by decide) (fun h => absurd h (nI_m1 (by omega))) (fun _ => ?_)
    refine lv_iload_n hx hb dX3_clause_26 rfl (lv_at hl 0 rfl) ?_
    refine lv_iconst (v := (nI 4)) hx hb dX3_clause_27 zk_4 ?_
    refine zi_gt (tgt := 39) hx hb (by decide) (by decide) dX3_clause_28 (by decide) (fun _ => ?_) (fun h => absurd h (by decide))
    refine lv_iload_n hx hb dX3_clause_39 rfl (lv_at hl 0 rfl) ?_
    refine lv_bipush (v := (nI 6)) hx hb dX3_clause_40 zb_6 ?_
    refine zi_ne (tgt := 54) hx hb (by decide) (by decide) dX3_clause_42 (by decide) (fun _ => ?_) (fun h => absurd h (by decide))
    refine lv_iconst (v := (nI 1)) hx hb dX3_clause_54 zk_1 ?_
    refine lv_goto (tgt := 59) hx hb dX3_clause_55 (by decide) ?_
    refine z_cv (z_runV (As := [.int (nI 1)]) (rest := []) hC zv_X3_106 (m_X3_want_t G l rd _) hw hw 0 rfl rfl rfl rfl rfl (Nat.le_of_ble_eq_true rfl) hl.1 ⟨Nat.le_of_ble_eq_true rfl, Nat.le_of_ble_eq_true rfl⟩ ⟨(Nat.le_of_ble_eq_true rfl), (Nat.le_of_ble_eq_true rfl)⟩ dX3_clause_59) hw (fun _ => List.Perm.refl _) (fun u H locs hp hw => ?_)
    refine lv_iload_n hx hb dX3_clause_62 rfl (lv_at hl 0 rfl) ?_
    refine lv_tableIn (off := 81) (tgt := 144) hx hb dX3_clause_63 (by decide) (by decide) (by decide) (by decide) ?_
    refine lv_iconst (v := (nI 3)) hx hb dX3_clause_144 zk_3 ?_
    refine z_newa (t := 0) (atype := .int) (a0 := zI 3 (fun _ => 0)) hC (hC.hts _ q739) (fun _ => rfl) hw (fun _ => rfl) (by decide) (by decide) (Nat.le_of_ble_eq_true rfl) (Nat.le_of_ble_eq_true rfl) dX3_clause_145 (fun q_145 H hw => ?_)
    have hw : zS G ((q_145, zc G 0 (zI 3 (fun _ => 0))) :: (rd, zo 3 [.int (nI (tS tx n p0)), .int (nI (tF tx n p0)), .ref sr, .int (nI (v 1)), .int (nI (v 0)), .ref cl, .int (nI re), .ref co]) :: (co, zo 0 (cF w mn bm sm (nI n))) :: (w 8, zc G 1 (zI 200 xf)) :: rest) s H locs := hw
    refine lv_dup hx hb dX3_clause_147 rfl ?_
    refine lv_iconst (v := (nI 0)) hx hb dX3_clause_148 zk_0 ?_
    refine lv_iload_n hx hb dX3_clause_149 rfl (lv_at hl 0 rfl) ?_
    refine z_iast (f' := upd (fun _ => 0) 0 (nI 7)) hC hw 0 rfl (by decide) (by decide) rfl dX3_clause_150 (fun H locs hw => ?_)
    have hw : zS G ((q_145, zc G 0 (zI 3 (upd (fun _ => 0) 0 (nI 7)))) :: (rd, zo 3 [.int (nI (tS tx n p0)), .int (nI (tF tx n p0)), .ref sr, .int (nI (v 1)), .int (nI (v 0)), .ref cl, .int (nI re), .ref co]) :: (co, zo 0 (cF w mn bm sm (nI n))) :: (w 8, zc G 1 (zI 200 xf)) :: rest) s H locs := hw
    refine lv_dup hx hb dX3_clause_151 rfl ?_
    refine lv_iconst (v := (nI 1)) hx hb dX3_clause_152 zk_1 ?_
    refine lv_aload_n hx hb dX3_clause_153 rfl (lv_at hl 1 rfl) ?_
    refine lv_iconst (v := (nI 0)) hx hb dX3_clause_154 zk_0 ?_
    refine lv_aload_n hx hb dX3_clause_155 rfl (lv_at hl 1 rfl) ?_
    refine z_get (v := .int (nI (v 1))) hC zf_X3_25_3 hw 1 rfl rfl dX3_clause_156 ?_
    refine lv_iconst (v := (nI 1)) hx hb dX3_clause_159 zk_1 ?_
    refine zv_isub (v := (nI (v 1) - nI 1)) hx hb rfl dX3_clause_160 ?_
    refine z_ci (z_runV (As := [.int (nI 0), .int (nI (v 1) - nI 1)]) (rest := [.int (nI 1), .ref q_145, .ref q_145]) hC zv_X3_132 (m_X3_number_ok G l kA (by first | assumption | (omega)) (by first | assumption | (omega)) (by first | assumption | (omega)) rd co sr cl (tS tx n p0) n (v 1) (v 0) re (nI (tF tx n p0)) w mn bm sm xf tx (by omega) (by first | assumption | (omega)) (by first | assumption | (omega)) (tS_le hpo) 0 (v 1) (nI (v 1) - nI 1) (hf_v (by omega)) hN1 (zrem [1, 2, 3] _)) hw (hw.perm (z_cut (is := [1, 2, 3]) (cells := [(rd, zo 3 [.int (nI (tS tx n p0)), .int (nI (tF tx n p0)), .ref sr, .int (nI (v 1)), .int (nI (v 0)), .ref cl, .int (nI re), .ref co]), (co, zo 0 (cF w mn bm sm (nI n))), (w 8, zc G 1 (zI 200 xf))]) rfl rfl)) 1 rfl rfl rfl rfl rfl (Nat.le_of_ble_eq_true rfl) hl.1 ⟨Nat.le_of_ble_eq_true rfl, Nat.le_of_ble_eq_true rfl⟩ ⟨(Nat.le_of_ble_eq_true rfl), (Nat.le_of_ble_eq_true rfl)⟩ dX3_clause_161) hw (fun u => z_pput (is := [1, 2, 3]) (cells := [(rd, zo 3 [.int (nI (tS tx n p0)), .int (nI (tF tx n p0)), .ref sr, .int (nI (v 1)), .int (nI (v 0)), .ref cl, .int (nI re), .ref co]), (co, zo 0 (cF w mn bm sm (nI n))), (w 8, zc G 1 (zI 200 xf))]) (cells' := [(rd, zo 3 [.int (nI (tS tx n (tS tx n p0))), .int (nI (tF tx n (tS tx n p0))), .ref u, .int (nI (v 1)), .int (nI (v 0)), .ref cl, .int (nI re), .ref co]), (co, zo 0 (cF w mn bm sm (nI n))), (w 8, zc G 1 (zI 200 xf))]) rfl rfl rfl) (fun r u H locs hp hw => ?_)
    obtain ⟨wd0, rfl⟩ : ∃ z, z = u := ⟨_, rfl⟩
    have hw : zS G ((q_145, zc G 0 (zI 3 (upd (fun _ => 0) 0 (nI 7)))) :: (rd, zo 3 [.int (nI (tS tx n (tS tx n p0))), .int (nI (tF tx n (tS tx n p0))), .ref wd0, .int (nI (v 1)), .int (nI (v 0)), .ref cl, .int (nI re), .ref co]) :: (co, zo 0 (cF w mn bm sm (nI n))) :: (w 8, zc G 1 (zI 200 xf)) :: rest) s H locs := hw
    obtain rfl := hp
    refine z_iast (f' := upd (upd (fun _ => 0) 0 (nI 7)) 1 (nI (tQ tx n (tS tx n p0)))) hC hw 0 rfl (by decide) (by decide) rfl dX3_clause_164 (fun H locs hw => ?_)
    have hw : zS G ((q_145, zc G 0 (zI 3 (upd (upd (fun _ => 0) 0 (nI 7)) 1 (nI (tQ tx n (tS tx n p0)))))) :: (rd, zo 3 [.int (nI (tS tx n (tS tx n p0))), .int (nI (tF tx n (tS tx n p0))), .ref wd0, .int (nI (v 1)), .int (nI (v 0)), .ref cl, .int (nI re), .ref co]) :: (co, zo 0 (cF w mn bm sm (nI n))) :: (w 8, zc G 1 (zI 200 xf)) :: rest) s H locs := hw
    refine lv_dup hx hb dX3_clause_165 rfl ?_
    refine lv_iconst (v := (nI 2)) hx hb dX3_clause_166 zk_2 ?_
    refine lv_aload_n hx hb dX3_clause_167 rfl (lv_at hl 1 rfl) ?_
    refine lv_iconst (v := (nI 0)) hx hb dX3_clause_168 zk_0 ?_
    refine lv_aload_n hx hb dX3_clause_169 rfl (lv_at hl 1 rfl) ?_
    refine z_get (v := .int (nI (v 0))) hC zf_X3_37_3 hw 1 rfl rfl dX3_clause_170 ?_
    refine lv_iconst (v := (nI 1)) hx hb dX3_clause_173 zk_1 ?_
    refine zv_isub (v := (nI (v 0) - nI 1)) hx hb rfl dX3_clause_174 ?_
    refine z_ct (z_runVT (As := [.int (nI 0), .int (nI (v 0) - nI 1)]) (rest := [.int (nI 2), .ref q_145, .ref q_145]) hC zv_X3_132 (m_X3_number_x G l kA (by first | assumption | (omega)) (by first | assumption | (omega)) (by first | assumption | (omega)) rd co wd0 cl (tS tx n (tS tx n p0)) n (v 1) (v 0) re (nI (tF tx n (tS tx n p0))) w mn bm sm xf tx (by omega) (by first | assumption | (omega)) (by first | assumption | (omega)) (tS_le (tS_le hpo)) 0 (v 0) (nI (v 0) - nI 1) (hf_v (by omega)) hN2 (zrem [1, 2, 3] _)) hw (hw.perm (z_cut (is := [1, 2, 3]) (cells := [(rd, zo 3 [.int (nI (tS tx n (tS tx n p0))), .int (nI (tF tx n (tS tx n p0))), .ref wd0, .int (nI (v 1)), .int (nI (v 0)), .ref cl, .int (nI re), .ref co]), (co, zo 0 (cF w mn bm sm (nI n))), (w 8, zc G 1 (zI 200 xf))]) rfl rfl)) 1 rfl rfl rfl rfl rfl (Nat.le_of_ble_eq_true rfl) hl.1 ⟨Nat.le_of_ble_eq_true rfl, Nat.le_of_ble_eq_true rfl⟩ ⟨(Nat.le_of_ble_eq_true rfl), (Nat.le_of_ble_eq_true rfl)⟩ dX3_clause_175) hw (fun q9 => z_drp (is := [1, 2, 3]) (ws := (q_145, zc G 0 (zI 3 (upd (upd (fun _ => 0) 0 (nI 7)) 1 (nI (tQ tx n (tS tx n p0)))))) :: (rd, zo 3 [.int (nI (tS tx n (tS tx n p0))), .int (nI (tF tx n (tS tx n p0))), .ref wd0, .int (nI (v 1)), .int (nI (v 0)), .ref cl, .int (nI re), .ref co]) :: (co, zo 0 (cF w mn bm sm (nI n))) :: (w 8, zc G 1 (zI 200 xf)) :: rest) (cells := [(rd, zo 3 [.int (nI (tS tx n (tS tx n p0))), .int (nI (tF tx n (tS tx n p0))), .ref wd0, .int (nI (v 1)), .int (nI (v 0)), .ref cl, .int (nI re), .ref co]), (co, zo 0 (cF w mn bm sm (nI n))), (w 8, zc G 1 (zI 200 xf))]) (rem := (q_145, zc G 0 (zI 3 (upd (upd (fun _ => 0) 0 (nI 7)) 1 (nI (tQ tx n (tS tx n p0)))))) :: rest) (N := [(q9, zo 4 [.null, .null, .null, .null, .null, .int 0, .int (nI (tF tx n (tS tx n (tS tx n p0))))]), (co, zo 0 (cF w mn bm sm (nI n))), (w 8, zc G 1 (zI 200 xf))]) rfl rfl (((z_cut (is := [1, 2, 3]) (ws := [(q_145, zc G 0 (zI 3 (upd (upd (fun _ => 0) 0 (nI 7)) 1 (nI (tQ tx n (tS tx n p0)))))), (rd, zo 3 [.int (nI (tS tx n (tS tx n p0))), .int (nI (tF tx n (tS tx n p0))), .ref wd0, .int (nI (v 1)), .int (nI (v 0)), .ref cl, .int (nI re), .ref co]), (co, zo 0 (cF w mn bm sm (nI n))), (w 8, zc G 1 (zI 200 xf))]) (cells := [(rd, zo 3 [.int (nI (tS tx n (tS tx n p0))), .int (nI (tF tx n (tS tx n p0))), .ref wd0, .int (nI (v 1)), .int (nI (v 0)), .ref cl, .int (nI re), .ref co]), (co, zo 0 (cF w mn bm sm (nI n))), (w 8, zc G 1 (zI 200 xf))]) rfl rfl).append_right rest).trans (by rw [List.append_assoc]; exact List.Perm.refl _))) (fun q9 H locs ce9 hex => ?_)
    obtain ⟨hw, hx9⟩ := hex
    have hw : zS G ((q9, zo 4 [.null, .null, .null, .null, .null, .int 0, .int (nI (tF tx n (tS tx n (tS tx n p0))))]) :: (co, zo 0 (cF w mn bm sm (nI n))) :: (w 8, zc G 1 (zI 200 xf)) :: (q_145, zc G 0 (zI 3 (upd (upd (fun _ => 0) 0 (nI 7)) 1 (nI (tQ tx n (tS tx n p0)))))) :: rest) s H locs := hw
    have hw : zS G ((q_145, zc G 0 (zI 3 (upd (upd (fun _ => 0) 0 (nI 7)) 1 (nI (tQ tx n (tS tx n p0)))))) :: (q9, zo 4 [.null, .null, .null, .null, .null, .int 0, .int (nI (tF tx n (tS tx n (tS tx n p0))))]) :: (co, zo 0 (cF w mn bm sm (nI n))) :: (w 8, zc G 1 (zI 200 xf)) :: rest) s H locs := hw.perm (((z_cut (is := [3, 0, 1, 2]) (ws := [(q9, zo 4 [.null, .null, .null, .null, .null, .int 0, .int (nI (tF tx n (tS tx n (tS tx n p0))))]), (co, zo 0 (cF w mn bm sm (nI n))), (w 8, zc G 1 (zI 200 xf)), (q_145, zc G 0 (zI 3 (upd (upd (fun _ => 0) 0 (nI 7)) 1 (nI (tQ tx n (tS tx n p0))))))]) (cells := [(q_145, zc G 0 (zI 3 (upd (upd (fun _ => 0) 0 (nI 7)) 1 (nI (tQ tx n (tS tx n p0)))))), (q9, zo 4 [.null, .null, .null, .null, .null, .int 0, .int (nI (tF tx n (tS tx n (tS tx n p0))))]), (co, zo 0 (cF w mn bm sm (nI n))), (w 8, zc G 1 (zI 200 xf))]) rfl rfl).append_right rest).trans (by rw [List.append_assoc]; exact List.Perm.refl _))
    have hw := hw.drop
    exact hend _ _ _ _ _ _ _ _ _ ⟨hw, hx9⟩ (by decide) (Nat.le_of_ble_eq_true rfl) (Nat.le_of_ble_eq_true rfl)
