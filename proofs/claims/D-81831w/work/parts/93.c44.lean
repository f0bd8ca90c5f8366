/-! READER: read -/
set_option maxRecDepth 100000
theorem clsN_3 {c : Nat} : clsN c = 3 ↔ c = 59 := by
  unfold clsN
  by_cases h1 : isSm c = true
  · rw [if_pos h1]; rw [isSm_iff] at h1; omega
  · rw [if_neg h1]
    by_cases h2 : isDg c = true
    · rw [if_pos h2]; rw [isDg_iff] at h2; omega
    · rw [if_neg h2]; by_cases h3 : c = 59
      · rw [if_pos h3]; omega
      · rw [if_neg h3]; omega
theorem wL_k0 {tx : Nat → Nat} {n p : Nat} : wL tx n p = 0 ↔ tK tx n p = 0 := by
  constructor
  · intro h; exact tK_0 (fun q => by have := wL_pos q; omega)
  · intro h; exact wL_0 (fun q => by have := tK_pos q; omega)
theorem tK3_w {tx : Nat → Nat} {n p : Nat} {g : Nat → Int32} (hp : p ≤ n) (htx : ∀ k, k < n → tx k < 256) (hg : ∀ j, j < wL tx n p → g j = btL (tx (tF tx n p + j))) : (wL tx n p = (hdB.getD 9 []).length ∧ ∀ i, i < wL tx n p → g i = nI ((hdB.getD 9 []).getD i 0)) ↔ tK tx n p = 3 := by
  have e1 : (hdB.getD 9 []).length = 1 := by decide
  have e2 : (hdB.getD 9 []).getD 0 0 = 59 := by decide
  rw [e1]
  constructor
  · intro ⟨h1, h2⟩
    have hf : tF tx n p < n := wL_in.mp (by omega)
    have h3 := h2 0 (by omega)
    rw [e2, hg 0 (by omega), Nat.add_zero] at h3
    rw [tK_c hf, clsN_3]
    exact (bt_nI (htx _ hf) (by decide)).mp h3
  · intro h
    have hf : tF tx n p < n := tF_in (by omega)
    have hE : tE tx n p = tF tx n p := if_neg (by omega)
    have hw : wL tx n p = 1 := by unfold wL tS; rw [hE, if_pos (Or.inl h)]; omega
    refine ⟨hw, fun i hi => ?_⟩
    obtain rfl : i = 0 := by omega
    rw [e2, hg 0 (by omega), Nat.add_zero]
    rw [tK_c hf, clsN_3] at h
    exact (bt_nI (htx _ hf) (by decide)).mpr h
theorem clauseN_le {tx : Nat → Nat} {n p : Nat} {v : Nat → Nat} {r : (Nat → Nat) × Nat} (hp : p ≤ n) (h : clauseN tx n v p = .inr r) : r.2 ≤ n := by
  rcases cl_walk h with ⟨-, e⟩ | ⟨k, -, -, -, -, -, e⟩ | ⟨-, -, -, -, e⟩ | ⟨-, -, -, e⟩ <;> rw [e]
  · exact tS_le hp
  · exact tS_le (tS_le (tS_le hp))
  · exact tS_le (tS_le (tS_le hp))
  · exact tS_le (tS_le (tS_le hp))
theorem okC_Hw {v v2 : Nat → Nat} {len : Nat} {g : Nat → Int32} (hH : Hw v) (h : okC v v2 len g) : Hw v2 := by
  rcases h with ⟨-, -, e⟩ | ⟨-, k, x, y, h1, h2, h3, h4, h5, -, -, -, e⟩ | ⟨-, x, y, h2, h3, h4, -, -, -, e⟩ | ⟨-, x, y, h1, h2, -, -, -, e⟩ <;> rw [e]
  · exact Hw_0
  · exact putQ_Hw hH h5 h1 h2 h4
  · exact putP_Hw hH h4 h2 h3
  · exact putK_Hw hH h1 h2
/-- the clauses read: where they lie, and what they make of what was -/
def chC (G : zE) (V : Nat → Nat → Nat) (af : Nat → Option Nat) (cs : Nat → va_W) (c : Nat) : Prop := ∀ j, j < c → ∃ q len g, af j = some q ∧ cs j = [(q, zc G 0 (zI len g))] ∧ okC (V j) (V (j + 1)) len g
def upV (V : Nat → Nat → Nat) (k : Nat) (v : Nat → Nat) : Nat → Nat → Nat := fun j => if j = k then v else V j
theorem upV_s {V : Nat → Nat → Nat} {k : Nat} {v : Nat → Nat} : upV V k v k = v := if_pos rfl
theorem upV_n {V : Nat → Nat → Nat} {k j : Nat} {v : Nat → Nat} (h : j ≠ k) : upV V k v j = V j := if_neg h
theorem chC_0 {G : zE} {V : Nat → Nat → Nat} {af : Nat → Option Nat} {cs : Nat → va_W} : chC G V af cs 0 := fun _ h => absurd h (Nat.not_lt_zero _)
theorem chC_s {G : zE} {V : Nat → Nat → Nat} {af : Nat → Option Nat} {cs : Nat → va_W} {c q len : Nat} {g : Nat → Int32} {v v2 : Nat → Nat} (h : chC G V af cs c) (hv : V c = v) (ok : okC v v2 len g) : chC G (upV V (c + 1) v2) (va_up af c (some q)) (va_up cs c [(q, zc G 0 (zI len g))]) (c + 1) := by
  intro j hj
  by_cases e : j = c
  · subst e
    exact ⟨q, len, g, va_up_self _ _ _, va_up_self _ _ _, by rw [upV_s, upV_n (by omega), hv]; exact ok⟩
  · obtain ⟨q', len', g', a, b, d⟩ := h j (by omega)
    exact ⟨q', len', g', (va_up_ne _ _ e).trans a, (va_up_ne _ _ e).trans b, by rw [upV_n (by omega), upV_n (by omega)]; exact d⟩
theorem chC_Hw {G : zE} {V : Nat → Nat → Nat} {af : Nat → Option Nat} {cs : Nat → va_W} {c : Nat} (h : chC G V af cs c) (h0 : Hw (V 0)) : ∀ j, j ≤ c → Hw (V j)
  | 0, _ => h0
  | j + 1, hj => by obtain ⟨q, len, g, -, -, ok⟩ := h j (by omega); exact okC_Hw (chC_Hw h h0 j (by omega)) ok
theorem inl_ne {a : Nat} {b : (Nat → Nat) × Nat} (h : (Sum.inl a : Nat ⊕ ((Nat → Nat) × Nat)) = .inr b) : False := by cases h
theorem zf_X3_42_3 : zFl 3 5 RX3 42 true (.array (.array .int)) := ⟨RX3, TX3, 8, tyX3, rfl, by decide, in_X3, q245, rfl, by decide +kernel, tyX3_ok, nmX3⟩
theorem zf_X3_136_3 : zFl 3 6 RX3 136 false .int := ⟨RX3, TX3, 8, tyX3, rfl, by decide, in_X3, q247, rfl, by decide +kernel, tyX3_ok, nmX3⟩
theorem zv_X3_139 : zVs RX3 139 yX3_clause cX3_clause 2 (some (.array .int)) 0 := ⟨lw_V q271 q273 qs1 q54 q274, ⟨by decide +kernel, by decide +kernel⟩, by decide +kernel⟩
theorem zv_X3_145 : zVs RX3 145 yJ3_equals cJ3_equals 3 (some .boolean) 1 := ⟨lw_V q734 q633 q2177 q57 q634, ⟨by decide +kernel, by decide +kernel⟩, by decide +kernel⟩
theorem zv_X3_149 : zVs RX3 149 yJ3_isEmpty cJ3_isEmpty 1 (some .boolean) 0 := ⟨lw_V q735 q736 q737 q57 q738, ⟨by decide +kernel, by decide +kernel⟩, by decide +kernel⟩
set_option maxHeartbeats 4000000 in
theorem m_X3_read_ok (G : zE) (l : Launch) (kA : Nat → Nat) (hG : zG G kA) (hS : zS9 G kA) (hY : zY G) (rd : Nat) (co : Nat) (wd : Nat) (cl : Nat) (n : Nat) (fs : Int32) (w : Nat → Nat) (v0 : Nat → Nat) (mn : Int32) (bm : Int32) (sm : Int32) (xf : Nat → Int32) (tx : Nat → Nat) (hn2 : n ≤ 200) (htx : ∀ k, k < n → tx k < 256) (hxf : ∀ k, k < n → xf k = btL (tx k)) (hH : Hw v0) (vz : Nat → Nat) (cz : Nat) (cs0 : Nat → va_W) (hX : parN tx n 24 1 v0 0 = .inr (vz, cz)) (rest : va_W) : zMq G l yX3_read cX3_read 2 (some (.object "NutCaches$Reader")) 10 2960 105900 [.ref rd] ((rd, zo 3 [.int (nI 0), .int fs, .ref wd, .int (nI (v0 1)), .int (nI (v0 0)), .ref cl, .int (nI 0), .ref co]) :: (co, zo 0 (cF w mn bm sm (nI n))) :: (w 8, zc G 1 (zI 200 xf)) :: (cl, zc G 7 (zO 24 (fun _ => none))) :: (pw 24 cs0 ++ rest)) (fun (r9 : Option Nat) u => r9 = some rd ∧ ∃ V : Nat → Nat → Nat, V 0 = v0 ∧ V cz = vz ∧ chC G V u.2.2.2.1 u.2.2.2.2 cz ∧ 1 ≤ cz ∧ cz ≤ 24) (fun (u : Nat × Int32 × Int32 × (Nat → Option Nat) × (Nat → va_W)) => (rd, zo 3 [.int u.2.1, .int u.2.2.1, .ref u.1, .int (nI (vz 1)), .int (nI (vz 0)), .ref cl, .int (nI cz), .ref co]) :: (co, zo 0 (cF w mn bm sm (nI n))) :: (w 8, zc G 1 (zI 200 xf)) :: (cl, zc G 7 (zO 24 u.2.2.2.1)) :: (pw 24 u.2.2.2.2 ++ rest)) := by
  refine z_begQ (by first | exact Or.inl ⟨_, rfl⟩ | exact Or.inr ⟨_, rfl⟩) (by decide) (Nat.le_of_ble_eq_true rfl) (fun p e s m args below meth c ls Q hC hl hw hend => ?_)
  have hx := hC.hx
  have hb := hC.hb
  have hl : lv_has ls 2 [(0, .ref rd)] := hl
  have hw : zS G ((rd, zo 3 [.int (nI 0), .int fs, .ref wd, .int (nI (v0 1)), .int (nI (v0 0)), .ref cl, .int (nI 0), .ref co]) :: (co, zo 0 (cF w mn bm sm (nI n))) :: (w 8, zc G 1 (zI 200 xf)) :: (cl, zc G 7 (zO 24 (fun _ => none))) :: (pw 24 cs0 ++ rest)) s s.heap [] := hw
  have hz := hG s hC.hZ.1
  have hzs := hS s hC.hZ.1
  have hzy := hY s hC.hZ.1
  refine lv_iconst (v := (nI 1)) hx hb dX3_read_0 zk_1 ?_
  refine lv_istore_n (lv' := [(1, .int (nI 1)), (0, .ref rd)]) hx hb dX3_read_1 rfl hl (by decide) rfl (fun ls hl => ?_)
  refine lv_iload_n hx hb dX3_read_2 rfl (lv_at hl 0 rfl) ?_
  refine zj_eq (tgt := 86) hx hb (by decide) dX3_read_3 (by decide) (fun h => absurd h (by decide)) (fun _ => ?_)
  have loop_6 : ∀ (fuel : Nat) (cn : Nat) (p9 : Nat) (wdl : Nat) (fsl : Int32) (v : Nat → Nat) (V : Nat → Nat → Nat) (af : Nat → Option Nat) (cs : Nat → va_W), (cn < 24) → (p9 ≤ n) → (Hw v) → (V 0 = v0) → (V cn = v) → (chC G V af cs cn) → (parN tx n (25 - (cn + 1)) (cn + 1) v p9 = .inr (vz, cz)) → (24 - cn) < fuel → ∀ (H : Heap) (locs : List Loc) (ls : Array Slot), zS G ((rd, zo 3 [.int (nI p9), .int fsl, .ref wdl, .int (nI (v 1)), .int (nI (v 0)), .ref cl, .int (nI cn), .ref co]) :: (co, zo 0 (cF w mn bm sm (nI n))) :: (w 8, zc G 1 (zI 200 xf)) :: (cl, zc G 7 (zO 24 af)) :: (pw 24 cs ++ rest)) s H locs → lv_has ls 2 [(0, .ref rd), (1, .int (nI 1))] → W p l e (zR 10 2960 105900) s m args below meth c H locs (123 * cn) (4412 * cn) Q (F0 m 6 ls []) := by
    intro fuel
    induction fuel with
    | zero => intro cn p9 wdl fsl v V af cs hc9 hpn hHl hV0 hVc hch hpar hfuel; exact absurd hfuel (Nat.not_lt_zero _)
    | succ fuel_6 ih_6 =>
      intro cn p9 wdl fsl v V af cs hc9 hpn hHl hV0 hVc hch hpar hfuel_6 H locs ls hw hl
      refine lv_aload_n hx hb dX3_read_6 rfl (lv_at hl 0 rfl) ?_
      refine z_get (v := .ref cl) hC zf_X3_42_3 hw 0 rfl rfl dX3_read_7 ?_
      refine lv_aload_n hx hb dX3_read_10 rfl (lv_at hl 0 rfl) ?_
      refine z_get (v := .int (nI cn)) hC zf_X3_136_3 hw 0 rfl rfl dX3_read_11 ?_
      refine lv_aload_n hx hb dX3_read_14 rfl (lv_at hl 0 rfl) ?_
      rcases hcl : clauseN tx n v p9 with w8 | ⟨v2, p2⟩
      · skip
        exact absurd (par_l (show cn + 1 ≤ 24 by omega) hcl hpar).symm (fun q => inl_ne q)
      · skip
        have hl : lv_has ls 2 [(0, .ref rd), (1, .int (nI 1))] := hl
        refine z_cq (z_runV (As := []) (rest := [.int (nI cn), .ref cl]) hC zv_X3_139 (m_X3_clause_ok G l kA (by first | assumption | (omega)) (by first | assumption | (omega)) (by first | assumption | (omega)) rd co wdl cl p9 n cn fsl w v mn bm sm xf tx (by omega) (by first | assumption | (omega)) (by first | assumption | (omega)) hpn hHl.1 hHl.2.1 (v2, p2) hcl (zrem [0, 1, 2] _)) hw (hw.perm (z_cut (is := [0, 1, 2]) (cells := [(rd, zo 3 [.int (nI p9), .int fsl, .ref wdl, .int (nI (v 1)), .int (nI (v 0)), .ref cl, .int (nI cn), .ref co]), (co, zo 0 (cF w mn bm sm (nI n))), (w 8, zc G 1 (zI 200 xf))]) rfl rfl)) 0 rfl rfl rfl rfl rfl (Nat.le_of_ble_eq_true rfl) hl.1 ⟨Nat.le_of_ble_eq_true rfl, Nat.le_of_ble_eq_true rfl⟩ ⟨(by show _ ≤ 2960; omega), (by show _ ≤ 105900; omega)⟩ dX3_read_15) hw (fun u => z_new1 (is := [0, 1, 2]) (cs := [(rd, zo 3 [.int (nI p9), .int fsl, .ref wdl, .int (nI (v 1)), .int (nI (v 0)), .ref cl, .int (nI cn), .ref co]), (co, zo 0 (cF w mn bm sm (nI n))), (w 8, zc G 1 (zI 200 xf))]) (cs' := [(rd, zo 3 [.int (nI (v2, p2).2), .int u.2.2.2.1, .ref u.1, .int (nI ((v2, p2).1 1)), .int (nI ((v2, p2).1 0)), .ref cl, .int (nI cn), .ref co]), (co, zo 0 (cF w mn bm sm (nI n))), (w 8, zc G 1 (zI 200 xf))]) (nw := [(u.2.1, zc G 0 (zI u.2.2.1 u.2.2.2.2))]) rfl rfl rfl) (fun r u H locs hp hw => ?_)
        obtain ⟨wd2, cq, ln, fs2, cf⟩ := u
        have hw : zS G ((cq, zc G 0 (zI ln cf)) :: (rd, zo 3 [.int (nI (v2, p2).2), .int fs2, .ref wd2, .int (nI ((v2, p2).1 1)), .int (nI ((v2, p2).1 0)), .ref cl, .int (nI cn), .ref co]) :: (co, zo 0 (cF w mn bm sm (nI n))) :: (w 8, zc G 1 (zI 200 xf)) :: (cl, zc G 7 (zO 24 af)) :: (pw 24 cs ++ rest)) s H locs := hw
        obtain ⟨rfl, hokc⟩ := hp
        have hw : zS G ((cq, zc G 0 (zI ln cf)) :: (rd, zo 3 [.int (nI p2), .int fs2, .ref wd2, .int (nI (v2 1)), .int (nI (v2 0)), .ref cl, .int (nI cn), .ref co]) :: (co, zo 0 (cF w mn bm sm (nI n))) :: (w 8, zc G 1 (zI 200 xf)) :: (cl, zc G 7 (zO 24 af)) :: (pw 24 cs ++ rest)) s H locs := hw
        have hp2 : p2 ≤ n := clauseN_le hpn hcl
        refine z_aastA (f' := va_up af cn (some cq)) hC (hz.1 _ (cw_t q153 rfl)) hw 4 rfl 0 rfl (by omega) (by decide) rfl dX3_read_18 (fun H locs hw => ?_)
        have hw : zS G ((cq, zc G 0 (zI ln cf)) :: (rd, zo 3 [.int (nI p2), .int fs2, .ref wd2, .int (nI (v2 1)), .int (nI (v2 0)), .ref cl, .int (nI cn), .ref co]) :: (co, zo 0 (cF w mn bm sm (nI n))) :: (w 8, zc G 1 (zI 200 xf)) :: (cl, zc G 7 (zO 24 (va_up af cn (some cq)))) :: (pw 24 cs ++ rest)) s H locs := hw
        have hw : zS G ((cq, zc G 0 (zI ln cf)) :: (rd, zo 3 [.int (nI p2), .int fs2, .ref wd2, .int (nI (v2 1)), .int (nI (v2 0)), .ref cl, .int (nI cn), .ref co]) :: (co, zo 0 (cF w mn bm sm (nI n))) :: (w 8, zc G 1 (zI 200 xf)) :: (cl, zc G 7 (zO 24 (va_up af cn (some cq)))) :: (pwX 24 cs cn ++ rest)) s H locs := (hw.perm (pl_get (E := [(cq, zc G 0 (zI ln cf)), (rd, zo 3 [.int (nI p2), .int fs2, .ref wd2, .int (nI (v2 1)), .int (nI (v2 0)), .ref cl, .int (nI cn), .ref co]), (co, zo 0 (cF w mn bm sm (nI n))), (w 8, zc G 1 (zI 200 xf)), (cl, zc G 7 (zO 24 (va_up af cn (some cq))))]) (sl := cs) (show cn < 24 by omega))).dropP _
        have hw : zS G ((rd, zo 3 [.int (nI p2), .int fs2, .ref wd2, .int (nI (v2 1)), .int (nI (v2 0)), .ref cl, .int (nI cn), .ref co]) :: (co, zo 0 (cF w mn bm sm (nI n))) :: (w 8, zc G 1 (zI 200 xf)) :: (cl, zc G 7 (zO 24 (va_up af cn (some cq)))) :: (pw 24 (va_up cs cn [(cq, zc G 0 (zI ln cf))]) ++ rest)) s H locs := hw.perm (pl_put (x := [(cq, zc G 0 (zI ln cf))]) (E := [(rd, zo 3 [.int (nI p2), .int fs2, .ref wd2, .int (nI (v2 1)), .int (nI (v2 0)), .ref cl, .int (nI cn), .ref co]), (co, zo 0 (cF w mn bm sm (nI n))), (w 8, zc G 1 (zI 200 xf)), (cl, zc G 7 (zO 24 (va_up af cn (some cq))))]) (sl := cs) (show cn < 24 by omega))
        refine lv_aload_n hx hb dX3_read_19 rfl (lv_at hl 0 rfl) ?_
        refine lv_dup hx hb dX3_read_20 rfl ?_
        refine z_get (v := .int (nI cn)) hC zf_X3_136_3 hw 0 rfl rfl dX3_read_21 ?_
        refine lv_iconst (v := (nI 1)) hx hb dX3_read_24 zk_1 ?_
        refine zn_iadd hx hb dX3_read_25 ?_
        refine z_puti hC zf_X3_136_3 hw 0 rfl (Nat.le_of_ble_eq_true rfl) dX3_read_26 (fun H locs hw => ?_)
        have hw : zS G ((rd, zo 3 [.int (nI p2), .int fs2, .ref wd2, .int (nI (v2 1)), .int (nI (v2 0)), .ref cl, .int (nI (cn + 1)), .ref co]) :: (co, zo 0 (cF w mn bm sm (nI n))) :: (w 8, zc G 1 (zI 200 xf)) :: (cl, zc G 7 (zO 24 (va_up af cn (some cq)))) :: (pw 24 (va_up cs cn [(cq, zc G 0 (zI ln cf))]) ++ rest)) s H locs := hw
        refine lv_aload_n hx hb dX3_read_29 rfl (lv_at hl 0 rfl) ?_
        refine z_cv (z_runV (As := []) (rest := []) hC zv_X3_91 (m_X3_take G l kA (by first | assumption | (omega)) (by first | assumption | (omega)) rd co wd2 cl p2 n (v2 1) (v2 0) (cn + 1) fs2 w mn bm sm xf tx (by omega) (by first | assumption | (omega)) (by first | assumption | (omega)) hp2 (zrem [0, 1, 2] _)) hw (hw.perm (z_cut (is := [0, 1, 2]) (cells := [(rd, zo 3 [.int (nI p2), .int fs2, .ref wd2, .int (nI (v2 1)), .int (nI (v2 0)), .ref cl, .int (nI (cn + 1)), .ref co]), (co, zo 0 (cF w mn bm sm (nI n))), (w 8, zc G 1 (zI 200 xf))]) rfl rfl)) 0 rfl rfl rfl rfl rfl (Nat.le_of_ble_eq_true rfl) hl.1 ⟨Nat.le_of_ble_eq_true rfl, Nat.le_of_ble_eq_true rfl⟩ ⟨(by show _ ≤ 2960; omega), (by show _ ≤ 105900; omega)⟩ dX3_read_30) hw (fun u => z_new1 (is := [0, 1, 2]) (cs := [(rd, zo 3 [.int (nI p2), .int fs2, .ref wd2, .int (nI (v2 1)), .int (nI (v2 0)), .ref cl, .int (nI (cn + 1)), .ref co]), (co, zo 0 (cF w mn bm sm (nI n))), (w 8, zc G 1 (zI 200 xf))]) (cs' := [(rd, zo 3 [.int (nI (tS tx n p2)), .int (nI (tF tx n p2)), .ref u.1, .int (nI (v2 1)), .int (nI (v2 0)), .ref cl, .int (nI (cn + 1)), .ref co]), (co, zo 0 (cF w mn bm sm (nI n))), (w 8, zc G 1 (zI 200 xf))]) (nw := [(u.1, zo 12 [.ref u.2.1, .int (nI 0), .int 0, .int 0]), (u.2.1, zc G 1 (zI (wL tx n p2) u.2.2))]) rfl rfl rfl) (fun u H locs hp hw => ?_)
        obtain ⟨sr, sv, g4⟩ := u
        have hw : zS G ((sr, zo 12 [.ref sv, .int (nI 0), .int 0, .int 0]) :: (sv, zc G 1 (zI (wL tx n p2) g4)) :: (rd, zo 3 [.int (nI (tS tx n p2)), .int (nI (tF tx n p2)), .ref sr, .int (nI (v2 1)), .int (nI (v2 0)), .ref cl, .int (nI (cn + 1)), .ref co]) :: (co, zo 0 (cF w mn bm sm (nI n))) :: (w 8, zc G 1 (zI 200 xf)) :: (cl, zc G 7 (zO 24 (va_up af cn (some cq)))) :: (pw 24 (va_up cs cn [(cq, zc G 0 (zI ln cf))]) ++ rest)) s H locs := hw
        have hg4 := hp
        have hg4 : ∀ j, j < wL tx n p2 → g4 j = btL (tx (tF tx n p2 + j)) := hg4
        have hwn : wL tx n p2 ≤ n := wL_lt hp2
        refine lv_aload_n hx hb dX3_read_33 rfl (lv_at hl 0 rfl) ?_
        refine z_get (v := .ref sr) hC zf_X3_17_3 hw 2 rfl rfl dX3_read_34 ?_
        refine z_ldcS hC hzs.2.2.1.2 dX3_read_37 ?_
        refine z_ci (z_runV (As := [.ref (kA (10 + 9))]) (rest := []) hC zv_X3_145 (m_J3_equals G l kA (by first | assumption | (omega)) (by first | assumption | (omega)) sr sv (wL tx n p2) g4 9 (by decide) (by omega) (zrem [0, 1] _)) hw (hw.perm (z_cut (is := [0, 1]) (cells := [(sr, zo 12 [.ref sv, .int (nI 0), .int 0, .int 0]), (sv, zc G 1 (zI (wL tx n p2) g4))]) rfl rfl)) 0 rfl rfl rfl rfl rfl (Nat.le_of_ble_eq_true rfl) hl.1 ⟨Nat.le_of_ble_eq_true rfl, Nat.le_of_ble_eq_true rfl⟩ ⟨(by show _ ≤ 2960; omega), (by show _ ≤ 105900; omega)⟩ dX3_read_39) hw (fun _ => z_keep (is := [0, 1]) (cs := [(sr, zo 12 [.ref sv, .int (nI 0), .int 0, .int 0]), (sv, zc G 1 (zI (wL tx n p2) g4))]) rfl rfl) (fun r u H locs hp hw => ?_)
        obtain rfl : r = bI ((wL tx n p2) = (hdB.getD 9 []).length ∧ ∀ i, i < (wL tx n p2) → g4 i = nI ((hdB.getD 9 []).getD i 0)) := hp
        rw [bI_iff (tK3_w hp2 htx hg4)]
        refine zb_eq (tgt := 58) hx hb dX3_read_42 (by decide) (fun c_42 => ?_) (fun c_42 => ?_)
        · skip
          refine lv_iconst (v := (nI 0)) hx hb dX3_read_58 zk_0 ?_
          refine lv_istore_n (lv' := [(1, .int (nI 0)), (0, .ref rd)]) hx hb dX3_read_59 rfl hl (by decide) rfl (fun ls hl => ?_)
          refine lv_aload_n hx hb dX3_read_60 rfl (lv_at hl 1 rfl) ?_
          refine lv_iload_n hx hb dX3_read_61 rfl (lv_at hl 0 rfl) ?_
          refine zj_ne (tgt := 75) hx hb (by decide) dX3_read_62 (by decide) (fun h => absurd h (by decide)) (fun _ => ?_)
          rcases Classical.em (tK tx n p2 = 0) with hk0 | hk0
          · skip
            have hres := par_e (show cn + 1 ≤ 24 by omega) hcl (by first | exact fun q => c_42 q.1 | exact fun q => absurd q.2 (by omega)) hpar
            rw [if_pos hk0] at hres
            have hvz : vz = v2 := congrArg (fun r => r.1) (Sum.inr.inj hres)
            have hcz : cz = cn + 1 := congrArg (fun r => r.2) (Sum.inr.inj hres)
            have hl : lv_has ls 2 [(1, .int (nI 0)), (0, .ref rd)] := hl
            refine lv_aload_n hx hb dX3_read_65 rfl (lv_at hl 1 rfl) ?_
            refine z_get (v := .ref sr) hC zf_X3_17_3 hw 2 rfl rfl dX3_read_66 ?_
            refine z_ci (z_runV (As := []) (rest := [.ref rd]) hC zv_X3_149 (m_J3_isEmpty G l kA (by first | assumption | (omega)) sr sv (wL tx n p2) g4 (by omega) (zrem [0, 1] _)) hw (hw.perm (z_cut (is := [0, 1]) (cells := [(sr, zo 12 [.ref sv, .int (nI 0), .int 0, .int 0]), (sv, zc G 1 (zI (wL tx n p2) g4))]) rfl rfl)) 0 rfl rfl rfl rfl rfl (Nat.le_of_ble_eq_true rfl) hl.1 ⟨Nat.le_of_ble_eq_true rfl, Nat.le_of_ble_eq_true rfl⟩ ⟨(by show _ ≤ 2960; omega), (by show _ ≤ 105900; omega)⟩ dX3_read_69) hw (fun _ => z_keep (is := [0, 1]) (cs := [(sr, zo 12 [.ref sv, .int (nI 0), .int 0, .int 0]), (sv, zc G 1 (zI (wL tx n p2) g4))]) rfl rfl) (fun r u H locs hp hw => ?_)
            obtain rfl : r = bI ((wL tx n p2) = 0) := hp
            refine zb_eq (tgt := 79) hx hb dX3_read_72 (by decide) (fun h => absurd (wL_k0.mpr hk0) h) (fun _ => ?_)
            refine lv_iconst (v := (nI 1)) hx hb dX3_read_75 zk_1 ?_
            refine lv_goto (tgt := 80) hx hb dX3_read_76 (by decide) ?_
            have hw := hw.drop
            have hw := hw.drop
            refine z_cv (z_runV (As := [.int (nI 1)]) (rest := []) hC zv_X3_106 (m_X3_want_t G l rd _) hw hw 0 rfl rfl rfl rfl rfl (Nat.le_of_ble_eq_true rfl) hl.1 ⟨Nat.le_of_ble_eq_true rfl, Nat.le_of_ble_eq_true rfl⟩ ⟨(by show _ ≤ 2960; omega), (by show _ ≤ 105900; omega)⟩ dX3_read_80) hw (fun _ => List.Perm.refl _) (fun u H locs hp hw => ?_)
            refine lv_goto (tgt := 2) hx hb dX3_read_83 (by decide) ?_
            refine lv_iload_n hx hb dX3_read_2 rfl (lv_at hl 0 rfl) ?_
            refine zj_eq (tgt := 86) hx hb (by decide) dX3_read_3 (by decide) (fun _ => ?_) (fun h => absurd h (by decide))
            refine lv_aload_n hx hb dX3_read_86 rfl (lv_at hl 1 rfl) ?_
            have hw : zS G ((rd, zo 3 [.int (nI (tS tx n p2)), .int (nI (tF tx n p2)), .ref sr, .int (nI (vz 1)), .int (nI (vz 0)), .ref cl, .int (nI cz), .ref co]) :: (co, zo 0 (cF w mn bm sm (nI n))) :: (w 8, zc G 1 (zI 200 xf)) :: (cl, zc G 7 (zO 24 (va_up af cn (some cq)))) :: (pw 24 (va_up cs cn [(cq, zc G 0 (zI ln cf))]) ++ rest)) s H locs := by rw [hvz, hcz]; exact hw
            exact hend _ _ _ _ _ _ (some rd) (sr, nI (tS tx n p2), nI (tF tx n p2), (va_up af cn (some cq)), (va_up cs cn [(cq, zc G 0 (zI ln cf))])) hw (by exact ⟨rfl, upV V (cn + 1) v2, (upV_n (by omega)).trans hV0, by rw [hcz, hvz]; exact upV_s, by rw [hcz]; exact chC_s hch hVc hokc, by omega, by omega⟩) (by omega) (by omega) dX3_read_87
          · skip
            have hres := par_e (show cn + 1 ≤ 24 by omega) hcl (by first | exact fun q => c_42 q.1 | exact fun q => absurd q.2 (by omega)) hpar
            rw [if_neg hk0] at hres
            exact absurd hres.symm (fun q => inl_ne q)
        · skip
          refine lv_aload_n hx hb dX3_read_45 rfl (lv_at hl 0 rfl) ?_
          refine z_get (v := .int (nI (cn + 1))) hC zf_X3_136_3 hw 2 rfl rfl dX3_read_46 ?_
          refine lv_bipush (v := (nI 24)) hx hb dX3_read_49 zb_24 ?_
          refine zi_ge (tgt := 58) hx hb (by omega) (by decide) dX3_read_51 (by decide) (fun c_51 => ?_) (fun c_51 => ?_)
          · skip
            refine lv_iconst (v := (nI 0)) hx hb dX3_read_58 zk_0 ?_
            refine lv_istore_n (lv' := [(1, .int (nI 0)), (0, .ref rd)]) hx hb dX3_read_59 rfl hl (by decide) rfl (fun ls hl => ?_)
            refine lv_aload_n hx hb dX3_read_60 rfl (lv_at hl 1 rfl) ?_
            refine lv_iload_n hx hb dX3_read_61 rfl (lv_at hl 0 rfl) ?_
            refine zj_ne (tgt := 75) hx hb (by decide) dX3_read_62 (by decide) (fun h => absurd h (by decide)) (fun _ => ?_)
            rcases Classical.em (tK tx n p2 = 0) with hk0 | hk0
            · skip
              have hres := par_e (show cn + 1 ≤ 24 by omega) hcl (by first | exact fun q => c_42 q.1 | exact fun q => absurd q.2 (by omega)) hpar
              rw [if_pos hk0] at hres
              have hvz : vz = v2 := congrArg (fun r => r.1) (Sum.inr.inj hres)
              have hcz : cz = cn + 1 := congrArg (fun r => r.2) (Sum.inr.inj hres)
              have hl : lv_has ls 2 [(1, .int (nI 0)), (0, .ref rd)] := hl
              refine lv_aload_n hx hb dX3_read_65 rfl (lv_at hl 1 rfl) ?_
              refine z_get (v := .ref sr) hC zf_X3_17_3 hw 2 rfl rfl dX3_read_66 ?_
              refine z_ci (z_runV (As := []) (rest := [.ref rd]) hC zv_X3_149 (m_J3_isEmpty G l kA (by first | assumption | (omega)) sr sv (wL tx n p2) g4 (by omega) (zrem [0, 1] _)) hw (hw.perm (z_cut (is := [0, 1]) (cells := [(sr, zo 12 [.ref sv, .int (nI 0), .int 0, .int 0]), (sv, zc G 1 (zI (wL tx n p2) g4))]) rfl rfl)) 0 rfl rfl rfl rfl rfl (Nat.le_of_ble_eq_true rfl) hl.1 ⟨Nat.le_of_ble_eq_true rfl, Nat.le_of_ble_eq_true rfl⟩ ⟨(by show _ ≤ 2960; omega), (by show _ ≤ 105900; omega)⟩ dX3_read_69) hw (fun _ => z_keep (is := [0, 1]) (cs := [(sr, zo 12 [.ref sv, .int (nI 0), .int 0, .int 0]), (sv, zc G 1 (zI (wL tx n p2) g4))]) rfl rfl) (fun r u H locs hp hw => ?_)
              obtain rfl : r = bI ((wL tx n p2) = 0) := hp
              refine zb_eq (tgt := 79) hx hb dX3_read_72 (by decide) (fun h => absurd (wL_k0.mpr hk0) h) (fun _ => ?_)
              refine lv_iconst (v := (nI 1)) hx hb dX3_read_75 zk_1 ?_
              refine lv_goto (tgt := 80) hx hb dX3_read_76 (by decide) ?_
              have hw := hw.drop
              have hw := hw.drop
              refine z_cv (z_runV (As := [.int (nI 1)]) (rest := []) hC zv_X3_106 (m_X3_want_t G l rd _) hw hw 0 rfl rfl rfl rfl rfl (Nat.le_of_ble_eq_true rfl) hl.1 ⟨Nat.le_of_ble_eq_true rfl, Nat.le_of_ble_eq_true rfl⟩ ⟨(by show _ ≤ 2960; omega), (by show _ ≤ 105900; omega)⟩ dX3_read_80) hw (fun _ => List.Perm.refl _) (fun u H locs hp hw => ?_)
              refine lv_goto (tgt := 2) hx hb dX3_read_83 (by decide) ?_
              refine lv_iload_n hx hb dX3_read_2 rfl (lv_at hl 0 rfl) ?_
              refine zj_eq (tgt := 86) hx hb (by decide) dX3_read_3 (by decide) (fun _ => ?_) (fun h => absurd h (by decide))
              refine lv_aload_n hx hb dX3_read_86 rfl (lv_at hl 1 rfl) ?_
              have hw : zS G ((rd, zo 3 [.int (nI (tS tx n p2)), .int (nI (tF tx n p2)), .ref sr, .int (nI (vz 1)), .int (nI (vz 0)), .ref cl, .int (nI cz), .ref co]) :: (co, zo 0 (cF w mn bm sm (nI n))) :: (w 8, zc G 1 (zI 200 xf)) :: (cl, zc G 7 (zO 24 (va_up af cn (some cq)))) :: (pw 24 (va_up cs cn [(cq, zc G 0 (zI ln cf))]) ++ rest)) s H locs := by rw [hvz, hcz]; exact hw
              exact hend _ _ _ _ _ _ (some rd) (sr, nI (tS tx n p2), nI (tF tx n p2), (va_up af cn (some cq)), (va_up cs cn [(cq, zc G 0 (zI ln cf))])) hw (by exact ⟨rfl, upV V (cn + 1) v2, (upV_n (by omega)).trans hV0, by rw [hcz, hvz]; exact upV_s, by rw [hcz]; exact chC_s hch hVc hokc, by omega, by omega⟩) (by omega) (by omega) dX3_read_87
            · skip
              have hres := par_e (show cn + 1 ≤ 24 by omega) hcl (by first | exact fun q => c_42 q.1 | exact fun q => absurd q.2 (by omega)) hpar
              rw [if_neg hk0] at hres
              exact absurd hres.symm (fun q => inl_ne q)
          · skip
            refine lv_iconst (v := (nI 1)) hx hb dX3_read_54 zk_1 ?_
            refine lv_goto (tgt := 59) hx hb dX3_read_55 (by decide) ?_
            refine lv_istore_n (lv' := [(1, .int (nI 1)), (0, .ref rd)]) hx hb dX3_read_59 rfl hl (by decide) rfl (fun ls hl => ?_)
            refine lv_aload_n hx hb dX3_read_60 rfl (lv_at hl 1 rfl) ?_
            refine lv_iload_n hx hb dX3_read_61 rfl (lv_at hl 0 rfl) ?_
            refine zj_ne (tgt := 75) hx hb (by decide) dX3_read_62 (by decide) (fun _ => ?_) (fun h => absurd h (by decide))
            refine lv_iconst (v := (nI 1)) hx hb dX3_read_75 zk_1 ?_
            refine lv_goto (tgt := 80) hx hb dX3_read_76 (by decide) ?_
            have hw := hw.drop
            have hw := hw.drop
            refine z_cv (z_runV (As := [.int (nI 1)]) (rest := []) hC zv_X3_106 (m_X3_want_t G l rd _) hw hw 0 rfl rfl rfl rfl rfl (Nat.le_of_ble_eq_true rfl) hl.1 ⟨Nat.le_of_ble_eq_true rfl, Nat.le_of_ble_eq_true rfl⟩ ⟨(by show _ ≤ 2960; omega), (by show _ ≤ 105900; omega)⟩ dX3_read_80) hw (fun _ => List.Perm.refl _) (fun u H locs hp hw => ?_)
            refine lv_goto (tgt := 2) hx hb dX3_read_83 (by decide) ?_
            refine lv_iload_n hx hb dX3_read_2 rfl (lv_at hl 0 rfl) ?_
            refine zj_eq (tgt := 86) hx hb (by decide) dX3_read_3 (by decide) (fun h => absurd h (by decide)) (fun _ => ?_)
            refine W.widen (k := (123 * (cn + 1))) (n := (4412 * (cn + 1))) (by omega) (by omega) ?_
            exact ih_6 (cn + 1) (tS tx n p2) sr (nI (tF tx n p2)) v2 (upV V (cn + 1) v2) (va_up af cn (some cq)) (va_up cs cn [(cq, zc G 0 (zI ln cf))]) (by omega) (tS_le hp2) (okC_Hw hHl hokc) ((upV_n (by omega)).trans hV0) upV_s (chC_s hch hVc hokc) (par_go hcl c_42 (by omega) hpar) (by omega) H locs ls hw (lv_sub hl [1, 0] rfl)
  refine W.widen (k := (123 * 0)) (n := (4412 * 0)) (by omega) (by omega) ?_
  exact loop_6 ((24 - 0) + 1) 0 0 wd fs v0 (fun _ => v0) (fun _ => none) cs0 (by decide) (by omega) hH rfl rfl chC_0 hX (Nat.lt_succ_self _) s.heap [] ls hw (lv_sub hl [1, 0] rfl)
set_option maxHeartbeats 4000000 in
theorem m_X3_read_x (G : zE) (l : Launch) (kA : Nat → Nat) (hG : zG G kA) (hS : zS9 G kA) (hY : zY G) (rd : Nat) (co : Nat) (wd : Nat) (cl : Nat) (n : Nat) (fs : Int32) (w : Nat → Nat) (v0 : Nat → Nat) (mn : Int32) (bm : Int32) (sm : Int32) (xf : Nat → Int32) (tx : Nat → Nat) (hn2 : n ≤ 200) (htx : ∀ k, k < n → tx k < 256) (hxf : ∀ k, k < n → xf k = btL (tx k)) (hH : Hw v0) (w9 : Nat) (hX : parN tx n 24 1 v0 0 = .inl w9) (rest : va_W) : zTh G l yX3_read cX3_read 2 (some (.object "NutCaches$Reader")) 10 2960 105900 [.ref rd] ((rd, zo 3 [.int (nI 0), .int fs, .ref wd, .int (nI (v0 1)), .int (nI (v0 0)), .ref cl, .int (nI 0), .ref co]) :: (co, zo 0 (cF w mn bm sm (nI n))) :: (w 8, zc G 1 (zI 200 xf)) :: (cl, zc G 7 (zO 24 (fun _ => none))) :: rest) "NutCaches$Fault" (fun q => (q, zo 4 [.null, .null, .null, .null, .null, .int 0, .int (nI w9)]) :: (co, zo 0 (cF w mn bm sm (nI n))) :: (w 8, zc G 1 (zI 200 xf)) :: rest) := by
  refine z_begX (by decide) (Nat.le_of_ble_eq_true rfl) (fun p e s m args below meth c ls Q hQ hC htb hl hw hend => ?_)
  have hx := hC.hx
  have hb := hC.hb
  have hl : lv_has ls 2 [(0, .ref rd)] := hl
  have hw : zS G ((rd, zo 3 [.int (nI 0), .int fs, .ref wd, .int (nI (v0 1)), .int (nI (v0 0)), .ref cl, .int (nI 0), .ref co]) :: (co, zo 0 (cF w mn bm sm (nI n))) :: (w 8, zc G 1 (zI 200 xf)) :: (cl, zc G 7 (zO 24 (fun _ => none))) :: rest) s s.heap [] := hw
  have hz := hG s hC.hZ.1
  have hzs := hS s hC.hZ.1
  have hzy := hY s hC.hZ.1
  have hw : zS G ((rd, zo 3 [.int (nI 0), .int fs, .ref wd, .int (nI (v0 1)), .int (nI (v0 0)), .ref cl, .int (nI 0), .ref co]) :: (co, zo 0 (cF w mn bm sm (nI n))) :: (w 8, zc G 1 (zI 200 xf)) :: (cl, zc G 7 (zO 24 (fun _ => none))) :: (pw 24 (fun _ => []) ++ rest)) s s.heap [] := by rw [pl_none]; exact hw
  refine lv_iconst (v := (nI 1)) hx hb dX3_read_0 zk_1 ?_
  refine lv_istore_n (lv' := [(1, .int (nI 1)), (0, .ref rd)]) hx hb dX3_read_1 rfl hl (by decide) rfl (fun ls hl => ?_)
  refine lv_iload_n hx hb dX3_read_2 rfl (lv_at hl 0 rfl) ?_
  refine zj_eq (tgt := 86) hx hb (by decide) dX3_read_3 (by decide) (fun h => absurd h (by decide)) (fun _ => ?_)
  have loop_6 : ∀ (fuel : Nat) (cn : Nat) (p9 : Nat) (wdl : Nat) (fsl : Int32) (v : Nat → Nat) (V : Nat → Nat → Nat) (af : Nat → Option Nat) (cs : Nat → va_W), (cn < 24) → (p9 ≤ n) → (Hw v) → (V 0 = v0) → (V cn = v) → (chC G V af cs cn) → (parN tx n (25 - (cn + 1)) (cn + 1) v p9 = .inl w9) → (24 - cn) < fuel → ∀ (H : Heap) (locs : List Loc) (ls : Array Slot), zS G ((rd, zo 3 [.int (nI p9), .int fsl, .ref wdl, .int (nI (v 1)), .int (nI (v 0)), .ref cl, .int (nI cn), .ref co]) :: (co, zo 0 (cF w mn bm sm (nI n))) :: (w 8, zc G 1 (zI 200 xf)) :: (cl, zc G 7 (zO 24 af)) :: (pw 24 cs ++ rest)) s H locs → lv_has ls 2 [(0, .ref rd), (1, .int (nI 1))] → W p l e (zR 10 2960 105900) s m args below meth c H locs (123 * cn) (4412 * cn) Q (F0 m 6 ls []) := by
    intro fuel
    induction fuel with
    | zero => intro cn p9 wdl fsl v V af cs hc9 hpn hHl hV0 hVc hch hpar hfuel; exact absurd hfuel (Nat.not_lt_zero _)
    | succ fuel_6 ih_6 =>
      intro cn p9 wdl fsl v V af cs hc9 hpn hHl hV0 hVc hch hpar hfuel_6 H locs ls hw hl
      refine lv_aload_n hx hb dX3_read_6 rfl (lv_at hl 0 rfl) ?_
      refine z_get (v := .ref cl) hC zf_X3_42_3 hw 0 rfl rfl dX3_read_7 ?_
      refine lv_aload_n hx hb dX3_read_10 rfl (lv_at hl 0 rfl) ?_
      refine z_get (v := .int (nI cn)) hC zf_X3_136_3 hw 0 rfl rfl dX3_read_11 ?_
      refine lv_aload_n hx hb dX3_read_14 rfl (lv_at hl 0 rfl) ?_
      rcases hcl : clauseN tx n v p9 with w8 | ⟨v2, p2⟩
      · skip
        obtain rfl : w9 = w8 := Sum.inl.inj (par_l (show cn + 1 ≤ 24 by omega) hcl hpar)
        have hl : lv_has ls 2 [(0, .ref rd), (1, .int (nI 1))] := hl
        refine z_ct (z_runVT (As := []) (rest := [.int (nI cn), .ref cl]) hC zv_X3_139 (m_X3_clause_x G l kA (by first | assumption | (omega)) (by first | assumption | (omega)) (by first | assumption | (omega)) rd co wdl cl p9 n cn fsl w v mn bm sm xf tx (by omega) (by first | assumption | (omega)) (by first | assumption | (omega)) hpn hHl.1 hHl.2.1 w9 hcl (zrem [0, 1, 2] _)) hw (hw.perm (z_cut (is := [0, 1, 2]) (cells := [(rd, zo 3 [.int (nI p9), .int fsl, .ref wdl, .int (nI (v 1)), .int (nI (v 0)), .ref cl, .int (nI cn), .ref co]), (co, zo 0 (cF w mn bm sm (nI n))), (w 8, zc G 1 (zI 200 xf))]) rfl rfl)) 0 rfl rfl rfl rfl rfl (Nat.le_of_ble_eq_true rfl) hl.1 ⟨Nat.le_of_ble_eq_true rfl, Nat.le_of_ble_eq_true rfl⟩ ⟨(by show _ ≤ 2960; omega), (by show _ ≤ 105900; omega)⟩ dX3_read_15) hw (fun q9 => z_drp (is := [0, 1, 2]) (ws := (rd, zo 3 [.int (nI p9), .int fsl, .ref wdl, .int (nI (v 1)), .int (nI (v 0)), .ref cl, .int (nI cn), .ref co]) :: (co, zo 0 (cF w mn bm sm (nI n))) :: (w 8, zc G 1 (zI 200 xf)) :: (cl, zc G 7 (zO 24 af)) :: (pw 24 cs ++ rest)) (cells := [(rd, zo 3 [.int (nI p9), .int fsl, .ref wdl, .int (nI (v 1)), .int (nI (v 0)), .ref cl, .int (nI cn), .ref co]), (co, zo 0 (cF w mn bm sm (nI n))), (w 8, zc G 1 (zI 200 xf))]) (rem := (cl, zc G 7 (zO 24 af)) :: (pw 24 cs ++ rest)) (N := [(q9, zo 4 [.null, .null, .null, .null, .null, .int 0, .int (nI w9)]), (co, zo 0 (cF w mn bm sm (nI n))), (w 8, zc G 1 (zI 200 xf))]) rfl rfl (((z_cut (is := [0, 1, 2]) (ws := [(rd, zo 3 [.int (nI p9), .int fsl, .ref wdl, .int (nI (v 1)), .int (nI (v 0)), .ref cl, .int (nI cn), .ref co]), (co, zo 0 (cF w mn bm sm (nI n))), (w 8, zc G 1 (zI 200 xf)), (cl, zc G 7 (zO 24 af))]) (cells := [(rd, zo 3 [.int (nI p9), .int fsl, .ref wdl, .int (nI (v 1)), .int (nI (v 0)), .ref cl, .int (nI cn), .ref co]), (co, zo 0 (cF w mn bm sm (nI n))), (w 8, zc G 1 (zI 200 xf))]) rfl rfl).append_right (pw 24 cs ++ rest)).trans (by rw [List.append_assoc]; exact List.Perm.refl _))) (fun q9 H locs ce9 hex => ?_)
        obtain ⟨hw, hx9⟩ := hex
        have hw : zS G ((q9, zo 4 [.null, .null, .null, .null, .null, .int 0, .int (nI w9)]) :: (co, zo 0 (cF w mn bm sm (nI n))) :: (w 8, zc G 1 (zI 200 xf)) :: (cl, zc G 7 (zO 24 af)) :: (pw 24 cs ++ rest)) s H locs := hw
        have hw : zS G ((cl, zc G 7 (zO 24 af)) :: (q9, zo 4 [.null, .null, .null, .null, .null, .int 0, .int (nI w9)]) :: (co, zo 0 (cF w mn bm sm (nI n))) :: (w 8, zc G 1 (zI 200 xf)) :: (pw 24 cs ++ rest)) s H locs := hw.perm (((z_cut (is := [3, 0, 1, 2]) (ws := [(q9, zo 4 [.null, .null, .null, .null, .null, .int 0, .int (nI w9)]), (co, zo 0 (cF w mn bm sm (nI n))), (w 8, zc G 1 (zI 200 xf)), (cl, zc G 7 (zO 24 af))]) (cells := [(cl, zc G 7 (zO 24 af)), (q9, zo 4 [.null, .null, .null, .null, .null, .int 0, .int (nI w9)]), (co, zo 0 (cF w mn bm sm (nI n))), (w 8, zc G 1 (zI 200 xf))]) rfl rfl).append_right (pw 24 cs ++ rest)).trans (by rw [List.append_assoc]; exact List.Perm.refl _))
        have hw := hw.drop
        have hw : zS G ((q9, zo 4 [.null, .null, .null, .null, .null, .int 0, .int (nI w9)]) :: (co, zo 0 (cF w mn bm sm (nI n))) :: (w 8, zc G 1 (zI 200 xf)) :: rest) s H locs := zS.dropM (E := [(q9, zo 4 [.null, .null, .null, .null, .null, .int 0, .int (nI w9)]), (co, zo 0 (cF w mn bm sm (nI n))), (w 8, zc G 1 (zI 200 xf))]) hw
        exact hend _ _ _ _ _ _ _ _ _ ⟨hw, hx9⟩ (by decide) (by omega) (by omega)
      · skip
        have hl : lv_has ls 2 [(0, .ref rd), (1, .int (nI 1))] := hl
        refine z_cq (z_runV (As := []) (rest := [.int (nI cn), .ref cl]) hC zv_X3_139 (m_X3_clause_ok G l kA (by first | assumption | (omega)) (by first | assumption | (omega)) (by first | assumption | (omega)) rd co wdl cl p9 n cn fsl w v mn bm sm xf tx (by omega) (by first | assumption | (omega)) (by first | assumption | (omega)) hpn hHl.1 hHl.2.1 (v2, p2) hcl (zrem [0, 1, 2] _)) hw (hw.perm (z_cut (is := [0, 1, 2]) (cells := [(rd, zo 3 [.int (nI p9), .int fsl, .ref wdl, .int (nI (v 1)), .int (nI (v 0)), .ref cl, .int (nI cn), .ref co]), (co, zo 0 (cF w mn bm sm (nI n))), (w 8, zc G 1 (zI 200 xf))]) rfl rfl)) 0 rfl rfl rfl rfl rfl (Nat.le_of_ble_eq_true rfl) hl.1 ⟨Nat.le_of_ble_eq_true rfl, Nat.le_of_ble_eq_true rfl⟩ ⟨(by show _ ≤ 2960; omega), (by show _ ≤ 105900; omega)⟩ dX3_read_15) hw (fun u => z_new1 (is := [0, 1, 2]) (cs := [(rd, zo 3 [.int (nI p9), .int fsl, .ref wdl, .int (nI (v 1)), .int (nI (v 0)), .ref cl, .int (nI cn), .ref co]), (co, zo 0 (cF w mn bm sm (nI n))), (w 8, zc G 1 (zI 200 xf))]) (cs' := [(rd, zo 3 [.int (nI (v2, p2).2), .int u.2.2.2.1, .ref u.1, .int (nI ((v2, p2).1 1)), .int (nI ((v2, p2).1 0)), .ref cl, .int (nI cn), .ref co]), (co, zo 0 (cF w mn bm sm (nI n))), (w 8, zc G 1 (zI 200 xf))]) (nw := [(u.2.1, zc G 0 (zI u.2.2.1 u.2.2.2.2))]) rfl rfl rfl) (fun r u H locs hp hw => ?_)
        obtain ⟨wd2, cq, ln, fs2, cf⟩ := u
        have hw : zS G ((cq, zc G 0 (zI ln cf)) :: (rd, zo 3 [.int (nI (v2, p2).2), .int fs2, .ref wd2, .int (nI ((v2, p2).1 1)), .int (nI ((v2, p2).1 0)), .ref cl, .int (nI cn), .ref co]) :: (co, zo 0 (cF w mn bm sm (nI n))) :: (w 8, zc G 1 (zI 200 xf)) :: (cl, zc G 7 (zO 24 af)) :: (pw 24 cs ++ rest)) s H locs := hw
        obtain ⟨rfl, hokc⟩ := hp
        have hw : zS G ((cq, zc G 0 (zI ln cf)) :: (rd, zo 3 [.int (nI p2), .int fs2, .ref wd2, .int (nI (v2 1)), .int (nI (v2 0)), .ref cl, .int (nI cn), .ref co]) :: (co, zo 0 (cF w mn bm sm (nI n))) :: (w 8, zc G 1 (zI 200 xf)) :: (cl, zc G 7 (zO 24 af)) :: (pw 24 cs ++ rest)) s H locs := hw
        have hp2 : p2 ≤ n := clauseN_le hpn hcl
        refine z_aastA (f' := va_up af cn (some cq)) hC (hz.1 _ (cw_t q153 rfl)) hw 4 rfl 0 rfl (by omega) (by decide) rfl dX3_read_18 (fun H locs hw => ?_)
        have hw : zS G ((cq, zc G 0 (zI ln cf)) :: (rd, zo 3 [.int (nI p2), .int fs2, .ref wd2, .int (nI (v2 1)), .int (nI (v2 0)), .ref cl, .int (nI cn), .ref co]) :: (co, zo 0 (cF w mn bm sm (nI n))) :: (w 8, zc G 1 (zI 200 xf)) :: (cl, zc G 7 (zO 24 (va_up af cn (some cq)))) :: (pw 24 cs ++ rest)) s H locs := hw
        have hw : zS G ((cq, zc G 0 (zI ln cf)) :: (rd, zo 3 [.int (nI p2), .int fs2, .ref wd2, .int (nI (v2 1)), .int (nI (v2 0)), .ref cl, .int (nI cn), .ref co]) :: (co, zo 0 (cF w mn bm sm (nI n))) :: (w 8, zc G 1 (zI 200 xf)) :: (cl, zc G 7 (zO 24 (va_up af cn (some cq)))) :: (pwX 24 cs cn ++ rest)) s H locs := (hw.perm (pl_get (E := [(cq, zc G 0 (zI ln cf)), (rd, zo 3 [.int (nI p2), .int fs2, .ref wd2, .int (nI (v2 1)), .int (nI (v2 0)), .ref cl, .int (nI cn), .ref co]), (co, zo 0 (cF w mn bm sm (nI n))), (w 8, zc G 1 (zI 200 xf)), (cl, zc G 7 (zO 24 (va_up af cn (some cq))))]) (sl := cs) (show cn < 24 by omega))).dropP _
        have hw : zS G ((rd, zo 3 [.int (nI p2), .int fs2, .ref wd2, .int (nI (v2 1)), .int (nI (v2 0)), .ref cl, .int (nI cn), .ref co]) :: (co, zo 0 (cF w mn bm sm (nI n))) :: (w 8, zc G 1 (zI 200 xf)) :: (cl, zc G 7 (zO 24 (va_up af cn (some cq)))) :: (pw 24 (va_up cs cn [(cq, zc G 0 (zI ln cf))]) ++ rest)) s H locs := hw.perm (pl_put (x := [(cq, zc G 0 (zI ln cf))]) (E := [(rd, zo 3 [.int (nI p2), .int fs2, .ref wd2, .int (nI (v2 1)), .int (nI (v2 0)), .ref cl, .int (nI cn), .ref co]), (co, zo 0 (cF w mn bm sm (nI n))), (w 8, zc G 1 (zI 200 xf)), (cl, zc G 7 (zO 24 (va_up af cn (some cq))))]) (sl := cs) (show cn < 24 by omega))
        refine lv_aload_n hx hb dX3_read_19 rfl (lv_at hl 0 rfl) ?_
        refine lv_dup hx hb dX3_read_20 rfl ?_
        refine z_get (v := .int (nI cn)) hC zf_X3_136_3 hw 0 rfl rfl dX3_read_21 ?_
        refine lv_iconst (v := (nI 1)) hx hb dX3_read_24 zk_1 ?_
        refine zn_iadd hx hb dX3_read_25 ?_
        refine z_puti hC zf_X3_136_3 hw 0 rfl (Nat.le_of_ble_eq_true rfl) dX3_read_26 (fun H locs hw => ?_)
        have hw : zS G ((rd, zo 3 [.int (nI p2), .int fs2, .ref wd2, .int (nI (v2 1)), .int (nI (v2 0)), .ref cl, .int (nI (cn + 1)), .ref co]) :: (co, zo 0 (cF w mn bm sm (nI n))) :: (w 8, zc G 1 (zI 200 xf)) :: (cl, zc G 7 (zO 24 (va_up af cn (some cq)))) :: (pw 24 (va_up cs cn [(cq, zc G 0 (zI ln cf))]) ++ rest)) s H locs := hw
        refine lv_aload_n hx hb dX3_read_29 rfl (lv_at hl 0 rfl) ?_
        refine z_cv (z_runV (As := []) (rest := []) hC zv_X3_91 (m_X3_take G l kA (by first | assumption | (omega)) (by first | assumption | (omega)) rd co wd2 cl p2 n (v2 1) (v2 0) (cn + 1) fs2 w mn bm sm xf tx (by omega) (by first | assumption | (omega)) (by first | assumption | (omega)) hp2 (zrem [0, 1, 2] _)) hw (hw.perm (z_cut (is := [0, 1, 2]) (cells := [(rd, zo 3 [.int (nI p2), .int fs2, .ref wd2, .int (nI (v2 1)), .int (nI (v2 0)), .ref cl, .int (nI (cn + 1)), .ref co]), (co, zo 0 (cF w mn bm sm (nI n))), (w 8, zc G 1 (zI 200 xf))]) rfl rfl)) 0 rfl rfl rfl rfl rfl (Nat.le_of_ble_eq_true rfl) hl.1 ⟨Nat.le_of_ble_eq_true rfl, Nat.le_of_ble_eq_true rfl⟩ ⟨(by show _ ≤ 2960; omega), (by show _ ≤ 105900; omega)⟩ dX3_read_30) hw (fun u => z_new1 (is := [0, 1, 2]) (cs := [(rd, zo 3 [.int (nI p2), .int fs2, .ref wd2, .int (nI (v2 1)), .int (nI (v2 0)), .ref cl, .int (nI (cn + 1)), .ref co]), (co, zo 0 (cF w mn bm sm (nI n))), (w 8, zc G 1 (zI 200 xf))]) (cs' := [(rd, zo 3 [.int (nI (tS tx n p2)), .int (nI (tF tx n p2)), .ref u.1, .int (nI (v2 1)), .int (nI (v2 0)), .ref cl, .int (nI (cn + 1)), .ref co]), (co, zo 0 (cF w mn bm sm (nI n))), (w 8, zc G 1 (zI 200 xf))]) (nw := [(u.1, zo 12 [.ref u.2.1, .int (nI 0), .int 0, .int 0]), (u.2.1, zc G 1 (zI (wL tx n p2) u.2.2))]) rfl rfl rfl) (fun u H locs hp hw => ?_)
        obtain ⟨sr, sv, g4⟩ := u
        have hw : zS G ((sr, zo 12 [.ref sv, .int (nI 0), .int 0, .int 0]) :: (sv, zc G 1 (zI (wL tx n p2) g4)) :: (rd, zo 3 [.int (nI (tS tx n p2)), .int (nI (tF tx n p2)), .ref sr, .int (nI (v2 1)), .int (nI (v2 0)), .ref cl, .int (nI (cn + 1)), .ref co]) :: (co, zo 0 (cF w mn bm sm (nI n))) :: (w 8, zc G 1 (zI 200 xf)) :: (cl, zc G 7 (zO 24 (va_up af cn (some cq)))) :: (pw 24 (va_up cs cn [(cq, zc G 0 (zI ln cf))]) ++ rest)) s H locs := hw
        have hg4 := hp
        have hg4 : ∀ j, j < wL tx n p2 → g4 j = btL (tx (tF tx n p2 + j)) := hg4
        have hwn : wL tx n p2 ≤ n := wL_lt hp2
        refine lv_aload_n hx hb dX3_read_33 rfl (lv_at hl 0 rfl) ?_
        refine z_get (v := .ref sr) hC zf_X3_17_3 hw 2 rfl rfl dX3_read_34 ?_
        refine z_ldcS hC hzs.2.2.1.2 dX3_read_37 ?_
        refine z_ci (z_runV (As := [.ref (kA (10 + 9))]) (rest := []) hC zv_X3_145 (m_J3_equals G l kA (by first | assumption | (omega)) (by first | assumption | (omega)) sr sv (wL tx n p2) g4 9 (by decide) (by omega) (zrem [0, 1] _)) hw (hw.perm (z_cut (is := [0, 1]) (cells := [(sr, zo 12 [.ref sv, .int (nI 0), .int 0, .int 0]), (sv, zc G 1 (zI (wL tx n p2) g4))]) rfl rfl)) 0 rfl rfl rfl rfl rfl (Nat.le_of_ble_eq_true rfl) hl.1 ⟨Nat.le_of_ble_eq_true rfl, Nat.le_of_ble_eq_true rfl⟩ ⟨(by show _ ≤ 2960; omega), (by show _ ≤ 105900; omega)⟩ dX3_read_39) hw (fun _ => z_keep (is := [0, 1]) (cs := [(sr, zo 12 [.ref sv, .int (nI 0), .int 0, .int 0]), (sv, zc G 1 (zI (wL tx n p2) g4))]) rfl rfl) (fun r u H locs hp hw => ?_)
        obtain rfl : r = bI ((wL tx n p2) = (hdB.getD 9 []).length ∧ ∀ i, i < (wL tx n p2) → g4 i = nI ((hdB.getD 9 []).getD i 0)) := hp
        rw [bI_iff (tK3_w hp2 htx hg4)]
        refine zb_eq (tgt := 58) hx hb dX3_read_42 (by decide) (fun c_42 => ?_) (fun c_42 => ?_)
        · skip
          refine lv_iconst (v := (nI 0)) hx hb dX3_read_58 zk_0 ?_
          refine lv_istore_n (lv' := [(1, .int (nI 0)), (0, .ref rd)]) hx hb dX3_read_59 rfl hl (by decide) rfl (fun ls hl => ?_)
          refine lv_aload_n hx hb dX3_read_60 rfl (lv_at hl 1 rfl) ?_
          refine lv_iload_n hx hb dX3_read_61 rfl (lv_at hl 0 rfl) ?_
          refine zj_ne (tgt := 75) hx hb (by decide) dX3_read_62 (by decide) (fun h => absurd h (by decide)) (fun _ => ?_)
          rcases Classical.em (tK tx n p2 = 0) with hk0 | hk0
          · skip
            have hres := par_e (show cn + 1 ≤ 24 by omega) hcl (by first | exact fun q => c_42 q.1 | exact fun q => absurd q.2 (by omega)) hpar
            rw [if_pos hk0] at hres
            exact absurd hres (fun q => inl_ne q)
          · skip
            have hres := par_e (show cn + 1 ≤ 24 by omega) hcl (by first | exact fun q => c_42 q.1 | exact fun q => absurd q.2 (by omega)) hpar
            rw [if_neg hk0] at hres
            obtain rfl : tF tx n p2 = w9 := (Sum.inl.inj hres).symm
            have hl : lv_has ls 2 [(1, .int (nI 0)), (0, .ref rd)] := hl
            have hw : zS G ((sr, zo 12 [.ref sv, .int (nI 0), .int 0, .int 0]) :: (sv, zc G 1 (zI (wL tx n p2) g4)) :: (rd, zo 3 [.int (nI (tS tx n p2)), .int (nI (tF tx n p2)), .ref sr, .int (nI (v2 1)), .int (nI (v2 0)), .ref cl, .int (nI (cn + 1)), .ref co]) :: (co, zo 0 (cF w mn bm sm (nI n))) :: (w 8, zc G 1 (zI 200 xf)) :: (cl, zc G 7 (zO 24 (va_up af cn (some cq)))) :: (pw 24 (va_up cs cn [(cq, zc G 0 (zI ln cf))]) ++ rest)) s H locs := hw
            refine lv_aload_n hx hb dX3_read_65 rfl (lv_at hl 1 rfl) ?_
            refine z_get (v := .ref sr) hC zf_X3_17_3 hw 2 rfl rfl dX3_read_66 ?_
            refine z_ci (z_runV (As := []) (rest := [.ref rd]) hC zv_X3_149 (m_J3_isEmpty G l kA (by first | assumption | (omega)) sr sv (wL tx n p2) g4 (by omega) (zrem [0, 1] _)) hw (hw.perm (z_cut (is := [0, 1]) (cells := [(sr, zo 12 [.ref sv, .int (nI 0), .int 0, .int 0]), (sv, zc G 1 (zI (wL tx n p2) g4))]) rfl rfl)) 0 rfl rfl rfl rfl rfl (Nat.le_of_ble_eq_true rfl) hl.1 ⟨Nat.le_of_ble_eq_true rfl, Nat.le_of_ble_eq_true rfl⟩ ⟨(by show _ ≤ 2960; omega), (by show _ ≤ 105900; omega)⟩ dX3_read_69) hw (fun _ => z_keep (is := [0, 1]) (cs := [(sr, zo 12 [.ref sv, .int (nI 0), .int 0, .int 0]), (sv, zc G 1 (zI (wL tx n p2) g4))]) rfl rfl) (fun r u H locs hp hw => ?_)
            obtain rfl : r = bI ((wL tx n p2) = 0) := hp
            refine zb_eq (tgt := 79) hx hb dX3_read_72 (by decide) (fun _ => ?_) (fun h => absurd (wL_k0.mp h) hk0)
            refine lv_iconst (v := (nI 0)) hx hb dX3_read_79 zk_0 ?_
            refine z_ct (z_runVT (As := [.int (nI 0)]) (rest := []) hC zv_X3_106 (m_X3_want_f G l kA (by first | assumption | (omega)) (by first | assumption | (omega)) (by first | assumption | (omega)) rd co sr cl (tS tx n p2) n (v2 1) (v2 0) (cn + 1) (nI (tF tx n p2)) (zrem [2] _)) hw (hw.perm (z_cut (is := [2]) (cells := [(rd, zo 3 [.int (nI (tS tx n p2)), .int (nI (tF tx n p2)), .ref sr, .int (nI (v2 1)), .int (nI (v2 0)), .ref cl, .int (nI (cn + 1)), .ref co])]) rfl rfl)) 2 rfl rfl rfl rfl rfl (Nat.le_of_ble_eq_true rfl) hl.1 ⟨Nat.le_of_ble_eq_true rfl, Nat.le_of_ble_eq_true rfl⟩ ⟨(by show _ ≤ 2960; omega), (by show _ ≤ 105900; omega)⟩ dX3_read_80) hw (fun q9 => z_new1 (is := [2]) (cs := [(rd, zo 3 [.int (nI (tS tx n p2)), .int (nI (tF tx n p2)), .ref sr, .int (nI (v2 1)), .int (nI (v2 0)), .ref cl, .int (nI (cn + 1)), .ref co])]) (cs' := [(rd, zo 3 [.int (nI (tS tx n p2)), .int (nI (tF tx n p2)), .ref sr, .int (nI (v2 1)), .int (nI (v2 0)), .ref cl, .int (nI (cn + 1)), .ref co])]) (nw := [(q9, zo 4 [.null, .null, .null, .null, .null, .int 0, .int (nI (tF tx n p2))])]) rfl rfl rfl) (fun q9 H locs ce9 hex => ?_)
            obtain ⟨hw, hx9⟩ := hex
            have hw : zS G ((q9, zo 4 [.null, .null, .null, .null, .null, .int 0, .int (nI (tF tx n p2))]) :: (sr, zo 12 [.ref sv, .int (nI 0), .int 0, .int 0]) :: (sv, zc G 1 (zI (wL tx n p2) g4)) :: (rd, zo 3 [.int (nI (tS tx n p2)), .int (nI (tF tx n p2)), .ref sr, .int (nI (v2 1)), .int (nI (v2 0)), .ref cl, .int (nI (cn + 1)), .ref co]) :: (co, zo 0 (cF w mn bm sm (nI n))) :: (w 8, zc G 1 (zI 200 xf)) :: (cl, zc G 7 (zO 24 (va_up af cn (some cq)))) :: (pw 24 (va_up cs cn [(cq, zc G 0 (zI ln cf))]) ++ rest)) s H locs := hw
            have hw : zS G ((sr, zo 12 [.ref sv, .int (nI 0), .int 0, .int 0]) :: (sv, zc G 1 (zI (wL tx n p2) g4)) :: (rd, zo 3 [.int (nI (tS tx n p2)), .int (nI (tF tx n p2)), .ref sr, .int (nI (v2 1)), .int (nI (v2 0)), .ref cl, .int (nI (cn + 1)), .ref co]) :: (cl, zc G 7 (zO 24 (va_up af cn (some cq)))) :: (q9, zo 4 [.null, .null, .null, .null, .null, .int 0, .int (nI (tF tx n p2))]) :: (co, zo 0 (cF w mn bm sm (nI n))) :: (w 8, zc G 1 (zI 200 xf)) :: (pw 24 (va_up cs cn [(cq, zc G 0 (zI ln cf))]) ++ rest)) s H locs := hw.perm (((z_cut (is := [1, 2, 3, 6, 0, 4, 5]) (ws := [(q9, zo 4 [.null, .null, .null, .null, .null, .int 0, .int (nI (tF tx n p2))]), (sr, zo 12 [.ref sv, .int (nI 0), .int 0, .int 0]), (sv, zc G 1 (zI (wL tx n p2) g4)), (rd, zo 3 [.int (nI (tS tx n p2)), .int (nI (tF tx n p2)), .ref sr, .int (nI (v2 1)), .int (nI (v2 0)), .ref cl, .int (nI (cn + 1)), .ref co]), (co, zo 0 (cF w mn bm sm (nI n))), (w 8, zc G 1 (zI 200 xf)), (cl, zc G 7 (zO 24 (va_up af cn (some cq))))]) (cells := [(sr, zo 12 [.ref sv, .int (nI 0), .int 0, .int 0]), (sv, zc G 1 (zI (wL tx n p2) g4)), (rd, zo 3 [.int (nI (tS tx n p2)), .int (nI (tF tx n p2)), .ref sr, .int (nI (v2 1)), .int (nI (v2 0)), .ref cl, .int (nI (cn + 1)), .ref co]), (cl, zc G 7 (zO 24 (va_up af cn (some cq)))), (q9, zo 4 [.null, .null, .null, .null, .null, .int 0, .int (nI (tF tx n p2))]), (co, zo 0 (cF w mn bm sm (nI n))), (w 8, zc G 1 (zI 200 xf))]) rfl rfl).append_right (pw 24 (va_up cs cn [(cq, zc G 0 (zI ln cf))]) ++ rest)).trans (by rw [List.append_assoc]; exact List.Perm.refl _))
            have hw := hw.drop
            have hw := hw.drop
            have hw := hw.drop
            have hw := hw.drop
            have hw : zS G ((q9, zo 4 [.null, .null, .null, .null, .null, .int 0, .int (nI (tF tx n p2))]) :: (co, zo 0 (cF w mn bm sm (nI n))) :: (w 8, zc G 1 (zI 200 xf)) :: rest) s H locs := zS.dropM (E := [(q9, zo 4 [.null, .null, .null, .null, .null, .int 0, .int (nI (tF tx n p2))]), (co, zo 0 (cF w mn bm sm (nI n))), (w 8, zc G 1 (zI 200 xf))]) hw
            exact hend _ _ _ _ _ _ _ _ _ ⟨hw, hx9⟩ (by decide) (by omega) (by omega)
        · skip
          refine lv_aload_n hx hb dX3_read_45 rfl (lv_at hl 0 rfl) ?_
          refine z_get (v := .int (nI (cn + 1))) hC zf_X3_136_3 hw 2 rfl rfl dX3_read_46 ?_
          refine lv_bipush (v := (nI 24)) hx hb dX3_read_49 zb_24 ?_
          refine zi_ge (tgt := 58) hx hb (by omega) (by decide) dX3_read_51 (by decide) (fun c_51 => ?_) (fun c_51 => ?_)
          · skip
            refine lv_iconst (v := (nI 0)) hx hb dX3_read_58 zk_0 ?_
            refine lv_istore_n (lv' := [(1, .int (nI 0)), (0, .ref rd)]) hx hb dX3_read_59 rfl hl (by decide) rfl (fun ls hl => ?_)
            refine lv_aload_n hx hb dX3_read_60 rfl (lv_at hl 1 rfl) ?_
            refine lv_iload_n hx hb dX3_read_61 rfl (lv_at hl 0 rfl) ?_
            refine zj_ne (tgt := 75) hx hb (by decide) dX3_read_62 (by decide) (fun h => absurd h (by decide)) (fun _ => ?_)
            rcases Classical.em (tK tx n p2 = 0) with hk0 | hk0
            · skip
              have hres := par_e (show cn + 1 ≤ 24 by omega) hcl (by first | exact fun q => c_42 q.1 | exact fun q => absurd q.2 (by omega)) hpar
              rw [if_pos hk0] at hres
              exact absurd hres (fun q => inl_ne q)
            · skip
              have hres := par_e (show cn + 1 ≤ 24 by omega) hcl (by first | exact fun q => c_42 q.1 | exact fun q => absurd q.2 (by omega)) hpar
              rw [if_neg hk0] at hres
              obtain rfl : tF tx n p2 = w9 := (Sum.inl.inj hres).symm
              have hl : lv_has ls 2 [(1, .int (nI 0)), (0, .ref rd)] := hl
              have hw : zS G ((sr, zo 12 [.ref sv, .int (nI 0), .int 0, .int 0]) :: (sv, zc G 1 (zI (wL tx n p2) g4)) :: (rd, zo 3 [.int (nI (tS tx n p2)), .int (nI (tF tx n p2)), .ref sr, .int (nI (v2 1)), .int (nI (v2 0)), .ref cl, .int (nI (cn + 1)), .ref co]) :: (co, zo 0 (cF w mn bm sm (nI n))) :: (w 8, zc G 1 (zI 200 xf)) :: (cl, zc G 7 (zO 24 (va_up af cn (some cq)))) :: (pw 24 (va_up cs cn [(cq, zc G 0 (zI ln cf))]) ++ rest)) s H locs := hw
              refine lv_aload_n hx hb dX3_read_65 rfl (lv_at hl 1 rfl) ?_
              refine z_get (v := .ref sr) hC zf_X3_17_3 hw 2 rfl rfl dX3_read_66 ?_
              refine z_ci (z_runV (As := []) (rest := [.ref rd]) hC zv_X3_149 (m_J3_isEmpty G l kA (by first | assumption | (omega)) sr sv (wL tx n p2) g4 (by omega) (zrem [0, 1] _)) hw (hw.perm (z_cut (is := [0, 1]) (cells := [(sr, zo 12 [.ref sv, .int (nI 0), .int 0, .int 0]), (sv, zc G 1 (zI (wL tx n p2) g4))]) rfl rfl)) 0 rfl rfl rfl rfl rfl (Nat.le_of_ble_eq_true rfl) hl.1 ⟨Nat.le_of_ble_eq_true rfl, Nat.le_of_ble_eq_true rfl⟩ ⟨(by show _ ≤ 2960; omega), (by show _ ≤ 105900; omega)⟩ dX3_read_69) hw (fun _ => z_keep (is := [0, 1]) (cs := [(sr, zo 12 [.ref sv, .int (nI 0), .int 0, .int 0]), (sv, zc G 1 (zI (wL tx n p2) g4))]) rfl rfl) (fun r u H locs hp hw => ?_)
              obtain rfl : r = bI ((wL tx n p2) = 0) := hp
              refine zb_eq (tgt := 79) hx hb dX3_read_72 (by decide) (fun _ => ?_) (fun h => absurd (wL_k0.mp h) hk0)
              refine lv_iconst (v := (nI 0)) hx hb dX3_read_79 zk_0 ?_
              refine z_ct (z_runVT (As := [.int (nI 0)]) (rest := []) hC zv_X3_106 (m_X3_want_f G l kA (by first | assumption | (omega)) (by first | assumption | (omega)) (by first | assumption | (omega)) rd co sr cl (tS tx n p2) n (v2 1) (v2 0) (cn + 1) (nI (tF tx n p2)) (zrem [2] _)) hw (hw.perm (z_cut (is := [2]) (cells := [(rd, zo 3 [.int (nI (tS tx n p2)), .int (nI (tF tx n p2)), .ref sr, .int (nI (v2 1)), .int (nI (v2 0)), .ref cl, .int (nI (cn + 1)), .ref co])]) rfl rfl)) 2 rfl rfl rfl rfl rfl (Nat.le_of_ble_eq_true rfl) hl.1 ⟨Nat.le_of_ble_eq_true rfl, Nat.le_of_ble_eq_true rfl⟩ ⟨(by show _ ≤ 2960; omega), (by show _ ≤ 105900; omega)⟩ dX3_read_80) hw (fun q9 => z_new1 (is := [2]) (cs := [(rd, zo 3 [.int (nI (tS tx n p2)), .int (nI (tF tx n p2)), .ref sr, .int (nI (v2 1)), .int (nI (v2 0)), .ref cl, .int (nI (cn + 1)), .ref co])]) (cs' := [(rd, zo 3 [.int (nI (tS tx n p2)), .int (nI (tF tx n p2)), .ref sr, .int (nI (v2 1)), .int (nI (v2 0)), .ref cl, .int (nI (cn + 1)), .ref co])]) (nw := [(q9, zo 4 [.null, .null, .null, .null, .null, .int 0, .int (nI (tF tx n p2))])]) rfl rfl rfl) (fun q9 H locs ce9 hex => ?_)
              obtain ⟨hw, hx9⟩ := hex
              have hw : zS G ((q9, zo 4 [.null, .null, .null, .null, .null, .int 0, .int (nI (tF tx n p2))]) :: (sr, zo 12 [.ref sv, .int (nI 0), .int 0, .int 0]) :: (sv, zc G 1 (zI (wL tx n p2) g4)) :: (rd, zo 3 [.int (nI (tS tx n p2)), .int (nI (tF tx n p2)), .ref sr, .int (nI (v2 1)), .int (nI (v2 0)), .ref cl, .int (nI (cn + 1)), .ref co]) :: (co, zo 0 (cF w mn bm sm (nI n))) :: (w 8, zc G 1 (zI 200 xf)) :: (cl, zc G 7 (zO 24 (va_up af cn (some cq)))) :: (pw 24 (va_up cs cn [(cq, zc G 0 (zI ln cf))]) ++ rest)) s H locs := hw
              have hw : zS G ((sr, zo 12 [.ref sv, .int (nI 0), .int 0, .int 0]) :: (sv, zc G 1 (zI (wL tx n p2) g4)) :: (rd, zo 3 [.int (nI (tS tx n p2)), .int (nI (tF tx n p2)), .ref sr, .int (nI (v2 1)), .int (nI (v2 0)), .ref cl, .int (nI (cn + 1)), .ref co]) :: (cl, zc G 7 (zO 24 (va_up af cn (some cq)))) :: (q9, zo 4 [.null, .null, .null, .null, .null, .int 0, .int (nI (tF tx n p2))]) :: (co, zo 0 (cF w mn bm sm (nI n))) :: (w 8, zc G 1 (zI 200 xf)) :: (pw 24 (va_up cs cn [(cq, zc G 0 (zI ln cf))]) ++ rest)) s H locs := hw.perm (((z_cut (is := [1, 2, 3, 6, 0, 4, 5]) (ws := [(q9, zo 4 [.null, .null, .null, .null, .null, .int 0, .int (nI (tF tx n p2))]), (sr, zo 12 [.ref sv, .int (nI 0), .int 0, .int 0]), (sv, zc G 1 (zI (wL tx n p2) g4)), (rd, zo 3 [.int (nI (tS tx n p2)), .int (nI (tF tx n p2)), .ref sr, .int (nI (v2 1)), .int (nI (v2 0)), .ref cl, .int (nI (cn + 1)), .ref co]), (co, zo 0 (cF w mn bm sm (nI n))), (w 8, zc G 1 (zI 200 xf)), (cl, zc G 7 (zO 24 (va_up af cn (some cq))))]) (cells := [(sr, zo 12 [.ref sv, .int (nI 0), .int 0, .int 0]), (sv, zc G 1 (zI (wL tx n p2) g4)), (rd, zo 3 [.int (nI (tS tx n p2)), .int (nI (tF tx n p2)), .ref sr, .int (nI (v2 1)), .int (nI (v2 0)), .ref cl, .int (nI (cn + 1)), .ref co]), (cl, zc G 7 (zO 24 (va_up af cn (some cq)))), (q9, zo 4 [.null, .null, .null, .null, .null, .int 0, .int (nI (tF tx n p2))]), (co, zo 0 (cF w mn bm sm (nI n))), (w 8, zc G 1 (zI 200 xf))]) rfl rfl).append_right (pw 24 (va_up cs cn [(cq, zc G 0 (zI ln cf))]) ++ rest)).trans (by rw [List.append_assoc]; exact List.Perm.refl _))
              have hw := hw.drop
              have hw := hw.drop
              have hw := hw.drop
              have hw := hw.drop
              have hw : zS G ((q9, zo 4 [.null, .null, .null, .null, .null, .int 0, .int (nI (tF tx n p2))]) :: (co, zo 0 (cF w mn bm sm (nI n))) :: (w 8, zc G 1 (zI 200 xf)) :: rest) s H locs := zS.dropM (E := [(q9, zo 4 [.null, .null, .null, .null, .null, .int 0, .int (nI (tF tx n p2))]), (co, zo 0 (cF w mn bm sm (nI n))), (w 8, zc G 1 (zI 200 xf))]) hw
              exact hend _ _ _ _ _ _ _ _ _ ⟨hw, hx9⟩ (by decide) (by omega) (by omega)
          · skip
            refine lv_iconst (v := (nI 1)) hx hb dX3_read_54 zk_1 ?_
            refine lv_goto (tgt := 59) hx hb dX3_read_55 (by decide) ?_
            refine lv_istore_n (lv' := [(1, .int (nI 1)), (0, .ref rd)]) hx hb dX3_read_59 rfl hl (by decide) rfl (fun ls hl => ?_)
            refine lv_aload_n hx hb dX3_read_60 rfl (lv_at hl 1 rfl) ?_
            refine lv_iload_n hx hb dX3_read_61 rfl (lv_at hl 0 rfl) ?_
            refine zj_ne (tgt := 75) hx hb (by decide) dX3_read_62 (by decide) (fun _ => ?_) (fun h => absurd h (by decide))
            refine lv_iconst (v := (nI 1)) hx hb dX3_read_75 zk_1 ?_
            refine lv_goto (tgt := 80) hx hb dX3_read_76 (by decide) ?_
            have hw := hw.drop
            have hw := hw.drop
            refine z_cv (z_runV (As := [.int (nI 1)]) (rest := []) hC zv_X3_106 (m_X3_want_t G l rd _) hw hw 0 rfl rfl rfl rfl rfl (Nat.le_of_ble_eq_true rfl) hl.1 ⟨Nat.le_of_ble_eq_true rfl, Nat.le_of_ble_eq_true rfl⟩ ⟨(by show _ ≤ 2960; omega), (by show _ ≤ 105900; omega)⟩ dX3_read_80) hw (fun _ => List.Perm.refl _) (fun u H locs hp hw => ?_)
            refine lv_goto (tgt := 2) hx hb dX3_read_83 (by decide) ?_
            refine lv_iload_n hx hb dX3_read_2 rfl (lv_at hl 0 rfl) ?_
            refine zj_eq (tgt := 86) hx hb (by decide) dX3_read_3 (by decide) (fun h => absurd h (by decide)) (fun _ => ?_)
            refine W.widen (k := (123 * (cn + 1))) (n := (4412 * (cn + 1))) (by omega) (by omega) ?_
            exact ih_6 (cn + 1) (tS tx n p2) sr (nI (tF tx n p2)) v2 (upV V (cn + 1) v2) (va_up af cn (some cq)) (va_up cs cn [(cq, zc G 0 (zI ln cf))]) (by omega) (tS_le hp2) (okC_Hw hHl hokc) ((upV_n (by omega)).trans hV0) upV_s (chC_s hch hVc hokc) (par_go hcl c_42 (by omega) hpar) (by omega) H locs ls hw (lv_sub hl [1, 0] rfl)
  refine W.widen (k := (123 * 0)) (n := (4412 * 0)) (by omega) (by omega) ?_
  exact loop_6 ((24 - 0) + 1) 0 0 wd fs v0 (fun _ => v0) (fun _ => none) (fun _ => []) (by decide) (by omega) hH rfl rfl chC_0 hX (Nat.lt_succ_self _) s.heap [] ls hw (lv_sub hl [1, 0] rfl)
