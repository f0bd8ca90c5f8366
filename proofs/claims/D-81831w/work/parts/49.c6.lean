/-! COMPONENT: a day passes -/
set_option maxRecDepth 100000
/-- who went hungry, among those below k -/
def hungT (v : Nat → Nat) (a : Nat → Option Nat) (k hb : Nat) : Prop := hb < 32 ∧ ∀ i, i < 5 → (hb.testBit i = true ↔ i < k ∧ ∃ e, a i = some e ∧ e < v (21 + 5 * i + 2))
theorem hung_0 {v : Nat → Nat} {a : Nat → Option Nat} : hungT v a 0 0 := ⟨by decide, fun i _ => by simp⟩
theorem hung_n {v : Nat → Nat} {a : Nat → Option Nat} {k hb : Nat} (h : hungT v a k hb) (hn : a k = none) : hungT v a (k + 1) hb := by
  refine ⟨h.1, fun i hi => (h.2 i hi).trans ⟨fun q => ⟨by omega, q.2⟩, fun q => ⟨?_, q.2⟩⟩⟩
  by_cases e : i = k
  · obtain ⟨x, hx, -⟩ := q.2
    rw [e, hn] at hx; cases hx
  · omega
theorem hung_no {v : Nat → Nat} {a : Nat → Option Nat} {k hb e : Nat} (h : hungT v a k hb) (hn : a k = none) (he : ¬ e < v (21 + 5 * k + 2)) : hungT v (va_up a k (some e)) (k + 1) hb := by
  refine ⟨h.1, fun i hi => ?_⟩
  by_cases q : i = k
  · subst q
    rw [va_up_self]
    constructor
    · intro hb; exact absurd ((h.2 i hi).mp hb).1 (Nat.lt_irrefl i)
    · rintro ⟨-, x, hx, hx2⟩; cases hx; exact absurd hx2 he
  · rw [va_up_ne _ _ q]
    exact (h.2 i hi).trans ⟨fun q => ⟨by omega, q.2⟩, fun q => ⟨by omega, q.2⟩⟩
theorem hung_yes {v : Nat → Nat} {a : Nat → Option Nat} {k hb e : Nat} (hk : k < 5) (h : hungT v a k hb) (he : e < v (21 + 5 * k + 2)) : hungT v (va_up a k (some e)) (k + 1) (hb ||| 2 ^ k) := by
  refine ⟨Nat.or_lt_two_pow (n := 5) h.1 (Nat.pow_lt_pow_right (by decide) hk), fun i hi => ?_⟩
  rw [Nat.testBit_or, Bool.or_eq_true, Nat.testBit_two_pow]
  by_cases q : i = k
  · subst q
    rw [va_up_self]
    exact ⟨fun _ => ⟨Nat.lt_succ_self _, e, rfl, he⟩, fun _ => Or.inr (by simp)⟩
  · rw [va_up_ne _ _ q]
    constructor
    · rintro (h1 | h1)
      · have := (h.2 i hi).mp h1; exact ⟨by omega, this.2⟩
      · exact absurd (of_decide_eq_true h1).symm q
    · rintro ⟨h1, h2⟩; exact Or.inl ((h.2 i hi).mpr ⟨by omega, h2⟩)
theorem hung_5 {v : Nat → Nat} {a : Nat → Option Nat} {k hb : Nat} (h : hungT v a k hb) (hn : ∀ j, k ≤ j → a j = none) : hungT v a 5 hb := by
  refine ⟨h.1, fun i hi => (h.2 i hi).trans ⟨fun q => ⟨hi, q.2⟩, fun q => ⟨?_, q.2⟩⟩⟩
  rcases Nat.lt_or_ge i k with h1 | h1
  · exact h1
  · obtain ⟨x, hx, -⟩ := q.2
    rw [hn i h1] at hx; cases hx
theorem day_spy {v1 pl nu ax le kn : Nat → Nat} {k ps : Nat} (hH : Hw v1) (hR : sRel v1 pl nu ax le kn) (hk : k < v1 1) (hps : ps = v1 0) (h4 : v1 (21 + 5 * k) = 4) : sRel (updN v1 (21 + 5 * k + 4) (v1 (21 + 5 * k + 4) ||| (if v1 (21 + 5 * k) = 4 then nearN v1 k else 0))) pl nu ax le (updN kn k (kn k ||| orB (spyF pl nu ax k) ps)) := by
  have h0 := hH.1
  have h1 := hH.2.1
  subst hps
  rw [spy_near hR hk, (hR.2.2.1 k (by omega)).2, if_pos h4]
  exact sRel_kn h0 hR (or9 (hH.2.2.2.1 k (by omega)) (nearN_lt hH))
theorem day_nospy {v1 pl nu ax le kn : Nat → Nat} {k : Nat} (hR : sRel v1 pl nu ax le kn) (h4 : ¬ v1 (21 + 5 * k) = 4) : sRel (updN v1 (21 + 5 * k + 4) (v1 (21 + 5 * k + 4) ||| (if v1 (21 + 5 * k) = 4 then nearN v1 k else 0))) pl nu ax le kn := by
  rw [if_neg h4, Nat.or_zero, updN_self]; exact hR
theorem wOne_ok {v1 : Nat → Nat} {k : Nat} (hg : Hg v1) (hk : k < v1 1) : Hg (updN v1 (21 + 5 * k + 4) (v1 (21 + 5 * k + 4) ||| (if v1 (21 + 5 * k) = 4 then nearN v1 k else 0))) ∧ (updN v1 (21 + 5 * k + 4) (v1 (21 + 5 * k + 4) ||| (if v1 (21 + 5 * k) = 4 then nearN v1 k else 0))) 0 = v1 0 ∧ (updN v1 (21 + 5 * k + 4) (v1 (21 + 5 * k + 4) ||| (if v1 (21 + 5 * k) = 4 then nearN v1 k else 0))) 1 = v1 1 ∧ (updN v1 (21 + 5 * k + 4) (v1 (21 + 5 * k + 4) ||| (if v1 (21 + 5 * k) = 4 then nearN v1 k else 0))) (21 + 5 * k) = v1 (21 + 5 * k) ∧ (updN v1 (21 + 5 * k + 4) (v1 (21 + 5 * k + 4) ||| (if v1 (21 + 5 * k) = 4 then nearN v1 k else 0))) (21 + 5 * k + 2) = v1 (21 + 5 * k + 2) ∧ (updN v1 (21 + 5 * k + 4) (v1 (21 + 5 * k + 4) ||| (if v1 (21 + 5 * k) = 4 then nearN v1 k else 0))) (21 + 5 * k + 3) = v1 (21 + 5 * k + 3) := by
  have h1 := hg.1.2.1
  exact ⟨Hg_upd hg (by omega) (or9 (hg.1.2.2.2.1 k (by omega)) (ite_lt (nearN_lt hg.1) (by decide))), updN_ne _ _ (by omega), updN_ne _ _ (by omega), updN_ne _ _ (by omega), updN_ne _ _ (by omega), updN_ne _ _ (by omega)⟩
theorem day_wake {w pl nu ax le kn : Nat → Nat} {k nd : Nat} (hg : Hg w) (hk : k < w 1) (hnd : nd = w (21 + 5 * k + 2)) (hle : le k = w (21 + 5 * k + 3)) (hl2 : le k ≤ 2) (hR : sRel (eatN w k).2 pl nu ax le kn) (x : Nat) (hx : x = if (eatN w k).1 < nd then le k + 1 else le k - 1) :
    Hg (updN (eatN w k).2 (21 + 5 * k + 3) (if (eatN w k).1 < (eatN w k).2 (21 + 5 * k + 2) then (eatN w k).2 (21 + 5 * k + 3) + 1 else (eatN w k).2 (21 + 5 * k + 3) - 1)) ∧ sRel (updN (eatN w k).2 (21 + 5 * k + 3) (if (eatN w k).1 < (eatN w k).2 (21 + 5 * k + 2) then (eatN w k).2 (21 + 5 * k + 3) + 1 else (eatN w k).2 (21 + 5 * k + 3) - 1)) pl nu ax (updN le k x) kn := by
  have h1 := hg.1.2.1
  have e2 : (eatN w k).2 (21 + 5 * k + 2) = nd := (eatN_ne hg.1 (by omega) (by omega) (by omega) (fun t ht => by omega)).trans hnd.symm
  have e3 : (eatN w k).2 (21 + 5 * k + 3) = le k := (eatN_ne hg.1 (by omega) (by omega) (by omega) (fun t ht => by omega)).trans hle.symm
  have hgE := eatN_Hg hg hk
  rw [e2, e3, ← hx]
  have hx3 : x ≤ 3 := by rw [hx]; split <;> omega
  exact ⟨Hg_lean hgE (by omega) hx3, sRel_le hgE.1.1 hR (by omega)⟩
theorem zf_X1_80_1 : zFl 1 7 RX1 80 false .int := ⟨RX1, TX1, 9, tyX1, rfl, by decide, in_X1, q127, rfl, by decide +kernel, tyX1_ok, nmX1⟩
theorem zv_X1_101 : zVs RX1 101 yX1_eats cX1_eats 6 (some .int) 1 := ⟨lw_V q973 q975 qs16 q50 q976, ⟨by decide +kernel, by decide +kernel⟩, by decide +kernel⟩
theorem zfs_X1_104_1 : ∀ kd, kd < 5 → zFl (5 + kd) 1 RX1 104 true .int
  | 0, _ => ⟨RX6, TX6, 2, tyX6, rfl, by decide, in_X6, q766, rfl, by decide +kernel, tyX6_ok, nmX6⟩
  | 1, _ => ⟨RX7, TX7, 2, tyX7, rfl, by decide, in_X7, q766, rfl, by decide +kernel, tyX7_ok, nmX7⟩
  | 2, _ => ⟨RX8, TX8, 2, tyX8, rfl, by decide, in_X8, q766, rfl, by decide +kernel, tyX8_ok, nmX8⟩
  | 3, _ => ⟨RX9, TX9, 2, tyX9, rfl, by decide, in_X9, q766, rfl, by decide +kernel, tyX9_ok, nmX9⟩
  | 4, _ => ⟨RX10, TX10, 2, tyX10, rfl, by decide, in_X10, q766, rfl, by decide +kernel, tyX10_ok, nmX10⟩
theorem zm_max : Cond.static Lib.Math.max.name ∈ lw_all ∧ Cond.initialized "java/lang/Math" ∈ lw_all ∧ Cond.code Lib.Math.max.name Lib.Math.max.code 2 (some .int) ∈ lw_all := ⟨q338, q60, q339⟩
theorem zn_X10_wakes : zNs yX10_wakes cX10_wakes 2 (some .boolean) 1 := ⟨q970, q82, ⟨by decide +kernel, by decide +kernel⟩, by decide +kernel⟩
theorem zv_X1_94 : zVs RX1 94 yX1_spy cX1_spy 3 none 1 := ⟨lw_V q948 q950 qs14 q50 q951, ⟨by decide +kernel, by decide +kernel⟩, by decide +kernel⟩
theorem zn_X10_spies : zNs yX10_spies cX10_spies 1 (some .boolean) 0 := ⟨q944, q82, ⟨by decide +kernel, by decide +kernel⟩, by decide +kernel⟩
set_option maxHeartbeats 4000000 in
theorem m_X1_pass_2 (G : zE) (l : Launch) (kA : Nat → Nat) (hG : zG G kA) (st : Nat) (co : Nat) (z : Nat → Nat) (w : Nat → Nat) (bm : Int32) (sm : Int32) (lt : Int32) (ps : Nat) (dy : Nat) (mn : Nat) (gg : Int32) (v : Nat → Nat) (pl : Nat → Nat) (nu : Nat → Nat) (ax : Nat → Nat) (le : Nat → Nat) (kn : Nat → Nat) (sf : Nat → Option Nat) (sq : Nat → Nat) (hps : ps = v 0) (hmn : mn = v 1) (hdy : dy = v 2) (hd : v 2 < 65000) (hg : Hg v) (hR : sRel v pl nu ax le kn) (hsf : ∀ i, i < v 1 → sf i = some (sq i)) (vq : Nat → Nat) (hvq : sqW sq vq = sqW sq v) (rest : va_W) : zMv G l yX1_pass_2 cX1_pass_2 2 5 0 0 [.ref st] ((st, zo 1 (stF z co (nI ps) (nI dy) (gg))) :: (z 0, zc G 1 (zI 9 (vI pl))) :: (z 1, zc G 1 (zI 9 (vI nu))) :: (z 2, zc G 1 (zI 5 (vI ax))) :: (z 3, zc G 1 (zI 5 (vI le))) :: (z 4, zc G 2 (zI 5 (vI kn))) :: (co, zo 0 (cF w (nI mn) bm sm lt)) :: (w 0, zc G 4 (zO 5 sf)) :: (sqW sq vq ++ rest)) (fun u => sRel (passN v) pl u.1 u.2.1 u.2.2.1 u.2.2.2.1 ∧ hungT v (ateN v) 5 u.2.2.2.2) (fun (u : (Nat → Nat) × (Nat → Nat) × (Nat → Nat) × (Nat → Nat) × Nat) => (st, zo 1 (stF z co (nI ps) (nI (dy + 1)) (nI u.2.2.2.2))) :: (z 0, zc G 1 (zI 9 (vI pl))) :: (z 1, zc G 1 (zI 9 (vI u.1))) :: (z 2, zc G 1 (zI 5 (vI u.2.1))) :: (z 3, zc G 1 (zI 5 (vI u.2.2.1))) :: (z 4, zc G 2 (zI 5 (vI u.2.2.2.1))) :: (co, zo 0 (cF w (nI mn) bm sm lt)) :: (w 0, zc G 4 (zO 5 sf)) :: (sqW sq vq ++ rest)) := by
  refine z_begV (by decide) (Nat.le_of_ble_eq_true rfl) (fun p e s m args below meth c ls Q hC hnm hl hw hend => ?_)
  have hx := hC.hx
  have hb := hC.hb
  have hl : lv_has ls 2 [(0, .ref st)] := hl
  have hw : zS G ((st, zo 1 (stF z co (nI ps) (nI dy) (gg))) :: (z 0, zc G 1 (zI 9 (vI pl))) :: (z 1, zc G 1 (zI 9 (vI nu))) :: (z 2, zc G 1 (zI 5 (vI ax))) :: (z 3, zc G 1 (zI 5 (vI le))) :: (z 4, zc G 2 (zI 5 (vI kn))) :: (co, zo 0 (cF w (nI mn) bm sm lt)) :: (w 0, zc G 4 (zO 5 sf)) :: (sqW sq vq ++ rest)) s s.heap [] := hw
  have hz := hG s hC.hZ.1
  have hw : zS G ((st, zo 1 (stF z co (nI ps) (nI dy) (gg))) :: (z 0, zc G 1 (zI 9 (vI pl))) :: (z 1, zc G 1 (zI 9 (vI nu))) :: (z 2, zc G 1 (zI 5 (vI ax))) :: (z 3, zc G 1 (zI 5 (vI le))) :: (z 4, zc G 2 (zI 5 (vI kn))) :: (co, zo 0 (cF w (nI mn) bm sm lt)) :: (w 0, zc G 4 (zO 5 sf)) :: (sqW sq v ++ rest)) s s.heap [] := by rw [← hvq]; exact hw
  have hpl := fun j => (hR.2.2.2 j).1
  have hnu := fun j => (hR.2.2.2 j).2.1
  have hax := fun j => (hR.2.2.2 j).2.2.1
  have hle := fun j => (hR.2.2.2 j).2.2.2.1
  have hkn := fun j => (hR.2.2.2 j).2.2.2.2
  have hv0 := hg.1.1
  have hv1 := hg.1.2.1
  refine lv_aload_n hx hb dX1_pass_2_0 rfl (lv_at hl 0 rfl) ?_
  refine lv_dup hx hb dX1_pass_2_1 rfl ?_
  refine z_get (v := .int (nI dy)) hC zf_X1_42_1 hw 0 rfl rfl dX1_pass_2_2 ?_
  refine lv_iconst (v := (nI 1)) hx hb dX1_pass_2_5 zk_1 ?_
  refine zn_iadd hx hb dX1_pass_2_6 ?_
  refine z_puti hC zf_X1_42_1 hw 0 rfl (Nat.le_of_ble_eq_true rfl) dX1_pass_2_7 (fun H locs hw => ?_)
  have hw : zS G ((st, zo 1 (stF z co (nI ps) (nI (dy + 1)) gg)) :: (z 0, zc G 1 (zI 9 (vI pl))) :: (z 1, zc G 1 (zI 9 (vI nu))) :: (z 2, zc G 1 (zI 5 (vI ax))) :: (z 3, zc G 1 (zI 5 (vI le))) :: (z 4, zc G 2 (zI 5 (vI kn))) :: (co, zo 0 (cF w (nI mn) bm sm lt)) :: (w 0, zc G 4 (zO 5 sf)) :: (sqW sq v ++ rest)) s H locs := hw
  refine lv_aload_n hx hb dX1_pass_2_10 rfl (lv_at hl 0 rfl) ?_
  refine lv_iconst (v := (nI 0)) hx hb dX1_pass_2_11 zk_0 ?_
  refine z_puti hC zf_X1_80_1 hw 0 rfl (Nat.le_of_ble_eq_true rfl) dX1_pass_2_12 (fun H locs hw => ?_)
  have hw : zS G ((st, zo 1 (stF z co (nI ps) (nI (dy + 1)) (nI 0))) :: (z 0, zc G 1 (zI 9 (vI pl))) :: (z 1, zc G 1 (zI 9 (vI nu))) :: (z 2, zc G 1 (zI 5 (vI ax))) :: (z 3, zc G 1 (zI 5 (vI le))) :: (z 4, zc G 2 (zI 5 (vI kn))) :: (co, zo 0 (cF w (nI mn) bm sm lt)) :: (w 0, zc G 4 (zO 5 sf)) :: (sqW sq v ++ rest)) s H locs := hw
  refine lv_iconst (v := (nI 0)) hx hb dX1_pass_2_15 zk_0 ?_
  refine lv_istore_n (lv' := [(1, .int (nI 0)), (0, .ref st)]) hx hb dX1_pass_2_16 rfl hl (by decide) rfl (fun ls hl => ?_)
  have loop_17 : ∀ (fuel : Nat) (k : Nat) (v1 : Nat → Nat) (a1 : Nat → Option Nat) (nu1 : Nat → Nat) (ax1 : Nat → Nat) (le1 : Nat → Nat) (kn1 : Nat → Nat) (b5 : Nat), (k ≤ v 1) → (passTo v k = (v1, a1)) → (Hg v1) → (sRel v1 pl nu1 ax1 le1 kn1) → (hungT v a1 k b5) → (v 1 - k) < fuel → ∀ (H : Heap) (locs : List Loc) (ls : Array Slot), zS G ((st, zo 1 (stF z co (nI ps) (nI (dy + 1)) (nI b5))) :: (z 0, zc G 1 (zI 9 (vI pl))) :: (z 1, zc G 1 (zI 9 (vI nu1))) :: (z 2, zc G 1 (zI 5 (vI ax1))) :: (z 3, zc G 1 (zI 5 (vI le1))) :: (z 4, zc G 2 (zI 5 (vI kn1))) :: (co, zo 0 (cF w (nI mn) bm sm lt)) :: (w 0, zc G 4 (zO 5 sf)) :: (sqW sq v ++ rest)) s H locs → lv_has ls 2 [(0, .ref st), (1, .int (nI k))] → W p l e (zR 5 0 0) s m args below meth c H locs 0 0 Q (F0 m 17 ls []) := by
    intro fuel
    induction fuel with
    | zero => intro k v1 a1 nu1 ax1 le1 kn1 b5 hk hpt hg1 hR1 hhb hfuel; exact absurd hfuel (Nat.not_lt_zero _)
    | succ fuel_17 ih_17 =>
      intro k v1 a1 nu1 ax1 le1 kn1 b5 hk hpt hg1 hR1 hhb hfuel_17 H locs ls hw hl
      have hpi := passTo_inv hg.1 (show v 2 < 65535 by omega) k hk
      rw [hpt] at hpi
      have h10 : v1 0 = v 0 := hpi.2.2.1 0 still_0
      have h11 : v1 1 = v 1 := hpi.2.2.1 1 still_1
      have hnu1 := fun j => (hR1.2.2.2 j).2.1
      have hax1 := fun j => (hR1.2.2.2 j).2.2.1
      have hle1 := fun j => (hR1.2.2.2 j).2.2.2.1
      have hkn1 := fun j => (hR1.2.2.2 j).2.2.2.2
      refine lv_iload_n hx hb dX1_pass_2_17 rfl (lv_at hl 1 rfl) ?_
      refine lv_aload_n hx hb dX1_pass_2_18 rfl (lv_at hl 0 rfl) ?_
      refine z_get (v := .ref co) hC zf_X1_3_1 hw 0 rfl rfl dX1_pass_2_19 ?_
      refine z_getN (v := .int (nI mn)) (k := 1) hC (show zcl[0]? = some (RX0, TX0, 13) from rfl) in_X0 (by decide) rfl rfl rfl (hz.1 _ (cw_t q172 rfl)) hw 6 rfl rfl dX1_pass_2_22 ?_
      refine zi_ge (tgt := 149) hx hb (by omega) (by omega) dX1_pass_2_25 (by decide) (fun c_25 => ?_) (fun c_25 => ?_)
      · skip
        have hk1 : k = v 1 := by omega
        rw [hk1] at hpt
        have hw : zS G ((st, zo 1 (stF z co (nI ps) (nI (dy + 1)) (nI b5))) :: (z 0, zc G 1 (zI 9 (vI pl))) :: (z 1, zc G 1 (zI 9 (vI nu1))) :: (z 2, zc G 1 (zI 5 (vI ax1))) :: (z 3, zc G 1 (zI 5 (vI le1))) :: (z 4, zc G 2 (zI 5 (vI kn1))) :: (co, zo 0 (cF w (nI mn) bm sm lt)) :: (w 0, zc G 4 (zO 5 sf)) :: (sqW sq vq ++ rest)) s H locs := by rw [hvq]; exact hw
        exact hend _ _ _ _ _ _ (nu1, ax1, le1, kn1, b5) hw ⟨by unfold passN; rw [hpt]; exact hR1, by unfold ateN; rw [hpt]; exact hung_5 hhb hpi.2.2.2⟩ (Nat.le_of_ble_eq_true rfl) (Nat.le_of_ble_eq_true rfl) dX1_pass_2_149
      · skip
        have hk1 : k < v 1 := by omega
        have hk5 : k < 5 := by omega
        have hkv : k < v1 1 := by omega
        have h1k : v1 (21 + 5 * k) = v (21 + 5 * k) := hpi.2.2.1 _ (still_k hk5)
        have h1n : v1 (21 + 5 * k + 2) = v (21 + 5 * k + 2) := hpi.2.2.1 _ (still_n hk5)
        have hll := (hR1.2.2.1 k hk5).1
        have hl3 := hg1.1.2.2.2.2.2 k hk5
        refine lv_aload_n hx hb dX1_pass_2_28 rfl (lv_at hl 0 rfl) ?_
        refine lv_iload_n hx hb dX1_pass_2_29 rfl (lv_at hl 1 rfl) ?_
        refine z_ci (z_runV (As := [.int (nI k)]) (rest := []) hC zv_X1_86 (m_X1_isGone G l st co z ps (dy + 1) (nI b5) le1 k (by omega) (by first | assumption | (have := hle1 j; omega)) (zrem [0, 4] _)) hw (hw.perm (z_cut (is := [0, 4]) (cells := [(st, zo 1 (stF z co (nI ps) (nI (dy + 1)) (nI b5))), (z 3, zc G 1 (zI 5 (vI le1)))]) rfl rfl)) 0 rfl rfl rfl rfl rfl (Nat.le_of_ble_eq_true rfl) hl.1 ⟨Nat.le_of_ble_eq_true rfl, Nat.le_of_ble_eq_true rfl⟩ ⟨(Nat.le_of_ble_eq_true rfl), (Nat.le_of_ble_eq_true rfl)⟩ dX1_pass_2_30) hw (fun _ => z_keep (is := [0, 4]) (cs := [(st, zo 1 (stF z co (nI ps) (nI (dy + 1)) (nI b5))), (z 3, zc G 1 (zI 5 (vI le1)))]) rfl rfl) (fun r u H locs hp hw => ?_)
        obtain rfl : r = bI (le1 k = 3) := hp
        refine zb_eq (tgt := 39) hx hb dX1_pass_2_33 (by decide) (fun c_33 => ?_) (fun c_33 => ?_)
        · skip
          obtain ⟨kd, hkd⟩ : ∃ x, x = v (21 + 5 * k) := ⟨_, rfl⟩
          obtain ⟨nd, hnd⟩ : ∃ x, x = v (21 + 5 * k + 2) := ⟨_, rfl⟩
          have hw : zS G ((sq k, zo (5 + kd) (sqF (nI k) (nI nd))) :: (st, zo 1 (stF z co (nI ps) (nI (dy + 1)) (nI b5))) :: (z 0, zc G 1 (zI 9 (vI pl))) :: (z 1, zc G 1 (zI 9 (vI nu1))) :: (z 2, zc G 1 (zI 5 (vI ax1))) :: (z 3, zc G 1 (zI 5 (vI le1))) :: (z 4, zc G 2 (zI 5 (vI kn1))) :: (co, zo 0 (cF w (nI mn) bm sm lt)) :: (w 0, zc G 4 (zO 5 sf)) :: (sqX sq v k ++ rest)) s H locs := by rw [hkd, hnd]; exact hw.perm (sq_get (E := [(st, zo 1 (stF z co (nI ps) (nI (dy + 1)) (nI b5))), (z 0, zc G 1 (zI 9 (vI pl))), (z 1, zc G 1 (zI 9 (vI nu1))), (z 2, zc G 1 (zI 5 (vI ax1))), (z 3, zc G 1 (zI 5 (vI le1))), (z 4, zc G 2 (zI 5 (vI kn1))), (co, zo 0 (cF w (nI mn) bm sm lt)), (w 0, zc G 4 (zO 5 sf))]) hk1)
          have hkd5 : kd < 5 := by rw [hkd]; exact (hg.2.2 k hk1).1
          have hk4 : kd = 0 ∨ kd = 1 ∨ kd = 2 ∨ kd = 3 ∨ kd = 4 := by omega
          have hgo : ¬ goneN v1 k := fun q => c_33 (hll.trans q)
          have hl2 : le1 k ≤ 2 := by have := c_33; omega
          have hn9 : nd ≤ 9 := by rw [hnd]; exact hg.1.2.2.2.2.1 k hk5
          have hgW := wOne_ok hg1 hkv
          have hkW : k < (updN v1 (21 + 5 * k + 4) (v1 (21 + 5 * k + 4) ||| (if v1 (21 + 5 * k) = 4 then nearN v1 k else 0))) 1 := by rw [hgW.2.2.1]; exact hkv
          have hWn : (updN v1 (21 + 5 * k + 4) (v1 (21 + 5 * k + 4) ||| (if v1 (21 + 5 * k) = 4 then nearN v1 k else 0))) (21 + 5 * k + 2) = v (21 + 5 * k + 2) := hgW.2.2.2.2.1.trans h1n
          have hWk : (updN v1 (21 + 5 * k + 4) (v1 (21 + 5 * k + 4) ||| (if v1 (21 + 5 * k) = 4 then nearN v1 k else 0))) (21 + 5 * k) = v (21 + 5 * k) := hgW.2.2.2.1.trans h1k
          refine lv_aload_n hx hb dX1_pass_2_39 rfl (lv_at hl 0 rfl) ?_
          have join_58 : ∀ (kn2 : Nat → Nat), (sRel (updN v1 (21 + 5 * k + 4) (v1 (21 + 5 * k + 4) ||| (if v1 (21 + 5 * k) = 4 then nearN v1 k else 0))) pl nu1 ax1 le1 kn2) → ∀ (H : Heap) (locs : List Loc) (ls : Array Slot), zS G ((sq k, zo (5 + kd) (sqF (nI k) (nI nd))) :: (st, zo 1 (stF z co (nI ps) (nI (dy + 1)) (nI b5))) :: (z 0, zc G 1 (zI 9 (vI pl))) :: (z 1, zc G 1 (zI 9 (vI nu1))) :: (z 2, zc G 1 (zI 5 (vI ax1))) :: (z 3, zc G 1 (zI 5 (vI le1))) :: (z 4, zc G 2 (zI 5 (vI kn2))) :: (co, zo 0 (cF w (nI mn) bm sm lt)) :: (w 0, zc G 4 (zO 5 sf)) :: (sqX sq v k ++ rest)) s H locs → lv_has ls 2 [(0, .ref st), (1, .int (nI k))] → W p l e (zR 5 0 0) s m args below meth c H locs 0 0 Q (F0 m 58 ls []) := by
            intro kn2 hR2 H locs ls hw hl
            have join_73 : ∀ (r8 : Int32), (r8 = bI (wakesN kd (dy + 1))) → ∀ (H : Heap) (locs : List Loc) (ls : Array Slot), zS G ((sq k, zo (5 + kd) (sqF (nI k) (nI nd))) :: (st, zo 1 (stF z co (nI ps) (nI (dy + 1)) (nI b5))) :: (z 0, zc G 1 (zI 9 (vI pl))) :: (z 1, zc G 1 (zI 9 (vI nu1))) :: (z 2, zc G 1 (zI 5 (vI ax1))) :: (z 3, zc G 1 (zI 5 (vI le1))) :: (z 4, zc G 2 (zI 5 (vI kn2))) :: (co, zo 0 (cF w (nI mn) bm sm lt)) :: (w 0, zc G 4 (zO 5 sf)) :: (sqX sq v k ++ rest)) s H locs → lv_has ls 2 [(0, .ref st), (1, .int (nI k))] → W p l e (zR 5 0 0) s m args below meth c H locs 0 0 Q (F0 m 73 ls [.int r8]) := by
              intro r8 hr8 H locs ls hw hl
              subst hr8
              refine zb_ne (tgt := 79) hx hb dX1_pass_2_73 (by decide) (fun c_73 => ?_) (fun c_73 => ?_)
              · skip
                refine lv_aload_n hx hb dX1_pass_2_79 rfl (lv_at hl 0 rfl) ?_
                refine lv_iload_n hx hb dX1_pass_2_80 rfl (lv_at hl 1 rfl) ?_
                refine z_ci (z_runV (As := [.int (nI k)]) (rest := []) hC zv_X1_101 (m_X1_eats G l kA (by first | assumption | (omega)) st co z w bm sm lt ps (dy + 1) mn (nI b5) (updN v1 (21 + 5 * k + 4) (v1 (21 + 5 * k + 4) ||| (if v1 (21 + 5 * k) = 4 then nearN v1 k else 0))) pl nu1 ax1 le1 kn2 sf (sq k) kd nd (nI k) k (by rw [hgW.2.1, h10]; exact hps) hgW.1 hR2 hkW (hkd.trans hWk.symm) (hnd.trans hWn.symm) (hsf k hk1) (zrem [1, 2, 3, 4, 5, 6, 7, 8, 0] _)) hw (hw.perm (z_cut (is := [1, 2, 3, 4, 5, 6, 7, 8, 0]) (cells := [(st, zo 1 (stF z co (nI ps) (nI (dy + 1)) ((nI b5)))), (z 0, zc G 1 (zI 9 (vI pl))), (z 1, zc G 1 (zI 9 (vI nu1))), (z 2, zc G 1 (zI 5 (vI ax1))), (z 3, zc G 1 (zI 5 (vI le1))), (z 4, zc G 2 (zI 5 (vI kn2))), (co, zo 0 (cF w (nI mn) bm sm lt)), (w 0, zc G 4 (zO 5 sf)), (sq k, zo (5 + kd) (sqF (nI k) (nI nd)))]) rfl rfl)) 1 rfl rfl rfl rfl rfl (Nat.le_of_ble_eq_true rfl) hl.1 ⟨Nat.le_of_ble_eq_true rfl, Nat.le_of_ble_eq_true rfl⟩ ⟨(Nat.le_of_ble_eq_true rfl), (Nat.le_of_ble_eq_true rfl)⟩ dX1_pass_2_81) hw (fun u => z_pput (is := [1, 2, 3, 4, 5, 6, 7, 8, 0]) (cells := [(st, zo 1 (stF z co (nI ps) (nI (dy + 1)) ((nI b5)))), (z 0, zc G 1 (zI 9 (vI pl))), (z 1, zc G 1 (zI 9 (vI nu1))), (z 2, zc G 1 (zI 5 (vI ax1))), (z 3, zc G 1 (zI 5 (vI le1))), (z 4, zc G 2 (zI 5 (vI kn2))), (co, zo 0 (cF w (nI mn) bm sm lt)), (w 0, zc G 4 (zO 5 sf)), (sq k, zo (5 + kd) (sqF (nI k) (nI nd)))]) (cells' := [(st, zo 1 (stF z co (nI ps) (nI (dy + 1)) ((nI b5)))), (z 0, zc G 1 (zI 9 (vI pl))), (z 1, zc G 1 (zI 9 (vI u.1))), (z 2, zc G 1 (zI 5 (vI u.2.1))), (z 3, zc G 1 (zI 5 (vI le1))), (z 4, zc G 2 (zI 5 (vI u.2.2))), (co, zo 0 (cF w (nI mn) bm sm lt)), (w 0, zc G 4 (zO 5 sf)), (sq k, zo (5 + kd) (sqF (nI k) (nI nd)))]) rfl rfl rfl) (fun r u H locs hp hw => ?_)
                obtain ⟨nu3, ax3, kn3⟩ := u
                have hw : zS G ((sq k, zo (5 + kd) (sqF (nI k) (nI nd))) :: (st, zo 1 (stF z co (nI ps) (nI (dy + 1)) ((nI b5)))) :: (z 0, zc G 1 (zI 9 (vI pl))) :: (z 1, zc G 1 (zI 9 (vI nu3))) :: (z 2, zc G 1 (zI 5 (vI ax3))) :: (z 3, zc G 1 (zI 5 (vI le1))) :: (z 4, zc G 2 (zI 5 (vI kn3))) :: (co, zo 0 (cF w (nI mn) bm sm lt)) :: (w 0, zc G 4 (zO 5 sf)) :: (sqX sq v k ++ rest)) s H locs := hw
                obtain ⟨rfl, heat⟩ := hp
                have hE19 := eatN_le hgW.1.1 hk5
                obtain ⟨e9, he9⟩ : ∃ x, x = (eatN (updN v1 (21 + 5 * k + 4) (v1 (21 + 5 * k + 4) ||| (if v1 (21 + 5 * k) = 4 then nearN v1 k else 0))) k).1 := ⟨_, rfl⟩
                rw [show nI (eatN (updN v1 (21 + 5 * k + 4) (v1 (21 + 5 * k + 4) ||| (if v1 (21 + 5 * k) = 4 then nearN v1 k else 0))) k).1 = nI e9 from by rw [he9]]
                refine lv_aload_n hx hb dX1_pass_2_84 rfl (lv_at hl 0 rfl) ?_
                refine z_get (v := .ref co) hC zf_X1_3_1 hw 1 rfl rfl dX1_pass_2_85 ?_
                refine lv_iload_n hx hb dX1_pass_2_88 rfl (lv_at hl 1 rfl) ?_
                refine z_cq (z_runVN (n := 1) (As := [.int (nI k)]) (rest := [.int (nI e9)]) hC ⟨zn_X0_squirrel_2, q834, qs12⟩ (hz.1 _ (cw_t q936 rfl)) (m_X0_squirrel_2 G l kA (by first | assumption | (omega)) co w bm sm lt mn sf (sq k) kd nd (nI k) k hk5 hkd5 (hsf k hk1) (zrem [7, 8, 0] _)) hw (hw.perm (z_cut (is := [7, 8, 0]) (cells := [(co, zo 0 (cF w (nI mn) bm sm lt)), (w 0, zc G 4 (zO 5 sf)), (sq k, zo (5 + kd) (sqF (nI k) (nI nd)))]) rfl rfl)) 7 rfl rfl rfl rfl rfl (Nat.le_of_ble_eq_true rfl) hl.1 ⟨Nat.le_of_ble_eq_true rfl, Nat.le_of_ble_eq_true rfl⟩ ⟨(Nat.le_of_ble_eq_true rfl), (Nat.le_of_ble_eq_true rfl)⟩ dX1_pass_2_89) hw (fun _ => z_keep (is := [7, 8, 0]) (cs := [(co, zo 0 (cF w (nI mn) bm sm lt)), (w 0, zc G 4 (zO 5 sf)), (sq k, zo (5 + kd) (sqF (nI k) (nI nd)))]) rfl rfl) (fun r u H locs hp hw => ?_)
                obtain rfl : r = some (sq k) := hp
                refine z_getS1 (v := .int (nI nd)) hC zfs_X1_104_1 hw 0 rfl rfl hkd5 dX1_pass_2_92 ?_
                refine zi_ge (tgt := 124) hx hb (by omega) (by omega) dX1_pass_2_95 (by decide) (fun c_95 => ?_) (fun c_95 => ?_)
                · skip
                  refine lv_aload_n hx hb dX1_pass_2_124 rfl (lv_at hl 0 rfl) ?_
                  refine z_get (v := .ref (z 3)) hC zf_X1_25_1 hw 1 rfl rfl dX1_pass_2_125 ?_
                  refine lv_iload_n hx hb dX1_pass_2_128 rfl (lv_at hl 1 rfl) ?_
                  refine lv_iconst (v := (nI 0)) hx hb dX1_pass_2_129 zk_0 ?_
                  refine lv_aload_n hx hb dX1_pass_2_130 rfl (lv_at hl 0 rfl) ?_
                  refine z_get (v := .ref (z 3)) hC zf_X1_25_1 hw 1 rfl rfl dX1_pass_2_131 ?_
                  refine lv_iload_n hx hb dX1_pass_2_134 rfl (lv_at hl 1 rfl) ?_
                  refine z_bald (x := (nI (le1 k))) hC hw 5 rfl (by omega) (by decide) rfl dX1_pass_2_135 ?_
                  refine lv_iconst (v := (nI 1)) hx hb dX1_pass_2_136 zk_1 ?_
                  refine zv_isub (v := (nI (le1 k) - nI 1)) hx hb rfl dX1_pass_2_137 ?_
                  refine z_mmax (v := nI (le1 k - 1)) hC hl.1 q998 zm_max (zm_dec (hle1 k)) (Nat.le_of_ble_eq_true rfl) ⟨Nat.le_of_ble_eq_true rfl, Nat.le_of_ble_eq_true rfl⟩ (Nat.le_of_ble_eq_true rfl) (Nat.le_of_ble_eq_true rfl) dX1_pass_2_138 ?_
                  refine lv_i2b (v := (nI (le1 k - 1))) hx hb dX1_pass_2_141 (zi2b (by omega)) ?_
                  refine z_bast (f' := vI (updN le1 k (le1 k - 1))) hC hw 5 rfl (by omega) (by decide) ((congrArg _ (znbyte (by omega))).trans (vI_upd _ _ _)) dX1_pass_2_142 (fun H locs hw => ?_)
                  have hw : zS G ((sq k, zo (5 + kd) (sqF (nI k) (nI nd))) :: (st, zo 1 (stF z co (nI ps) (nI (dy + 1)) ((nI b5)))) :: (z 0, zc G 1 (zI 9 (vI pl))) :: (z 1, zc G 1 (zI 9 (vI nu3))) :: (z 2, zc G 1 (zI 5 (vI ax3))) :: (z 3, zc G 1 (zI 5 (vI (updN le1 k (le1 k - 1))))) :: (z 4, zc G 2 (zI 5 (vI kn3))) :: (co, zo 0 (cF w (nI mn) bm sm lt)) :: (w 0, zc G 4 (zO 5 sf)) :: (sqX sq v k ++ rest)) s H locs := hw
                  have hdw := day_wake hgW.1 hkW (hnd.trans (hWn.symm)) (hll.trans hgW.2.2.2.2.2.symm) hl2 heat (le1 k - 1) (by rw [if_neg (show ¬ (eatN (updN v1 (21 + 5 * k + 4) (v1 (21 + 5 * k + 4) ||| (if v1 (21 + 5 * k) = 4 then nearN v1 k else 0))) k).1 < nd by omega)])
                  rw [hkd, hnd] at hw
                  have hw : zS G ((st, zo 1 (stF z co (nI ps) (nI (dy + 1)) ((nI b5)))) :: (z 0, zc G 1 (zI 9 (vI pl))) :: (z 1, zc G 1 (zI 9 (vI nu3))) :: (z 2, zc G 1 (zI 5 (vI ax3))) :: (z 3, zc G 1 (zI 5 (vI (updN le1 k (le1 k - 1))))) :: (z 4, zc G 2 (zI 5 (vI kn3))) :: (co, zo 0 (cF w (nI mn) bm sm lt)) :: (w 0, zc G 4 (zO 5 sf)) :: (sqW sq v ++ rest)) s H locs := hw.perm (sq_get (E := [(st, zo 1 (stF z co (nI ps) (nI (dy + 1)) ((nI b5)))), (z 0, zc G 1 (zI 9 (vI pl))), (z 1, zc G 1 (zI 9 (vI nu3))), (z 2, zc G 1 (zI 5 (vI ax3))), (z 3, zc G 1 (zI 5 (vI (updN le1 k (le1 k - 1))))), (z 4, zc G 2 (zI 5 (vI kn3))), (co, zo 0 (cF w (nI mn) bm sm lt)), (w 0, zc G 4 (zO 5 sf))]) hk1).symm
                  refine lv_iinc (v := (nI (k + 1))) (lv' := [(1, .int (nI (k + 1))), (0, .ref st)]) hx hb dX1_pass_2_143 hl (k := 1) rfl (zincn _ 1) (by decide) rfl (fun ls hl => ?_)
                  refine lv_goto (tgt := 17) hx hb dX1_pass_2_146 (by decide) ?_
                  exact ih_17 (k + 1) (updN (eatN (updN v1 (21 + 5 * k + 4) (v1 (21 + 5 * k + 4) ||| (if v1 (21 + 5 * k) = 4 then nearN v1 k else 0))) k).2 (21 + 5 * k + 3) (if (eatN (updN v1 (21 + 5 * k + 4) (v1 (21 + 5 * k + 4) ||| (if v1 (21 + 5 * k) = 4 then nearN v1 k else 0))) k).1 < (eatN (updN v1 (21 + 5 * k + 4) (v1 (21 + 5 * k + 4) ||| (if v1 (21 + 5 * k) = 4 then nearN v1 k else 0))) k).2 (21 + 5 * k + 2) then (eatN (updN v1 (21 + 5 * k + 4) (v1 (21 + 5 * k + 4) ||| (if v1 (21 + 5 * k) = 4 then nearN v1 k else 0))) k).2 (21 + 5 * k + 3) + 1 else (eatN (updN v1 (21 + 5 * k + 4) (v1 (21 + 5 * k + 4) ||| (if v1 (21 + 5 * k) = 4 then nearN v1 k else 0))) k).2 (21 + 5 * k + 3) - 1)) (va_up a1 k (some (eatN (updN v1 (21 + 5 * k + 4) (v1 (21 + 5 * k + 4) ||| (if v1 (21 + 5 * k) = 4 then nearN v1 k else 0))) k).1)) nu3 ax3 (updN le1 k (le1 k - 1)) kn3 b5 (by omega) (passTo_wake hpt hgo (by have q := c_73; rw [hkd, hdy, ← h1k, ← hpi.2.1] at q; exact q)) hdw.1 hdw.2 (hung_no hhb (hpi.2.2.2 k (Nat.le_refl k)) (by omega)) (by omega) H locs ls hw (lv_sub hl [1, 0] rfl)
                · skip
                  refine lv_aload_n hx hb dX1_pass_2_98 rfl (lv_at hl 0 rfl) ?_
                  refine lv_dup hx hb dX1_pass_2_99 rfl ?_
                  refine z_get (v := .int (nI b5)) hC zf_X1_80_1 hw 1 rfl rfl dX1_pass_2_100 ?_
                  refine lv_iconst (v := (nI 1)) hx hb dX1_pass_2_103 zk_1 ?_
                  refine lv_iload_n hx hb dX1_pass_2_104 rfl (lv_at hl 1 rfl) ?_
                  refine zv_ishl (v := (nI (2 ^ k))) hx hb (nI_shl1 (by omega)) dX1_pass_2_105 ?_
                  refine zv_ior (v := (nI (b5 ||| (2 ^ k)))) hx hb (nI_or _ _) dX1_pass_2_106 ?_
                  refine z_puti hC zf_X1_80_1 hw 1 rfl (Nat.le_of_ble_eq_true rfl) dX1_pass_2_107 (fun H locs hw => ?_)
                  have hw : zS G ((sq k, zo (5 + kd) (sqF (nI k) (nI nd))) :: (st, zo 1 (stF z co (nI ps) (nI (dy + 1)) (nI (b5 ||| (2 ^ k))))) :: (z 0, zc G 1 (zI 9 (vI pl))) :: (z 1, zc G 1 (zI 9 (vI nu3))) :: (z 2, zc G 1 (zI 5 (vI ax3))) :: (z 3, zc G 1 (zI 5 (vI le1))) :: (z 4, zc G 2 (zI 5 (vI kn3))) :: (co, zo 0 (cF w (nI mn) bm sm lt)) :: (w 0, zc G 4 (zO 5 sf)) :: (sqX sq v k ++ rest)) s H locs := hw
                  refine lv_aload_n hx hb dX1_pass_2_110 rfl (lv_at hl 0 rfl) ?_
                  refine z_get (v := .ref (z 3)) hC zf_X1_25_1 hw 1 rfl rfl dX1_pass_2_111 ?_
                  refine lv_iload_n hx hb dX1_pass_2_114 rfl (lv_at hl 1 rfl) ?_
                  refine lv_dup2_11 hx hb dX1_pass_2_115 rfl rfl ?_
                  refine z_bald (x := (nI (le1 k))) hC hw 5 rfl (by omega) (by decide) rfl dX1_pass_2_116 ?_
                  refine lv_iconst (v := (nI 1)) hx hb dX1_pass_2_117 zk_1 ?_
                  refine zn_iadd hx hb dX1_pass_2_118 ?_
                  refine lv_i2b (v := (nI (le1 k + 1))) hx hb dX1_pass_2_119 (zi2b (by omega)) ?_
                  refine z_bast (f' := vI (updN le1 k (le1 k + 1))) hC hw 5 rfl (by omega) (by decide) ((congrArg _ (znbyte (by omega))).trans (vI_upd _ _ _)) dX1_pass_2_120 (fun H locs hw => ?_)
                  have hw : zS G ((sq k, zo (5 + kd) (sqF (nI k) (nI nd))) :: (st, zo 1 (stF z co (nI ps) (nI (dy + 1)) (nI (b5 ||| (2 ^ k))))) :: (z 0, zc G 1 (zI 9 (vI pl))) :: (z 1, zc G 1 (zI 9 (vI nu3))) :: (z 2, zc G 1 (zI 5 (vI ax3))) :: (z 3, zc G 1 (zI 5 (vI (updN le1 k (le1 k + 1))))) :: (z 4, zc G 2 (zI 5 (vI kn3))) :: (co, zo 0 (cF w (nI mn) bm sm lt)) :: (w 0, zc G 4 (zO 5 sf)) :: (sqX sq v k ++ rest)) s H locs := hw
                  refine lv_goto (tgt := 143) hx hb dX1_pass_2_121 (by decide) ?_
                  have hdw := day_wake hgW.1 hkW (hnd.trans (hWn.symm)) (hll.trans hgW.2.2.2.2.2.symm) hl2 heat (le1 k + 1) (by rw [if_pos (show (eatN (updN v1 (21 + 5 * k + 4) (v1 (21 + 5 * k + 4) ||| (if v1 (21 + 5 * k) = 4 then nearN v1 k else 0))) k).1 < nd by omega)])
                  rw [hkd, hnd] at hw
                  have hw : zS G ((st, zo 1 (stF z co (nI ps) (nI (dy + 1)) (nI (b5 ||| (2 ^ k))))) :: (z 0, zc G 1 (zI 9 (vI pl))) :: (z 1, zc G 1 (zI 9 (vI nu3))) :: (z 2, zc G 1 (zI 5 (vI ax3))) :: (z 3, zc G 1 (zI 5 (vI (updN le1 k (le1 k + 1))))) :: (z 4, zc G 2 (zI 5 (vI kn3))) :: (co, zo 0 (cF w (nI mn) bm sm lt)) :: (w 0, zc G 4 (zO 5 sf)) :: (sqW sq v ++ rest)) s H locs := hw.perm (sq_get (E := [(st, zo 1 (stF z co (nI ps) (nI (dy + 1)) (nI (b5 ||| (2 ^ k))))), (z 0, zc G 1 (zI 9 (vI pl))), (z 1, zc G 1 (zI 9 (vI nu3))), (z 2, zc G 1 (zI 5 (vI ax3))), (z 3, zc G 1 (zI 5 (vI (updN le1 k (le1 k + 1))))), (z 4, zc G 2 (zI 5 (vI kn3))), (co, zo 0 (cF w (nI mn) bm sm lt)), (w 0, zc G 4 (zO 5 sf))]) hk1).symm
                  refine lv_iinc (v := (nI (k + 1))) (lv' := [(1, .int (nI (k + 1))), (0, .ref st)]) hx hb dX1_pass_2_143 hl (k := 1) rfl (zincn _ 1) (by decide) rfl (fun ls hl => ?_)
                  refine lv_goto (tgt := 17) hx hb dX1_pass_2_146 (by decide) ?_
                  exact ih_17 (k + 1) (updN (eatN (updN v1 (21 + 5 * k + 4) (v1 (21 + 5 * k + 4) ||| (if v1 (21 + 5 * k) = 4 then nearN v1 k else 0))) k).2 (21 + 5 * k + 3) (if (eatN (updN v1 (21 + 5 * k + 4) (v1 (21 + 5 * k + 4) ||| (if v1 (21 + 5 * k) = 4 then nearN v1 k else 0))) k).1 < (eatN (updN v1 (21 + 5 * k + 4) (v1 (21 + 5 * k + 4) ||| (if v1 (21 + 5 * k) = 4 then nearN v1 k else 0))) k).2 (21 + 5 * k + 2) then (eatN (updN v1 (21 + 5 * k + 4) (v1 (21 + 5 * k + 4) ||| (if v1 (21 + 5 * k) = 4 then nearN v1 k else 0))) k).2 (21 + 5 * k + 3) + 1 else (eatN (updN v1 (21 + 5 * k + 4) (v1 (21 + 5 * k + 4) ||| (if v1 (21 + 5 * k) = 4 then nearN v1 k else 0))) k).2 (21 + 5 * k + 3) - 1)) (va_up a1 k (some (eatN (updN v1 (21 + 5 * k + 4) (v1 (21 + 5 * k + 4) ||| (if v1 (21 + 5 * k) = 4 then nearN v1 k else 0))) k).1)) nu3 ax3 (updN le1 k (le1 k + 1)) kn3 (b5 ||| (2 ^ k)) (by omega) (passTo_wake hpt hgo (by have q := c_73; rw [hkd, hdy, ← h1k, ← hpi.2.1] at q; exact q)) hdw.1 hdw.2 (hung_yes hk5 hhb (by omega)) (by omega) H locs ls hw (lv_sub hl [1, 0] rfl)
              · skip
                refine lv_goto (tgt := 143) hx hb dX1_pass_2_76 (by decide) ?_
                rw [hkd, hnd] at hw
                have hw : zS G ((st, zo 1 (stF z co (nI ps) (nI (dy + 1)) (nI b5))) :: (z 0, zc G 1 (zI 9 (vI pl))) :: (z 1, zc G 1 (zI 9 (vI nu1))) :: (z 2, zc G 1 (zI 5 (vI ax1))) :: (z 3, zc G 1 (zI 5 (vI le1))) :: (z 4, zc G 2 (zI 5 (vI kn2))) :: (co, zo 0 (cF w (nI mn) bm sm lt)) :: (w 0, zc G 4 (zO 5 sf)) :: (sqW sq v ++ rest)) s H locs := hw.perm (sq_get (E := [(st, zo 1 (stF z co (nI ps) (nI (dy + 1)) (nI b5))), (z 0, zc G 1 (zI 9 (vI pl))), (z 1, zc G 1 (zI 9 (vI nu1))), (z 2, zc G 1 (zI 5 (vI ax1))), (z 3, zc G 1 (zI 5 (vI le1))), (z 4, zc G 2 (zI 5 (vI kn2))), (co, zo 0 (cF w (nI mn) bm sm lt)), (w 0, zc G 4 (zO 5 sf))]) hk1).symm
                refine lv_iinc (v := (nI (k + 1))) (lv' := [(1, .int (nI (k + 1))), (0, .ref st)]) hx hb dX1_pass_2_143 hl (k := 1) rfl (zincn _ 1) (by decide) rfl (fun ls hl => ?_)
                refine lv_goto (tgt := 17) hx hb dX1_pass_2_146 (by decide) ?_
                exact ih_17 (k + 1) (updN v1 (21 + 5 * k + 4) (v1 (21 + 5 * k + 4) ||| (if v1 (21 + 5 * k) = 4 then nearN v1 k else 0))) a1 nu1 ax1 le1 kn2 b5 (by omega) (passTo_sleep hpt hgo (fun q => c_73 (by rw [hkd, hdy, ← h1k, ← hpi.2.1]; exact q))) hgW.1 hR2 (hung_n hhb (hpi.2.2.2 k (Nat.le_refl k))) (by omega) H locs ls hw (lv_sub hl [1, 0] rfl)
            refine lv_aload_n hx hb dX1_pass_2_58 rfl (lv_at hl 0 rfl) ?_
            refine z_get (v := .ref co) hC zf_X1_3_1 hw 1 rfl rfl dX1_pass_2_59 ?_
            refine lv_iload_n hx hb dX1_pass_2_62 rfl (lv_at hl 1 rfl) ?_
            refine z_cq (z_runVN (n := 1) (As := [.int (nI k)]) (rest := []) hC ⟨zn_X0_squirrel_2, q834, qs12⟩ (hz.1 _ (cw_t q936 rfl)) (m_X0_squirrel_2 G l kA (by first | assumption | (omega)) co w bm sm lt mn sf (sq k) kd nd (nI k) k hk5 hkd5 (hsf k hk1) (zrem [7, 8, 0] _)) hw (hw.perm (z_cut (is := [7, 8, 0]) (cells := [(co, zo 0 (cF w (nI mn) bm sm lt)), (w 0, zc G 4 (zO 5 sf)), (sq k, zo (5 + kd) (sqF (nI k) (nI nd)))]) rfl rfl)) 7 rfl rfl rfl rfl rfl (Nat.le_of_ble_eq_true rfl) hl.1 ⟨Nat.le_of_ble_eq_true rfl, Nat.le_of_ble_eq_true rfl⟩ ⟨(Nat.le_of_ble_eq_true rfl), (Nat.le_of_ble_eq_true rfl)⟩ dX1_pass_2_63) hw (fun _ => z_keep (is := [7, 8, 0]) (cs := [(co, zo 0 (cF w (nI mn) bm sm lt)), (w 0, zc G 4 (zO 5 sf)), (sq k, zo (5 + kd) (sqF (nI k) (nI nd)))]) rfl rfl) (fun r u H locs hp hw => ?_)
            obtain rfl : r = some (sq k) := hp
            refine lv_aload_n hx hb dX1_pass_2_66 rfl (lv_at hl 0 rfl) ?_
            refine z_get (v := .int (nI (dy + 1))) hC zf_X1_42_1 hw 1 rfl rfl dX1_pass_2_67 ?_
            rcases hk4 with rfl | rfl | rfl | rfl | rfl
            · skip
              have hl : lv_has ls 2 [(0, .ref st), (1, .int (nI k))] := hl
              have hw : zS G ((sq k, zo 5 (sqF (nI k) (nI nd))) :: (st, zo 1 (stF z co (nI ps) (nI (dy + 1)) (nI b5))) :: (z 0, zc G 1 (zI 9 (vI pl))) :: (z 1, zc G 1 (zI 9 (vI nu1))) :: (z 2, zc G 1 (zI 5 (vI ax1))) :: (z 3, zc G 1 (zI 5 (vI le1))) :: (z 4, zc G 2 (zI 5 (vI kn2))) :: (co, zo 0 (cF w (nI mn) bm sm lt)) :: (w 0, zc G 4 (zO 5 sf)) :: (sqX sq v k ++ rest)) s H locs := hw
              refine z_ci (z_runD (x := (⟨"NutCaches$Squirrel", "wakes", "(I)Z"⟩ : MethodName)) (owner := "NutCaches$Habit") (n := 1) (As := [.int (nI (dy + 1))]) (rest := []) hC ⟨zn_X12_wakes, q963, ⟨by decide +kernel, by decide +kernel⟩, by decide +kernel⟩ (hz.1 _ (cw_d 9 rfl rfl)) (hz.1 _ (cw_d 10 rfl rfl)) (hz.1 _ (cw_t q959 rfl)) (hz.2.1 12 _ rfl) (m_X12_wakes G l (sq k) (nI (dy + 1)) _) hw hw 0 rfl rfl rfl rfl (Nat.le_of_ble_eq_true rfl) hl.1 ⟨Nat.le_of_ble_eq_true rfl, Nat.le_of_ble_eq_true rfl⟩ ⟨(Nat.le_of_ble_eq_true rfl), (Nat.le_of_ble_eq_true rfl)⟩ dX1_pass_2_70) hw (fun _ => List.Perm.refl _) (fun r u H locs hp hw => ?_)
              obtain rfl : r = bI True := hp
              exact join_73 (bI True) (by first | exact bI_iff ⟨fun _ h => absurd h (by decide), fun _ => trivial⟩ | exact bI_iff ⟨fun h _ => h, fun h => h rfl⟩) H locs ls hw (lv_sub hl [0, 1] rfl)
            · skip
              have hl : lv_has ls 2 [(0, .ref st), (1, .int (nI k))] := hl
              have hw : zS G ((sq k, zo 6 (sqF (nI k) (nI nd))) :: (st, zo 1 (stF z co (nI ps) (nI (dy + 1)) (nI b5))) :: (z 0, zc G 1 (zI 9 (vI pl))) :: (z 1, zc G 1 (zI 9 (vI nu1))) :: (z 2, zc G 1 (zI 5 (vI ax1))) :: (z 3, zc G 1 (zI 5 (vI le1))) :: (z 4, zc G 2 (zI 5 (vI kn2))) :: (co, zo 0 (cF w (nI mn) bm sm lt)) :: (w 0, zc G 4 (zO 5 sf)) :: (sqX sq v k ++ rest)) s H locs := hw
              refine z_ci (z_runD (x := (⟨"NutCaches$Squirrel", "wakes", "(I)Z"⟩ : MethodName)) (owner := "NutCaches$Habit") (n := 1) (As := [.int (nI (dy + 1))]) (rest := []) hC ⟨zn_X12_wakes, q963, ⟨by decide +kernel, by decide +kernel⟩, by decide +kernel⟩ (hz.1 _ (cw_d 9 rfl rfl)) (hz.1 _ (cw_d 10 rfl rfl)) (hz.1 _ (cw_t q959 rfl)) (hz.2.1 10 _ rfl) (m_X12_wakes G l (sq k) (nI (dy + 1)) _) hw hw 0 rfl rfl rfl rfl (Nat.le_of_ble_eq_true rfl) hl.1 ⟨Nat.le_of_ble_eq_true rfl, Nat.le_of_ble_eq_true rfl⟩ ⟨(Nat.le_of_ble_eq_true rfl), (Nat.le_of_ble_eq_true rfl)⟩ dX1_pass_2_70) hw (fun _ => List.Perm.refl _) (fun r u H locs hp hw => ?_)
              obtain rfl : r = bI True := hp
              exact join_73 (bI True) (by first | exact bI_iff ⟨fun _ h => absurd h (by decide), fun _ => trivial⟩ | exact bI_iff ⟨fun h _ => h, fun h => h rfl⟩) H locs ls hw (lv_sub hl [0, 1] rfl)
            · skip
              have hl : lv_has ls 2 [(0, .ref st), (1, .int (nI k))] := hl
              have hw : zS G ((sq k, zo 7 (sqF (nI k) (nI nd))) :: (st, zo 1 (stF z co (nI ps) (nI (dy + 1)) (nI b5))) :: (z 0, zc G 1 (zI 9 (vI pl))) :: (z 1, zc G 1 (zI 9 (vI nu1))) :: (z 2, zc G 1 (zI 5 (vI ax1))) :: (z 3, zc G 1 (zI 5 (vI le1))) :: (z 4, zc G 2 (zI 5 (vI kn2))) :: (co, zo 0 (cF w (nI mn) bm sm lt)) :: (w 0, zc G 4 (zO 5 sf)) :: (sqX sq v k ++ rest)) s H locs := hw
              refine z_ci (z_runD (x := (⟨"NutCaches$Squirrel", "wakes", "(I)Z"⟩ : MethodName)) (owner := "NutCaches$Habit") (n := 1) (As := [.int (nI (dy + 1))]) (rest := []) hC ⟨zn_X12_wakes, q963, ⟨by decide +kernel, by decide +kernel⟩, by decide +kernel⟩ (hz.1 _ (cw_d 9 rfl rfl)) (hz.1 _ (cw_d 10 rfl rfl)) (hz.1 _ (cw_t q959 rfl)) (hz.2.1 11 _ rfl) (m_X12_wakes G l (sq k) (nI (dy + 1)) _) hw hw 0 rfl rfl rfl rfl (Nat.le_of_ble_eq_true rfl) hl.1 ⟨Nat.le_of_ble_eq_true rfl, Nat.le_of_ble_eq_true rfl⟩ ⟨(Nat.le_of_ble_eq_true rfl), (Nat.le_of_ble_eq_true rfl)⟩ dX1_pass_2_70) hw (fun _ => List.Perm.refl _) (fun r u H locs hp hw => ?_)
              obtain rfl : r = bI True := hp
              exact join_73 (bI True) (by first | exact bI_iff ⟨fun _ h => absurd h (by decide), fun _ => trivial⟩ | exact bI_iff ⟨fun h _ => h, fun h => h rfl⟩) H locs ls hw (lv_sub hl [0, 1] rfl)
            · skip
              have hl : lv_has ls 2 [(0, .ref st), (1, .int (nI k))] := hl
              have hw : zS G ((sq k, zo 8 (sqF (nI k) (nI nd))) :: (st, zo 1 (stF z co (nI ps) (nI (dy + 1)) (nI b5))) :: (z 0, zc G 1 (zI 9 (vI pl))) :: (z 1, zc G 1 (zI 9 (vI nu1))) :: (z 2, zc G 1 (zI 5 (vI ax1))) :: (z 3, zc G 1 (zI 5 (vI le1))) :: (z 4, zc G 2 (zI 5 (vI kn2))) :: (co, zo 0 (cF w (nI mn) bm sm lt)) :: (w 0, zc G 4 (zO 5 sf)) :: (sqX sq v k ++ rest)) s H locs := hw
              refine z_ci (z_runB (x := (⟨"NutCaches$Squirrel", "wakes", "(I)Z"⟩ : MethodName)) (owner := "NutCaches$Habit") (C := "NutCaches$Dozy") (n := 1) (As := [.int (nI (dy + 1))]) (rest := []) hC ⟨zn_X9_wakes, q961, q960, ⟨by decide +kernel, by decide +kernel⟩, by decide +kernel⟩ (va_Nw.use rfl (hz.1 _ (cw_d 9 rfl rfl))) (va_Nw.use rfl (hz.1 _ (cw_d 10 rfl rfl))) (z_declO hC q963 q964) (m_X9_wakes_3 G l kA (by first | assumption | (omega)) (sq k) (dy + 1) (nI k) (nI nd) (by omega) (zrem [0] _)) hw (hw.perm (z_cut (is := [0]) (cells := [(sq k, zo 8 (sqF (nI k) (nI nd)))]) rfl rfl)) 0 rfl rfl rfl rfl rfl (Nat.le_of_ble_eq_true rfl) hl.1 ⟨Nat.le_of_ble_eq_true rfl, Nat.le_of_ble_eq_true rfl⟩ ⟨(Nat.le_of_ble_eq_true rfl), (Nat.le_of_ble_eq_true rfl)⟩ dX1_pass_2_70) hw (fun _ => z_keep (is := [0]) (cs := [(sq k, zo 8 (sqF (nI k) (nI nd)))]) rfl rfl) (fun r u H locs hp hw => ?_)
              obtain rfl : r = bI ((dy + 1) % 2 = 0) := hp
              exact join_73 (bI ((dy + 1) % 2 = 0)) (by first | exact bI_iff ⟨fun _ h => absurd h (by decide), fun _ => trivial⟩ | exact bI_iff ⟨fun h _ => h, fun h => h rfl⟩) H locs ls hw (lv_sub hl [0, 1] rfl)
            · skip
              have hl : lv_has ls 2 [(0, .ref st), (1, .int (nI k))] := hl
              have hw : zS G ((sq k, zo 9 (sqF (nI k) (nI nd))) :: (st, zo 1 (stF z co (nI ps) (nI (dy + 1)) (nI b5))) :: (z 0, zc G 1 (zI 9 (vI pl))) :: (z 1, zc G 1 (zI 9 (vI nu1))) :: (z 2, zc G 1 (zI 5 (vI ax1))) :: (z 3, zc G 1 (zI 5 (vI le1))) :: (z 4, zc G 2 (zI 5 (vI kn2))) :: (co, zo 0 (cF w (nI mn) bm sm lt)) :: (w 0, zc G 4 (zO 5 sf)) :: (sqX sq v k ++ rest)) s H locs := hw
              refine z_ci (z_runB (x := (⟨"NutCaches$Squirrel", "wakes", "(I)Z"⟩ : MethodName)) (owner := "NutCaches$Habit") (C := "NutCaches$Spy") (n := 1) (As := [.int (nI (dy + 1))]) (rest := []) hC ⟨zn_X10_wakes, q969, q968, ⟨by decide +kernel, by decide +kernel⟩, by decide +kernel⟩ (va_Nw.use rfl (hz.1 _ (cw_d 9 rfl rfl))) (va_Nw.use rfl (hz.1 _ (cw_d 10 rfl rfl))) (z_declO hC q963 q964) (m_X10_wakes G l kA (by first | assumption | (omega)) (sq k) (dy + 1) (nI k) (nI nd) (by omega) (zrem [0] _)) hw (hw.perm (z_cut (is := [0]) (cells := [(sq k, zo 9 (sqF (nI k) (nI nd)))]) rfl rfl)) 0 rfl rfl rfl rfl rfl (Nat.le_of_ble_eq_true rfl) hl.1 ⟨Nat.le_of_ble_eq_true rfl, Nat.le_of_ble_eq_true rfl⟩ ⟨(Nat.le_of_ble_eq_true rfl), (Nat.le_of_ble_eq_true rfl)⟩ dX1_pass_2_70) hw (fun _ => z_keep (is := [0]) (cs := [(sq k, zo 9 (sqF (nI k) (nI nd)))]) rfl rfl) (fun r u H locs hp hw => ?_)
              obtain rfl : r = bI True := hp
              exact join_73 (bI True) (by first | exact bI_iff ⟨fun _ h => absurd h (by decide), fun _ => trivial⟩ | exact bI_iff ⟨fun h _ => h, fun h => h rfl⟩) H locs ls hw (lv_sub hl [0, 1] rfl)
          have join_50 : ∀ (r9 : Int32), (r9 = bI (kd = 4)) → ∀ (H : Heap) (locs : List Loc) (ls : Array Slot), zS G ((sq k, zo (5 + kd) (sqF (nI k) (nI nd))) :: (st, zo 1 (stF z co (nI ps) (nI (dy + 1)) (nI b5))) :: (z 0, zc G 1 (zI 9 (vI pl))) :: (z 1, zc G 1 (zI 9 (vI nu1))) :: (z 2, zc G 1 (zI 5 (vI ax1))) :: (z 3, zc G 1 (zI 5 (vI le1))) :: (z 4, zc G 2 (zI 5 (vI kn1))) :: (co, zo 0 (cF w (nI mn) bm sm lt)) :: (w 0, zc G 4 (zO 5 sf)) :: (sqX sq v k ++ rest)) s H locs → lv_has ls 2 [(0, .ref st), (1, .int (nI k))] → W p l e (zR 5 0 0) s m args below meth c H locs 0 0 Q (F0 m 50 ls [.int r9]) := by
            intro r9 hr9 H locs ls hw hl
            subst hr9
            refine zb_eq (tgt := 58) hx hb dX1_pass_2_50 (by decide) (fun c_50 => ?_) (fun c_50 => ?_)
            · skip
              exact join_58 kn1 (by first | exact day_spy hg1.1 hR1 hkv (by omega) (by rw [h1k, ← hkd]; exact c_50) | exact day_nospy hR1 (by rw [h1k, ← hkd]; exact c_50)) H locs ls hw (lv_sub hl [0, 1] rfl)
            · skip
              refine lv_aload_n hx hb dX1_pass_2_53 rfl (lv_at hl 0 rfl) ?_
              refine lv_iload_n hx hb dX1_pass_2_54 rfl (lv_at hl 1 rfl) ?_
              refine z_cv (z_runV (As := [.int (nI k)]) (rest := []) hC zv_X1_94 (m_X1_spy G l st co z ps (dy + 1) (nI b5) pl nu1 ax1 le kn1 k hk5 (by omega) hpl hnu1 hax1 hkn1 (zrem [1, 2, 3, 4, 6] _)) hw (hw.perm (z_cut (is := [1, 2, 3, 4, 6]) (cells := [(st, zo 1 (stF z co (nI ps) (nI (dy + 1)) (nI b5))), (z 0, zc G 1 (zI 9 (vI pl))), (z 1, zc G 1 (zI 9 (vI nu1))), (z 2, zc G 1 (zI 5 (vI ax1))), (z 4, zc G 2 (zI 5 (vI kn1)))]) rfl rfl)) 1 rfl rfl rfl rfl rfl (Nat.le_of_ble_eq_true rfl) hl.1 ⟨Nat.le_of_ble_eq_true rfl, Nat.le_of_ble_eq_true rfl⟩ ⟨(Nat.le_of_ble_eq_true rfl), (Nat.le_of_ble_eq_true rfl)⟩ dX1_pass_2_55) hw (fun _ => z_pput (is := [1, 2, 3, 4, 6]) (cells := [(st, zo 1 (stF z co (nI ps) (nI (dy + 1)) (nI b5))), (z 0, zc G 1 (zI 9 (vI pl))), (z 1, zc G 1 (zI 9 (vI nu1))), (z 2, zc G 1 (zI 5 (vI ax1))), (z 4, zc G 2 (zI 5 (vI kn1)))]) (cells' := [(st, zo 1 (stF z co (nI ps) (nI (dy + 1)) (nI b5))), (z 0, zc G 1 (zI 9 (vI pl))), (z 1, zc G 1 (zI 9 (vI nu1))), (z 2, zc G 1 (zI 5 (vI ax1))), (z 4, zc G 2 (zI 5 (vI (updN kn1 k (kn1 k ||| orB (spyF pl nu1 ax1 k) ps)))))]) rfl rfl rfl) (fun u H locs hp hw => ?_)
              have hw : zS G ((sq k, zo (5 + kd) (sqF (nI k) (nI nd))) :: (st, zo 1 (stF z co (nI ps) (nI (dy + 1)) (nI b5))) :: (z 0, zc G 1 (zI 9 (vI pl))) :: (z 1, zc G 1 (zI 9 (vI nu1))) :: (z 2, zc G 1 (zI 5 (vI ax1))) :: (z 3, zc G 1 (zI 5 (vI le1))) :: (z 4, zc G 2 (zI 5 (vI (updN kn1 k (kn1 k ||| orB (spyF pl nu1 ax1 k) ps))))) :: (co, zo 0 (cF w (nI mn) bm sm lt)) :: (w 0, zc G 4 (zO 5 sf)) :: (sqX sq v k ++ rest)) s H locs := hw
              exact join_58 (updN kn1 k (kn1 k ||| orB (spyF pl nu1 ax1 k) ps)) (by first | exact day_spy hg1.1 hR1 hkv (by omega) (by rw [h1k, ← hkd]; exact c_50) | exact day_nospy hR1 (by rw [h1k, ← hkd]; exact c_50)) H locs ls hw (lv_sub hl [0, 1] rfl)
          refine z_get (v := .ref co) hC zf_X1_3_1 hw 1 rfl rfl dX1_pass_2_40 ?_
          refine lv_iload_n hx hb dX1_pass_2_43 rfl (lv_at hl 1 rfl) ?_
          refine z_cq (z_runVN (n := 1) (As := [.int (nI k)]) (rest := []) hC ⟨zn_X0_squirrel_2, q834, qs12⟩ (hz.1 _ (cw_t q936 rfl)) (m_X0_squirrel_2 G l kA (by first | assumption | (omega)) co w bm sm lt mn sf (sq k) kd nd (nI k) k hk5 hkd5 (hsf k hk1) (zrem [7, 8, 0] _)) hw (hw.perm (z_cut (is := [7, 8, 0]) (cells := [(co, zo 0 (cF w (nI mn) bm sm lt)), (w 0, zc G 4 (zO 5 sf)), (sq k, zo (5 + kd) (sqF (nI k) (nI nd)))]) rfl rfl)) 7 rfl rfl rfl rfl rfl (Nat.le_of_ble_eq_true rfl) hl.1 ⟨Nat.le_of_ble_eq_true rfl, Nat.le_of_ble_eq_true rfl⟩ ⟨(Nat.le_of_ble_eq_true rfl), (Nat.le_of_ble_eq_true rfl)⟩ dX1_pass_2_44) hw (fun _ => z_keep (is := [7, 8, 0]) (cs := [(co, zo 0 (cF w (nI mn) bm sm lt)), (w 0, zc G 4 (zO 5 sf)), (sq k, zo (5 + kd) (sqF (nI k) (nI nd)))]) rfl rfl) (fun r u H locs hp hw => ?_)
          obtain rfl : r = some (sq k) := hp
          rcases hk4 with rfl | rfl | rfl | rfl | rfl
          · skip
            have hl : lv_has ls 2 [(0, .ref st), (1, .int (nI k))] := hl
            have hw : zS G ((sq k, zo 5 (sqF (nI k) (nI nd))) :: (st, zo 1 (stF z co (nI ps) (nI (dy + 1)) (nI b5))) :: (z 0, zc G 1 (zI 9 (vI pl))) :: (z 1, zc G 1 (zI 9 (vI nu1))) :: (z 2, zc G 1 (zI 5 (vI ax1))) :: (z 3, zc G 1 (zI 5 (vI le1))) :: (z 4, zc G 2 (zI 5 (vI kn1))) :: (co, zo 0 (cF w (nI mn) bm sm lt)) :: (w 0, zc G 4 (zO 5 sf)) :: (sqX sq v k ++ rest)) s H locs := hw
            refine z_ci (z_runD (x := (⟨"NutCaches$Squirrel", "spies", "()Z"⟩ : MethodName)) (owner := "NutCaches$Habit") (n := 0) (As := []) (rest := []) hC ⟨zn_X12_spies, q945, ⟨by decide +kernel, by decide +kernel⟩, by decide +kernel⟩ (hz.1 _ (cw_d 5 rfl rfl)) (hz.1 _ (cw_d 6 rfl rfl)) (hz.1 _ (cw_t q937 rfl)) (hz.2.1 7 _ rfl) (m_X12_spies G l (sq k) _) hw hw 0 rfl rfl rfl rfl (Nat.le_of_ble_eq_true rfl) hl.1 ⟨Nat.le_of_ble_eq_true rfl, Nat.le_of_ble_eq_true rfl⟩ ⟨(Nat.le_of_ble_eq_true rfl), (Nat.le_of_ble_eq_true rfl)⟩ dX1_pass_2_47) hw (fun _ => List.Perm.refl _) (fun r u H locs hp hw => ?_)
            obtain rfl : r = bI False := hp
            exact join_50 (bI False) (by first | exact bI_iff ⟨fun h => h.elim, fun h => absurd h (by decide)⟩ | exact bI_iff ⟨fun _ => rfl, fun _ => trivial⟩) H locs ls hw (lv_sub hl [0, 1] rfl)
          · skip
            have hl : lv_has ls 2 [(0, .ref st), (1, .int (nI k))] := hl
            have hw : zS G ((sq k, zo 6 (sqF (nI k) (nI nd))) :: (st, zo 1 (stF z co (nI ps) (nI (dy + 1)) (nI b5))) :: (z 0, zc G 1 (zI 9 (vI pl))) :: (z 1, zc G 1 (zI 9 (vI nu1))) :: (z 2, zc G 1 (zI 5 (vI ax1))) :: (z 3, zc G 1 (zI 5 (vI le1))) :: (z 4, zc G 2 (zI 5 (vI kn1))) :: (co, zo 0 (cF w (nI mn) bm sm lt)) :: (w 0, zc G 4 (zO 5 sf)) :: (sqX sq v k ++ rest)) s H locs := hw
            refine z_ci (z_runD (x := (⟨"NutCaches$Squirrel", "spies", "()Z"⟩ : MethodName)) (owner := "NutCaches$Habit") (n := 0) (As := []) (rest := []) hC ⟨zn_X12_spies, q945, ⟨by decide +kernel, by decide +kernel⟩, by decide +kernel⟩ (hz.1 _ (cw_d 5 rfl rfl)) (hz.1 _ (cw_d 6 rfl rfl)) (hz.1 _ (cw_t q937 rfl)) (hz.2.1 5 _ rfl) (m_X12_spies G l (sq k) _) hw hw 0 rfl rfl rfl rfl (Nat.le_of_ble_eq_true rfl) hl.1 ⟨Nat.le_of_ble_eq_true rfl, Nat.le_of_ble_eq_true rfl⟩ ⟨(Nat.le_of_ble_eq_true rfl), (Nat.le_of_ble_eq_true rfl)⟩ dX1_pass_2_47) hw (fun _ => List.Perm.refl _) (fun r u H locs hp hw => ?_)
            obtain rfl : r = bI False := hp
            exact join_50 (bI False) (by first | exact bI_iff ⟨fun h => h.elim, fun h => absurd h (by decide)⟩ | exact bI_iff ⟨fun _ => rfl, fun _ => trivial⟩) H locs ls hw (lv_sub hl [0, 1] rfl)
          · skip
            have hl : lv_has ls 2 [(0, .ref st), (1, .int (nI k))] := hl
            have hw : zS G ((sq k, zo 7 (sqF (nI k) (nI nd))) :: (st, zo 1 (stF z co (nI ps) (nI (dy + 1)) (nI b5))) :: (z 0, zc G 1 (zI 9 (vI pl))) :: (z 1, zc G 1 (zI 9 (vI nu1))) :: (z 2, zc G 1 (zI 5 (vI ax1))) :: (z 3, zc G 1 (zI 5 (vI le1))) :: (z 4, zc G 2 (zI 5 (vI kn1))) :: (co, zo 0 (cF w (nI mn) bm sm lt)) :: (w 0, zc G 4 (zO 5 sf)) :: (sqX sq v k ++ rest)) s H locs := hw
            refine z_ci (z_runD (x := (⟨"NutCaches$Squirrel", "spies", "()Z"⟩ : MethodName)) (owner := "NutCaches$Habit") (n := 0) (As := []) (rest := []) hC ⟨zn_X12_spies, q945, ⟨by decide +kernel, by decide +kernel⟩, by decide +kernel⟩ (hz.1 _ (cw_d 5 rfl rfl)) (hz.1 _ (cw_d 6 rfl rfl)) (hz.1 _ (cw_t q937 rfl)) (hz.2.1 6 _ rfl) (m_X12_spies G l (sq k) _) hw hw 0 rfl rfl rfl rfl (Nat.le_of_ble_eq_true rfl) hl.1 ⟨Nat.le_of_ble_eq_true rfl, Nat.le_of_ble_eq_true rfl⟩ ⟨(Nat.le_of_ble_eq_true rfl), (Nat.le_of_ble_eq_true rfl)⟩ dX1_pass_2_47) hw (fun _ => List.Perm.refl _) (fun r u H locs hp hw => ?_)
            obtain rfl : r = bI False := hp
            exact join_50 (bI False) (by first | exact bI_iff ⟨fun h => h.elim, fun h => absurd h (by decide)⟩ | exact bI_iff ⟨fun _ => rfl, fun _ => trivial⟩) H locs ls hw (lv_sub hl [0, 1] rfl)
          · skip
            have hl : lv_has ls 2 [(0, .ref st), (1, .int (nI k))] := hl
            have hw : zS G ((sq k, zo 8 (sqF (nI k) (nI nd))) :: (st, zo 1 (stF z co (nI ps) (nI (dy + 1)) (nI b5))) :: (z 0, zc G 1 (zI 9 (vI pl))) :: (z 1, zc G 1 (zI 9 (vI nu1))) :: (z 2, zc G 1 (zI 5 (vI ax1))) :: (z 3, zc G 1 (zI 5 (vI le1))) :: (z 4, zc G 2 (zI 5 (vI kn1))) :: (co, zo 0 (cF w (nI mn) bm sm lt)) :: (w 0, zc G 4 (zO 5 sf)) :: (sqX sq v k ++ rest)) s H locs := hw
            refine z_ci (z_runD (x := (⟨"NutCaches$Squirrel", "spies", "()Z"⟩ : MethodName)) (owner := "NutCaches$Habit") (n := 0) (As := []) (rest := []) hC ⟨zn_X12_spies, q945, ⟨by decide +kernel, by decide +kernel⟩, by decide +kernel⟩ (hz.1 _ (cw_d 5 rfl rfl)) (hz.1 _ (cw_d 6 rfl rfl)) (hz.1 _ (cw_t q937 rfl)) (hz.2.1 4 _ rfl) (m_X12_spies G l (sq k) _) hw hw 0 rfl rfl rfl rfl (Nat.le_of_ble_eq_true rfl) hl.1 ⟨Nat.le_of_ble_eq_true rfl, Nat.le_of_ble_eq_true rfl⟩ ⟨(Nat.le_of_ble_eq_true rfl), (Nat.le_of_ble_eq_true rfl)⟩ dX1_pass_2_47) hw (fun _ => List.Perm.refl _) (fun r u H locs hp hw => ?_)
            obtain rfl : r = bI False := hp
            exact join_50 (bI False) (by first | exact bI_iff ⟨fun h => h.elim, fun h => absurd h (by decide)⟩ | exact bI_iff ⟨fun _ => rfl, fun _ => trivial⟩) H locs ls hw (lv_sub hl [0, 1] rfl)
          · skip
            have hl : lv_has ls 2 [(0, .ref st), (1, .int (nI k))] := hl
            have hw : zS G ((sq k, zo 9 (sqF (nI k) (nI nd))) :: (st, zo 1 (stF z co (nI ps) (nI (dy + 1)) (nI b5))) :: (z 0, zc G 1 (zI 9 (vI pl))) :: (z 1, zc G 1 (zI 9 (vI nu1))) :: (z 2, zc G 1 (zI 5 (vI ax1))) :: (z 3, zc G 1 (zI 5 (vI le1))) :: (z 4, zc G 2 (zI 5 (vI kn1))) :: (co, zo 0 (cF w (nI mn) bm sm lt)) :: (w 0, zc G 4 (zO 5 sf)) :: (sqX sq v k ++ rest)) s H locs := hw
            refine z_ci (z_runB (x := (⟨"NutCaches$Squirrel", "spies", "()Z"⟩ : MethodName)) (owner := "NutCaches$Habit") (C := "NutCaches$Spy") (n := 0) (As := []) (rest := []) hC ⟨zn_X10_spies, q943, q942, ⟨by decide +kernel, by decide +kernel⟩, by decide +kernel⟩ (va_Nw.use rfl (hz.1 _ (cw_d 5 rfl rfl))) (va_Nw.use rfl (hz.1 _ (cw_d 6 rfl rfl))) (z_declO hC q945 q946) (m_X10_spies G l kA (by first | assumption | (omega)) (sq k) (nI k) (nI nd) (zrem [0] _)) hw (hw.perm (z_cut (is := [0]) (cells := [(sq k, zo 9 (sqF (nI k) (nI nd)))]) rfl rfl)) 0 rfl rfl rfl rfl rfl (Nat.le_of_ble_eq_true rfl) hl.1 ⟨Nat.le_of_ble_eq_true rfl, Nat.le_of_ble_eq_true rfl⟩ ⟨(Nat.le_of_ble_eq_true rfl), (Nat.le_of_ble_eq_true rfl)⟩ dX1_pass_2_47) hw (fun _ => z_keep (is := [0]) (cs := [(sq k, zo 9 (sqF (nI k) (nI nd)))]) rfl rfl) (fun r u H locs hp hw => ?_)
            obtain rfl : r = bI True := hp
            exact join_50 (bI True) (by first | exact bI_iff ⟨fun h => h.elim, fun h => absurd h (by decide)⟩ | exact bI_iff ⟨fun _ => rfl, fun _ => trivial⟩) H locs ls hw (lv_sub hl [0, 1] rfl)
        · skip
          refine lv_goto (tgt := 143) hx hb dX1_pass_2_36 (by decide) ?_
          refine lv_iinc (v := (nI (k + 1))) (lv' := [(1, .int (nI (k + 1))), (0, .ref st)]) hx hb dX1_pass_2_143 hl (k := 1) rfl (zincn _ 1) (by decide) rfl (fun ls hl => ?_)
          refine lv_goto (tgt := 17) hx hb dX1_pass_2_146 (by decide) ?_
          exact ih_17 (k + 1) v1 a1 nu1 ax1 le1 kn1 b5 (by omega) (passTo_gone hpt ((hR1.2.2.1 k hk5).1.symm.trans c_33)) hg1 hR1 (hung_n hhb (hpi.2.2.2 k (Nat.le_refl k))) (by omega) H locs ls hw (lv_sub hl [1, 0] rfl)
  exact loop_17 ((v 1 - 0) + 1) 0 (updN v 2 (v 2 + 1)) (fun _ => none) nu ax le kn 0 (Nat.zero_le _) rfl (Hg_day hg (by omega)) (sRel_day hR) hung_0 (Nat.lt_succ_self _) H locs ls hw (lv_sub hl [1, 0] rfl)
theorem z_cutP {E cells E' P T : va_W} (h : E.Perm (cells ++ E')) : (E ++ (P ++ T)).Perm (cells ++ (P ++ (E' ++ T))) := by
  refine (h.append_right _).trans ?_
  rw [List.append_assoc]
  exact (List.perm_append_comm_assoc E' P T).append_left cells
theorem z_putP {E cells E' P T : va_W} (h : (cells ++ E').Perm E) : (cells ++ (P ++ (E' ++ T))).Perm (E ++ (P ++ T)) := (z_cutP h.symm).symm
theorem sqW_eq {sq v w : Nat → Nat} (h1 : v 1 = w 1) (h : ∀ i, i < v 1 → v (21 + 5 * i) = w (21 + 5 * i) ∧ v (21 + 5 * i + 2) = w (21 + 5 * i + 2)) : sqW sq v = sqW sq w := by
  unfold sqW
  rw [← h1]
  apply List.map_congr_left
  intro i hi
  have hi' := List.mem_range.mp hi
  unfold sqC
  rw [(h i hi').1, (h i hi').2]
theorem sqW_days {sq v : Nat → Nat} {n : Nat} (hH : Hw v) (hd : v 2 + n < 65535) : sqW sq v = sqW sq (daysN n v) := by
  have h := (daysN_inv hH n hd).2.2
  have h1 := hH.2.1
  exact sqW_eq (h 1 still_1).symm (fun i hi => ⟨(h _ (still_k (by omega))).symm, (h _ (still_n (by omega))).symm⟩)
theorem passN_Hg {v : Nat → Nat} (hg : Hg v) (hd : v 2 < 65000) : Hg (passN v) := by
  have aux : ∀ k, k ≤ v 1 → Hg (passTo v k).1 := by
    intro k
    induction k with
    | zero => intro _; exact Hg_day hg (by omega)
    | succ k ih =>
      intro hk
      have hpi := passTo_inv hg.1 (show v 2 < 65535 by omega) k (by omega)
      have hgk := ih (by omega)
      have h1 := hg.1.2.1
      have h11 : (passTo v k).1 1 = v 1 := hpi.2.2.1 1 still_1
      rcases hp : passTo v k with ⟨v1, a1⟩
      rw [hp] at hgk h11
      dsimp only at hgk h11
      by_cases hgo : goneN v1 k
      · rw [passTo_gone hp hgo]; exact hgk
      · have hgW := wOne_ok (k := k) hgk (by omega)
        by_cases hwk : wakesN (v1 (21 + 5 * k)) (v1 2)
        · rw [passTo_wake hp hgo hwk]
          have hE := eatN_Hg (i := k) hgW.1 (by rw [hgW.2.2.1]; omega)
          refine Hg_lean hE (by omega) ?_
          have h3 := hE.1.2.2.2.2.2 k (by omega)
          have e3 := eatN_ne (j := 21 + 5 * k + 3) hgW.1.1 (show k < 5 by omega) (by omega) (by omega) (fun t ht => by omega)
          have h33 := hgk.1.2.2.2.2.2 k (by omega)
          have hne : ¬ v1 (21 + 5 * k + 3) = 3 := hgo
          rw [hgW.2.2.2.2.2] at e3
          rw [e3]
          exact Nat.le_of_lt_succ (ite_lt (by omega) (by omega))
        · rw [passTo_sleep hp hgo hwk]; exact hgW.1
  exact aux (v 1) (Nat.le_refl _)
theorem daysN_Hg {v : Nat → Nat} (hg : Hg v) : ∀ n, v 2 + n < 65000 → Hg (daysN n v)
  | 0, _ => hg
  | n + 1, h => by
    show Hg (passN (daysN n v))
    exact passN_Hg (daysN_Hg hg n (by omega)) (by rw [(daysN_inv hg.1 n (by omega)).2.1]; omega)
theorem zv_X1_110 : zVs RX1 110 yX1_pass_2 cX1_pass_2 2 none 0 := ⟨lw_V q928 q929 q930 q50 q931, ⟨by decide +kernel, by decide +kernel⟩, by decide +kernel⟩
set_option maxHeartbeats 4000000 in
theorem m_X1_pass (G : zE) (l : Launch) (kA : Nat → Nat) (hG : zG G kA) (st : Nat) (co : Nat) (z : Nat → Nat) (w : Nat → Nat) (bm : Int32) (sm : Int32) (lt : Int32) (ps : Nat) (dy : Nat) (mn : Nat) (gg : Int32) (v : Nat → Nat) (pl : Nat → Nat) (nu : Nat → Nat) (ax : Nat → Nat) (le : Nat → Nat) (kn : Nat → Nat) (sf : Nat → Option Nat) (sq : Nat → Nat) (hps : ps = v 0) (hmn : mn = v 1) (hdy : dy = v 2) (n : Nat) (hd : v 2 + n < 64000) (hg : Hg v) (hR : sRel v pl nu ax le kn) (hsf : ∀ i, i < v 1 → sf i = some (sq i)) (vq : Nat → Nat) (hvq : sqW sq vq = sqW sq v) (rest : va_W) : zMq G l yX1_pass cX1_pass 3 (some (.object "NutCaches$State")) 6 0 0 [.ref st, .int (nI n)] ((st, zo 1 (stF z co (nI ps) (nI dy) (gg))) :: (z 0, zc G 1 (zI 9 (vI pl))) :: (z 1, zc G 1 (zI 9 (vI nu))) :: (z 2, zc G 1 (zI 5 (vI ax))) :: (z 3, zc G 1 (zI 5 (vI le))) :: (z 4, zc G 2 (zI 5 (vI kn))) :: (co, zo 0 (cF w (nI mn) bm sm lt)) :: (w 0, zc G 4 (zO 5 sf)) :: (sqW sq vq ++ rest)) (fun (r : Option Nat) u => r = some st ∧ sRel (daysN n v) pl u.1 u.2.1 u.2.2.1 u.2.2.2.1) (fun (u : (Nat → Nat) × (Nat → Nat) × (Nat → Nat) × (Nat → Nat) × Int32) => (st, zo 1 (stF z co (nI ps) (nI (dy + n)) (u.2.2.2.2))) :: (z 0, zc G 1 (zI 9 (vI pl))) :: (z 1, zc G 1 (zI 9 (vI u.1))) :: (z 2, zc G 1 (zI 5 (vI u.2.1))) :: (z 3, zc G 1 (zI 5 (vI u.2.2.1))) :: (z 4, zc G 2 (zI 5 (vI u.2.2.2.1))) :: (co, zo 0 (cF w (nI mn) bm sm lt)) :: (w 0, zc G 4 (zO 5 sf)) :: (sqW sq vq ++ rest)) := by
  refine z_begQ (by first | exact Or.inl ⟨_, rfl⟩ | exact Or.inr ⟨_, rfl⟩) (by decide) (Nat.le_of_ble_eq_true rfl) (fun p e s m args below meth c ls Q hC hl hw hend => ?_)
  have hx := hC.hx
  have hb := hC.hb
  have hl : lv_has ls 3 [(0, .ref st), (1, .int (nI n))] := hl
  have hw : zS G ((st, zo 1 (stF z co (nI ps) (nI dy) (gg))) :: (z 0, zc G 1 (zI 9 (vI pl))) :: (z 1, zc G 1 (zI 9 (vI nu))) :: (z 2, zc G 1 (zI 5 (vI ax))) :: (z 3, zc G 1 (zI 5 (vI le))) :: (z 4, zc G 2 (zI 5 (vI kn))) :: (co, zo 0 (cF w (nI mn) bm sm lt)) :: (w 0, zc G 4 (zO 5 sf)) :: (sqW sq vq ++ rest)) s s.heap [] := hw
  have hz := hG s hC.hZ.1
  refine lv_iconst (v := (nI 0)) hx hb dX1_pass_0 zk_0 ?_
  refine lv_istore_n (lv' := [(2, .int (nI 0)), (0, .ref st), (1, .int (nI n))]) hx hb dX1_pass_1 rfl hl (by decide) rfl (fun ls hl => ?_)
  have loop_2 : ∀ (fuel : Nat) (k : Nat) (nu1 : Nat → Nat) (ax1 : Nat → Nat) (le1 : Nat → Nat) (kn1 : Nat → Nat) (gq : Int32), (k ≤ n) → (sRel (daysN k v) pl nu1 ax1 le1 kn1) → (n - k) < fuel → ∀ (H : Heap) (locs : List Loc) (ls : Array Slot), zS G ((st, zo 1 (stF z co (nI ps) (nI (dy + k)) (gq))) :: (z 0, zc G 1 (zI 9 (vI pl))) :: (z 1, zc G 1 (zI 9 (vI nu1))) :: (z 2, zc G 1 (zI 5 (vI ax1))) :: (z 3, zc G 1 (zI 5 (vI le1))) :: (z 4, zc G 2 (zI 5 (vI kn1))) :: (co, zo 0 (cF w (nI mn) bm sm lt)) :: (w 0, zc G 4 (zO 5 sf)) :: (sqW sq vq ++ rest)) s H locs → lv_has ls 3 [(0, .ref st), (1, .int (nI n)), (2, .int (nI k))] → W p l e (zR 6 0 0) s m args below meth c H locs 0 0 Q (F0 m 2 ls []) := by
    intro fuel
    induction fuel with
    | zero => intro k nu1 ax1 le1 kn1 gq hk hR1 hfuel; exact absurd hfuel (Nat.not_lt_zero _)
    | succ fuel_2 ih_2 =>
      intro k nu1 ax1 le1 kn1 gq hk hR1 hfuel_2 H locs ls hw hl
      refine lv_iload_n hx hb dX1_pass_2 rfl (lv_at hl 2 rfl) ?_
      refine lv_iload_n hx hb dX1_pass_3 rfl (lv_at hl 1 rfl) ?_
      refine zi_ge (tgt := 17) hx hb (by omega) (by omega) dX1_pass_4 (by decide) (fun c_4 => ?_) (fun c_4 => ?_)
      · skip
        refine lv_aload_n hx hb dX1_pass_17 rfl (lv_at hl 0 rfl) ?_
        obtain rfl : k = n := by omega
        exact hend _ _ _ _ _ _ (some st) (nu1, ax1, le1, kn1, gq) hw ⟨rfl, hR1⟩ (Nat.le_of_ble_eq_true rfl) (Nat.le_of_ble_eq_true rfl) dX1_pass_18
      · skip
        have hdi := daysN_inv hg.1 k (show v 2 + k < 65535 by omega)
        have hgk := daysN_Hg hg k (by omega)
        have hk1 : daysN k v 1 = v 1 := hdi.2.2 1 still_1
        refine lv_aload_n hx hb dX1_pass_7 rfl (lv_at hl 0 rfl) ?_
        refine z_cv (z_runV (As := []) (rest := []) hC zv_X1_110 (m_X1_pass_2 G l kA (by first | assumption | (omega)) st co z w bm sm lt ps (dy + k) mn gq (daysN k v) pl nu1 ax1 le1 kn1 sf sq (hps.trans (hdi.2.2 0 still_0).symm) (hmn.trans hk1.symm) (by rw [hdi.2.1, hdy]) (by rw [hdi.2.1]; omega) hgk hR1 (fun i hi => hsf i (by rw [← hk1]; exact hi)) vq (hvq.trans (sqW_days hg.1 (by omega))) (zrem [0, 1, 2, 3, 4, 5, 6, 7] [(st, zo 1 (stF z co (nI ps) (nI (dy + k)) (gq))), (z 0, zc G 1 (zI 9 (vI pl))), (z 1, zc G 1 (zI 9 (vI nu1))), (z 2, zc G 1 (zI 5 (vI ax1))), (z 3, zc G 1 (zI 5 (vI le1))), (z 4, zc G 2 (zI 5 (vI kn1))), (co, zo 0 (cF w (nI mn) bm sm lt)), (w 0, zc G 4 (zO 5 sf))] ++ rest)) hw (hw.perm (z_cutP (z_cut (is := [0, 1, 2, 3, 4, 5, 6, 7]) (ws := [(st, zo 1 (stF z co (nI ps) (nI (dy + k)) (gq))), (z 0, zc G 1 (zI 9 (vI pl))), (z 1, zc G 1 (zI 9 (vI nu1))), (z 2, zc G 1 (zI 5 (vI ax1))), (z 3, zc G 1 (zI 5 (vI le1))), (z 4, zc G 2 (zI 5 (vI kn1))), (co, zo 0 (cF w (nI mn) bm sm lt)), (w 0, zc G 4 (zO 5 sf))]) (cells := [(st, zo 1 (stF z co (nI ps) (nI (dy + k)) (gq))), (z 0, zc G 1 (zI 9 (vI pl))), (z 1, zc G 1 (zI 9 (vI nu1))), (z 2, zc G 1 (zI 5 (vI ax1))), (z 3, zc G 1 (zI 5 (vI le1))), (z 4, zc G 2 (zI 5 (vI kn1))), (co, zo 0 (cF w (nI mn) bm sm lt)), (w 0, zc G 4 (zO 5 sf))]) rfl rfl))) 0 rfl rfl rfl rfl rfl (Nat.le_of_ble_eq_true rfl) hl.1 ⟨Nat.le_of_ble_eq_true rfl, Nat.le_of_ble_eq_true rfl⟩ ⟨(Nat.le_of_ble_eq_true rfl), (Nat.le_of_ble_eq_true rfl)⟩ dX1_pass_8) hw (fun u => z_putP (z_pput (is := [0, 1, 2, 3, 4, 5, 6, 7]) (ws := [(st, zo 1 (stF z co (nI ps) (nI (dy + k)) (gq))), (z 0, zc G 1 (zI 9 (vI pl))), (z 1, zc G 1 (zI 9 (vI nu1))), (z 2, zc G 1 (zI 5 (vI ax1))), (z 3, zc G 1 (zI 5 (vI le1))), (z 4, zc G 2 (zI 5 (vI kn1))), (co, zo 0 (cF w (nI mn) bm sm lt)), (w 0, zc G 4 (zO 5 sf))]) (cells := [(st, zo 1 (stF z co (nI ps) (nI (dy + k)) (gq))), (z 0, zc G 1 (zI 9 (vI pl))), (z 1, zc G 1 (zI 9 (vI nu1))), (z 2, zc G 1 (zI 5 (vI ax1))), (z 3, zc G 1 (zI 5 (vI le1))), (z 4, zc G 2 (zI 5 (vI kn1))), (co, zo 0 (cF w (nI mn) bm sm lt)), (w 0, zc G 4 (zO 5 sf))]) (cells' := [(st, zo 1 (stF z co (nI ps) (nI ((dy + k) + 1)) (nI u.2.2.2.2))), (z 0, zc G 1 (zI 9 (vI pl))), (z 1, zc G 1 (zI 9 (vI u.1))), (z 2, zc G 1 (zI 5 (vI u.2.1))), (z 3, zc G 1 (zI 5 (vI u.2.2.1))), (z 4, zc G 2 (zI 5 (vI u.2.2.2.1))), (co, zo 0 (cF w (nI mn) bm sm lt)), (w 0, zc G 4 (zO 5 sf))]) rfl rfl rfl)) (fun u H locs hp hw => ?_)
        obtain ⟨nu7_1, ax7_1, le7_1, kn7_1, hbq⟩ := u
        have hw : zS G ((st, zo 1 (stF z co (nI ps) (nI ((dy + k) + 1)) (nI hbq))) :: (z 0, zc G 1 (zI 9 (vI pl))) :: (z 1, zc G 1 (zI 9 (vI nu7_1))) :: (z 2, zc G 1 (zI 5 (vI ax7_1))) :: (z 3, zc G 1 (zI 5 (vI le7_1))) :: (z 4, zc G 2 (zI 5 (vI kn7_1))) :: (co, zo 0 (cF w (nI mn) bm sm lt)) :: (w 0, zc G 4 (zO 5 sf)) :: (sqW sq vq ++ rest)) s H locs := hw
        obtain ⟨hpR, hpH⟩ := hp
        refine lv_iinc (v := (nI (k + 1))) (lv' := [(2, .int (nI (k + 1))), (0, .ref st), (1, .int (nI n))]) hx hb dX1_pass_11 hl (k := 2) rfl (zincn _ 1) (by decide) rfl (fun ls hl => ?_)
        refine lv_goto (tgt := 2) hx hb dX1_pass_14 (by decide) ?_
        have hw : zS G ((st, zo 1 (stF z co (nI ps) (nI (dy + (k + 1))) ((nI hbq)))) :: (z 0, zc G 1 (zI 9 (vI pl))) :: (z 1, zc G 1 (zI 9 (vI nu7_1))) :: (z 2, zc G 1 (zI 5 (vI ax7_1))) :: (z 3, zc G 1 (zI 5 (vI le7_1))) :: (z 4, zc G 2 (zI 5 (vI kn7_1))) :: (co, zo 0 (cF w (nI mn) bm sm lt)) :: (w 0, zc G 4 (zO 5 sf)) :: (sqW sq vq ++ rest)) s H locs := hw
        exact ih_2 (k + 1) nu7_1 ax7_1 le7_1 kn7_1 (nI hbq) (by omega) hpR (by omega) H locs ls hw (lv_sub hl [1, 2, 0] rfl)
  have hw : zS G ((st, zo 1 (stF z co (nI ps) (nI (dy + 0)) (gg))) :: (z 0, zc G 1 (zI 9 (vI pl))) :: (z 1, zc G 1 (zI 9 (vI nu))) :: (z 2, zc G 1 (zI 5 (vI ax))) :: (z 3, zc G 1 (zI 5 (vI le))) :: (z 4, zc G 2 (zI 5 (vI kn))) :: (co, zo 0 (cF w (nI mn) bm sm lt)) :: (w 0, zc G 4 (zO 5 sf)) :: (sqW sq vq ++ rest)) s s.heap [] := hw
  exact loop_2 ((n - 0) + 1) 0 nu ax le kn gg (by omega) hR (Nat.lt_succ_self _) s.heap [] ls hw (lv_sub hl [1, 2, 0] rfl)
