/-! COMPONENT: ask -/
set_option maxRecDepth 100000
/-! ask: as the component counts -/
def dC (kd m d : Nat) : Nat := if (kd = 3 → (d + 1) % 2 = 0) then wantsN kd m + 100 * (if kd < 2 then 0 else if kd = 2 then 1 else 2) else 300
theorem dC_eq (kd m d : Nat) : dN kd m d = dC kd m d := by
  unfold dN dC
  by_cases h : wakesN kd (d + 1)
  · rw [ifP_t h]; exact (if_pos h).symm
  · rw [ifP_f h]; exact (if_neg h).symm
def sC (kd m d : Nat) : Nat := if (kd = 3 → (d + 1) % 2 = 0) then 4 * wantsN kd m + (if kd < 2 then 0 else if kd = 2 then 1 else 2) else 3
theorem sC_eq (kd m d : Nat) : sightN kd m d = sC kd m d := by
  unfold sightN sC
  by_cases h : wakesN kd (d + 1)
  · rw [ifP_t h]; exact (if_pos h).symm
  · rw [ifP_f h]; exact (if_neg h).symm
def lkC (ks m d a : Nat) : Nat → Nat
  | 0 => 0
  | b + 1 => lkC ks m d a b + (if ks.testBit a = true ∧ ks.testBit b = true ∧ sC a m d = sC b m d then 1 else 0)
def alC (ks m d : Nat) : Nat → Nat
  | 0 => 0
  | a + 1 => max (alC ks m d a) (lkC ks m d a 5)
theorem lkC_eq (ks m d a : Nat) : ∀ b, likeN ks m d a b = lkC ks m d a b
  | 0 => rfl
  | b + 1 => by rw [likeN, lkC, lkC_eq ks m d a b, sC_eq, sC_eq]
theorem alC_eq (ks m d : Nat) : ∀ a, alikeN ks m d a = alC ks m d a
  | 0 => rfl
  | a + 1 => by
    rw [alikeN, alC, alC_eq ks m d a, lkC_eq]
    split
    · rw [Nat.max_eq_right (by omega)]
    · rw [Nat.max_eq_left (by omega)]
def eqC (ks m d b a : Nat) : Bool := decide (b = a) || (ks.testBit b && ks.testBit a && decide (dC b m d = dC a m d))
def likL (ks m d a : Nat) : Nat → Nat
  | 0 => 0
  | b + 1 => likL ks m d a b + (if eqC ks m d b a = true then 1 else 0)
def mostC (ks m d : Nat) : Nat → Nat
  | 0 => 0
  | a + 1 => max (mostC ks m d a) (likL ks m d a (a + 1))
theorem likL_le (ks m d a : Nat) : ∀ b, likL ks m d a b ≤ b
  | 0 => Nat.le_refl _
  | b + 1 => by have := likL_le ks m d a b; rw [likL]; split <;> omega
theorem mostC_le (ks m d : Nat) : ∀ a, mostC ks m d a ≤ a
  | 0 => Nat.le_refl _
  | a + 1 => by have := mostC_le ks m d a; have := likL_le ks m d a (a + 1); rw [mostC]; omega
theorem most_all : ∀ ks, ks < 32 → ∀ j, j < 18 → ks = 0 ∨ mostC ks ((j + 2) / 2) ((j + 2) % 2) 5 = alC ks ((j + 2) / 2) ((j + 2) % 2) 5 := by decide +kernel
theorem ask_0 : ∀ j, askN 0 j = (none, 0)
  | 0 => rfl
  | j + 1 => by
    rw [askN, ask_0 j, if_neg (Nat.not_lt_zero _), Nat.min_zero]
theorem ask_step {ks j : Nat} (h : ks < 32) (hj : j < 18) : (if mostC ks ((j + 2) / 2) ((j + 2) % 2) 5 < (askN ks j).2 then some (j + 2) else (askN ks j).1) = (askN ks (j + 1)).1 ∧ min (askN ks j).2 (mostC ks ((j + 2) / 2) ((j + 2) % 2) 5) = (askN ks (j + 1)).2 := by
  rcases most_all ks h j hj with rfl | e
  · rw [ask_0, ask_0, if_neg (Nat.not_lt_zero _), Nat.zero_min]; exact ⟨rfl, rfl⟩
  · rw [e, ← alC_eq, Nat.min_comm]; exact ⟨rfl, rfl⟩
theorem ask_le (ks : Nat) : ∀ j, (askN ks j).2 ≤ 9
  | 0 => onesN_le _ _
  | j + 1 => by
    show min _ _ ≤ 9
    exact Nat.le_trans (Nat.min_le_right _ _) (ask_le ks j)
def dV (ks m d a : Nat) : Int32 := if ks.testBit a = true then nI (dC a m d) else -1 - nI a
theorem dV_eq {ks m d a b : Nat} (hm : m ≤ 9) (ha : a < 5) (hb : b < 5) : dV ks m d b = dV ks m d a ↔ eqC ks m d b a = true := by
  have l1 : dC a m d < 400 := by rw [← dC_eq]; exact dN_lt hm
  have l2 : dC b m d < 400 := by rw [← dC_eq]; exact dN_lt hm
  have n1 : ∀ x y : Nat, x < 400 → y < 5 → nI x ≠ -1 - nI y := by
    intro x y hx hy h
    have e := congrArg Int32.toInt h
    rw [nI_toInt (by omega)] at e
    have : ∀ y, y < 5 → (-1 - nI y).toInt < 0 := by decide
    have := this y hy
    omega
  have n2 : ∀ x, x < 5 → ∀ y, y < 5 → (-1 - nI x = -1 - nI y ↔ x = y) := by decide
  unfold dV eqC
  by_cases hba : b = a
  · subst hba; simp
  · by_cases h1 : ks.testBit b = true
    · by_cases h2 : ks.testBit a = true
      · rw [if_pos h1, if_pos h2]
        simp only [h1, h2, hba, decide_false, Bool.false_or, Bool.true_and, decide_eq_true_eq]
        exact ⟨fun q => by have e := congrArg Int32.toInt q; rw [nI_toInt (by omega), nI_toInt (by omega)] at e; omega, fun q => by rw [q]⟩
      · rw [if_pos h1, if_neg h2]
        simp only [h2, hba, decide_false, Bool.false_or, Bool.and_false, Bool.false_and, Bool.false_eq_true, iff_false]
        exact n1 _ _ l2 ha
    · by_cases h2 : ks.testBit a = true
      · rw [if_neg h1, if_pos h2]
        simp only [h1, hba, decide_false, Bool.false_or, Bool.and_false, Bool.false_and, Bool.false_eq_true, iff_false]
        exact fun q => n1 _ _ l1 hb q.symm
      · rw [if_neg h1, if_neg h2]
        simp only [h1, hba, decide_false, Bool.false_or, Bool.and_false, Bool.false_and, Bool.false_eq_true, iff_false]
        exact fun q => hba ((n2 b hb a ha).mp q)
theorem upd_all {D : Nat → Int32} {a : Nat} {x : Nat → Int32} (h : ∀ b, b < a → D b = x b) : ∀ b, b < a + 1 → upd D a (x a) b = x b := by
  intro b hb
  unfold upd
  by_cases e : b = a
  · rw [if_pos e, e]
  · rw [if_neg e]; exact h b (by omega)
set_option maxHeartbeats 4000000 in
theorem m_X0_ask (G : zE) (l : Launch) (kA : Nat → Nat) (hG : zG G kA) (co : Nat) (w : Nat → Nat) (mn : Int32) (bm : Int32) (lt : Int32) (A : AS) (sm : Nat) (gf : Nat → Option Nat) (gs : Nat → va_W) (hA : AOk A) (hg : sgR G A sm gf gs) (rest : va_W) : zMi G l yX0_ask cX0_ask 10 (some .int) 8 121 245 [.ref co] ((co, zo 0 (cF w mn bm (nI sm) lt)) :: (w 6, zc G 7 (zO 6 gf)) :: (pw 6 gs ++ rest)) (fun (r : Int32) (_ : Unit) => r = F_ask A) (fun (_ : Unit) => (co, zo 0 (cF w mn bm (nI sm) lt)) :: (w 6, zc G 7 (zO 6 gf)) :: (pw 6 gs ++ rest)) := by
  refine z_begI (by decide) (Nat.le_of_ble_eq_true rfl) (fun p e s m args below meth c ls Q hC hl hw hend => ?_)
  have hx := hC.hx
  have hb := hC.hb
  have hl : lv_has ls 10 [(0, .ref co)] := hl
  have hw : zS G ((co, zo 0 (cF w mn bm (nI sm) lt)) :: (w 6, zc G 7 (zO 6 gf)) :: (pw 6 gs ++ rest)) s s.heap [] := hw
  have hz := hG s hC.hZ.1
  have hg1 := hg.1
  have hs6 : sm ≤ 6 := by rw [hg1]; exact hA.2.2.2.2.2.1.1
  refine lv_aload_n hx hb dX0_ask_0 rfl (lv_at hl 0 rfl) ?_
  refine z_ci (z_runV (As := []) (rest := []) hC zv_X0_266 (m_X0_kindsSeen G l kA (by first | assumption | (omega)) co w mn bm lt A sm gf gs (by first | assumption | (omega)) (by first | assumption | (omega)) (zrem [0, 1] [(co, zo 0 (cF w mn bm (nI sm) lt)), (w 6, zc G 7 (zO 6 gf))] ++ rest)) hw (hw.perm (z_cutP (z_cut (is := [0, 1]) (ws := [(co, zo 0 (cF w mn bm (nI sm) lt)), (w 6, zc G 7 (zO 6 gf))]) (cells := [(co, zo 0 (cF w mn bm (nI sm) lt)), (w 6, zc G 7 (zO 6 gf))]) rfl rfl))) 0 rfl rfl rfl rfl rfl (Nat.le_of_ble_eq_true rfl) hl.1 ⟨Nat.le_of_ble_eq_true rfl, Nat.le_of_ble_eq_true rfl⟩ ⟨(Nat.le_of_ble_eq_true rfl), (Nat.le_of_ble_eq_true rfl)⟩ dX0_ask_1) hw (fun _ => z_putP (z_pput (is := [0, 1]) (ws := [(co, zo 0 (cF w mn bm (nI sm) lt)), (w 6, zc G 7 (zO 6 gf))]) (cells := [(co, zo 0 (cF w mn bm (nI sm) lt)), (w 6, zc G 7 (zO 6 gf))]) (cells' := [(co, zo 0 (cF w mn bm (nI sm) lt)), (w 6, zc G 7 (zO 6 gf))]) rfl rfl rfl)) (fun r u H locs hp hw => ?_)
  obtain rfl : r = nI (kindsN (aS A) (aSg A)) := hp
  obtain ⟨ks, hks⟩ : ∃ k, k = kindsN (aS A) (aSg A) := ⟨_, rfl⟩
  rw [show nI (kindsN (aS A) (aSg A)) = nI ks from by rw [hks]]
  have hk32 : ks < 32 := by rw [hks]; exact orB_lt _ 5
  refine lv_istore_n (lv' := [(1, .int (nI ks)), (0, .ref co)]) hx hb dX0_ask_4 rfl hl (by decide) rfl (fun ls hl => ?_)
  refine lv_iconst (v := -1) hx hb dX0_ask_5 zk_m1 ?_
  refine lv_istore_n (lv' := [(2, .int (-1)), (1, .int (nI ks)), (0, .ref co)]) hx hb dX0_ask_6 rfl hl (by decide) rfl (fun ls hl => ?_)
  refine lv_iload_n hx hb dX0_ask_7 rfl (lv_at hl 1 rfl) ?_
  refine z_ci (z_runS (As := [.int (nI ks)]) (rest := []) hC zs_X0_228 (m_J18_bitCount G l (nI ks) ks (by omega) rfl _) hw rfl rfl (Nat.le_of_ble_eq_true rfl) hl.1 ⟨Nat.le_of_ble_eq_true rfl, Nat.le_of_ble_eq_true rfl⟩ ⟨(Nat.le_of_ble_eq_true rfl), (Nat.le_of_ble_eq_true rfl)⟩ dX0_ask_8) hw (fun _ => List.Perm.refl _) (fun r u H locs hp hw => ?_)
  obtain rfl : r = nI (onesN ks 9) := hp
  refine lv_istore_n (lv' := [(3, .int (nI (onesN ks 9))), (2, .int (-1)), (1, .int (nI ks)), (0, .ref co)]) hx hb dX0_ask_11 rfl hl (by decide) rfl (fun ls hl => ?_)
  refine lv_iconst (v := (nI 5)) hx hb dX0_ask_12 zk_5 ?_
  refine z_newa (t := 0) (atype := .int) (a0 := zI 5 (fun _ => 0)) hC (hC.hts _ q739) (fun _ => rfl) hw (fun _ => rfl) (by decide) (by decide) (Nat.le_of_ble_eq_true rfl) (Nat.le_of_ble_eq_true rfl) dX0_ask_13 (fun q_13 H hw => ?_)
  have hw : zS G ((q_13, zc G 0 (zI 5 (fun _ => 0))) :: (co, zo 0 (cF w mn bm (nI sm) lt)) :: (w 6, zc G 7 (zO 6 gf)) :: (pw 6 gs ++ rest)) s H locs := hw
  refine lv_astore (lv' := [(4, .ref q_13), (3, .int (nI (onesN ks 9))), (2, .int (-1)), (1, .int (nI ks)), (0, .ref co)]) hx hb dX0_ask_15 hl (by decide) rfl (fun ls hl => ?_)
  refine lv_iconst (v := (nI 2)) hx hb dX0_ask_17 zk_2 ?_
  refine lv_istore (lv' := [(5, .int (nI 2)), (4, .ref q_13), (3, .int (nI (onesN ks 9))), (2, .int (-1)), (1, .int (nI ks)), (0, .ref co)]) hx hb dX0_ask_18 hl (by decide) rfl (fun ls hl => ?_)
  have loop_20 : ∀ (fuel : Nat) (j : Nat) (D : Nat → Int32), (j ≤ 18) → (18 - j) < fuel → ∀ (H : Heap) (locs : List Loc) (ls : Array Slot), zS G ((q_13, zc G 0 (zI 5 D)) :: (co, zo 0 (cF w mn bm (nI sm) lt)) :: (w 6, zc G 7 (zO 6 gf)) :: (pw 6 gs ++ rest)) s H locs → lv_has ls 10 [(0, .ref co), (1, .int (nI ks)), (2, .int (optI ((askN ks j).1))), (3, .int (nI ((askN ks j).2))), (4, .ref q_13), (5, .int (nI (j + 2)))] → W p l e (zR 8 121 245) s m args below meth c H locs (31 + 5 * j) (65 + 10 * j) Q (F0 m 20 ls []) := by
    intro fuel
    induction fuel with
    | zero => intro j D hj hfuel; exact absurd hfuel (Nat.not_lt_zero _)
    | succ fuel_20 ih_20 =>
      intro j D hj hfuel_20 H locs ls hw hl
      refine lv_iload hx hb dX0_ask_20 (lv_at hl 5 rfl) ?_
      refine lv_bipush (v := (nI 20)) hx hb dX0_ask_22 zb_20 ?_
      refine zi_ge (tgt := 156) hx hb (by omega) (by decide) dX0_ask_24 (by decide) (fun c_24 => ?_) (fun c_24 => ?_)
      · skip
        refine lv_iload_n hx hb dX0_ask_156 rfl (lv_at hl 2 rfl) ?_
        have hw := hw.drop
        exact hend _ _ _ _ _ _ _ () hw (by unfold F_ask; rw [← hks, show (18 : Nat) = j by omega]) (by omega) (by omega) dX0_ask_157
      · skip
        have hj18 : j < 18 := by omega
        have hst := ask_step (j := j) hk32 hj18
        have hal := ask_le ks j
        refine lv_iconst (v := (nI 0)) hx hb dX0_ask_27 zk_0 ?_
        refine lv_istore (lv' := [(6, .int (nI 0)), (0, .ref co), (1, .int (nI ks)), (2, .int (optI ((askN ks j).1))), (3, .int (nI ((askN ks j).2))), (4, .ref q_13), (5, .int (nI (j + 2)))]) hx hb dX0_ask_28 hl (by decide) rfl (fun ls hl => ?_)
        refine lv_iconst (v := (nI 0)) hx hb dX0_ask_30 zk_0 ?_
        refine lv_istore (lv' := [(7, .int (nI 0)), (6, .int (nI 0)), (0, .ref co), (1, .int (nI ks)), (2, .int (optI ((askN ks j).1))), (3, .int (nI ((askN ks j).2))), (4, .ref q_13), (5, .int (nI (j + 2)))]) hx hb dX0_ask_31 hl (by decide) rfl (fun ls hl => ?_)
        have loop_33 : ∀ (fuel : Nat) (a : Nat) (D2 : Nat → Int32), (a ≤ 5) → (∀ b, b < a → D2 b = dV ks ((j + 2) / 2) ((j + 2) % 2) b) → (5 - a) < fuel → ∀ (H : Heap) (locs : List Loc) (ls : Array Slot), zS G ((q_13, zc G 0 (zI 5 D2)) :: (co, zo 0 (cF w mn bm (nI sm) lt)) :: (w 6, zc G 7 (zO 6 gf)) :: (pw 6 gs ++ rest)) s H locs → lv_has ls 10 [(0, .ref co), (1, .int (nI ks)), (2, .int (optI ((askN ks j).1))), (3, .int (nI ((askN ks j).2))), (4, .ref q_13), (5, .int (nI (j + 2))), (6, .int (nI (mostC ks ((j + 2) / 2) ((j + 2) % 2) a))), (7, .int (nI a))] → W p l e (zR 8 121 245) s m args below meth c H locs (31 + 5 * j + a) (65 + 10 * j + 2 * a) Q (F0 m 33 ls []) := by
          intro fuel
          induction fuel with
          | zero => intro a D2 ha hD hfuel; exact absurd hfuel (Nat.not_lt_zero _)
          | succ fuel_33 ih_33 =>
            intro a D2 ha hD hfuel_33 H locs ls hw hl
            refine lv_iload hx hb dX0_ask_33 (lv_at hl 7 rfl) ?_
            refine lv_iconst (v := (nI 5)) hx hb dX0_ask_35 zk_5 ?_
            refine zi_ge (tgt := 130) hx hb (by omega) (by decide) dX0_ask_36 (by decide) (fun c_36 => ?_) (fun c_36 => ?_)
            · skip
              obtain rfl : a = 5 := by omega
              have hl : lv_has ls 10 [(0, .ref co), (1, .int (nI ks)), (2, .int (optI ((askN ks j).1))), (3, .int (nI ((askN ks j).2))), (4, .ref q_13), (5, .int (nI (j + 2))), (6, .int (nI (mostC ks ((j + 2) / 2) ((j + 2) % 2) 5))), (7, .int (nI 5))] := hl
              have hm5 := mostC_le ks ((j + 2) / 2) ((j + 2) % 2) 5
              have join_142 : ∀ (w2 : Option Nat), (w2 = ((askN ks (j + 1)).1)) → ∀ (H : Heap) (locs : List Loc) (ls : Array Slot), zS G ((q_13, zc G 0 (zI 5 D2)) :: (co, zo 0 (cF w mn bm (nI sm) lt)) :: (w 6, zc G 7 (zO 6 gf)) :: (pw 6 gs ++ rest)) s H locs → lv_has ls 10 [(0, .ref co), (1, .int (nI ks)), (2, .int (optI ((askN ks j).1))), (3, .int (nI ((askN ks j).2))), (4, .ref q_13), (5, .int (nI (j + 2))), (6, .int (nI (mostC ks ((j + 2) / 2) ((j + 2) % 2) 5))), (7, .int (nI 5))] → W p l e (zR 8 121 245) s m args below meth c H locs (31 + 5 * j + 5) (65 + 10 * j + 2 * 5) Q (F0 m 142 ls [.int (optI w2)]) := by
                intro w2 hw2 H locs ls hw hl
                subst hw2
                refine lv_istore_n (lv' := [(2, .int (optI ((askN ks (j + 1)).1))), (0, .ref co), (1, .int (nI ks)), (3, .int (nI ((askN ks j).2))), (4, .ref q_13), (5, .int (nI (j + 2))), (6, .int (nI (mostC ks ((j + 2) / 2) ((j + 2) % 2) 5))), (7, .int (nI 5))]) hx hb dX0_ask_142 rfl hl (by decide) rfl (fun ls hl => ?_)
                refine lv_iload_n hx hb dX0_ask_143 rfl (lv_at hl 3 rfl) ?_
                refine lv_iload hx hb dX0_ask_144 (lv_at hl 6 rfl) ?_
                refine z_mmin (v := nI ((askN ks (j + 1)).2)) hC hl.1 q1064 zm_min ((zm_min_d (by omega) (by omega)).trans (congrArg nI hst.2)) (Nat.le_of_ble_eq_true rfl) ⟨Nat.le_of_ble_eq_true rfl, Nat.le_of_ble_eq_true rfl⟩ (by show _ ≤ 121; omega) (by show _ ≤ 245; omega) dX0_ask_146 ?_
                refine lv_istore_n (lv' := [(3, .int (nI ((askN ks (j + 1)).2))), (2, .int (optI ((askN ks (j + 1)).1))), (0, .ref co), (1, .int (nI ks)), (4, .ref q_13), (5, .int (nI (j + 2))), (6, .int (nI (mostC ks ((j + 2) / 2) ((j + 2) % 2) 5))), (7, .int (nI 5))]) hx hb dX0_ask_149 rfl hl (by decide) rfl (fun ls hl => ?_)
                refine lv_iinc (v := (nI (j + 2 + 1))) (lv' := [(5, .int (nI (j + 2 + 1))), (3, .int (nI ((askN ks (j + 1)).2))), (2, .int (optI ((askN ks (j + 1)).1))), (0, .ref co), (1, .int (nI ks)), (4, .ref q_13), (6, .int (nI (mostC ks ((j + 2) / 2) ((j + 2) % 2) 5))), (7, .int (nI 5))]) hx hb dX0_ask_150 hl (k := 5) rfl (zincn _ 1) (by decide) rfl (fun ls hl => ?_)
                refine lv_goto (tgt := 20) hx hb dX0_ask_153 (by decide) ?_
                refine W.widen (k := (31 + 5 * (j + 1))) (n := (65 + 10 * (j + 1))) (by omega) (by omega) ?_
                exact ih_20 (j + 1) D2 (by omega) (by omega) H locs ls hw (lv_sub hl [3, 4, 2, 1, 5, 0] rfl)
              refine lv_iload hx hb dX0_ask_130 (lv_at hl 6 rfl) ?_
              refine lv_iload_n hx hb dX0_ask_132 rfl (lv_at hl 3 rfl) ?_
              refine zi_ge (tgt := 141) hx hb (by omega) (by omega) dX0_ask_133 (by decide) (fun c_133 => ?_) (fun c_133 => ?_)
              · skip
                refine lv_iload_n hx hb dX0_ask_141 rfl (lv_at hl 2 rfl) ?_
                exact join_142 ((askN ks j).1) (by first | exact (if_pos (by omega)).symm.trans hst.1 | exact (if_neg (by omega)).symm.trans hst.1) H locs ls hw (lv_sub hl [0, 1, 2, 3, 4, 5, 6, 7] rfl)
              · skip
                refine lv_iload hx hb dX0_ask_136 (lv_at hl 5 rfl) ?_
                refine lv_goto (tgt := 142) hx hb dX0_ask_138 (by decide) ?_
                exact join_142 (some (j + 2)) (by first | exact (if_pos (by omega)).symm.trans hst.1 | exact (if_neg (by omega)).symm.trans hst.1) H locs ls hw (lv_sub hl [0, 1, 2, 3, 4, 5, 6, 7] rfl)
            · skip
              have join_72 : ∀ (x9 : Int32), (x9 = dV ks ((j + 2) / 2) ((j + 2) % 2) a) → ∀ (H : Heap) (locs : List Loc) (ls : Array Slot), zS G ((q_13, zc G 0 (zI 5 D2)) :: (co, zo 0 (cF w mn bm (nI sm) lt)) :: (w 6, zc G 7 (zO 6 gf)) :: (pw 6 gs ++ rest)) s H locs → lv_has ls 10 [(0, .ref co), (1, .int (nI ks)), (2, .int (optI ((askN ks j).1))), (3, .int (nI ((askN ks j).2))), (4, .ref q_13), (5, .int (nI (j + 2))), (6, .int (nI (mostC ks ((j + 2) / 2) ((j + 2) % 2) a))), (7, .int (nI a))] → W p l e (zR 8 121 245) s m args below meth c H locs (31 + 5 * j + a + 1) (65 + 10 * j + 2 * a + 2) Q (F0 m 72 ls [.int x9, .int (nI a), .ref q_13]) := by
                intro x9 hx9 H locs ls hw hl
                subst hx9
                refine z_iast (f' := upd D2 a (dV ks ((j + 2) / 2) ((j + 2) % 2) a)) hC hw 0 rfl (by omega) (by decide) rfl dX0_ask_72 (fun H locs hw => ?_)
                have hw : zS G ((q_13, zc G 0 (zI 5 (upd D2 a (dV ks ((j + 2) / 2) ((j + 2) % 2) a)))) :: (co, zo 0 (cF w mn bm (nI sm) lt)) :: (w 6, zc G 7 (zO 6 gf)) :: (pw 6 gs ++ rest)) s H locs := hw
                have hD2 := upd_all hD
                refine lv_iconst (v := (nI 0)) hx hb dX0_ask_73 zk_0 ?_
                refine lv_istore (lv' := [(8, .int (nI 0)), (0, .ref co), (1, .int (nI ks)), (2, .int (optI ((askN ks j).1))), (3, .int (nI ((askN ks j).2))), (4, .ref q_13), (5, .int (nI (j + 2))), (6, .int (nI (mostC ks ((j + 2) / 2) ((j + 2) % 2) a))), (7, .int (nI a))]) hx hb dX0_ask_74 hl (by decide) rfl (fun ls hl => ?_)
                refine lv_iconst (v := (nI 0)) hx hb dX0_ask_76 zk_0 ?_
                refine lv_istore (lv' := [(9, .int (nI 0)), (8, .int (nI 0)), (0, .ref co), (1, .int (nI ks)), (2, .int (optI ((askN ks j).1))), (3, .int (nI ((askN ks j).2))), (4, .ref q_13), (5, .int (nI (j + 2))), (6, .int (nI (mostC ks ((j + 2) / 2) ((j + 2) % 2) a))), (7, .int (nI a))]) hx hb dX0_ask_77 hl (by decide) rfl (fun ls hl => ?_)
                have loop_79 : ∀ (fuel : Nat) (b : Nat), (b ≤ a + 1) → (a + 1 - b) < fuel → ∀ (H : Heap) (locs : List Loc) (ls : Array Slot), zS G ((q_13, zc G 0 (zI 5 (upd D2 a (dV ks ((j + 2) / 2) ((j + 2) % 2) a)))) :: (co, zo 0 (cF w mn bm (nI sm) lt)) :: (w 6, zc G 7 (zO 6 gf)) :: (pw 6 gs ++ rest)) s H locs → lv_has ls 10 [(0, .ref co), (1, .int (nI ks)), (2, .int (optI ((askN ks j).1))), (3, .int (nI ((askN ks j).2))), (4, .ref q_13), (5, .int (nI (j + 2))), (6, .int (nI (mostC ks ((j + 2) / 2) ((j + 2) % 2) a))), (7, .int (nI a)), (8, .int (nI (likL ks ((j + 2) / 2) ((j + 2) % 2) a b))), (9, .int (nI b))] → W p l e (zR 8 121 245) s m args below meth c H locs (31 + 5 * j + a + 1) (65 + 10 * j + 2 * a + 2) Q (F0 m 79 ls []) := by
                  intro fuel
                  induction fuel with
                  | zero => intro b hb9 hfuel; exact absurd hfuel (Nat.not_lt_zero _)
                  | succ fuel_79 ih_79 =>
                    intro b hb9 hfuel_79 H locs ls hw hl
                    refine lv_iload hx hb dX0_ask_79 (lv_at hl 9 rfl) ?_
                    refine lv_iload hx hb dX0_ask_81 (lv_at hl 7 rfl) ?_
                    refine zi_gt (tgt := 115) hx hb (by omega) (by omega) dX0_ask_83 (by decide) (fun c_83 => ?_) (fun c_83 => ?_)
                    · skip
                      obtain rfl : b = a + 1 := by omega
                      have hl : lv_has ls 10 [(0, .ref co), (1, .int (nI ks)), (2, .int (optI ((askN ks j).1))), (3, .int (nI ((askN ks j).2))), (4, .ref q_13), (5, .int (nI (j + 2))), (6, .int (nI (mostC ks ((j + 2) / 2) ((j + 2) % 2) a))), (7, .int (nI a)), (8, .int (nI (likL ks ((j + 2) / 2) ((j + 2) % 2) a (a + 1)))), (9, .int (nI (a + 1)))] := hl
                      have hm1 := mostC_le ks ((j + 2) / 2) ((j + 2) % 2) a
                      have hm2 := likL_le ks ((j + 2) / 2) ((j + 2) % 2) a (a + 1)
                      refine lv_iload hx hb dX0_ask_115 (lv_at hl 6 rfl) ?_
                      refine lv_iload hx hb dX0_ask_117 (lv_at hl 8 rfl) ?_
                      refine z_mmax (v := nI (max (mostC ks ((j + 2) / 2) ((j + 2) % 2) a) (likL ks ((j + 2) / 2) ((j + 2) % 2) a (a + 1)))) hC hl.1 q1074 zm_max (zm_max_d (by omega) (by omega)) (Nat.le_of_ble_eq_true rfl) ⟨Nat.le_of_ble_eq_true rfl, Nat.le_of_ble_eq_true rfl⟩ (by show _ ≤ 121; omega) (by show _ ≤ 245; omega) dX0_ask_119 ?_
                      refine lv_istore (lv' := [(6, .int (nI (max (mostC ks ((j + 2) / 2) ((j + 2) % 2) a) (likL ks ((j + 2) / 2) ((j + 2) % 2) a (a + 1))))), (0, .ref co), (1, .int (nI ks)), (2, .int (optI ((askN ks j).1))), (3, .int (nI ((askN ks j).2))), (4, .ref q_13), (5, .int (nI (j + 2))), (7, .int (nI a)), (8, .int (nI (likL ks ((j + 2) / 2) ((j + 2) % 2) a (a + 1)))), (9, .int (nI (a + 1)))]) hx hb dX0_ask_122 hl (by decide) rfl (fun ls hl => ?_)
                      refine lv_iinc (v := (nI (a + 1))) (lv' := [(7, .int (nI (a + 1))), (6, .int (nI (max (mostC ks ((j + 2) / 2) ((j + 2) % 2) a) (likL ks ((j + 2) / 2) ((j + 2) % 2) a (a + 1))))), (0, .ref co), (1, .int (nI ks)), (2, .int (optI ((askN ks j).1))), (3, .int (nI ((askN ks j).2))), (4, .ref q_13), (5, .int (nI (j + 2))), (8, .int (nI (likL ks ((j + 2) / 2) ((j + 2) % 2) a (a + 1)))), (9, .int (nI (a + 1)))]) hx hb dX0_ask_124 hl (k := 7) rfl (zincn _ 1) (by decide) rfl (fun ls hl => ?_)
                      refine lv_goto (tgt := 33) hx hb dX0_ask_127 (by decide) ?_
                      refine W.widen (k := (31 + 5 * j + (a + 1))) (n := (65 + 10 * j + 2 * (a + 1))) (by omega) (by omega) ?_
                      exact ih_33 (a + 1) (upd D2 a (dV ks ((j + 2) / 2) ((j + 2) % 2) a)) (by omega) hD2 (by omega) H locs ls hw (lv_sub hl [2, 3, 4, 5, 6, 7, 1, 0] rfl)
                    · skip
                      have hm2 := likL_le ks ((j + 2) / 2) ((j + 2) % 2) a b
                      have join_106 : ∀ (x8 : Nat), (x8 = (if eqC ks ((j + 2) / 2) ((j + 2) % 2) b a = true then 1 else 0)) → ∀ (H : Heap) (locs : List Loc) (ls : Array Slot), zS G ((q_13, zc G 0 (zI 5 (upd D2 a (dV ks ((j + 2) / 2) ((j + 2) % 2) a)))) :: (co, zo 0 (cF w mn bm (nI sm) lt)) :: (w 6, zc G 7 (zO 6 gf)) :: (pw 6 gs ++ rest)) s H locs → lv_has ls 10 [(0, .ref co), (1, .int (nI ks)), (2, .int (optI ((askN ks j).1))), (3, .int (nI ((askN ks j).2))), (4, .ref q_13), (5, .int (nI (j + 2))), (6, .int (nI (mostC ks ((j + 2) / 2) ((j + 2) % 2) a))), (7, .int (nI a)), (8, .int (nI (likL ks ((j + 2) / 2) ((j + 2) % 2) a b))), (9, .int (nI b))] → W p l e (zR 8 121 245) s m args below meth c H locs (31 + 5 * j + a + 1) (65 + 10 * j + 2 * a + 2) Q (F0 m 106 ls [.int (nI x8), .int (nI (likL ks ((j + 2) / 2) ((j + 2) % 2) a b))]) := by
                        intro x8 hx8 H locs ls hw hl
                        subst hx8
                        refine zn_iadd hx hb dX0_ask_106 ?_
                        refine lv_istore (lv' := [(8, .int (nI ((likL ks ((j + 2) / 2) ((j + 2) % 2) a b) + (if eqC ks ((j + 2) / 2) ((j + 2) % 2) b a = true then 1 else 0)))), (0, .ref co), (1, .int (nI ks)), (2, .int (optI ((askN ks j).1))), (3, .int (nI ((askN ks j).2))), (4, .ref q_13), (5, .int (nI (j + 2))), (6, .int (nI (mostC ks ((j + 2) / 2) ((j + 2) % 2) a))), (7, .int (nI a)), (9, .int (nI b))]) hx hb dX0_ask_107 hl (by decide) rfl (fun ls hl => ?_)
                        refine lv_iinc (v := (nI (b + 1))) (lv' := [(9, .int (nI (b + 1))), (8, .int (nI ((likL ks ((j + 2) / 2) ((j + 2) % 2) a b) + (if eqC ks ((j + 2) / 2) ((j + 2) % 2) b a = true then 1 else 0)))), (0, .ref co), (1, .int (nI ks)), (2, .int (optI ((askN ks j).1))), (3, .int (nI ((askN ks j).2))), (4, .ref q_13), (5, .int (nI (j + 2))), (6, .int (nI (mostC ks ((j + 2) / 2) ((j + 2) % 2) a))), (7, .int (nI a))]) hx hb dX0_ask_109 hl (k := 9) rfl (zincn _ 1) (by decide) rfl (fun ls hl => ?_)
                        refine lv_goto (tgt := 79) hx hb dX0_ask_112 (by decide) ?_
                        exact ih_79 (b + 1) (by omega) (by omega) H locs ls hw (lv_sub hl [2, 3, 4, 5, 6, 7, 8, 9, 1, 0] rfl)
                      refine lv_iload hx hb dX0_ask_86 (lv_at hl 8 rfl) ?_
                      refine lv_aload hx hb dX0_ask_88 (lv_at hl 4 rfl) ?_
                      refine lv_iload hx hb dX0_ask_90 (lv_at hl 9 rfl) ?_
                      refine z_iald (x := (dV ks ((j + 2) / 2) ((j + 2) % 2) b)) hC hw 0 rfl (by omega) (by decide) (hD2 b (by omega)) dX0_ask_92 ?_
                      refine lv_aload hx hb dX0_ask_93 (lv_at hl 4 rfl) ?_
                      refine lv_iload hx hb dX0_ask_95 (lv_at hl 7 rfl) ?_
                      refine z_iald (x := (dV ks ((j + 2) / 2) ((j + 2) % 2) a)) hC hw 0 rfl (by omega) (by decide) (hD2 a (by omega)) dX0_ask_97 ?_
                      refine lv_icmp_ne (tgt := 105) hx hb dX0_ask_98 (by decide) (fun c_98 => ?_) (fun c_98 => ?_)
                      · skip
                        refine lv_iconst (v := (nI 0)) hx hb dX0_ask_105 zk_0 ?_
                        exact join_106 0 (by first | exact (if_pos ((dV_eq (by omega) (by omega) (by omega)).mp (Decidable.not_not.mp c_98))).symm | exact (if_pos ((dV_eq (by omega) (by omega) (by omega)).mp c_98)).symm | exact (if_neg (fun q => c_98 ((dV_eq (by omega) (by omega) (by omega)).mpr q))).symm) H locs ls hw (lv_sub hl [0, 1, 2, 3, 4, 5, 6, 7, 8, 9] rfl)
                      · skip
                        refine lv_iconst (v := (nI 1)) hx hb dX0_ask_101 zk_1 ?_
                        refine lv_goto (tgt := 106) hx hb dX0_ask_102 (by decide) ?_
                        exact join_106 1 (by first | exact (if_pos ((dV_eq (by omega) (by omega) (by omega)).mp (Decidable.not_not.mp c_98))).symm | exact (if_pos ((dV_eq (by omega) (by omega) (by omega)).mp c_98)).symm | exact (if_neg (fun q => c_98 ((dV_eq (by omega) (by omega) (by omega)).mpr q))).symm) H locs ls hw (lv_sub hl [0, 1, 2, 3, 4, 5, 6, 7, 8, 9] rfl)
                exact loop_79 ((a + 1 - 0) + 1) 0 (by omega) (Nat.lt_succ_self _) H locs ls hw (lv_sub hl [2, 3, 4, 5, 6, 7, 8, 9, 1, 0] rfl)
              refine lv_aload hx hb dX0_ask_39 (lv_at hl 4 rfl) ?_
              refine lv_iload hx hb dX0_ask_41 (lv_at hl 7 rfl) ?_
              refine lv_iload_n hx hb dX0_ask_43 rfl (lv_at hl 1 rfl) ?_
              refine lv_iload hx hb dX0_ask_44 (lv_at hl 7 rfl) ?_
              refine z_ci (z_runS (As := [.int (nI ks), .int (nI a)]) (rest := [.int (nI a), .ref q_13]) hC zs_X0_155 (m_X0_has G l ks a (by omega) (by omega) _) hw rfl rfl (Nat.le_of_ble_eq_true rfl) hl.1 ⟨Nat.le_of_ble_eq_true rfl, Nat.le_of_ble_eq_true rfl⟩ ⟨(by show _ ≤ 121; omega), (by show _ ≤ 245; omega)⟩ dX0_ask_46) hw (fun _ => List.Perm.refl _) (fun r u H locs hp hw => ?_)
              obtain rfl : r = bI (ks.testBit a = true) := hp
              refine zb_eq (tgt := 68) hx hb dX0_ask_49 (by decide) (fun c_49 => ?_) (fun c_49 => ?_)
              · skip
                refine lv_iconst (v := -1) hx hb dX0_ask_68 zk_m1 ?_
                refine lv_iload hx hb dX0_ask_69 (lv_at hl 7 rfl) ?_
                refine lv_isub hx hb dX0_ask_71 ?_
                refine W.widen (k := (31 + 5 * j + a + 1)) (n := (65 + 10 * j + 2 * a + 2)) (by omega) (by omega) ?_
                exact join_72 ((-1) - (nI a)) (by first | (unfold dV; rw [if_pos c_49, dC_eq]; done) | (unfold dV; rw [if_neg c_49]; done)) H locs ls hw (lv_sub hl [0, 1, 2, 3, 4, 5, 6, 7] rfl)
              · skip
                refine lv_iload hx hb dX0_ask_52 (lv_at hl 7 rfl) ?_
                refine lv_iload hx hb dX0_ask_54 (lv_at hl 5 rfl) ?_
                refine lv_iconst (v := (nI 2)) hx hb dX0_ask_56 zk_2 ?_
                refine zn_idiv hx hb (by omega) (by decide) (by decide) dX0_ask_57 ?_
                refine lv_iload hx hb dX0_ask_58 (lv_at hl 5 rfl) ?_
                refine lv_iconst (v := (nI 2)) hx hb dX0_ask_60 zk_2 ?_
                refine zn_irem hx hb (by omega) (by decide) (by decide) dX0_ask_61 ?_
                refine z_ci (z_runS (As := [.int (nI a), .int (nI ((j + 2) / 2)), .int (nI ((j + 2) % 2))]) (rest := [.int (nI a), .ref q_13]) hC zs_X0_262 (m_X0_does G l kA (by first | assumption | (omega)) a ((j + 2) / 2) ((j + 2) % 2) (by omega) (by omega) (by omega) _) hw rfl rfl (Nat.le_of_ble_eq_true rfl) hl.1 ⟨Nat.le_of_ble_eq_true rfl, Nat.le_of_ble_eq_true rfl⟩ ⟨(by show _ ≤ 121; omega), (by show _ ≤ 245; omega)⟩ dX0_ask_62) hw (fun _ => List.Perm.refl _) (fun r u H locs hp hw => ?_)
                obtain rfl : r = nI (dN a ((j + 2) / 2) ((j + 2) % 2)) := hp
                refine lv_goto (tgt := 72) hx hb dX0_ask_65 (by decide) ?_
                exact join_72 (nI (dN a ((j + 2) / 2) ((j + 2) % 2))) (by first | (unfold dV; rw [if_pos c_49, dC_eq]; done) | (unfold dV; rw [if_neg c_49]; done)) H locs ls hw (lv_sub hl [0, 1, 2, 3, 4, 5, 6, 7] rfl)
        refine W.widen (k := (31 + 5 * j + 0)) (n := (65 + 10 * j + 2 * 0)) (by omega) (by omega) ?_
        exact loop_33 ((5 - 0) + 1) 0 D (by decide) (fun b hb => absurd hb (Nat.not_lt_zero b)) (Nat.lt_succ_self _) H locs ls hw (lv_sub hl [2, 3, 4, 5, 6, 7, 1, 0] rfl)
  refine W.widen (k := (31 + 5 * 0)) (n := (65 + 10 * 0)) (by omega) (by omega) ?_
  exact loop_20 ((18 - 0) + 1) 0 (fun _ => 0) (by decide) (Nat.lt_succ_self _) H locs ls hw (lv_sub hl [5, 4, 3, 2, 1, 0] rfl)
