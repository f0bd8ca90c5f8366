/-! COMPONENT: to which pit one goes -/
set_option maxRecDepth 100000
theorem orB_t {f : Nat → Bool} {k : Nat} (h : f k = true) : orB f (k + 1) = orB f k ||| 2 ^ k := by rw [orB, if_pos h]
theorem orB_f {f : Nat → Bool} {k : Nat} (h : ¬ f k = true) : orB f (k + 1) = orB f k := by rw [orB, if_neg h, Nat.or_zero]
theorem orB_512 {f : Nat → Bool} {k : Nat} (h : k ≤ 9) : orB f k < 512 := Nat.lt_of_lt_of_le (orB_lt f k) (Nat.pow_le_pow_right (n := 2) (by decide) h)
theorem updN_uu (v : Nat → Nat) (k x y : Nat) : updN (updN v k x) k y = updN v k y := by
  funext j; unfold updN; split <;> rfl
theorem updN_self (v : Nat → Nat) (k : Nat) : updN v k (v k) = v := by
  funext j; unfold updN; split
  · next e => rw [e]
  · rfl
def spyF (pl nu ax : Nat → Nat) (i t : Nat) : Bool := decide (0 < nu t ∧ apartN (ax i) (pl t) ≤ 2)
theorem spy_t {pl nu ax kn : Nat → Nat} {i t : Nat} (h1 : 0 < nu t) (h2 : apartN (ax i) (pl t) ≤ 2) : updN (updN kn i (kn i ||| orB (spyF pl nu ax i) t)) i (kn i ||| orB (spyF pl nu ax i) t ||| 2 ^ t) = updN kn i (kn i ||| orB (spyF pl nu ax i) (t + 1)) := by
  rw [updN_uu, orB_t (decide_eq_true ⟨h1, h2⟩), Nat.or_assoc]
theorem spy_f {pl nu ax kn : Nat → Nat} {i t : Nat} (h : ¬ (0 < nu t ∧ apartN (ax i) (pl t) ≤ 2)) : updN kn i (kn i ||| orB (spyF pl nu ax i) t) = updN kn i (kn i ||| orB (spyF pl nu ax i) (t + 1)) := by
  rw [orB_f (f := spyF pl nu ax i) (by unfold spyF; simpa using fun a => by have := not_and.mp h a; omega)]
/-- a squirrel's rank of a pit, in the hedge's numbers -/
def rkS (v : Nat → Nat) (i p : Nat) : Nat := rankN (v (21 + 5 * i)) (apartN (v (21 + 5 * i + 1)) (v (3 + 2 * p))) (v (3 + 2 * p)) (v (3 + 2 * p + 1)) p
def firstN (v : Nat → Nat) (i : Nat) (b : Option Nat) : Nat := match b with
  | none => 999999
  | some p => rkS v i p
theorem ap_20 {a b : Nat} (ha : a < 20) (hb : b < 20) : apartN a b < 20 := by unfold apartN; split <;> omega
theorem rk_lt {v : Nat → Nat} {i p : Nat} (hg : Hg v) (hi : i < v 1) (hp : p < v 0) : rkS v i p < 999999 := by
  have h0 := hg.1.1
  have h1 := hg.2.1 p hp
  have h2 := hg.2.2 i hi
  have h3 := ap_20 h2.2.1 h1.1
  unfold rkS rankN
  split
  · omega
  · split <;> omega
theorem rk_better {v : Nat → Nat} {i p o : Nat} (hg : Hg v) (hi : i < v 1) (ho : o < p) (hp : p < v 0) : rkS v i p < rkS v i o ↔ betterN v i p o := by
  have h0 := hg.1.1
  have h1 := hg.2.1 p hp
  have h1' := hg.2.1 o (by omega)
  have h2 := hg.2.2 i hi
  have h3 := ap_20 h2.2.1 h1.1
  have h3' := ap_20 h2.2.1 h1'.1
  unfold rkS rankN betterN nearerN
  generalize apartN (v (21 + 5 * i + 1)) (v (3 + 2 * p)) = a at *
  generalize apartN (v (21 + 5 * i + 1)) (v (3 + 2 * o)) = b at *
  generalize v (3 + 2 * p) = c at *
  generalize v (3 + 2 * o) = d at *
  generalize v (3 + 2 * p + 1) = e at *
  generalize v (3 + 2 * o + 1) = f at *
  by_cases hk : v (21 + 5 * i) < 2
  · rw [if_pos hk, if_pos hk]; omega
  · rw [if_neg hk, if_neg hk]
    by_cases hk2 : v (21 + 5 * i) = 2
    · rw [if_pos hk2, if_pos hk2]; omega
    · rw [if_neg hk2, if_neg hk2]; omega
theorem pick_go {v : Nat → Nat} {i k : Nat} {b : Option Nat} (hg : Hg v) (hi : i < v 1) (hk : k < v 0) (hb : b = picksN v i (mayN v i) k) (hm : (mayN v i).testBit k = true) (h : rkS v i k < firstN v i b) : some k = picksN v i (mayN v i) (k + 1) := by
  cases b with
  | none => exact picksN_0 hm hb
  | some o => exact picksN_t hm hb ((rk_better hg hi (picksN_lt hb.symm).1 hk).mp h)
theorem pick_no {v : Nat → Nat} {i k : Nat} {b : Option Nat} (hg : Hg v) (hi : i < v 1) (hk : k < v 0) (hb : b = picksN v i (mayN v i) k) (hm : (mayN v i).testBit k = true) (h : ¬ rkS v i k < firstN v i b) : b = picksN v i (mayN v i) (k + 1) := by
  cases b with
  | none => exact absurd (rk_lt hg hi hk) h
  | some o => exact picksN_n hm hb (fun q => h ((rk_better hg hi (picksN_lt hb.symm).1 hk).mpr q))
theorem pick_min {v : Nat → Nat} {i k : Nat} {b : Option Nat} (hg : Hg v) (hi : i < v 1) (hk : k < v 0) (hb : b = picksN v i (mayN v i) k) (hm : (mayN v i).testBit k = true) : min (firstN v i b) (rkS v i k) = firstN v i (picksN v i (mayN v i) (k + 1)) := by
  by_cases h : rkS v i k < firstN v i b
  · rw [← pick_go hg hi hk hb hm h, Nat.min_eq_right (by omega)]; rfl
  · rw [← pick_no hg hi hk hb hm h, Nat.min_eq_left (by omega)]
theorem first_lt {v : Nat → Nat} {i k : Nat} {b : Option Nat} (hg : Hg v) (hi : i < v 1) (hk : k ≤ v 0) (hb : b = picksN v i (mayN v i) k) : firstN v i b < 1000000 := by
  cases b with
  | none => show 999999 < 1000000; decide
  | some o => exact Nat.lt_trans (rk_lt hg hi (by have := (picksN_lt hb.symm).1; omega)) (by decide)
theorem may_iff {v : Nat → Nat} {i t : Nat} (ht : t < v 0) : (mayN v i).testBit t = true ↔ (v (21 + 5 * i + 4)).testBit t = true ∧ v (3 + 2 * t + 1) ≠ 0 := by
  unfold mayN
  rw [Nat.testBit_and, Bool.and_eq_true, fullN_bit]
  constructor
  · rintro ⟨a, -, c⟩; exact ⟨a, by omega⟩
  · rintro ⟨a, c⟩; exact ⟨a, ht, by omega⟩
theorem zv_X1_51 : zVs RX1 51 yX1_off cX1_off 3 (some .int) 2 := ⟨lw_V q952 q954 qs15 q50 q955, ⟨by decide +kernel, by decide +kernel⟩, by decide +kernel⟩
set_option maxHeartbeats 4000000 in
theorem m_X1_spy (G : zE) (l : Launch) (st : Nat) (co : Nat) (z : Nat → Nat) (ps : Nat) (dy : Nat) (gg : Int32) (pl : Nat → Nat) (nu : Nat → Nat) (ax : Nat → Nat) (le : Nat → Nat) (kn : Nat → Nat) (i : Nat) (hi : i < 5) (hps : ps ≤ 9) (hpl : ∀ j, pl j < 128) (hnu : ∀ j, nu j < 128) (hax : ∀ j, ax j < 128) (hkn : ∀ j, kn j < 512) (rest : va_W) : zMv G l yX1_spy cX1_spy 3 2 0 0 [.ref st, .int (nI i)] ((st, zo 1 (stF z co (nI ps) (nI dy) gg)) :: (z 0, zc G 1 (zI 9 (vI pl))) :: (z 1, zc G 1 (zI 9 (vI nu))) :: (z 2, zc G 1 (zI 5 (vI ax))) :: (z 4, zc G 2 (zI 5 (vI kn))) :: rest) (fun (_ : Unit) => True) (fun (_ : Unit) => (st, zo 1 (stF z co (nI ps) (nI dy) gg)) :: (z 0, zc G 1 (zI 9 (vI pl))) :: (z 1, zc G 1 (zI 9 (vI nu))) :: (z 2, zc G 1 (zI 5 (vI ax))) :: (z 4, zc G 2 (zI 5 (vI (updN kn i (kn i ||| orB (spyF pl nu ax i) ps))))) :: rest) := by
  refine z_begV (by decide) (Nat.le_of_ble_eq_true rfl) (fun p e s m args below meth c ls Q hC hnm hl hw hend => ?_)
  have hx := hC.hx
  have hb := hC.hb
  have hl : lv_has ls 3 [(0, .ref st), (1, .int (nI i))] := hl
  have hw : zS G ((st, zo 1 (stF z co (nI ps) (nI dy) gg)) :: (z 0, zc G 1 (zI 9 (vI pl))) :: (z 1, zc G 1 (zI 9 (vI nu))) :: (z 2, zc G 1 (zI 5 (vI ax))) :: (z 4, zc G 2 (zI 5 (vI kn))) :: rest) s s.heap [] := hw
  have hw : zS G ((st, zo 1 (stF z co (nI ps) (nI dy) gg)) :: (z 0, zc G 1 (zI 9 (vI pl))) :: (z 1, zc G 1 (zI 9 (vI nu))) :: (z 2, zc G 1 (zI 5 (vI ax))) :: (z 4, zc G 2 (zI 5 (vI (updN kn i (kn i ||| orB (spyF pl nu ax i) 0))))) :: rest) s s.heap [] := by rw [show kn i ||| orB (spyF pl nu ax i) 0 = kn i from Nat.or_zero _, updN_self]; exact hw
  refine lv_iconst (v := (nI 0)) hx hb dX1_spy_0 zk_0 ?_
  refine lv_istore_n (lv' := [(2, .int (nI 0)), (0, .ref st), (1, .int (nI i))]) hx hb dX1_spy_1 rfl hl (by decide) rfl (fun ls hl => ?_)
  have loop_2 : ∀ (fuel : Nat) (t : Nat), (t ≤ ps) → (ps - t) < fuel → ∀ (H : Heap) (locs : List Loc) (ls : Array Slot), zS G ((st, zo 1 (stF z co (nI ps) (nI dy) gg)) :: (z 0, zc G 1 (zI 9 (vI pl))) :: (z 1, zc G 1 (zI 9 (vI nu))) :: (z 2, zc G 1 (zI 5 (vI ax))) :: (z 4, zc G 2 (zI 5 (vI (updN kn i (kn i ||| orB (spyF pl nu ax i) t))))) :: rest) s H locs → lv_has ls 3 [(0, .ref st), (1, .int (nI i)), (2, .int (nI t))] → W p l e (zR 2 0 0) s m args below meth c H locs 0 0 Q (F0 m 2 ls []) := by
    intro fuel
    induction fuel with
    | zero => intro t ht hfuel; exact absurd hfuel (Nat.not_lt_zero _)
    | succ fuel_2 ih_2 =>
      intro t ht hfuel_2 H locs ls hw hl
      refine lv_iload_n hx hb dX1_spy_2 rfl (lv_at hl 2 rfl) ?_
      refine lv_aload_n hx hb dX1_spy_3 rfl (lv_at hl 0 rfl) ?_
      refine z_get (v := .int (nI ps)) hC zf_X1_38_1 hw 0 rfl rfl dX1_spy_4 ?_
      refine zi_ge (tgt := 49) hx hb (by omega) (by omega) dX1_spy_7 (by decide) (fun c_7 => ?_) (fun c_7 => ?_)
      · skip
        obtain rfl : t = ps := by omega
        exact hend _ _ _ _ _ _ () hw trivial (Nat.le_of_ble_eq_true rfl) (Nat.le_of_ble_eq_true rfl) dX1_spy_49
      · skip
        have join_43 : ∀ (x9 : Nat → Nat), (x9 = updN kn i (kn i ||| orB (spyF pl nu ax i) (t + 1))) → ∀ (H : Heap) (locs : List Loc) (ls : Array Slot), zS G ((st, zo 1 (stF z co (nI ps) (nI dy) gg)) :: (z 0, zc G 1 (zI 9 (vI pl))) :: (z 1, zc G 1 (zI 9 (vI nu))) :: (z 2, zc G 1 (zI 5 (vI ax))) :: (z 4, zc G 2 (zI 5 (vI x9))) :: rest) s H locs → lv_has ls 3 [(0, .ref st), (1, .int (nI i)), (2, .int (nI t))] → W p l e (zR 2 0 0) s m args below meth c H locs 0 0 Q (F0 m 43 ls []) := by
          intro x9 hx H locs ls hw hl
          subst hx
          refine lv_iinc (v := (nI (t + 1))) (lv' := [(2, .int (nI (t + 1))), (0, .ref st), (1, .int (nI i))]) hx hb dX1_spy_43 hl (k := 2) rfl (zincn _ 1) (by decide) rfl (fun ls hl => ?_)
          refine lv_goto (tgt := 2) hx hb dX1_spy_46 (by decide) ?_
          exact ih_2 (t + 1) (by omega) (by omega) H locs ls hw (lv_sub hl [1, 2, 0] rfl)
        refine lv_aload_n hx hb dX1_spy_10 rfl (lv_at hl 0 rfl) ?_
        refine z_get (v := .ref (z 1)) hC zf_X1_19_1 hw 0 rfl rfl dX1_spy_11 ?_
        refine lv_iload_n hx hb dX1_spy_14 rfl (lv_at hl 2 rfl) ?_
        refine z_bald (x := (nI (nu t))) hC hw 2 rfl (by omega) (by decide) rfl dX1_spy_15 ?_
        refine zj_le (tgt := 43) hx hb (by have := hnu t; omega) dX1_spy_16 (by decide) (fun c_16 => ?_) (fun c_16 => ?_)
        · skip
          exact join_43 (updN kn i (kn i ||| orB (spyF pl nu ax i) t)) (by first | exact spy_t (by omega) (by omega) | exact spy_f (fun q => by omega)) H locs ls hw (lv_sub hl [0, 1, 2] rfl)
        · skip
          refine lv_aload_n hx hb dX1_spy_19 rfl (lv_at hl 0 rfl) ?_
          refine lv_iload_n hx hb dX1_spy_20 rfl (lv_at hl 1 rfl) ?_
          refine lv_iload_n hx hb dX1_spy_21 rfl (lv_at hl 2 rfl) ?_
          refine z_ci (z_runV (As := [.int (nI i), .int (nI t)]) (rest := []) hC zv_X1_51 (m_X1_off G l st co z ps dy gg ax pl i t (by omega) (by omega) (by first | assumption | (have := hax j; omega)) (by first | assumption | (have := hpl j; omega)) (zrem [0, 1, 3] _)) hw (hw.perm (z_cut (is := [0, 1, 3]) (cells := [(st, zo 1 (stF z co (nI ps) (nI dy) gg)), (z 0, zc G 1 (zI 9 (vI pl))), (z 2, zc G 1 (zI 5 (vI ax)))]) rfl rfl)) 0 rfl rfl rfl rfl rfl (Nat.le_of_ble_eq_true rfl) hl.1 ⟨Nat.le_of_ble_eq_true rfl, Nat.le_of_ble_eq_true rfl⟩ ⟨(Nat.le_of_ble_eq_true rfl), (Nat.le_of_ble_eq_true rfl)⟩ dX1_spy_22) hw (fun _ => z_keep (is := [0, 1, 3]) (cs := [(st, zo 1 (stF z co (nI ps) (nI dy) gg)), (z 0, zc G 1 (zI 9 (vI pl))), (z 2, zc G 1 (zI 5 (vI ax)))]) rfl rfl) (fun r u H locs hp hw => ?_)
          obtain rfl : r = nI (apartN (ax i) (pl t)) := hp
          refine lv_iconst (v := (nI 2)) hx hb dX1_spy_25 zk_2 ?_
          refine zi_gt (tgt := 43) hx hb (apartN_lt (Nat.lt_trans (hax _) (by decide)) (Nat.lt_trans (hpl _) (by decide))) (by decide) dX1_spy_26 (by decide) (fun c_26 => ?_) (fun c_26 => ?_)
          · skip
            exact join_43 (updN kn i (kn i ||| orB (spyF pl nu ax i) t)) (by first | exact spy_t (by omega) (by omega) | exact spy_f (fun q => by omega)) H locs ls hw (lv_sub hl [0, 1, 2] rfl)
          · skip
            have hx9 : kn i ||| orB (spyF pl nu ax i) t < 512 := or9 (hkn i) (orB_512 (by omega))
            refine lv_aload_n hx hb dX1_spy_29 rfl (lv_at hl 0 rfl) ?_
            refine z_get (v := .ref (z 4)) hC zf_X1_28_1 hw 0 rfl rfl dX1_spy_30 ?_
            refine lv_iload_n hx hb dX1_spy_33 rfl (lv_at hl 1 rfl) ?_
            refine lv_dup2_11 hx hb dX1_spy_34 rfl rfl ?_
            refine z_sald (x := (nI (kn i ||| orB (spyF pl nu ax i) t))) hC hw 4 rfl (by omega) (by decide) (congrArg nI (updN_same _ _ _)) dX1_spy_35 ?_
            refine lv_iconst (v := (nI 1)) hx hb dX1_spy_36 zk_1 ?_
            refine lv_iload_n hx hb dX1_spy_37 rfl (lv_at hl 2 rfl) ?_
            refine zv_ishl (v := (nI (2 ^ t))) hx hb (nI_shl1 (by omega)) dX1_spy_38 ?_
            refine lv_i2s (v := (nI (2 ^ t))) hx hb dX1_spy_39 (zi2s (Nat.lt_trans (pow512 (by omega)) (by decide))) ?_
            refine zv_ior (v := (nI ((kn i ||| orB (spyF pl nu ax i) t) ||| (2 ^ t)))) hx hb (nI_or _ _) dX1_spy_40 ?_
            refine lv_i2s (v := (nI ((kn i ||| orB (spyF pl nu ax i) t) ||| (2 ^ t)))) hx hb dX1_spy_41 (zi2s (Nat.lt_trans (or9 hx9 (pow512 (by omega))) (by decide))) ?_
            refine z_sast (f' := vI (updN (updN kn i (kn i ||| orB (spyF pl nu ax i) t)) i ((kn i ||| orB (spyF pl nu ax i) t) ||| (2 ^ t)))) hC hw 4 rfl (by omega) (by decide) ((congrArg _ (znshort (Nat.lt_trans (or9 hx9 (pow512 (by omega))) (by decide)))).trans (vI_upd _ _ _)) dX1_spy_42 (fun H locs hw => ?_)
            have hw : zS G ((st, zo 1 (stF z co (nI ps) (nI dy) gg)) :: (z 0, zc G 1 (zI 9 (vI pl))) :: (z 1, zc G 1 (zI 9 (vI nu))) :: (z 2, zc G 1 (zI 5 (vI ax))) :: (z 4, zc G 2 (zI 5 (vI (updN (updN kn i (kn i ||| orB (spyF pl nu ax i) t)) i ((kn i ||| orB (spyF pl nu ax i) t) ||| (2 ^ t)))))) :: rest) s H locs := hw
            exact join_43 (updN (updN kn i (kn i ||| orB (spyF pl nu ax i) t)) i ((kn i ||| orB (spyF pl nu ax i) t) ||| (2 ^ t))) (by first | exact spy_t (by omega) (by omega) | exact spy_f (fun q => by omega)) H locs ls hw (lv_sub hl [0, 1, 2] rfl)
  have hw : zS G ((st, zo 1 (stF z co (nI ps) (nI dy) gg)) :: (z 0, zc G 1 (zI 9 (vI pl))) :: (z 1, zc G 1 (zI 9 (vI nu))) :: (z 2, zc G 1 (zI 5 (vI ax))) :: (z 4, zc G 2 (zI 5 (vI (updN kn i (kn i ||| orB (spyF pl nu ax i) 0))))) :: rest) s s.heap [] := hw
  exact loop_2 ((ps - 0) + 1) 0 (by omega) (Nat.lt_succ_self _) s.heap [] ls hw (lv_sub hl [1, 2, 0] rfl)
theorem zn_X0_has : zNs yX0_has cX0_has 2 (some .boolean) 2 := ⟨q823, q49, ⟨by decide +kernel, by decide +kernel⟩, by decide +kernel⟩
theorem zm_min : Cond.static Lib.Math.min.name ∈ lw_all ∧ Cond.initialized "java/lang/Math" ∈ lw_all ∧ Cond.code Lib.Math.min.name Lib.Math.min.code 2 (some .int) ∈ lw_all := ⟨q356, q60, q357⟩
theorem zn_X0_squirrel_2 : zNs yX0_squirrel_2 cX0_squirrel_2 2 (some (.object "NutCaches$Squirrel")) 1 := ⟨q835, q49, ⟨by decide +kernel, by decide +kernel⟩, by decide +kernel⟩
theorem zn_X8_rank : zNs yX8_rank cX8_rank 5 (some .int) 4 := ⟨q993, q80, ⟨by decide +kernel, by decide +kernel⟩, by decide +kernel⟩
theorem zn_X9_rank : zNs yX9_rank cX9_rank 5 (some .int) 4 := ⟨q987, q81, ⟨by decide +kernel, by decide +kernel⟩, by decide +kernel⟩
set_option maxHeartbeats 4000000 in
theorem m_X1_picks (G : zE) (l : Launch) (kA : Nat → Nat) (hG : zG G kA) (st : Nat) (co : Nat) (z : Nat → Nat) (w : Nat → Nat) (bm : Int32) (sm : Int32) (lt : Int32) (ps : Nat) (dy : Nat) (mn : Nat) (gg : Int32) (v : Nat → Nat) (pl : Nat → Nat) (nu : Nat → Nat) (ax : Nat → Nat) (le : Nat → Nat) (kn : Nat → Nat) (sf : Nat → Option Nat) (oq : Nat) (kd : Nat) (nd : Nat) (nm : Int32) (i : Nat) (hps : ps = v 0) (hg : Hg v) (hR : sRel v pl nu ax le kn) (hi : i < v 1) (hkd : kd = v (21 + 5 * i)) (hsf : sf i = some oq) (rest : va_W) : zMi G l yX1_picks cX1_picks 6 (some .int) 3 0 0 [.ref st, .int (nI i)] ((st, zo 1 (stF z co (nI ps) (nI dy) (gg))) :: (z 0, zc G 1 (zI 9 (vI pl))) :: (z 1, zc G 1 (zI 9 (vI nu))) :: (z 2, zc G 1 (zI 5 (vI ax))) :: (z 3, zc G 1 (zI 5 (vI le))) :: (z 4, zc G 2 (zI 5 (vI kn))) :: (co, zo 0 (cF w (nI mn) bm sm lt)) :: (w 0, zc G 4 (zO 5 sf)) :: (oq, zo (5 + kd) (sqF nm (nI nd))) :: rest) (fun (r : Int32) (_ : Unit) => r = optI (picksN v i (mayN v i) (v 0))) (fun (_ : Unit) => (st, zo 1 (stF z co (nI ps) (nI dy) (gg))) :: (z 0, zc G 1 (zI 9 (vI pl))) :: (z 1, zc G 1 (zI 9 (vI nu))) :: (z 2, zc G 1 (zI 5 (vI ax))) :: (z 3, zc G 1 (zI 5 (vI le))) :: (z 4, zc G 2 (zI 5 (vI kn))) :: (co, zo 0 (cF w (nI mn) bm sm lt)) :: (w 0, zc G 4 (zO 5 sf)) :: (oq, zo (5 + kd) (sqF nm (nI nd))) :: rest) := by
  refine z_begI (by decide) (Nat.le_of_ble_eq_true rfl) (fun p e s m args below meth c ls Q hC hl hw hend => ?_)
  have hx := hC.hx
  have hb := hC.hb
  have hl : lv_has ls 6 [(0, .ref st), (1, .int (nI i))] := hl
  have hw : zS G ((st, zo 1 (stF z co (nI ps) (nI dy) (gg))) :: (z 0, zc G 1 (zI 9 (vI pl))) :: (z 1, zc G 1 (zI 9 (vI nu))) :: (z 2, zc G 1 (zI 5 (vI ax))) :: (z 3, zc G 1 (zI 5 (vI le))) :: (z 4, zc G 2 (zI 5 (vI kn))) :: (co, zo 0 (cF w (nI mn) bm sm lt)) :: (w 0, zc G 4 (zO 5 sf)) :: (oq, zo (5 + kd) (sqF nm (nI nd))) :: rest) s s.heap [] := hw
  have hz := hG s hC.hZ.1
  subst hps
  have hw : zS G ((st, zo 1 (stF z co (nI (v 0)) (nI dy) (gg))) :: (z 0, zc G 1 (zI 9 (vI pl))) :: (z 1, zc G 1 (zI 9 (vI nu))) :: (z 2, zc G 1 (zI 5 (vI ax))) :: (z 3, zc G 1 (zI 5 (vI le))) :: (z 4, zc G 2 (zI 5 (vI kn))) :: (co, zo 0 (cF w (nI mn) bm sm lt)) :: (w 0, zc G 4 (zO 5 sf)) :: (oq, zo (5 + kd) (sqF nm (nI nd))) :: rest) s s.heap [] := hw
  have hpl := fun j => (hR.2.2.2 j).1
  have hnu := fun j => (hR.2.2.2 j).2.1
  have hax := fun j => (hR.2.2.2 j).2.2.1
  have hle := fun j => (hR.2.2.2 j).2.2.2.1
  have hkn := fun j => (hR.2.2.2 j).2.2.2.2
  have hv0 := hg.1.1
  have hv1 := hg.1.2.1
  have hkd5 : kd < 5 := by rw [hkd]; exact (hg.2.2 i hi).1
  have hk5 : kd = 0 ∨ kd = 1 ∨ kd = 2 ∨ kd = 3 ∨ kd = 4 := by omega
  have hai := hR.2.1 i hi
  have hki := (hR.2.2.1 i (by omega)).2
  refine lv_iconst (v := -1) hx hb dX1_picks_0 zk_m1 ?_
  refine lv_istore_n (lv' := [(2, .int (-1)), (0, .ref st), (1, .int (nI i))]) hx hb dX1_picks_1 rfl hl (by decide) rfl (fun ls hl => ?_)
  refine lv_ldc (v := (nI 999999)) hx hb hC.hown (hC.hts _ q982) dX1_picks_2 ?_
  refine lv_istore_n (lv' := [(3, .int (nI 999999)), (2, .int (-1)), (0, .ref st), (1, .int (nI i))]) hx hb dX1_picks_4 rfl hl (by decide) rfl (fun ls hl => ?_)
  refine lv_iconst (v := (nI 0)) hx hb dX1_picks_5 zk_0 ?_
  refine lv_istore (lv' := [(4, .int (nI 0)), (3, .int (nI 999999)), (2, .int (-1)), (0, .ref st), (1, .int (nI i))]) hx hb dX1_picks_6 hl (by decide) rfl (fun ls hl => ?_)
  have loop_8 : ∀ (fuel : Nat) (t : Nat) (b : Option Nat), (t ≤ v 0) → (b = picksN v i (mayN v i) t) → (v 0 - t) < fuel → ∀ (H : Heap) (locs : List Loc) (ls : Array Slot), zS G ((st, zo 1 (stF z co (nI (v 0)) (nI dy) (gg))) :: (z 0, zc G 1 (zI 9 (vI pl))) :: (z 1, zc G 1 (zI 9 (vI nu))) :: (z 2, zc G 1 (zI 5 (vI ax))) :: (z 3, zc G 1 (zI 5 (vI le))) :: (z 4, zc G 2 (zI 5 (vI kn))) :: (co, zo 0 (cF w (nI mn) bm sm lt)) :: (w 0, zc G 4 (zO 5 sf)) :: (oq, zo (5 + kd) (sqF nm (nI nd))) :: rest) s H locs → lv_has ls 6 [(0, .ref st), (1, .int (nI i)), (2, .int (optI b)), (3, .int (nI (firstN v i b))), (4, .int (nI t))] → W p l e (zR 3 0 0) s m args below meth c H locs 0 0 Q (F0 m 8 ls []) := by
    intro fuel
    induction fuel with
    | zero => intro t b ht hbe hfuel; exact absurd hfuel (Nat.not_lt_zero _)
    | succ fuel_8 ih_8 =>
      intro t b ht hbe hfuel_8 H locs ls hw hl
      refine lv_iload hx hb dX1_picks_8 (lv_at hl 4 rfl) ?_
      refine lv_aload_n hx hb dX1_picks_10 rfl (lv_at hl 0 rfl) ?_
      refine z_get (v := .int (nI (v 0))) hC zf_X1_38_1 hw 0 rfl rfl dX1_picks_11 ?_
      refine zi_ge (tgt := 106) hx hb (by omega) (by have := hg.1.2.2.1 0; omega) dX1_picks_14 (by decide) (fun c_14 => ?_) (fun c_14 => ?_)
      · skip
        refine lv_iload_n hx hb dX1_picks_106 rfl (lv_at hl 2 rfl) ?_
        exact hend _ _ _ _ _ _ _ () hw (by rw [hbe, show t = v 0 by omega]) (Nat.le_of_ble_eq_true rfl) (Nat.le_of_ble_eq_true rfl) dX1_picks_107
      · skip
        have htt : t < v 0 := by omega
        have hpt := hR.1 t htt
        refine lv_aload_n hx hb dX1_picks_17 rfl (lv_at hl 0 rfl) ?_
        refine z_get (v := .ref (z 4)) hC zf_X1_28_1 hw 0 rfl rfl dX1_picks_18 ?_
        refine lv_iload_n hx hb dX1_picks_21 rfl (lv_at hl 1 rfl) ?_
        refine z_sald (x := (nI (kn i))) hC hw 5 rfl (by omega) (by decide) rfl dX1_picks_22 ?_
        refine lv_iload hx hb dX1_picks_23 (lv_at hl 4 rfl) ?_
        refine z_ci (z_runSN (n := 2) (As := [.int (nI (kn i)), .int (nI t)]) (rest := []) hC ⟨zn_X0_has, q822⟩ (hz.1 _ (cw_t q983 rfl)) (m_X0_has G l (kn i) t (by have := hkn i; omega) (by omega) _) hw rfl rfl (Nat.le_of_ble_eq_true rfl) hl.1 ⟨Nat.le_of_ble_eq_true rfl, Nat.le_of_ble_eq_true rfl⟩ ⟨(Nat.le_of_ble_eq_true rfl), (Nat.le_of_ble_eq_true rfl)⟩ dX1_picks_25) hw (fun _ => List.Perm.refl _) (fun r u H locs hp hw => ?_)
        obtain rfl : r = bI ((kn i).testBit t = true) := hp
        refine zb_eq (tgt := 100) hx hb dX1_picks_28 (by decide) (fun c_28 => ?_) (fun c_28 => ?_)
        · skip
          refine lv_iinc (v := (nI (t + 1))) (lv' := [(4, .int (nI (t + 1))), (0, .ref st), (1, .int (nI i)), (2, .int (optI b)), (3, .int (nI (firstN v i b)))]) hx hb dX1_picks_100 hl (k := 4) rfl (zincn _ 1) (by decide) rfl (fun ls hl => ?_)
          refine lv_goto (tgt := 8) hx hb dX1_picks_103 (by decide) ?_
          exact ih_8 (t + 1) b (by have := hg.1.2.2.1 0; omega) (by first | rfl | exact picksN_f (fun q => by have q2 := (may_iff htt).mp q; first | exact c_28 (hki ▸ q2.1) | (have := hpt.2; omega)) hbe) (by have := hg.1.2.2.1 0; omega) H locs ls hw (lv_sub hl [1, 2, 3, 4, 0] rfl)
        · skip
          refine lv_aload_n hx hb dX1_picks_31 rfl (lv_at hl 0 rfl) ?_
          refine z_get (v := .ref (z 1)) hC zf_X1_19_1 hw 0 rfl rfl dX1_picks_32 ?_
          refine lv_iload hx hb dX1_picks_35 (lv_at hl 4 rfl) ?_
          refine z_bald (x := (nI (nu t))) hC hw 2 rfl (by omega) (by decide) rfl dX1_picks_37 ?_
          refine zj_ne (tgt := 44) hx hb (by have := hnu t; omega) dX1_picks_38 (by decide) (fun c_38 => ?_) (fun c_38 => ?_)
          · skip
            have hmb : (mayN v i).testBit t = true := (may_iff htt).mpr ⟨hki ▸ c_28, by rw [← hpt.2]; exact c_38⟩
            have hf9 := first_lt hg hi ht hbe
            have join_78 : ∀ (r9 : Nat), (r9 = rankN kd (apartN (ax i) (pl t)) (pl t) (nu t) t) → ∀ (H : Heap) (locs : List Loc) (ls : Array Slot), zS G ((st, zo 1 (stF z co (nI (v 0)) (nI dy) (gg))) :: (z 0, zc G 1 (zI 9 (vI pl))) :: (z 1, zc G 1 (zI 9 (vI nu))) :: (z 2, zc G 1 (zI 5 (vI ax))) :: (z 3, zc G 1 (zI 5 (vI le))) :: (z 4, zc G 2 (zI 5 (vI kn))) :: (co, zo 0 (cF w (nI mn) bm sm lt)) :: (w 0, zc G 4 (zO 5 sf)) :: (oq, zo (5 + kd) (sqF nm (nI nd))) :: rest) s H locs → lv_has ls 6 [(0, .ref st), (1, .int (nI i)), (2, .int (optI b)), (3, .int (nI (firstN v i b))), (4, .int (nI t))] → W p l e (zR 3 0 0) s m args below meth c H locs 0 0 Q (F0 m 78 ls [.int (nI r9)]) := by
              intro r9 hr9 H locs ls hw hl
              have hrk : r9 = rkS v i t := by rw [hr9, hkd, hai, hpt.1, hpt.2]; rfl
              have hr8 := rk_lt hg hi htt
              subst hrk
              refine lv_istore (lv' := [(5, .int (nI (rkS v i t))), (0, .ref st), (1, .int (nI i)), (2, .int (optI b)), (3, .int (nI (firstN v i b))), (4, .int (nI t))]) hx hb dX1_picks_78 hl (by decide) rfl (fun ls hl => ?_)
              have join_92 : ∀ (b2 : Option Nat), (b2 = picksN v i (mayN v i) (t + 1)) → ∀ (H : Heap) (locs : List Loc) (ls : Array Slot), zS G ((st, zo 1 (stF z co (nI (v 0)) (nI dy) (gg))) :: (z 0, zc G 1 (zI 9 (vI pl))) :: (z 1, zc G 1 (zI 9 (vI nu))) :: (z 2, zc G 1 (zI 5 (vI ax))) :: (z 3, zc G 1 (zI 5 (vI le))) :: (z 4, zc G 2 (zI 5 (vI kn))) :: (co, zo 0 (cF w (nI mn) bm sm lt)) :: (w 0, zc G 4 (zO 5 sf)) :: (oq, zo (5 + kd) (sqF nm (nI nd))) :: rest) s H locs → lv_has ls 6 [(0, .ref st), (1, .int (nI i)), (2, .int (optI b)), (3, .int (nI (firstN v i b))), (4, .int (nI t)), (5, .int (nI (rkS v i t)))] → W p l e (zR 3 0 0) s m args below meth c H locs 0 0 Q (F0 m 92 ls [.int (optI b2)]) := by
                intro b2 hb2 H locs ls hw hl
                subst hb2
                refine lv_istore_n (lv' := [(2, .int (optI (picksN v i (mayN v i) (t + 1)))), (0, .ref st), (1, .int (nI i)), (3, .int (nI (firstN v i b))), (4, .int (nI t)), (5, .int (nI (rkS v i t)))]) hx hb dX1_picks_92 rfl hl (by decide) rfl (fun ls hl => ?_)
                refine lv_iload_n hx hb dX1_picks_93 rfl (lv_at hl 3 rfl) ?_
                refine lv_iload hx hb dX1_picks_94 (lv_at hl 5 rfl) ?_
                refine z_mmin (v := nI (firstN v i (picksN v i (mayN v i) (t + 1)))) hC hl.1 q997 zm_min ((zm_min_d (by omega) (by omega)).trans (congrArg nI (pick_min hg hi htt hbe hmb))) (Nat.le_of_ble_eq_true rfl) ⟨Nat.le_of_ble_eq_true rfl, Nat.le_of_ble_eq_true rfl⟩ (Nat.le_of_ble_eq_true rfl) (Nat.le_of_ble_eq_true rfl) dX1_picks_96 ?_
                refine lv_istore_n (lv' := [(3, .int (nI (firstN v i (picksN v i (mayN v i) (t + 1))))), (2, .int (optI (picksN v i (mayN v i) (t + 1)))), (0, .ref st), (1, .int (nI i)), (4, .int (nI t)), (5, .int (nI (rkS v i t)))]) hx hb dX1_picks_99 rfl hl (by decide) rfl (fun ls hl => ?_)
                refine lv_iinc (v := (nI (t + 1))) (lv' := [(4, .int (nI (t + 1))), (3, .int (nI (firstN v i (picksN v i (mayN v i) (t + 1))))), (2, .int (optI (picksN v i (mayN v i) (t + 1)))), (0, .ref st), (1, .int (nI i)), (5, .int (nI (rkS v i t)))]) hx hb dX1_picks_100 hl (k := 4) rfl (zincn _ 1) (by decide) rfl (fun ls hl => ?_)
                refine lv_goto (tgt := 8) hx hb dX1_picks_103 (by decide) ?_
                exact ih_8 (t + 1) (picksN v i (mayN v i) (t + 1)) (by have := hg.1.2.2.1 0; omega) (by first | rfl | exact picksN_f (fun q => by have q2 := (may_iff htt).mp q; first | exact c_28 (hki ▸ q2.1) | (have := hpt.2; omega)) hbe) (by have := hg.1.2.2.1 0; omega) H locs ls hw (lv_sub hl [3, 4, 2, 1, 0] rfl)
              refine lv_iload hx hb dX1_picks_80 (lv_at hl 0 rfl) ?_
              refine lv_iload_n hx hb dX1_picks_82 rfl (lv_at hl 4 rfl) ?_
              refine zi_ge (tgt := 91) hx hb (by omega) (by omega) dX1_picks_83 (by decide) (fun c_83 => ?_) (fun c_83 => ?_)
              · skip
                refine lv_iload_n hx hb dX1_picks_91 rfl (lv_at hl 3 rfl) ?_
                exact join_92 b (by first | exact pick_no hg hi htt hbe hmb (by omega) | exact pick_go hg hi htt hbe hmb (by omega)) H locs ls hw (lv_sub hl [1, 2, 3, 4, 5, 0] rfl)
              · skip
                refine lv_iload hx hb dX1_picks_86 (lv_at hl 5 rfl) ?_
                refine lv_goto (tgt := 92) hx hb dX1_picks_88 (by decide) ?_
                exact join_92 (some t) (by first | exact pick_no hg hi htt hbe hmb (by omega) | exact pick_go hg hi htt hbe hmb (by omega)) H locs ls hw (lv_sub hl [1, 2, 3, 4, 5, 0] rfl)
            refine lv_aload_n hx hb dX1_picks_44 rfl (lv_at hl 0 rfl) ?_
            refine z_get (v := .ref co) hC zf_X1_3_1 hw 0 rfl rfl dX1_picks_45 ?_
            refine lv_iload_n hx hb dX1_picks_48 rfl (lv_at hl 1 rfl) ?_
            refine z_cq (z_runVN (n := 1) (As := [.int (nI i)]) (rest := []) hC ⟨zn_X0_squirrel_2, q834, qs12⟩ (hz.1 _ (cw_t q936 rfl)) (m_X0_squirrel_2 G l kA (by first | assumption | (omega)) co w bm sm lt mn sf oq kd nd nm i (by omega) (by omega) (by omega) (zrem [6, 7, 8] _)) hw (hw.perm (z_cut (is := [6, 7, 8]) (cells := [(co, zo 0 (cF w (nI mn) bm sm lt)), (w 0, zc G 4 (zO 5 sf)), (oq, zo (5 + kd) (sqF nm (nI nd)))]) rfl rfl)) 6 rfl rfl rfl rfl rfl (Nat.le_of_ble_eq_true rfl) hl.1 ⟨Nat.le_of_ble_eq_true rfl, Nat.le_of_ble_eq_true rfl⟩ ⟨(Nat.le_of_ble_eq_true rfl), (Nat.le_of_ble_eq_true rfl)⟩ dX1_picks_49) hw (fun _ => z_keep (is := [6, 7, 8]) (cs := [(co, zo 0 (cF w (nI mn) bm sm lt)), (w 0, zc G 4 (zO 5 sf)), (oq, zo (5 + kd) (sqF nm (nI nd)))]) rfl rfl) (fun r u H locs hp hw => ?_)
            obtain rfl : r = some oq := hp
            refine lv_aload_n hx hb dX1_picks_52 rfl (lv_at hl 0 rfl) ?_
            refine lv_iload_n hx hb dX1_picks_53 rfl (lv_at hl 1 rfl) ?_
            refine lv_iload hx hb dX1_picks_54 (lv_at hl 4 rfl) ?_
            refine z_ci (z_runV (As := [.int (nI i), .int (nI t)]) (rest := [.ref oq]) hC zv_X1_51 (m_X1_off G l st co z (v 0) dy gg ax pl i t (by omega) (by omega) (by first | assumption | (have := hax j; omega)) (by first | assumption | (have := hpl j; omega)) (zrem [0, 1, 3] _)) hw (hw.perm (z_cut (is := [0, 1, 3]) (cells := [(st, zo 1 (stF z co (nI (v 0)) (nI dy) gg)), (z 0, zc G 1 (zI 9 (vI pl))), (z 2, zc G 1 (zI 5 (vI ax)))]) rfl rfl)) 0 rfl rfl rfl rfl rfl (Nat.le_of_ble_eq_true rfl) hl.1 ⟨Nat.le_of_ble_eq_true rfl, Nat.le_of_ble_eq_true rfl⟩ ⟨(Nat.le_of_ble_eq_true rfl), (Nat.le_of_ble_eq_true rfl)⟩ dX1_picks_56) hw (fun _ => z_keep (is := [0, 1, 3]) (cs := [(st, zo 1 (stF z co (nI (v 0)) (nI dy) gg)), (z 0, zc G 1 (zI 9 (vI pl))), (z 2, zc G 1 (zI 5 (vI ax)))]) rfl rfl) (fun r u H locs hp hw => ?_)
            obtain rfl : r = nI (apartN (ax i) (pl t)) := hp
            refine lv_aload_n hx hb dX1_picks_59 rfl (lv_at hl 0 rfl) ?_
            refine z_get (v := .ref (z 0)) hC zf_X1_15_1 hw 0 rfl rfl dX1_picks_60 ?_
            refine lv_iload hx hb dX1_picks_63 (lv_at hl 4 rfl) ?_
            refine z_bald (x := (nI (pl t))) hC hw 1 rfl (by omega) (by decide) rfl dX1_picks_65 ?_
            refine lv_aload_n hx hb dX1_picks_66 rfl (lv_at hl 0 rfl) ?_
            refine z_get (v := .ref (z 1)) hC zf_X1_19_1 hw 0 rfl rfl dX1_picks_67 ?_
            refine lv_iload hx hb dX1_picks_70 (lv_at hl 4 rfl) ?_
            refine z_bald (x := (nI (nu t))) hC hw 2 rfl (by omega) (by decide) rfl dX1_picks_72 ?_
            refine lv_iload hx hb dX1_picks_73 (lv_at hl 4 rfl) ?_
            rcases hk5 with rfl | rfl | rfl | rfl | rfl
            · skip
              have hl : lv_has ls 6 [(0, .ref st), (1, .int (nI i)), (2, .int (optI b)), (3, .int (nI (firstN v i b))), (4, .int (nI t))] := hl
              have hw : zS G ((st, zo 1 (stF z co (nI (v 0)) (nI dy) gg)) :: (z 0, zc G 1 (zI 9 (vI pl))) :: (z 1, zc G 1 (zI 9 (vI nu))) :: (z 2, zc G 1 (zI 5 (vI ax))) :: (z 3, zc G 1 (zI 5 (vI le))) :: (z 4, zc G 2 (zI 5 (vI kn))) :: (co, zo 0 (cF w (nI mn) bm sm lt)) :: (w 0, zc G 4 (zO 5 sf)) :: (oq, zo 5 (sqF nm (nI nd))) :: rest) s H locs := hw
              refine z_ci (z_runB (x := (⟨"NutCaches$Squirrel", "rank", "(IIII)I"⟩ : MethodName)) (owner := "NutCaches$Habit") (C := "NutCaches$Plain") (n := 4) (As := [.int (nI (apartN (ax i) (pl t))), .int (nI (pl t)), .int (nI (nu t)), .int (nI t)]) (rest := []) hC ⟨zn_X6_rank, q989, q995, ⟨by decide +kernel, by decide +kernel⟩, by decide +kernel⟩ (va_Nw.use rfl (hz.1 _ (cw_d 12 rfl rfl))) (va_Nw.use rfl (hz.1 _ (cw_d 13 rfl rfl))) (va_Decl.abs (hz.1 _ (cw_t q984 rfl))) (m_X6_rank G l oq (apartN (ax i) (pl t)) (pl t) (nu t) t _) hw hw 8 rfl rfl rfl rfl rfl (Nat.le_of_ble_eq_true rfl) hl.1 ⟨Nat.le_of_ble_eq_true rfl, Nat.le_of_ble_eq_true rfl⟩ ⟨(Nat.le_of_ble_eq_true rfl), (Nat.le_of_ble_eq_true rfl)⟩ dX1_picks_75) hw (fun _ => List.Perm.refl _) (fun r u H locs hp hw => ?_)
              obtain rfl : r = nI (((apartN (ax i) (pl t)) * 20 + (pl t)) * 10 + t) := hp
              exact join_78 (((apartN (ax i) (pl t)) * 20 + (pl t)) * 10 + t) (by first | rfl | (show _ = _; unfold rankN; rfl)) H locs ls hw (lv_sub hl [0, 1, 2, 3, 4] rfl)
            · skip
              have hl : lv_has ls 6 [(0, .ref st), (1, .int (nI i)), (2, .int (optI b)), (3, .int (nI (firstN v i b))), (4, .int (nI t))] := hl
              have hw : zS G ((st, zo 1 (stF z co (nI (v 0)) (nI dy) gg)) :: (z 0, zc G 1 (zI 9 (vI pl))) :: (z 1, zc G 1 (zI 9 (vI nu))) :: (z 2, zc G 1 (zI 5 (vI ax))) :: (z 3, zc G 1 (zI 5 (vI le))) :: (z 4, zc G 2 (zI 5 (vI kn))) :: (co, zo 0 (cF w (nI mn) bm sm lt)) :: (w 0, zc G 4 (zO 5 sf)) :: (oq, zo 6 (sqF nm (nI nd))) :: rest) s H locs := hw
              refine z_ci (z_runB (x := (⟨"NutCaches$Squirrel", "rank", "(IIII)I"⟩ : MethodName)) (owner := "NutCaches$Habit") (C := "NutCaches$Greedy") (n := 4) (As := [.int (nI (apartN (ax i) (pl t))), .int (nI (pl t)), .int (nI (nu t)), .int (nI t)]) (rest := []) hC ⟨zn_X6_rank, q989, q988, ⟨by decide +kernel, by decide +kernel⟩, by decide +kernel⟩ (va_Nw.use rfl (hz.1 _ (cw_d 12 rfl rfl))) (va_Nw.use rfl (hz.1 _ (cw_d 13 rfl rfl))) (va_Decl.abs (hz.1 _ (cw_t q984 rfl))) (m_X6_rank G l oq (apartN (ax i) (pl t)) (pl t) (nu t) t _) hw hw 8 rfl rfl rfl rfl rfl (Nat.le_of_ble_eq_true rfl) hl.1 ⟨Nat.le_of_ble_eq_true rfl, Nat.le_of_ble_eq_true rfl⟩ ⟨(Nat.le_of_ble_eq_true rfl), (Nat.le_of_ble_eq_true rfl)⟩ dX1_picks_75) hw (fun _ => List.Perm.refl _) (fun r u H locs hp hw => ?_)
              obtain rfl : r = nI (((apartN (ax i) (pl t)) * 20 + (pl t)) * 10 + t) := hp
              exact join_78 (((apartN (ax i) (pl t)) * 20 + (pl t)) * 10 + t) (by first | rfl | (show _ = _; unfold rankN; rfl)) H locs ls hw (lv_sub hl [0, 1, 2, 3, 4] rfl)
            · skip
              have hl : lv_has ls 6 [(0, .ref st), (1, .int (nI i)), (2, .int (optI b)), (3, .int (nI (firstN v i b))), (4, .int (nI t))] := hl
              have hw : zS G ((st, zo 1 (stF z co (nI (v 0)) (nI dy) gg)) :: (z 0, zc G 1 (zI 9 (vI pl))) :: (z 1, zc G 1 (zI 9 (vI nu))) :: (z 2, zc G 1 (zI 5 (vI ax))) :: (z 3, zc G 1 (zI 5 (vI le))) :: (z 4, zc G 2 (zI 5 (vI kn))) :: (co, zo 0 (cF w (nI mn) bm sm lt)) :: (w 0, zc G 4 (zO 5 sf)) :: (oq, zo 7 (sqF nm (nI nd))) :: rest) s H locs := hw
              refine z_ci (z_runB (x := (⟨"NutCaches$Squirrel", "rank", "(IIII)I"⟩ : MethodName)) (owner := "NutCaches$Habit") (C := "NutCaches$Neat") (n := 4) (As := [.int (nI (apartN (ax i) (pl t))), .int (nI (pl t)), .int (nI (nu t)), .int (nI t)]) (rest := []) hC ⟨zn_X8_rank, q992, q991, ⟨by decide +kernel, by decide +kernel⟩, by decide +kernel⟩ (va_Nw.use rfl (hz.1 _ (cw_d 12 rfl rfl))) (va_Nw.use rfl (hz.1 _ (cw_d 13 rfl rfl))) (va_Decl.abs (hz.1 _ (cw_t q984 rfl))) (m_X8_rank G l kA (by first | assumption | (omega)) oq (apartN (ax i) (pl t)) (pl t) (nu t) t nm (nI nd) (zrem [8] _)) hw (hw.perm (z_cut (is := [8]) (cells := [(oq, zo 7 (sqF nm (nI nd)))]) rfl rfl)) 8 rfl rfl rfl rfl rfl (Nat.le_of_ble_eq_true rfl) hl.1 ⟨Nat.le_of_ble_eq_true rfl, Nat.le_of_ble_eq_true rfl⟩ ⟨(Nat.le_of_ble_eq_true rfl), (Nat.le_of_ble_eq_true rfl)⟩ dX1_picks_75) hw (fun _ => z_keep (is := [8]) (cs := [(oq, zo 7 (sqF nm (nI nd)))]) rfl rfl) (fun r u H locs hp hw => ?_)
              obtain rfl : r = nI ((nu t) * 10000 + (((apartN (ax i) (pl t)) * 20 + (pl t)) * 10 + t)) := hp
              exact join_78 ((nu t) * 10000 + (((apartN (ax i) (pl t)) * 20 + (pl t)) * 10 + t)) (by first | rfl | (show _ = _; unfold rankN; rfl)) H locs ls hw (lv_sub hl [0, 1, 2, 3, 4] rfl)
            · skip
              have hl : lv_has ls 6 [(0, .ref st), (1, .int (nI i)), (2, .int (optI b)), (3, .int (nI (firstN v i b))), (4, .int (nI t))] := hl
              have hw : zS G ((st, zo 1 (stF z co (nI (v 0)) (nI dy) gg)) :: (z 0, zc G 1 (zI 9 (vI pl))) :: (z 1, zc G 1 (zI 9 (vI nu))) :: (z 2, zc G 1 (zI 5 (vI ax))) :: (z 3, zc G 1 (zI 5 (vI le))) :: (z 4, zc G 2 (zI 5 (vI kn))) :: (co, zo 0 (cF w (nI mn) bm sm lt)) :: (w 0, zc G 4 (zO 5 sf)) :: (oq, zo 8 (sqF nm (nI nd))) :: rest) s H locs := hw
              refine z_ci (z_runB (x := (⟨"NutCaches$Squirrel", "rank", "(IIII)I"⟩ : MethodName)) (owner := "NutCaches$Habit") (C := "NutCaches$Dozy") (n := 4) (As := [.int (nI (apartN (ax i) (pl t))), .int (nI (pl t)), .int (nI (nu t)), .int (nI t)]) (rest := []) hC ⟨zn_X9_rank, q986, q985, ⟨by decide +kernel, by decide +kernel⟩, by decide +kernel⟩ (va_Nw.use rfl (hz.1 _ (cw_d 12 rfl rfl))) (va_Nw.use rfl (hz.1 _ (cw_d 13 rfl rfl))) (va_Decl.abs (hz.1 _ (cw_t q984 rfl))) (m_X9_rank G l oq (apartN (ax i) (pl t)) (pl t) (nu t) t _) hw hw 8 rfl rfl rfl rfl rfl (Nat.le_of_ble_eq_true rfl) hl.1 ⟨Nat.le_of_ble_eq_true rfl, Nat.le_of_ble_eq_true rfl⟩ ⟨(Nat.le_of_ble_eq_true rfl), (Nat.le_of_ble_eq_true rfl)⟩ dX1_picks_75) hw (fun _ => List.Perm.refl _) (fun r u H locs hp hw => ?_)
              obtain rfl : r = nI t := hp
              exact join_78 t (by first | rfl | (show _ = _; unfold rankN; rfl)) H locs ls hw (lv_sub hl [0, 1, 2, 3, 4] rfl)
            · skip
              have hl : lv_has ls 6 [(0, .ref st), (1, .int (nI i)), (2, .int (optI b)), (3, .int (nI (firstN v i b))), (4, .int (nI t))] := hl
              have hw : zS G ((st, zo 1 (stF z co (nI (v 0)) (nI dy) gg)) :: (z 0, zc G 1 (zI 9 (vI pl))) :: (z 1, zc G 1 (zI 9 (vI nu))) :: (z 2, zc G 1 (zI 5 (vI ax))) :: (z 3, zc G 1 (zI 5 (vI le))) :: (z 4, zc G 2 (zI 5 (vI kn))) :: (co, zo 0 (cF w (nI mn) bm sm lt)) :: (w 0, zc G 4 (zO 5 sf)) :: (oq, zo 9 (sqF nm (nI nd))) :: rest) s H locs := hw
              refine z_ci (z_runB (x := (⟨"NutCaches$Squirrel", "rank", "(IIII)I"⟩ : MethodName)) (owner := "NutCaches$Habit") (C := "NutCaches$Spy") (n := 4) (As := [.int (nI (apartN (ax i) (pl t))), .int (nI (pl t)), .int (nI (nu t)), .int (nI t)]) (rest := []) hC ⟨zn_X9_rank, q986, q996, ⟨by decide +kernel, by decide +kernel⟩, by decide +kernel⟩ (va_Nw.use rfl (hz.1 _ (cw_d 12 rfl rfl))) (va_Nw.use rfl (hz.1 _ (cw_d 13 rfl rfl))) (va_Decl.abs (hz.1 _ (cw_t q984 rfl))) (m_X9_rank G l oq (apartN (ax i) (pl t)) (pl t) (nu t) t _) hw hw 8 rfl rfl rfl rfl rfl (Nat.le_of_ble_eq_true rfl) hl.1 ⟨Nat.le_of_ble_eq_true rfl, Nat.le_of_ble_eq_true rfl⟩ ⟨(Nat.le_of_ble_eq_true rfl), (Nat.le_of_ble_eq_true rfl)⟩ dX1_picks_75) hw (fun _ => List.Perm.refl _) (fun r u H locs hp hw => ?_)
              obtain rfl : r = nI t := hp
              exact join_78 t (by first | rfl | (show _ = _; unfold rankN; rfl)) H locs ls hw (lv_sub hl [0, 1, 2, 3, 4] rfl)
          · skip
            refine lv_goto (tgt := 100) hx hb dX1_picks_41 (by decide) ?_
            refine lv_iinc (v := (nI (t + 1))) (lv' := [(4, .int (nI (t + 1))), (0, .ref st), (1, .int (nI i)), (2, .int (optI b)), (3, .int (nI (firstN v i b)))]) hx hb dX1_picks_100 hl (k := 4) rfl (zincn _ 1) (by decide) rfl (fun ls hl => ?_)
            refine lv_goto (tgt := 8) hx hb dX1_picks_103 (by decide) ?_
            exact ih_8 (t + 1) b (by have := hg.1.2.2.1 0; omega) (by first | rfl | exact picksN_f (fun q => by have q2 := (may_iff htt).mp q; first | exact c_28 (hki ▸ q2.1) | (have := hpt.2; omega)) hbe) (by have := hg.1.2.2.1 0; omega) H locs ls hw (lv_sub hl [1, 2, 3, 4, 0] rfl)
  exact loop_8 ((v 0 - 0) + 1) 0 none (by have := hg.1.2.2.1 0; omega) rfl (Nat.lt_succ_self _) s.heap [] ls hw (lv_sub hl [3, 4, 2, 1, 0] rfl)
