/-! MODEL: the jay -/
set_option maxRecDepth 100000
theorem and_not (x y : Int32) : x &&& (y ^^^ (-1)) = x ^^^ (x &&& y) := by
  apply Int32.toBitVec_inj.mp
  have e : (-1 : Int32).toBitVec = BitVec.allOnes 32 := by decide
  simp only [Int32.toBitVec_and, Int32.toBitVec_xor, e]
  apply BitVec.eq_of_getLsbD_eq
  intro i hi
  simp only [BitVec.getLsbD_and, BitVec.getLsbD_xor, BitVec.getLsbD_allOnes]
  cases x.toBitVec.getLsbD i <;> cases y.toBitVec.getLsbD i <;> simp [hi]
theorem nI_xor (a b : Nat) : nI a ^^^ nI b = nI (a ^^^ b) := by
  apply Int32.toBitVec_inj.mp
  simp [nI]
theorem nI_andnot (a b : Nat) : nI a &&& (nI b ^^^ (-1)) = nI (a ^^^ (a &&& b)) := by rw [and_not, nI_and, nI_xor]
theorem sub_iff {a b : Nat} : a ^^^ (a &&& b) = 0 ↔ a &&& b = a := by
  constructor
  · intro h
    apply Nat.eq_of_testBit_eq
    intro i
    have h2 := congrArg (fun x => x.testBit i) h
    simp only [Nat.testBit_xor, Nat.testBit_and, Nat.zero_testBit] at h2 ⊢
    revert h2
    cases a.testBit i <;> cases b.testBit i <;> simp
  · intro h
    rw [h, Nat.xor_self]
theorem sub_bits {a b : Nat} : a &&& b = a ↔ ∀ t, a.testBit t = true → b.testBit t = true := by
  constructor
  · intro h t ht
    rw [← h, Nat.testBit_and, Bool.and_eq_true] at ht
    exact ht.2
  · intro h
    apply Nat.eq_of_testBit_eq
    intro i
    rw [Nat.testBit_and]
    cases ha : a.testBit i with
    | false => rfl
    | true => rw [h i ha]; rfl
theorem jayW_congr {may s1 s2 q : Nat} : ∀ n, (∀ t, t < n → s1.testBit t = s2.testBit t) → jayW may s1 q n = jayW may s2 q n
  | 0, _ => rfl
  | n + 1, h => by rw [jayW, jayW, jayW_congr n (fun t ht => h t (by omega)), h n (by omega)]
/-- the sum of the ways of the parts of may below m -/
def sumW (may q n : Nat) : Nat → Nat
  | 0 => 0
  | s + 1 => sumW may q n s + (if s &&& may = s then jayW may s q n else 0)
theorem sumW_mono {may q n a b : Nat} (h : a ≤ b) : sumW may q n a ≤ sumW may q n b := by
  induction b with
  | zero => rw [show a = 0 by omega]; exact Nat.le_refl _
  | succ b ih =>
    rcases Nat.lt_or_ge a (b + 1) with h1 | h1
    · exact Nat.le_trans (ih (by omega)) (by rw [sumW]; exact Nat.le_add_right _ _)
    · rw [show a = b + 1 by omega]; exact Nat.le_refl _
theorem sumW_low {may q n : Nat} : ∀ m, m ≤ 2 ^ n → sumW may q (n + 1) m = sumW may q n m * (if may.testBit n = true then 10 - q else 1)
  | 0, _ => by simp [sumW]
  | s + 1, h => by
    rw [sumW, sumW, sumW_low s (by omega), Nat.add_mul]
    congr 1
    by_cases hs : s &&& may = s
    · rw [if_pos hs, if_pos hs, jayW, Nat.testBit_lt_two_pow (show s < 2 ^ n by omega)]
      rfl
    · rw [if_neg hs, if_neg hs, Nat.zero_mul]
theorem sumW_high {may q n : Nat} : ∀ m, m ≤ 2 ^ n → sumW may q (n + 1) (2 ^ n + m) = sumW may q (n + 1) (2 ^ n) + (if may.testBit n = true then sumW may q n m * q else 0)
  | 0, _ => by simp [sumW]
  | s + 1, h => by
    rw [show 2 ^ n + (s + 1) = (2 ^ n + s) + 1 by omega, sumW, sumW_high s (by omega), Nat.add_assoc]
    congr 1
    have hlow : ∀ t, t < n → (2 ^ n + s).testBit t = s.testBit t := fun t ht => Nat.testBit_two_pow_add_gt ht s
    have htop : (2 ^ n + s).testBit n = true := by rw [Nat.testBit_two_pow_add_eq, Nat.testBit_lt_two_pow (show s < 2 ^ n by omega)]; rfl
    have hi : ∀ t, n < t → (2 ^ n + s).testBit t = false := fun t ht => Nat.testBit_lt_two_pow (Nat.lt_of_lt_of_le (show 2 ^ n + s < 2 ^ (n + 1) by rw [Nat.pow_succ]; omega) (Nat.pow_le_pow_right (by decide) ht))
    have hsi : ∀ t, n ≤ t → s.testBit t = false := fun t ht => Nat.testBit_lt_two_pow (Nat.lt_of_lt_of_le (show s < 2 ^ n by omega) (Nat.pow_le_pow_right (by decide) ht))
    by_cases hb : may.testBit n = true
    · rw [if_pos hb, if_pos hb, sumW, Nat.add_mul]
      congr 1
      by_cases hs : s &&& may = s
      · have h2 : (2 ^ n + s) &&& may = 2 ^ n + s := sub_bits.mpr fun t ht => by
          rcases Nat.lt_trichotomy t n with h1 | h1 | h1
          · rw [hlow t h1] at ht; exact sub_bits.mp hs t ht
          · rw [h1]; exact hb
          · rw [hi t h1] at ht; cases ht
        rw [if_pos h2, if_pos hs, jayW, if_pos hb, if_pos htop, jayW_congr n hlow]
      · have h2 : ¬ ((2 ^ n + s) &&& may = 2 ^ n + s) := fun h3 => hs (sub_bits.mpr fun t ht => by
          rcases Nat.lt_or_ge t n with h1 | h1
          · exact sub_bits.mp h3 t (by rw [hlow t h1]; exact ht)
          · rw [hsi t h1] at ht; cases ht)
        rw [if_neg h2, if_neg hs, Nat.zero_mul]
    · rw [if_neg hb, if_neg hb, if_neg (fun h3 => hb (sub_bits.mp h3 n htop))]
theorem sumW_all {may q : Nat} (hq : q ≤ 10) : ∀ n, sumW may q n (2 ^ n) = 10 ^ onesN may n
  | 0 => by
    show sumW may q 0 1 = 1
    simp [sumW, jayW]
  | n + 1 => by
    have e : (2 : Nat) ^ (n + 1) = 2 ^ n + 2 ^ n := by rw [Nat.pow_succ]; omega
    rw [e, sumW_high (2 ^ n) (Nat.le_refl _), sumW_low (2 ^ n) (Nat.le_refl _), sumW_all hq n, onesN]
    by_cases hb : may.testBit n = true
    · rw [if_pos hb, if_pos hb, (has_iff may n).mpr hb, Nat.pow_succ, ← Nat.mul_add]
      congr 1; omega
    · have : (may / 2 ^ n) &&& 1 = 0 := by
        have h1 := mt (has_iff may n).mp hb
        rw [Nat.and_one_is_mod] at h1 ⊢
        omega
      rw [if_neg hb, if_neg hb, this, Nat.mul_one]
      rfl
theorem onesN_mono (a : Nat) {m n : Nat} (h : m ≤ n) : onesN a m ≤ onesN a n := by
  induction n with
  | zero => rw [show m = 0 by omega]; exact Nat.le_refl _
  | succ n ih =>
    rcases Nat.lt_or_ge m (n + 1) with h1 | h1
    · exact Nat.le_trans (ih (by omega)) (by rw [onesN]; exact Nat.le_add_right _ _)
    · rw [show m = n + 1 by omega]; exact Nat.le_refl _
theorem jayUp_le {v : Nat → Nat} {i q : Nat} : ∀ m, jayUp v i q m ≤ sumW (fullN v) q (v 0) m
  | 0 => Nat.le_refl _
  | m + 1 => by
    rw [jayUp, sumW]
    refine Nat.add_le_add (jayUp_le m) ?_
    by_cases hs : m &&& fullN v = m
    · rw [if_pos hs, if_pos hs]
      split
      · exact Nat.le_refl _
      · exact Nat.zero_le _
    · rw [if_neg hs, if_neg hs]; exact Nat.le_refl _
theorem jay_bound {v : Nat → Nat} {i q m : Nat} (hH : Hw v) (hq : q ≤ 10) (hm : m ≤ fullN v + 1) : jayUp v i q m ≤ 1000000000 ∧ 10 ^ onesN (fullN v) 9 ≤ 1000000000 := by
  have h1 : fullN v < 2 ^ v 0 := orB_lt _ _
  have h2 := jayUp_le (v := v) (i := i) (q := q) m
  have h3 : sumW (fullN v) q (v 0) m ≤ sumW (fullN v) q (v 0) (2 ^ v 0) := sumW_mono (by omega)
  rw [sumW_all hq] at h3
  have h4 : (10 : Nat) ^ onesN (fullN v) (v 0) ≤ 10 ^ 9 := Nat.pow_le_pow_right (by decide) (Nat.le_trans (onesN_le _ _) hH.1)
  have h5 : (10 : Nat) ^ onesN (fullN v) 9 ≤ 10 ^ 9 := Nat.pow_le_pow_right (by decide) (onesN_le _ _)
  omega
theorem jayH_Hw {v : Nat → Nat} {set : Nat} (hH : Hw v) : ∀ t, t ≤ 9 → Hw (jayH v set t) ∧ ∀ j, (∀ t, t < 9 → j ≠ 3 + 2 * t + 1) → jayH v set t j = v j
  | 0, _ => ⟨hH, fun _ _ => rfl⟩
  | t + 1, h => by
    obtain ⟨a, c⟩ := jayH_Hw (set := set) hH t (by omega)
    have h3 := hH.2.2.1 (3 + 2 * t + 1)
    exact ⟨Hw_upd a (by omega) (by omega) (ite_lt (by omega) h3) (fun i hi h => by omega) (fun i hi h => by omega) (fun i hi h => by omega), fun j hj => (updN_ne _ _ (hj t (by omega))).trans (c j hj)⟩
theorem jayUp_skip {v : Nat → Nat} {i q set : Nat} (h : ¬ set &&& fullN v = set) : jayUp v i q (set + 1) = jayUp v i q set := by rw [jayUp, if_neg h]; rfl
theorem jayUp_go {v : Nat → Nat} {i q set : Nat} (h : set &&& fullN v = set) : jayUp v i q (set + 1) = jayUp v i q set + (if passN (jayH v set (v 0)) (21 + 5 * i + 3) ≤ v (21 + 5 * i + 3) then jayW (fullN v) set q (v 0) else 0) := by rw [jayUp, if_pos h]
set_option maxHeartbeats 4000000 in
theorem m_X2_jay (G : zE) (l : Launch) (mo : Nat) (q : Nat → Nat) (A : AS) (b : Nat → Nat → Int32) (f : Nat → Int32) (hA : AOk A) (hM : MRel A b f) (x : Int32) (y : Int32) (z : Int32) (rest : va_W) : zMi G l yX2_jay cX2_jay 11 (some .int) 5 0 0 [.ref mo, .int x, .int y, .int z] ((mo, zo 2 (mF q (f 1) (f 2) (f 3) (f 4) (f 5) (f 6) (f 7) (f 8) (f 14) (f 19))) :: (q 0, zc G 0 (zI 200 (b 0))) :: (q 9, zc G 0 (zI 46 (b 9))) :: (q 10, zc G 0 (zI 46 (b 10))) :: (q 11, zc G 0 (zI 46 (b 11))) :: (q 12, zc G 0 (zI 46 (b 12))) :: (q 13, zc G 0 (zI 368 (b 13))) :: (q 15, zc G 0 (zI 92 (b 15))) :: (q 16, zc G 3 (zI 2 (b 16))) :: (q 17, zc G 0 (zI 5 (b 17))) :: (q 18, zc G 0 (zI 24 (b 18))) :: (q 20, zc G 0 (zI 3 (b 20))) :: (q 21, zc G 0 (zI 3 (b 21))) :: (q 22, zc G 0 (zI 3 (b 22))) :: (q 23, zc G 0 (zI 36 (b 23))) :: (q 24, zc G 0 (zI 36 (b 24))) :: rest) (fun (r : Int32) (u : MB) => r = F_jay A x y z ∧ MRel A u.1 u.2) (fun (u : MB) => (mo, zo 2 (mF q (u.2 1) (u.2 2) (u.2 3) (u.2 4) (u.2 5) (u.2 6) (u.2 7) (u.2 8) (u.2 14) (u.2 19))) :: (q 0, zc G 0 (zI 200 (u.1 0))) :: (q 9, zc G 0 (zI 46 (u.1 9))) :: (q 10, zc G 0 (zI 46 (u.1 10))) :: (q 11, zc G 0 (zI 46 (u.1 11))) :: (q 12, zc G 0 (zI 46 (u.1 12))) :: (q 13, zc G 0 (zI 368 (u.1 13))) :: (q 15, zc G 0 (zI 92 (u.1 15))) :: (q 16, zc G 3 (zI 2 (u.1 16))) :: (q 17, zc G 0 (zI 5 (u.1 17))) :: (q 18, zc G 0 (zI 24 (u.1 18))) :: (q 20, zc G 0 (zI 3 (u.1 20))) :: (q 21, zc G 0 (zI 3 (u.1 21))) :: (q 22, zc G 0 (zI 3 (u.1 22))) :: (q 23, zc G 0 (zI 36 (u.1 23))) :: (q 24, zc G 0 (zI 36 (u.1 24))) :: rest) := by
  refine z_begI (by decide) (Nat.le_of_ble_eq_true rfl) (fun p e s m args below meth c ls Q hC hl hw hend => ?_)
  have hx := hC.hx
  have hb := hC.hb
  have hl : lv_has ls 11 [(0, .ref mo), (1, .int x), (2, .int y), (3, .int z)] := hl
  have hw : zS G ((mo, zo 2 (mF q (f 1) (f 2) (f 3) (f 4) (f 5) (f 6) (f 7) (f 8) (f 14) (f 19))) :: (q 0, zc G 0 (zI 200 (b 0))) :: (q 9, zc G 0 (zI 46 (b 9))) :: (q 10, zc G 0 (zI 46 (b 10))) :: (q 11, zc G 0 (zI 46 (b 11))) :: (q 12, zc G 0 (zI 46 (b 12))) :: (q 13, zc G 0 (zI 368 (b 13))) :: (q 15, zc G 0 (zI 92 (b 15))) :: (q 16, zc G 3 (zI 2 (b 16))) :: (q 17, zc G 0 (zI 5 (b 17))) :: (q 18, zc G 0 (zI 24 (b 18))) :: (q 20, zc G 0 (zI 3 (b 20))) :: (q 21, zc G 0 (zI 3 (b 21))) :: (q 22, zc G 0 (zI 3 (b 22))) :: (q 23, zc G 0 (zI 36 (b 23))) :: (q 24, zc G 0 (zI 36 (b 24))) :: rest) s s.heap [] := hw
  have hA9 := hA
  obtain ⟨⟨hT, hL⟩, hV0, hV, ⟨hU, hUs⟩, hKp, ⟨hSi, hSg⟩, hTr⟩ := hM
  obtain ⟨⟨hL2, hT2⟩, hB0, hBv, ⟨hU8, hUb⟩, hKb, ⟨hS6, hSb⟩, hTb⟩ := hA
  have hH : Hw (aV A) := hBv.1.1
  have hday := hBv.2.2
  have hw := hw.cellI 4 rfl (g := vI (aV A)) (fun j hj => by have := hV j hj; rwa [Nat.zero_add] at this)
  have hw : zS G ((mo, zo 2 (mF q (f 1) (f 2) (f 3) (f 4) (f 5) (f 6) (f 7) (f 8) (f 14) (f 19))) :: (q 0, zc G 0 (zI 200 (b 0))) :: (q 9, zc G 0 (zI 46 (b 9))) :: (q 10, zc G 0 (zI 46 (b 10))) :: (q 11, zc G 0 (zI 46 (vI (aV A)))) :: (q 12, zc G 0 (zI 46 (b 12))) :: (q 13, zc G 0 (zI 368 (b 13))) :: (q 15, zc G 0 (zI 92 (b 15))) :: (q 16, zc G 3 (zI 2 (b 16))) :: (q 17, zc G 0 (zI 5 (b 17))) :: (q 18, zc G 0 (zI 24 (b 18))) :: (q 20, zc G 0 (zI 3 (b 20))) :: (q 21, zc G 0 (zI 3 (b 21))) :: (q 22, zc G 0 (zI 3 (b 22))) :: (q 23, zc G 0 (zI 36 (b 23))) :: (q 24, zc G 0 (zI 36 (b 24))) :: rest) s s.heap [] := hw
  refine lv_aload_n hx hb dX2_jay_0 rfl (lv_at hl 0 rfl) ?_
  refine lv_iload_n hx hb dX2_jay_1 rfl (lv_at hl 1 rfl) ?_
  refine z_ci (z_runV (As := [.int x]) (rest := []) hC zv_X2_194 (m_X2_isSquirrel G l mo q (f 1) (f 2) (f 3) (f 4) (f 5) (f 6) (f 7) (f 8) (f 14) (f 19) x (aV A) (by first | assumption | (omega)) (zrem [0, 4] _)) hw (hw.perm (z_cut (is := [0, 4]) (cells := [(mo, zo 2 (mF q (f 1) (f 2) (f 3) (f 4) (f 5) (f 6) (f 7) (f 8) (f 14) (f 19))), (q 11, zc G 0 (zI 46 (vI (aV A))))]) rfl rfl)) 0 rfl rfl rfl rfl rfl (Nat.le_of_ble_eq_true rfl) hl.1 ⟨Nat.le_of_ble_eq_true rfl, Nat.le_of_ble_eq_true rfl⟩ ⟨(Nat.le_of_ble_eq_true rfl), (Nat.le_of_ble_eq_true rfl)⟩ dX2_jay_2) hw (fun _ => z_keep (is := [0, 4]) (cs := [(mo, zo 2 (mF q (f 1) (f 2) (f 3) (f 4) (f 5) (f 6) (f 7) (f 8) (f 14) (f 19))), (q 11, zc G 0 (zI 46 (vI (aV A))))]) rfl rfl) (fun r u H locs hp hw => ?_)
  obtain rfl : r = bI (isP ((aV A) 1) x) := hp
  refine zb_ne (tgt := 11) hx hb dX2_jay_5 (by decide) (fun c_5 => ?_) (fun c_5 => ?_)
  · skip
    obtain ⟨i, hi, rfl⟩ := c_5
    have hl : lv_has ls 11 [(0, .ref mo), (1, .int (nI i)), (2, .int y), (3, .int z)] := hl
    have hp5 := hH.2.1
    have hp9 := hH.1
    refine lv_iload_n hx hb dX2_jay_11 rfl (lv_at hl 2 rfl) ?_
    refine lv_iconst (v := (nI 0)) hx hb dX2_jay_12 zk_0 ?_
    refine lv_bipush (v := (nI 10)) hx hb dX2_jay_13 zb_10 ?_
    refine z_ci (z_runS (As := [.int y, .int (nI 0), .int (nI 10)]) (rest := []) hC zs_X2_59 (m_X2_in_n G l y 0 10 (by decide) (by decide) _) hw rfl rfl (Nat.le_of_ble_eq_true rfl) hl.1 ⟨Nat.le_of_ble_eq_true rfl, Nat.le_of_ble_eq_true rfl⟩ ⟨(Nat.le_of_ble_eq_true rfl), (Nat.le_of_ble_eq_true rfl)⟩ dX2_jay_15) hw (fun _ => List.Perm.refl _) (fun r u H locs hp hw => ?_)
    obtain rfl : r = bI (inR y 0 10) := hp
    refine zb_eq (tgt := 30) hx hb dX2_jay_18 (by decide) (fun c_18 => ?_) (fun c_18 => ?_)
    · skip
      refine lv_bipush (v := (-3)) hx hb dX2_jay_30 zb_m3 ?_
      exact hend _ _ _ _ _ _ _ ((bU b 11 (vI (aV A))), mf (f 1) (f 2) (f 3) (f 4) (f 5) (f 6) (f 7) (f 8) (f 14) (f 19)) hw ⟨(by first | exact ((ifP_t ⟨i, hi, rfl⟩).trans (ifP_f (fun h => c_18 h.1))).symm | exact ((ifP_t ⟨i, hi, rfl⟩).trans (ifP_f (fun h => c_27 h.2))).symm), ⟨⟨hT, hL⟩, hV0, rH_vI, ⟨hU, hUs⟩, hKp, ⟨hSi, hSg⟩, (fun t ht => tRel_of rfl rfl rfl rfl rfl (hTr t ht))⟩⟩ (by omega) (by omega) dX2_jay_32
    · skip
      obtain ⟨k, hk1, hk2, rfl⟩ := c_18
      have hl : lv_has ls 11 [(0, .ref mo), (1, .int (nI i)), (2, .int (nI k)), (3, .int z)] := hl
      refine lv_iload_n hx hb dX2_jay_21 rfl (lv_at hl 3 rfl) ?_
      refine lv_iconst (v := (nI 0)) hx hb dX2_jay_22 zk_0 ?_
      refine lv_iconst (v := (nI 1)) hx hb dX2_jay_23 zk_1 ?_
      refine z_ci (z_runS (As := [.int z, .int (nI 0), .int (nI 1)]) (rest := []) hC zs_X2_59 (m_X2_in_n G l z 0 1 (by decide) (by decide) _) hw rfl rfl (Nat.le_of_ble_eq_true rfl) hl.1 ⟨Nat.le_of_ble_eq_true rfl, Nat.le_of_ble_eq_true rfl⟩ ⟨(Nat.le_of_ble_eq_true rfl), (Nat.le_of_ble_eq_true rfl)⟩ dX2_jay_24) hw (fun _ => List.Perm.refl _) (fun r u H locs hp hw => ?_)
      obtain rfl : r = bI (inR z 0 1) := hp
      refine zb_ne (tgt := 33) hx hb dX2_jay_27 (by decide) (fun c_27 => ?_) (fun c_27 => ?_)
      · skip
        obtain ⟨j, hj1, hj2, rfl⟩ := c_27
        have hl : lv_has ls 11 [(0, .ref mo), (1, .int (nI i)), (2, .int (nI k)), (3, .int (nI j))] := hl
        refine lv_aload_n hx hb dX2_jay_33 rfl (lv_at hl 0 rfl) ?_
        refine z_get (v := .ref (q 11)) hC zf_X2_19_2 hw 0 rfl rfl dX2_jay_34 ?_
        refine lv_iload_n hx hb dX2_jay_37 rfl (lv_at hl 1 rfl) ?_
        refine z_ci (z_runS (As := [.ref (q 11), .int (nI i)]) (rest := []) hC zs_X2_174 (m_X2_isGone G l (q 11) (aV A) i (by first | assumption | (omega)) (by omega) (zrem [4] _)) (hw.perm (z_cut (is := [4]) (cells := [(q 11, zc G 0 (zI 46 (vI (aV A))))]) rfl rfl)) rfl rfl (Nat.le_of_ble_eq_true rfl) hl.1 ⟨Nat.le_of_ble_eq_true rfl, Nat.le_of_ble_eq_true rfl⟩ ⟨(Nat.le_of_ble_eq_true rfl), (Nat.le_of_ble_eq_true rfl)⟩ dX2_jay_38) hw (fun _ => z_keep (is := [4]) (cs := [(q 11, zc G 0 (zI 46 (vI (aV A))))]) rfl rfl) (fun r u H locs hp hw => ?_)
        obtain rfl : r = bI (goneN (aV A) i) := hp
        refine zb_eq (tgt := 47) hx hb dX2_jay_41 (by decide) (fun c_41 => ?_) (fun c_41 => ?_)
        · skip
          refine lv_aload_n hx hb dX2_jay_47 rfl (lv_at hl 0 rfl) ?_
          refine z_get (v := .ref (q 11)) hC zf_X2_19_2 hw 0 rfl rfl dX2_jay_48 ?_
          refine z_ci (z_runS (As := [.ref (q 11)]) (rest := []) hC zs_X2_163 (m_X2_full G l (q 11) (aV A) hH (zrem [4] _)) (hw.perm (z_cut (is := [4]) (cells := [(q 11, zc G 0 (zI 46 (vI (aV A))))]) rfl rfl)) rfl rfl (Nat.le_of_ble_eq_true rfl) hl.1 ⟨Nat.le_of_ble_eq_true rfl, Nat.le_of_ble_eq_true rfl⟩ ⟨(Nat.le_of_ble_eq_true rfl), (Nat.le_of_ble_eq_true rfl)⟩ dX2_jay_51) hw (fun _ => z_keep (is := [4]) (cs := [(q 11, zc G 0 (zI 46 (vI (aV A))))]) rfl rfl) (fun r u H locs hp hw => ?_)
          obtain rfl : r = nI (fullN (aV A)) := hp
          refine lv_istore (lv' := [(4, .int (nI (fullN (aV A)))), (0, .ref mo), (1, .int (nI i)), (2, .int (nI k)), (3, .int (nI j))]) hx hb dX2_jay_54 hl (by decide) rfl (fun ls hl => ?_)
          have hf9 := fullN_lt hH
          have ho9 := onesN_le (fullN (aV A)) 9
          have hb10 := (jay_bound (i := i) (m := 0) hH hk2 (Nat.zero_le _)).2
          refine lv_bipush (v := (nI 21)) hx hb dX2_jay_56 zb_21 ?_
          refine lv_iconst (v := (nI 5)) hx hb dX2_jay_58 zk_5 ?_
          refine lv_iload_n hx hb dX2_jay_59 rfl (lv_at hl 2 rfl) ?_
          refine zn_imul hx hb dX2_jay_60 ?_
          refine zn_iadd hx hb dX2_jay_61 ?_
          refine lv_iconst (v := (nI 3)) hx hb dX2_jay_62 zk_3 ?_
          refine zn_iadd hx hb dX2_jay_63 ?_
          refine lv_istore (lv' := [(5, .int (nI (21 + 5 * i + 3))), (4, .int (nI (fullN (aV A)))), (0, .ref mo), (1, .int (nI i)), (2, .int (nI k)), (3, .int (nI j))]) hx hb dX2_jay_64 hl (by decide) rfl (fun ls hl => ?_)
          refine lv_iconst (v := (nI 0)) hx hb dX2_jay_66 zk_0 ?_
          refine lv_istore (lv' := [(6, .int (nI 0)), (5, .int (nI (21 + 5 * i + 3))), (4, .int (nI (fullN (aV A)))), (0, .ref mo), (1, .int (nI i)), (2, .int (nI k)), (3, .int (nI j))]) hx hb dX2_jay_67 hl (by decide) rfl (fun ls hl => ?_)
          refine lv_iconst (v := (nI 1)) hx hb dX2_jay_69 zk_1 ?_
          refine lv_istore (lv' := [(7, .int (nI 1)), (6, .int (nI 0)), (5, .int (nI (21 + 5 * i + 3))), (4, .int (nI (fullN (aV A)))), (0, .ref mo), (1, .int (nI i)), (2, .int (nI k)), (3, .int (nI j))]) hx hb dX2_jay_70 hl (by decide) rfl (fun ls hl => ?_)
          refine lv_iconst (v := (nI 0)) hx hb dX2_jay_72 zk_0 ?_
          refine lv_istore (lv' := [(8, .int (nI 0)), (7, .int (nI 1)), (6, .int (nI 0)), (5, .int (nI (21 + 5 * i + 3))), (4, .int (nI (fullN (aV A)))), (0, .ref mo), (1, .int (nI i)), (2, .int (nI k)), (3, .int (nI j))]) hx hb dX2_jay_73 hl (by decide) rfl (fun ls hl => ?_)
          have loop_75 : ∀ (fuel : Nat) (p9 : Nat), (p9 ≤ onesN (fullN (aV A)) 9) → (onesN (fullN (aV A)) 9 - p9) < fuel → ∀ (H : Heap) (locs : List Loc) (ls : Array Slot), zS G ((mo, zo 2 (mF q (f 1) (f 2) (f 3) (f 4) (f 5) (f 6) (f 7) (f 8) (f 14) (f 19))) :: (q 0, zc G 0 (zI 200 (b 0))) :: (q 9, zc G 0 (zI 46 (b 9))) :: (q 10, zc G 0 (zI 46 (b 10))) :: (q 11, zc G 0 (zI 46 (vI (aV A)))) :: (q 12, zc G 0 (zI 46 (b 12))) :: (q 13, zc G 0 (zI 368 (b 13))) :: (q 15, zc G 0 (zI 92 (b 15))) :: (q 16, zc G 3 (zI 2 (b 16))) :: (q 17, zc G 0 (zI 5 (b 17))) :: (q 18, zc G 0 (zI 24 (b 18))) :: (q 20, zc G 0 (zI 3 (b 20))) :: (q 21, zc G 0 (zI 3 (b 21))) :: (q 22, zc G 0 (zI 3 (b 22))) :: (q 23, zc G 0 (zI 36 (b 23))) :: (q 24, zc G 0 (zI 36 (b 24))) :: rest) s H locs → lv_has ls 11 [(0, .ref mo), (1, .int (nI i)), (2, .int (nI k)), (3, .int (nI j)), (4, .int (nI (fullN (aV A)))), (5, .int (nI (21 + 5 * i + 3))), (6, .int (nI 0)), (7, .int (nI (10 ^ p9))), (8, .int (nI p9))] → W p l e (zR 5 0 0) s m args below meth c H locs 0 0 Q (F0 m 75 ls []) := by
            intro fuel
            induction fuel with
            | zero => intro p9 hp hfuel; exact absurd hfuel (Nat.not_lt_zero _)
            | succ fuel_75 ih_75 =>
              intro p9 hp hfuel_75 H locs ls hw hl
              refine lv_iload hx hb dX2_jay_75 (lv_at hl 8 rfl) ?_
              refine lv_iload hx hb dX2_jay_77 (lv_at hl 4 rfl) ?_
              refine z_ci (z_runS (As := [.int (nI (fullN (aV A)))]) (rest := [.int (nI p9)]) hC zs_X2_213 (m_X2_ones G l (fullN (aV A)) (by omega) _) hw rfl rfl (Nat.le_of_ble_eq_true rfl) hl.1 ⟨Nat.le_of_ble_eq_true rfl, Nat.le_of_ble_eq_true rfl⟩ ⟨(Nat.le_of_ble_eq_true rfl), (Nat.le_of_ble_eq_true rfl)⟩ dX2_jay_79) hw (fun _ => List.Perm.refl _) (fun r u H locs hp hw => ?_)
              obtain rfl : r = nI (onesN (fullN (aV A)) 9) := hp
              refine zi_ge (tgt := 98) hx hb (by omega) (by omega) dX2_jay_82 (by decide) (fun c_82 => ?_) (fun c_82 => ?_)
              · skip
                obtain rfl : p9 = onesN (fullN (aV A)) 9 := by omega
                have hl : lv_has ls 11 [(0, .ref mo), (1, .int (nI i)), (2, .int (nI k)), (3, .int (nI j)), (4, .int (nI (fullN (aV A)))), (5, .int (nI (21 + 5 * i + 3))), (6, .int (nI 0)), (7, .int (nI (10 ^ (onesN (fullN (aV A)) 9)))), (8, .int (nI (onesN (fullN (aV A)) 9)))] := hl
                refine lv_iconst (v := (nI 0)) hx hb dX2_jay_98 zk_0 ?_
                refine lv_istore (lv' := [(8, .int (nI 0)), (0, .ref mo), (1, .int (nI i)), (2, .int (nI k)), (3, .int (nI j)), (4, .int (nI (fullN (aV A)))), (5, .int (nI (21 + 5 * i + 3))), (6, .int (nI 0)), (7, .int (nI (10 ^ (onesN (fullN (aV A)) 9))))]) hx hb dX2_jay_99 hl (by decide) rfl (fun ls hl => ?_)
                have loop_101 : ∀ (fuel : Nat) (set : Nat) (tf : Nat → Int32) (af1 : Nat → Int32), (set ≤ fullN (aV A) + 1) → (fullN (aV A) + 1 - set) < fuel → ∀ (H : Heap) (locs : List Loc) (ls : Array Slot), zS G ((mo, zo 2 (mF q (f 1) (f 2) (f 3) (f 4) (f 5) (f 6) (f 7) (f 8) (f 14) (f 19))) :: (q 0, zc G 0 (zI 200 (b 0))) :: (q 9, zc G 0 (zI 46 (b 9))) :: (q 10, zc G 0 (zI 46 (b 10))) :: (q 11, zc G 0 (zI 46 (vI (aV A)))) :: (q 12, zc G 0 (zI 46 tf)) :: (q 13, zc G 0 (zI 368 (b 13))) :: (q 15, zc G 0 (zI 92 (b 15))) :: (q 16, zc G 3 (zI 2 (b 16))) :: (q 17, zc G 0 (zI 5 af1)) :: (q 18, zc G 0 (zI 24 (b 18))) :: (q 20, zc G 0 (zI 3 (b 20))) :: (q 21, zc G 0 (zI 3 (b 21))) :: (q 22, zc G 0 (zI 3 (b 22))) :: (q 23, zc G 0 (zI 36 (b 23))) :: (q 24, zc G 0 (zI 36 (b 24))) :: rest) s H locs → lv_has ls 11 [(0, .ref mo), (1, .int (nI i)), (2, .int (nI k)), (3, .int (nI j)), (4, .int (nI (fullN (aV A)))), (5, .int (nI (21 + 5 * i + 3))), (6, .int (nI (jayUp (aV A) i k set))), (7, .int (nI (10 ^ onesN (fullN (aV A)) 9))), (8, .int (nI set))] → W p l e (zR 5 0 0) s m args below meth c H locs 0 0 Q (F0 m 101 ls []) := by
                  intro fuel
                  induction fuel with
                  | zero => intro set tf af1 hset hfuel; exact absurd hfuel (Nat.not_lt_zero _)
                  | succ fuel_101 ih_101 =>
                    intro set tf af1 hset hfuel_101 H locs ls hw hl
                    refine lv_iload hx hb dX2_jay_101 (lv_at hl 8 rfl) ?_
                    refine lv_iload hx hb dX2_jay_103 (lv_at hl 4 rfl) ?_
                    refine zi_gt (tgt := 273) hx hb (by omega) (by omega) dX2_jay_105 (by decide) (fun c_105 => ?_) (fun c_105 => ?_)
                    · skip
                      have hse : set = fullN (aV A) + 1 := by omega
                      have hbd := (jay_bound (i := i) (q := k) (m := set) hH hk2 hset).1
                      have hpo := Nat.pow_pos (a := 10) (n := onesN (fullN (aV A)) 9) (by decide)
                      refine lv_iload hx hb dX2_jay_273 (lv_at hl 6 rfl) ?_
                      refine lv_istore (lv' := [(8, .int (nI (jayUp (aV A) i k set))), (0, .ref mo), (1, .int (nI i)), (2, .int (nI k)), (3, .int (nI j)), (4, .int (nI (fullN (aV A)))), (5, .int (nI (21 + 5 * i + 3))), (6, .int (nI (jayUp (aV A) i k set))), (7, .int (nI (10 ^ onesN (fullN (aV A)) 9)))]) hx hb dX2_jay_275 hl (by decide) rfl (fun ls hl => ?_)
                      refine lv_iload hx hb dX2_jay_277 (lv_at hl 8 rfl) ?_
                      refine lv_istore (lv' := [(9, .int (nI (10 ^ onesN (fullN (aV A)) 9))), (8, .int (nI (jayUp (aV A) i k set))), (0, .ref mo), (1, .int (nI i)), (2, .int (nI k)), (3, .int (nI j)), (4, .int (nI (fullN (aV A)))), (5, .int (nI (21 + 5 * i + 3))), (6, .int (nI (jayUp (aV A) i k set))), (7, .int (nI (10 ^ onesN (fullN (aV A)) 9)))]) hx hb dX2_jay_279 hl (by decide) rfl (fun ls hl => ?_)
                      have loop_281 : ∀ (fuel : Nat) (x9 : Nat) (y9 : Nat), (x9 < 2147483648) → (y9 < 2147483648) → (Nat.gcd x9 y9 = Nat.gcd (jayUp (aV A) i k set) (10 ^ onesN (fullN (aV A)) 9)) → (y9) < fuel → ∀ (H : Heap) (locs : List Loc) (ls : Array Slot), zS G ((mo, zo 2 (mF q (f 1) (f 2) (f 3) (f 4) (f 5) (f 6) (f 7) (f 8) (f 14) (f 19))) :: (q 0, zc G 0 (zI 200 (b 0))) :: (q 9, zc G 0 (zI 46 (b 9))) :: (q 10, zc G 0 (zI 46 (b 10))) :: (q 11, zc G 0 (zI 46 (vI (aV A)))) :: (q 12, zc G 0 (zI 46 tf)) :: (q 13, zc G 0 (zI 368 (b 13))) :: (q 15, zc G 0 (zI 92 (b 15))) :: (q 16, zc G 3 (zI 2 (b 16))) :: (q 17, zc G 0 (zI 5 af1)) :: (q 18, zc G 0 (zI 24 (b 18))) :: (q 20, zc G 0 (zI 3 (b 20))) :: (q 21, zc G 0 (zI 3 (b 21))) :: (q 22, zc G 0 (zI 3 (b 22))) :: (q 23, zc G 0 (zI 36 (b 23))) :: (q 24, zc G 0 (zI 36 (b 24))) :: rest) s H locs → lv_has ls 11 [(0, .ref mo), (1, .int (nI i)), (2, .int (nI k)), (3, .int (nI j)), (4, .int (nI (fullN (aV A)))), (5, .int (nI (21 + 5 * i + 3))), (6, .int (nI (jayUp (aV A) i k set))), (7, .int (nI (10 ^ onesN (fullN (aV A)) 9))), (8, .int (nI x9)), (9, .int (nI y9))] → W p l e (zR 5 0 0) s m args below meth c H locs 0 0 Q (F0 m 281 ls []) := by
                        intro fuel
                        induction fuel with
                        | zero => intro x9 y9 hx9 hy9 hg hfuel; exact absurd hfuel (Nat.not_lt_zero _)
                        | succ fuel_281 ih_281 =>
                          intro x9 y9 hx9 hy9 hg hfuel_281 H locs ls hw hl
                          refine lv_iload hx hb dX2_jay_281 (lv_at hl 9 rfl) ?_
                          refine zj_eq (tgt := 304) hx hb (by omega) dX2_jay_283 (by decide) (fun c_283 => ?_) (fun c_283 => ?_)
                          · skip
                            have hx0 : 0 < x9 := by rw [c_283, Nat.gcd_zero_right] at hg; rw [hg]; exact Nat.gcd_pos_of_pos_right _ hpo
                            refine lv_iload_n hx hb dX2_jay_304 rfl (lv_at hl 3 rfl) ?_
                            refine zj_ne (tgt := 313) hx hb (by omega) dX2_jay_305 (by decide) (fun c_305 => ?_) (fun c_305 => ?_)
                            · skip
                              refine lv_iload hx hb dX2_jay_313 (lv_at hl 7 rfl) ?_
                              refine lv_iload hx hb dX2_jay_315 (lv_at hl 8 rfl) ?_
                              refine zn_idiv hx hb (by omega) hx0 (by omega) dX2_jay_317 ?_
                              exact hend _ _ _ _ _ _ _ ((bU (bU (bU b 11 (vI (aV A))) 12 tf) 17 af1), mf (f 1) (f 2) (f 3) (f 4) (f 5) (f 6) (f 7) (f 8) (f 14) (f 19)) hw ⟨(by unfold F_jay; rw [ifP_t ⟨i, hi, rfl⟩, ifP_t ⟨⟨k, hk1, hk2, rfl⟩, ⟨j, hj1, hj2, rfl⟩⟩, cl_nI (by omega), cl_nI (by omega), cl_nI (by omega), ifP_f c_41, ← hse, ← hg, c_283, Nat.gcd_zero_right]; first | rw [if_pos c_305] | rw [if_neg c_305]), ⟨⟨hT, hL⟩, hV0, rH_vI, ⟨hU, hUs⟩, hKp, ⟨hSi, hSg⟩, (fun t ht => tRel_of rfl rfl rfl rfl rfl (hTr t ht))⟩⟩ (by omega) (by omega) dX2_jay_318
                            · skip
                              refine lv_iload hx hb dX2_jay_308 (lv_at hl 6 rfl) ?_
                              refine lv_goto (tgt := 315) hx hb dX2_jay_310 (by decide) ?_
                              refine lv_iload hx hb dX2_jay_315 (lv_at hl 8 rfl) ?_
                              refine zn_idiv hx hb (by omega) hx0 (by omega) dX2_jay_317 ?_
                              exact hend _ _ _ _ _ _ _ ((bU (bU (bU b 11 (vI (aV A))) 12 tf) 17 af1), mf (f 1) (f 2) (f 3) (f 4) (f 5) (f 6) (f 7) (f 8) (f 14) (f 19)) hw ⟨(by unfold F_jay; rw [ifP_t ⟨i, hi, rfl⟩, ifP_t ⟨⟨k, hk1, hk2, rfl⟩, ⟨j, hj1, hj2, rfl⟩⟩, cl_nI (by omega), cl_nI (by omega), cl_nI (by omega), ifP_f c_41, ← hse, ← hg, c_283, Nat.gcd_zero_right]; first | rw [if_pos c_305] | rw [if_neg c_305]), ⟨⟨hT, hL⟩, hV0, rH_vI, ⟨hU, hUs⟩, hKp, ⟨hSi, hSg⟩, (fun t ht => tRel_of rfl rfl rfl rfl rfl (hTr t ht))⟩⟩ (by omega) (by omega) dX2_jay_318
                          · skip
                            refine lv_iload hx hb dX2_jay_286 (lv_at hl 8 rfl) ?_
                            refine lv_iload hx hb dX2_jay_288 (lv_at hl 9 rfl) ?_
                            refine zn_irem hx hb (by omega) (by omega) (by omega) dX2_jay_290 ?_
                            refine lv_istore (lv' := [(10, .int (nI (x9 % y9))), (0, .ref mo), (1, .int (nI i)), (2, .int (nI k)), (3, .int (nI j)), (4, .int (nI (fullN (aV A)))), (5, .int (nI (21 + 5 * i + 3))), (6, .int (nI (jayUp (aV A) i k set))), (7, .int (nI (10 ^ onesN (fullN (aV A)) 9))), (8, .int (nI x9)), (9, .int (nI y9))]) hx hb dX2_jay_291 hl (by decide) rfl (fun ls hl => ?_)
                            refine lv_iload hx hb dX2_jay_293 (lv_at hl 10 rfl) ?_
                            refine lv_istore (lv' := [(8, .int (nI y9)), (10, .int (nI (x9 % y9))), (0, .ref mo), (1, .int (nI i)), (2, .int (nI k)), (3, .int (nI j)), (4, .int (nI (fullN (aV A)))), (5, .int (nI (21 + 5 * i + 3))), (6, .int (nI (jayUp (aV A) i k set))), (7, .int (nI (10 ^ onesN (fullN (aV A)) 9))), (9, .int (nI y9))]) hx hb dX2_jay_295 hl (by decide) rfl (fun ls hl => ?_)
                            refine lv_iload hx hb dX2_jay_297 (lv_at hl 1 rfl) ?_
                            refine lv_istore (lv' := [(9, .int (nI (x9 % y9))), (8, .int (nI y9)), (10, .int (nI (x9 % y9))), (0, .ref mo), (1, .int (nI i)), (2, .int (nI k)), (3, .int (nI j)), (4, .int (nI (fullN (aV A)))), (5, .int (nI (21 + 5 * i + 3))), (6, .int (nI (jayUp (aV A) i k set))), (7, .int (nI (10 ^ onesN (fullN (aV A)) 9)))]) hx hb dX2_jay_299 hl (by decide) rfl (fun ls hl => ?_)
                            refine lv_goto (tgt := 281) hx hb dX2_jay_301 (by decide) ?_
                            exact ih_281 y9 (x9 % y9) (by omega) (Nat.lt_trans (Nat.mod_lt _ (by omega)) hy9) (by rw [← hg, Nat.gcd_comm x9 y9, Nat.gcd_rec y9 x9, Nat.gcd_comm]) (by have := Nat.mod_lt x9 (show 0 < y9 by omega); omega) H locs ls hw (lv_sub hl [3, 4, 5, 6, 7, 8, 9, 10, 1, 0] rfl)
                      exact loop_281 (((10 ^ onesN (fullN (aV A)) 9)) + 1) (jayUp (aV A) i k set) (10 ^ onesN (fullN (aV A)) 9) (by omega) (by omega) rfl (Nat.lt_succ_self _) H locs ls hw (lv_sub hl [2, 3, 4, 5, 6, 7, 8, 9, 1, 0] rfl)
                    · skip
                      have join_267 : ∀ (up : Nat) (tf1 : Nat → Int32) (af2 : Nat → Int32), (up = jayUp (aV A) i k (set + 1)) → ∀ (H : Heap) (locs : List Loc) (ls : Array Slot), zS G ((mo, zo 2 (mF q (f 1) (f 2) (f 3) (f 4) (f 5) (f 6) (f 7) (f 8) (f 14) (f 19))) :: (q 0, zc G 0 (zI 200 (b 0))) :: (q 9, zc G 0 (zI 46 (b 9))) :: (q 10, zc G 0 (zI 46 (b 10))) :: (q 11, zc G 0 (zI 46 (vI (aV A)))) :: (q 12, zc G 0 (zI 46 tf1)) :: (q 13, zc G 0 (zI 368 (b 13))) :: (q 15, zc G 0 (zI 92 (b 15))) :: (q 16, zc G 3 (zI 2 (b 16))) :: (q 17, zc G 0 (zI 5 af2)) :: (q 18, zc G 0 (zI 24 (b 18))) :: (q 20, zc G 0 (zI 3 (b 20))) :: (q 21, zc G 0 (zI 3 (b 21))) :: (q 22, zc G 0 (zI 3 (b 22))) :: (q 23, zc G 0 (zI 36 (b 23))) :: (q 24, zc G 0 (zI 36 (b 24))) :: rest) s H locs → lv_has ls 11 [(0, .ref mo), (1, .int (nI i)), (2, .int (nI k)), (3, .int (nI j)), (4, .int (nI (fullN (aV A)))), (5, .int (nI (21 + 5 * i + 3))), (6, .int (nI up)), (7, .int (nI (10 ^ onesN (fullN (aV A)) 9))), (8, .int (nI set))] → W p l e (zR 5 0 0) s m args below meth c H locs 0 0 Q (F0 m 267 ls []) := by
                        intro up tf1 af2 hup H locs ls hw hl
                        subst hup
                        refine lv_iinc (v := (nI (set + 1))) (lv' := [(8, .int (nI (set + 1))), (0, .ref mo), (1, .int (nI i)), (2, .int (nI k)), (3, .int (nI j)), (4, .int (nI (fullN (aV A)))), (5, .int (nI (21 + 5 * i + 3))), (6, .int (nI (jayUp (aV A) i k (set + 1)))), (7, .int (nI (10 ^ onesN (fullN (aV A)) 9)))]) hx hb dX2_jay_267 hl (k := 8) rfl (zincn _ 1) (by decide) rfl (fun ls hl => ?_)
                        refine lv_goto (tgt := 101) hx hb dX2_jay_270 (by decide) ?_
                        exact ih_101 (set + 1) tf1 af2 (by omega) (by omega) H locs ls hw (lv_sub hl [1, 2, 3, 4, 5, 6, 7, 8, 0] rfl)
                      refine lv_iload hx hb dX2_jay_108 (lv_at hl 8 rfl) ?_
                      refine lv_iload hx hb dX2_jay_110 (lv_at hl 4 rfl) ?_
                      refine lv_iconst (v := -1) hx hb dX2_jay_112 zk_m1 ?_
                      refine lv_ixor hx hb dX2_jay_113 ?_
                      refine zv_iand (v := (nI (set ^^^ (set &&& (fullN (aV A)))))) hx hb (nI_andnot _ _) dX2_jay_114 ?_
                      refine zj_ne (tgt := 267) hx hb (by have : set ^^^ (set &&& fullN (aV A)) < 2 ^ 9 := Nat.xor_lt_two_pow (by omega) (Nat.lt_of_le_of_lt Nat.and_le_left (by omega)); omega) dX2_jay_115 (by decide) (fun c_115 => ?_) (fun c_115 => ?_)
                      · skip
                        exact join_267 (jayUp (aV A) i k set) tf af1 (by first | exact (jayUp_skip (fun h => c_115 (sub_iff.mpr h))).symm | exact (jayUp_go hss).symm) H locs ls hw (lv_sub hl [0, 1, 2, 3, 4, 5, 6, 7, 8] rfl)
                      · skip
                        have hss := sub_iff.mp c_115
                        refine lv_iconst (v := (nI 1)) hx hb dX2_jay_118 zk_1 ?_
                        refine lv_istore (lv' := [(9, .int (nI 1)), (0, .ref mo), (1, .int (nI i)), (2, .int (nI k)), (3, .int (nI j)), (4, .int (nI (fullN (aV A)))), (5, .int (nI (21 + 5 * i + 3))), (6, .int (nI (jayUp (aV A) i k set))), (7, .int (nI (10 ^ onesN (fullN (aV A)) 9))), (8, .int (nI set))]) hx hb dX2_jay_119 hl (by decide) rfl (fun ls hl => ?_)
                        refine lv_aload_n hx hb dX2_jay_121 rfl (lv_at hl 1 rfl) ?_
                        refine z_get (v := .ref (q 11)) hC zf_X2_19_2 hw 0 rfl rfl dX2_jay_122 ?_
                        refine lv_iconst (v := (nI 0)) hx hb dX2_jay_125 zk_0 ?_
                        refine lv_aload_n hx hb dX2_jay_126 rfl (lv_at hl 1 rfl) ?_
                        refine z_get (v := .ref (q 12)) hC zf_X2_22_2 hw 0 rfl rfl dX2_jay_127 ?_
                        refine lv_iconst (v := (nI 0)) hx hb dX2_jay_130 zk_0 ?_
                        refine z_cv (z_runS (As := [.ref (q 11), .int (nI 0), .ref (q 12), .int (nI 0)]) (rest := []) hC zs_X2_130 (m_X2_copies G l (q 11) (q 12) 0 0 46 46 (vI (aV A)) tf (by omega) (by omega) (by decide) (by decide) (zrem [4, 5] _)) (hw.perm (z_cut (is := [4, 5]) (cells := [(q 11, zc G 0 (zI 46 (vI (aV A)))), (q 12, zc G 0 (zI 46 tf))]) rfl rfl)) rfl rfl (Nat.le_of_ble_eq_true rfl) hl.1 ⟨Nat.le_of_ble_eq_true rfl, Nat.le_of_ble_eq_true rfl⟩ ⟨(Nat.le_of_ble_eq_true rfl), (Nat.le_of_ble_eq_true rfl)⟩ dX2_jay_131) hw (fun _ => z_pput (is := [4, 5]) (cells := [(q 11, zc G 0 (zI 46 (vI (aV A)))), (q 12, zc G 0 (zI 46 tf))]) (cells' := [(q 11, zc G 0 (zI 46 (vI (aV A)))), (q 12, zc G 0 (zI 46 (va_cpy (vI (aV A)) tf 0 0 46)))]) rfl rfl rfl) (fun u H locs hp hw => ?_)
                        have hw : zS G ((mo, zo 2 (mF q (f 1) (f 2) (f 3) (f 4) (f 5) (f 6) (f 7) (f 8) (f 14) (f 19))) :: (q 0, zc G 0 (zI 200 (b 0))) :: (q 9, zc G 0 (zI 46 (b 9))) :: (q 10, zc G 0 (zI 46 (b 10))) :: (q 11, zc G 0 (zI 46 (vI (aV A)))) :: (q 12, zc G 0 (zI 46 (va_cpy (vI (aV A)) tf 0 0 46))) :: (q 13, zc G 0 (zI 368 (b 13))) :: (q 15, zc G 0 (zI 92 (b 15))) :: (q 16, zc G 3 (zI 2 (b 16))) :: (q 17, zc G 0 (zI 5 af1)) :: (q 18, zc G 0 (zI 24 (b 18))) :: (q 20, zc G 0 (zI 3 (b 20))) :: (q 21, zc G 0 (zI 3 (b 21))) :: (q 22, zc G 0 (zI 3 (b 22))) :: (q 23, zc G 0 (zI 36 (b 23))) :: (q 24, zc G 0 (zI 36 (b 24))) :: rest) s H locs := hw
                        have hw := hw.cellI 5 rfl (g := vI (aV A)) (fun j hj => cpy_hedge hj)
                        have hw : zS G ((mo, zo 2 (mF q (f 1) (f 2) (f 3) (f 4) (f 5) (f 6) (f 7) (f 8) (f 14) (f 19))) :: (q 0, zc G 0 (zI 200 (b 0))) :: (q 9, zc G 0 (zI 46 (b 9))) :: (q 10, zc G 0 (zI 46 (b 10))) :: (q 11, zc G 0 (zI 46 (vI (aV A)))) :: (q 12, zc G 0 (zI 46 (vI (aV A)))) :: (q 13, zc G 0 (zI 368 (b 13))) :: (q 15, zc G 0 (zI 92 (b 15))) :: (q 16, zc G 3 (zI 2 (b 16))) :: (q 17, zc G 0 (zI 5 af1)) :: (q 18, zc G 0 (zI 24 (b 18))) :: (q 20, zc G 0 (zI 3 (b 20))) :: (q 21, zc G 0 (zI 3 (b 21))) :: (q 22, zc G 0 (zI 3 (b 22))) :: (q 23, zc G 0 (zI 36 (b 23))) :: (q 24, zc G 0 (zI 36 (b 24))) :: rest) s H locs := hw
                        refine lv_iconst (v := (nI 0)) hx hb dX2_jay_134 zk_0 ?_
                        refine lv_istore (lv' := [(10, .int (nI 0)), (9, .int (nI 1)), (0, .ref mo), (1, .int (nI i)), (2, .int (nI k)), (3, .int (nI j)), (4, .int (nI (fullN (aV A)))), (5, .int (nI (21 + 5 * i + 3))), (6, .int (nI (jayUp (aV A) i k set))), (7, .int (nI (10 ^ onesN (fullN (aV A)) 9))), (8, .int (nI set))]) hx hb dX2_jay_135 hl (by decide) rfl (fun ls hl => ?_)
                        have loop_137 : ∀ (fuel : Nat) (t : Nat), (t ≤ (aV A) 0) → ((aV A) 0 - t) < fuel → ∀ (H : Heap) (locs : List Loc) (ls : Array Slot), zS G ((mo, zo 2 (mF q (f 1) (f 2) (f 3) (f 4) (f 5) (f 6) (f 7) (f 8) (f 14) (f 19))) :: (q 0, zc G 0 (zI 200 (b 0))) :: (q 9, zc G 0 (zI 46 (b 9))) :: (q 10, zc G 0 (zI 46 (b 10))) :: (q 11, zc G 0 (zI 46 (vI (aV A)))) :: (q 12, zc G 0 (zI 46 (vI (jayH (aV A) set t)))) :: (q 13, zc G 0 (zI 368 (b 13))) :: (q 15, zc G 0 (zI 92 (b 15))) :: (q 16, zc G 3 (zI 2 (b 16))) :: (q 17, zc G 0 (zI 5 af1)) :: (q 18, zc G 0 (zI 24 (b 18))) :: (q 20, zc G 0 (zI 3 (b 20))) :: (q 21, zc G 0 (zI 3 (b 21))) :: (q 22, zc G 0 (zI 3 (b 22))) :: (q 23, zc G 0 (zI 36 (b 23))) :: (q 24, zc G 0 (zI 36 (b 24))) :: rest) s H locs → lv_has ls 11 [(0, .ref mo), (1, .int (nI i)), (2, .int (nI k)), (3, .int (nI j)), (4, .int (nI (fullN (aV A)))), (5, .int (nI (21 + 5 * i + 3))), (6, .int (nI (jayUp (aV A) i k set))), (7, .int (nI (10 ^ onesN (fullN (aV A)) 9))), (8, .int (nI set)), (9, .int (nI (jayW (fullN (aV A)) set k t))), (10, .int (nI t))] → W p l e (zR 5 0 0) s m args below meth c H locs 0 0 Q (F0 m 137 ls []) := by
                          intro fuel
                          induction fuel with
                          | zero => intro t ht hfuel; exact absurd hfuel (Nat.not_lt_zero _)
                          | succ fuel_137 ih_137 =>
                            intro t ht hfuel_137 H locs ls hw hl
                            refine lv_iload hx hb dX2_jay_137 (lv_at hl 10 rfl) ?_
                            refine lv_aload_n hx hb dX2_jay_139 rfl (lv_at hl 0 rfl) ?_
                            refine z_get (v := .ref (q 11)) hC zf_X2_19_2 hw 0 rfl rfl dX2_jay_140 ?_
                            refine lv_iconst (v := (nI 0)) hx hb dX2_jay_143 zk_0 ?_
                            refine z_iald (x := (nI ((aV A) 0))) hC hw 4 rfl (by decide) (by decide) rfl dX2_jay_144 ?_
                            refine zi_ge (tgt := 231) hx hb (by omega) (by have := hH.2.2.1 0; omega) dX2_jay_145 (by decide) (fun c_145 => ?_) (fun c_145 => ?_)
                            · skip
                              obtain rfl : t = aV A 0 := by omega
                              have hl : lv_has ls 11 [(0, .ref mo), (1, .int (nI i)), (2, .int (nI k)), (3, .int (nI j)), (4, .int (nI (fullN (aV A)))), (5, .int (nI (21 + 5 * i + 3))), (6, .int (nI (jayUp (aV A) i k set))), (7, .int (nI (10 ^ onesN (fullN (aV A)) 9))), (8, .int (nI set)), (9, .int (nI (jayW (fullN (aV A)) set k ((aV A) 0)))), (10, .int (nI ((aV A) 0)))] := hl
                              have hw : zS G ((mo, zo 2 (mF q (f 1) (f 2) (f 3) (f 4) (f 5) (f 6) (f 7) (f 8) (f 14) (f 19))) :: (q 0, zc G 0 (zI 200 (b 0))) :: (q 9, zc G 0 (zI 46 (b 9))) :: (q 10, zc G 0 (zI 46 (b 10))) :: (q 11, zc G 0 (zI 46 (vI (aV A)))) :: (q 12, zc G 0 (zI 46 (vI (jayH (aV A) set ((aV A) 0))))) :: (q 13, zc G 0 (zI 368 (b 13))) :: (q 15, zc G 0 (zI 92 (b 15))) :: (q 16, zc G 3 (zI 2 (b 16))) :: (q 17, zc G 0 (zI 5 af1)) :: (q 18, zc G 0 (zI 24 (b 18))) :: (q 20, zc G 0 (zI 3 (b 20))) :: (q 21, zc G 0 (zI 3 (b 21))) :: (q 22, zc G 0 (zI 3 (b 22))) :: (q 23, zc G 0 (zI 36 (b 23))) :: (q 24, zc G 0 (zI 36 (b 24))) :: rest) s H locs := hw
                              have hJ := jayH_Hw (set := set) hH ((aV A) 0) hp9
                              have hJ2 : jayH (aV A) set ((aV A) 0) 2 = (aV A) 2 := hJ.2 2 (fun t ht => by omega)
                              have hPJ := passN_Hw hJ.1 (by omega)
                              have hl3 := hPJ.2.2.2.2.2 i (by omega)
                              have hl4 := hH.2.2.2.2.2 i (by omega)
                              refine lv_aload_n hx hb dX2_jay_231 rfl (lv_at hl 0 rfl) ?_
                              refine lv_aload_n hx hb dX2_jay_232 rfl (lv_at hl 0 rfl) ?_
                              refine z_get (v := .ref (q 12)) hC zf_X2_22_2 hw 0 rfl rfl dX2_jay_233 ?_
                              refine z_cv (z_runV (As := [.ref (q 12)]) (rest := []) hC zv_X2_203 (m_X2_passes G l mo q (f 1) (f 2) (f 3) (f 4) (f 5) (f 6) (f 7) (f 8) (f 14) (f 19) (q 12) (jayH (aV A) set ((aV A) 0)) af1 hJ.1 (by omega) (zrem [0, 5, 9] _)) hw (hw.perm (z_cut (is := [0, 5, 9]) (cells := [(mo, zo 2 (mF q (f 1) (f 2) (f 3) (f 4) (f 5) (f 6) (f 7) (f 8) (f 14) (f 19))), (q 12, zc G 0 (zI 46 (vI (jayH (aV A) set ((aV A) 0))))), (q 17, zc G 0 (zI 5 af1))]) rfl rfl)) 0 rfl rfl rfl rfl rfl (Nat.le_of_ble_eq_true rfl) hl.1 ⟨Nat.le_of_ble_eq_true rfl, Nat.le_of_ble_eq_true rfl⟩ ⟨(Nat.le_of_ble_eq_true rfl), (Nat.le_of_ble_eq_true rfl)⟩ dX2_jay_236) hw (fun _ => z_pput (is := [0, 5, 9]) (cells := [(mo, zo 2 (mF q (f 1) (f 2) (f 3) (f 4) (f 5) (f 6) (f 7) (f 8) (f 14) (f 19))), (q 12, zc G 0 (zI 46 (vI (jayH (aV A) set ((aV A) 0))))), (q 17, zc G 0 (zI 5 af1))]) (cells' := [(mo, zo 2 (mF q (f 1) (f 2) (f 3) (f 4) (f 5) (f 6) (f 7) (f 8) (f 14) (f 19))), (q 12, zc G 0 (zI 46 (vI (passN (jayH (aV A) set ((aV A) 0)))))), (q 17, zc G 0 (zI 5 (ateI (ateN (jayH (aV A) set ((aV A) 0))) ((jayH (aV A) set ((aV A) 0)) 1) af1)))]) rfl rfl rfl) (fun u H locs hp hw => ?_)
                              have hw : zS G ((mo, zo 2 (mF q (f 1) (f 2) (f 3) (f 4) (f 5) (f 6) (f 7) (f 8) (f 14) (f 19))) :: (q 0, zc G 0 (zI 200 (b 0))) :: (q 9, zc G 0 (zI 46 (b 9))) :: (q 10, zc G 0 (zI 46 (b 10))) :: (q 11, zc G 0 (zI 46 (vI (aV A)))) :: (q 12, zc G 0 (zI 46 (vI (passN (jayH (aV A) set ((aV A) 0)))))) :: (q 13, zc G 0 (zI 368 (b 13))) :: (q 15, zc G 0 (zI 92 (b 15))) :: (q 16, zc G 3 (zI 2 (b 16))) :: (q 17, zc G 0 (zI 5 (ateI (ateN (jayH (aV A) set ((aV A) 0))) ((jayH (aV A) set ((aV A) 0)) 1) af1))) :: (q 18, zc G 0 (zI 24 (b 18))) :: (q 20, zc G 0 (zI 3 (b 20))) :: (q 21, zc G 0 (zI 3 (b 21))) :: (q 22, zc G 0 (zI 3 (b 22))) :: (q 23, zc G 0 (zI 36 (b 23))) :: (q 24, zc G 0 (zI 36 (b 24))) :: rest) s H locs := hw
                              refine lv_iload hx hb dX2_jay_239 (lv_at hl 6 rfl) ?_
                              have join_264 : ∀ (x6 : Nat), (x6 = if passN (jayH (aV A) set ((aV A) 0)) (21 + 5 * i + 3) ≤ (aV A) (21 + 5 * i + 3) then jayW (fullN (aV A)) set k ((aV A) 0) else 0) → ∀ (H : Heap) (locs : List Loc) (ls : Array Slot), zS G ((mo, zo 2 (mF q (f 1) (f 2) (f 3) (f 4) (f 5) (f 6) (f 7) (f 8) (f 14) (f 19))) :: (q 0, zc G 0 (zI 200 (b 0))) :: (q 9, zc G 0 (zI 46 (b 9))) :: (q 10, zc G 0 (zI 46 (b 10))) :: (q 11, zc G 0 (zI 46 (vI (aV A)))) :: (q 12, zc G 0 (zI 46 (vI (passN (jayH (aV A) set ((aV A) 0)))))) :: (q 13, zc G 0 (zI 368 (b 13))) :: (q 15, zc G 0 (zI 92 (b 15))) :: (q 16, zc G 3 (zI 2 (b 16))) :: (q 17, zc G 0 (zI 5 (ateI (ateN (jayH (aV A) set ((aV A) 0))) ((jayH (aV A) set ((aV A) 0)) 1) af1))) :: (q 18, zc G 0 (zI 24 (b 18))) :: (q 20, zc G 0 (zI 3 (b 20))) :: (q 21, zc G 0 (zI 3 (b 21))) :: (q 22, zc G 0 (zI 3 (b 22))) :: (q 23, zc G 0 (zI 36 (b 23))) :: (q 24, zc G 0 (zI 36 (b 24))) :: rest) s H locs → lv_has ls 11 [(0, .ref mo), (1, .int (nI i)), (2, .int (nI k)), (3, .int (nI j)), (4, .int (nI (fullN (aV A)))), (5, .int (nI (21 + 5 * i + 3))), (6, .int (nI (jayUp (aV A) i k set))), (7, .int (nI (10 ^ onesN (fullN (aV A)) 9))), (8, .int (nI set)), (9, .int (nI (jayW (fullN (aV A)) set k ((aV A) 0)))), (10, .int (nI ((aV A) 0)))] → W p l e (zR 5 0 0) s m args below meth c H locs 0 0 Q (F0 m 264 ls [.int (nI x6), .int (nI (jayUp (aV A) i k set))]) := by
                                intro x6 hx6 H locs ls hw hl
                                subst hx6
                                refine zn_iadd hx hb dX2_jay_264 ?_
                                refine lv_istore (lv' := [(6, .int (nI (jayUp (aV A) i k set + (if passN (jayH (aV A) set ((aV A) 0)) (21 + 5 * i + 3) ≤ (aV A) (21 + 5 * i + 3) then jayW (fullN (aV A)) set k ((aV A) 0) else 0)))), (0, .ref mo), (1, .int (nI i)), (2, .int (nI k)), (3, .int (nI j)), (4, .int (nI (fullN (aV A)))), (5, .int (nI (21 + 5 * i + 3))), (7, .int (nI (10 ^ onesN (fullN (aV A)) 9))), (8, .int (nI set)), (9, .int (nI (jayW (fullN (aV A)) set k ((aV A) 0)))), (10, .int (nI ((aV A) 0)))]) hx hb dX2_jay_265 hl (by decide) rfl (fun ls hl => ?_)
                                exact join_267 (jayUp (aV A) i k set + (if passN (jayH (aV A) set ((aV A) 0)) (21 + 5 * i + 3) ≤ (aV A) (21 + 5 * i + 3) then jayW (fullN (aV A)) set k ((aV A) 0) else 0)) (vI (passN (jayH (aV A) set ((aV A) 0)))) (ateI (ateN (jayH (aV A) set ((aV A) 0))) ((jayH (aV A) set ((aV A) 0)) 1) af1) (by first | exact (jayUp_skip (fun h => c_115 (sub_iff.mpr h))).symm | exact (jayUp_go hss).symm) H locs ls hw (lv_sub hl [1, 2, 3, 4, 5, 6, 0, 7, 8] rfl)
                              refine lv_aload_n hx hb dX2_jay_241 rfl (lv_at hl 0 rfl) ?_
                              refine z_get (v := .ref (q 12)) hC zf_X2_22_2 hw 0 rfl rfl dX2_jay_242 ?_
                              refine lv_iload hx hb dX2_jay_245 (lv_at hl 5 rfl) ?_
                              refine z_iald (x := (nI ((passN (jayH (aV A) set ((aV A) 0))) (21 + 5 * i + 3)))) hC hw 5 rfl (by omega) (by decide) rfl dX2_jay_247 ?_
                              refine lv_aload_n hx hb dX2_jay_248 rfl (lv_at hl 0 rfl) ?_
                              refine z_get (v := .ref (q 11)) hC zf_X2_19_2 hw 0 rfl rfl dX2_jay_249 ?_
                              refine lv_iload hx hb dX2_jay_252 (lv_at hl 5 rfl) ?_
                              refine z_iald (x := (nI ((aV A) (21 + 5 * i + 3)))) hC hw 4 rfl (by omega) (by decide) rfl dX2_jay_254 ?_
                              refine zi_gt (tgt := 263) hx hb (by have := hH.2.2.1 set; have := hH.2.2.1 0; omega) (by have := hH.2.2.1 (21 + 5 * i + 3); omega) dX2_jay_255 (by decide) (fun c_255 => ?_) (fun c_255 => ?_)
                              · skip
                                refine lv_iconst (v := (nI 0)) hx hb dX2_jay_263 zk_0 ?_
                                exact join_264 0 (by first | rw [if_pos c_255] | rw [if_neg (Nat.not_le.mpr c_255)]) H locs ls hw (lv_sub hl [0, 1, 2, 3, 4, 5, 6, 7, 8, 9, 10] rfl)
                              · skip
                                refine lv_iload hx hb dX2_jay_258 (lv_at hl 9 rfl) ?_
                                refine lv_goto (tgt := 264) hx hb dX2_jay_260 (by decide) ?_
                                exact join_264 (jayW (fullN (aV A)) set k ((aV A) 0)) (by first | rw [if_pos c_255] | rw [if_neg (Nat.not_le.mpr c_255)]) H locs ls hw (lv_sub hl [0, 1, 2, 3, 4, 5, 6, 7, 8, 9, 10] rfl)
                            · skip
                              refine lv_iload hx hb dX2_jay_148 (lv_at hl 9 rfl) ?_
                              have join_182 : ∀ (x8 : Nat), (x8 = if (fullN (aV A)).testBit t = true then (if set.testBit t = true then k else 10 - k) else 1) → ∀ (H : Heap) (locs : List Loc) (ls : Array Slot), zS G ((mo, zo 2 (mF q (f 1) (f 2) (f 3) (f 4) (f 5) (f 6) (f 7) (f 8) (f 14) (f 19))) :: (q 0, zc G 0 (zI 200 (b 0))) :: (q 9, zc G 0 (zI 46 (b 9))) :: (q 10, zc G 0 (zI 46 (b 10))) :: (q 11, zc G 0 (zI 46 (vI (aV A)))) :: (q 12, zc G 0 (zI 46 (vI (jayH (aV A) set t)))) :: (q 13, zc G 0 (zI 368 (b 13))) :: (q 15, zc G 0 (zI 92 (b 15))) :: (q 16, zc G 3 (zI 2 (b 16))) :: (q 17, zc G 0 (zI 5 af1)) :: (q 18, zc G 0 (zI 24 (b 18))) :: (q 20, zc G 0 (zI 3 (b 20))) :: (q 21, zc G 0 (zI 3 (b 21))) :: (q 22, zc G 0 (zI 3 (b 22))) :: (q 23, zc G 0 (zI 36 (b 23))) :: (q 24, zc G 0 (zI 36 (b 24))) :: rest) s H locs → lv_has ls 11 [(0, .ref mo), (1, .int (nI i)), (2, .int (nI k)), (3, .int (nI j)), (4, .int (nI (fullN (aV A)))), (5, .int (nI (21 + 5 * i + 3))), (6, .int (nI (jayUp (aV A) i k set))), (7, .int (nI (10 ^ onesN (fullN (aV A)) 9))), (8, .int (nI set)), (9, .int (nI (jayW (fullN (aV A)) set k t))), (10, .int (nI t))] → W p l e (zR 5 0 0) s m args below meth c H locs 0 0 Q (F0 m 182 ls [.int (nI x8), .int (nI (jayW (fullN (aV A)) set k t))]) := by
                                intro x8 hx8 H locs ls hw hl
                                subst hx8
                                refine zn_imul hx hb dX2_jay_182 ?_
                                refine lv_istore (lv' := [(9, .int (nI ((jayW (fullN (aV A)) set k t) * (if (fullN (aV A)).testBit t = true then (if set.testBit t = true then k else 10 - k) else 1)))), (0, .ref mo), (1, .int (nI i)), (2, .int (nI k)), (3, .int (nI j)), (4, .int (nI (fullN (aV A)))), (5, .int (nI (21 + 5 * i + 3))), (6, .int (nI (jayUp (aV A) i k set))), (7, .int (nI (10 ^ onesN (fullN (aV A)) 9))), (8, .int (nI set)), (10, .int (nI t))]) hx hb dX2_jay_183 hl (by decide) rfl (fun ls hl => ?_)
                                refine lv_aload_n hx hb dX2_jay_185 rfl (lv_at hl 1 rfl) ?_
                                refine z_get (v := .ref (q 12)) hC zf_X2_22_2 hw 0 rfl rfl dX2_jay_186 ?_
                                refine lv_iconst (v := (nI 3)) hx hb dX2_jay_189 zk_3 ?_
                                refine lv_iconst (v := (nI 2)) hx hb dX2_jay_190 zk_2 ?_
                                refine lv_iload hx hb dX2_jay_191 (lv_at hl 10 rfl) ?_
                                refine zn_imul hx hb dX2_jay_193 ?_
                                refine zn_iadd hx hb dX2_jay_194 ?_
                                refine lv_iconst (v := (nI 1)) hx hb dX2_jay_195 zk_1 ?_
                                refine zn_iadd hx hb dX2_jay_196 ?_
                                have join_224 : ∀ (x7 : Nat), (x7 = if set.testBit t = true then 0 else (aV A) (3 + 2 * t + 1)) → ∀ (H : Heap) (locs : List Loc) (ls : Array Slot), zS G ((mo, zo 2 (mF q (f 1) (f 2) (f 3) (f 4) (f 5) (f 6) (f 7) (f 8) (f 14) (f 19))) :: (q 0, zc G 0 (zI 200 (b 0))) :: (q 9, zc G 0 (zI 46 (b 9))) :: (q 10, zc G 0 (zI 46 (b 10))) :: (q 11, zc G 0 (zI 46 (vI (aV A)))) :: (q 12, zc G 0 (zI 46 (vI (jayH (aV A) set t)))) :: (q 13, zc G 0 (zI 368 (b 13))) :: (q 15, zc G 0 (zI 92 (b 15))) :: (q 16, zc G 3 (zI 2 (b 16))) :: (q 17, zc G 0 (zI 5 af1)) :: (q 18, zc G 0 (zI 24 (b 18))) :: (q 20, zc G 0 (zI 3 (b 20))) :: (q 21, zc G 0 (zI 3 (b 21))) :: (q 22, zc G 0 (zI 3 (b 22))) :: (q 23, zc G 0 (zI 36 (b 23))) :: (q 24, zc G 0 (zI 36 (b 24))) :: rest) s H locs → lv_has ls 11 [(0, .ref mo), (1, .int (nI i)), (2, .int (nI k)), (3, .int (nI j)), (4, .int (nI (fullN (aV A)))), (5, .int (nI (21 + 5 * i + 3))), (6, .int (nI (jayUp (aV A) i k set))), (7, .int (nI (10 ^ onesN (fullN (aV A)) 9))), (8, .int (nI set)), (9, .int (nI ((jayW (fullN (aV A)) set k t) * (if (fullN (aV A)).testBit t = true then (if set.testBit t = true then k else 10 - k) else 1)))), (10, .int (nI t))] → W p l e (zR 5 0 0) s m args below meth c H locs 0 0 Q (F0 m 224 ls [.int (nI x7), .int (nI (3 + 2 * t + 1)), .ref (q 12)]) := by
                                  intro x7 hx7 H locs ls hw hl
                                  subst hx7
                                  refine z_iast (f' := vI (updN (jayH (aV A) set t) (3 + 2 * t + 1) (if set.testBit t = true then 0 else (aV A) (3 + 2 * t + 1)))) hC hw 5 rfl (by omega) (by decide) (vI_upd _ _ _) dX2_jay_224 (fun H locs hw => ?_)
                                  have hw : zS G ((mo, zo 2 (mF q (f 1) (f 2) (f 3) (f 4) (f 5) (f 6) (f 7) (f 8) (f 14) (f 19))) :: (q 0, zc G 0 (zI 200 (b 0))) :: (q 9, zc G 0 (zI 46 (b 9))) :: (q 10, zc G 0 (zI 46 (b 10))) :: (q 11, zc G 0 (zI 46 (vI (aV A)))) :: (q 12, zc G 0 (zI 46 (vI (updN (jayH (aV A) set t) (3 + 2 * t + 1) (if set.testBit t = true then 0 else (aV A) (3 + 2 * t + 1)))))) :: (q 13, zc G 0 (zI 368 (b 13))) :: (q 15, zc G 0 (zI 92 (b 15))) :: (q 16, zc G 3 (zI 2 (b 16))) :: (q 17, zc G 0 (zI 5 af1)) :: (q 18, zc G 0 (zI 24 (b 18))) :: (q 20, zc G 0 (zI 3 (b 20))) :: (q 21, zc G 0 (zI 3 (b 21))) :: (q 22, zc G 0 (zI 3 (b 22))) :: (q 23, zc G 0 (zI 36 (b 23))) :: (q 24, zc G 0 (zI 36 (b 24))) :: rest) s H locs := hw
                                  refine lv_iinc (v := (nI (t + 1))) (lv' := [(10, .int (nI (t + 1))), (0, .ref mo), (1, .int (nI i)), (2, .int (nI k)), (3, .int (nI j)), (4, .int (nI (fullN (aV A)))), (5, .int (nI (21 + 5 * i + 3))), (6, .int (nI (jayUp (aV A) i k set))), (7, .int (nI (10 ^ onesN (fullN (aV A)) 9))), (8, .int (nI set)), (9, .int (nI ((jayW (fullN (aV A)) set k t) * (if (fullN (aV A)).testBit t = true then (if set.testBit t = true then k else 10 - k) else 1))))]) hx hb dX2_jay_225 hl (k := 10) rfl (zincn _ 1) (by decide) rfl (fun ls hl => ?_)
                                  refine lv_goto (tgt := 137) hx hb dX2_jay_228 (by decide) ?_
                                  have hw : zS G ((mo, zo 2 (mF q (f 1) (f 2) (f 3) (f 4) (f 5) (f 6) (f 7) (f 8) (f 14) (f 19))) :: (q 0, zc G 0 (zI 200 (b 0))) :: (q 9, zc G 0 (zI 46 (b 9))) :: (q 10, zc G 0 (zI 46 (b 10))) :: (q 11, zc G 0 (zI 46 (vI (aV A)))) :: (q 12, zc G 0 (zI 46 (vI (jayH (aV A) set (t + 1))))) :: (q 13, zc G 0 (zI 368 (b 13))) :: (q 15, zc G 0 (zI 92 (b 15))) :: (q 16, zc G 3 (zI 2 (b 16))) :: (q 17, zc G 0 (zI 5 af1)) :: (q 18, zc G 0 (zI 24 (b 18))) :: (q 20, zc G 0 (zI 3 (b 20))) :: (q 21, zc G 0 (zI 3 (b 21))) :: (q 22, zc G 0 (zI 3 (b 22))) :: (q 23, zc G 0 (zI 36 (b 23))) :: (q 24, zc G 0 (zI 36 (b 24))) :: rest) s H locs := hw
                                  exact ih_137 (t + 1) (by have := hH.2.2.1 0; omega) (by have := hH.2.2.1 0; omega) H locs ls hw (lv_sub hl [1, 2, 3, 4, 5, 6, 7, 8, 9, 10, 0] rfl)
                                refine lv_iload hx hb dX2_jay_197 (lv_at hl 9 rfl) ?_
                                refine lv_iload hx hb dX2_jay_199 (lv_at hl 10 rfl) ?_
                                refine z_ci (z_runS (As := [.int (nI set), .int (nI t)]) (rest := [.int (nI (3 + 2 * t + 1)), .ref (q 12)]) hC zs_X2_152 (m_X2_has G l set t (by omega) (by omega) _) hw rfl rfl (Nat.le_of_ble_eq_true rfl) hl.1 ⟨Nat.le_of_ble_eq_true rfl, Nat.le_of_ble_eq_true rfl⟩ ⟨(Nat.le_of_ble_eq_true rfl), (Nat.le_of_ble_eq_true rfl)⟩ dX2_jay_201) hw (fun _ => List.Perm.refl _) (fun r u H locs hp hw => ?_)
                                obtain rfl : r = bI (set.testBit t = true) := hp
                                refine zb_eq (tgt := 211) hx hb dX2_jay_204 (by decide) (fun c_204 => ?_) (fun c_204 => ?_)
                                · skip
                                  refine lv_aload_n hx hb dX2_jay_211 rfl (lv_at hl 1 rfl) ?_
                                  refine z_get (v := .ref (q 11)) hC zf_X2_19_2 hw 0 rfl rfl dX2_jay_212 ?_
                                  refine lv_iconst (v := (nI 3)) hx hb dX2_jay_215 zk_3 ?_
                                  refine lv_iconst (v := (nI 2)) hx hb dX2_jay_216 zk_2 ?_
                                  refine lv_iload hx hb dX2_jay_217 (lv_at hl 10 rfl) ?_
                                  refine zn_imul hx hb dX2_jay_219 ?_
                                  refine zn_iadd hx hb dX2_jay_220 ?_
                                  refine lv_iconst (v := (nI 1)) hx hb dX2_jay_221 zk_1 ?_
                                  refine zn_iadd hx hb dX2_jay_222 ?_
                                  refine z_iald (x := (nI ((aV A) (3 + 2 * t + 1)))) hC hw 4 rfl (by omega) (by decide) rfl dX2_jay_223 ?_
                                  exact join_224 ((aV A) (3 + 2 * t + 1)) (by first | rw [if_pos c_204] | rw [if_neg c_204]) H locs ls hw (lv_sub hl [1, 2, 3, 4, 5, 6, 7, 8, 9, 0, 10] rfl)
                                · skip
                                  refine lv_iconst (v := (nI 0)) hx hb dX2_jay_207 zk_0 ?_
                                  refine lv_goto (tgt := 224) hx hb dX2_jay_208 (by decide) ?_
                                  exact join_224 0 (by first | rw [if_pos c_204] | rw [if_neg c_204]) H locs ls hw (lv_sub hl [1, 2, 3, 4, 5, 6, 7, 8, 9, 0, 10] rfl)
                              refine lv_iload hx hb dX2_jay_150 (lv_at hl 4 rfl) ?_
                              refine lv_iload hx hb dX2_jay_152 (lv_at hl 10 rfl) ?_
                              refine z_ci (z_runS (As := [.int (nI (fullN (aV A))), .int (nI t)]) (rest := [.int (nI (jayW (fullN (aV A)) set k t))]) hC zs_X2_152 (m_X2_has G l (fullN (aV A)) t (by omega) (by omega) _) hw rfl rfl (Nat.le_of_ble_eq_true rfl) hl.1 ⟨Nat.le_of_ble_eq_true rfl, Nat.le_of_ble_eq_true rfl⟩ ⟨(Nat.le_of_ble_eq_true rfl), (Nat.le_of_ble_eq_true rfl)⟩ dX2_jay_154) hw (fun _ => List.Perm.refl _) (fun r u H locs hp hw => ?_)
                              obtain rfl : r = bI ((fullN (aV A)).testBit t = true) := hp
                              refine zb_ne (tgt := 164) hx hb dX2_jay_157 (by decide) (fun c_157 => ?_) (fun c_157 => ?_)
                              · skip
                                refine lv_iload hx hb dX2_jay_164 (lv_at hl 8 rfl) ?_
                                refine lv_iload hx hb dX2_jay_166 (lv_at hl 10 rfl) ?_
                                refine z_ci (z_runS (As := [.int (nI set), .int (nI t)]) (rest := [.int (nI (jayW (fullN (aV A)) set k t))]) hC zs_X2_152 (m_X2_has G l set t (by omega) (by omega) _) hw rfl rfl (Nat.le_of_ble_eq_true rfl) hl.1 ⟨Nat.le_of_ble_eq_true rfl, Nat.le_of_ble_eq_true rfl⟩ ⟨(Nat.le_of_ble_eq_true rfl), (Nat.le_of_ble_eq_true rfl)⟩ dX2_jay_168) hw (fun _ => List.Perm.refl _) (fun r u H locs hp hw => ?_)
                                obtain rfl : r = bI (set.testBit t = true) := hp
                                refine zb_eq (tgt := 178) hx hb dX2_jay_171 (by decide) (fun c_171 => ?_) (fun c_171 => ?_)
                                · skip
                                  refine lv_bipush (v := (nI 10)) hx hb dX2_jay_178 zb_10 ?_
                                  refine lv_iload_n hx hb dX2_jay_180 rfl (lv_at hl 2 rfl) ?_
                                  refine zn_isub hx hb (by omega) dX2_jay_181 ?_
                                  exact join_182 (10 - k) (by first | rw [if_neg c_157] | rw [if_pos c_157, if_pos c_171] | rw [if_pos c_157, if_neg c_171]) H locs ls hw (lv_sub hl [0, 1, 2, 3, 4, 5, 6, 7, 8, 9, 10] rfl)
                                · skip
                                  refine lv_iload_n hx hb dX2_jay_174 rfl (lv_at hl 2 rfl) ?_
                                  refine lv_goto (tgt := 182) hx hb dX2_jay_175 (by decide) ?_
                                  exact join_182 k (by first | rw [if_neg c_157] | rw [if_pos c_157, if_pos c_171] | rw [if_pos c_157, if_neg c_171]) H locs ls hw (lv_sub hl [0, 1, 2, 3, 4, 5, 6, 7, 8, 9, 10] rfl)
                              · skip
                                refine lv_iconst (v := (nI 1)) hx hb dX2_jay_160 zk_1 ?_
                                refine lv_goto (tgt := 182) hx hb dX2_jay_161 (by decide) ?_
                                exact join_182 1 (by first | rw [if_neg c_157] | rw [if_pos c_157, if_pos c_171] | rw [if_pos c_157, if_neg c_171]) H locs ls hw (lv_sub hl [0, 1, 2, 3, 4, 5, 6, 7, 8, 9, 10] rfl)
                        have hw : zS G ((mo, zo 2 (mF q (f 1) (f 2) (f 3) (f 4) (f 5) (f 6) (f 7) (f 8) (f 14) (f 19))) :: (q 0, zc G 0 (zI 200 (b 0))) :: (q 9, zc G 0 (zI 46 (b 9))) :: (q 10, zc G 0 (zI 46 (b 10))) :: (q 11, zc G 0 (zI 46 (vI (aV A)))) :: (q 12, zc G 0 (zI 46 (vI (jayH (aV A) set 0)))) :: (q 13, zc G 0 (zI 368 (b 13))) :: (q 15, zc G 0 (zI 92 (b 15))) :: (q 16, zc G 3 (zI 2 (b 16))) :: (q 17, zc G 0 (zI 5 af1)) :: (q 18, zc G 0 (zI 24 (b 18))) :: (q 20, zc G 0 (zI 3 (b 20))) :: (q 21, zc G 0 (zI 3 (b 21))) :: (q 22, zc G 0 (zI 3 (b 22))) :: (q 23, zc G 0 (zI 36 (b 23))) :: (q 24, zc G 0 (zI 36 (b 24))) :: rest) s H locs := hw
                        exact loop_137 (((aV A) 0 - 0) + 1) 0 (by have := hH.2.2.1 0; omega) (Nat.lt_succ_self _) H locs ls hw (lv_sub hl [2, 3, 4, 5, 6, 7, 8, 9, 10, 1, 0] rfl)
                exact loop_101 ((fullN (aV A) + 1 - 0) + 1) 0 (b 12) (b 17) (by omega) (Nat.lt_succ_self _) H locs ls hw (lv_sub hl [1, 2, 3, 4, 5, 6, 7, 8, 0] rfl)
              · skip
                refine lv_iload hx hb dX2_jay_85 (lv_at hl 7 rfl) ?_
                refine lv_bipush (v := (nI 10)) hx hb dX2_jay_87 zb_10 ?_
                refine zn_imul hx hb dX2_jay_89 ?_
                refine lv_istore (lv' := [(7, .int (nI ((10 ^ p9) * 10))), (0, .ref mo), (1, .int (nI i)), (2, .int (nI k)), (3, .int (nI j)), (4, .int (nI (fullN (aV A)))), (5, .int (nI (21 + 5 * i + 3))), (6, .int (nI 0)), (8, .int (nI p9))]) hx hb dX2_jay_90 hl (by decide) rfl (fun ls hl => ?_)
                refine lv_iinc (v := (nI (p9 + 1))) (lv' := [(8, .int (nI (p9 + 1))), (7, .int (nI ((10 ^ p9) * 10))), (0, .ref mo), (1, .int (nI i)), (2, .int (nI k)), (3, .int (nI j)), (4, .int (nI (fullN (aV A)))), (5, .int (nI (21 + 5 * i + 3))), (6, .int (nI 0))]) hx hb dX2_jay_92 hl (k := 8) rfl (zincn _ 1) (by decide) rfl (fun ls hl => ?_)
                refine lv_goto (tgt := 75) hx hb dX2_jay_95 (by decide) ?_
                exact ih_75 (p9 + 1) (by omega) (by omega) H locs ls hw (lv_sub hl [2, 3, 4, 5, 6, 7, 8, 1, 0] rfl)
          exact loop_75 ((onesN (fullN (aV A)) 9 - 0) + 1) 0 (by omega) (Nat.lt_succ_self _) H locs ls hw (lv_sub hl [5, 6, 7, 8, 4, 3, 2, 1, 0] rfl)
        · skip
          refine lv_bipush (v := (-4)) hx hb dX2_jay_44 zb_m4 ?_
          exact hend _ _ _ _ _ _ _ ((bU b 11 (vI (aV A))), mf (f 1) (f 2) (f 3) (f 4) (f 5) (f 6) (f 7) (f 8) (f 14) (f 19)) hw ⟨(by unfold F_jay; rw [ifP_t ⟨i, hi, rfl⟩, ifP_t ⟨⟨k, hk1, hk2, rfl⟩, ⟨j, hj1, hj2, rfl⟩⟩, cl_nI (by omega), ifP_t c_41]), ⟨⟨hT, hL⟩, hV0, rH_vI, ⟨hU, hUs⟩, hKp, ⟨hSi, hSg⟩, (fun t ht => tRel_of rfl rfl rfl rfl rfl (hTr t ht))⟩⟩ (by omega) (by omega) dX2_jay_46
      · skip
        refine lv_bipush (v := (-3)) hx hb dX2_jay_30 zb_m3 ?_
        exact hend _ _ _ _ _ _ _ ((bU b 11 (vI (aV A))), mf (f 1) (f 2) (f 3) (f 4) (f 5) (f 6) (f 7) (f 8) (f 14) (f 19)) hw ⟨(by first | exact ((ifP_t ⟨i, hi, rfl⟩).trans (ifP_f (fun h => c_18 h.1))).symm | exact ((ifP_t ⟨i, hi, rfl⟩).trans (ifP_f (fun h => c_27 h.2))).symm), ⟨⟨hT, hL⟩, hV0, rH_vI, ⟨hU, hUs⟩, hKp, ⟨hSi, hSg⟩, (fun t ht => tRel_of rfl rfl rfl rfl rfl (hTr t ht))⟩⟩ (by omega) (by omega) dX2_jay_32
  · skip
    refine lv_bipush (v := (-2)) hx hb dX2_jay_8 zb_m2 ?_
    exact hend _ _ _ _ _ _ _ ((bU b 11 (vI (aV A))), mf (f 1) (f 2) (f 3) (f 4) (f 5) (f 6) (f 7) (f 8) (f 14) (f 19)) hw ⟨(ifP_f c_5).symm, ⟨⟨hT, hL⟩, hV0, rH_vI, ⟨hU, hUs⟩, hKp, ⟨hSi, hSg⟩, (fun t ht => tRel_of rfl rfl rfl rfl rfl (hTr t ht))⟩⟩ (by omega) (by omega) dX2_jay_10
