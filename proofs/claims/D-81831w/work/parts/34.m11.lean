/-! MODEL: texts -/
set_option maxRecDepth 100000
theorem cpy_00 {f g : Nat → Int32} {j : Nat} (h : j < 46) : va_cpy f g 0 0 46 j = f j := by
  unfold va_cpy
  rw [if_pos ⟨by omega, by omega⟩]; congr 1; omega
abbrev RU : Type := Nat × (Nat → Nat) × Int32 × Int32 × Nat
def rR (n : Nat) (X : Nat ⊕ ((Nat → Nat) × Nat)) (u : RU) : Prop := match X with
  | .inl w => u.2.2.1 = nI w ∧ w ≤ n
  | .inr r => u.2.2.1 = -1 ∧ u.2.1 = r.1 ∧ u.2.2.2.2 = r.2
theorem par_s {tx : Nat → Nat} {n c : Nat} {v : Nat → Nat} {p : Nat} (hc : c ≤ 24) : parN tx n (25 - c) c v p = match clauseN tx n v p with
    | .inl w => .inl w
    | .inr r => if tK tx n r.2 = 3 ∧ c < 24 then parN tx n (25 - (c + 1)) (c + 1) r.1 (tS tx n r.2) else if tK tx n r.2 = 0 then .inr (r.1, c) else .inl (tF tx n r.2) := by
  rw [show 25 - c = (25 - (c + 1)) + 1 by omega, parN]
  rfl
theorem par_go {tx : Nat → Nat} {n c : Nat} {v vp : Nat → Nat} {p pp : Nat} {X : Nat ⊕ ((Nat → Nat) × Nat)} (hok : clauseN tx n vp pp = .inr (v, p)) (h3 : tK tx n p = 3) (hc : c < 24) (hX : parN tx n (25 - c) c vp pp = X) : parN tx n (25 - (c + 1)) (c + 1) v (tS tx n p) = X := by
  rw [← hX]; exact ((par_s (by omega)).trans (by rw [hok]; exact if_pos ⟨h3, hc⟩)).symm
theorem par_l {tx : Nat → Nat} {n c : Nat} {vp : Nat → Nat} {pp w : Nat} {X : Nat ⊕ ((Nat → Nat) × Nat)} (hc : c ≤ 24) (hok : clauseN tx n vp pp = .inl w) (hX : parN tx n (25 - c) c vp pp = X) : X = .inl w := by
  rw [← hX, par_s hc, hok]
theorem par_e {tx : Nat → Nat} {n c : Nat} {v vp : Nat → Nat} {p pp : Nat} {X : Nat ⊕ ((Nat → Nat) × Nat)} (hc : c ≤ 24) (hok : clauseN tx n vp pp = .inr (v, p)) (hno : ¬ (tK tx n p = 3 ∧ c < 24)) (hX : parN tx n (25 - c) c vp pp = X) : X = if tK tx n p = 0 then .inr (v, c) else .inl (tF tx n p) := by
  rw [← hX, par_s hc, hok]; exact if_neg hno
theorem rR_l {n w p c : Nat} {v : Nat → Nat} {a : Int32} {X : Nat ⊕ ((Nat → Nat) × Nat)} (e : X = .inl w) (hw : w ≤ n) : rR n X (p, v, nI w, a, c) := by subst e; exact ⟨rfl, hw⟩
theorem rR_e {tx : Nat → Nat} {n p c : Nat} {v : Nat → Nat} {a : Int32} {X : Nat ⊕ ((Nat → Nat) × Nat)} (hp : p ≤ n) (e : X = if tK tx n p = 0 then .inr (v, c) else .inl (tF tx n p)) : rR n X (p, v, ifP (¬ tK tx n p = 0) (nI (tF tx n p)) (-1), a, c) := by
  subst e
  by_cases h : tK tx n p = 0
  · rw [if_pos h, ifP_f (fun q => q h)]; exact ⟨rfl, rfl, rfl⟩
  · rw [if_neg h, ifP_t h]; exact ⟨rfl, (tF_le (tx := tx) hp).2⟩
theorem rR_fault {n p c : Nat} {v : Nat → Nat} {w a : Int32} {A : AS} (h : rR n (parA A) (p, v, w, a, c)) : w = F_fault A := by
  unfold F_fault
  cases e : parA A with
  | inl x => rw [e] at h; exact h.1
  | inr x => rw [e] at h; exact h.1
theorem rR_no {n p c : Nat} {v : Nat → Nat} {w a : Int32} {A : AS} (h : rR n (parA A) (p, v, w, a, c)) (hw : ¬ w = -1) : F_hedge A = (-4, A) := by
  unfold F_hedge
  cases e : parA A with
  | inl x => rfl
  | inr x => rw [e] at h; exact absurd h.1 hw
theorem rR_yes {n p c : Nat} {v : Nat → Nat} {w a : Int32} {A : AS} (hn : n ≤ 200) (h : rR n (parA A) (p, v, w, a, c)) (hw : w = -1) : F_hedge A = (nI c, mkA (aT A) 0 v v 0 (aUs A) (fun _ => none) 0 (aSg A) (fun _ => none)) := by
  unfold F_hedge
  cases e : parA A with
  | inl x => rw [e] at h; exact absurd (hw.symm.trans h.1).symm (nI_nm1 (by have := h.2; omega))
  | inr x => rw [e] at h; have h1 : v = x.1 := h.2.1; have h2 : c = x.2 := h.2.2; rw [h1, h2]
def m1F (g : Nat → Int32) (k : Nat) : Nat → Int32 := fun j => if j < k then -1 else g j
theorem m1F_0 (g : Nat → Int32) : m1F g 0 = g := by funext j; exact if_neg (Nat.not_lt_zero j)
theorem m1F_upd {g : Nat → Int32} {k : Nat} : upd (m1F g k) k (-1) = m1F g (k + 1) := by
  funext j
  unfold upd m1F
  by_cases e : j = k
  · subst e; rw [if_pos rfl, if_pos (Nat.lt_succ_self j)]
  · rw [if_neg e]
    by_cases e2 : j < k
    · rw [if_pos e2, if_pos (by omega)]
    · rw [if_neg e2, if_neg (by omega)]
theorem zf_X2_13_2 : zFl 2 9 RX2 13 true (.array .int) := ⟨RX2, TX2, 25, tyX2, rfl, by decide, in_X2, q1807, rfl, by decide +kernel, tyX2_ok, nmX2⟩
theorem zf_X2_134_2 : zFl 2 8 RX2 134 false .int := ⟨RX2, TX2, 25, tyX2, rfl, by decide, in_X2, q1806, rfl, by decide +kernel, tyX2_ok, nmX2⟩
theorem zv_X2_137 : zVs RX2 137 yX2_clause cX2_clause 3 none 0 := ⟨lw_V q1911 q1913 qs31 q53 q1914, ⟨by decide +kernel, by decide +kernel⟩, by decide +kernel⟩
set_option maxHeartbeats 4000000 in
theorem m_X2_reads (G : zE) (l : Launch) (mo : Nat) (q : Nat → Nat) (cl : Int32) (un : Int32) (si : Int32) (n : Nat) (tx : Nat → Nat) (g0 : Nat → Int32) (hn : n ≤ 200) (hg : ∀ j, j < n → g0 j = nI (tx j)) (ht : ∀ j, j < n → tx j < 256) (at1 : Int32) (st : Int32) (tk : Int32) (ln : Int32) (va : Int32) (wr : Int32) (v : Nat → Nat) (hH : Hw v) (d0 : Nat → Int32) (rest : va_W) : zMv G l yX2_reads cX2_reads 1 6 0 0 [.ref mo] ((mo, zo 2 (mF q (nI n) at1 st tk ln va wr cl un si)) :: (q 0, zc G 0 (zI 200 g0)) :: (q 9, zc G 0 (zI 46 (vI v))) :: (q 10, zc G 0 (zI 46 d0)) :: rest) (fun u => rR n (parN tx n 24 1 v 0) u) (fun (u : RU) => (mo, zo 2 (mF q (nI n) (nI (tS tx n u.1)) (nI (tF tx n u.1)) (nI (tK tx n u.1)) (nI (tL tx n u.1)) u.2.2.2.1 u.2.2.1 (nI u.2.2.2.2) un si)) :: (q 0, zc G 0 (zI 200 g0)) :: (q 9, zc G 0 (zI 46 (vI v))) :: (q 10, zc G 0 (zI 46 (vI u.2.1))) :: rest) := by
  refine z_begV (by decide) (Nat.le_of_ble_eq_true rfl) (fun p e s m args below meth c ls Q hC hnm hl hw hend => ?_)
  have hx := hC.hx
  have hb := hC.hb
  have hl : lv_has ls 1 [(0, .ref mo)] := hl
  have hw : zS G ((mo, zo 2 (mF q (nI n) at1 st tk ln va wr cl un si)) :: (q 0, zc G 0 (zI 200 g0)) :: (q 9, zc G 0 (zI 46 (vI v))) :: (q 10, zc G 0 (zI 46 d0)) :: rest) s s.heap [] := hw
  refine lv_aload_n hx hb dX2_reads_0 rfl (lv_at hl 0 rfl) ?_
  refine z_get (v := .ref (q 9)) hC zf_X2_13_2 hw 0 rfl rfl dX2_reads_1 ?_
  refine lv_iconst (v := (nI 0)) hx hb dX2_reads_4 zk_0 ?_
  refine lv_aload_n hx hb dX2_reads_5 rfl (lv_at hl 0 rfl) ?_
  refine z_get (v := .ref (q 10)) hC zf_X2_16_2 hw 0 rfl rfl dX2_reads_6 ?_
  refine lv_iconst (v := (nI 0)) hx hb dX2_reads_9 zk_0 ?_
  refine z_cv (z_runS (As := [.ref (q 9), .int (nI 0), .ref (q 10), .int (nI 0)]) (rest := []) hC zs_X2_130 (m_X2_copies G l (q 9) (q 10) 0 0 46 46 (vI v) d0 (by decide) (by decide) (by decide) (by decide) (zrem [2, 3] _)) (hw.perm (z_cut (is := [2, 3]) (cells := [(q 9, zc G 0 (zI 46 (vI v))), (q 10, zc G 0 (zI 46 d0))]) rfl rfl)) rfl rfl (Nat.le_of_ble_eq_true rfl) hl.1 ⟨Nat.le_of_ble_eq_true rfl, Nat.le_of_ble_eq_true rfl⟩ ⟨(Nat.le_of_ble_eq_true rfl), (Nat.le_of_ble_eq_true rfl)⟩ dX2_reads_10) hw (fun _ => z_pput (is := [2, 3]) (cells := [(q 9, zc G 0 (zI 46 (vI v))), (q 10, zc G 0 (zI 46 d0))]) (cells' := [(q 9, zc G 0 (zI 46 (vI v))), (q 10, zc G 0 (zI 46 (va_cpy (vI v) d0 0 0 46)))]) rfl rfl rfl) (fun u H locs hp hw => ?_)
  have hw : zS G ((mo, zo 2 (mF q (nI n) at1 st tk ln va wr cl un si)) :: (q 0, zc G 0 (zI 200 g0)) :: (q 9, zc G 0 (zI 46 (vI v))) :: (q 10, zc G 0 (zI 46 (va_cpy (vI v) d0 0 0 46))) :: rest) s H locs := hw
  have hw := hw.cellI 3 rfl (g := vI v) (fun j hj => cpy_00 hj)
  have hw : zS G ((mo, zo 2 (mF q (nI n) at1 st tk ln va wr cl un si)) :: (q 0, zc G 0 (zI 200 g0)) :: (q 9, zc G 0 (zI 46 (vI v))) :: (q 10, zc G 0 (zI 46 (vI v))) :: rest) s H locs := hw
  refine lv_aload_n hx hb dX2_reads_13 rfl (lv_at hl 0 rfl) ?_
  refine lv_iconst (v := (nI 0)) hx hb dX2_reads_14 zk_0 ?_
  refine z_puti hC zf_X2_67_2 hw 0 rfl (Nat.le_of_ble_eq_true rfl) dX2_reads_15 (fun H locs hw => ?_)
  have hw : zS G ((mo, zo 2 (mF q (nI n) (nI 0) st tk ln va wr cl un si)) :: (q 0, zc G 0 (zI 200 g0)) :: (q 9, zc G 0 (zI 46 (vI v))) :: (q 10, zc G 0 (zI 46 (vI v))) :: rest) s H locs := hw
  refine lv_aload_n hx hb dX2_reads_18 rfl (lv_at hl 0 rfl) ?_
  refine lv_iconst (v := -1) hx hb dX2_reads_19 zk_m1 ?_
  refine z_puti hC zf_X2_93_2 hw 0 rfl (Nat.le_of_ble_eq_true rfl) dX2_reads_20 (fun H locs hw => ?_)
  have hw : zS G ((mo, zo 2 (mF q (nI n) (nI 0) st tk ln va (-1) cl un si)) :: (q 0, zc G 0 (zI 200 g0)) :: (q 9, zc G 0 (zI 46 (vI v))) :: (q 10, zc G 0 (zI 46 (vI v))) :: rest) s H locs := hw
  refine lv_aload_n hx hb dX2_reads_23 rfl (lv_at hl 0 rfl) ?_
  refine lv_iconst (v := (nI 1)) hx hb dX2_reads_24 zk_1 ?_
  refine z_puti hC zf_X2_134_2 hw 0 rfl (Nat.le_of_ble_eq_true rfl) dX2_reads_25 (fun H locs hw => ?_)
  have hw : zS G ((mo, zo 2 (mF q (nI n) (nI 0) st tk ln va (-1) (nI 1) un si)) :: (q 0, zc G 0 (zI 200 g0)) :: (q 9, zc G 0 (zI 46 (vI v))) :: (q 10, zc G 0 (zI 46 (vI v))) :: rest) s H locs := hw
  refine lv_aload_n hx hb dX2_reads_28 rfl (lv_at hl 0 rfl) ?_
  refine z_cv (z_runV (As := []) (rest := []) hC zv_X2_100 (m_X2_advances G l mo q (nI 1) un si n tx g0 (by omega) (by first | assumption | (omega)) (by first | assumption | (omega)) st tk ln va (-1) 0 (Nat.zero_le _) (zrem [0, 1] _)) hw (hw.perm (z_cut (is := [0, 1]) (cells := [(mo, zo 2 (mF q (nI n) (nI 0) st tk ln va (-1) (nI 1) un si)), (q 0, zc G 0 (zI 200 g0))]) rfl rfl)) 0 rfl rfl rfl rfl rfl (Nat.le_of_ble_eq_true rfl) hl.1 ⟨Nat.le_of_ble_eq_true rfl, Nat.le_of_ble_eq_true rfl⟩ ⟨(Nat.le_of_ble_eq_true rfl), (Nat.le_of_ble_eq_true rfl)⟩ dX2_reads_29) hw (fun _ => z_pput (is := [0, 1]) (cells := [(mo, zo 2 (mF q (nI n) (nI 0) st tk ln va (-1) (nI 1) un si)), (q 0, zc G 0 (zI 200 g0))]) (cells' := [(mo, zo 2 (mF q (nI n) (nI (tS tx n 0)) (nI (tF tx n 0)) (nI (tK tx n 0)) (nI (tL tx n 0)) (optI (tV tx n 0)) (-1) (nI 1) un si)), (q 0, zc G 0 (zI 200 g0))]) rfl rfl rfl) (fun u H locs hp hw => ?_)
  have hw : zS G ((mo, zo 2 (mF q (nI n) (nI (tS tx n 0)) (nI (tF tx n 0)) (nI (tK tx n 0)) (nI (tL tx n 0)) (optI (tV tx n 0)) (-1) (nI 1) un si)) :: (q 0, zc G 0 (zI 200 g0)) :: (q 9, zc G 0 (zI 46 (vI v))) :: (q 10, zc G 0 (zI 46 (vI v))) :: rest) s H locs := hw
  refine lv_aload_n hx hb dX2_reads_32 rfl (lv_at hl 0 rfl) ?_
  refine z_cv (z_runV (As := []) (rest := []) hC zv_X2_137 (m_X2_clause G l mo q (nI 1) un si n tx g0 (by omega) (by first | assumption | (omega)) (by first | assumption | (omega)) 0 (Nat.zero_le _) v (by first | assumption | (omega)) (zrem [0, 1, 3] _)) hw (hw.perm (z_cut (is := [0, 1, 3]) (cells := [(mo, zo 2 (mF q (nI n) (nI (tS tx n 0)) (nI (tF tx n 0)) (nI (tK tx n 0)) (nI (tL tx n 0)) (optI (tV tx n 0)) (-1) (nI 1) un si)), (q 0, zc G 0 (zI 200 g0)), (q 10, zc G 0 (zI 46 (vI v)))]) rfl rfl)) 0 rfl rfl rfl rfl rfl (Nat.le_of_ble_eq_true rfl) hl.1 ⟨Nat.le_of_ble_eq_true rfl, Nat.le_of_ble_eq_true rfl⟩ ⟨(Nat.le_of_ble_eq_true rfl), (Nat.le_of_ble_eq_true rfl)⟩ dX2_reads_33) hw (fun u => z_pput (is := [0, 1, 3]) (cells := [(mo, zo 2 (mF q (nI n) (nI (tS tx n 0)) (nI (tF tx n 0)) (nI (tK tx n 0)) (nI (tL tx n 0)) (optI (tV tx n 0)) (-1) (nI 1) un si)), (q 0, zc G 0 (zI 200 g0)), (q 10, zc G 0 (zI 46 (vI v)))]) (cells' := [(mo, zo 2 (mF q (nI n) (nI (tS tx n u.1)) (nI (tF tx n u.1)) (nI (tK tx n u.1)) (nI (tL tx n u.1)) u.2.2.2 u.2.2.1 (nI 1) un si)), (q 0, zc G 0 (zI 200 g0)), (q 10, zc G 0 (zI 46 (vI u.2.1)))]) rfl rfl rfl) (fun u H locs hp hw => ?_)
  obtain ⟨p9_1, v9_1, w9_1, a9_1⟩ := u
  have hw : zS G ((mo, zo 2 (mF q (nI n) (nI (tS tx n p9_1)) (nI (tF tx n p9_1)) (nI (tK tx n p9_1)) (nI (tL tx n p9_1)) a9_1 w9_1 (nI 1) un si)) :: (q 0, zc G 0 (zI 200 g0)) :: (q 9, zc G 0 (zI 46 (vI v))) :: (q 10, zc G 0 (zI 46 (vI v9_1))) :: rest) s H locs := hw
  have hcr := hp
  have loop_36 : ∀ (fuel : Nat) (vp : Nat → Nat) (pp : Nat) (p8 : Nat) (v8 : Nat → Nat) (w8 : Int32) (a8 : Int32) (cc : Nat), (cR n (clauseN tx n vp pp) (p8, v8, w8, a8)) → (Hw vp) → (cc ≤ 24) → (parN tx n (25 - cc) cc vp pp = parN tx n 24 1 v 0) → (24 - cc) < fuel → ∀ (H : Heap) (locs : List Loc) (ls : Array Slot), zS G ((mo, zo 2 (mF q (nI n) (nI (tS tx n p8)) (nI (tF tx n p8)) (nI (tK tx n p8)) (nI (tL tx n p8)) a8 w8 (nI cc) un si)) :: (q 0, zc G 0 (zI 200 g0)) :: (q 9, zc G 0 (zI 46 (vI v))) :: (q 10, zc G 0 (zI 46 (vI v8))) :: rest) s H locs → lv_has ls 1 [(0, .ref mo)] → W p l e (zR 6 0 0) s m args below meth c H locs 0 0 Q (F0 m 36 ls []) := by
    intro fuel
    induction fuel with
    | zero => intro vp pp p8 v8 w8 a8 cc hcr hHp hc24 hX hfuel; exact absurd hfuel (Nat.not_lt_zero _)
    | succ fuel_36 ih_36 =>
      intro vp pp p8 v8 w8 a8 cc hcr hHp hc24 hX hfuel_36 H locs ls hw hl
      refine lv_aload_n hx hb dX2_reads_36 rfl (lv_at hl 0 rfl) ?_
      refine z_get (v := .int w8) hC zf_X2_93_2 hw 0 rfl rfl dX2_reads_37 ?_
      refine lv_iconst (v := -1) hx hb dX2_reads_40 zk_m1 ?_
      refine lv_icmp_ne (tgt := 82) hx hb dX2_reads_41 (by decide) (fun c_41 => ?_) (fun c_41 => ?_)
      · skip
        obtain ⟨wn, hX1, rfl, hwn⟩ := cR_bad hcr c_41
        have hw : zS G ((mo, zo 2 (mF q (nI n) (nI (tS tx n p8)) (nI (tF tx n p8)) (nI (tK tx n p8)) (nI (tL tx n p8)) a8 (nI wn) (nI cc) un si)) :: (q 0, zc G 0 (zI 200 g0)) :: (q 9, zc G 0 (zI 46 (vI v))) :: (q 10, zc G 0 (zI 46 (vI v8))) :: rest) s H locs := hw
        refine lv_aload_n hx hb dX2_reads_82 rfl (lv_at hl 0 rfl) ?_
        refine lv_aload_n hx hb dX2_reads_83 rfl (lv_at hl 0 rfl) ?_
        have join_95 : ∀ (z : Int32), (z = bI (¬ tK tx n p8 = 0)) → ∀ (H : Heap) (locs : List Loc) (ls : Array Slot), zS G ((mo, zo 2 (mF q (nI n) (nI (tS tx n p8)) (nI (tF tx n p8)) (nI (tK tx n p8)) (nI (tL tx n p8)) a8 (nI wn) (nI cc) un si)) :: (q 0, zc G 0 (zI 200 g0)) :: (q 9, zc G 0 (zI 46 (vI v))) :: (q 10, zc G 0 (zI 46 (vI v8))) :: rest) s H locs → lv_has ls 1 [(0, .ref mo)] → W p l e (zR 6 0 0) s m args below meth c H locs 0 0 Q (F0 m 95 ls [.int z, .ref mo]) := by
          intro z hz H locs ls hw hl
          subst hz
          refine z_cv (z_runV (As := [.int (bI (¬ tK tx n p8 = 0))]) (rest := []) hC zv_X2_96 (m_X2_fails_w G l mo q (nI cc) un si n tx g0 (by omega) (by first | assumption | (omega)) (by first | assumption | (omega)) (nI (tS tx n p8)) (nI (tF tx n p8)) (nI (tK tx n p8)) (nI (tL tx n p8)) a8 (bI (¬ tK tx n p8 = 0)) wn (by omega) (zrem [0] _)) hw (hw.perm (z_cut (is := [0]) (cells := [(mo, zo 2 (mF q (nI n) (nI (tS tx n p8)) (nI (tF tx n p8)) (nI (tK tx n p8)) (nI (tL tx n p8)) a8 (nI wn) (nI cc) un si))]) rfl rfl)) 0 rfl rfl rfl rfl rfl (Nat.le_of_ble_eq_true rfl) hl.1 ⟨Nat.le_of_ble_eq_true rfl, Nat.le_of_ble_eq_true rfl⟩ ⟨(Nat.le_of_ble_eq_true rfl), (Nat.le_of_ble_eq_true rfl)⟩ dX2_reads_95) hw (fun _ => z_keep (is := [0]) (cs := [(mo, zo 2 (mF q (nI n) (nI (tS tx n p8)) (nI (tF tx n p8)) (nI (tK tx n p8)) (nI (tL tx n p8)) a8 (nI wn) (nI cc) un si))]) rfl rfl) (fun u H locs hp hw => ?_)
          exact hend _ _ _ _ _ _ (p8, v8, (nI wn), a8, cc) hw (by first | exact rR_l (par_l hc24 hX1 hX) hwn | exact rR_e hcr.1 (par_e hc24 hok (fun q => c_49 q.1) hX) | exact rR_e hcr.1 (par_e hc24 hok (fun q => by omega) hX)) (Nat.le_of_ble_eq_true rfl) (Nat.le_of_ble_eq_true rfl) dX2_reads_98
        refine z_get (v := .int (nI (tK tx n p8))) hC zf_X2_90_2 hw 0 rfl rfl dX2_reads_84 ?_
        refine zj_eq (tgt := 94) hx hb (by have := tK_lt tx n p8; omega) dX2_reads_87 (by decide) (fun c_87 => ?_) (fun c_87 => ?_)
        · skip
          refine lv_iconst (v := (nI 0)) hx hb dX2_reads_94 zk_0 ?_
          exact join_95 (nI 0) (by first | exact (bI_t c_87).symm | exact (bI_f (fun q => q c_87)).symm) H locs ls hw (lv_sub hl [0] rfl)
        · skip
          refine lv_iconst (v := (nI 1)) hx hb dX2_reads_90 zk_1 ?_
          refine lv_goto (tgt := 95) hx hb dX2_reads_91 (by decide) ?_
          exact join_95 (nI 1) (by first | exact (bI_t c_87).symm | exact (bI_f (fun q => q c_87)).symm) H locs ls hw (lv_sub hl [0] rfl)
      · skip
        subst c_41
        have hw : zS G ((mo, zo 2 (mF q (nI n) (nI (tS tx n p8)) (nI (tF tx n p8)) (nI (tK tx n p8)) (nI (tL tx n p8)) a8 (-1) (nI cc) un si)) :: (q 0, zc G 0 (zI 200 g0)) :: (q 9, zc G 0 (zI 46 (vI v))) :: (q 10, zc G 0 (zI 46 (vI v8))) :: rest) s H locs := hw
        have hok := cR_ok hn hcr
        refine lv_aload_n hx hb dX2_reads_44 rfl (lv_at hl 0 rfl) ?_
        refine z_get (v := .int (nI (tK tx n p8))) hC zf_X2_90_2 hw 0 rfl rfl dX2_reads_45 ?_
        refine lv_iconst (v := (nI 3)) hx hb dX2_reads_48 zk_3 ?_
        refine zi_ne (tgt := 82) hx hb (by have := tK_lt tx n p8; omega) (by decide) dX2_reads_49 (by decide) (fun c_49 => ?_) (fun c_49 => ?_)
        · skip
          refine lv_aload_n hx hb dX2_reads_82 rfl (lv_at hl 0 rfl) ?_
          refine lv_aload_n hx hb dX2_reads_83 rfl (lv_at hl 0 rfl) ?_
          have join_95 : ∀ (z : Int32), (z = bI (¬ tK tx n p8 = 0)) → ∀ (H : Heap) (locs : List Loc) (ls : Array Slot), zS G ((mo, zo 2 (mF q (nI n) (nI (tS tx n p8)) (nI (tF tx n p8)) (nI (tK tx n p8)) (nI (tL tx n p8)) a8 (-1) (nI cc) un si)) :: (q 0, zc G 0 (zI 200 g0)) :: (q 9, zc G 0 (zI 46 (vI v))) :: (q 10, zc G 0 (zI 46 (vI v8))) :: rest) s H locs → lv_has ls 1 [(0, .ref mo)] → W p l e (zR 6 0 0) s m args below meth c H locs 0 0 Q (F0 m 95 ls [.int z, .ref mo]) := by
            intro z hz H locs ls hw hl
            subst hz
            refine z_cv (z_runV (As := [.int (bI (¬ tK tx n p8 = 0))]) (rest := []) hC zv_X2_96 (m_X2_fails G l mo q (nI cc) un si n tx g0 (by omega) (by first | assumption | (omega)) (by first | assumption | (omega)) (nI (tS tx n p8)) (nI (tF tx n p8)) (nI (tK tx n p8)) (nI (tL tx n p8)) a8 (¬ tK tx n p8 = 0) (zrem [0] _)) hw (hw.perm (z_cut (is := [0]) (cells := [(mo, zo 2 (mF q (nI n) (nI (tS tx n p8)) (nI (tF tx n p8)) (nI (tK tx n p8)) (nI (tL tx n p8)) a8 (-1) (nI cc) un si))]) rfl rfl)) 0 rfl rfl rfl rfl rfl (Nat.le_of_ble_eq_true rfl) hl.1 ⟨Nat.le_of_ble_eq_true rfl, Nat.le_of_ble_eq_true rfl⟩ ⟨(Nat.le_of_ble_eq_true rfl), (Nat.le_of_ble_eq_true rfl)⟩ dX2_reads_95) hw (fun _ => z_pput (is := [0]) (cells := [(mo, zo 2 (mF q (nI n) (nI (tS tx n p8)) (nI (tF tx n p8)) (nI (tK tx n p8)) (nI (tL tx n p8)) a8 (-1) (nI cc) un si))]) (cells' := [(mo, zo 2 (mF q (nI n) (nI (tS tx n p8)) (nI (tF tx n p8)) (nI (tK tx n p8)) (nI (tL tx n p8)) a8 (ifP (¬ tK tx n p8 = 0) (nI (tF tx n p8)) (-1)) (nI cc) un si))]) rfl rfl rfl) (fun u H locs hp hw => ?_)
            have hw : zS G ((mo, zo 2 (mF q (nI n) (nI (tS tx n p8)) (nI (tF tx n p8)) (nI (tK tx n p8)) (nI (tL tx n p8)) a8 (ifP (¬ tK tx n p8 = 0) (nI (tF tx n p8)) (-1)) (nI cc) un si)) :: (q 0, zc G 0 (zI 200 g0)) :: (q 9, zc G 0 (zI 46 (vI v))) :: (q 10, zc G 0 (zI 46 (vI v8))) :: rest) s H locs := hw
            exact hend _ _ _ _ _ _ (p8, v8, (ifP (¬ tK tx n p8 = 0) (nI (tF tx n p8)) (-1)), a8, cc) hw (by first | exact rR_l (par_l hc24 hX1 hX) hwn | exact rR_e hcr.1 (par_e hc24 hok (fun q => c_49 q.1) hX) | exact rR_e hcr.1 (par_e hc24 hok (fun q => by omega) hX)) (Nat.le_of_ble_eq_true rfl) (Nat.le_of_ble_eq_true rfl) dX2_reads_98
          refine z_get (v := .int (nI (tK tx n p8))) hC zf_X2_90_2 hw 0 rfl rfl dX2_reads_84 ?_
          refine zj_eq (tgt := 94) hx hb (by have := tK_lt tx n p8; omega) dX2_reads_87 (by decide) (fun c_87 => ?_) (fun c_87 => ?_)
          · skip
            refine lv_iconst (v := (nI 0)) hx hb dX2_reads_94 zk_0 ?_
            exact join_95 (nI 0) (by first | exact (bI_t c_87).symm | exact (bI_f (fun q => q c_87)).symm) H locs ls hw (lv_sub hl [0] rfl)
          · skip
            refine lv_iconst (v := (nI 1)) hx hb dX2_reads_90 zk_1 ?_
            refine lv_goto (tgt := 95) hx hb dX2_reads_91 (by decide) ?_
            exact join_95 (nI 1) (by first | exact (bI_t c_87).symm | exact (bI_f (fun q => q c_87)).symm) H locs ls hw (lv_sub hl [0] rfl)
        · skip
          refine lv_aload_n hx hb dX2_reads_52 rfl (lv_at hl 0 rfl) ?_
          refine z_get (v := .int (nI cc)) hC zf_X2_134_2 hw 0 rfl rfl dX2_reads_53 ?_
          refine lv_bipush (v := (nI 24)) hx hb dX2_reads_56 zb_24 ?_
          refine zi_ge (tgt := 82) hx hb (by omega) (by decide) dX2_reads_58 (by decide) (fun c_58 => ?_) (fun c_58 => ?_)
          · skip
            refine lv_aload_n hx hb dX2_reads_82 rfl (lv_at hl 0 rfl) ?_
            refine lv_aload_n hx hb dX2_reads_83 rfl (lv_at hl 0 rfl) ?_
            have join_95 : ∀ (z : Int32), (z = bI (¬ tK tx n p8 = 0)) → ∀ (H : Heap) (locs : List Loc) (ls : Array Slot), zS G ((mo, zo 2 (mF q (nI n) (nI (tS tx n p8)) (nI (tF tx n p8)) (nI (tK tx n p8)) (nI (tL tx n p8)) a8 (-1) (nI cc) un si)) :: (q 0, zc G 0 (zI 200 g0)) :: (q 9, zc G 0 (zI 46 (vI v))) :: (q 10, zc G 0 (zI 46 (vI v8))) :: rest) s H locs → lv_has ls 1 [(0, .ref mo)] → W p l e (zR 6 0 0) s m args below meth c H locs 0 0 Q (F0 m 95 ls [.int z, .ref mo]) := by
              intro z hz H locs ls hw hl
              subst hz
              refine z_cv (z_runV (As := [.int (bI (¬ tK tx n p8 = 0))]) (rest := []) hC zv_X2_96 (m_X2_fails G l mo q (nI cc) un si n tx g0 (by omega) (by first | assumption | (omega)) (by first | assumption | (omega)) (nI (tS tx n p8)) (nI (tF tx n p8)) (nI (tK tx n p8)) (nI (tL tx n p8)) a8 (¬ tK tx n p8 = 0) (zrem [0] _)) hw (hw.perm (z_cut (is := [0]) (cells := [(mo, zo 2 (mF q (nI n) (nI (tS tx n p8)) (nI (tF tx n p8)) (nI (tK tx n p8)) (nI (tL tx n p8)) a8 (-1) (nI cc) un si))]) rfl rfl)) 0 rfl rfl rfl rfl rfl (Nat.le_of_ble_eq_true rfl) hl.1 ⟨Nat.le_of_ble_eq_true rfl, Nat.le_of_ble_eq_true rfl⟩ ⟨(Nat.le_of_ble_eq_true rfl), (Nat.le_of_ble_eq_true rfl)⟩ dX2_reads_95) hw (fun _ => z_pput (is := [0]) (cells := [(mo, zo 2 (mF q (nI n) (nI (tS tx n p8)) (nI (tF tx n p8)) (nI (tK tx n p8)) (nI (tL tx n p8)) a8 (-1) (nI cc) un si))]) (cells' := [(mo, zo 2 (mF q (nI n) (nI (tS tx n p8)) (nI (tF tx n p8)) (nI (tK tx n p8)) (nI (tL tx n p8)) a8 (ifP (¬ tK tx n p8 = 0) (nI (tF tx n p8)) (-1)) (nI cc) un si))]) rfl rfl rfl) (fun u H locs hp hw => ?_)
              have hw : zS G ((mo, zo 2 (mF q (nI n) (nI (tS tx n p8)) (nI (tF tx n p8)) (nI (tK tx n p8)) (nI (tL tx n p8)) a8 (ifP (¬ tK tx n p8 = 0) (nI (tF tx n p8)) (-1)) (nI cc) un si)) :: (q 0, zc G 0 (zI 200 g0)) :: (q 9, zc G 0 (zI 46 (vI v))) :: (q 10, zc G 0 (zI 46 (vI v8))) :: rest) s H locs := hw
              exact hend _ _ _ _ _ _ (p8, v8, (ifP (¬ tK tx n p8 = 0) (nI (tF tx n p8)) (-1)), a8, cc) hw (by first | exact rR_l (par_l hc24 hX1 hX) hwn | exact rR_e hcr.1 (par_e hc24 hok (fun q => c_49 q.1) hX) | exact rR_e hcr.1 (par_e hc24 hok (fun q => by omega) hX)) (Nat.le_of_ble_eq_true rfl) (Nat.le_of_ble_eq_true rfl) dX2_reads_98
            refine z_get (v := .int (nI (tK tx n p8))) hC zf_X2_90_2 hw 0 rfl rfl dX2_reads_84 ?_
            refine zj_eq (tgt := 94) hx hb (by have := tK_lt tx n p8; omega) dX2_reads_87 (by decide) (fun c_87 => ?_) (fun c_87 => ?_)
            · skip
              refine lv_iconst (v := (nI 0)) hx hb dX2_reads_94 zk_0 ?_
              exact join_95 (nI 0) (by first | exact (bI_t c_87).symm | exact (bI_f (fun q => q c_87)).symm) H locs ls hw (lv_sub hl [0] rfl)
            · skip
              refine lv_iconst (v := (nI 1)) hx hb dX2_reads_90 zk_1 ?_
              refine lv_goto (tgt := 95) hx hb dX2_reads_91 (by decide) ?_
              exact join_95 (nI 1) (by first | exact (bI_t c_87).symm | exact (bI_f (fun q => q c_87)).symm) H locs ls hw (lv_sub hl [0] rfl)
          · skip
            refine lv_aload_n hx hb dX2_reads_61 rfl (lv_at hl 0 rfl) ?_
            refine z_cv (z_runV (As := []) (rest := []) hC zv_X2_100 (m_X2_advances G l mo q (nI cc) un si n tx g0 (by omega) (by first | assumption | (omega)) (by first | assumption | (omega)) (nI (tF tx n p8)) (nI (tK tx n p8)) (nI (tL tx n p8)) a8 (-1) (tS tx n p8) (tS_le hcr.1) (zrem [0, 1] _)) hw (hw.perm (z_cut (is := [0, 1]) (cells := [(mo, zo 2 (mF q (nI n) (nI (tS tx n p8)) (nI (tF tx n p8)) (nI (tK tx n p8)) (nI (tL tx n p8)) a8 (-1) (nI cc) un si)), (q 0, zc G 0 (zI 200 g0))]) rfl rfl)) 0 rfl rfl rfl rfl rfl (Nat.le_of_ble_eq_true rfl) hl.1 ⟨Nat.le_of_ble_eq_true rfl, Nat.le_of_ble_eq_true rfl⟩ ⟨(Nat.le_of_ble_eq_true rfl), (Nat.le_of_ble_eq_true rfl)⟩ dX2_reads_62) hw (fun _ => z_pput (is := [0, 1]) (cells := [(mo, zo 2 (mF q (nI n) (nI (tS tx n p8)) (nI (tF tx n p8)) (nI (tK tx n p8)) (nI (tL tx n p8)) a8 (-1) (nI cc) un si)), (q 0, zc G 0 (zI 200 g0))]) (cells' := [(mo, zo 2 (mF q (nI n) (nI (tS tx n (tS tx n p8))) (nI (tF tx n (tS tx n p8))) (nI (tK tx n (tS tx n p8))) (nI (tL tx n (tS tx n p8))) (optI (tV tx n (tS tx n p8))) (-1) (nI cc) un si)), (q 0, zc G 0 (zI 200 g0))]) rfl rfl rfl) (fun u H locs hp hw => ?_)
            have hw : zS G ((mo, zo 2 (mF q (nI n) (nI (tS tx n (tS tx n p8))) (nI (tF tx n (tS tx n p8))) (nI (tK tx n (tS tx n p8))) (nI (tL tx n (tS tx n p8))) (optI (tV tx n (tS tx n p8))) (-1) (nI cc) un si)) :: (q 0, zc G 0 (zI 200 g0)) :: (q 9, zc G 0 (zI 46 (vI v))) :: (q 10, zc G 0 (zI 46 (vI v8))) :: rest) s H locs := hw
            refine lv_aload_n hx hb dX2_reads_65 rfl (lv_at hl 0 rfl) ?_
            refine z_cv (z_runV (As := []) (rest := []) hC zv_X2_137 (m_X2_clause G l mo q (nI cc) un si n tx g0 (by omega) (by first | assumption | (omega)) (by first | assumption | (omega)) (tS tx n p8) (tS_le hcr.1) v8 (clauseN_Hw hHp hok) (zrem [0, 1, 3] _)) hw (hw.perm (z_cut (is := [0, 1, 3]) (cells := [(mo, zo 2 (mF q (nI n) (nI (tS tx n (tS tx n p8))) (nI (tF tx n (tS tx n p8))) (nI (tK tx n (tS tx n p8))) (nI (tL tx n (tS tx n p8))) (optI (tV tx n (tS tx n p8))) (-1) (nI cc) un si)), (q 0, zc G 0 (zI 200 g0)), (q 10, zc G 0 (zI 46 (vI v8)))]) rfl rfl)) 0 rfl rfl rfl rfl rfl (Nat.le_of_ble_eq_true rfl) hl.1 ⟨Nat.le_of_ble_eq_true rfl, Nat.le_of_ble_eq_true rfl⟩ ⟨(Nat.le_of_ble_eq_true rfl), (Nat.le_of_ble_eq_true rfl)⟩ dX2_reads_66) hw (fun u => z_pput (is := [0, 1, 3]) (cells := [(mo, zo 2 (mF q (nI n) (nI (tS tx n (tS tx n p8))) (nI (tF tx n (tS tx n p8))) (nI (tK tx n (tS tx n p8))) (nI (tL tx n (tS tx n p8))) (optI (tV tx n (tS tx n p8))) (-1) (nI cc) un si)), (q 0, zc G 0 (zI 200 g0)), (q 10, zc G 0 (zI 46 (vI v8)))]) (cells' := [(mo, zo 2 (mF q (nI n) (nI (tS tx n u.1)) (nI (tF tx n u.1)) (nI (tK tx n u.1)) (nI (tL tx n u.1)) u.2.2.2 u.2.2.1 (nI cc) un si)), (q 0, zc G 0 (zI 200 g0)), (q 10, zc G 0 (zI 46 (vI u.2.1)))]) rfl rfl rfl) (fun u H locs hp hw => ?_)
            obtain ⟨p9_2, v9_2, w9_2, a9_2⟩ := u
            have hw : zS G ((mo, zo 2 (mF q (nI n) (nI (tS tx n p9_2)) (nI (tF tx n p9_2)) (nI (tK tx n p9_2)) (nI (tL tx n p9_2)) a9_2 w9_2 (nI cc) un si)) :: (q 0, zc G 0 (zI 200 g0)) :: (q 9, zc G 0 (zI 46 (vI v))) :: (q 10, zc G 0 (zI 46 (vI v9_2))) :: rest) s H locs := hw
            have hcr := hp
            have hcr2 := hp
            refine lv_aload_n hx hb dX2_reads_69 rfl (lv_at hl 0 rfl) ?_
            refine lv_dup hx hb dX2_reads_70 rfl ?_
            refine z_get (v := .int (nI cc)) hC zf_X2_134_2 hw 0 rfl rfl dX2_reads_71 ?_
            refine lv_iconst (v := (nI 1)) hx hb dX2_reads_74 zk_1 ?_
            refine zn_iadd hx hb dX2_reads_75 ?_
            refine z_puti hC zf_X2_134_2 hw 0 rfl (Nat.le_of_ble_eq_true rfl) dX2_reads_76 (fun H locs hw => ?_)
            have hw : zS G ((mo, zo 2 (mF q (nI n) (nI (tS tx n p9_2)) (nI (tF tx n p9_2)) (nI (tK tx n p9_2)) (nI (tL tx n p9_2)) a9_2 w9_2 (nI (cc + 1)) un si)) :: (q 0, zc G 0 (zI 200 g0)) :: (q 9, zc G 0 (zI 46 (vI v))) :: (q 10, zc G 0 (zI 46 (vI v9_2))) :: rest) s H locs := hw
            refine lv_goto (tgt := 36) hx hb dX2_reads_79 (by decide) ?_
            exact ih_36 v8 (tS tx n p8) p9_2 v9_2 w9_2 a9_2 (cc + 1) hcr2 (clauseN_Hw hHp hok) (by omega) (par_go hok c_49 c_58 hX) (by omega) H locs ls hw (lv_sub hl [0] rfl)
  exact loop_36 ((24 - 1) + 1) v 0 p9_1 v9_1 w9_1 a9_1 1 hcr hH (by decide) rfl (Nat.lt_succ_self _) H locs ls hw (lv_sub hl [0] rfl)
set_option maxHeartbeats 4000000 in
theorem m_X2_misses (G : zE) (l : Launch) (mo : Nat) (q : Nat → Nat) (le : Int32) (at1 : Int32) (st : Int32) (tk : Int32) (ln : Int32) (va : Int32) (wr : Int32) (cl : Int32) (un : Int32) (si : Int32) (g : Nat → Int32) (gg : Nat → Int32) (rest : va_W) : zMv G l yX2_misses cX2_misses 2 0 0 0 [.ref mo] ((mo, zo 2 (mF q le at1 st tk ln va wr cl un si)) :: (q 20, zc G 0 (zI 3 g)) :: (q 22, zc G 0 (zI 3 gg)) :: rest) (fun (_ : Unit) => True) (fun (_ : Unit) => (mo, zo 2 (mF q le at1 st tk ln va wr cl un si)) :: (q 20, zc G 0 (zI 3 (m1F g 3))) :: (q 22, zc G 0 (zI 3 (m1F gg 3))) :: rest) := by
  refine z_begV (by decide) (Nat.le_of_ble_eq_true rfl) (fun p e s m args below meth c ls Q hC hnm hl hw hend => ?_)
  have hx := hC.hx
  have hb := hC.hb
  have hl : lv_has ls 2 [(0, .ref mo)] := hl
  have hw : zS G ((mo, zo 2 (mF q le at1 st tk ln va wr cl un si)) :: (q 20, zc G 0 (zI 3 g)) :: (q 22, zc G 0 (zI 3 gg)) :: rest) s s.heap [] := hw
  have hw : zS G ((mo, zo 2 (mF q le at1 st tk ln va wr cl un si)) :: (q 20, zc G 0 (zI 3 (m1F g 0))) :: (q 22, zc G 0 (zI 3 (m1F gg 0))) :: rest) s s.heap [] := by rw [m1F_0, m1F_0]; exact hw
  refine lv_iconst (v := (nI 0)) hx hb dX2_misses_0 zk_0 ?_
  refine lv_istore_n (lv' := [(1, .int (nI 0)), (0, .ref mo)]) hx hb dX2_misses_1 rfl hl (by decide) rfl (fun ls hl => ?_)
  have loop_2 : ∀ (fuel : Nat) (k : Nat), (k ≤ 3) → (3 - k) < fuel → ∀ (H : Heap) (locs : List Loc) (ls : Array Slot), zS G ((mo, zo 2 (mF q le at1 st tk ln va wr cl un si)) :: (q 20, zc G 0 (zI 3 (m1F g k))) :: (q 22, zc G 0 (zI 3 (m1F gg k))) :: rest) s H locs → lv_has ls 2 [(0, .ref mo), (1, .int (nI k))] → W p l e (zR 0 0 0) s m args below meth c H locs 0 0 Q (F0 m 2 ls []) := by
    intro fuel
    induction fuel with
    | zero => intro k hk hfuel; exact absurd hfuel (Nat.not_lt_zero _)
    | succ fuel_2 ih_2 =>
      intro k hk hfuel_2 H locs ls hw hl
      refine lv_iload_n hx hb dX2_misses_2 rfl (lv_at hl 1 rfl) ?_
      refine lv_iconst (v := (nI 3)) hx hb dX2_misses_3 zk_3 ?_
      refine zi_ge (tgt := 27) hx hb (by omega) (by decide) dX2_misses_4 (by decide) (fun c_4 => ?_) (fun c_4 => ?_)
      · skip
        obtain rfl : k = 3 := by omega
        exact hend _ _ _ _ _ _ () hw trivial (Nat.le_of_ble_eq_true rfl) (Nat.le_of_ble_eq_true rfl) dX2_misses_27
      · skip
        refine lv_aload_n hx hb dX2_misses_7 rfl (lv_at hl 0 rfl) ?_
        refine z_get (v := .ref (q 20)) hC zf_X2_41_2 hw 0 rfl rfl dX2_misses_8 ?_
        refine lv_iload_n hx hb dX2_misses_11 rfl (lv_at hl 1 rfl) ?_
        refine lv_iconst (v := -1) hx hb dX2_misses_12 zk_m1 ?_
        refine z_iast (f' := m1F g (k + 1)) hC hw 1 rfl (by omega) (by decide) m1F_upd dX2_misses_13 (fun H locs hw => ?_)
        have hw : zS G ((mo, zo 2 (mF q le at1 st tk ln va wr cl un si)) :: (q 20, zc G 0 (zI 3 (m1F g (k + 1)))) :: (q 22, zc G 0 (zI 3 (m1F gg k))) :: rest) s H locs := hw
        refine lv_aload_n hx hb dX2_misses_14 rfl (lv_at hl 0 rfl) ?_
        refine z_get (v := .ref (q 22)) hC zf_X2_47_2 hw 0 rfl rfl dX2_misses_15 ?_
        refine lv_iload_n hx hb dX2_misses_18 rfl (lv_at hl 1 rfl) ?_
        refine lv_iconst (v := -1) hx hb dX2_misses_19 zk_m1 ?_
        refine z_iast (f' := m1F gg (k + 1)) hC hw 2 rfl (by omega) (by decide) m1F_upd dX2_misses_20 (fun H locs hw => ?_)
        have hw : zS G ((mo, zo 2 (mF q le at1 st tk ln va wr cl un si)) :: (q 20, zc G 0 (zI 3 (m1F g (k + 1)))) :: (q 22, zc G 0 (zI 3 (m1F gg (k + 1)))) :: rest) s H locs := hw
        refine lv_iinc (v := (nI (k + 1))) (lv' := [(1, .int (nI (k + 1))), (0, .ref mo)]) hx hb dX2_misses_21 hl (k := 1) rfl (zincn _ 1) (by decide) rfl (fun ls hl => ?_)
        refine lv_goto (tgt := 2) hx hb dX2_misses_24 (by decide) ?_
        exact ih_2 (k + 1) (by omega) (by omega) H locs ls hw (lv_sub hl [1, 0] rfl)
  have hw : zS G ((mo, zo 2 (mF q le at1 st tk ln va wr cl un si)) :: (q 20, zc G 0 (zI 3 (m1F g 0))) :: (q 22, zc G 0 (zI 3 (m1F gg 0))) :: rest) s s.heap [] := hw
  exact loop_2 ((3 - 0) + 1) 0 (by decide) (Nat.lt_succ_self _) s.heap [] ls hw (lv_sub hl [1, 0] rfl)
theorem zv_X2_140 : zVs RX2 140 yX2_reads cX2_reads 1 none 0 := ⟨lw_V q1890 q1892 qs28 q53 q1893, ⟨by decide +kernel, by decide +kernel⟩, by decide +kernel⟩
set_option maxHeartbeats 4000000 in
theorem m_X2_fault (G : zE) (l : Launch) (mo : Nat) (q : Nat → Nat) (A : AS) (b : Nat → Nat → Int32) (f : Nat → Int32) (hA : AOk A) (hM : MRel A b f) (rest : va_W) : zMi G l yX2_fault cX2_fault 1 (some .int) 7 0 0 [.ref mo] ((mo, zo 2 (mF q (f 1) (f 2) (f 3) (f 4) (f 5) (f 6) (f 7) (f 8) (f 14) (f 19))) :: (q 0, zc G 0 (zI 200 (b 0))) :: (q 9, zc G 0 (zI 46 (b 9))) :: (q 10, zc G 0 (zI 46 (b 10))) :: (q 11, zc G 0 (zI 46 (b 11))) :: (q 12, zc G 0 (zI 46 (b 12))) :: (q 13, zc G 0 (zI 368 (b 13))) :: (q 15, zc G 0 (zI 92 (b 15))) :: (q 16, zc G 3 (zI 2 (b 16))) :: (q 17, zc G 0 (zI 5 (b 17))) :: (q 18, zc G 0 (zI 24 (b 18))) :: (q 20, zc G 0 (zI 3 (b 20))) :: (q 21, zc G 0 (zI 3 (b 21))) :: (q 22, zc G 0 (zI 3 (b 22))) :: (q 23, zc G 0 (zI 36 (b 23))) :: (q 24, zc G 0 (zI 36 (b 24))) :: rest) (fun (r : Int32) (u : MB) => r = F_fault A ∧ MRel A u.1 u.2) (fun (u : MB) => (mo, zo 2 (mF q (u.2 1) (u.2 2) (u.2 3) (u.2 4) (u.2 5) (u.2 6) (u.2 7) (u.2 8) (u.2 14) (u.2 19))) :: (q 0, zc G 0 (zI 200 (u.1 0))) :: (q 9, zc G 0 (zI 46 (u.1 9))) :: (q 10, zc G 0 (zI 46 (u.1 10))) :: (q 11, zc G 0 (zI 46 (u.1 11))) :: (q 12, zc G 0 (zI 46 (u.1 12))) :: (q 13, zc G 0 (zI 368 (u.1 13))) :: (q 15, zc G 0 (zI 92 (u.1 15))) :: (q 16, zc G 3 (zI 2 (u.1 16))) :: (q 17, zc G 0 (zI 5 (u.1 17))) :: (q 18, zc G 0 (zI 24 (u.1 18))) :: (q 20, zc G 0 (zI 3 (u.1 20))) :: (q 21, zc G 0 (zI 3 (u.1 21))) :: (q 22, zc G 0 (zI 3 (u.1 22))) :: (q 23, zc G 0 (zI 36 (u.1 23))) :: (q 24, zc G 0 (zI 36 (u.1 24))) :: rest) := by
  refine z_begI (by decide) (Nat.le_of_ble_eq_true rfl) (fun p e s m args below meth c ls Q hC hl hw hend => ?_)
  have hx := hC.hx
  have hb := hC.hb
  have hl : lv_has ls 1 [(0, .ref mo)] := hl
  have hw : zS G ((mo, zo 2 (mF q (f 1) (f 2) (f 3) (f 4) (f 5) (f 6) (f 7) (f 8) (f 14) (f 19))) :: (q 0, zc G 0 (zI 200 (b 0))) :: (q 9, zc G 0 (zI 46 (b 9))) :: (q 10, zc G 0 (zI 46 (b 10))) :: (q 11, zc G 0 (zI 46 (b 11))) :: (q 12, zc G 0 (zI 46 (b 12))) :: (q 13, zc G 0 (zI 368 (b 13))) :: (q 15, zc G 0 (zI 92 (b 15))) :: (q 16, zc G 3 (zI 2 (b 16))) :: (q 17, zc G 0 (zI 5 (b 17))) :: (q 18, zc G 0 (zI 24 (b 18))) :: (q 20, zc G 0 (zI 3 (b 20))) :: (q 21, zc G 0 (zI 3 (b 21))) :: (q 22, zc G 0 (zI 3 (b 22))) :: (q 23, zc G 0 (zI 36 (b 23))) :: (q 24, zc G 0 (zI 36 (b 24))) :: rest) s s.heap [] := hw
  have hA9 := hA
  obtain ⟨⟨hT, hL⟩, hV0, hV, ⟨hU, hUs⟩, hKp, ⟨hSi, hSg⟩, hTr⟩ := hM
  obtain ⟨⟨hL2, hT2⟩, hB0, hBv, ⟨hU8, hUb⟩, hKb, ⟨hS6, hSb⟩, hTb⟩ := hA
  have hH : Hw (aV A) := hBv.1.1
  have hday := hBv.2.2
  have hw := hw.cellI 2 rfl (g := vI (aV0 A)) (fun j hj => by have := hV0 j hj; rwa [Nat.zero_add] at this)
  have hw := hw.tail (c' := (mo, zo 2 (mF q (nI (aL A)) (f 2) (f 3) (f 4) (f 5) (f 6) (f 7) (f 8) (f 14) (f 19)))) (by rw [hL])
  have hw : zS G ((mo, zo 2 (mF q (nI (aL A)) (f 2) (f 3) (f 4) (f 5) (f 6) (f 7) (f 8) (f 14) (f 19))) :: (q 0, zc G 0 (zI 200 (b 0))) :: (q 9, zc G 0 (zI 46 (vI (aV0 A)))) :: (q 10, zc G 0 (zI 46 (b 10))) :: (q 11, zc G 0 (zI 46 (b 11))) :: (q 12, zc G 0 (zI 46 (b 12))) :: (q 13, zc G 0 (zI 368 (b 13))) :: (q 15, zc G 0 (zI 92 (b 15))) :: (q 16, zc G 3 (zI 2 (b 16))) :: (q 17, zc G 0 (zI 5 (b 17))) :: (q 18, zc G 0 (zI 24 (b 18))) :: (q 20, zc G 0 (zI 3 (b 20))) :: (q 21, zc G 0 (zI 3 (b 21))) :: (q 22, zc G 0 (zI 3 (b 22))) :: (q 23, zc G 0 (zI 36 (b 23))) :: (q 24, zc G 0 (zI 36 (b 24))) :: rest) s s.heap [] := hw
  refine lv_aload_n hx hb dX2_fault_0 rfl (lv_at hl 0 rfl) ?_
  refine z_cv (z_runV (As := []) (rest := []) hC zv_X2_140 (m_X2_reads G l mo q (f 8) (f 14) (f 19) (aL A) (aT A) (b 0) hL2 hT hT2 (f 2) (f 3) (f 4) (f 5) (f 6) (f 7) (aV0 A) hB0.1.1 (b 10) (zrem [0, 1, 2, 3] _)) hw (hw.perm (z_cut (is := [0, 1, 2, 3]) (cells := [(mo, zo 2 (mF q (nI (aL A)) (f 2) (f 3) (f 4) (f 5) (f 6) (f 7) (f 8) (f 14) (f 19))), (q 0, zc G 0 (zI 200 (b 0))), (q 9, zc G 0 (zI 46 (vI (aV0 A)))), (q 10, zc G 0 (zI 46 (b 10)))]) rfl rfl)) 0 rfl rfl rfl rfl rfl (Nat.le_of_ble_eq_true rfl) hl.1 ⟨Nat.le_of_ble_eq_true rfl, Nat.le_of_ble_eq_true rfl⟩ ⟨(Nat.le_of_ble_eq_true rfl), (Nat.le_of_ble_eq_true rfl)⟩ dX2_fault_1) hw (fun u => z_pput (is := [0, 1, 2, 3]) (cells := [(mo, zo 2 (mF q (nI (aL A)) (f 2) (f 3) (f 4) (f 5) (f 6) (f 7) (f 8) (f 14) (f 19))), (q 0, zc G 0 (zI 200 (b 0))), (q 9, zc G 0 (zI 46 (vI (aV0 A)))), (q 10, zc G 0 (zI 46 (b 10)))]) (cells' := [(mo, zo 2 (mF q (nI (aL A)) (nI (tS (aT A) (aL A) u.1)) (nI (tF (aT A) (aL A) u.1)) (nI (tK (aT A) (aL A) u.1)) (nI (tL (aT A) (aL A) u.1)) u.2.2.2.1 u.2.2.1 (nI u.2.2.2.2) (f 14) (f 19))), (q 0, zc G 0 (zI 200 (b 0))), (q 9, zc G 0 (zI 46 (vI (aV0 A)))), (q 10, zc G 0 (zI 46 (vI u.2.1)))]) rfl rfl rfl) (fun u H locs hp hw => ?_)
  obtain ⟨p9_1, v9_1, w9_1, a9_1, c9_1⟩ := u
  have hw : zS G ((mo, zo 2 (mF q (nI (aL A)) (nI (tS (aT A) (aL A) p9_1)) (nI (tF (aT A) (aL A) p9_1)) (nI (tK (aT A) (aL A) p9_1)) (nI (tL (aT A) (aL A) p9_1)) a9_1 w9_1 (nI c9_1) (f 14) (f 19))) :: (q 0, zc G 0 (zI 200 (b 0))) :: (q 9, zc G 0 (zI 46 (vI (aV0 A)))) :: (q 10, zc G 0 (zI 46 (vI v9_1))) :: (q 11, zc G 0 (zI 46 (b 11))) :: (q 12, zc G 0 (zI 46 (b 12))) :: (q 13, zc G 0 (zI 368 (b 13))) :: (q 15, zc G 0 (zI 92 (b 15))) :: (q 16, zc G 3 (zI 2 (b 16))) :: (q 17, zc G 0 (zI 5 (b 17))) :: (q 18, zc G 0 (zI 24 (b 18))) :: (q 20, zc G 0 (zI 3 (b 20))) :: (q 21, zc G 0 (zI 3 (b 21))) :: (q 22, zc G 0 (zI 3 (b 22))) :: (q 23, zc G 0 (zI 36 (b 23))) :: (q 24, zc G 0 (zI 36 (b 24))) :: rest) s H locs := hw
  have hrr := hp
  refine lv_aload_n hx hb dX2_fault_4 rfl (lv_at hl 0 rfl) ?_
  refine z_get (v := .int w9_1) hC zf_X2_93_2 hw 0 rfl rfl dX2_fault_5 ?_
  exact hend _ _ _ _ _ _ _ ((bU (bU b 9 (vI (aV0 A))) 10 (vI v9_1)), mf (nI (aL A)) (nI (tS (aT A) (aL A) p9_1)) (nI (tF (aT A) (aL A) p9_1)) (nI (tK (aT A) (aL A) p9_1)) (nI (tL (aT A) (aL A) p9_1)) a9_1 w9_1 (nI c9_1) (f 14) (f 19)) hw ⟨(rR_fault (A := A) hrr), ⟨⟨hT, rfl⟩, rH_vI, hV, ⟨hU, hUs⟩, hKp, ⟨hSi, hSg⟩, (fun t ht => tRel_of rfl rfl rfl rfl rfl (hTr t ht))⟩⟩ (by omega) (by omega) dX2_fault_8
theorem kRel_off {pf g : Nat → Int32} {j : Nat} (hj : j < 2) : kRel pf (upd (upd g 0 (nI 0)) 1 (nI 0)) j none := by
  show upd (upd g 0 (nI 0)) 1 (nI 0) j = nI 0
  match j, hj with
  | 0, _ => rfl
  | 1, _ => rfl
theorem zv_X2_56 : zVs RX2 56 yX2_misses cX2_misses 2 none 0 := ⟨lw_V q1794 q1796 qs27 q53 q1797, ⟨by decide +kernel, by decide +kernel⟩, by decide +kernel⟩
set_option maxHeartbeats 4000000 in
theorem m_X2_hedge (G : zE) (l : Launch) (mo : Nat) (q : Nat → Nat) (A : AS) (b : Nat → Nat → Int32) (f : Nat → Int32) (hA : AOk A) (hM : MRel A b f) (rest : va_W) : zMi G l yX2_hedge cX2_hedge 1 (some .int) 7 0 0 [.ref mo] ((mo, zo 2 (mF q (f 1) (f 2) (f 3) (f 4) (f 5) (f 6) (f 7) (f 8) (f 14) (f 19))) :: (q 0, zc G 0 (zI 200 (b 0))) :: (q 9, zc G 0 (zI 46 (b 9))) :: (q 10, zc G 0 (zI 46 (b 10))) :: (q 11, zc G 0 (zI 46 (b 11))) :: (q 12, zc G 0 (zI 46 (b 12))) :: (q 13, zc G 0 (zI 368 (b 13))) :: (q 15, zc G 0 (zI 92 (b 15))) :: (q 16, zc G 3 (zI 2 (b 16))) :: (q 17, zc G 0 (zI 5 (b 17))) :: (q 18, zc G 0 (zI 24 (b 18))) :: (q 20, zc G 0 (zI 3 (b 20))) :: (q 21, zc G 0 (zI 3 (b 21))) :: (q 22, zc G 0 (zI 3 (b 22))) :: (q 23, zc G 0 (zI 36 (b 23))) :: (q 24, zc G 0 (zI 36 (b 24))) :: rest) (fun (r : Int32) (u : MB) => r = (F_hedge A).1 ∧ MRel (F_hedge A).2 u.1 u.2) (fun (u : MB) => (mo, zo 2 (mF q (u.2 1) (u.2 2) (u.2 3) (u.2 4) (u.2 5) (u.2 6) (u.2 7) (u.2 8) (u.2 14) (u.2 19))) :: (q 0, zc G 0 (zI 200 (u.1 0))) :: (q 9, zc G 0 (zI 46 (u.1 9))) :: (q 10, zc G 0 (zI 46 (u.1 10))) :: (q 11, zc G 0 (zI 46 (u.1 11))) :: (q 12, zc G 0 (zI 46 (u.1 12))) :: (q 13, zc G 0 (zI 368 (u.1 13))) :: (q 15, zc G 0 (zI 92 (u.1 15))) :: (q 16, zc G 3 (zI 2 (u.1 16))) :: (q 17, zc G 0 (zI 5 (u.1 17))) :: (q 18, zc G 0 (zI 24 (u.1 18))) :: (q 20, zc G 0 (zI 3 (u.1 20))) :: (q 21, zc G 0 (zI 3 (u.1 21))) :: (q 22, zc G 0 (zI 3 (u.1 22))) :: (q 23, zc G 0 (zI 36 (u.1 23))) :: (q 24, zc G 0 (zI 36 (u.1 24))) :: rest) := by
  refine z_begI (by decide) (Nat.le_of_ble_eq_true rfl) (fun p e s m args below meth c ls Q hC hl hw hend => ?_)
  have hx := hC.hx
  have hb := hC.hb
  have hl : lv_has ls 1 [(0, .ref mo)] := hl
  have hw : zS G ((mo, zo 2 (mF q (f 1) (f 2) (f 3) (f 4) (f 5) (f 6) (f 7) (f 8) (f 14) (f 19))) :: (q 0, zc G 0 (zI 200 (b 0))) :: (q 9, zc G 0 (zI 46 (b 9))) :: (q 10, zc G 0 (zI 46 (b 10))) :: (q 11, zc G 0 (zI 46 (b 11))) :: (q 12, zc G 0 (zI 46 (b 12))) :: (q 13, zc G 0 (zI 368 (b 13))) :: (q 15, zc G 0 (zI 92 (b 15))) :: (q 16, zc G 3 (zI 2 (b 16))) :: (q 17, zc G 0 (zI 5 (b 17))) :: (q 18, zc G 0 (zI 24 (b 18))) :: (q 20, zc G 0 (zI 3 (b 20))) :: (q 21, zc G 0 (zI 3 (b 21))) :: (q 22, zc G 0 (zI 3 (b 22))) :: (q 23, zc G 0 (zI 36 (b 23))) :: (q 24, zc G 0 (zI 36 (b 24))) :: rest) s s.heap [] := hw
  have hA9 := hA
  obtain ⟨⟨hT, hL⟩, hV0, hV, ⟨hU, hUs⟩, hKp, ⟨hSi, hSg⟩, hTr⟩ := hM
  obtain ⟨⟨hL2, hT2⟩, hB0, hBv, ⟨hU8, hUb⟩, hKb, ⟨hS6, hSb⟩, hTb⟩ := hA
  have hH : Hw (aV A) := hBv.1.1
  have hday := hBv.2.2
  have hw := hw.cellI 2 rfl (g := vI (aV0 A)) (fun j hj => by have := hV0 j hj; rwa [Nat.zero_add] at this)
  have hw := hw.tail (c' := (mo, zo 2 (mF q (nI (aL A)) (f 2) (f 3) (f 4) (f 5) (f 6) (f 7) (f 8) (f 14) (f 19)))) (by rw [hL])
  have hw : zS G ((mo, zo 2 (mF q (nI (aL A)) (f 2) (f 3) (f 4) (f 5) (f 6) (f 7) (f 8) (f 14) (f 19))) :: (q 0, zc G 0 (zI 200 (b 0))) :: (q 9, zc G 0 (zI 46 (vI (aV0 A)))) :: (q 10, zc G 0 (zI 46 (b 10))) :: (q 11, zc G 0 (zI 46 (b 11))) :: (q 12, zc G 0 (zI 46 (b 12))) :: (q 13, zc G 0 (zI 368 (b 13))) :: (q 15, zc G 0 (zI 92 (b 15))) :: (q 16, zc G 3 (zI 2 (b 16))) :: (q 17, zc G 0 (zI 5 (b 17))) :: (q 18, zc G 0 (zI 24 (b 18))) :: (q 20, zc G 0 (zI 3 (b 20))) :: (q 21, zc G 0 (zI 3 (b 21))) :: (q 22, zc G 0 (zI 3 (b 22))) :: (q 23, zc G 0 (zI 36 (b 23))) :: (q 24, zc G 0 (zI 36 (b 24))) :: rest) s s.heap [] := hw
  refine lv_aload_n hx hb dX2_hedge_0 rfl (lv_at hl 0 rfl) ?_
  refine z_cv (z_runV (As := []) (rest := []) hC zv_X2_140 (m_X2_reads G l mo q (f 8) (f 14) (f 19) (aL A) (aT A) (b 0) hL2 hT hT2 (f 2) (f 3) (f 4) (f 5) (f 6) (f 7) (aV0 A) hB0.1.1 (b 10) (zrem [0, 1, 2, 3] _)) hw (hw.perm (z_cut (is := [0, 1, 2, 3]) (cells := [(mo, zo 2 (mF q (nI (aL A)) (f 2) (f 3) (f 4) (f 5) (f 6) (f 7) (f 8) (f 14) (f 19))), (q 0, zc G 0 (zI 200 (b 0))), (q 9, zc G 0 (zI 46 (vI (aV0 A)))), (q 10, zc G 0 (zI 46 (b 10)))]) rfl rfl)) 0 rfl rfl rfl rfl rfl (Nat.le_of_ble_eq_true rfl) hl.1 ⟨Nat.le_of_ble_eq_true rfl, Nat.le_of_ble_eq_true rfl⟩ ⟨(Nat.le_of_ble_eq_true rfl), (Nat.le_of_ble_eq_true rfl)⟩ dX2_hedge_1) hw (fun u => z_pput (is := [0, 1, 2, 3]) (cells := [(mo, zo 2 (mF q (nI (aL A)) (f 2) (f 3) (f 4) (f 5) (f 6) (f 7) (f 8) (f 14) (f 19))), (q 0, zc G 0 (zI 200 (b 0))), (q 9, zc G 0 (zI 46 (vI (aV0 A)))), (q 10, zc G 0 (zI 46 (b 10)))]) (cells' := [(mo, zo 2 (mF q (nI (aL A)) (nI (tS (aT A) (aL A) u.1)) (nI (tF (aT A) (aL A) u.1)) (nI (tK (aT A) (aL A) u.1)) (nI (tL (aT A) (aL A) u.1)) u.2.2.2.1 u.2.2.1 (nI u.2.2.2.2) (f 14) (f 19))), (q 0, zc G 0 (zI 200 (b 0))), (q 9, zc G 0 (zI 46 (vI (aV0 A)))), (q 10, zc G 0 (zI 46 (vI u.2.1)))]) rfl rfl rfl) (fun u H locs hp hw => ?_)
  obtain ⟨p8, v8, w8, a8, c8⟩ := u
  have hw : zS G ((mo, zo 2 (mF q (nI (aL A)) (nI (tS (aT A) (aL A) p8)) (nI (tF (aT A) (aL A) p8)) (nI (tK (aT A) (aL A) p8)) (nI (tL (aT A) (aL A) p8)) a8 w8 (nI c8) (f 14) (f 19))) :: (q 0, zc G 0 (zI 200 (b 0))) :: (q 9, zc G 0 (zI 46 (vI (aV0 A)))) :: (q 10, zc G 0 (zI 46 (vI v8))) :: (q 11, zc G 0 (zI 46 (b 11))) :: (q 12, zc G 0 (zI 46 (b 12))) :: (q 13, zc G 0 (zI 368 (b 13))) :: (q 15, zc G 0 (zI 92 (b 15))) :: (q 16, zc G 3 (zI 2 (b 16))) :: (q 17, zc G 0 (zI 5 (b 17))) :: (q 18, zc G 0 (zI 24 (b 18))) :: (q 20, zc G 0 (zI 3 (b 20))) :: (q 21, zc G 0 (zI 3 (b 21))) :: (q 22, zc G 0 (zI 3 (b 22))) :: (q 23, zc G 0 (zI 36 (b 23))) :: (q 24, zc G 0 (zI 36 (b 24))) :: rest) s H locs := hw
  have hrr := hp
  refine lv_aload_n hx hb dX2_hedge_4 rfl (lv_at hl 0 rfl) ?_
  refine z_get (v := .int w8) hC zf_X2_93_2 hw 0 rfl rfl dX2_hedge_5 ?_
  refine lv_iconst (v := -1) hx hb dX2_hedge_8 zk_m1 ?_
  refine lv_icmp_eq (tgt := 15) hx hb dX2_hedge_9 (by decide) (fun c_9 => ?_) (fun c_9 => ?_)
  · skip
    refine lv_aload_n hx hb dX2_hedge_15 rfl (lv_at hl 0 rfl) ?_
    refine z_get (v := .ref (q 10)) hC zf_X2_16_2 hw 0 rfl rfl dX2_hedge_16 ?_
    refine lv_iconst (v := (nI 0)) hx hb dX2_hedge_19 zk_0 ?_
    refine lv_aload_n hx hb dX2_hedge_20 rfl (lv_at hl 0 rfl) ?_
    refine z_get (v := .ref (q 9)) hC zf_X2_13_2 hw 0 rfl rfl dX2_hedge_21 ?_
    refine lv_iconst (v := (nI 0)) hx hb dX2_hedge_24 zk_0 ?_
    refine z_cv (z_runS (As := [.ref (q 10), .int (nI 0), .ref (q 9), .int (nI 0)]) (rest := []) hC zs_X2_130 (m_X2_copies G l (q 10) (q 9) 0 0 46 46 (vI v8) (vI (aV0 A)) (by omega) (by omega) (by decide) (by decide) (zrem [3, 2] _)) (hw.perm (z_cut (is := [3, 2]) (cells := [(q 10, zc G 0 (zI 46 (vI v8))), (q 9, zc G 0 (zI 46 (vI (aV0 A))))]) rfl rfl)) rfl rfl (Nat.le_of_ble_eq_true rfl) hl.1 ⟨Nat.le_of_ble_eq_true rfl, Nat.le_of_ble_eq_true rfl⟩ ⟨(Nat.le_of_ble_eq_true rfl), (Nat.le_of_ble_eq_true rfl)⟩ dX2_hedge_25) hw (fun _ => z_pput (is := [3, 2]) (cells := [(q 10, zc G 0 (zI 46 (vI v8))), (q 9, zc G 0 (zI 46 (vI (aV0 A))))]) (cells' := [(q 10, zc G 0 (zI 46 (vI v8))), (q 9, zc G 0 (zI 46 (va_cpy (vI v8) (vI (aV0 A)) 0 0 46)))]) rfl rfl rfl) (fun u H locs hp hw => ?_)
    have hw : zS G ((mo, zo 2 (mF q (nI (aL A)) (nI (tS (aT A) (aL A) p8)) (nI (tF (aT A) (aL A) p8)) (nI (tK (aT A) (aL A) p8)) (nI (tL (aT A) (aL A) p8)) a8 w8 (nI c8) (f 14) (f 19))) :: (q 0, zc G 0 (zI 200 (b 0))) :: (q 9, zc G 0 (zI 46 (va_cpy (vI v8) (vI (aV0 A)) 0 0 46))) :: (q 10, zc G 0 (zI 46 (vI v8))) :: (q 11, zc G 0 (zI 46 (b 11))) :: (q 12, zc G 0 (zI 46 (b 12))) :: (q 13, zc G 0 (zI 368 (b 13))) :: (q 15, zc G 0 (zI 92 (b 15))) :: (q 16, zc G 3 (zI 2 (b 16))) :: (q 17, zc G 0 (zI 5 (b 17))) :: (q 18, zc G 0 (zI 24 (b 18))) :: (q 20, zc G 0 (zI 3 (b 20))) :: (q 21, zc G 0 (zI 3 (b 21))) :: (q 22, zc G 0 (zI 3 (b 22))) :: (q 23, zc G 0 (zI 36 (b 23))) :: (q 24, zc G 0 (zI 36 (b 24))) :: rest) s H locs := hw
    have hw := hw.cellI 2 rfl (g := vI v8) (fun j hj => cpy_00 hj)
    have hw : zS G ((mo, zo 2 (mF q (nI (aL A)) (nI (tS (aT A) (aL A) p8)) (nI (tF (aT A) (aL A) p8)) (nI (tK (aT A) (aL A) p8)) (nI (tL (aT A) (aL A) p8)) a8 w8 (nI c8) (f 14) (f 19))) :: (q 0, zc G 0 (zI 200 (b 0))) :: (q 9, zc G 0 (zI 46 (vI v8))) :: (q 10, zc G 0 (zI 46 (vI v8))) :: (q 11, zc G 0 (zI 46 (b 11))) :: (q 12, zc G 0 (zI 46 (b 12))) :: (q 13, zc G 0 (zI 368 (b 13))) :: (q 15, zc G 0 (zI 92 (b 15))) :: (q 16, zc G 3 (zI 2 (b 16))) :: (q 17, zc G 0 (zI 5 (b 17))) :: (q 18, zc G 0 (zI 24 (b 18))) :: (q 20, zc G 0 (zI 3 (b 20))) :: (q 21, zc G 0 (zI 3 (b 21))) :: (q 22, zc G 0 (zI 3 (b 22))) :: (q 23, zc G 0 (zI 36 (b 23))) :: (q 24, zc G 0 (zI 36 (b 24))) :: rest) s H locs := hw
    refine lv_aload_n hx hb dX2_hedge_28 rfl (lv_at hl 0 rfl) ?_
    refine z_get (v := .ref (q 10)) hC zf_X2_16_2 hw 0 rfl rfl dX2_hedge_29 ?_
    refine lv_iconst (v := (nI 0)) hx hb dX2_hedge_32 zk_0 ?_
    refine lv_aload_n hx hb dX2_hedge_33 rfl (lv_at hl 0 rfl) ?_
    refine z_get (v := .ref (q 11)) hC zf_X2_19_2 hw 0 rfl rfl dX2_hedge_34 ?_
    refine lv_iconst (v := (nI 0)) hx hb dX2_hedge_37 zk_0 ?_
    refine z_cv (z_runS (As := [.ref (q 10), .int (nI 0), .ref (q 11), .int (nI 0)]) (rest := []) hC zs_X2_130 (m_X2_copies G l (q 10) (q 11) 0 0 46 46 (vI v8) (b 11) (by omega) (by omega) (by decide) (by decide) (zrem [3, 4] _)) (hw.perm (z_cut (is := [3, 4]) (cells := [(q 10, zc G 0 (zI 46 (vI v8))), (q 11, zc G 0 (zI 46 (b 11)))]) rfl rfl)) rfl rfl (Nat.le_of_ble_eq_true rfl) hl.1 ⟨Nat.le_of_ble_eq_true rfl, Nat.le_of_ble_eq_true rfl⟩ ⟨(Nat.le_of_ble_eq_true rfl), (Nat.le_of_ble_eq_true rfl)⟩ dX2_hedge_38) hw (fun _ => z_pput (is := [3, 4]) (cells := [(q 10, zc G 0 (zI 46 (vI v8))), (q 11, zc G 0 (zI 46 (b 11)))]) (cells' := [(q 10, zc G 0 (zI 46 (vI v8))), (q 11, zc G 0 (zI 46 (va_cpy (vI v8) (b 11) 0 0 46)))]) rfl rfl rfl) (fun u H locs hp hw => ?_)
    have hw : zS G ((mo, zo 2 (mF q (nI (aL A)) (nI (tS (aT A) (aL A) p8)) (nI (tF (aT A) (aL A) p8)) (nI (tK (aT A) (aL A) p8)) (nI (tL (aT A) (aL A) p8)) a8 w8 (nI c8) (f 14) (f 19))) :: (q 0, zc G 0 (zI 200 (b 0))) :: (q 9, zc G 0 (zI 46 (vI v8))) :: (q 10, zc G 0 (zI 46 (vI v8))) :: (q 11, zc G 0 (zI 46 (va_cpy (vI v8) (b 11) 0 0 46))) :: (q 12, zc G 0 (zI 46 (b 12))) :: (q 13, zc G 0 (zI 368 (b 13))) :: (q 15, zc G 0 (zI 92 (b 15))) :: (q 16, zc G 3 (zI 2 (b 16))) :: (q 17, zc G 0 (zI 5 (b 17))) :: (q 18, zc G 0 (zI 24 (b 18))) :: (q 20, zc G 0 (zI 3 (b 20))) :: (q 21, zc G 0 (zI 3 (b 21))) :: (q 22, zc G 0 (zI 3 (b 22))) :: (q 23, zc G 0 (zI 36 (b 23))) :: (q 24, zc G 0 (zI 36 (b 24))) :: rest) s H locs := hw
    have hw := hw.cellI 4 rfl (g := vI v8) (fun j hj => cpy_00 hj)
    have hw : zS G ((mo, zo 2 (mF q (nI (aL A)) (nI (tS (aT A) (aL A) p8)) (nI (tF (aT A) (aL A) p8)) (nI (tK (aT A) (aL A) p8)) (nI (tL (aT A) (aL A) p8)) a8 w8 (nI c8) (f 14) (f 19))) :: (q 0, zc G 0 (zI 200 (b 0))) :: (q 9, zc G 0 (zI 46 (vI v8))) :: (q 10, zc G 0 (zI 46 (vI v8))) :: (q 11, zc G 0 (zI 46 (vI v8))) :: (q 12, zc G 0 (zI 46 (b 12))) :: (q 13, zc G 0 (zI 368 (b 13))) :: (q 15, zc G 0 (zI 92 (b 15))) :: (q 16, zc G 3 (zI 2 (b 16))) :: (q 17, zc G 0 (zI 5 (b 17))) :: (q 18, zc G 0 (zI 24 (b 18))) :: (q 20, zc G 0 (zI 3 (b 20))) :: (q 21, zc G 0 (zI 3 (b 21))) :: (q 22, zc G 0 (zI 3 (b 22))) :: (q 23, zc G 0 (zI 36 (b 23))) :: (q 24, zc G 0 (zI 36 (b 24))) :: rest) s H locs := hw
    refine lv_aload_n hx hb dX2_hedge_41 rfl (lv_at hl 0 rfl) ?_
    refine lv_iconst (v := (nI 0)) hx hb dX2_hedge_42 zk_0 ?_
    refine z_puti hC zf_X2_63_2 hw 0 rfl (Nat.le_of_ble_eq_true rfl) dX2_hedge_43 (fun H locs hw => ?_)
    have hw : zS G ((mo, zo 2 (mF q (nI 0) (nI (tS (aT A) (aL A) p8)) (nI (tF (aT A) (aL A) p8)) (nI (tK (aT A) (aL A) p8)) (nI (tL (aT A) (aL A) p8)) a8 w8 (nI c8) (f 14) (f 19))) :: (q 0, zc G 0 (zI 200 (b 0))) :: (q 9, zc G 0 (zI 46 (vI v8))) :: (q 10, zc G 0 (zI 46 (vI v8))) :: (q 11, zc G 0 (zI 46 (vI v8))) :: (q 12, zc G 0 (zI 46 (b 12))) :: (q 13, zc G 0 (zI 368 (b 13))) :: (q 15, zc G 0 (zI 92 (b 15))) :: (q 16, zc G 3 (zI 2 (b 16))) :: (q 17, zc G 0 (zI 5 (b 17))) :: (q 18, zc G 0 (zI 24 (b 18))) :: (q 20, zc G 0 (zI 3 (b 20))) :: (q 21, zc G 0 (zI 3 (b 21))) :: (q 22, zc G 0 (zI 3 (b 22))) :: (q 23, zc G 0 (zI 36 (b 23))) :: (q 24, zc G 0 (zI 36 (b 24))) :: rest) s H locs := hw
    refine lv_aload_n hx hb dX2_hedge_46 rfl (lv_at hl 0 rfl) ?_
    refine lv_iconst (v := (nI 0)) hx hb dX2_hedge_47 zk_0 ?_
    refine z_puti hC zf_X2_143_2 hw 0 rfl (Nat.le_of_ble_eq_true rfl) dX2_hedge_48 (fun H locs hw => ?_)
    have hw : zS G ((mo, zo 2 (mF q (nI 0) (nI (tS (aT A) (aL A) p8)) (nI (tF (aT A) (aL A) p8)) (nI (tK (aT A) (aL A) p8)) (nI (tL (aT A) (aL A) p8)) a8 w8 (nI c8) (f 14) (nI 0))) :: (q 0, zc G 0 (zI 200 (b 0))) :: (q 9, zc G 0 (zI 46 (vI v8))) :: (q 10, zc G 0 (zI 46 (vI v8))) :: (q 11, zc G 0 (zI 46 (vI v8))) :: (q 12, zc G 0 (zI 46 (b 12))) :: (q 13, zc G 0 (zI 368 (b 13))) :: (q 15, zc G 0 (zI 92 (b 15))) :: (q 16, zc G 3 (zI 2 (b 16))) :: (q 17, zc G 0 (zI 5 (b 17))) :: (q 18, zc G 0 (zI 24 (b 18))) :: (q 20, zc G 0 (zI 3 (b 20))) :: (q 21, zc G 0 (zI 3 (b 21))) :: (q 22, zc G 0 (zI 3 (b 22))) :: (q 23, zc G 0 (zI 36 (b 23))) :: (q 24, zc G 0 (zI 36 (b 24))) :: rest) s H locs := hw
    refine lv_aload_n hx hb dX2_hedge_51 rfl (lv_at hl 0 rfl) ?_
    refine lv_iconst (v := (nI 0)) hx hb dX2_hedge_52 zk_0 ?_
    refine z_puti hC zf_X2_146_2 hw 0 rfl (Nat.le_of_ble_eq_true rfl) dX2_hedge_53 (fun H locs hw => ?_)
    have hw : zS G ((mo, zo 2 (mF q (nI 0) (nI (tS (aT A) (aL A) p8)) (nI (tF (aT A) (aL A) p8)) (nI (tK (aT A) (aL A) p8)) (nI (tL (aT A) (aL A) p8)) a8 w8 (nI c8) (nI 0) (nI 0))) :: (q 0, zc G 0 (zI 200 (b 0))) :: (q 9, zc G 0 (zI 46 (vI v8))) :: (q 10, zc G 0 (zI 46 (vI v8))) :: (q 11, zc G 0 (zI 46 (vI v8))) :: (q 12, zc G 0 (zI 46 (b 12))) :: (q 13, zc G 0 (zI 368 (b 13))) :: (q 15, zc G 0 (zI 92 (b 15))) :: (q 16, zc G 3 (zI 2 (b 16))) :: (q 17, zc G 0 (zI 5 (b 17))) :: (q 18, zc G 0 (zI 24 (b 18))) :: (q 20, zc G 0 (zI 3 (b 20))) :: (q 21, zc G 0 (zI 3 (b 21))) :: (q 22, zc G 0 (zI 3 (b 22))) :: (q 23, zc G 0 (zI 36 (b 23))) :: (q 24, zc G 0 (zI 36 (b 24))) :: rest) s H locs := hw
    refine lv_aload_n hx hb dX2_hedge_56 rfl (lv_at hl 0 rfl) ?_
    refine z_get (v := .ref (q 16)) hC zf_X2_31_2 hw 0 rfl rfl dX2_hedge_57 ?_
    refine lv_iconst (v := (nI 0)) hx hb dX2_hedge_60 zk_0 ?_
    refine lv_iconst (v := (nI 0)) hx hb dX2_hedge_61 zk_0 ?_
    refine z_zast (f' := upd (b 16) 0 (nI 0)) hC hw 8 rfl (by decide) (by decide) (congrArg _ rfl) dX2_hedge_62 (fun H locs hw => ?_)
    have hw : zS G ((mo, zo 2 (mF q (nI 0) (nI (tS (aT A) (aL A) p8)) (nI (tF (aT A) (aL A) p8)) (nI (tK (aT A) (aL A) p8)) (nI (tL (aT A) (aL A) p8)) a8 w8 (nI c8) (nI 0) (nI 0))) :: (q 0, zc G 0 (zI 200 (b 0))) :: (q 9, zc G 0 (zI 46 (vI v8))) :: (q 10, zc G 0 (zI 46 (vI v8))) :: (q 11, zc G 0 (zI 46 (vI v8))) :: (q 12, zc G 0 (zI 46 (b 12))) :: (q 13, zc G 0 (zI 368 (b 13))) :: (q 15, zc G 0 (zI 92 (b 15))) :: (q 16, zc G 3 (zI 2 (upd (b 16) 0 (nI 0)))) :: (q 17, zc G 0 (zI 5 (b 17))) :: (q 18, zc G 0 (zI 24 (b 18))) :: (q 20, zc G 0 (zI 3 (b 20))) :: (q 21, zc G 0 (zI 3 (b 21))) :: (q 22, zc G 0 (zI 3 (b 22))) :: (q 23, zc G 0 (zI 36 (b 23))) :: (q 24, zc G 0 (zI 36 (b 24))) :: rest) s H locs := hw
    refine lv_aload_n hx hb dX2_hedge_63 rfl (lv_at hl 0 rfl) ?_
    refine z_get (v := .ref (q 16)) hC zf_X2_31_2 hw 0 rfl rfl dX2_hedge_64 ?_
    refine lv_iconst (v := (nI 1)) hx hb dX2_hedge_67 zk_1 ?_
    refine lv_iconst (v := (nI 0)) hx hb dX2_hedge_68 zk_0 ?_
    refine z_zast (f' := upd (upd (b 16) 0 (nI 0)) 1 (nI 0)) hC hw 8 rfl (by decide) (by decide) (congrArg _ rfl) dX2_hedge_69 (fun H locs hw => ?_)
    have hw : zS G ((mo, zo 2 (mF q (nI 0) (nI (tS (aT A) (aL A) p8)) (nI (tF (aT A) (aL A) p8)) (nI (tK (aT A) (aL A) p8)) (nI (tL (aT A) (aL A) p8)) a8 w8 (nI c8) (nI 0) (nI 0))) :: (q 0, zc G 0 (zI 200 (b 0))) :: (q 9, zc G 0 (zI 46 (vI v8))) :: (q 10, zc G 0 (zI 46 (vI v8))) :: (q 11, zc G 0 (zI 46 (vI v8))) :: (q 12, zc G 0 (zI 46 (b 12))) :: (q 13, zc G 0 (zI 368 (b 13))) :: (q 15, zc G 0 (zI 92 (b 15))) :: (q 16, zc G 3 (zI 2 (upd (upd (b 16) 0 (nI 0)) 1 (nI 0)))) :: (q 17, zc G 0 (zI 5 (b 17))) :: (q 18, zc G 0 (zI 24 (b 18))) :: (q 20, zc G 0 (zI 3 (b 20))) :: (q 21, zc G 0 (zI 3 (b 21))) :: (q 22, zc G 0 (zI 3 (b 22))) :: (q 23, zc G 0 (zI 36 (b 23))) :: (q 24, zc G 0 (zI 36 (b 24))) :: rest) s H locs := hw
    refine lv_aload_n hx hb dX2_hedge_70 rfl (lv_at hl 0 rfl) ?_
    refine z_cv (z_runV (As := []) (rest := []) hC zv_X2_56 (m_X2_misses G l mo q (nI 0) (nI (tS (aT A) (aL A) p8)) (nI (tF (aT A) (aL A) p8)) (nI (tK (aT A) (aL A) p8)) (nI (tL (aT A) (aL A) p8)) a8 w8 (nI c8) (nI 0) (nI 0) (b 20) (b 22) (zrem [0, 11, 13] _)) hw (hw.perm (z_cut (is := [0, 11, 13]) (cells := [(mo, zo 2 (mF q (nI 0) (nI (tS (aT A) (aL A) p8)) (nI (tF (aT A) (aL A) p8)) (nI (tK (aT A) (aL A) p8)) (nI (tL (aT A) (aL A) p8)) a8 w8 (nI c8) (nI 0) (nI 0))), (q 20, zc G 0 (zI 3 (b 20))), (q 22, zc G 0 (zI 3 (b 22)))]) rfl rfl)) 0 rfl rfl rfl rfl rfl (Nat.le_of_ble_eq_true rfl) hl.1 ⟨Nat.le_of_ble_eq_true rfl, Nat.le_of_ble_eq_true rfl⟩ ⟨(Nat.le_of_ble_eq_true rfl), (Nat.le_of_ble_eq_true rfl)⟩ dX2_hedge_71) hw (fun _ => z_pput (is := [0, 11, 13]) (cells := [(mo, zo 2 (mF q (nI 0) (nI (tS (aT A) (aL A) p8)) (nI (tF (aT A) (aL A) p8)) (nI (tK (aT A) (aL A) p8)) (nI (tL (aT A) (aL A) p8)) a8 w8 (nI c8) (nI 0) (nI 0))), (q 20, zc G 0 (zI 3 (b 20))), (q 22, zc G 0 (zI 3 (b 22)))]) (cells' := [(mo, zo 2 (mF q (nI 0) (nI (tS (aT A) (aL A) p8)) (nI (tF (aT A) (aL A) p8)) (nI (tK (aT A) (aL A) p8)) (nI (tL (aT A) (aL A) p8)) a8 w8 (nI c8) (nI 0) (nI 0))), (q 20, zc G 0 (zI 3 (m1F (b 20) 3))), (q 22, zc G 0 (zI 3 (m1F (b 22) 3)))]) rfl rfl rfl) (fun u H locs hp hw => ?_)
    have hw : zS G ((mo, zo 2 (mF q (nI 0) (nI (tS (aT A) (aL A) p8)) (nI (tF (aT A) (aL A) p8)) (nI (tK (aT A) (aL A) p8)) (nI (tL (aT A) (aL A) p8)) a8 w8 (nI c8) (nI 0) (nI 0))) :: (q 0, zc G 0 (zI 200 (b 0))) :: (q 9, zc G 0 (zI 46 (vI v8))) :: (q 10, zc G 0 (zI 46 (vI v8))) :: (q 11, zc G 0 (zI 46 (vI v8))) :: (q 12, zc G 0 (zI 46 (b 12))) :: (q 13, zc G 0 (zI 368 (b 13))) :: (q 15, zc G 0 (zI 92 (b 15))) :: (q 16, zc G 3 (zI 2 (upd (upd (b 16) 0 (nI 0)) 1 (nI 0)))) :: (q 17, zc G 0 (zI 5 (b 17))) :: (q 18, zc G 0 (zI 24 (b 18))) :: (q 20, zc G 0 (zI 3 (m1F (b 20) 3))) :: (q 21, zc G 0 (zI 3 (b 21))) :: (q 22, zc G 0 (zI 3 (m1F (b 22) 3))) :: (q 23, zc G 0 (zI 36 (b 23))) :: (q 24, zc G 0 (zI 36 (b 24))) :: rest) s H locs := hw
    refine lv_aload_n hx hb dX2_hedge_74 rfl (lv_at hl 0 rfl) ?_
    refine z_get (v := .int (nI c8)) hC zf_X2_134_2 hw 0 rfl rfl dX2_hedge_75 ?_
    exact hend _ _ _ _ _ _ _ ((bU (bU (bU (bU (bU (bU b 9 (vI v8)) 10 (vI v8)) 11 (vI v8)) 16 (upd (upd (b 16) 0 (nI 0)) 1 (nI 0))) 20 (m1F (b 20) 3)) 22 (m1F (b 22) 3)), mf (nI 0) (nI (tS (aT A) (aL A) p8)) (nI (tF (aT A) (aL A) p8)) (nI (tK (aT A) (aL A) p8)) (nI (tL (aT A) (aL A) p8)) a8 w8 (nI c8) (nI 0) (nI 0)) hw (by rw [rR_yes (A := A) hL2 hrr c_9]; exact ⟨rfl, ⟨⟨(fun k hk => absurd hk (Nat.not_lt_zero _)), rfl⟩, rH_vI, rH_vI, ⟨rfl, (fun k hk => absurd hk (Nat.not_lt_zero _))⟩, (fun j hj => kRel_off hj), ⟨rfl, (fun k hk => absurd hk (Nat.not_lt_zero _))⟩, (fun t ht => if_pos ht)⟩⟩) (by omega) (by omega) dX2_hedge_78
  · skip
    refine lv_bipush (v := (-4)) hx hb dX2_hedge_12 zb_m4 ?_
    exact hend _ _ _ _ _ _ _ ((bU (bU b 9 (vI (aV0 A))) 10 (vI v8)), mf (nI (aL A)) (nI (tS (aT A) (aL A) p8)) (nI (tF (aT A) (aL A) p8)) (nI (tK (aT A) (aL A) p8)) (nI (tL (aT A) (aL A) p8)) a8 w8 (nI c8) (f 14) (f 19)) hw (by rw [rR_no (A := A) hrr c_9]; exact ⟨rfl, ⟨⟨hT, rfl⟩, rH_vI, hV, ⟨hU, hUs⟩, hKp, ⟨hSi, hSg⟩, (fun t ht => tRel_of rfl rfl rfl rfl rfl (hTr t ht))⟩⟩) (by omega) (by omega) dX2_hedge_14
