/-! MODEL: what was seen -/
set_option maxRecDepth 100000
theorem sightN_lt {k m d : Nat} (hm : m < 65536) : sightN k m d < 2147483648 := by
  unfold sightN
  have h : wantsN k m ≤ 2 * m + 1 := wantsN_le
  have h2 : (if k < 2 then 0 else if k = 2 then 1 else 2) < 3 := ite_lt (by decide) (ite_lt (by decide) (by decide))
  rcases Classical.em (wakesN k (d + 1)) with q | q
  · rw [ifP_t q]; omega
  · rw [ifP_f q]; decide
set_option maxHeartbeats 4000000 in
theorem m_X2_sightOf (G : zE) (l : Launch) (k : Nat) (n : Nat) (d : Nat) (hk : k < 65536) (hn : n < 65536) (hd : d < 65535) (rest : va_W) : zMi G l yX2_sightOf cX2_sightOf 4 (some .int) 1 0 0 [.int (nI k), .int (nI n), .int (nI d)] (rest) (fun (r : Int32) (_ : Unit) => r = nI (sightN k n d)) (fun (_ : Unit) => rest) := by
  refine z_begI (by decide) (Nat.le_of_ble_eq_true rfl) (fun p e s m args below meth c ls Q hC hl hw hend => ?_)
  have hx := hC.hx
  have hb := hC.hb
  have hl : lv_has ls 4 [(0, .int (nI k)), (1, .int (nI n)), (2, .int (nI d))] := hl
  have join_19 : ∀ (x : Nat), (x = (if k < 2 then 0 else if k = 2 then 1 else 2)) → ∀ (H : Heap) (locs : List Loc) (ls : Array Slot), zS G (rest) s H locs → lv_has ls 4 [(0, .int (nI k)), (1, .int (nI n)), (2, .int (nI d))] → W p l e (zR 1 0 0) s m args below meth c H locs 0 0 Q (F0 m 19 ls [.int (nI x)]) := by
    intro x hj H locs ls hw hl
    subst hj
    refine lv_istore_n (lv' := [(3, .int (nI (if k < 2 then 0 else if k = 2 then 1 else 2))), (0, .int (nI k)), (1, .int (nI n)), (2, .int (nI d))]) hx hb dX2_sightOf_19 rfl hl (by decide) rfl (fun ls hl => ?_)
    refine lv_iload_n hx hb dX2_sightOf_20 rfl (lv_at hl 1 rfl) ?_
    refine lv_iload_n hx hb dX2_sightOf_21 rfl (lv_at hl 3 rfl) ?_
    refine lv_iconst (v := (nI 1)) hx hb dX2_sightOf_22 zk_1 ?_
    refine zn_iadd hx hb dX2_sightOf_23 ?_
    refine z_ci (z_runS (As := [.int (nI k), .int (nI (d + 1))]) (rest := []) hC zs_X2_182 (m_X2_wakes G l k (d + 1) (by omega) (by omega) _) hw rfl rfl (Nat.le_of_ble_eq_true rfl) hl.1 ⟨Nat.le_of_ble_eq_true rfl, Nat.le_of_ble_eq_true rfl⟩ ⟨(Nat.le_of_ble_eq_true rfl), (Nat.le_of_ble_eq_true rfl)⟩ dX2_sightOf_24) hw (fun _ => List.Perm.refl _) (fun r u H locs hp hw => ?_)
    obtain rfl : r = bI (wakesN k (d + 1)) := hp
    refine zb_eq (tgt := 42) hx hb dX2_sightOf_27 (by decide) (fun c_27 => ?_) (fun c_27 => ?_)
    · skip
      refine lv_iconst (v := (nI 3)) hx hb dX2_sightOf_42 zk_3 ?_
      exact hend _ _ _ _ _ _ _ () hw (by unfold sightN; first | rw [ifP_t c_27] | rw [ifP_f c_27]) (Nat.le_of_ble_eq_true rfl) (Nat.le_of_ble_eq_true rfl) dX2_sightOf_43
    · skip
      refine lv_iconst (v := (nI 4)) hx hb dX2_sightOf_30 zk_4 ?_
      refine lv_iload_n hx hb dX2_sightOf_31 rfl (lv_at hl 1 rfl) ?_
      refine lv_iload_n hx hb dX2_sightOf_32 rfl (lv_at hl 2 rfl) ?_
      refine z_ci (z_runS (As := [.int (nI k), .int (nI n)]) (rest := [.int (nI 4)]) hC zs_X2_160 (m_X2_wants G l k n (by omega) (by omega) _) hw rfl rfl (Nat.le_of_ble_eq_true rfl) hl.1 ⟨Nat.le_of_ble_eq_true rfl, Nat.le_of_ble_eq_true rfl⟩ ⟨(Nat.le_of_ble_eq_true rfl), (Nat.le_of_ble_eq_true rfl)⟩ dX2_sightOf_33) hw (fun _ => List.Perm.refl _) (fun r u H locs hp hw => ?_)
      obtain rfl : r = nI (wantsN k n) := hp
      refine zn_imul hx hb dX2_sightOf_36 ?_
      refine lv_iload_n hx hb dX2_sightOf_37 rfl (lv_at hl 0 rfl) ?_
      refine zn_iadd hx hb dX2_sightOf_38 ?_
      refine lv_goto (tgt := 43) hx hb dX2_sightOf_39 (by decide) ?_
      exact hend _ _ _ _ _ _ _ () hw (by unfold sightN; first | rw [ifP_t c_27] | rw [ifP_f c_27]) (Nat.le_of_ble_eq_true rfl) (Nat.le_of_ble_eq_true rfl) dX2_sightOf_43
  refine lv_iload_n hx hb dX2_sightOf_0 rfl (lv_at hl 0 rfl) ?_
  refine lv_iconst (v := (nI 2)) hx hb dX2_sightOf_1 zk_2 ?_
  refine zi_ge (tgt := 9) hx hb (by omega) (by decide) dX2_sightOf_2 (by decide) (fun c_2 => ?_) (fun c_2 => ?_)
  · skip
    refine lv_iload_n hx hb dX2_sightOf_9 rfl (lv_at hl 0 rfl) ?_
    refine lv_iconst (v := (nI 2)) hx hb dX2_sightOf_10 zk_2 ?_
    refine zi_ne (tgt := 18) hx hb (by omega) (by decide) dX2_sightOf_11 (by decide) (fun c_11 => ?_) (fun c_11 => ?_)
    · skip
      refine lv_iconst (v := (nI 2)) hx hb dX2_sightOf_18 zk_2 ?_
      exact join_19 2 (by first | rw [if_pos c_2] | rw [if_neg (by omega), if_pos c_11] | rw [if_neg (by omega), if_neg c_11]) s.heap [] ls hw (lv_sub hl [0, 1, 2] rfl)
    · skip
      refine lv_iconst (v := (nI 1)) hx hb dX2_sightOf_14 zk_1 ?_
      refine lv_goto (tgt := 19) hx hb dX2_sightOf_15 (by decide) ?_
      exact join_19 1 (by first | rw [if_pos c_2] | rw [if_neg (by omega), if_pos c_11] | rw [if_neg (by omega), if_neg c_11]) s.heap [] ls hw (lv_sub hl [0, 1, 2] rfl)
  · skip
    refine lv_iconst (v := (nI 0)) hx hb dX2_sightOf_5 zk_0 ?_
    refine lv_goto (tgt := 19) hx hb dX2_sightOf_6 (by decide) ?_
    exact join_19 0 (by first | rw [if_pos c_2] | rw [if_neg (by omega), if_pos c_11] | rw [if_neg (by omega), if_neg c_11]) s.heap [] ls hw (lv_sub hl [0, 1, 2] rfl)
theorem tx_upd {g : Nat → Int32} {t : Nat → Nat} {n k : Nat} (h : ∀ j, j < n → g j = nI (t j)) {j : Nat} (hj : j < n + 1) : upd g n (nI k) j = nI (updN t n k j) := by
  unfold upd updN
  by_cases e : j = n
  · rw [if_pos e, if_pos e]
  · rw [if_neg e, if_neg e]; exact h j (by omega)
theorem zf_X2_63_2 : zFl 2 1 RX2 63 false .int := ⟨RX2, TX2, 25, tyX2, rfl, by decide, in_X2, q1799, rfl, by decide +kernel, tyX2_ok, nmX2⟩
theorem zf_X2_7_2 : zFl 2 0 RX2 7 true (.array .int) := ⟨RX2, TX2, 25, tyX2, rfl, by decide, in_X2, q1798, rfl, by decide +kernel, tyX2_ok, nmX2⟩
set_option maxHeartbeats 4000000 in
theorem m_X2_write (G : zE) (l : Launch) (mo : Nat) (q : Nat → Nat) (A : AS) (b : Nat → Nat → Int32) (f : Nat → Int32) (hA : AOk A) (hM : MRel A b f) (x : Int32) (rest : va_W) : zMi G l yX2_write cX2_write 2 (some .int) 1 0 0 [.ref mo, .int x] ((mo, zo 2 (mF q (f 1) (f 2) (f 3) (f 4) (f 5) (f 6) (f 7) (f 8) (f 14) (f 19))) :: (q 0, zc G 0 (zI 200 (b 0))) :: (q 9, zc G 0 (zI 46 (b 9))) :: (q 10, zc G 0 (zI 46 (b 10))) :: (q 11, zc G 0 (zI 46 (b 11))) :: (q 12, zc G 0 (zI 46 (b 12))) :: (q 13, zc G 0 (zI 368 (b 13))) :: (q 15, zc G 0 (zI 92 (b 15))) :: (q 16, zc G 3 (zI 2 (b 16))) :: (q 17, zc G 0 (zI 5 (b 17))) :: (q 18, zc G 0 (zI 24 (b 18))) :: (q 20, zc G 0 (zI 3 (b 20))) :: (q 21, zc G 0 (zI 3 (b 21))) :: (q 22, zc G 0 (zI 3 (b 22))) :: (q 23, zc G 0 (zI 36 (b 23))) :: (q 24, zc G 0 (zI 36 (b 24))) :: rest) (fun (r : Int32) (u : MB) => r = (F_write A x).1 ∧ MRel (F_write A x).2 u.1 u.2) (fun (u : MB) => (mo, zo 2 (mF q (u.2 1) (u.2 2) (u.2 3) (u.2 4) (u.2 5) (u.2 6) (u.2 7) (u.2 8) (u.2 14) (u.2 19))) :: (q 0, zc G 0 (zI 200 (u.1 0))) :: (q 9, zc G 0 (zI 46 (u.1 9))) :: (q 10, zc G 0 (zI 46 (u.1 10))) :: (q 11, zc G 0 (zI 46 (u.1 11))) :: (q 12, zc G 0 (zI 46 (u.1 12))) :: (q 13, zc G 0 (zI 368 (u.1 13))) :: (q 15, zc G 0 (zI 92 (u.1 15))) :: (q 16, zc G 3 (zI 2 (u.1 16))) :: (q 17, zc G 0 (zI 5 (u.1 17))) :: (q 18, zc G 0 (zI 24 (u.1 18))) :: (q 20, zc G 0 (zI 3 (u.1 20))) :: (q 21, zc G 0 (zI 3 (u.1 21))) :: (q 22, zc G 0 (zI 3 (u.1 22))) :: (q 23, zc G 0 (zI 36 (u.1 23))) :: (q 24, zc G 0 (zI 36 (u.1 24))) :: rest) := by
  refine z_begI (by decide) (Nat.le_of_ble_eq_true rfl) (fun p e s m args below meth c ls Q hC hl hw hend => ?_)
  have hx := hC.hx
  have hb := hC.hb
  have hl : lv_has ls 2 [(0, .ref mo), (1, .int x)] := hl
  have hw : zS G ((mo, zo 2 (mF q (f 1) (f 2) (f 3) (f 4) (f 5) (f 6) (f 7) (f 8) (f 14) (f 19))) :: (q 0, zc G 0 (zI 200 (b 0))) :: (q 9, zc G 0 (zI 46 (b 9))) :: (q 10, zc G 0 (zI 46 (b 10))) :: (q 11, zc G 0 (zI 46 (b 11))) :: (q 12, zc G 0 (zI 46 (b 12))) :: (q 13, zc G 0 (zI 368 (b 13))) :: (q 15, zc G 0 (zI 92 (b 15))) :: (q 16, zc G 3 (zI 2 (b 16))) :: (q 17, zc G 0 (zI 5 (b 17))) :: (q 18, zc G 0 (zI 24 (b 18))) :: (q 20, zc G 0 (zI 3 (b 20))) :: (q 21, zc G 0 (zI 3 (b 21))) :: (q 22, zc G 0 (zI 3 (b 22))) :: (q 23, zc G 0 (zI 36 (b 23))) :: (q 24, zc G 0 (zI 36 (b 24))) :: rest) s s.heap [] := hw
  have hA9 := hA
  obtain ⟨⟨hT, hL⟩, hV0, hV, ⟨hU, hUs⟩, hKp, ⟨hSi, hSg⟩, hTr⟩ := hM
  obtain ⟨⟨hL2, hT2⟩, hB0, hBv, ⟨hU8, hUb⟩, hKb, ⟨hS6, hSb⟩, hTb⟩ := hA
  have hH : Hw (aV A) := hBv.1.1
  have hday := hBv.2.2
  have hw := hw.tail (c' := (mo, zo 2 (mF q (nI (aL A)) (f 2) (f 3) (f 4) (f 5) (f 6) (f 7) (f 8) (f 14) (f 19)))) (by rw [hL])
  have hw : zS G ((mo, zo 2 (mF q (nI (aL A)) (f 2) (f 3) (f 4) (f 5) (f 6) (f 7) (f 8) (f 14) (f 19))) :: (q 0, zc G 0 (zI 200 (b 0))) :: (q 9, zc G 0 (zI 46 (b 9))) :: (q 10, zc G 0 (zI 46 (b 10))) :: (q 11, zc G 0 (zI 46 (b 11))) :: (q 12, zc G 0 (zI 46 (b 12))) :: (q 13, zc G 0 (zI 368 (b 13))) :: (q 15, zc G 0 (zI 92 (b 15))) :: (q 16, zc G 3 (zI 2 (b 16))) :: (q 17, zc G 0 (zI 5 (b 17))) :: (q 18, zc G 0 (zI 24 (b 18))) :: (q 20, zc G 0 (zI 3 (b 20))) :: (q 21, zc G 0 (zI 3 (b 21))) :: (q 22, zc G 0 (zI 3 (b 22))) :: (q 23, zc G 0 (zI 36 (b 23))) :: (q 24, zc G 0 (zI 36 (b 24))) :: rest) s s.heap [] := hw
  refine lv_iload_n hx hb dX2_write_0 rfl (lv_at hl 1 rfl) ?_
  refine lv_iconst (v := (nI 0)) hx hb dX2_write_1 zk_0 ?_
  refine lv_sipush (v := (nI 255)) hx hb dX2_write_2 zs_255 ?_
  refine z_ci (z_runS (As := [.int x, .int (nI 0), .int (nI 255)]) (rest := []) hC zs_X2_59 (m_X2_in_n G l x 0 255 (by decide) (by decide) _) hw rfl rfl (Nat.le_of_ble_eq_true rfl) hl.1 ⟨Nat.le_of_ble_eq_true rfl, Nat.le_of_ble_eq_true rfl⟩ ⟨(Nat.le_of_ble_eq_true rfl), (Nat.le_of_ble_eq_true rfl)⟩ dX2_write_5) hw (fun _ => List.Perm.refl _) (fun r u H locs hp hw => ?_)
  obtain rfl : r = bI (inR x 0 255) := hp
  refine zb_ne (tgt := 14) hx hb dX2_write_8 (by decide) (fun c_8 => ?_) (fun c_8 => ?_)
  · skip
    obtain ⟨k, hk1, hk2, rfl⟩ := c_8
    have hl : lv_has ls 2 [(0, .ref mo), (1, .int (nI k))] := hl
    refine lv_aload_n hx hb dX2_write_14 rfl (lv_at hl 0 rfl) ?_
    refine z_get (v := .int (nI (aL A))) hC zf_X2_63_2 hw 0 rfl rfl dX2_write_15 ?_
    refine lv_sipush (v := (nI 200)) hx hb dX2_write_18 zs_200 ?_
    refine zi_ne (tgt := 27) hx hb (by omega) (by decide) dX2_write_21 (by decide) (fun c_21 => ?_) (fun c_21 => ?_)
    · skip
      refine lv_aload_n hx hb dX2_write_27 rfl (lv_at hl 0 rfl) ?_
      refine z_get (v := .ref (q 0)) hC zf_X2_7_2 hw 0 rfl rfl dX2_write_28 ?_
      refine lv_aload_n hx hb dX2_write_31 rfl (lv_at hl 0 rfl) ?_
      refine z_get (v := .int (nI (aL A))) hC zf_X2_63_2 hw 0 rfl rfl dX2_write_32 ?_
      refine lv_iload_n hx hb dX2_write_35 rfl (lv_at hl 1 rfl) ?_
      refine z_iast (f' := upd (b 0) (aL A) (nI k)) hC hw 1 rfl (by omega) (by decide) rfl dX2_write_36 (fun H locs hw => ?_)
      have hw : zS G ((mo, zo 2 (mF q (nI (aL A)) (f 2) (f 3) (f 4) (f 5) (f 6) (f 7) (f 8) (f 14) (f 19))) :: (q 0, zc G 0 (zI 200 (upd (b 0) (aL A) (nI k)))) :: (q 9, zc G 0 (zI 46 (b 9))) :: (q 10, zc G 0 (zI 46 (b 10))) :: (q 11, zc G 0 (zI 46 (b 11))) :: (q 12, zc G 0 (zI 46 (b 12))) :: (q 13, zc G 0 (zI 368 (b 13))) :: (q 15, zc G 0 (zI 92 (b 15))) :: (q 16, zc G 3 (zI 2 (b 16))) :: (q 17, zc G 0 (zI 5 (b 17))) :: (q 18, zc G 0 (zI 24 (b 18))) :: (q 20, zc G 0 (zI 3 (b 20))) :: (q 21, zc G 0 (zI 3 (b 21))) :: (q 22, zc G 0 (zI 3 (b 22))) :: (q 23, zc G 0 (zI 36 (b 23))) :: (q 24, zc G 0 (zI 36 (b 24))) :: rest) s H locs := hw
      refine lv_aload_n hx hb dX2_write_37 rfl (lv_at hl 0 rfl) ?_
      refine lv_dup hx hb dX2_write_38 rfl ?_
      refine z_get (v := .int (nI (aL A))) hC zf_X2_63_2 hw 0 rfl rfl dX2_write_39 ?_
      refine lv_iconst (v := (nI 1)) hx hb dX2_write_42 zk_1 ?_
      refine zn_iadd hx hb dX2_write_43 ?_
      refine z_puti hC zf_X2_63_2 hw 0 rfl (Nat.le_of_ble_eq_true rfl) dX2_write_44 (fun H locs hw => ?_)
      have hw : zS G ((mo, zo 2 (mF q (nI (aL A + 1)) (f 2) (f 3) (f 4) (f 5) (f 6) (f 7) (f 8) (f 14) (f 19))) :: (q 0, zc G 0 (zI 200 (upd (b 0) (aL A) (nI k)))) :: (q 9, zc G 0 (zI 46 (b 9))) :: (q 10, zc G 0 (zI 46 (b 10))) :: (q 11, zc G 0 (zI 46 (b 11))) :: (q 12, zc G 0 (zI 46 (b 12))) :: (q 13, zc G 0 (zI 368 (b 13))) :: (q 15, zc G 0 (zI 92 (b 15))) :: (q 16, zc G 3 (zI 2 (b 16))) :: (q 17, zc G 0 (zI 5 (b 17))) :: (q 18, zc G 0 (zI 24 (b 18))) :: (q 20, zc G 0 (zI 3 (b 20))) :: (q 21, zc G 0 (zI 3 (b 21))) :: (q 22, zc G 0 (zI 3 (b 22))) :: (q 23, zc G 0 (zI 36 (b 23))) :: (q 24, zc G 0 (zI 36 (b 24))) :: rest) s H locs := hw
      refine lv_aload_n hx hb dX2_write_47 rfl (lv_at hl 0 rfl) ?_
      refine z_get (v := .int (nI (aL A + 1))) hC zf_X2_63_2 hw 0 rfl rfl dX2_write_48 ?_
      exact hend _ _ _ _ _ _ _ ((bU b 0 (upd (b 0) (aL A) (nI k))), mf (nI (aL A + 1)) (f 2) (f 3) (f 4) (f 5) (f 6) (f 7) (f 8) (f 14) (f 19)) hw (by rw [show F_write A (nI k) = (nI (aL A + 1), mkA (updN (aT A) (aL A) k) (aL A + 1) (aV0 A) (aV A) (aU A) (aUs A) (aK A) (aS A) (aSg A) (aTr A)) from (ifP_t ⟨k, hk1, hk2, rfl⟩).trans (by rw [cl_nI (by omega), if_neg c_21])]; exact ⟨rfl, ⟨⟨(fun j hj => tx_upd hT hj), rfl⟩, hV0, hV, ⟨hU, hUs⟩, hKp, ⟨hSi, hSg⟩, (fun t ht => tRel_of rfl rfl rfl rfl rfl (hTr t ht))⟩⟩) (by omega) (by omega) dX2_write_51
    · skip
      refine lv_bipush (v := (-5)) hx hb dX2_write_24 zb_m5 ?_
      exact hend _ _ _ _ _ _ _ (b, mf (nI (aL A)) (f 2) (f 3) (f 4) (f 5) (f 6) (f 7) (f 8) (f 14) (f 19)) hw (by rw [show F_write A (nI k) = (-5, A) from (ifP_t ⟨k, hk1, hk2, rfl⟩).trans (if_pos c_21)]; exact ⟨rfl, ⟨⟨hT, rfl⟩, hV0, hV, ⟨hU, hUs⟩, hKp, ⟨hSi, hSg⟩, (fun t ht => tRel_of rfl rfl rfl rfl rfl (hTr t ht))⟩⟩) (by omega) (by omega) dX2_write_26
  · skip
    refine lv_bipush (v := (-3)) hx hb dX2_write_11 zb_m3 ?_
    exact hend _ _ _ _ _ _ _ (b, mf (nI (aL A)) (f 2) (f 3) (f 4) (f 5) (f 6) (f 7) (f 8) (f 14) (f 19)) hw (by rw [show F_write A x = _ from ifP_f c_8]; exact ⟨rfl, ⟨⟨hT, rfl⟩, hV0, hV, ⟨hU, hUs⟩, hKp, ⟨hSi, hSg⟩, (fun t ht => tRel_of rfl rfl rfl rfl rfl (hTr t ht))⟩⟩) (by omega) (by omega) dX2_write_13
set_option maxHeartbeats 4000000 in
theorem m_X2_erase (G : zE) (l : Launch) (mo : Nat) (q : Nat → Nat) (A : AS) (b : Nat → Nat → Int32) (f : Nat → Int32) (hA : AOk A) (hM : MRel A b f) (rest : va_W) : zMi G l yX2_erase cX2_erase 2 (some .int) 0 0 0 [.ref mo] ((mo, zo 2 (mF q (f 1) (f 2) (f 3) (f 4) (f 5) (f 6) (f 7) (f 8) (f 14) (f 19))) :: (q 0, zc G 0 (zI 200 (b 0))) :: (q 9, zc G 0 (zI 46 (b 9))) :: (q 10, zc G 0 (zI 46 (b 10))) :: (q 11, zc G 0 (zI 46 (b 11))) :: (q 12, zc G 0 (zI 46 (b 12))) :: (q 13, zc G 0 (zI 368 (b 13))) :: (q 15, zc G 0 (zI 92 (b 15))) :: (q 16, zc G 3 (zI 2 (b 16))) :: (q 17, zc G 0 (zI 5 (b 17))) :: (q 18, zc G 0 (zI 24 (b 18))) :: (q 20, zc G 0 (zI 3 (b 20))) :: (q 21, zc G 0 (zI 3 (b 21))) :: (q 22, zc G 0 (zI 3 (b 22))) :: (q 23, zc G 0 (zI 36 (b 23))) :: (q 24, zc G 0 (zI 36 (b 24))) :: rest) (fun (r : Int32) (u : MB) => r = (F_erase A).1 ∧ MRel (F_erase A).2 u.1 u.2) (fun (u : MB) => (mo, zo 2 (mF q (u.2 1) (u.2 2) (u.2 3) (u.2 4) (u.2 5) (u.2 6) (u.2 7) (u.2 8) (u.2 14) (u.2 19))) :: (q 0, zc G 0 (zI 200 (u.1 0))) :: (q 9, zc G 0 (zI 46 (u.1 9))) :: (q 10, zc G 0 (zI 46 (u.1 10))) :: (q 11, zc G 0 (zI 46 (u.1 11))) :: (q 12, zc G 0 (zI 46 (u.1 12))) :: (q 13, zc G 0 (zI 368 (u.1 13))) :: (q 15, zc G 0 (zI 92 (u.1 15))) :: (q 16, zc G 3 (zI 2 (u.1 16))) :: (q 17, zc G 0 (zI 5 (u.1 17))) :: (q 18, zc G 0 (zI 24 (u.1 18))) :: (q 20, zc G 0 (zI 3 (u.1 20))) :: (q 21, zc G 0 (zI 3 (u.1 21))) :: (q 22, zc G 0 (zI 3 (u.1 22))) :: (q 23, zc G 0 (zI 36 (u.1 23))) :: (q 24, zc G 0 (zI 36 (u.1 24))) :: rest) := by
  refine z_begI (by decide) (Nat.le_of_ble_eq_true rfl) (fun p e s m args below meth c ls Q hC hl hw hend => ?_)
  have hx := hC.hx
  have hb := hC.hb
  have hl : lv_has ls 2 [(0, .ref mo)] := hl
  have hw : zS G ((mo, zo 2 (mF q (f 1) (f 2) (f 3) (f 4) (f 5) (f 6) (f 7) (f 8) (f 14) (f 19))) :: (q 0, zc G 0 (zI 200 (b 0))) :: (q 9, zc G 0 (zI 46 (b 9))) :: (q 10, zc G 0 (zI 46 (b 10))) :: (q 11, zc G 0 (zI 46 (b 11))) :: (q 12, zc G 0 (zI 46 (b 12))) :: (q 13, zc G 0 (zI 368 (b 13))) :: (q 15, zc G 0 (zI 92 (b 15))) :: (q 16, zc G 3 (zI 2 (b 16))) :: (q 17, zc G 0 (zI 5 (b 17))) :: (q 18, zc G 0 (zI 24 (b 18))) :: (q 20, zc G 0 (zI 3 (b 20))) :: (q 21, zc G 0 (zI 3 (b 21))) :: (q 22, zc G 0 (zI 3 (b 22))) :: (q 23, zc G 0 (zI 36 (b 23))) :: (q 24, zc G 0 (zI 36 (b 24))) :: rest) s s.heap [] := hw
  have hA9 := hA
  obtain ⟨⟨hT, hL⟩, hV0, hV, ⟨hU, hUs⟩, hKp, ⟨hSi, hSg⟩, hTr⟩ := hM
  obtain ⟨⟨hL2, hT2⟩, hB0, hBv, ⟨hU8, hUb⟩, hKb, ⟨hS6, hSb⟩, hTb⟩ := hA
  have hH : Hw (aV A) := hBv.1.1
  have hday := hBv.2.2
  have hw := hw.tail (c' := (mo, zo 2 (mF q (nI (aL A)) (f 2) (f 3) (f 4) (f 5) (f 6) (f 7) (f 8) (f 14) (f 19)))) (by rw [hL])
  have hw : zS G ((mo, zo 2 (mF q (nI (aL A)) (f 2) (f 3) (f 4) (f 5) (f 6) (f 7) (f 8) (f 14) (f 19))) :: (q 0, zc G 0 (zI 200 (b 0))) :: (q 9, zc G 0 (zI 46 (b 9))) :: (q 10, zc G 0 (zI 46 (b 10))) :: (q 11, zc G 0 (zI 46 (b 11))) :: (q 12, zc G 0 (zI 46 (b 12))) :: (q 13, zc G 0 (zI 368 (b 13))) :: (q 15, zc G 0 (zI 92 (b 15))) :: (q 16, zc G 3 (zI 2 (b 16))) :: (q 17, zc G 0 (zI 5 (b 17))) :: (q 18, zc G 0 (zI 24 (b 18))) :: (q 20, zc G 0 (zI 3 (b 20))) :: (q 21, zc G 0 (zI 3 (b 21))) :: (q 22, zc G 0 (zI 3 (b 22))) :: (q 23, zc G 0 (zI 36 (b 23))) :: (q 24, zc G 0 (zI 36 (b 24))) :: rest) s s.heap [] := hw
  refine lv_aload_n hx hb dX2_erase_0 rfl (lv_at hl 0 rfl) ?_
  refine z_get (v := .int (nI (aL A))) hC zf_X2_63_2 hw 0 rfl rfl dX2_erase_1 ?_
  refine lv_istore_n (lv' := [(1, .int (nI (aL A))), (0, .ref mo)]) hx hb dX2_erase_4 rfl hl (by decide) rfl (fun ls hl => ?_)
  refine lv_aload_n hx hb dX2_erase_5 rfl (lv_at hl 1 rfl) ?_
  refine lv_iconst (v := (nI 0)) hx hb dX2_erase_6 zk_0 ?_
  refine z_puti hC zf_X2_63_2 hw 0 rfl (Nat.le_of_ble_eq_true rfl) dX2_erase_7 (fun H locs hw => ?_)
  have hw : zS G ((mo, zo 2 (mF q (nI 0) (f 2) (f 3) (f 4) (f 5) (f 6) (f 7) (f 8) (f 14) (f 19))) :: (q 0, zc G 0 (zI 200 (b 0))) :: (q 9, zc G 0 (zI 46 (b 9))) :: (q 10, zc G 0 (zI 46 (b 10))) :: (q 11, zc G 0 (zI 46 (b 11))) :: (q 12, zc G 0 (zI 46 (b 12))) :: (q 13, zc G 0 (zI 368 (b 13))) :: (q 15, zc G 0 (zI 92 (b 15))) :: (q 16, zc G 3 (zI 2 (b 16))) :: (q 17, zc G 0 (zI 5 (b 17))) :: (q 18, zc G 0 (zI 24 (b 18))) :: (q 20, zc G 0 (zI 3 (b 20))) :: (q 21, zc G 0 (zI 3 (b 21))) :: (q 22, zc G 0 (zI 3 (b 22))) :: (q 23, zc G 0 (zI 36 (b 23))) :: (q 24, zc G 0 (zI 36 (b 24))) :: rest) s H locs := hw
  refine lv_iload_n hx hb dX2_erase_10 rfl (lv_at hl 0 rfl) ?_
  exact hend _ _ _ _ _ _ _ (b, mf (nI 0) (f 2) (f 3) (f 4) (f 5) (f 6) (f 7) (f 8) (f 14) (f 19)) hw (by skip; exact ⟨rfl, ⟨⟨(fun j hj => absurd hj (Nat.not_lt_zero j)), rfl⟩, hV0, hV, ⟨hU, hUs⟩, hKp, ⟨hSi, hSg⟩, (fun t ht => tRel_of rfl rfl rfl rfl rfl (hTr t ht))⟩⟩) (by omega) (by omega) dX2_erase_11
theorem zf_X2_143_2 : zFl 2 19 RX2 143 false .int := ⟨RX2, TX2, 25, tyX2, rfl, by decide, in_X2, q1817, rfl, by decide +kernel, tyX2_ok, nmX2⟩
set_option maxHeartbeats 4000000 in
theorem m_X2_forget (G : zE) (l : Launch) (mo : Nat) (q : Nat → Nat) (A : AS) (b : Nat → Nat → Int32) (f : Nat → Int32) (hA : AOk A) (hM : MRel A b f) (rest : va_W) : zMi G l yX2_forget cX2_forget 2 (some .int) 0 0 0 [.ref mo] ((mo, zo 2 (mF q (f 1) (f 2) (f 3) (f 4) (f 5) (f 6) (f 7) (f 8) (f 14) (f 19))) :: (q 0, zc G 0 (zI 200 (b 0))) :: (q 9, zc G 0 (zI 46 (b 9))) :: (q 10, zc G 0 (zI 46 (b 10))) :: (q 11, zc G 0 (zI 46 (b 11))) :: (q 12, zc G 0 (zI 46 (b 12))) :: (q 13, zc G 0 (zI 368 (b 13))) :: (q 15, zc G 0 (zI 92 (b 15))) :: (q 16, zc G 3 (zI 2 (b 16))) :: (q 17, zc G 0 (zI 5 (b 17))) :: (q 18, zc G 0 (zI 24 (b 18))) :: (q 20, zc G 0 (zI 3 (b 20))) :: (q 21, zc G 0 (zI 3 (b 21))) :: (q 22, zc G 0 (zI 3 (b 22))) :: (q 23, zc G 0 (zI 36 (b 23))) :: (q 24, zc G 0 (zI 36 (b 24))) :: rest) (fun (r : Int32) (u : MB) => r = (F_forget A).1 ∧ MRel (F_forget A).2 u.1 u.2) (fun (u : MB) => (mo, zo 2 (mF q (u.2 1) (u.2 2) (u.2 3) (u.2 4) (u.2 5) (u.2 6) (u.2 7) (u.2 8) (u.2 14) (u.2 19))) :: (q 0, zc G 0 (zI 200 (u.1 0))) :: (q 9, zc G 0 (zI 46 (u.1 9))) :: (q 10, zc G 0 (zI 46 (u.1 10))) :: (q 11, zc G 0 (zI 46 (u.1 11))) :: (q 12, zc G 0 (zI 46 (u.1 12))) :: (q 13, zc G 0 (zI 368 (u.1 13))) :: (q 15, zc G 0 (zI 92 (u.1 15))) :: (q 16, zc G 3 (zI 2 (u.1 16))) :: (q 17, zc G 0 (zI 5 (u.1 17))) :: (q 18, zc G 0 (zI 24 (u.1 18))) :: (q 20, zc G 0 (zI 3 (u.1 20))) :: (q 21, zc G 0 (zI 3 (u.1 21))) :: (q 22, zc G 0 (zI 3 (u.1 22))) :: (q 23, zc G 0 (zI 36 (u.1 23))) :: (q 24, zc G 0 (zI 36 (u.1 24))) :: rest) := by
  refine z_begI (by decide) (Nat.le_of_ble_eq_true rfl) (fun p e s m args below meth c ls Q hC hl hw hend => ?_)
  have hx := hC.hx
  have hb := hC.hb
  have hl : lv_has ls 2 [(0, .ref mo)] := hl
  have hw : zS G ((mo, zo 2 (mF q (f 1) (f 2) (f 3) (f 4) (f 5) (f 6) (f 7) (f 8) (f 14) (f 19))) :: (q 0, zc G 0 (zI 200 (b 0))) :: (q 9, zc G 0 (zI 46 (b 9))) :: (q 10, zc G 0 (zI 46 (b 10))) :: (q 11, zc G 0 (zI 46 (b 11))) :: (q 12, zc G 0 (zI 46 (b 12))) :: (q 13, zc G 0 (zI 368 (b 13))) :: (q 15, zc G 0 (zI 92 (b 15))) :: (q 16, zc G 3 (zI 2 (b 16))) :: (q 17, zc G 0 (zI 5 (b 17))) :: (q 18, zc G 0 (zI 24 (b 18))) :: (q 20, zc G 0 (zI 3 (b 20))) :: (q 21, zc G 0 (zI 3 (b 21))) :: (q 22, zc G 0 (zI 3 (b 22))) :: (q 23, zc G 0 (zI 36 (b 23))) :: (q 24, zc G 0 (zI 36 (b 24))) :: rest) s s.heap [] := hw
  have hA9 := hA
  obtain ⟨⟨hT, hL⟩, hV0, hV, ⟨hU, hUs⟩, hKp, ⟨hSi, hSg⟩, hTr⟩ := hM
  obtain ⟨⟨hL2, hT2⟩, hB0, hBv, ⟨hU8, hUb⟩, hKb, ⟨hS6, hSb⟩, hTb⟩ := hA
  have hH : Hw (aV A) := hBv.1.1
  have hday := hBv.2.2
  have hw := hw.tail (c' := (mo, zo 2 (mF q (f 1) (f 2) (f 3) (f 4) (f 5) (f 6) (f 7) (f 8) (f 14) (nI (aS A))))) (by rw [hSi])
  have hw : zS G ((mo, zo 2 (mF q (f 1) (f 2) (f 3) (f 4) (f 5) (f 6) (f 7) (f 8) (f 14) (nI (aS A)))) :: (q 0, zc G 0 (zI 200 (b 0))) :: (q 9, zc G 0 (zI 46 (b 9))) :: (q 10, zc G 0 (zI 46 (b 10))) :: (q 11, zc G 0 (zI 46 (b 11))) :: (q 12, zc G 0 (zI 46 (b 12))) :: (q 13, zc G 0 (zI 368 (b 13))) :: (q 15, zc G 0 (zI 92 (b 15))) :: (q 16, zc G 3 (zI 2 (b 16))) :: (q 17, zc G 0 (zI 5 (b 17))) :: (q 18, zc G 0 (zI 24 (b 18))) :: (q 20, zc G 0 (zI 3 (b 20))) :: (q 21, zc G 0 (zI 3 (b 21))) :: (q 22, zc G 0 (zI 3 (b 22))) :: (q 23, zc G 0 (zI 36 (b 23))) :: (q 24, zc G 0 (zI 36 (b 24))) :: rest) s s.heap [] := hw
  refine lv_aload_n hx hb dX2_forget_0 rfl (lv_at hl 0 rfl) ?_
  refine z_get (v := .int (nI (aS A))) hC zf_X2_143_2 hw 0 rfl rfl dX2_forget_1 ?_
  refine lv_istore_n (lv' := [(1, .int (nI (aS A))), (0, .ref mo)]) hx hb dX2_forget_4 rfl hl (by decide) rfl (fun ls hl => ?_)
  refine lv_aload_n hx hb dX2_forget_5 rfl (lv_at hl 1 rfl) ?_
  refine lv_iconst (v := (nI 0)) hx hb dX2_forget_6 zk_0 ?_
  refine z_puti hC zf_X2_143_2 hw 0 rfl (Nat.le_of_ble_eq_true rfl) dX2_forget_7 (fun H locs hw => ?_)
  have hw : zS G ((mo, zo 2 (mF q (f 1) (f 2) (f 3) (f 4) (f 5) (f 6) (f 7) (f 8) (f 14) (nI 0))) :: (q 0, zc G 0 (zI 200 (b 0))) :: (q 9, zc G 0 (zI 46 (b 9))) :: (q 10, zc G 0 (zI 46 (b 10))) :: (q 11, zc G 0 (zI 46 (b 11))) :: (q 12, zc G 0 (zI 46 (b 12))) :: (q 13, zc G 0 (zI 368 (b 13))) :: (q 15, zc G 0 (zI 92 (b 15))) :: (q 16, zc G 3 (zI 2 (b 16))) :: (q 17, zc G 0 (zI 5 (b 17))) :: (q 18, zc G 0 (zI 24 (b 18))) :: (q 20, zc G 0 (zI 3 (b 20))) :: (q 21, zc G 0 (zI 3 (b 21))) :: (q 22, zc G 0 (zI 3 (b 22))) :: (q 23, zc G 0 (zI 36 (b 23))) :: (q 24, zc G 0 (zI 36 (b 24))) :: rest) s H locs := hw
  refine lv_iload_n hx hb dX2_forget_10 rfl (lv_at hl 0 rfl) ?_
  exact hend _ _ _ _ _ _ _ (b, mf (f 1) (f 2) (f 3) (f 4) (f 5) (f 6) (f 7) (f 8) (f 14) (nI 0)) hw (by skip; exact ⟨rfl, ⟨⟨hT, hL⟩, hV0, hV, ⟨hU, hUs⟩, hKp, ⟨rfl, (fun j hj => absurd hj (Nat.not_lt_zero j))⟩, (fun t ht => tRel_of rfl rfl rfl rfl rfl (hTr t ht))⟩⟩) (by omega) (by omega) dX2_forget_11
theorem sg_upd {g : Nat → Int32} {t : Nat → Nat} {n a c d e : Nat} (h : ∀ j, j < 4 * n → g j = nI (t j)) {j : Nat} (hj : j < 4 * n + 4) : upd (upd (upd (upd g (4 * n) (nI a)) (4 * n + 1) (nI c)) (4 * n + 2) (nI d)) (4 * n + 3) (nI e) j = nI (updN (updN (updN (updN t (4 * n) a) (4 * n + 1) c) (4 * n + 2) d) (4 * n + 3) e j) := by
  unfold upd updN
  by_cases e3 : j = 4 * n + 3
  · rw [if_pos e3, if_pos e3]
  · rw [if_neg e3, if_neg e3]
    by_cases e2 : j = 4 * n + 2
    · rw [if_pos e2, if_pos e2]
    · rw [if_neg e2, if_neg e2]
      by_cases e1 : j = 4 * n + 1
      · rw [if_pos e1, if_pos e1]
      · rw [if_neg e1, if_neg e1]
        by_cases e0 : j = 4 * n
        · rw [if_pos e0, if_pos e0]
        · rw [if_neg e0, if_neg e0]; exact h j (by omega)
theorem zf_X2_38_2 : zFl 2 18 RX2 38 true (.array .int) := ⟨RX2, TX2, 25, tyX2, rfl, by decide, in_X2, q1816, rfl, by decide +kernel, tyX2_ok, nmX2⟩
set_option maxHeartbeats 4000000 in
theorem m_X2_seen (G : zE) (l : Launch) (mo : Nat) (q : Nat → Nat) (A : AS) (b : Nat → Nat → Int32) (f : Nat → Int32) (hA : AOk A) (hM : MRel A b f) (x : Int32) (y : Int32) (z : Int32) (w : Int32) (rest : va_W) : zMi G l yX2_seen cX2_seen 5 (some .int) 1 0 0 [.ref mo, .int x, .int y, .int z, .int w] ((mo, zo 2 (mF q (f 1) (f 2) (f 3) (f 4) (f 5) (f 6) (f 7) (f 8) (f 14) (f 19))) :: (q 0, zc G 0 (zI 200 (b 0))) :: (q 9, zc G 0 (zI 46 (b 9))) :: (q 10, zc G 0 (zI 46 (b 10))) :: (q 11, zc G 0 (zI 46 (b 11))) :: (q 12, zc G 0 (zI 46 (b 12))) :: (q 13, zc G 0 (zI 368 (b 13))) :: (q 15, zc G 0 (zI 92 (b 15))) :: (q 16, zc G 3 (zI 2 (b 16))) :: (q 17, zc G 0 (zI 5 (b 17))) :: (q 18, zc G 0 (zI 24 (b 18))) :: (q 20, zc G 0 (zI 3 (b 20))) :: (q 21, zc G 0 (zI 3 (b 21))) :: (q 22, zc G 0 (zI 3 (b 22))) :: (q 23, zc G 0 (zI 36 (b 23))) :: (q 24, zc G 0 (zI 36 (b 24))) :: rest) (fun (r : Int32) (u : MB) => r = (F_seen A x y z w).1 ∧ MRel (F_seen A x y z w).2 u.1 u.2) (fun (u : MB) => (mo, zo 2 (mF q (u.2 1) (u.2 2) (u.2 3) (u.2 4) (u.2 5) (u.2 6) (u.2 7) (u.2 8) (u.2 14) (u.2 19))) :: (q 0, zc G 0 (zI 200 (u.1 0))) :: (q 9, zc G 0 (zI 46 (u.1 9))) :: (q 10, zc G 0 (zI 46 (u.1 10))) :: (q 11, zc G 0 (zI 46 (u.1 11))) :: (q 12, zc G 0 (zI 46 (u.1 12))) :: (q 13, zc G 0 (zI 368 (u.1 13))) :: (q 15, zc G 0 (zI 92 (u.1 15))) :: (q 16, zc G 3 (zI 2 (u.1 16))) :: (q 17, zc G 0 (zI 5 (u.1 17))) :: (q 18, zc G 0 (zI 24 (u.1 18))) :: (q 20, zc G 0 (zI 3 (u.1 20))) :: (q 21, zc G 0 (zI 3 (u.1 21))) :: (q 22, zc G 0 (zI 3 (u.1 22))) :: (q 23, zc G 0 (zI 36 (u.1 23))) :: (q 24, zc G 0 (zI 36 (u.1 24))) :: rest) := by
  refine z_begI (by decide) (Nat.le_of_ble_eq_true rfl) (fun p e s m args below meth c ls Q hC hl hw hend => ?_)
  have hx := hC.hx
  have hb := hC.hb
  have hl : lv_has ls 5 [(0, .ref mo), (1, .int x), (2, .int y), (3, .int z), (4, .int w)] := hl
  have hw : zS G ((mo, zo 2 (mF q (f 1) (f 2) (f 3) (f 4) (f 5) (f 6) (f 7) (f 8) (f 14) (f 19))) :: (q 0, zc G 0 (zI 200 (b 0))) :: (q 9, zc G 0 (zI 46 (b 9))) :: (q 10, zc G 0 (zI 46 (b 10))) :: (q 11, zc G 0 (zI 46 (b 11))) :: (q 12, zc G 0 (zI 46 (b 12))) :: (q 13, zc G 0 (zI 368 (b 13))) :: (q 15, zc G 0 (zI 92 (b 15))) :: (q 16, zc G 3 (zI 2 (b 16))) :: (q 17, zc G 0 (zI 5 (b 17))) :: (q 18, zc G 0 (zI 24 (b 18))) :: (q 20, zc G 0 (zI 3 (b 20))) :: (q 21, zc G 0 (zI 3 (b 21))) :: (q 22, zc G 0 (zI 3 (b 22))) :: (q 23, zc G 0 (zI 36 (b 23))) :: (q 24, zc G 0 (zI 36 (b 24))) :: rest) s s.heap [] := hw
  have hA9 := hA
  obtain ⟨⟨hT, hL⟩, hV0, hV, ⟨hU, hUs⟩, hKp, ⟨hSi, hSg⟩, hTr⟩ := hM
  obtain ⟨⟨hL2, hT2⟩, hB0, hBv, ⟨hU8, hUb⟩, hKb, ⟨hS6, hSb⟩, hTb⟩ := hA
  have hH : Hw (aV A) := hBv.1.1
  have hday := hBv.2.2
  have hw := hw.tail (c' := (mo, zo 2 (mF q (f 1) (f 2) (f 3) (f 4) (f 5) (f 6) (f 7) (f 8) (f 14) (nI (aS A))))) (by rw [hSi])
  have hw : zS G ((mo, zo 2 (mF q (f 1) (f 2) (f 3) (f 4) (f 5) (f 6) (f 7) (f 8) (f 14) (nI (aS A)))) :: (q 0, zc G 0 (zI 200 (b 0))) :: (q 9, zc G 0 (zI 46 (b 9))) :: (q 10, zc G 0 (zI 46 (b 10))) :: (q 11, zc G 0 (zI 46 (b 11))) :: (q 12, zc G 0 (zI 46 (b 12))) :: (q 13, zc G 0 (zI 368 (b 13))) :: (q 15, zc G 0 (zI 92 (b 15))) :: (q 16, zc G 3 (zI 2 (b 16))) :: (q 17, zc G 0 (zI 5 (b 17))) :: (q 18, zc G 0 (zI 24 (b 18))) :: (q 20, zc G 0 (zI 3 (b 20))) :: (q 21, zc G 0 (zI 3 (b 21))) :: (q 22, zc G 0 (zI 3 (b 22))) :: (q 23, zc G 0 (zI 36 (b 23))) :: (q 24, zc G 0 (zI 36 (b 24))) :: rest) s s.heap [] := hw
  refine lv_iload_n hx hb dX2_seen_0 rfl (lv_at hl 1 rfl) ?_
  refine lv_iconst (v := (nI 1)) hx hb dX2_seen_1 zk_1 ?_
  refine lv_bipush (v := (nI 9)) hx hb dX2_seen_2 zb_9 ?_
  refine z_ci (z_runS (As := [.int x, .int (nI 1), .int (nI 9)]) (rest := []) hC zs_X2_59 (m_X2_in_n G l x 1 9 (by decide) (by decide) _) hw rfl rfl (Nat.le_of_ble_eq_true rfl) hl.1 ⟨Nat.le_of_ble_eq_true rfl, Nat.le_of_ble_eq_true rfl⟩ ⟨(Nat.le_of_ble_eq_true rfl), (Nat.le_of_ble_eq_true rfl)⟩ dX2_seen_4) hw (fun _ => List.Perm.refl _) (fun r u H locs hp hw => ?_)
  obtain rfl : r = bI (inR x 1 9) := hp
  refine zb_eq (tgt := 39) hx hb dX2_seen_7 (by decide) (fun c_7 => ?_) (fun c_7 => ?_)
  · skip
    refine lv_bipush (v := (-3)) hx hb dX2_seen_39 zb_m3 ?_
    exact hend _ _ _ _ _ _ _ (b, mf (f 1) (f 2) (f 3) (f 4) (f 5) (f 6) (f 7) (f 8) (f 14) (nI (aS A))) hw (by (first | rw [show F_seen A x y z w = (-3, A) from ifP_f (fun h => c_7 h.1)] | rw [show F_seen A (nI m9) y z w = (-3, A) from ifP_f (fun h => c_16 h.2.1)] | rw [show F_seen A (nI m9) y z w = (-3, A) from ifP_f (fun h => c_26 h.2.2.1)] | rw [show F_seen A (nI m9) y z w = (-3, A) from ifP_f (fun h => c_36 h.2.2.2)]); exact ⟨rfl, ⟨⟨hT, hL⟩, hV0, hV, ⟨hU, hUs⟩, hKp, ⟨rfl, hSg⟩, (fun t ht => tRel_of rfl rfl rfl rfl rfl (hTr t ht))⟩⟩) (by omega) (by omega) dX2_seen_41
  · skip
    obtain ⟨m9, hm91, hm92, rfl⟩ := c_7
    have hl : lv_has ls 5 [(0, .ref mo), (1, .int (nI m9)), (2, .int y), (3, .int z), (4, .int w)] := hl
    refine lv_iload_n hx hb dX2_seen_10 rfl (lv_at hl 2 rfl) ?_
    refine lv_iconst (v := (nI 0)) hx hb dX2_seen_11 zk_0 ?_
    refine lv_iconst (v := (nI 1)) hx hb dX2_seen_12 zk_1 ?_
    refine z_ci (z_runS (As := [.int y, .int (nI 0), .int (nI 1)]) (rest := []) hC zs_X2_59 (m_X2_in_n G l y 0 1 (by decide) (by decide) _) hw rfl rfl (Nat.le_of_ble_eq_true rfl) hl.1 ⟨Nat.le_of_ble_eq_true rfl, Nat.le_of_ble_eq_true rfl⟩ ⟨(Nat.le_of_ble_eq_true rfl), (Nat.le_of_ble_eq_true rfl)⟩ dX2_seen_13) hw (fun _ => List.Perm.refl _) (fun r u H locs hp hw => ?_)
    obtain rfl : r = bI (inR y 0 1) := hp
    refine zb_eq (tgt := 39) hx hb dX2_seen_16 (by decide) (fun c_16 => ?_) (fun c_16 => ?_)
    · skip
      refine lv_bipush (v := (-3)) hx hb dX2_seen_39 zb_m3 ?_
      exact hend _ _ _ _ _ _ _ (b, mf (f 1) (f 2) (f 3) (f 4) (f 5) (f 6) (f 7) (f 8) (f 14) (nI (aS A))) hw (by (first | rw [show F_seen A x y z w = (-3, A) from ifP_f (fun h => c_7 h.1)] | rw [show F_seen A (nI m9) y z w = (-3, A) from ifP_f (fun h => c_16 h.2.1)] | rw [show F_seen A (nI m9) y z w = (-3, A) from ifP_f (fun h => c_26 h.2.2.1)] | rw [show F_seen A (nI m9) y z w = (-3, A) from ifP_f (fun h => c_36 h.2.2.2)]); exact ⟨rfl, ⟨⟨hT, hL⟩, hV0, hV, ⟨hU, hUs⟩, hKp, ⟨rfl, hSg⟩, (fun t ht => tRel_of rfl rfl rfl rfl rfl (hTr t ht))⟩⟩) (by omega) (by omega) dX2_seen_41
    · skip
      refine lv_iload_n hx hb dX2_seen_19 rfl (lv_at hl 3 rfl) ?_
      refine lv_iconst (v := (nI 0)) hx hb dX2_seen_20 zk_0 ?_
      refine lv_bipush (v := (nI 19)) hx hb dX2_seen_21 zb_19 ?_
      refine z_ci (z_runS (As := [.int z, .int (nI 0), .int (nI 19)]) (rest := []) hC zs_X2_59 (m_X2_in_n G l z 0 19 (by decide) (by decide) _) hw rfl rfl (Nat.le_of_ble_eq_true rfl) hl.1 ⟨Nat.le_of_ble_eq_true rfl, Nat.le_of_ble_eq_true rfl⟩ ⟨(Nat.le_of_ble_eq_true rfl), (Nat.le_of_ble_eq_true rfl)⟩ dX2_seen_23) hw (fun _ => List.Perm.refl _) (fun r u H locs hp hw => ?_)
      obtain rfl : r = bI (inR z 0 19) := hp
      refine zb_eq (tgt := 39) hx hb dX2_seen_26 (by decide) (fun c_26 => ?_) (fun c_26 => ?_)
      · skip
        refine lv_bipush (v := (-3)) hx hb dX2_seen_39 zb_m3 ?_
        exact hend _ _ _ _ _ _ _ (b, mf (f 1) (f 2) (f 3) (f 4) (f 5) (f 6) (f 7) (f 8) (f 14) (nI (aS A))) hw (by (first | rw [show F_seen A x y z w = (-3, A) from ifP_f (fun h => c_7 h.1)] | rw [show F_seen A (nI m9) y z w = (-3, A) from ifP_f (fun h => c_16 h.2.1)] | rw [show F_seen A (nI m9) y z w = (-3, A) from ifP_f (fun h => c_26 h.2.2.1)] | rw [show F_seen A (nI m9) y z w = (-3, A) from ifP_f (fun h => c_36 h.2.2.2)]); exact ⟨rfl, ⟨⟨hT, hL⟩, hV0, hV, ⟨hU, hUs⟩, hKp, ⟨rfl, hSg⟩, (fun t ht => tRel_of rfl rfl rfl rfl rfl (hTr t ht))⟩⟩) (by omega) (by omega) dX2_seen_41
      · skip
        refine lv_iload hx hb dX2_seen_29 (lv_at hl 4 rfl) ?_
        refine lv_iconst (v := (nI 0)) hx hb dX2_seen_31 zk_0 ?_
        refine lv_iconst (v := (nI 3)) hx hb dX2_seen_32 zk_3 ?_
        refine z_ci (z_runS (As := [.int w, .int (nI 0), .int (nI 3)]) (rest := []) hC zs_X2_59 (m_X2_in_n G l w 0 3 (by decide) (by decide) _) hw rfl rfl (Nat.le_of_ble_eq_true rfl) hl.1 ⟨Nat.le_of_ble_eq_true rfl, Nat.le_of_ble_eq_true rfl⟩ ⟨(Nat.le_of_ble_eq_true rfl), (Nat.le_of_ble_eq_true rfl)⟩ dX2_seen_33) hw (fun _ => List.Perm.refl _) (fun r u H locs hp hw => ?_)
        obtain rfl : r = bI (inR w 0 3) := hp
        refine zb_ne (tgt := 42) hx hb dX2_seen_36 (by decide) (fun c_36 => ?_) (fun c_36 => ?_)
        · skip
          obtain ⟨d9, hd91, hd92, rfl⟩ := c_16
          have hl : lv_has ls 5 [(0, .ref mo), (1, .int (nI m9)), (2, .int (nI d9)), (3, .int z), (4, .int w)] := hl
          obtain ⟨e9, he91, he92, rfl⟩ := c_26
          have hl : lv_has ls 5 [(0, .ref mo), (1, .int (nI m9)), (2, .int (nI d9)), (3, .int (nI e9)), (4, .int w)] := hl
          obtain ⟨w9, hw91, hw92, rfl⟩ := c_36
          have hl : lv_has ls 5 [(0, .ref mo), (1, .int (nI m9)), (2, .int (nI d9)), (3, .int (nI e9)), (4, .int (nI w9))] := hl
          refine lv_aload_n hx hb dX2_seen_42 rfl (lv_at hl 0 rfl) ?_
          refine z_get (v := .int (nI (aS A))) hC zf_X2_143_2 hw 0 rfl rfl dX2_seen_43 ?_
          refine lv_bipush (v := (nI 6)) hx hb dX2_seen_46 zb_6 ?_
          refine zi_ne (tgt := 54) hx hb (by omega) (by decide) dX2_seen_48 (by decide) (fun c_48 => ?_) (fun c_48 => ?_)
          · skip
            refine lv_aload_n hx hb dX2_seen_54 rfl (lv_at hl 0 rfl) ?_
            refine z_get (v := .ref (q 18)) hC zf_X2_38_2 hw 0 rfl rfl dX2_seen_55 ?_
            refine lv_iconst (v := (nI 4)) hx hb dX2_seen_58 zk_4 ?_
            refine lv_aload_n hx hb dX2_seen_59 rfl (lv_at hl 0 rfl) ?_
            refine z_get (v := .int (nI (aS A))) hC zf_X2_143_2 hw 0 rfl rfl dX2_seen_60 ?_
            refine zn_imul hx hb dX2_seen_63 ?_
            refine lv_iload_n hx hb dX2_seen_64 rfl (lv_at hl 1 rfl) ?_
            refine z_iast (f' := upd (b 18) (4 * (aS A)) (nI m9)) hC hw 10 rfl (by omega) (by decide) rfl dX2_seen_65 (fun H locs hw => ?_)
            have hw : zS G ((mo, zo 2 (mF q (f 1) (f 2) (f 3) (f 4) (f 5) (f 6) (f 7) (f 8) (f 14) (nI (aS A)))) :: (q 0, zc G 0 (zI 200 (b 0))) :: (q 9, zc G 0 (zI 46 (b 9))) :: (q 10, zc G 0 (zI 46 (b 10))) :: (q 11, zc G 0 (zI 46 (b 11))) :: (q 12, zc G 0 (zI 46 (b 12))) :: (q 13, zc G 0 (zI 368 (b 13))) :: (q 15, zc G 0 (zI 92 (b 15))) :: (q 16, zc G 3 (zI 2 (b 16))) :: (q 17, zc G 0 (zI 5 (b 17))) :: (q 18, zc G 0 (zI 24 (upd (b 18) (4 * (aS A)) (nI m9)))) :: (q 20, zc G 0 (zI 3 (b 20))) :: (q 21, zc G 0 (zI 3 (b 21))) :: (q 22, zc G 0 (zI 3 (b 22))) :: (q 23, zc G 0 (zI 36 (b 23))) :: (q 24, zc G 0 (zI 36 (b 24))) :: rest) s H locs := hw
            refine lv_aload_n hx hb dX2_seen_66 rfl (lv_at hl 0 rfl) ?_
            refine z_get (v := .ref (q 18)) hC zf_X2_38_2 hw 0 rfl rfl dX2_seen_67 ?_
            refine lv_iconst (v := (nI 4)) hx hb dX2_seen_70 zk_4 ?_
            refine lv_aload_n hx hb dX2_seen_71 rfl (lv_at hl 0 rfl) ?_
            refine z_get (v := .int (nI (aS A))) hC zf_X2_143_2 hw 0 rfl rfl dX2_seen_72 ?_
            refine zn_imul hx hb dX2_seen_75 ?_
            refine lv_iconst (v := (nI 1)) hx hb dX2_seen_76 zk_1 ?_
            refine zn_iadd hx hb dX2_seen_77 ?_
            refine lv_iload_n hx hb dX2_seen_78 rfl (lv_at hl 2 rfl) ?_
            refine z_iast (f' := upd (upd (b 18) (4 * (aS A)) (nI m9)) (4 * (aS A) + 1) (nI d9)) hC hw 10 rfl (by omega) (by decide) rfl dX2_seen_79 (fun H locs hw => ?_)
            have hw : zS G ((mo, zo 2 (mF q (f 1) (f 2) (f 3) (f 4) (f 5) (f 6) (f 7) (f 8) (f 14) (nI (aS A)))) :: (q 0, zc G 0 (zI 200 (b 0))) :: (q 9, zc G 0 (zI 46 (b 9))) :: (q 10, zc G 0 (zI 46 (b 10))) :: (q 11, zc G 0 (zI 46 (b 11))) :: (q 12, zc G 0 (zI 46 (b 12))) :: (q 13, zc G 0 (zI 368 (b 13))) :: (q 15, zc G 0 (zI 92 (b 15))) :: (q 16, zc G 3 (zI 2 (b 16))) :: (q 17, zc G 0 (zI 5 (b 17))) :: (q 18, zc G 0 (zI 24 (upd (upd (b 18) (4 * (aS A)) (nI m9)) (4 * (aS A) + 1) (nI d9)))) :: (q 20, zc G 0 (zI 3 (b 20))) :: (q 21, zc G 0 (zI 3 (b 21))) :: (q 22, zc G 0 (zI 3 (b 22))) :: (q 23, zc G 0 (zI 36 (b 23))) :: (q 24, zc G 0 (zI 36 (b 24))) :: rest) s H locs := hw
            refine lv_aload_n hx hb dX2_seen_80 rfl (lv_at hl 0 rfl) ?_
            refine z_get (v := .ref (q 18)) hC zf_X2_38_2 hw 0 rfl rfl dX2_seen_81 ?_
            refine lv_iconst (v := (nI 4)) hx hb dX2_seen_84 zk_4 ?_
            refine lv_aload_n hx hb dX2_seen_85 rfl (lv_at hl 0 rfl) ?_
            refine z_get (v := .int (nI (aS A))) hC zf_X2_143_2 hw 0 rfl rfl dX2_seen_86 ?_
            refine zn_imul hx hb dX2_seen_89 ?_
            refine lv_iconst (v := (nI 2)) hx hb dX2_seen_90 zk_2 ?_
            refine zn_iadd hx hb dX2_seen_91 ?_
            refine lv_iload_n hx hb dX2_seen_92 rfl (lv_at hl 3 rfl) ?_
            refine z_iast (f' := upd (upd (upd (b 18) (4 * (aS A)) (nI m9)) (4 * (aS A) + 1) (nI d9)) (4 * (aS A) + 2) (nI e9)) hC hw 10 rfl (by omega) (by decide) rfl dX2_seen_93 (fun H locs hw => ?_)
            have hw : zS G ((mo, zo 2 (mF q (f 1) (f 2) (f 3) (f 4) (f 5) (f 6) (f 7) (f 8) (f 14) (nI (aS A)))) :: (q 0, zc G 0 (zI 200 (b 0))) :: (q 9, zc G 0 (zI 46 (b 9))) :: (q 10, zc G 0 (zI 46 (b 10))) :: (q 11, zc G 0 (zI 46 (b 11))) :: (q 12, zc G 0 (zI 46 (b 12))) :: (q 13, zc G 0 (zI 368 (b 13))) :: (q 15, zc G 0 (zI 92 (b 15))) :: (q 16, zc G 3 (zI 2 (b 16))) :: (q 17, zc G 0 (zI 5 (b 17))) :: (q 18, zc G 0 (zI 24 (upd (upd (upd (b 18) (4 * (aS A)) (nI m9)) (4 * (aS A) + 1) (nI d9)) (4 * (aS A) + 2) (nI e9)))) :: (q 20, zc G 0 (zI 3 (b 20))) :: (q 21, zc G 0 (zI 3 (b 21))) :: (q 22, zc G 0 (zI 3 (b 22))) :: (q 23, zc G 0 (zI 36 (b 23))) :: (q 24, zc G 0 (zI 36 (b 24))) :: rest) s H locs := hw
            refine lv_aload_n hx hb dX2_seen_94 rfl (lv_at hl 0 rfl) ?_
            refine z_get (v := .ref (q 18)) hC zf_X2_38_2 hw 0 rfl rfl dX2_seen_95 ?_
            refine lv_iconst (v := (nI 4)) hx hb dX2_seen_98 zk_4 ?_
            refine lv_aload_n hx hb dX2_seen_99 rfl (lv_at hl 0 rfl) ?_
            refine z_get (v := .int (nI (aS A))) hC zf_X2_143_2 hw 0 rfl rfl dX2_seen_100 ?_
            refine zn_imul hx hb dX2_seen_103 ?_
            refine lv_iconst (v := (nI 3)) hx hb dX2_seen_104 zk_3 ?_
            refine zn_iadd hx hb dX2_seen_105 ?_
            refine lv_iload hx hb dX2_seen_106 (lv_at hl 4 rfl) ?_
            refine z_iast (f' := upd (upd (upd (upd (b 18) (4 * (aS A)) (nI m9)) (4 * (aS A) + 1) (nI d9)) (4 * (aS A) + 2) (nI e9)) (4 * (aS A) + 3) (nI w9)) hC hw 10 rfl (by omega) (by decide) rfl dX2_seen_108 (fun H locs hw => ?_)
            have hw : zS G ((mo, zo 2 (mF q (f 1) (f 2) (f 3) (f 4) (f 5) (f 6) (f 7) (f 8) (f 14) (nI (aS A)))) :: (q 0, zc G 0 (zI 200 (b 0))) :: (q 9, zc G 0 (zI 46 (b 9))) :: (q 10, zc G 0 (zI 46 (b 10))) :: (q 11, zc G 0 (zI 46 (b 11))) :: (q 12, zc G 0 (zI 46 (b 12))) :: (q 13, zc G 0 (zI 368 (b 13))) :: (q 15, zc G 0 (zI 92 (b 15))) :: (q 16, zc G 3 (zI 2 (b 16))) :: (q 17, zc G 0 (zI 5 (b 17))) :: (q 18, zc G 0 (zI 24 (upd (upd (upd (upd (b 18) (4 * (aS A)) (nI m9)) (4 * (aS A) + 1) (nI d9)) (4 * (aS A) + 2) (nI e9)) (4 * (aS A) + 3) (nI w9)))) :: (q 20, zc G 0 (zI 3 (b 20))) :: (q 21, zc G 0 (zI 3 (b 21))) :: (q 22, zc G 0 (zI 3 (b 22))) :: (q 23, zc G 0 (zI 36 (b 23))) :: (q 24, zc G 0 (zI 36 (b 24))) :: rest) s H locs := hw
            refine lv_aload_n hx hb dX2_seen_109 rfl (lv_at hl 0 rfl) ?_
            refine lv_dup hx hb dX2_seen_110 rfl ?_
            refine z_get (v := .int (nI (aS A))) hC zf_X2_143_2 hw 0 rfl rfl dX2_seen_111 ?_
            refine lv_iconst (v := (nI 1)) hx hb dX2_seen_114 zk_1 ?_
            refine zn_iadd hx hb dX2_seen_115 ?_
            refine z_puti hC zf_X2_143_2 hw 0 rfl (Nat.le_of_ble_eq_true rfl) dX2_seen_116 (fun H locs hw => ?_)
            have hw : zS G ((mo, zo 2 (mF q (f 1) (f 2) (f 3) (f 4) (f 5) (f 6) (f 7) (f 8) (f 14) (nI (aS A + 1)))) :: (q 0, zc G 0 (zI 200 (b 0))) :: (q 9, zc G 0 (zI 46 (b 9))) :: (q 10, zc G 0 (zI 46 (b 10))) :: (q 11, zc G 0 (zI 46 (b 11))) :: (q 12, zc G 0 (zI 46 (b 12))) :: (q 13, zc G 0 (zI 368 (b 13))) :: (q 15, zc G 0 (zI 92 (b 15))) :: (q 16, zc G 3 (zI 2 (b 16))) :: (q 17, zc G 0 (zI 5 (b 17))) :: (q 18, zc G 0 (zI 24 (upd (upd (upd (upd (b 18) (4 * (aS A)) (nI m9)) (4 * (aS A) + 1) (nI d9)) (4 * (aS A) + 2) (nI e9)) (4 * (aS A) + 3) (nI w9)))) :: (q 20, zc G 0 (zI 3 (b 20))) :: (q 21, zc G 0 (zI 3 (b 21))) :: (q 22, zc G 0 (zI 3 (b 22))) :: (q 23, zc G 0 (zI 36 (b 23))) :: (q 24, zc G 0 (zI 36 (b 24))) :: rest) s H locs := hw
            refine lv_aload_n hx hb dX2_seen_119 rfl (lv_at hl 0 rfl) ?_
            refine z_get (v := .int (nI (aS A + 1))) hC zf_X2_143_2 hw 0 rfl rfl dX2_seen_120 ?_
            exact hend _ _ _ _ _ _ _ ((bU b 18 (upd (upd (upd (upd (b 18) (4 * (aS A)) (nI m9)) (4 * (aS A) + 1) (nI d9)) (4 * (aS A) + 2) (nI e9)) (4 * (aS A) + 3) (nI w9))), mf (f 1) (f 2) (f 3) (f 4) (f 5) (f 6) (f 7) (f 8) (f 14) (nI (aS A + 1))) hw (by rw [show F_seen A (nI m9) (nI d9) (nI e9) (nI w9) = (nI (aS A + 1), mkA (aT A) (aL A) (aV0 A) (aV A) (aU A) (aUs A) (aK A) (aS A + 1) (updN (updN (updN (updN (aSg A) (4 * aS A) m9) (4 * aS A + 1) d9) (4 * aS A + 2) e9) (4 * aS A + 3) w9) (aTr A)) from (ifP_t ⟨⟨m9, hm91, hm92, rfl⟩, ⟨d9, hd91, hd92, rfl⟩, ⟨e9, he91, he92, rfl⟩, ⟨w9, hw91, hw92, rfl⟩⟩).trans (by rw [if_neg c_48, cl_nI (by omega), cl_nI (by omega), cl_nI (by omega), cl_nI (by omega)])]; exact ⟨rfl, ⟨⟨hT, hL⟩, hV0, hV, ⟨hU, hUs⟩, hKp, ⟨rfl, (fun j hj => sg_upd hSg (by have h : j < 4 * (aS A + 1) := hj; omega))⟩, (fun t ht => tRel_of rfl rfl rfl rfl rfl (hTr t ht))⟩⟩) (by omega) (by omega) dX2_seen_123
          · skip
            refine lv_bipush (v := (-5)) hx hb dX2_seen_51 zb_m5 ?_
            exact hend _ _ _ _ _ _ _ (b, mf (f 1) (f 2) (f 3) (f 4) (f 5) (f 6) (f 7) (f 8) (f 14) (nI (aS A))) hw (by rw [show F_seen A (nI m9) (nI d9) (nI e9) (nI w9) = (-5, A) from (ifP_t ⟨⟨m9, hm91, hm92, rfl⟩, ⟨d9, hd91, hd92, rfl⟩, ⟨e9, he91, he92, rfl⟩, ⟨w9, hw91, hw92, rfl⟩⟩).trans (if_pos c_48)]; exact ⟨rfl, ⟨⟨hT, hL⟩, hV0, hV, ⟨hU, hUs⟩, hKp, ⟨rfl, hSg⟩, (fun t ht => tRel_of rfl rfl rfl rfl rfl (hTr t ht))⟩⟩) (by omega) (by omega) dX2_seen_53
        · skip
          refine lv_bipush (v := (-3)) hx hb dX2_seen_39 zb_m3 ?_
          exact hend _ _ _ _ _ _ _ (b, mf (f 1) (f 2) (f 3) (f 4) (f 5) (f 6) (f 7) (f 8) (f 14) (nI (aS A))) hw (by (first | rw [show F_seen A x y z w = (-3, A) from ifP_f (fun h => c_7 h.1)] | rw [show F_seen A (nI m9) y z w = (-3, A) from ifP_f (fun h => c_16 h.2.1)] | rw [show F_seen A (nI m9) y z w = (-3, A) from ifP_f (fun h => c_26 h.2.2.1)] | rw [show F_seen A (nI m9) y z w = (-3, A) from ifP_f (fun h => c_36 h.2.2.2)]); exact ⟨rfl, ⟨⟨hT, hL⟩, hV0, hV, ⟨hU, hUs⟩, hKp, ⟨rfl, hSg⟩, (fun t ht => tRel_of rfl rfl rfl rfl rfl (hTr t ht))⟩⟩) (by omega) (by omega) dX2_seen_41
theorem all_succ {P : Nat → Prop} {n : Nat} (h : ∀ k, k < n → P k) (hn : P n) : ∀ k, k < n + 1 → P k := fun k hk => by
  rcases Nat.lt_or_ge k n with q | q
  · exact h k q
  · rw [show k = n by omega]; exact hn
theorem zs_X2_219 : zSs RX2 219 yX2_sightOf cX2_sightOf 4 (some .int) 3 := ⟨lw_S q2110 q2111 q53 q2112, ⟨by decide +kernel, by decide +kernel⟩, by decide +kernel⟩
set_option maxHeartbeats 4000000 in
theorem m_X2_kinds (G : zE) (l : Launch) (mo : Nat) (q : Nat → Nat) (le : Int32) (at1 : Int32) (st : Int32) (tk : Int32) (ln : Int32) (va : Int32) (wr : Int32) (cl : Int32) (un : Int32) (si : Nat) (g18 : Nat → Int32) (sg : Nat → Nat) (h6 : si ≤ 6) (hSg : ∀ k, k < 4 * si → g18 k = nI (sg k)) (hSb : ∀ j, j < si → okSg sg j) (rest : va_W) : zMi G l yX2_kinds cX2_kinds 5 (some .int) 2 0 0 [.ref mo] ((mo, zo 2 (mF q le at1 st tk ln va wr cl un (nI si))) :: (q 18, zc G 0 (zI 24 g18)) :: rest) (fun (r : Int32) (_ : Unit) => r = nI (kindsN si sg)) (fun (_ : Unit) => (mo, zo 2 (mF q le at1 st tk ln va wr cl un (nI si))) :: (q 18, zc G 0 (zI 24 g18)) :: rest) := by
  refine z_begI (by decide) (Nat.le_of_ble_eq_true rfl) (fun p e s m args below meth c ls Q hC hl hw hend => ?_)
  have hx := hC.hx
  have hb := hC.hb
  have hl : lv_has ls 5 [(0, .ref mo)] := hl
  have hw : zS G ((mo, zo 2 (mF q le at1 st tk ln va wr cl un (nI si))) :: (q 18, zc G 0 (zI 24 g18)) :: rest) s s.heap [] := hw
  refine lv_iconst (v := (nI 0)) hx hb dX2_kinds_0 zk_0 ?_
  refine lv_istore_n (lv' := [(1, .int (nI 0)), (0, .ref mo)]) hx hb dX2_kinds_1 rfl hl (by decide) rfl (fun ls hl => ?_)
  refine lv_iconst (v := (nI 0)) hx hb dX2_kinds_2 zk_0 ?_
  refine lv_istore_n (lv' := [(2, .int (nI 0)), (1, .int (nI 0)), (0, .ref mo)]) hx hb dX2_kinds_3 rfl hl (by decide) rfl (fun ls hl => ?_)
  have loop_4 : ∀ (fuel : Nat) (kd : Nat), (kd ≤ 5) → (5 - kd) < fuel → ∀ (H : Heap) (locs : List Loc) (ls : Array Slot), zS G ((mo, zo 2 (mF q le at1 st tk ln va wr cl un (nI si))) :: (q 18, zc G 0 (zI 24 g18)) :: rest) s H locs → lv_has ls 5 [(0, .ref mo), (1, .int (nI (orB (fun kd => dB (∀ k, k < si → sightN kd (sg (4 * k)) (sg (4 * k + 1)) = 4 * sg (4 * k + 2) + sg (4 * k + 3))) kd))), (2, .int (nI kd))] → W p l e (zR 2 0 0) s m args below meth c H locs 0 0 Q (F0 m 4 ls []) := by
    intro fuel
    induction fuel with
    | zero => intro kd hkd hfuel; exact absurd hfuel (Nat.not_lt_zero _)
    | succ fuel_4 ih_4 =>
      intro kd hkd hfuel_4 H locs ls hw hl
      refine lv_iload_n hx hb dX2_kinds_4 rfl (lv_at hl 2 rfl) ?_
      refine lv_iconst (v := (nI 5)) hx hb dX2_kinds_5 zk_5 ?_
      refine zi_ge (tgt := 111) hx hb (by omega) (by decide) dX2_kinds_6 (by decide) (fun c_6 => ?_) (fun c_6 => ?_)
      · skip
        refine lv_iload_n hx hb dX2_kinds_111 rfl (lv_at hl 1 rfl) ?_
        exact hend _ _ _ _ _ _ _ () hw (by rw [show kd = 5 by omega]; rfl) (Nat.le_of_ble_eq_true rfl) (Nat.le_of_ble_eq_true rfl) dX2_kinds_112
      · skip
        refine lv_iconst (v := (nI 1)) hx hb dX2_kinds_9 zk_1 ?_
        refine lv_istore_n (lv' := [(3, .int (nI 1)), (0, .ref mo), (1, .int (nI (orB (fun kd => dB (∀ k, k < si → sightN kd (sg (4 * k)) (sg (4 * k + 1)) = 4 * sg (4 * k + 2) + sg (4 * k + 3))) kd))), (2, .int (nI kd))]) hx hb dX2_kinds_10 rfl hl (by decide) rfl (fun ls hl => ?_)
        have hl : lv_has ls 5 [(3, .int (bI (∀ k, k < 0 → sightN kd (sg (4 * k)) (sg (4 * k + 1)) = 4 * sg (4 * k + 2) + sg (4 * k + 3)))), (0, .ref mo), (1, .int (nI (orB (fun kd => dB (∀ k, k < si → sightN kd (sg (4 * k)) (sg (4 * k + 1)) = 4 * sg (4 * k + 2) + sg (4 * k + 3))) kd))), (2, .int (nI kd))] := by rw [bI_t (fun k hk => absurd hk (Nat.not_lt_zero k))]; exact hl
        refine lv_iconst (v := (nI 0)) hx hb dX2_kinds_11 zk_0 ?_
        refine lv_istore (lv' := [(4, .int (nI 0)), (3, .int (bI (∀ k, k < 0 → sightN kd (sg (4 * k)) (sg (4 * k + 1)) = 4 * sg (4 * k + 2) + sg (4 * k + 3)))), (0, .ref mo), (1, .int (nI (orB (fun kd => dB (∀ k, k < si → sightN kd (sg (4 * k)) (sg (4 * k + 1)) = 4 * sg (4 * k + 2) + sg (4 * k + 3))) kd))), (2, .int (nI kd))]) hx hb dX2_kinds_12 hl (by decide) rfl (fun ls hl => ?_)
        have loop_14 : ∀ (fuel : Nat) (n : Nat), (n ≤ si) → (si - n) < fuel → ∀ (H : Heap) (locs : List Loc) (ls : Array Slot), zS G ((mo, zo 2 (mF q le at1 st tk ln va wr cl un (nI si))) :: (q 18, zc G 0 (zI 24 g18)) :: rest) s H locs → lv_has ls 5 [(0, .ref mo), (1, .int (nI (orB (fun kd => dB (∀ k, k < si → sightN kd (sg (4 * k)) (sg (4 * k + 1)) = 4 * sg (4 * k + 2) + sg (4 * k + 3))) kd))), (2, .int (nI kd)), (3, .int (bI (∀ k, k < n → sightN kd (sg (4 * k)) (sg (4 * k + 1)) = 4 * sg (4 * k + 2) + sg (4 * k + 3)))), (4, .int (nI n))] → W p l e (zR 2 0 0) s m args below meth c H locs 0 0 Q (F0 m 14 ls []) := by
          intro fuel
          induction fuel with
          | zero => intro n hn hfuel; exact absurd hfuel (Nat.not_lt_zero _)
          | succ fuel_14 ih_14 =>
            intro n hn hfuel_14 H locs ls hw hl
            refine lv_iload hx hb dX2_kinds_14 (lv_at hl 4 rfl) ?_
            refine lv_aload_n hx hb dX2_kinds_16 rfl (lv_at hl 0 rfl) ?_
            refine z_get (v := .int (nI si)) hC zf_X2_143_2 hw 0 rfl rfl dX2_kinds_17 ?_
            refine zi_ge (tgt := 91) hx hb (by omega) (by omega) dX2_kinds_20 (by decide) (fun c_20 => ?_) (fun c_20 => ?_)
            · skip
              have hns : n = si := by omega
              rw [hns] at hl
              refine lv_iload_n hx hb dX2_kinds_91 rfl (lv_at hl 1 rfl) ?_
              have join_103 : ∀ (x : Nat), (x = if dB (∀ k, k < si → sightN kd (sg (4 * k)) (sg (4 * k + 1)) = 4 * sg (4 * k + 2) + sg (4 * k + 3)) = true then 2 ^ kd else 0) → ∀ (H : Heap) (locs : List Loc) (ls : Array Slot), zS G ((mo, zo 2 (mF q le at1 st tk ln va wr cl un (nI si))) :: (q 18, zc G 0 (zI 24 g18)) :: rest) s H locs → lv_has ls 5 [(0, .ref mo), (1, .int (nI (orB (fun kd => dB (∀ k, k < si → sightN kd (sg (4 * k)) (sg (4 * k + 1)) = 4 * sg (4 * k + 2) + sg (4 * k + 3))) kd))), (2, .int (nI kd))] → W p l e (zR 2 0 0) s m args below meth c H locs 0 0 Q (F0 m 103 ls [.int (nI x), .int (nI (orB (fun kd => dB (∀ k, k < si → sightN kd (sg (4 * k)) (sg (4 * k + 1)) = 4 * sg (4 * k + 2) + sg (4 * k + 3))) kd))]) := by
                intro x hj H locs ls hw hl
                subst hj
                refine zv_ior (v := (nI ((orB (fun kd => dB (∀ k, k < si → sightN kd (sg (4 * k)) (sg (4 * k + 1)) = 4 * sg (4 * k + 2) + sg (4 * k + 3))) kd) ||| (if dB (∀ k, k < si → sightN kd (sg (4 * k)) (sg (4 * k + 1)) = 4 * sg (4 * k + 2) + sg (4 * k + 3)) = true then 2 ^ kd else 0)))) hx hb (nI_or _ _) dX2_kinds_103 ?_
                refine lv_istore_n (lv' := [(1, .int (nI ((orB (fun kd => dB (∀ k, k < si → sightN kd (sg (4 * k)) (sg (4 * k + 1)) = 4 * sg (4 * k + 2) + sg (4 * k + 3))) kd) ||| (if dB (∀ k, k < si → sightN kd (sg (4 * k)) (sg (4 * k + 1)) = 4 * sg (4 * k + 2) + sg (4 * k + 3)) = true then 2 ^ kd else 0)))), (0, .ref mo), (2, .int (nI kd))]) hx hb dX2_kinds_104 rfl hl (by decide) rfl (fun ls hl => ?_)
                refine lv_iinc (v := (nI (kd + 1))) (lv' := [(2, .int (nI (kd + 1))), (1, .int (nI ((orB (fun kd => dB (∀ k, k < si → sightN kd (sg (4 * k)) (sg (4 * k + 1)) = 4 * sg (4 * k + 2) + sg (4 * k + 3))) kd) ||| (if dB (∀ k, k < si → sightN kd (sg (4 * k)) (sg (4 * k + 1)) = 4 * sg (4 * k + 2) + sg (4 * k + 3)) = true then 2 ^ kd else 0)))), (0, .ref mo)]) hx hb dX2_kinds_105 hl (k := 2) rfl (zincn _ 1) (by decide) rfl (fun ls hl => ?_)
                refine lv_goto (tgt := 4) hx hb dX2_kinds_108 (by decide) ?_
                exact ih_4 (kd + 1) (by omega) (by omega) H locs ls hw (lv_sub hl [2, 1, 0] rfl)
              refine lv_iload_n hx hb dX2_kinds_92 rfl (lv_at hl 3 rfl) ?_
              refine zb_eq (tgt := 102) hx hb dX2_kinds_93 (by decide) (fun c_93 => ?_) (fun c_93 => ?_)
              · skip
                refine lv_iconst (v := (nI 0)) hx hb dX2_kinds_102 zk_0 ?_
                exact join_103 0 (by first | rw [if_pos (dB_t c_93)] | rw [if_neg (by rw [dB_f c_93]; decide)]) H locs ls hw (lv_sub hl [0, 1, 2] rfl)
              · skip
                refine lv_iconst (v := (nI 1)) hx hb dX2_kinds_96 zk_1 ?_
                refine lv_iload_n hx hb dX2_kinds_97 rfl (lv_at hl 2 rfl) ?_
                refine zv_ishl (v := (nI (2 ^ kd))) hx hb (nI_shl1 (by omega)) dX2_kinds_98 ?_
                refine lv_goto (tgt := 103) hx hb dX2_kinds_99 (by decide) ?_
                exact join_103 (2 ^ kd) (by first | rw [if_pos (dB_t c_93)] | rw [if_neg (by rw [dB_f c_93]; decide)]) H locs ls hw (lv_sub hl [0, 1, 2] rfl)
            · skip
              have hsb := hSb n (by omega)
              unfold okSg at hsb
              have join_84 : ∀ (z : Int32), (z = bI (∀ k, k < (n + 1) → sightN kd (sg (4 * k)) (sg (4 * k + 1)) = 4 * sg (4 * k + 2) + sg (4 * k + 3))) → ∀ (H : Heap) (locs : List Loc) (ls : Array Slot), zS G ((mo, zo 2 (mF q le at1 st tk ln va wr cl un (nI si))) :: (q 18, zc G 0 (zI 24 g18)) :: rest) s H locs → lv_has ls 5 [(0, .ref mo), (1, .int (nI (orB (fun kd => dB (∀ k, k < si → sightN kd (sg (4 * k)) (sg (4 * k + 1)) = 4 * sg (4 * k + 2) + sg (4 * k + 3))) kd))), (2, .int (nI kd)), (3, .int (bI (∀ k, k < n → sightN kd (sg (4 * k)) (sg (4 * k + 1)) = 4 * sg (4 * k + 2) + sg (4 * k + 3)))), (4, .int (nI n))] → W p l e (zR 2 0 0) s m args below meth c H locs 0 0 Q (F0 m 84 ls [.int z]) := by
                intro z hz H locs ls hw hl
                subst hz
                refine lv_istore_n (lv' := [(3, .int (bI (∀ k, k < (n + 1) → sightN kd (sg (4 * k)) (sg (4 * k + 1)) = 4 * sg (4 * k + 2) + sg (4 * k + 3)))), (0, .ref mo), (1, .int (nI (orB (fun kd => dB (∀ k, k < si → sightN kd (sg (4 * k)) (sg (4 * k + 1)) = 4 * sg (4 * k + 2) + sg (4 * k + 3))) kd))), (2, .int (nI kd)), (4, .int (nI n))]) hx hb dX2_kinds_84 rfl hl (by decide) rfl (fun ls hl => ?_)
                refine lv_iinc (v := (nI (n + 1))) (lv' := [(4, .int (nI (n + 1))), (3, .int (bI (∀ k, k < (n + 1) → sightN kd (sg (4 * k)) (sg (4 * k + 1)) = 4 * sg (4 * k + 2) + sg (4 * k + 3)))), (0, .ref mo), (1, .int (nI (orB (fun kd => dB (∀ k, k < si → sightN kd (sg (4 * k)) (sg (4 * k + 1)) = 4 * sg (4 * k + 2) + sg (4 * k + 3))) kd))), (2, .int (nI kd))]) hx hb dX2_kinds_85 hl (k := 4) rfl (zincn _ 1) (by decide) rfl (fun ls hl => ?_)
                refine lv_goto (tgt := 14) hx hb dX2_kinds_88 (by decide) ?_
                exact ih_14 (n + 1) (by omega) (by omega) H locs ls hw (lv_sub hl [2, 3, 4, 1, 0] rfl)
              refine lv_iload_n hx hb dX2_kinds_23 rfl (lv_at hl 3 rfl) ?_
              refine zb_eq (tgt := 83) hx hb dX2_kinds_24 (by decide) (fun c_24 => ?_) (fun c_24 => ?_)
              · skip
                refine lv_iconst (v := (nI 0)) hx hb dX2_kinds_83 zk_0 ?_
                exact join_84 (nI 0) (by first | (exact (bI_t (all_succ c_24 c_76)).symm) | (exact (bI_f (fun h => c_24 (fun k hk => h k (by omega)))).symm) | (exact (bI_f (fun h => c_76 (h n (by omega)))).symm)) H locs ls hw (lv_sub hl [0, 1, 2, 3, 4] rfl)
              · skip
                refine lv_iload_n hx hb dX2_kinds_27 rfl (lv_at hl 2 rfl) ?_
                refine lv_aload_n hx hb dX2_kinds_28 rfl (lv_at hl 0 rfl) ?_
                refine z_get (v := .ref (q 18)) hC zf_X2_38_2 hw 0 rfl rfl dX2_kinds_29 ?_
                refine lv_iconst (v := (nI 4)) hx hb dX2_kinds_32 zk_4 ?_
                refine lv_iload hx hb dX2_kinds_33 (lv_at hl 4 rfl) ?_
                refine zn_imul hx hb dX2_kinds_35 ?_
                refine z_iald (x := (nI (sg (4 * n)))) hC hw 1 rfl (by omega) (by decide) (hSg _ (by omega)) dX2_kinds_36 ?_
                refine lv_aload_n hx hb dX2_kinds_37 rfl (lv_at hl 0 rfl) ?_
                refine z_get (v := .ref (q 18)) hC zf_X2_38_2 hw 0 rfl rfl dX2_kinds_38 ?_
                refine lv_iconst (v := (nI 4)) hx hb dX2_kinds_41 zk_4 ?_
                refine lv_iload hx hb dX2_kinds_42 (lv_at hl 4 rfl) ?_
                refine zn_imul hx hb dX2_kinds_44 ?_
                refine lv_iconst (v := (nI 1)) hx hb dX2_kinds_45 zk_1 ?_
                refine zn_iadd hx hb dX2_kinds_46 ?_
                refine z_iald (x := (nI (sg (4 * n + 1)))) hC hw 1 rfl (by omega) (by decide) (hSg _ (by omega)) dX2_kinds_47 ?_
                refine z_ci (z_runS (As := [.int (nI kd), .int (nI (sg (4 * n))), .int (nI (sg (4 * n + 1)))]) (rest := []) hC zs_X2_219 (m_X2_sightOf G l kd (sg (4 * n)) (sg (4 * n + 1)) (by omega) (by omega) (by omega) _) hw rfl rfl (Nat.le_of_ble_eq_true rfl) hl.1 ⟨Nat.le_of_ble_eq_true rfl, Nat.le_of_ble_eq_true rfl⟩ ⟨(Nat.le_of_ble_eq_true rfl), (Nat.le_of_ble_eq_true rfl)⟩ dX2_kinds_48) hw (fun _ => List.Perm.refl _) (fun r u H locs hp hw => ?_)
                obtain rfl : r = nI (sightN kd (sg (4 * n)) (sg (4 * n + 1))) := hp
                refine lv_iconst (v := (nI 4)) hx hb dX2_kinds_51 zk_4 ?_
                refine lv_aload_n hx hb dX2_kinds_52 rfl (lv_at hl 0 rfl) ?_
                refine z_get (v := .ref (q 18)) hC zf_X2_38_2 hw 0 rfl rfl dX2_kinds_53 ?_
                refine lv_iconst (v := (nI 4)) hx hb dX2_kinds_56 zk_4 ?_
                refine lv_iload hx hb dX2_kinds_57 (lv_at hl 4 rfl) ?_
                refine zn_imul hx hb dX2_kinds_59 ?_
                refine lv_iconst (v := (nI 2)) hx hb dX2_kinds_60 zk_2 ?_
                refine zn_iadd hx hb dX2_kinds_61 ?_
                refine z_iald (x := (nI (sg (4 * n + 2)))) hC hw 1 rfl (by omega) (by decide) (hSg _ (by omega)) dX2_kinds_62 ?_
                refine zn_imul hx hb dX2_kinds_63 ?_
                refine lv_aload_n hx hb dX2_kinds_64 rfl (lv_at hl 0 rfl) ?_
                refine z_get (v := .ref (q 18)) hC zf_X2_38_2 hw 0 rfl rfl dX2_kinds_65 ?_
                refine lv_iconst (v := (nI 4)) hx hb dX2_kinds_68 zk_4 ?_
                refine lv_iload hx hb dX2_kinds_69 (lv_at hl 4 rfl) ?_
                refine zn_imul hx hb dX2_kinds_71 ?_
                refine lv_iconst (v := (nI 3)) hx hb dX2_kinds_72 zk_3 ?_
                refine zn_iadd hx hb dX2_kinds_73 ?_
                refine z_iald (x := (nI (sg (4 * n + 3)))) hC hw 1 rfl (by omega) (by decide) (hSg _ (by omega)) dX2_kinds_74 ?_
                refine zn_iadd hx hb dX2_kinds_75 ?_
                refine zi_ne (tgt := 83) hx hb (sightN_lt (by omega)) (by omega) dX2_kinds_76 (by decide) (fun c_76 => ?_) (fun c_76 => ?_)
                · skip
                  refine lv_iconst (v := (nI 0)) hx hb dX2_kinds_83 zk_0 ?_
                  exact join_84 (nI 0) (by first | (exact (bI_t (all_succ c_24 c_76)).symm) | (exact (bI_f (fun h => c_24 (fun k hk => h k (by omega)))).symm) | (exact (bI_f (fun h => c_76 (h n (by omega)))).symm)) H locs ls hw (lv_sub hl [0, 1, 2, 3, 4] rfl)
                · skip
                  refine lv_iconst (v := (nI 1)) hx hb dX2_kinds_79 zk_1 ?_
                  refine lv_goto (tgt := 84) hx hb dX2_kinds_80 (by decide) ?_
                  exact join_84 (nI 1) (by first | (exact (bI_t (all_succ c_24 c_76)).symm) | (exact (bI_f (fun h => c_24 (fun k hk => h k (by omega)))).symm) | (exact (bI_f (fun h => c_76 (h n (by omega)))).symm)) H locs ls hw (lv_sub hl [0, 1, 2, 3, 4] rfl)
        exact loop_14 ((si - 0) + 1) 0 (by omega) (Nat.lt_succ_self _) H locs ls hw (lv_sub hl [2, 3, 4, 1, 0] rfl)
  exact loop_4 ((5 - 0) + 1) 0 (by decide) (Nat.lt_succ_self _) s.heap [] ls hw (lv_sub hl [2, 1, 0] rfl)

set_option maxHeartbeats 4000000 in
theorem m_X2_alike (G : zE) (l : Launch) (ks : Nat) (n : Nat) (d : Nat) (hks : ks < 2147483648) (hn : n < 65536) (hd : d < 65535) (rest : va_W) : zMi G l yX2_alike cX2_alike 7 (some .int) 2 0 0 [.int (nI ks), .int (nI n), .int (nI d)] (rest) (fun (r : Int32) (_ : Unit) => r = nI (alikeN ks n d 5)) (fun (_ : Unit) => rest) := by
  refine z_begI (by decide) (Nat.le_of_ble_eq_true rfl) (fun p e s m args below meth c ls Q hC hl hw hend => ?_)
  have hx := hC.hx
  have hb := hC.hb
  have hl : lv_has ls 7 [(0, .int (nI ks)), (1, .int (nI n)), (2, .int (nI d))] := hl
  refine lv_iconst (v := (nI 0)) hx hb dX2_alike_0 zk_0 ?_
  refine lv_istore_n (lv' := [(3, .int (nI 0)), (0, .int (nI ks)), (1, .int (nI n)), (2, .int (nI d))]) hx hb dX2_alike_1 rfl hl (by decide) rfl (fun ls hl => ?_)
  refine lv_iconst (v := (nI 0)) hx hb dX2_alike_2 zk_0 ?_
  refine lv_istore (lv' := [(4, .int (nI 0)), (3, .int (nI 0)), (0, .int (nI ks)), (1, .int (nI n)), (2, .int (nI d))]) hx hb dX2_alike_3 hl (by decide) rfl (fun ls hl => ?_)
  have loop_5 : ∀ (fuel : Nat) (a9 : Nat) (mx : Nat), (a9 ≤ 5) → (mx = alikeN ks n d a9) → (mx ≤ 5) → (5 - a9) < fuel → ∀ (H : Heap) (locs : List Loc) (ls : Array Slot), zS G (rest) s H locs → lv_has ls 7 [(0, .int (nI ks)), (1, .int (nI n)), (2, .int (nI d)), (3, .int (nI mx)), (4, .int (nI a9))] → W p l e (zR 2 0 0) s m args below meth c H locs 0 0 Q (F0 m 5 ls []) := by
    intro fuel
    induction fuel with
    | zero => intro a9 mx ha hmx hm5 hfuel; exact absurd hfuel (Nat.not_lt_zero _)
    | succ fuel_5 ih_5 =>
      intro a9 mx ha hmx hm5 hfuel_5 H locs ls hw hl
      refine lv_iload hx hb dX2_alike_5 (lv_at hl 4 rfl) ?_
      refine lv_iconst (v := (nI 5)) hx hb dX2_alike_7 zk_5 ?_
      refine zi_ge (tgt := 93) hx hb (by omega) (by decide) dX2_alike_8 (by decide) (fun c_8 => ?_) (fun c_8 => ?_)
      · skip
        refine lv_iload_n hx hb dX2_alike_93 rfl (lv_at hl 3 rfl) ?_
        exact hend _ _ _ _ _ _ _ () hw (by rw [show a9 = 5 by omega] at hmx; rw [hmx]) (Nat.le_of_ble_eq_true rfl) (Nat.le_of_ble_eq_true rfl) dX2_alike_94
      · skip
        refine lv_iconst (v := (nI 0)) hx hb dX2_alike_11 zk_0 ?_
        refine lv_istore (lv' := [(5, .int (nI 0)), (0, .int (nI ks)), (1, .int (nI n)), (2, .int (nI d)), (3, .int (nI mx)), (4, .int (nI a9))]) hx hb dX2_alike_12 hl (by decide) rfl (fun ls hl => ?_)
        refine lv_iconst (v := (nI 0)) hx hb dX2_alike_14 zk_0 ?_
        refine lv_istore (lv' := [(6, .int (nI 0)), (5, .int (nI 0)), (0, .int (nI ks)), (1, .int (nI n)), (2, .int (nI d)), (3, .int (nI mx)), (4, .int (nI a9))]) hx hb dX2_alike_15 hl (by decide) rfl (fun ls hl => ?_)
        have loop_17 : ∀ (fuel : Nat) (c9 : Nat) (lk : Nat), (c9 ≤ 5) → (lk = likeN ks n d a9 c9) → (lk ≤ c9) → (5 - c9) < fuel → ∀ (H : Heap) (locs : List Loc) (ls : Array Slot), zS G (rest) s H locs → lv_has ls 7 [(0, .int (nI ks)), (1, .int (nI n)), (2, .int (nI d)), (3, .int (nI mx)), (4, .int (nI a9)), (5, .int (nI lk)), (6, .int (nI c9))] → W p l e (zR 2 0 0) s m args below meth c H locs 0 0 Q (F0 m 17 ls []) := by
          intro fuel
          induction fuel with
          | zero => intro c9 lk hb9 hlk hl5 hfuel; exact absurd hfuel (Nat.not_lt_zero _)
          | succ fuel_17 ih_17 =>
            intro c9 lk hb9 hlk hl5 hfuel_17 H locs ls hw hl
            refine lv_iload hx hb dX2_alike_17 (lv_at hl 6 rfl) ?_
            refine lv_iconst (v := (nI 5)) hx hb dX2_alike_19 zk_5 ?_
            refine zi_ge (tgt := 74) hx hb (by omega) (by decide) dX2_alike_20 (by decide) (fun c_20 => ?_) (fun c_20 => ?_)
            · skip
              have join_86 : ∀ (y9 : Nat), (y9 = (if mx < likeN ks n d a9 5 then likeN ks n d a9 5 else mx)) → (y9 ≤ 5) → ∀ (H : Heap) (locs : List Loc) (ls : Array Slot), zS G (rest) s H locs → lv_has ls 7 [(0, .int (nI ks)), (1, .int (nI n)), (2, .int (nI d)), (3, .int (nI mx)), (4, .int (nI a9))] → W p l e (zR 2 0 0) s m args below meth c H locs 0 0 Q (F0 m 86 ls [.int (nI y9)]) := by
                intro y9 hy hy5 H locs ls hw hl
                refine lv_istore_n (lv' := [(3, .int (nI y9)), (0, .int (nI ks)), (1, .int (nI n)), (2, .int (nI d)), (4, .int (nI a9))]) hx hb dX2_alike_86 rfl hl (by decide) rfl (fun ls hl => ?_)
                refine lv_iinc (v := (nI (a9 + 1))) (lv' := [(4, .int (nI (a9 + 1))), (3, .int (nI y9)), (0, .int (nI ks)), (1, .int (nI n)), (2, .int (nI d))]) hx hb dX2_alike_87 hl (k := 4) rfl (zincn _ 1) (by decide) rfl (fun ls hl => ?_)
                refine lv_goto (tgt := 5) hx hb dX2_alike_90 (by decide) ?_
                exact ih_5 (a9 + 1) y9 (by omega) (by rw [alikeN, ← hmx]; first | exact hy | rfl) hy5 (by omega) H locs ls hw (lv_sub hl [2, 3, 4, 1, 0] rfl)
              refine lv_iload hx hb dX2_alike_74 (lv_at hl 5 rfl) ?_
              refine lv_iload_n hx hb dX2_alike_76 rfl (lv_at hl 3 rfl) ?_
              refine zi_le (tgt := 85) hx hb (by omega) (by omega) dX2_alike_77 (by decide) (fun c_77 => ?_) (fun c_77 => ?_)
              · skip
                refine lv_iload_n hx hb dX2_alike_85 rfl (lv_at hl 3 rfl) ?_
                exact join_86 mx (by rw [show 5 = c9 by omega, ← hlk]; first | rw [if_pos c_77] | rw [if_neg (Nat.not_lt.mpr c_77)]) (by omega) H locs ls hw (lv_sub hl [0, 1, 2, 3, 4] rfl)
              · skip
                refine lv_iload hx hb dX2_alike_80 (lv_at hl 5 rfl) ?_
                refine lv_goto (tgt := 86) hx hb dX2_alike_82 (by decide) ?_
                exact join_86 lk (by rw [show 5 = c9 by omega, ← hlk]; first | rw [if_pos c_77] | rw [if_neg (Nat.not_lt.mpr c_77)]) (by omega) H locs ls hw (lv_sub hl [0, 1, 2, 3, 4] rfl)
            · skip
              refine lv_iload hx hb dX2_alike_23 (lv_at hl 5 rfl) ?_
              have join_65 : ∀ (x : Nat), (x = (if ks.testBit a9 = true ∧ ks.testBit c9 = true ∧ sightN a9 n d = sightN c9 n d then 1 else 0)) → ∀ (H : Heap) (locs : List Loc) (ls : Array Slot), zS G (rest) s H locs → lv_has ls 7 [(0, .int (nI ks)), (1, .int (nI n)), (2, .int (nI d)), (3, .int (nI mx)), (4, .int (nI a9)), (5, .int (nI lk)), (6, .int (nI c9))] → W p l e (zR 2 0 0) s m args below meth c H locs 0 0 Q (F0 m 65 ls [.int (nI x), .int (nI lk)]) := by
                intro x hj H locs ls hw hl
                subst hj
                refine zn_iadd hx hb dX2_alike_65 ?_
                refine lv_istore (lv' := [(5, .int (nI (lk + (if ks.testBit a9 = true ∧ ks.testBit c9 = true ∧ sightN a9 n d = sightN c9 n d then 1 else 0)))), (0, .int (nI ks)), (1, .int (nI n)), (2, .int (nI d)), (3, .int (nI mx)), (4, .int (nI a9)), (6, .int (nI c9))]) hx hb dX2_alike_66 hl (by decide) rfl (fun ls hl => ?_)
                refine lv_iinc (v := (nI (c9 + 1))) (lv' := [(6, .int (nI (c9 + 1))), (5, .int (nI (lk + (if ks.testBit a9 = true ∧ ks.testBit c9 = true ∧ sightN a9 n d = sightN c9 n d then 1 else 0)))), (0, .int (nI ks)), (1, .int (nI n)), (2, .int (nI d)), (3, .int (nI mx)), (4, .int (nI a9))]) hx hb dX2_alike_68 hl (k := 6) rfl (zincn _ 1) (by decide) rfl (fun ls hl => ?_)
                refine lv_goto (tgt := 17) hx hb dX2_alike_71 (by decide) ?_
                exact ih_17 (c9 + 1) (lk + (if ks.testBit a9 = true ∧ ks.testBit c9 = true ∧ sightN a9 n d = sightN c9 n d then 1 else 0)) (by omega) (by rw [likeN, ← hlk]) (by have : (if ks.testBit a9 = true ∧ ks.testBit c9 = true ∧ sightN a9 n d = sightN c9 n d then 1 else 0) < 2 := ite_lt (by decide) (by decide); omega) (by omega) H locs ls hw (lv_sub hl [2, 3, 4, 5, 6, 1, 0] rfl)
              refine lv_iload_n hx hb dX2_alike_25 rfl (lv_at hl 0 rfl) ?_
              refine lv_iload hx hb dX2_alike_26 (lv_at hl 4 rfl) ?_
              refine z_ci (z_runS (As := [.int (nI ks), .int (nI a9)]) (rest := [.int (nI lk)]) hC zs_X2_152 (m_X2_has G l ks a9 (by omega) (by omega) _) hw rfl rfl (Nat.le_of_ble_eq_true rfl) hl.1 ⟨Nat.le_of_ble_eq_true rfl, Nat.le_of_ble_eq_true rfl⟩ ⟨(Nat.le_of_ble_eq_true rfl), (Nat.le_of_ble_eq_true rfl)⟩ dX2_alike_28) hw (fun _ => List.Perm.refl _) (fun r u H locs hp hw => ?_)
              obtain rfl : r = bI (ks.testBit a9 = true) := hp
              refine zb_eq (tgt := 64) hx hb dX2_alike_31 (by decide) (fun c_31 => ?_) (fun c_31 => ?_)
              · skip
                refine lv_iconst (v := (nI 0)) hx hb dX2_alike_64 zk_0 ?_
                exact join_65 0 (by first | exact (if_pos ⟨c_31, c_40, c_57⟩).symm | exact (if_neg (fun h => c_31 h.1)).symm | exact (if_neg (fun h => c_40 h.2.1)).symm | exact (if_neg (fun h => c_57 h.2.2)).symm) H locs ls hw (lv_sub hl [0, 1, 2, 3, 4, 5, 6] rfl)
              · skip
                refine lv_iload_n hx hb dX2_alike_34 rfl (lv_at hl 0 rfl) ?_
                refine lv_iload hx hb dX2_alike_35 (lv_at hl 6 rfl) ?_
                refine z_ci (z_runS (As := [.int (nI ks), .int (nI c9)]) (rest := [.int (nI lk)]) hC zs_X2_152 (m_X2_has G l ks c9 (by omega) (by omega) _) hw rfl rfl (Nat.le_of_ble_eq_true rfl) hl.1 ⟨Nat.le_of_ble_eq_true rfl, Nat.le_of_ble_eq_true rfl⟩ ⟨(Nat.le_of_ble_eq_true rfl), (Nat.le_of_ble_eq_true rfl)⟩ dX2_alike_37) hw (fun _ => List.Perm.refl _) (fun r u H locs hp hw => ?_)
                obtain rfl : r = bI (ks.testBit c9 = true) := hp
                refine zb_eq (tgt := 64) hx hb dX2_alike_40 (by decide) (fun c_40 => ?_) (fun c_40 => ?_)
                · skip
                  refine lv_iconst (v := (nI 0)) hx hb dX2_alike_64 zk_0 ?_
                  exact join_65 0 (by first | exact (if_pos ⟨c_31, c_40, c_57⟩).symm | exact (if_neg (fun h => c_31 h.1)).symm | exact (if_neg (fun h => c_40 h.2.1)).symm | exact (if_neg (fun h => c_57 h.2.2)).symm) H locs ls hw (lv_sub hl [0, 1, 2, 3, 4, 5, 6] rfl)
                · skip
                  refine lv_iload hx hb dX2_alike_43 (lv_at hl 4 rfl) ?_
                  refine lv_iload_n hx hb dX2_alike_45 rfl (lv_at hl 1 rfl) ?_
                  refine lv_iload_n hx hb dX2_alike_46 rfl (lv_at hl 2 rfl) ?_
                  refine z_ci (z_runS (As := [.int (nI a9), .int (nI n), .int (nI d)]) (rest := [.int (nI lk)]) hC zs_X2_219 (m_X2_sightOf G l a9 n d (by omega) (by omega) (by omega) _) hw rfl rfl (Nat.le_of_ble_eq_true rfl) hl.1 ⟨Nat.le_of_ble_eq_true rfl, Nat.le_of_ble_eq_true rfl⟩ ⟨(Nat.le_of_ble_eq_true rfl), (Nat.le_of_ble_eq_true rfl)⟩ dX2_alike_47) hw (fun _ => List.Perm.refl _) (fun r u H locs hp hw => ?_)
                  obtain rfl : r = nI (sightN a9 n d) := hp
                  refine lv_iload hx hb dX2_alike_50 (lv_at hl 6 rfl) ?_
                  refine lv_iload_n hx hb dX2_alike_52 rfl (lv_at hl 1 rfl) ?_
                  refine lv_iload_n hx hb dX2_alike_53 rfl (lv_at hl 2 rfl) ?_
                  refine z_ci (z_runS (As := [.int (nI c9), .int (nI n), .int (nI d)]) (rest := [.int (nI (sightN a9 n d)), .int (nI lk)]) hC zs_X2_219 (m_X2_sightOf G l c9 n d (by omega) (by omega) (by omega) _) hw rfl rfl (Nat.le_of_ble_eq_true rfl) hl.1 ⟨Nat.le_of_ble_eq_true rfl, Nat.le_of_ble_eq_true rfl⟩ ⟨(Nat.le_of_ble_eq_true rfl), (Nat.le_of_ble_eq_true rfl)⟩ dX2_alike_54) hw (fun _ => List.Perm.refl _) (fun r u H locs hp hw => ?_)
                  obtain rfl : r = nI (sightN c9 n d) := hp
                  refine zi_ne (tgt := 64) hx hb (sightN_lt hn) (sightN_lt hn) dX2_alike_57 (by decide) (fun c_57 => ?_) (fun c_57 => ?_)
                  · skip
                    refine lv_iconst (v := (nI 0)) hx hb dX2_alike_64 zk_0 ?_
                    exact join_65 0 (by first | exact (if_pos ⟨c_31, c_40, c_57⟩).symm | exact (if_neg (fun h => c_31 h.1)).symm | exact (if_neg (fun h => c_40 h.2.1)).symm | exact (if_neg (fun h => c_57 h.2.2)).symm) H locs ls hw (lv_sub hl [0, 1, 2, 3, 4, 5, 6] rfl)
                  · skip
                    refine lv_iconst (v := (nI 1)) hx hb dX2_alike_60 zk_1 ?_
                    refine lv_goto (tgt := 65) hx hb dX2_alike_61 (by decide) ?_
                    exact join_65 1 (by first | exact (if_pos ⟨c_31, c_40, c_57⟩).symm | exact (if_neg (fun h => c_31 h.1)).symm | exact (if_neg (fun h => c_40 h.2.1)).symm | exact (if_neg (fun h => c_57 h.2.2)).symm) H locs ls hw (lv_sub hl [0, 1, 2, 3, 4, 5, 6] rfl)
        exact loop_17 ((5 - 0) + 1) 0 0 (by decide) rfl (by decide) (Nat.lt_succ_self _) H locs ls hw (lv_sub hl [2, 3, 4, 5, 6, 1, 0] rfl)
  exact loop_5 ((5 - 0) + 1) 0 0 (by decide) rfl (by decide) (Nat.lt_succ_self _) s.heap [] ls hw (lv_sub hl [2, 3, 4, 1, 0] rfl)
theorem likeN_le (ks n d a : Nat) : ∀ c, likeN ks n d a c ≤ c
  | 0 => Nat.le_refl _
  | c + 1 => by
    rw [likeN]
    have := likeN_le ks n d a c
    have : (if ks.testBit a = true ∧ ks.testBit c = true ∧ sightN a n d = sightN c n d then 1 else 0) < 2 := ite_lt (by decide) (by decide)
    omega
theorem alikeN_le (ks n d : Nat) : ∀ a, alikeN ks n d a ≤ 5
  | 0 => Nat.zero_le _
  | a + 1 => by
    rw [alikeN]
    have := alikeN_le ks n d a
    have := likeN_le ks n d a 5
    exact Nat.le_of_lt_succ (ite_lt (by omega) (by omega))
theorem zv_X2_222 : zVs RX2 222 yX2_kinds cX2_kinds 5 (some .int) 0 := ⟨lw_V q2117 q2107 q2108 q53 q2109, ⟨by decide +kernel, by decide +kernel⟩, by decide +kernel⟩
theorem zs_X2_226 : zSs RX2 226 yX2_alike cX2_alike 7 (some .int) 3 := ⟨lw_S q2118 q2119 q53 q2120, ⟨by decide +kernel, by decide +kernel⟩, by decide +kernel⟩
set_option maxHeartbeats 4000000 in
theorem m_X2_ask (G : zE) (l : Launch) (mo : Nat) (q : Nat → Nat) (A : AS) (b : Nat → Nat → Int32) (f : Nat → Int32) (hA : AOk A) (hM : MRel A b f) (rest : va_W) : zMi G l yX2_ask cX2_ask 6 (some .int) 3 0 0 [.ref mo] ((mo, zo 2 (mF q (f 1) (f 2) (f 3) (f 4) (f 5) (f 6) (f 7) (f 8) (f 14) (f 19))) :: (q 0, zc G 0 (zI 200 (b 0))) :: (q 9, zc G 0 (zI 46 (b 9))) :: (q 10, zc G 0 (zI 46 (b 10))) :: (q 11, zc G 0 (zI 46 (b 11))) :: (q 12, zc G 0 (zI 46 (b 12))) :: (q 13, zc G 0 (zI 368 (b 13))) :: (q 15, zc G 0 (zI 92 (b 15))) :: (q 16, zc G 3 (zI 2 (b 16))) :: (q 17, zc G 0 (zI 5 (b 17))) :: (q 18, zc G 0 (zI 24 (b 18))) :: (q 20, zc G 0 (zI 3 (b 20))) :: (q 21, zc G 0 (zI 3 (b 21))) :: (q 22, zc G 0 (zI 3 (b 22))) :: (q 23, zc G 0 (zI 36 (b 23))) :: (q 24, zc G 0 (zI 36 (b 24))) :: rest) (fun (r : Int32) (u : MB) => r = F_ask A ∧ MRel A u.1 u.2) (fun (u : MB) => (mo, zo 2 (mF q (u.2 1) (u.2 2) (u.2 3) (u.2 4) (u.2 5) (u.2 6) (u.2 7) (u.2 8) (u.2 14) (u.2 19))) :: (q 0, zc G 0 (zI 200 (u.1 0))) :: (q 9, zc G 0 (zI 46 (u.1 9))) :: (q 10, zc G 0 (zI 46 (u.1 10))) :: (q 11, zc G 0 (zI 46 (u.1 11))) :: (q 12, zc G 0 (zI 46 (u.1 12))) :: (q 13, zc G 0 (zI 368 (u.1 13))) :: (q 15, zc G 0 (zI 92 (u.1 15))) :: (q 16, zc G 3 (zI 2 (u.1 16))) :: (q 17, zc G 0 (zI 5 (u.1 17))) :: (q 18, zc G 0 (zI 24 (u.1 18))) :: (q 20, zc G 0 (zI 3 (u.1 20))) :: (q 21, zc G 0 (zI 3 (u.1 21))) :: (q 22, zc G 0 (zI 3 (u.1 22))) :: (q 23, zc G 0 (zI 36 (u.1 23))) :: (q 24, zc G 0 (zI 36 (u.1 24))) :: rest) := by
  refine z_begI (by decide) (Nat.le_of_ble_eq_true rfl) (fun p e s m args below meth c ls Q hC hl hw hend => ?_)
  have hx := hC.hx
  have hb := hC.hb
  have hl : lv_has ls 6 [(0, .ref mo)] := hl
  have hw : zS G ((mo, zo 2 (mF q (f 1) (f 2) (f 3) (f 4) (f 5) (f 6) (f 7) (f 8) (f 14) (f 19))) :: (q 0, zc G 0 (zI 200 (b 0))) :: (q 9, zc G 0 (zI 46 (b 9))) :: (q 10, zc G 0 (zI 46 (b 10))) :: (q 11, zc G 0 (zI 46 (b 11))) :: (q 12, zc G 0 (zI 46 (b 12))) :: (q 13, zc G 0 (zI 368 (b 13))) :: (q 15, zc G 0 (zI 92 (b 15))) :: (q 16, zc G 3 (zI 2 (b 16))) :: (q 17, zc G 0 (zI 5 (b 17))) :: (q 18, zc G 0 (zI 24 (b 18))) :: (q 20, zc G 0 (zI 3 (b 20))) :: (q 21, zc G 0 (zI 3 (b 21))) :: (q 22, zc G 0 (zI 3 (b 22))) :: (q 23, zc G 0 (zI 36 (b 23))) :: (q 24, zc G 0 (zI 36 (b 24))) :: rest) s s.heap [] := hw
  have hA9 := hA
  obtain ⟨⟨hT, hL⟩, hV0, hV, ⟨hU, hUs⟩, hKp, ⟨hSi, hSg⟩, hTr⟩ := hM
  obtain ⟨⟨hL2, hT2⟩, hB0, hBv, ⟨hU8, hUb⟩, hKb, ⟨hS6, hSb⟩, hTb⟩ := hA
  have hH : Hw (aV A) := hBv.1.1
  have hday := hBv.2.2
  have hw := hw.tail (c' := (mo, zo 2 (mF q (f 1) (f 2) (f 3) (f 4) (f 5) (f 6) (f 7) (f 8) (f 14) (nI (aS A))))) (by rw [hSi])
  have hw : zS G ((mo, zo 2 (mF q (f 1) (f 2) (f 3) (f 4) (f 5) (f 6) (f 7) (f 8) (f 14) (nI (aS A)))) :: (q 0, zc G 0 (zI 200 (b 0))) :: (q 9, zc G 0 (zI 46 (b 9))) :: (q 10, zc G 0 (zI 46 (b 10))) :: (q 11, zc G 0 (zI 46 (b 11))) :: (q 12, zc G 0 (zI 46 (b 12))) :: (q 13, zc G 0 (zI 368 (b 13))) :: (q 15, zc G 0 (zI 92 (b 15))) :: (q 16, zc G 3 (zI 2 (b 16))) :: (q 17, zc G 0 (zI 5 (b 17))) :: (q 18, zc G 0 (zI 24 (b 18))) :: (q 20, zc G 0 (zI 3 (b 20))) :: (q 21, zc G 0 (zI 3 (b 21))) :: (q 22, zc G 0 (zI 3 (b 22))) :: (q 23, zc G 0 (zI 36 (b 23))) :: (q 24, zc G 0 (zI 36 (b 24))) :: rest) s s.heap [] := hw
  refine lv_aload_n hx hb dX2_ask_0 rfl (lv_at hl 0 rfl) ?_
  have hk9 : kindsN (aS A) (aSg A) < 2 ^ 5 := orB_lt _ _
  refine z_ci (z_runV (As := []) (rest := []) hC zv_X2_222 (m_X2_kinds G l mo q (f 1) (f 2) (f 3) (f 4) (f 5) (f 6) (f 7) (f 8) (f 14) (aS A) (b 18) (aSg A) hS6 hSg hSb (zrem [0, 10] _)) hw (hw.perm (z_cut (is := [0, 10]) (cells := [(mo, zo 2 (mF q (f 1) (f 2) (f 3) (f 4) (f 5) (f 6) (f 7) (f 8) (f 14) (nI (aS A)))), (q 18, zc G 0 (zI 24 (b 18)))]) rfl rfl)) 0 rfl rfl rfl rfl rfl (Nat.le_of_ble_eq_true rfl) hl.1 ⟨Nat.le_of_ble_eq_true rfl, Nat.le_of_ble_eq_true rfl⟩ ⟨(Nat.le_of_ble_eq_true rfl), (Nat.le_of_ble_eq_true rfl)⟩ dX2_ask_1) hw (fun _ => z_keep (is := [0, 10]) (cs := [(mo, zo 2 (mF q (f 1) (f 2) (f 3) (f 4) (f 5) (f 6) (f 7) (f 8) (f 14) (nI (aS A)))), (q 18, zc G 0 (zI 24 (b 18)))]) rfl rfl) (fun r u H locs hp hw => ?_)
  obtain rfl : r = nI (kindsN (aS A) (aSg A)) := hp
  refine lv_istore_n (lv' := [(1, .int (nI (kindsN (aS A) (aSg A)))), (0, .ref mo)]) hx hb dX2_ask_4 rfl hl (by decide) rfl (fun ls hl => ?_)
  refine lv_iconst (v := -1) hx hb dX2_ask_5 zk_m1 ?_
  refine lv_istore_n (lv' := [(2, .int (-1)), (1, .int (nI (kindsN (aS A) (aSg A)))), (0, .ref mo)]) hx hb dX2_ask_6 rfl hl (by decide) rfl (fun ls hl => ?_)
  refine lv_iload_n hx hb dX2_ask_7 rfl (lv_at hl 1 rfl) ?_
  refine z_ci (z_runS (As := [.int (nI (kindsN (aS A) (aSg A)))]) (rest := []) hC zs_X2_213 (m_X2_ones G l (kindsN (aS A) (aSg A)) (by omega) _) hw rfl rfl (Nat.le_of_ble_eq_true rfl) hl.1 ⟨Nat.le_of_ble_eq_true rfl, Nat.le_of_ble_eq_true rfl⟩ ⟨(Nat.le_of_ble_eq_true rfl), (Nat.le_of_ble_eq_true rfl)⟩ dX2_ask_8) hw (fun _ => List.Perm.refl _) (fun r u H locs hp hw => ?_)
  obtain rfl : r = nI (onesN (kindsN (aS A) (aSg A)) 9) := hp
  refine lv_istore_n (lv' := [(3, .int (nI (onesN (kindsN (aS A) (aSg A)) 9))), (2, .int (-1)), (1, .int (nI (kindsN (aS A) (aSg A)))), (0, .ref mo)]) hx hb dX2_ask_11 rfl hl (by decide) rfl (fun ls hl => ?_)
  refine lv_iconst (v := (nI 2)) hx hb dX2_ask_12 zk_2 ?_
  refine lv_istore (lv' := [(4, .int (nI 2)), (3, .int (nI (onesN (kindsN (aS A) (aSg A)) 9))), (2, .int (-1)), (1, .int (nI (kindsN (aS A) (aSg A)))), (0, .ref mo)]) hx hb dX2_ask_13 hl (by decide) rfl (fun ls hl => ?_)
  have loop_15 : ∀ (fuel : Nat) (j : Nat) (wh : Option Nat) (le9 : Nat), (j ≤ 18) → (askN (kindsN (aS A) (aSg A)) j = (wh, le9)) → (le9 ≤ 9) → (18 - j) < fuel → ∀ (H : Heap) (locs : List Loc) (ls : Array Slot), zS G ((mo, zo 2 (mF q (f 1) (f 2) (f 3) (f 4) (f 5) (f 6) (f 7) (f 8) (f 14) (nI (aS A)))) :: (q 0, zc G 0 (zI 200 (b 0))) :: (q 9, zc G 0 (zI 46 (b 9))) :: (q 10, zc G 0 (zI 46 (b 10))) :: (q 11, zc G 0 (zI 46 (b 11))) :: (q 12, zc G 0 (zI 46 (b 12))) :: (q 13, zc G 0 (zI 368 (b 13))) :: (q 15, zc G 0 (zI 92 (b 15))) :: (q 16, zc G 3 (zI 2 (b 16))) :: (q 17, zc G 0 (zI 5 (b 17))) :: (q 18, zc G 0 (zI 24 (b 18))) :: (q 20, zc G 0 (zI 3 (b 20))) :: (q 21, zc G 0 (zI 3 (b 21))) :: (q 22, zc G 0 (zI 3 (b 22))) :: (q 23, zc G 0 (zI 36 (b 23))) :: (q 24, zc G 0 (zI 36 (b 24))) :: rest) s H locs → lv_has ls 6 [(0, .ref mo), (1, .int (nI (kindsN (aS A) (aSg A)))), (2, .int (optI wh)), (3, .int (nI le9)), (4, .int (nI (j + 2)))] → W p l e (zR 3 0 0) s m args below meth c H locs 0 0 Q (F0 m 15 ls []) := by
    intro fuel
    induction fuel with
    | zero => intro j wh le9 hj hask hle hfuel; exact absurd hfuel (Nat.not_lt_zero _)
    | succ fuel_15 ih_15 =>
      intro j wh le9 hj hask hle hfuel_15 H locs ls hw hl
      refine lv_iload hx hb dX2_ask_15 (lv_at hl 4 rfl) ?_
      refine lv_bipush (v := (nI 20)) hx hb dX2_ask_17 zb_20 ?_
      refine zi_ge (tgt := 62) hx hb (by omega) (by decide) dX2_ask_19 (by decide) (fun c_19 => ?_) (fun c_19 => ?_)
      · skip
        refine lv_iload_n hx hb dX2_ask_62 rfl (lv_at hl 2 rfl) ?_
        exact hend _ _ _ _ _ _ _ (b, mf (f 1) (f 2) (f 3) (f 4) (f 5) (f 6) (f 7) (f 8) (f 14) (nI (aS A))) hw ⟨(by unfold F_ask; rw [show 18 = j by omega, hask]), ⟨⟨hT, hL⟩, hV0, hV, ⟨hU, hUs⟩, hKp, ⟨rfl, hSg⟩, (fun t ht => tRel_of rfl rfl rfl rfl rfl (hTr t ht))⟩⟩ (by omega) (by omega) dX2_ask_63
      · skip
        refine lv_iload_n hx hb dX2_ask_22 rfl (lv_at hl 1 rfl) ?_
        refine lv_iload hx hb dX2_ask_23 (lv_at hl 4 rfl) ?_
        refine lv_iconst (v := (nI 2)) hx hb dX2_ask_25 zk_2 ?_
        refine zn_idiv hx hb (by omega) (by decide) (by decide) dX2_ask_26 ?_
        refine lv_iload hx hb dX2_ask_27 (lv_at hl 4 rfl) ?_
        refine lv_iconst (v := (nI 2)) hx hb dX2_ask_29 zk_2 ?_
        refine zn_irem hx hb (by omega) (by decide) (by decide) dX2_ask_30 ?_
        refine z_ci (z_runS (As := [.int (nI (kindsN (aS A) (aSg A))), .int (nI ((j + 2) / 2)), .int (nI ((j + 2) % 2))]) (rest := []) hC zs_X2_226 (m_X2_alike G l (kindsN (aS A) (aSg A)) ((j + 2) / 2) ((j + 2) % 2) (by omega) (by omega) (by omega) _) hw rfl rfl (Nat.le_of_ble_eq_true rfl) hl.1 ⟨Nat.le_of_ble_eq_true rfl, Nat.le_of_ble_eq_true rfl⟩ ⟨(Nat.le_of_ble_eq_true rfl), (Nat.le_of_ble_eq_true rfl)⟩ dX2_ask_31) hw (fun _ => List.Perm.refl _) (fun r u H locs hp hw => ?_)
        obtain rfl : r = nI (alikeN (kindsN (aS A) (aSg A)) ((j + 2) / 2) ((j + 2) % 2) 5) := hp
        refine lv_istore (lv' := [(5, .int (nI (alikeN (kindsN (aS A) (aSg A)) ((j + 2) / 2) ((j + 2) % 2) 5))), (0, .ref mo), (1, .int (nI (kindsN (aS A) (aSg A)))), (2, .int (optI wh)), (3, .int (nI le9)), (4, .int (nI (j + 2)))]) hx hb dX2_ask_34 hl (by decide) rfl (fun ls hl => ?_)
        have hal := alikeN_le (kindsN (aS A) (aSg A)) ((j + 2) / 2) ((j + 2) % 2) 5
        have join_48 : ∀ (z : Option Nat), (z = (if alikeN (kindsN (aS A) (aSg A)) ((j + 2) / 2) ((j + 2) % 2) 5 < le9 then some (j + 2) else wh)) → ∀ (H : Heap) (locs : List Loc) (ls : Array Slot), zS G ((mo, zo 2 (mF q (f 1) (f 2) (f 3) (f 4) (f 5) (f 6) (f 7) (f 8) (f 14) (nI (aS A)))) :: (q 0, zc G 0 (zI 200 (b 0))) :: (q 9, zc G 0 (zI 46 (b 9))) :: (q 10, zc G 0 (zI 46 (b 10))) :: (q 11, zc G 0 (zI 46 (b 11))) :: (q 12, zc G 0 (zI 46 (b 12))) :: (q 13, zc G 0 (zI 368 (b 13))) :: (q 15, zc G 0 (zI 92 (b 15))) :: (q 16, zc G 3 (zI 2 (b 16))) :: (q 17, zc G 0 (zI 5 (b 17))) :: (q 18, zc G 0 (zI 24 (b 18))) :: (q 20, zc G 0 (zI 3 (b 20))) :: (q 21, zc G 0 (zI 3 (b 21))) :: (q 22, zc G 0 (zI 3 (b 22))) :: (q 23, zc G 0 (zI 36 (b 23))) :: (q 24, zc G 0 (zI 36 (b 24))) :: rest) s H locs → lv_has ls 6 [(0, .ref mo), (1, .int (nI (kindsN (aS A) (aSg A)))), (2, .int (optI wh)), (3, .int (nI le9)), (4, .int (nI (j + 2))), (5, .int (nI (alikeN (kindsN (aS A) (aSg A)) ((j + 2) / 2) ((j + 2) % 2) 5)))] → W p l e (zR 3 0 0) s m args below meth c H locs 0 0 Q (F0 m 48 ls [.int (optI z)]) := by
          intro z hz H locs ls hw hl
          refine lv_istore_n (lv' := [(2, .int (optI z)), (0, .ref mo), (1, .int (nI (kindsN (aS A) (aSg A)))), (3, .int (nI le9)), (4, .int (nI (j + 2))), (5, .int (nI (alikeN (kindsN (aS A) (aSg A)) ((j + 2) / 2) ((j + 2) % 2) 5)))]) hx hb dX2_ask_48 rfl hl (by decide) rfl (fun ls hl => ?_)
          refine lv_iload hx hb dX2_ask_49 (lv_at hl 5 rfl) ?_
          refine lv_iload_n hx hb dX2_ask_51 rfl (lv_at hl 3 rfl) ?_
          refine z_ci (z_runS (As := [.int (nI (alikeN (kindsN (aS A) (aSg A)) ((j + 2) / 2) ((j + 2) % 2) 5)), .int (nI le9)]) (rest := []) hC zs_X2_171 (m_X2_lesser G l (alikeN (kindsN (aS A) (aSg A)) ((j + 2) / 2) ((j + 2) % 2) 5) le9 (by omega) (by omega) _) hw rfl rfl (Nat.le_of_ble_eq_true rfl) hl.1 ⟨Nat.le_of_ble_eq_true rfl, Nat.le_of_ble_eq_true rfl⟩ ⟨(Nat.le_of_ble_eq_true rfl), (Nat.le_of_ble_eq_true rfl)⟩ dX2_ask_52) hw (fun _ => List.Perm.refl _) (fun r u H locs hp hw => ?_)
          obtain rfl : r = nI (min (alikeN (kindsN (aS A) (aSg A)) ((j + 2) / 2) ((j + 2) % 2) 5) le9) := hp
          refine lv_istore_n (lv' := [(3, .int (nI (min (alikeN (kindsN (aS A) (aSg A)) ((j + 2) / 2) ((j + 2) % 2) 5) le9))), (2, .int (optI z)), (0, .ref mo), (1, .int (nI (kindsN (aS A) (aSg A)))), (4, .int (nI (j + 2))), (5, .int (nI (alikeN (kindsN (aS A) (aSg A)) ((j + 2) / 2) ((j + 2) % 2) 5)))]) hx hb dX2_ask_55 rfl hl (by decide) rfl (fun ls hl => ?_)
          refine lv_iinc (v := (nI (j + 2 + 1))) (lv' := [(4, .int (nI (j + 2 + 1))), (3, .int (nI (min (alikeN (kindsN (aS A) (aSg A)) ((j + 2) / 2) ((j + 2) % 2) 5) le9))), (2, .int (optI z)), (0, .ref mo), (1, .int (nI (kindsN (aS A) (aSg A)))), (5, .int (nI (alikeN (kindsN (aS A) (aSg A)) ((j + 2) / 2) ((j + 2) % 2) 5)))]) hx hb dX2_ask_56 hl (k := 4) rfl (zincn _ 1) (by decide) rfl (fun ls hl => ?_)
          refine lv_goto (tgt := 15) hx hb dX2_ask_59 (by decide) ?_
          exact ih_15 (j + 1) z (min (alikeN (kindsN (aS A) (aSg A)) ((j + 2) / 2) ((j + 2) % 2) 5) le9) (by omega) (by rw [askN, hask, hz]) (by omega) (by omega) H locs ls hw (lv_sub hl [3, 4, 2, 1, 0] rfl)
        refine lv_iload hx hb dX2_ask_36 (lv_at hl 0 rfl) ?_
        refine lv_iload_n hx hb dX2_ask_38 rfl (lv_at hl 4 rfl) ?_
        refine zi_ge (tgt := 47) hx hb (by omega) (by omega) dX2_ask_39 (by decide) (fun c_39 => ?_) (fun c_39 => ?_)
        · skip
          refine lv_iload_n hx hb dX2_ask_47 rfl (lv_at hl 3 rfl) ?_
          exact join_48 wh (by first | rw [if_pos c_39] | rw [if_neg (Nat.not_lt.mpr c_39)]) H locs ls hw (lv_sub hl [1, 2, 3, 4, 5, 0] rfl)
        · skip
          refine lv_iload hx hb dX2_ask_42 (lv_at hl 5 rfl) ?_
          refine lv_goto (tgt := 48) hx hb dX2_ask_44 (by decide) ?_
          exact join_48 (some (j + 2)) (by first | rw [if_pos c_39] | rw [if_neg (Nat.not_lt.mpr c_39)]) H locs ls hw (lv_sub hl [1, 2, 3, 4, 5, 0] rfl)
  exact loop_15 ((18 - 0) + 1) 0 none (onesN (kindsN (aS A) (aSg A)) 9) (by decide) rfl (onesN_le _ _) (Nat.lt_succ_self _) H locs ls hw (lv_sub hl [4, 3, 2, 1, 0] rfl)
set_option maxHeartbeats 4000000 in
theorem m_X2_nutsOfAll (G : zE) (l : Launch) (mo : Nat) (q : Nat → Nat) (le : Int32) (at1 : Int32) (st : Int32) (tk : Int32) (ln : Int32) (va : Int32) (wr : Int32) (cl : Int32) (un : Int32) (si : Int32) (v : Nat → Nat) (hH : Hw v) (rest : va_W) : zMi G l yX2_nutsOfAll cX2_nutsOfAll 3 (some .int) 0 0 0 [.ref mo] ((mo, zo 2 (mF q le at1 st tk ln va wr cl un si)) :: (q 11, zc G 0 (zI 46 (vI v))) :: rest) (fun (r : Int32) (_ : Unit) => r = nI (nutsTo v (v 0))) (fun (_ : Unit) => (mo, zo 2 (mF q le at1 st tk ln va wr cl un si)) :: (q 11, zc G 0 (zI 46 (vI v))) :: rest) := by
  refine z_begI (by decide) (Nat.le_of_ble_eq_true rfl) (fun p e s m args below meth c ls Q hC hl hw hend => ?_)
  have hx := hC.hx
  have hb := hC.hb
  have hl : lv_has ls 3 [(0, .ref mo)] := hl
  have hw : zS G ((mo, zo 2 (mF q le at1 st tk ln va wr cl un si)) :: (q 11, zc G 0 (zI 46 (vI v))) :: rest) s s.heap [] := hw
  have hp := hH.1
  refine lv_iconst (v := (nI 0)) hx hb dX2_nutsOfAll_0 zk_0 ?_
  refine lv_istore_n (lv' := [(1, .int (nI 0)), (0, .ref mo)]) hx hb dX2_nutsOfAll_1 rfl hl (by decide) rfl (fun ls hl => ?_)
  refine lv_iconst (v := (nI 0)) hx hb dX2_nutsOfAll_2 zk_0 ?_
  refine lv_istore_n (lv' := [(2, .int (nI 0)), (1, .int (nI 0)), (0, .ref mo)]) hx hb dX2_nutsOfAll_3 rfl hl (by decide) rfl (fun ls hl => ?_)
  have loop_4 : ∀ (fuel : Nat) (k : Nat), (k ≤ v 0) → (v 0 - k) < fuel → ∀ (H : Heap) (locs : List Loc) (ls : Array Slot), zS G ((mo, zo 2 (mF q le at1 st tk ln va wr cl un si)) :: (q 11, zc G 0 (zI 46 (vI v))) :: rest) s H locs → lv_has ls 3 [(0, .ref mo), (1, .int (nI (nutsTo v k))), (2, .int (nI k))] → W p l e (zR 0 0 0) s m args below meth c H locs 0 0 Q (F0 m 4 ls []) := by
    intro fuel
    induction fuel with
    | zero => intro k hk hfuel; exact absurd hfuel (Nat.not_lt_zero _)
    | succ fuel_4 ih_4 =>
      intro k hk hfuel_4 H locs ls hw hl
      refine lv_iload_n hx hb dX2_nutsOfAll_4 rfl (lv_at hl 2 rfl) ?_
      refine lv_aload_n hx hb dX2_nutsOfAll_5 rfl (lv_at hl 0 rfl) ?_
      refine z_get (v := .ref (q 11)) hC zf_X2_19_2 hw 0 rfl rfl dX2_nutsOfAll_6 ?_
      refine lv_iconst (v := (nI 0)) hx hb dX2_nutsOfAll_9 zk_0 ?_
      refine z_iald (x := (nI (v 0))) hC hw 1 rfl (by decide) (by decide) rfl dX2_nutsOfAll_10 ?_
      refine zi_ge (tgt := 35) hx hb (by omega) (by have := hH.2.2.1 0; omega) dX2_nutsOfAll_11 (by decide) (fun c_11 => ?_) (fun c_11 => ?_)
      · skip
        refine lv_iload_n hx hb dX2_nutsOfAll_35 rfl (lv_at hl 1 rfl) ?_
        exact hend _ _ _ _ _ _ _ () hw (by rw [show k = v 0 by omega]) (Nat.le_of_ble_eq_true rfl) (Nat.le_of_ble_eq_true rfl) dX2_nutsOfAll_36
      · skip
        refine lv_iload_n hx hb dX2_nutsOfAll_14 rfl (lv_at hl 1 rfl) ?_
        refine lv_aload_n hx hb dX2_nutsOfAll_15 rfl (lv_at hl 0 rfl) ?_
        refine z_get (v := .ref (q 11)) hC zf_X2_19_2 hw 0 rfl rfl dX2_nutsOfAll_16 ?_
        refine lv_iconst (v := (nI 3)) hx hb dX2_nutsOfAll_19 zk_3 ?_
        refine lv_iconst (v := (nI 2)) hx hb dX2_nutsOfAll_20 zk_2 ?_
        refine lv_iload_n hx hb dX2_nutsOfAll_21 rfl (lv_at hl 2 rfl) ?_
        refine zn_imul hx hb dX2_nutsOfAll_22 ?_
        refine zn_iadd hx hb dX2_nutsOfAll_23 ?_
        refine lv_iconst (v := (nI 1)) hx hb dX2_nutsOfAll_24 zk_1 ?_
        refine zn_iadd hx hb dX2_nutsOfAll_25 ?_
        refine z_iald (x := (nI (v (3 + 2 * k + 1)))) hC hw 1 rfl (by omega) (by decide) rfl dX2_nutsOfAll_26 ?_
        refine zn_iadd hx hb dX2_nutsOfAll_27 ?_
        refine lv_istore_n (lv' := [(1, .int (nI (nutsTo v k + (v (3 + 2 * k + 1))))), (0, .ref mo), (2, .int (nI k))]) hx hb dX2_nutsOfAll_28 rfl hl (by decide) rfl (fun ls hl => ?_)
        refine lv_iinc (v := (nI (k + 1))) (lv' := [(2, .int (nI (k + 1))), (1, .int (nI (nutsTo v k + (v (3 + 2 * k + 1))))), (0, .ref mo)]) hx hb dX2_nutsOfAll_29 hl (k := 2) rfl (zincn _ 1) (by decide) rfl (fun ls hl => ?_)
        refine lv_goto (tgt := 4) hx hb dX2_nutsOfAll_32 (by decide) ?_
        exact ih_4 (k + 1) (by have := hH.2.2.1 0; omega) (by have := hH.2.2.1 0; omega) H locs ls hw (lv_sub hl [2, 1, 0] rfl)
  exact loop_4 ((v 0 - 0) + 1) 0 (by have := hH.2.2.1 0; omega) (Nat.lt_succ_self _) s.heap [] ls hw (lv_sub hl [2, 1, 0] rfl)
set_option maxHeartbeats 4000000 in
theorem m_X2_kindsT (G : zE) (l : Launch) (mo : Nat) (q : Nat → Nat) (A : AS) (b : Nat → Nat → Int32) (f : Nat → Int32) (hA : AOk A) (hM : MRel A b f) (rest : va_W) : zMi G l yX2_kinds cX2_kinds 5 (some .int) 2 0 0 [.ref mo] ((mo, zo 2 (mF q (f 1) (f 2) (f 3) (f 4) (f 5) (f 6) (f 7) (f 8) (f 14) (f 19))) :: (q 0, zc G 0 (zI 200 (b 0))) :: (q 9, zc G 0 (zI 46 (b 9))) :: (q 10, zc G 0 (zI 46 (b 10))) :: (q 11, zc G 0 (zI 46 (b 11))) :: (q 12, zc G 0 (zI 46 (b 12))) :: (q 13, zc G 0 (zI 368 (b 13))) :: (q 15, zc G 0 (zI 92 (b 15))) :: (q 16, zc G 3 (zI 2 (b 16))) :: (q 17, zc G 0 (zI 5 (b 17))) :: (q 18, zc G 0 (zI 24 (b 18))) :: (q 20, zc G 0 (zI 3 (b 20))) :: (q 21, zc G 0 (zI 3 (b 21))) :: (q 22, zc G 0 (zI 3 (b 22))) :: (q 23, zc G 0 (zI 36 (b 23))) :: (q 24, zc G 0 (zI 36 (b 24))) :: rest) (fun (r : Int32) (u : MB) => r = F_kinds A ∧ MRel A u.1 u.2) (fun (u : MB) => (mo, zo 2 (mF q (u.2 1) (u.2 2) (u.2 3) (u.2 4) (u.2 5) (u.2 6) (u.2 7) (u.2 8) (u.2 14) (u.2 19))) :: (q 0, zc G 0 (zI 200 (u.1 0))) :: (q 9, zc G 0 (zI 46 (u.1 9))) :: (q 10, zc G 0 (zI 46 (u.1 10))) :: (q 11, zc G 0 (zI 46 (u.1 11))) :: (q 12, zc G 0 (zI 46 (u.1 12))) :: (q 13, zc G 0 (zI 368 (u.1 13))) :: (q 15, zc G 0 (zI 92 (u.1 15))) :: (q 16, zc G 3 (zI 2 (u.1 16))) :: (q 17, zc G 0 (zI 5 (u.1 17))) :: (q 18, zc G 0 (zI 24 (u.1 18))) :: (q 20, zc G 0 (zI 3 (u.1 20))) :: (q 21, zc G 0 (zI 3 (u.1 21))) :: (q 22, zc G 0 (zI 3 (u.1 22))) :: (q 23, zc G 0 (zI 36 (u.1 23))) :: (q 24, zc G 0 (zI 36 (u.1 24))) :: rest) := by
  refine z_begI (by decide) (Nat.le_of_ble_eq_true rfl) (fun p e s m args below meth c ls Q hC hl hw hend => ?_)
  have hx := hC.hx
  have hb := hC.hb
  have hl : lv_has ls 5 [(0, .ref mo)] := hl
  have hw : zS G ((mo, zo 2 (mF q (f 1) (f 2) (f 3) (f 4) (f 5) (f 6) (f 7) (f 8) (f 14) (f 19))) :: (q 0, zc G 0 (zI 200 (b 0))) :: (q 9, zc G 0 (zI 46 (b 9))) :: (q 10, zc G 0 (zI 46 (b 10))) :: (q 11, zc G 0 (zI 46 (b 11))) :: (q 12, zc G 0 (zI 46 (b 12))) :: (q 13, zc G 0 (zI 368 (b 13))) :: (q 15, zc G 0 (zI 92 (b 15))) :: (q 16, zc G 3 (zI 2 (b 16))) :: (q 17, zc G 0 (zI 5 (b 17))) :: (q 18, zc G 0 (zI 24 (b 18))) :: (q 20, zc G 0 (zI 3 (b 20))) :: (q 21, zc G 0 (zI 3 (b 21))) :: (q 22, zc G 0 (zI 3 (b 22))) :: (q 23, zc G 0 (zI 36 (b 23))) :: (q 24, zc G 0 (zI 36 (b 24))) :: rest) s s.heap [] := hw
  have hA9 := hA
  obtain ⟨⟨hT, hL⟩, hV0, hV, ⟨hU, hUs⟩, hKp, ⟨hSi, hSg⟩, hTr⟩ := hM
  obtain ⟨⟨hL2, hT2⟩, hB0, hBv, ⟨hU8, hUb⟩, hKb, ⟨hS6, hSb⟩, hTb⟩ := hA
  have hH : Hw (aV A) := hBv.1.1
  have hday := hBv.2.2
  have hw := hw.tail (c' := (mo, zo 2 (mF q (f 1) (f 2) (f 3) (f 4) (f 5) (f 6) (f 7) (f 8) (f 14) (nI (aS A))))) (by rw [hSi])
  have hw : zS G ((mo, zo 2 (mF q (f 1) (f 2) (f 3) (f 4) (f 5) (f 6) (f 7) (f 8) (f 14) (nI (aS A)))) :: (q 0, zc G 0 (zI 200 (b 0))) :: (q 9, zc G 0 (zI 46 (b 9))) :: (q 10, zc G 0 (zI 46 (b 10))) :: (q 11, zc G 0 (zI 46 (b 11))) :: (q 12, zc G 0 (zI 46 (b 12))) :: (q 13, zc G 0 (zI 368 (b 13))) :: (q 15, zc G 0 (zI 92 (b 15))) :: (q 16, zc G 3 (zI 2 (b 16))) :: (q 17, zc G 0 (zI 5 (b 17))) :: (q 18, zc G 0 (zI 24 (b 18))) :: (q 20, zc G 0 (zI 3 (b 20))) :: (q 21, zc G 0 (zI 3 (b 21))) :: (q 22, zc G 0 (zI 3 (b 22))) :: (q 23, zc G 0 (zI 36 (b 23))) :: (q 24, zc G 0 (zI 36 (b 24))) :: rest) s s.heap [] := hw
  refine lv_iconst (v := (nI 0)) hx hb dX2_kinds_0 zk_0 ?_
  refine lv_istore_n (lv' := [(1, .int (nI 0)), (0, .ref mo)]) hx hb dX2_kinds_1 rfl hl (by decide) rfl (fun ls hl => ?_)
  refine lv_iconst (v := (nI 0)) hx hb dX2_kinds_2 zk_0 ?_
  refine lv_istore_n (lv' := [(2, .int (nI 0)), (1, .int (nI 0)), (0, .ref mo)]) hx hb dX2_kinds_3 rfl hl (by decide) rfl (fun ls hl => ?_)
  have loop_4 : ∀ (fuel : Nat) (kd : Nat), (kd ≤ 5) → (5 - kd) < fuel → ∀ (H : Heap) (locs : List Loc) (ls : Array Slot), zS G ((mo, zo 2 (mF q (f 1) (f 2) (f 3) (f 4) (f 5) (f 6) (f 7) (f 8) (f 14) (nI (aS A)))) :: (q 0, zc G 0 (zI 200 (b 0))) :: (q 9, zc G 0 (zI 46 (b 9))) :: (q 10, zc G 0 (zI 46 (b 10))) :: (q 11, zc G 0 (zI 46 (b 11))) :: (q 12, zc G 0 (zI 46 (b 12))) :: (q 13, zc G 0 (zI 368 (b 13))) :: (q 15, zc G 0 (zI 92 (b 15))) :: (q 16, zc G 3 (zI 2 (b 16))) :: (q 17, zc G 0 (zI 5 (b 17))) :: (q 18, zc G 0 (zI 24 (b 18))) :: (q 20, zc G 0 (zI 3 (b 20))) :: (q 21, zc G 0 (zI 3 (b 21))) :: (q 22, zc G 0 (zI 3 (b 22))) :: (q 23, zc G 0 (zI 36 (b 23))) :: (q 24, zc G 0 (zI 36 (b 24))) :: rest) s H locs → lv_has ls 5 [(0, .ref mo), (1, .int (nI (orB (fun kd => dB (∀ k, k < (aS A) → sightN kd ((aSg A) (4 * k)) ((aSg A) (4 * k + 1)) = 4 * (aSg A) (4 * k + 2) + (aSg A) (4 * k + 3))) kd))), (2, .int (nI kd))] → W p l e (zR 2 0 0) s m args below meth c H locs 0 0 Q (F0 m 4 ls []) := by
    intro fuel
    induction fuel with
    | zero => intro kd hkd hfuel; exact absurd hfuel (Nat.not_lt_zero _)
    | succ fuel_4 ih_4 =>
      intro kd hkd hfuel_4 H locs ls hw hl
      refine lv_iload_n hx hb dX2_kinds_4 rfl (lv_at hl 2 rfl) ?_
      refine lv_iconst (v := (nI 5)) hx hb dX2_kinds_5 zk_5 ?_
      refine zi_ge (tgt := 111) hx hb (by omega) (by decide) dX2_kinds_6 (by decide) (fun c_6 => ?_) (fun c_6 => ?_)
      · skip
        refine lv_iload_n hx hb dX2_kinds_111 rfl (lv_at hl 1 rfl) ?_
        exact hend _ _ _ _ _ _ _ (b, mf (f 1) (f 2) (f 3) (f 4) (f 5) (f 6) (f 7) (f 8) (f 14) (nI (aS A))) hw ⟨(by rw [show kd = 5 by omega]; rfl), ⟨⟨hT, hL⟩, hV0, hV, ⟨hU, hUs⟩, hKp, ⟨rfl, hSg⟩, (fun t ht => tRel_of rfl rfl rfl rfl rfl (hTr t ht))⟩⟩ (by omega) (by omega) dX2_kinds_112
      · skip
        refine lv_iconst (v := (nI 1)) hx hb dX2_kinds_9 zk_1 ?_
        refine lv_istore_n (lv' := [(3, .int (nI 1)), (0, .ref mo), (1, .int (nI (orB (fun kd => dB (∀ k, k < (aS A) → sightN kd ((aSg A) (4 * k)) ((aSg A) (4 * k + 1)) = 4 * (aSg A) (4 * k + 2) + (aSg A) (4 * k + 3))) kd))), (2, .int (nI kd))]) hx hb dX2_kinds_10 rfl hl (by decide) rfl (fun ls hl => ?_)
        have hl : lv_has ls 5 [(3, .int (bI (∀ k, k < 0 → sightN kd ((aSg A) (4 * k)) ((aSg A) (4 * k + 1)) = 4 * (aSg A) (4 * k + 2) + (aSg A) (4 * k + 3)))), (0, .ref mo), (1, .int (nI (orB (fun kd => dB (∀ k, k < (aS A) → sightN kd ((aSg A) (4 * k)) ((aSg A) (4 * k + 1)) = 4 * (aSg A) (4 * k + 2) + (aSg A) (4 * k + 3))) kd))), (2, .int (nI kd))] := by rw [bI_t (fun k hk => absurd hk (Nat.not_lt_zero k))]; exact hl
        refine lv_iconst (v := (nI 0)) hx hb dX2_kinds_11 zk_0 ?_
        refine lv_istore (lv' := [(4, .int (nI 0)), (3, .int (bI (∀ k, k < 0 → sightN kd ((aSg A) (4 * k)) ((aSg A) (4 * k + 1)) = 4 * (aSg A) (4 * k + 2) + (aSg A) (4 * k + 3)))), (0, .ref mo), (1, .int (nI (orB (fun kd => dB (∀ k, k < (aS A) → sightN kd ((aSg A) (4 * k)) ((aSg A) (4 * k + 1)) = 4 * (aSg A) (4 * k + 2) + (aSg A) (4 * k + 3))) kd))), (2, .int (nI kd))]) hx hb dX2_kinds_12 hl (by decide) rfl (fun ls hl => ?_)
        have loop_14 : ∀ (fuel : Nat) (n : Nat), (n ≤ (aS A)) → ((aS A) - n) < fuel → ∀ (H : Heap) (locs : List Loc) (ls : Array Slot), zS G ((mo, zo 2 (mF q (f 1) (f 2) (f 3) (f 4) (f 5) (f 6) (f 7) (f 8) (f 14) (nI (aS A)))) :: (q 0, zc G 0 (zI 200 (b 0))) :: (q 9, zc G 0 (zI 46 (b 9))) :: (q 10, zc G 0 (zI 46 (b 10))) :: (q 11, zc G 0 (zI 46 (b 11))) :: (q 12, zc G 0 (zI 46 (b 12))) :: (q 13, zc G 0 (zI 368 (b 13))) :: (q 15, zc G 0 (zI 92 (b 15))) :: (q 16, zc G 3 (zI 2 (b 16))) :: (q 17, zc G 0 (zI 5 (b 17))) :: (q 18, zc G 0 (zI 24 (b 18))) :: (q 20, zc G 0 (zI 3 (b 20))) :: (q 21, zc G 0 (zI 3 (b 21))) :: (q 22, zc G 0 (zI 3 (b 22))) :: (q 23, zc G 0 (zI 36 (b 23))) :: (q 24, zc G 0 (zI 36 (b 24))) :: rest) s H locs → lv_has ls 5 [(0, .ref mo), (1, .int (nI (orB (fun kd => dB (∀ k, k < (aS A) → sightN kd ((aSg A) (4 * k)) ((aSg A) (4 * k + 1)) = 4 * (aSg A) (4 * k + 2) + (aSg A) (4 * k + 3))) kd))), (2, .int (nI kd)), (3, .int (bI (∀ k, k < n → sightN kd ((aSg A) (4 * k)) ((aSg A) (4 * k + 1)) = 4 * (aSg A) (4 * k + 2) + (aSg A) (4 * k + 3)))), (4, .int (nI n))] → W p l e (zR 2 0 0) s m args below meth c H locs 0 0 Q (F0 m 14 ls []) := by
          intro fuel
          induction fuel with
          | zero => intro n hn hfuel; exact absurd hfuel (Nat.not_lt_zero _)
          | succ fuel_14 ih_14 =>
            intro n hn hfuel_14 H locs ls hw hl
            refine lv_iload hx hb dX2_kinds_14 (lv_at hl 4 rfl) ?_
            refine lv_aload_n hx hb dX2_kinds_16 rfl (lv_at hl 0 rfl) ?_
            refine z_get (v := .int (nI (aS A))) hC zf_X2_143_2 hw 0 rfl rfl dX2_kinds_17 ?_
            refine zi_ge (tgt := 91) hx hb (by omega) (by omega) dX2_kinds_20 (by decide) (fun c_20 => ?_) (fun c_20 => ?_)
            · skip
              have hns : n = aS A := by omega
              rw [hns] at hl
              refine lv_iload_n hx hb dX2_kinds_91 rfl (lv_at hl 1 rfl) ?_
              have join_103 : ∀ (x : Nat), (x = if dB (∀ k, k < (aS A) → sightN kd ((aSg A) (4 * k)) ((aSg A) (4 * k + 1)) = 4 * (aSg A) (4 * k + 2) + (aSg A) (4 * k + 3)) = true then 2 ^ kd else 0) → ∀ (H : Heap) (locs : List Loc) (ls : Array Slot), zS G ((mo, zo 2 (mF q (f 1) (f 2) (f 3) (f 4) (f 5) (f 6) (f 7) (f 8) (f 14) (nI (aS A)))) :: (q 0, zc G 0 (zI 200 (b 0))) :: (q 9, zc G 0 (zI 46 (b 9))) :: (q 10, zc G 0 (zI 46 (b 10))) :: (q 11, zc G 0 (zI 46 (b 11))) :: (q 12, zc G 0 (zI 46 (b 12))) :: (q 13, zc G 0 (zI 368 (b 13))) :: (q 15, zc G 0 (zI 92 (b 15))) :: (q 16, zc G 3 (zI 2 (b 16))) :: (q 17, zc G 0 (zI 5 (b 17))) :: (q 18, zc G 0 (zI 24 (b 18))) :: (q 20, zc G 0 (zI 3 (b 20))) :: (q 21, zc G 0 (zI 3 (b 21))) :: (q 22, zc G 0 (zI 3 (b 22))) :: (q 23, zc G 0 (zI 36 (b 23))) :: (q 24, zc G 0 (zI 36 (b 24))) :: rest) s H locs → lv_has ls 5 [(0, .ref mo), (1, .int (nI (orB (fun kd => dB (∀ k, k < (aS A) → sightN kd ((aSg A) (4 * k)) ((aSg A) (4 * k + 1)) = 4 * (aSg A) (4 * k + 2) + (aSg A) (4 * k + 3))) kd))), (2, .int (nI kd))] → W p l e (zR 2 0 0) s m args below meth c H locs 0 0 Q (F0 m 103 ls [.int (nI x), .int (nI (orB (fun kd => dB (∀ k, k < (aS A) → sightN kd ((aSg A) (4 * k)) ((aSg A) (4 * k + 1)) = 4 * (aSg A) (4 * k + 2) + (aSg A) (4 * k + 3))) kd))]) := by
                intro x hj H locs ls hw hl
                subst hj
                refine zv_ior (v := (nI ((orB (fun kd => dB (∀ k, k < (aS A) → sightN kd ((aSg A) (4 * k)) ((aSg A) (4 * k + 1)) = 4 * (aSg A) (4 * k + 2) + (aSg A) (4 * k + 3))) kd) ||| (if dB (∀ k, k < (aS A) → sightN kd ((aSg A) (4 * k)) ((aSg A) (4 * k + 1)) = 4 * (aSg A) (4 * k + 2) + (aSg A) (4 * k + 3)) = true then 2 ^ kd else 0)))) hx hb (nI_or _ _) dX2_kinds_103 ?_
                refine lv_istore_n (lv' := [(1, .int (nI ((orB (fun kd => dB (∀ k, k < (aS A) → sightN kd ((aSg A) (4 * k)) ((aSg A) (4 * k + 1)) = 4 * (aSg A) (4 * k + 2) + (aSg A) (4 * k + 3))) kd) ||| (if dB (∀ k, k < (aS A) → sightN kd ((aSg A) (4 * k)) ((aSg A) (4 * k + 1)) = 4 * (aSg A) (4 * k + 2) + (aSg A) (4 * k + 3)) = true then 2 ^ kd else 0)))), (0, .ref mo), (2, .int (nI kd))]) hx hb dX2_kinds_104 rfl hl (by decide) rfl (fun ls hl => ?_)
                refine lv_iinc (v := (nI (kd + 1))) (lv' := [(2, .int (nI (kd + 1))), (1, .int (nI ((orB (fun kd => dB (∀ k, k < (aS A) → sightN kd ((aSg A) (4 * k)) ((aSg A) (4 * k + 1)) = 4 * (aSg A) (4 * k + 2) + (aSg A) (4 * k + 3))) kd) ||| (if dB (∀ k, k < (aS A) → sightN kd ((aSg A) (4 * k)) ((aSg A) (4 * k + 1)) = 4 * (aSg A) (4 * k + 2) + (aSg A) (4 * k + 3)) = true then 2 ^ kd else 0)))), (0, .ref mo)]) hx hb dX2_kinds_105 hl (k := 2) rfl (zincn _ 1) (by decide) rfl (fun ls hl => ?_)
                refine lv_goto (tgt := 4) hx hb dX2_kinds_108 (by decide) ?_
                exact ih_4 (kd + 1) (by omega) (by omega) H locs ls hw (lv_sub hl [2, 1, 0] rfl)
              refine lv_iload_n hx hb dX2_kinds_92 rfl (lv_at hl 3 rfl) ?_
              refine zb_eq (tgt := 102) hx hb dX2_kinds_93 (by decide) (fun c_93 => ?_) (fun c_93 => ?_)
              · skip
                refine lv_iconst (v := (nI 0)) hx hb dX2_kinds_102 zk_0 ?_
                exact join_103 0 (by first | rw [if_pos (dB_t c_93)] | rw [if_neg (by rw [dB_f c_93]; decide)]) H locs ls hw (lv_sub hl [0, 1, 2] rfl)
              · skip
                refine lv_iconst (v := (nI 1)) hx hb dX2_kinds_96 zk_1 ?_
                refine lv_iload_n hx hb dX2_kinds_97 rfl (lv_at hl 2 rfl) ?_
                refine zv_ishl (v := (nI (2 ^ kd))) hx hb (nI_shl1 (by omega)) dX2_kinds_98 ?_
                refine lv_goto (tgt := 103) hx hb dX2_kinds_99 (by decide) ?_
                exact join_103 (2 ^ kd) (by first | rw [if_pos (dB_t c_93)] | rw [if_neg (by rw [dB_f c_93]; decide)]) H locs ls hw (lv_sub hl [0, 1, 2] rfl)
            · skip
              have hsb := hSb n (by omega)
              unfold okSg at hsb
              have join_84 : ∀ (z : Int32), (z = bI (∀ k, k < (n + 1) → sightN kd ((aSg A) (4 * k)) ((aSg A) (4 * k + 1)) = 4 * (aSg A) (4 * k + 2) + (aSg A) (4 * k + 3))) → ∀ (H : Heap) (locs : List Loc) (ls : Array Slot), zS G ((mo, zo 2 (mF q (f 1) (f 2) (f 3) (f 4) (f 5) (f 6) (f 7) (f 8) (f 14) (nI (aS A)))) :: (q 0, zc G 0 (zI 200 (b 0))) :: (q 9, zc G 0 (zI 46 (b 9))) :: (q 10, zc G 0 (zI 46 (b 10))) :: (q 11, zc G 0 (zI 46 (b 11))) :: (q 12, zc G 0 (zI 46 (b 12))) :: (q 13, zc G 0 (zI 368 (b 13))) :: (q 15, zc G 0 (zI 92 (b 15))) :: (q 16, zc G 3 (zI 2 (b 16))) :: (q 17, zc G 0 (zI 5 (b 17))) :: (q 18, zc G 0 (zI 24 (b 18))) :: (q 20, zc G 0 (zI 3 (b 20))) :: (q 21, zc G 0 (zI 3 (b 21))) :: (q 22, zc G 0 (zI 3 (b 22))) :: (q 23, zc G 0 (zI 36 (b 23))) :: (q 24, zc G 0 (zI 36 (b 24))) :: rest) s H locs → lv_has ls 5 [(0, .ref mo), (1, .int (nI (orB (fun kd => dB (∀ k, k < (aS A) → sightN kd ((aSg A) (4 * k)) ((aSg A) (4 * k + 1)) = 4 * (aSg A) (4 * k + 2) + (aSg A) (4 * k + 3))) kd))), (2, .int (nI kd)), (3, .int (bI (∀ k, k < n → sightN kd ((aSg A) (4 * k)) ((aSg A) (4 * k + 1)) = 4 * (aSg A) (4 * k + 2) + (aSg A) (4 * k + 3)))), (4, .int (nI n))] → W p l e (zR 2 0 0) s m args below meth c H locs 0 0 Q (F0 m 84 ls [.int z]) := by
                intro z hz H locs ls hw hl
                subst hz
                refine lv_istore_n (lv' := [(3, .int (bI (∀ k, k < (n + 1) → sightN kd ((aSg A) (4 * k)) ((aSg A) (4 * k + 1)) = 4 * (aSg A) (4 * k + 2) + (aSg A) (4 * k + 3)))), (0, .ref mo), (1, .int (nI (orB (fun kd => dB (∀ k, k < (aS A) → sightN kd ((aSg A) (4 * k)) ((aSg A) (4 * k + 1)) = 4 * (aSg A) (4 * k + 2) + (aSg A) (4 * k + 3))) kd))), (2, .int (nI kd)), (4, .int (nI n))]) hx hb dX2_kinds_84 rfl hl (by decide) rfl (fun ls hl => ?_)
                refine lv_iinc (v := (nI (n + 1))) (lv' := [(4, .int (nI (n + 1))), (3, .int (bI (∀ k, k < (n + 1) → sightN kd ((aSg A) (4 * k)) ((aSg A) (4 * k + 1)) = 4 * (aSg A) (4 * k + 2) + (aSg A) (4 * k + 3)))), (0, .ref mo), (1, .int (nI (orB (fun kd => dB (∀ k, k < (aS A) → sightN kd ((aSg A) (4 * k)) ((aSg A) (4 * k + 1)) = 4 * (aSg A) (4 * k + 2) + (aSg A) (4 * k + 3))) kd))), (2, .int (nI kd))]) hx hb dX2_kinds_85 hl (k := 4) rfl (zincn _ 1) (by decide) rfl (fun ls hl => ?_)
                refine lv_goto (tgt := 14) hx hb dX2_kinds_88 (by decide) ?_
                exact ih_14 (n + 1) (by omega) (by omega) H locs ls hw (lv_sub hl [2, 3, 4, 1, 0] rfl)
              refine lv_iload_n hx hb dX2_kinds_23 rfl (lv_at hl 3 rfl) ?_
              refine zb_eq (tgt := 83) hx hb dX2_kinds_24 (by decide) (fun c_24 => ?_) (fun c_24 => ?_)
              · skip
                refine lv_iconst (v := (nI 0)) hx hb dX2_kinds_83 zk_0 ?_
                exact join_84 (nI 0) (by first | (exact (bI_t (all_succ c_24 c_76)).symm) | (exact (bI_f (fun h => c_24 (fun k hk => h k (by omega)))).symm) | (exact (bI_f (fun h => c_76 (h n (by omega)))).symm)) H locs ls hw (lv_sub hl [0, 1, 2, 3, 4] rfl)
              · skip
                refine lv_iload_n hx hb dX2_kinds_27 rfl (lv_at hl 2 rfl) ?_
                refine lv_aload_n hx hb dX2_kinds_28 rfl (lv_at hl 0 rfl) ?_
                refine z_get (v := .ref (q 18)) hC zf_X2_38_2 hw 0 rfl rfl dX2_kinds_29 ?_
                refine lv_iconst (v := (nI 4)) hx hb dX2_kinds_32 zk_4 ?_
                refine lv_iload hx hb dX2_kinds_33 (lv_at hl 4 rfl) ?_
                refine zn_imul hx hb dX2_kinds_35 ?_
                refine z_iald (x := (nI ((aSg A) (4 * n)))) hC hw 10 rfl (by omega) (by decide) (hSg _ (by omega)) dX2_kinds_36 ?_
                refine lv_aload_n hx hb dX2_kinds_37 rfl (lv_at hl 0 rfl) ?_
                refine z_get (v := .ref (q 18)) hC zf_X2_38_2 hw 0 rfl rfl dX2_kinds_38 ?_
                refine lv_iconst (v := (nI 4)) hx hb dX2_kinds_41 zk_4 ?_
                refine lv_iload hx hb dX2_kinds_42 (lv_at hl 4 rfl) ?_
                refine zn_imul hx hb dX2_kinds_44 ?_
                refine lv_iconst (v := (nI 1)) hx hb dX2_kinds_45 zk_1 ?_
                refine zn_iadd hx hb dX2_kinds_46 ?_
                refine z_iald (x := (nI ((aSg A) (4 * n + 1)))) hC hw 10 rfl (by omega) (by decide) (hSg _ (by omega)) dX2_kinds_47 ?_
                refine z_ci (z_runS (As := [.int (nI kd), .int (nI ((aSg A) (4 * n))), .int (nI ((aSg A) (4 * n + 1)))]) (rest := []) hC zs_X2_219 (m_X2_sightOf G l kd ((aSg A) (4 * n)) ((aSg A) (4 * n + 1)) (by omega) (by omega) (by omega) _) hw rfl rfl (Nat.le_of_ble_eq_true rfl) hl.1 ⟨Nat.le_of_ble_eq_true rfl, Nat.le_of_ble_eq_true rfl⟩ ⟨(Nat.le_of_ble_eq_true rfl), (Nat.le_of_ble_eq_true rfl)⟩ dX2_kinds_48) hw (fun _ => List.Perm.refl _) (fun r u H locs hp hw => ?_)
                obtain rfl : r = nI (sightN kd ((aSg A) (4 * n)) ((aSg A) (4 * n + 1))) := hp
                refine lv_iconst (v := (nI 4)) hx hb dX2_kinds_51 zk_4 ?_
                refine lv_aload_n hx hb dX2_kinds_52 rfl (lv_at hl 0 rfl) ?_
                refine z_get (v := .ref (q 18)) hC zf_X2_38_2 hw 0 rfl rfl dX2_kinds_53 ?_
                refine lv_iconst (v := (nI 4)) hx hb dX2_kinds_56 zk_4 ?_
                refine lv_iload hx hb dX2_kinds_57 (lv_at hl 4 rfl) ?_
                refine zn_imul hx hb dX2_kinds_59 ?_
                refine lv_iconst (v := (nI 2)) hx hb dX2_kinds_60 zk_2 ?_
                refine zn_iadd hx hb dX2_kinds_61 ?_
                refine z_iald (x := (nI ((aSg A) (4 * n + 2)))) hC hw 10 rfl (by omega) (by decide) (hSg _ (by omega)) dX2_kinds_62 ?_
                refine zn_imul hx hb dX2_kinds_63 ?_
                refine lv_aload_n hx hb dX2_kinds_64 rfl (lv_at hl 0 rfl) ?_
                refine z_get (v := .ref (q 18)) hC zf_X2_38_2 hw 0 rfl rfl dX2_kinds_65 ?_
                refine lv_iconst (v := (nI 4)) hx hb dX2_kinds_68 zk_4 ?_
                refine lv_iload hx hb dX2_kinds_69 (lv_at hl 4 rfl) ?_
                refine zn_imul hx hb dX2_kinds_71 ?_
                refine lv_iconst (v := (nI 3)) hx hb dX2_kinds_72 zk_3 ?_
                refine zn_iadd hx hb dX2_kinds_73 ?_
                refine z_iald (x := (nI ((aSg A) (4 * n + 3)))) hC hw 10 rfl (by omega) (by decide) (hSg _ (by omega)) dX2_kinds_74 ?_
                refine zn_iadd hx hb dX2_kinds_75 ?_
                refine zi_ne (tgt := 83) hx hb (sightN_lt (by omega)) (by omega) dX2_kinds_76 (by decide) (fun c_76 => ?_) (fun c_76 => ?_)
                · skip
                  refine lv_iconst (v := (nI 0)) hx hb dX2_kinds_83 zk_0 ?_
                  exact join_84 (nI 0) (by first | (exact (bI_t (all_succ c_24 c_76)).symm) | (exact (bI_f (fun h => c_24 (fun k hk => h k (by omega)))).symm) | (exact (bI_f (fun h => c_76 (h n (by omega)))).symm)) H locs ls hw (lv_sub hl [0, 1, 2, 3, 4] rfl)
                · skip
                  refine lv_iconst (v := (nI 1)) hx hb dX2_kinds_79 zk_1 ?_
                  refine lv_goto (tgt := 84) hx hb dX2_kinds_80 (by decide) ?_
                  exact join_84 (nI 1) (by first | (exact (bI_t (all_succ c_24 c_76)).symm) | (exact (bI_f (fun h => c_24 (fun k hk => h k (by omega)))).symm) | (exact (bI_f (fun h => c_76 (h n (by omega)))).symm)) H locs ls hw (lv_sub hl [0, 1, 2, 3, 4] rfl)
        exact loop_14 (((aS A) - 0) + 1) 0 (by omega) (Nat.lt_succ_self _) H locs ls hw (lv_sub hl [2, 3, 4, 1, 0] rfl)
  exact loop_4 ((5 - 0) + 1) 0 (by decide) (Nat.lt_succ_self _) s.heap [] ls hw (lv_sub hl [2, 1, 0] rfl)
def lenT (A : AS) (t : Nat) : Option Nat := match aTr A t with
  | none => none
  | some x => some x.1.length
theorem lenT_le {A : AS} (hA : AOk A) {t n : Nat} (ht : t < 3) (h : lenT A t = some n) : n ≤ 12 := by
  have h2 := hA.2.2.2.2.2.2 t ht
  unfold lenT at h
  cases hx : aTr A t with
  | none => rw [hx] at h; cases h
  | some x =>
    obtain ⟨a, c, d⟩ := x
    rw [hx] at h
    cases h
    exact (h2 a c d hx).1
theorem lenT_at {A : AS} {b : Nat → Nat → Int32} {t : Nat} (h : tRel b t (aTr A t)) : b 20 t = optI (lenT A t) := by
  unfold lenT
  cases hx : aTr A t with
  | none => rw [hx] at h; exact h
  | some x =>
    obtain ⟨a, c, d⟩ := x
    rw [hx] at h
    exact h.1
theorem thTo_none {A : AS} {t : Nat} (h : lenT A t = none) : thTo A (t + 1) = thTo A t := by
  unfold lenT at h
  rw [thTo]
  cases hx : aTr A t with
  | none => rfl
  | some x => rw [hx] at h; cases h
theorem thTo_some {A : AS} {t n : Nat} (h : lenT A t = some n) : thTo A (t + 1) = thTo A t + n := by
  unfold lenT at h
  rw [thTo]
  cases hx : aTr A t with
  | none => rw [hx] at h; cases h
  | some x => rw [hx] at h; cases h; rfl
theorem zf_X2_41_2 : zFl 2 20 RX2 41 true (.array .int) := ⟨RX2, TX2, 25, tyX2, rfl, by decide, in_X2, q1818, rfl, by decide +kernel, tyX2_ok, nmX2⟩
set_option maxHeartbeats 4000000 in
theorem m_X2_things (G : zE) (l : Launch) (mo : Nat) (q : Nat → Nat) (le : Int32) (at1 : Int32) (st : Int32) (tk : Int32) (ln : Int32) (va : Int32) (wr : Int32) (cl : Int32) (un : Int32) (si : Int32) (A : AS) (g20 : Nat → Int32) (hA : AOk A) (hg : ∀ t, t < 3 → g20 t = optI (lenT A t)) (rest : va_W) : zMi G l yX2_things cX2_things 3 (some .int) 0 0 0 [.ref mo] ((mo, zo 2 (mF q le at1 st tk ln va wr cl un si)) :: (q 20, zc G 0 (zI 3 g20)) :: rest) (fun (r : Int32) (_ : Unit) => r = nI (thTo A 3)) (fun (_ : Unit) => (mo, zo 2 (mF q le at1 st tk ln va wr cl un si)) :: (q 20, zc G 0 (zI 3 g20)) :: rest) := by
  refine z_begI (by decide) (Nat.le_of_ble_eq_true rfl) (fun p e s m args below meth c ls Q hC hl hw hend => ?_)
  have hx := hC.hx
  have hb := hC.hb
  have hl : lv_has ls 3 [(0, .ref mo)] := hl
  have hw : zS G ((mo, zo 2 (mF q le at1 st tk ln va wr cl un si)) :: (q 20, zc G 0 (zI 3 g20)) :: rest) s s.heap [] := hw
  refine lv_iconst (v := (nI 0)) hx hb dX2_things_0 zk_0 ?_
  refine lv_istore_n (lv' := [(1, .int (nI 0)), (0, .ref mo)]) hx hb dX2_things_1 rfl hl (by decide) rfl (fun ls hl => ?_)
  refine lv_iconst (v := (nI 0)) hx hb dX2_things_2 zk_0 ?_
  refine lv_istore_n (lv' := [(2, .int (nI 0)), (1, .int (nI 0)), (0, .ref mo)]) hx hb dX2_things_3 rfl hl (by decide) rfl (fun ls hl => ?_)
  have loop_4 : ∀ (fuel : Nat) (t : Nat), (t ≤ 3) → (3 - t) < fuel → ∀ (H : Heap) (locs : List Loc) (ls : Array Slot), zS G ((mo, zo 2 (mF q le at1 st tk ln va wr cl un si)) :: (q 20, zc G 0 (zI 3 g20)) :: rest) s H locs → lv_has ls 3 [(0, .ref mo), (1, .int (nI (thTo A t))), (2, .int (nI t))] → W p l e (zR 0 0 0) s m args below meth c H locs 0 0 Q (F0 m 4 ls []) := by
    intro fuel
    induction fuel with
    | zero => intro t ht hfuel; exact absurd hfuel (Nat.not_lt_zero _)
    | succ fuel_4 ih_4 =>
      intro t ht hfuel_4 H locs ls hw hl
      refine lv_iload_n hx hb dX2_things_4 rfl (lv_at hl 2 rfl) ?_
      refine lv_iconst (v := (nI 3)) hx hb dX2_things_5 zk_3 ?_
      refine zi_ge (tgt := 38) hx hb (by omega) (by decide) dX2_things_6 (by decide) (fun c_6 => ?_) (fun c_6 => ?_)
      · skip
        refine lv_iload_n hx hb dX2_things_38 rfl (lv_at hl 1 rfl) ?_
        exact hend _ _ _ _ _ _ _ () hw (by rw [show t = 3 by omega]) (Nat.le_of_ble_eq_true rfl) (Nat.le_of_ble_eq_true rfl) dX2_things_39
      · skip
        have join_30 : ∀ (x : Nat), (thTo A t + x = thTo A (t + 1)) → ∀ (H : Heap) (locs : List Loc) (ls : Array Slot), zS G ((mo, zo 2 (mF q le at1 st tk ln va wr cl un si)) :: (q 20, zc G 0 (zI 3 g20)) :: rest) s H locs → lv_has ls 3 [(0, .ref mo), (1, .int (nI (thTo A t))), (2, .int (nI t))] → W p l e (zR 0 0 0) s m args below meth c H locs 0 0 Q (F0 m 30 ls [.int (nI x), .int (nI (thTo A t))]) := by
          intro x hx9 H locs ls hw hl
          refine zv_iadd (v := (nI (thTo A (t + 1)))) hx hb ((nI_add _ _).trans (congrArg nI hx9)) dX2_things_30 ?_
          refine lv_istore_n (lv' := [(1, .int (nI (thTo A (t + 1)))), (0, .ref mo), (2, .int (nI t))]) hx hb dX2_things_31 rfl hl (by decide) rfl (fun ls hl => ?_)
          refine lv_iinc (v := (nI (t + 1))) (lv' := [(2, .int (nI (t + 1))), (1, .int (nI (thTo A (t + 1)))), (0, .ref mo)]) hx hb dX2_things_32 hl (k := 2) rfl (zincn _ 1) (by decide) rfl (fun ls hl => ?_)
          refine lv_goto (tgt := 4) hx hb dX2_things_35 (by decide) ?_
          exact ih_4 (t + 1) (by omega) (by omega) H locs ls hw (lv_sub hl [2, 1, 0] rfl)
        refine lv_iload_n hx hb dX2_things_9 rfl (lv_at hl 1 rfl) ?_
        refine lv_aload_n hx hb dX2_things_10 rfl (lv_at hl 0 rfl) ?_
        refine z_get (v := .ref (q 20)) hC zf_X2_41_2 hw 0 rfl rfl dX2_things_11 ?_
        refine lv_iload_n hx hb dX2_things_14 rfl (lv_at hl 2 rfl) ?_
        refine z_iald (x := (optI (lenT A t))) hC hw 1 rfl (by omega) (by decide) (hg t (by omega)) dX2_things_15 ?_
        rcases hln : lenT A t with _ | n9
        · skip
          have hl : lv_has ls 3 [(0, .ref mo), (1, .int (nI (thTo A t))), (2, .int (nI t))] := hl
          have hw : zS G ((mo, zo 2 (mF q le at1 st tk ln va wr cl un si)) :: (q 20, zc G 0 (zI 3 g20)) :: rest) s H locs := hw
          refine lv_iconst (v := -1) hx hb dX2_things_16 zk_m1 ?_
          refine lv_icmp_ne (tgt := 24) hx hb dX2_things_17 (by decide) (fun h => absurd h (by decide)) (fun _ => ?_)
          refine lv_iconst (v := (nI 0)) hx hb dX2_things_20 zk_0 ?_
          refine lv_goto (tgt := 30) hx hb dX2_things_21 (by decide) ?_
          exact join_30 0 (by first | exact (thTo_none hln).symm | exact (thTo_some hln).symm) H locs ls hw (lv_sub hl [0, 1, 2] rfl)
        · skip
          have hn9 := lenT_le hA (by omega) hln
          have hl : lv_has ls 3 [(0, .ref mo), (1, .int (nI (thTo A t))), (2, .int (nI t))] := hl
          have hw : zS G ((mo, zo 2 (mF q le at1 st tk ln va wr cl un si)) :: (q 20, zc G 0 (zI 3 g20)) :: rest) s H locs := hw
          refine lv_iconst (v := -1) hx hb dX2_things_16 zk_m1 ?_
          refine lv_icmp_ne (tgt := 24) hx hb dX2_things_17 (by decide) (fun _ => ?_) (fun h => absurd h (nI_nm1 (by omega)))
          refine lv_aload_n hx hb dX2_things_24 rfl (lv_at hl 0 rfl) ?_
          refine z_get (v := .ref (q 20)) hC zf_X2_41_2 hw 0 rfl rfl dX2_things_25 ?_
          refine lv_iload_n hx hb dX2_things_28 rfl (lv_at hl 2 rfl) ?_
          refine z_iald (x := (nI n9)) hC hw 1 rfl (by omega) (by decide) ((hg t (by omega)).trans (congrArg optI hln)) dX2_things_29 ?_
          exact join_30 n9 (by first | exact (thTo_none hln).symm | exact (thTo_some hln).symm) H locs ls hw (lv_sub hl [0, 1, 2] rfl)
  exact loop_4 ((3 - 0) + 1) 0 (by decide) (Nat.lt_succ_self _) s.heap [] ls hw (lv_sub hl [2, 1, 0] rfl)
theorem cnt_cases (x : Int32) : (∃ k, k < 10 ∧ x = nI k) ∨ ¬ inR x 0 9 := by
  rcases Classical.em (inR x 0 9) with ⟨k, h1, h2, h3⟩ | h
  · exact Or.inl ⟨k, by omega, h3⟩
  · exact Or.inr h
theorem cnt_out {x : Int32} (h : ¬ inR x 0 9) : x.toInt < 0 ∨ 9 < x.toInt := by
  by_cases q : x.toInt < 0
  · exact Or.inl q
  · by_cases r : 9 < x.toInt
    · exact Or.inr r
    · exfalso
      refine h ⟨x.toInt.toNat, Nat.zero_le _, by omega, ?_⟩
      apply Int32.toInt_inj.mp
      rw [nI_toInt (by omega)]
      omega
theorem cnt_in {k : Nat} (h : k < 10) : k = 0 ∨ k = 1 ∨ k = 2 ∨ k = 3 ∨ k = 4 ∨ k = 5 ∨ k = 6 ∨ k = 7 ∨ k = 8 ∨ k = 9 := by omega
theorem F_count_in (A : AS) (k : Nat) (h : k < 10) : F_count A (nI k) = cntN A k := by
  unfold F_count
  rw [ifP_t ⟨k, Nat.zero_le _, by omega, rfl⟩, cl_nI (by omega)]
theorem zv_X2_240 : zVs RX2 240 yX2_nutsOfAll cX2_nutsOfAll 3 (some .int) 0 := ⟨lw_V q2164 q2166 qs46 q53 q2167, ⟨by decide +kernel, by decide +kernel⟩, by decide +kernel⟩
theorem zv_X2_243 : zVs RX2 243 yX2_things cX2_things 3 (some .int) 0 := ⟨lw_V q2168 q2170 qs47 q53 q2171, ⟨by decide +kernel, by decide +kernel⟩, by decide +kernel⟩
set_option maxHeartbeats 4000000 in
theorem m_X2_count (G : zE) (l : Launch) (mo : Nat) (q : Nat → Nat) (A : AS) (b : Nat → Nat → Int32) (f : Nat → Int32) (hA : AOk A) (hM : MRel A b f) (x : Int32) (rest : va_W) : zMi G l yX2_count cX2_count 2 (some .int) 2 0 0 [.ref mo, .int x] ((mo, zo 2 (mF q (f 1) (f 2) (f 3) (f 4) (f 5) (f 6) (f 7) (f 8) (f 14) (f 19))) :: (q 0, zc G 0 (zI 200 (b 0))) :: (q 9, zc G 0 (zI 46 (b 9))) :: (q 10, zc G 0 (zI 46 (b 10))) :: (q 11, zc G 0 (zI 46 (b 11))) :: (q 12, zc G 0 (zI 46 (b 12))) :: (q 13, zc G 0 (zI 368 (b 13))) :: (q 15, zc G 0 (zI 92 (b 15))) :: (q 16, zc G 3 (zI 2 (b 16))) :: (q 17, zc G 0 (zI 5 (b 17))) :: (q 18, zc G 0 (zI 24 (b 18))) :: (q 20, zc G 0 (zI 3 (b 20))) :: (q 21, zc G 0 (zI 3 (b 21))) :: (q 22, zc G 0 (zI 3 (b 22))) :: (q 23, zc G 0 (zI 36 (b 23))) :: (q 24, zc G 0 (zI 36 (b 24))) :: rest) (fun (r : Int32) (u : MB) => r = F_count A x ∧ MRel A u.1 u.2) (fun (u : MB) => (mo, zo 2 (mF q (u.2 1) (u.2 2) (u.2 3) (u.2 4) (u.2 5) (u.2 6) (u.2 7) (u.2 8) (u.2 14) (u.2 19))) :: (q 0, zc G 0 (zI 200 (u.1 0))) :: (q 9, zc G 0 (zI 46 (u.1 9))) :: (q 10, zc G 0 (zI 46 (u.1 10))) :: (q 11, zc G 0 (zI 46 (u.1 11))) :: (q 12, zc G 0 (zI 46 (u.1 12))) :: (q 13, zc G 0 (zI 368 (u.1 13))) :: (q 15, zc G 0 (zI 92 (u.1 15))) :: (q 16, zc G 3 (zI 2 (u.1 16))) :: (q 17, zc G 0 (zI 5 (u.1 17))) :: (q 18, zc G 0 (zI 24 (u.1 18))) :: (q 20, zc G 0 (zI 3 (u.1 20))) :: (q 21, zc G 0 (zI 3 (u.1 21))) :: (q 22, zc G 0 (zI 3 (u.1 22))) :: (q 23, zc G 0 (zI 36 (u.1 23))) :: (q 24, zc G 0 (zI 36 (u.1 24))) :: rest) := by
  refine z_begI (by decide) (Nat.le_of_ble_eq_true rfl) (fun p e s m args below meth c ls Q hC hl hw hend => ?_)
  have hx := hC.hx
  have hb := hC.hb
  have hl : lv_has ls 2 [(0, .ref mo), (1, .int x)] := hl
  have hw : zS G ((mo, zo 2 (mF q (f 1) (f 2) (f 3) (f 4) (f 5) (f 6) (f 7) (f 8) (f 14) (f 19))) :: (q 0, zc G 0 (zI 200 (b 0))) :: (q 9, zc G 0 (zI 46 (b 9))) :: (q 10, zc G 0 (zI 46 (b 10))) :: (q 11, zc G 0 (zI 46 (b 11))) :: (q 12, zc G 0 (zI 46 (b 12))) :: (q 13, zc G 0 (zI 368 (b 13))) :: (q 15, zc G 0 (zI 92 (b 15))) :: (q 16, zc G 3 (zI 2 (b 16))) :: (q 17, zc G 0 (zI 5 (b 17))) :: (q 18, zc G 0 (zI 24 (b 18))) :: (q 20, zc G 0 (zI 3 (b 20))) :: (q 21, zc G 0 (zI 3 (b 21))) :: (q 22, zc G 0 (zI 3 (b 22))) :: (q 23, zc G 0 (zI 36 (b 23))) :: (q 24, zc G 0 (zI 36 (b 24))) :: rest) s s.heap [] := hw
  have hA9 := hA
  obtain ⟨⟨hT, hL⟩, hV0, hV, ⟨hU, hUs⟩, hKp, ⟨hSi, hSg⟩, hTr⟩ := hM
  obtain ⟨⟨hL2, hT2⟩, hB0, hBv, ⟨hU8, hUb⟩, hKb, ⟨hS6, hSb⟩, hTb⟩ := hA
  have hH : Hw (aV A) := hBv.1.1
  have hday := hBv.2.2
  have hw := hw.cellI 4 rfl (g := vI (aV A)) (fun j hj => by have := hV j hj; rwa [Nat.zero_add] at this)
  have hw := hw.tail (c' := (mo, zo 2 (mF q (nI (aL A)) (f 2) (f 3) (f 4) (f 5) (f 6) (f 7) (f 8) (nI (aU A)) (nI (aS A))))) (by rw [hL, hU, hSi])
  have hw : zS G ((mo, zo 2 (mF q (nI (aL A)) (f 2) (f 3) (f 4) (f 5) (f 6) (f 7) (f 8) (nI (aU A)) (nI (aS A)))) :: (q 0, zc G 0 (zI 200 (b 0))) :: (q 9, zc G 0 (zI 46 (b 9))) :: (q 10, zc G 0 (zI 46 (b 10))) :: (q 11, zc G 0 (zI 46 (vI (aV A)))) :: (q 12, zc G 0 (zI 46 (b 12))) :: (q 13, zc G 0 (zI 368 (b 13))) :: (q 15, zc G 0 (zI 92 (b 15))) :: (q 16, zc G 3 (zI 2 (b 16))) :: (q 17, zc G 0 (zI 5 (b 17))) :: (q 18, zc G 0 (zI 24 (b 18))) :: (q 20, zc G 0 (zI 3 (b 20))) :: (q 21, zc G 0 (zI 3 (b 21))) :: (q 22, zc G 0 (zI 3 (b 22))) :: (q 23, zc G 0 (zI 36 (b 23))) :: (q 24, zc G 0 (zI 36 (b 24))) :: rest) s s.heap [] := hw
  rcases cnt_cases x with ⟨k, hk, rfl⟩ | hout
  · skip
    have hl : lv_has ls 2 [(0, .ref mo), (1, .int (nI k))] := hl
    have hw : zS G ((mo, zo 2 (mF q (nI (aL A)) (f 2) (f 3) (f 4) (f 5) (f 6) (f 7) (f 8) (nI (aU A)) (nI (aS A)))) :: (q 0, zc G 0 (zI 200 (b 0))) :: (q 9, zc G 0 (zI 46 (b 9))) :: (q 10, zc G 0 (zI 46 (b 10))) :: (q 11, zc G 0 (zI 46 (vI (aV A)))) :: (q 12, zc G 0 (zI 46 (b 12))) :: (q 13, zc G 0 (zI 368 (b 13))) :: (q 15, zc G 0 (zI 92 (b 15))) :: (q 16, zc G 3 (zI 2 (b 16))) :: (q 17, zc G 0 (zI 5 (b 17))) :: (q 18, zc G 0 (zI 24 (b 18))) :: (q 20, zc G 0 (zI 3 (b 20))) :: (q 21, zc G 0 (zI 3 (b 21))) :: (q 22, zc G 0 (zI 3 (b 22))) :: (q 23, zc G 0 (zI 36 (b 23))) :: (q 24, zc G 0 (zI 36 (b 24))) :: rest) s s.heap [] := hw
    refine lv_iload_n hx hb dX2_count_0 rfl (lv_at hl 1 rfl) ?_
    rcases cnt_in hk with rfl | rfl | rfl | rfl | rfl | rfl | rfl | rfl | rfl | rfl
    · skip
      have hl : lv_has ls 2 [(0, .ref mo), (1, .int (nI 0))] := hl
      have hw : zS G ((mo, zo 2 (mF q (nI (aL A)) (f 2) (f 3) (f 4) (f 5) (f 6) (f 7) (f 8) (nI (aU A)) (nI (aS A)))) :: (q 0, zc G 0 (zI 200 (b 0))) :: (q 9, zc G 0 (zI 46 (b 9))) :: (q 10, zc G 0 (zI 46 (b 10))) :: (q 11, zc G 0 (zI 46 (vI (aV A)))) :: (q 12, zc G 0 (zI 46 (b 12))) :: (q 13, zc G 0 (zI 368 (b 13))) :: (q 15, zc G 0 (zI 92 (b 15))) :: (q 16, zc G 3 (zI 2 (b 16))) :: (q 17, zc G 0 (zI 5 (b 17))) :: (q 18, zc G 0 (zI 24 (b 18))) :: (q 20, zc G 0 (zI 3 (b 20))) :: (q 21, zc G 0 (zI 3 (b 21))) :: (q 22, zc G 0 (zI 3 (b 22))) :: (q 23, zc G 0 (zI 36 (b 23))) :: (q 24, zc G 0 (zI 36 (b 24))) :: rest) s s.heap [] := hw
      refine lv_tableIn (off := 55) (tgt := 56) hx hb dX2_count_1 (by decide) (by decide) (by decide) (by decide) ?_
      refine lv_aload_n hx hb dX2_count_56 rfl (lv_at hl 0 rfl) ?_
      refine z_get (v := .ref (q 11)) hC zf_X2_19_2 hw 0 rfl rfl dX2_count_57 ?_
      refine lv_iconst (v := (nI 0)) hx hb dX2_count_60 zk_0 ?_
      refine z_iald (x := (nI ((aV A) 0))) hC hw 4 rfl (by decide) (by decide) rfl dX2_count_61 ?_
      exact hend _ _ _ _ _ _ _ ((bU b 11 (vI (aV A))), mf (nI (aL A)) (f 2) (f 3) (f 4) (f 5) (f 6) (f 7) (f 8) (nI (aU A)) (nI (aS A))) hw ⟨(F_count_in A 0 (by decide)).symm, ⟨⟨hT, rfl⟩, hV0, rH_vI, ⟨rfl, hUs⟩, hKp, ⟨rfl, hSg⟩, (fun t ht => tRel_of rfl rfl rfl rfl rfl (hTr t ht))⟩⟩ (by omega) (by omega) dX2_count_62
    · skip
      have hl : lv_has ls 2 [(0, .ref mo), (1, .int (nI 1))] := hl
      have hw : zS G ((mo, zo 2 (mF q (nI (aL A)) (f 2) (f 3) (f 4) (f 5) (f 6) (f 7) (f 8) (nI (aU A)) (nI (aS A)))) :: (q 0, zc G 0 (zI 200 (b 0))) :: (q 9, zc G 0 (zI 46 (b 9))) :: (q 10, zc G 0 (zI 46 (b 10))) :: (q 11, zc G 0 (zI 46 (vI (aV A)))) :: (q 12, zc G 0 (zI 46 (b 12))) :: (q 13, zc G 0 (zI 368 (b 13))) :: (q 15, zc G 0 (zI 92 (b 15))) :: (q 16, zc G 3 (zI 2 (b 16))) :: (q 17, zc G 0 (zI 5 (b 17))) :: (q 18, zc G 0 (zI 24 (b 18))) :: (q 20, zc G 0 (zI 3 (b 20))) :: (q 21, zc G 0 (zI 3 (b 21))) :: (q 22, zc G 0 (zI 3 (b 22))) :: (q 23, zc G 0 (zI 36 (b 23))) :: (q 24, zc G 0 (zI 36 (b 24))) :: rest) s s.heap [] := hw
      refine lv_tableIn (off := 62) (tgt := 63) hx hb dX2_count_1 (by decide) (by decide) (by decide) (by decide) ?_
      refine lv_aload_n hx hb dX2_count_63 rfl (lv_at hl 0 rfl) ?_
      refine z_get (v := .ref (q 11)) hC zf_X2_19_2 hw 0 rfl rfl dX2_count_64 ?_
      refine lv_iconst (v := (nI 1)) hx hb dX2_count_67 zk_1 ?_
      refine z_iald (x := (nI ((aV A) 1))) hC hw 4 rfl (by decide) (by decide) rfl dX2_count_68 ?_
      exact hend _ _ _ _ _ _ _ ((bU b 11 (vI (aV A))), mf (nI (aL A)) (f 2) (f 3) (f 4) (f 5) (f 6) (f 7) (f 8) (nI (aU A)) (nI (aS A))) hw ⟨(F_count_in A 1 (by decide)).symm, ⟨⟨hT, rfl⟩, hV0, rH_vI, ⟨rfl, hUs⟩, hKp, ⟨rfl, hSg⟩, (fun t ht => tRel_of rfl rfl rfl rfl rfl (hTr t ht))⟩⟩ (by omega) (by omega) dX2_count_69
    · skip
      have hl : lv_has ls 2 [(0, .ref mo), (1, .int (nI 2))] := hl
      have hw : zS G ((mo, zo 2 (mF q (nI (aL A)) (f 2) (f 3) (f 4) (f 5) (f 6) (f 7) (f 8) (nI (aU A)) (nI (aS A)))) :: (q 0, zc G 0 (zI 200 (b 0))) :: (q 9, zc G 0 (zI 46 (b 9))) :: (q 10, zc G 0 (zI 46 (b 10))) :: (q 11, zc G 0 (zI 46 (vI (aV A)))) :: (q 12, zc G 0 (zI 46 (b 12))) :: (q 13, zc G 0 (zI 368 (b 13))) :: (q 15, zc G 0 (zI 92 (b 15))) :: (q 16, zc G 3 (zI 2 (b 16))) :: (q 17, zc G 0 (zI 5 (b 17))) :: (q 18, zc G 0 (zI 24 (b 18))) :: (q 20, zc G 0 (zI 3 (b 20))) :: (q 21, zc G 0 (zI 3 (b 21))) :: (q 22, zc G 0 (zI 3 (b 22))) :: (q 23, zc G 0 (zI 36 (b 23))) :: (q 24, zc G 0 (zI 36 (b 24))) :: rest) s s.heap [] := hw
      refine lv_tableIn (off := 69) (tgt := 70) hx hb dX2_count_1 (by decide) (by decide) (by decide) (by decide) ?_
      refine lv_aload_n hx hb dX2_count_70 rfl (lv_at hl 0 rfl) ?_
      refine z_get (v := .ref (q 11)) hC zf_X2_19_2 hw 0 rfl rfl dX2_count_71 ?_
      refine lv_iconst (v := (nI 2)) hx hb dX2_count_74 zk_2 ?_
      refine z_iald (x := (nI ((aV A) 2))) hC hw 4 rfl (by decide) (by decide) rfl dX2_count_75 ?_
      exact hend _ _ _ _ _ _ _ ((bU b 11 (vI (aV A))), mf (nI (aL A)) (f 2) (f 3) (f 4) (f 5) (f 6) (f 7) (f 8) (nI (aU A)) (nI (aS A))) hw ⟨(F_count_in A 2 (by decide)).symm, ⟨⟨hT, rfl⟩, hV0, rH_vI, ⟨rfl, hUs⟩, hKp, ⟨rfl, hSg⟩, (fun t ht => tRel_of rfl rfl rfl rfl rfl (hTr t ht))⟩⟩ (by omega) (by omega) dX2_count_76
    · skip
      have hl : lv_has ls 2 [(0, .ref mo), (1, .int (nI 3))] := hl
      have hw : zS G ((mo, zo 2 (mF q (nI (aL A)) (f 2) (f 3) (f 4) (f 5) (f 6) (f 7) (f 8) (nI (aU A)) (nI (aS A)))) :: (q 0, zc G 0 (zI 200 (b 0))) :: (q 9, zc G 0 (zI 46 (b 9))) :: (q 10, zc G 0 (zI 46 (b 10))) :: (q 11, zc G 0 (zI 46 (vI (aV A)))) :: (q 12, zc G 0 (zI 46 (b 12))) :: (q 13, zc G 0 (zI 368 (b 13))) :: (q 15, zc G 0 (zI 92 (b 15))) :: (q 16, zc G 3 (zI 2 (b 16))) :: (q 17, zc G 0 (zI 5 (b 17))) :: (q 18, zc G 0 (zI 24 (b 18))) :: (q 20, zc G 0 (zI 3 (b 20))) :: (q 21, zc G 0 (zI 3 (b 21))) :: (q 22, zc G 0 (zI 3 (b 22))) :: (q 23, zc G 0 (zI 36 (b 23))) :: (q 24, zc G 0 (zI 36 (b 24))) :: rest) s s.heap [] := hw
      refine lv_tableIn (off := 76) (tgt := 77) hx hb dX2_count_1 (by decide) (by decide) (by decide) (by decide) ?_
      refine lv_aload_n hx hb dX2_count_77 rfl (lv_at hl 0 rfl) ?_
      refine z_get (v := .ref (q 11)) hC zf_X2_19_2 hw 0 rfl rfl dX2_count_78 ?_
      refine z_ci (z_runS (As := [.ref (q 11)]) (rest := []) hC zs_X2_210 (m_X2_alive G l (q 11) (aV A) hH (zrem [4] _)) (hw.perm (z_cut (is := [4]) (cells := [(q 11, zc G 0 (zI 46 (vI (aV A))))]) rfl rfl)) rfl rfl (Nat.le_of_ble_eq_true rfl) hl.1 ⟨Nat.le_of_ble_eq_true rfl, Nat.le_of_ble_eq_true rfl⟩ ⟨(Nat.le_of_ble_eq_true rfl), (Nat.le_of_ble_eq_true rfl)⟩ dX2_count_81) hw (fun _ => z_keep (is := [4]) (cs := [(q 11, zc G 0 (zI 46 (vI (aV A))))]) rfl rfl) (fun r u H locs hp hw => ?_)
      obtain rfl : r = nI (aliveN (aV A)) := hp
      exact hend _ _ _ _ _ _ _ ((bU b 11 (vI (aV A))), mf (nI (aL A)) (f 2) (f 3) (f 4) (f 5) (f 6) (f 7) (f 8) (nI (aU A)) (nI (aS A))) hw ⟨(F_count_in A 3 (by decide)).symm, ⟨⟨hT, rfl⟩, hV0, rH_vI, ⟨rfl, hUs⟩, hKp, ⟨rfl, hSg⟩, (fun t ht => tRel_of rfl rfl rfl rfl rfl (hTr t ht))⟩⟩ (by omega) (by omega) dX2_count_84
    · skip
      have hl : lv_has ls 2 [(0, .ref mo), (1, .int (nI 4))] := hl
      have hw : zS G ((mo, zo 2 (mF q (nI (aL A)) (f 2) (f 3) (f 4) (f 5) (f 6) (f 7) (f 8) (nI (aU A)) (nI (aS A)))) :: (q 0, zc G 0 (zI 200 (b 0))) :: (q 9, zc G 0 (zI 46 (b 9))) :: (q 10, zc G 0 (zI 46 (b 10))) :: (q 11, zc G 0 (zI 46 (vI (aV A)))) :: (q 12, zc G 0 (zI 46 (b 12))) :: (q 13, zc G 0 (zI 368 (b 13))) :: (q 15, zc G 0 (zI 92 (b 15))) :: (q 16, zc G 3 (zI 2 (b 16))) :: (q 17, zc G 0 (zI 5 (b 17))) :: (q 18, zc G 0 (zI 24 (b 18))) :: (q 20, zc G 0 (zI 3 (b 20))) :: (q 21, zc G 0 (zI 3 (b 21))) :: (q 22, zc G 0 (zI 3 (b 22))) :: (q 23, zc G 0 (zI 36 (b 23))) :: (q 24, zc G 0 (zI 36 (b 24))) :: rest) s s.heap [] := hw
      refine lv_tableIn (off := 84) (tgt := 85) hx hb dX2_count_1 (by decide) (by decide) (by decide) (by decide) ?_
      refine lv_aload_n hx hb dX2_count_85 rfl (lv_at hl 0 rfl) ?_
      refine z_ci (z_runV (As := []) (rest := []) hC zv_X2_240 (m_X2_nutsOfAll G l mo q (nI (aL A)) (f 2) (f 3) (f 4) (f 5) (f 6) (f 7) (f 8) (nI (aU A)) (nI (aS A)) (aV A) hH (zrem [0, 4] _)) hw (hw.perm (z_cut (is := [0, 4]) (cells := [(mo, zo 2 (mF q (nI (aL A)) (f 2) (f 3) (f 4) (f 5) (f 6) (f 7) (f 8) (nI (aU A)) (nI (aS A)))), (q 11, zc G 0 (zI 46 (vI (aV A))))]) rfl rfl)) 0 rfl rfl rfl rfl rfl (Nat.le_of_ble_eq_true rfl) hl.1 ⟨Nat.le_of_ble_eq_true rfl, Nat.le_of_ble_eq_true rfl⟩ ⟨(Nat.le_of_ble_eq_true rfl), (Nat.le_of_ble_eq_true rfl)⟩ dX2_count_86) hw (fun _ => z_keep (is := [0, 4]) (cs := [(mo, zo 2 (mF q (nI (aL A)) (f 2) (f 3) (f 4) (f 5) (f 6) (f 7) (f 8) (nI (aU A)) (nI (aS A)))), (q 11, zc G 0 (zI 46 (vI (aV A))))]) rfl rfl) (fun r u H locs hp hw => ?_)
      obtain rfl : r = nI (nutsTo (aV A) ((aV A) 0)) := hp
      exact hend _ _ _ _ _ _ _ ((bU b 11 (vI (aV A))), mf (nI (aL A)) (f 2) (f 3) (f 4) (f 5) (f 6) (f 7) (f 8) (nI (aU A)) (nI (aS A))) hw ⟨(F_count_in A 4 (by decide)).symm, ⟨⟨hT, rfl⟩, hV0, rH_vI, ⟨rfl, hUs⟩, hKp, ⟨rfl, hSg⟩, (fun t ht => tRel_of rfl rfl rfl rfl rfl (hTr t ht))⟩⟩ (by omega) (by omega) dX2_count_89
    · skip
      have hl : lv_has ls 2 [(0, .ref mo), (1, .int (nI 5))] := hl
      have hw : zS G ((mo, zo 2 (mF q (nI (aL A)) (f 2) (f 3) (f 4) (f 5) (f 6) (f 7) (f 8) (nI (aU A)) (nI (aS A)))) :: (q 0, zc G 0 (zI 200 (b 0))) :: (q 9, zc G 0 (zI 46 (b 9))) :: (q 10, zc G 0 (zI 46 (b 10))) :: (q 11, zc G 0 (zI 46 (vI (aV A)))) :: (q 12, zc G 0 (zI 46 (b 12))) :: (q 13, zc G 0 (zI 368 (b 13))) :: (q 15, zc G 0 (zI 92 (b 15))) :: (q 16, zc G 3 (zI 2 (b 16))) :: (q 17, zc G 0 (zI 5 (b 17))) :: (q 18, zc G 0 (zI 24 (b 18))) :: (q 20, zc G 0 (zI 3 (b 20))) :: (q 21, zc G 0 (zI 3 (b 21))) :: (q 22, zc G 0 (zI 3 (b 22))) :: (q 23, zc G 0 (zI 36 (b 23))) :: (q 24, zc G 0 (zI 36 (b 24))) :: rest) s s.heap [] := hw
      refine lv_tableIn (off := 89) (tgt := 90) hx hb dX2_count_1 (by decide) (by decide) (by decide) (by decide) ?_
      refine lv_aload_n hx hb dX2_count_90 rfl (lv_at hl 0 rfl) ?_
      refine z_get (v := .ref (q 11)) hC zf_X2_19_2 hw 0 rfl rfl dX2_count_91 ?_
      refine z_ci (z_runS (As := [.ref (q 11)]) (rest := []) hC zs_X2_163 (m_X2_full G l (q 11) (aV A) hH (zrem [4] _)) (hw.perm (z_cut (is := [4]) (cells := [(q 11, zc G 0 (zI 46 (vI (aV A))))]) rfl rfl)) rfl rfl (Nat.le_of_ble_eq_true rfl) hl.1 ⟨Nat.le_of_ble_eq_true rfl, Nat.le_of_ble_eq_true rfl⟩ ⟨(Nat.le_of_ble_eq_true rfl), (Nat.le_of_ble_eq_true rfl)⟩ dX2_count_94) hw (fun _ => z_keep (is := [4]) (cs := [(q 11, zc G 0 (zI 46 (vI (aV A))))]) rfl rfl) (fun r u H locs hp hw => ?_)
      obtain rfl : r = nI (fullN (aV A)) := hp
      exact hend _ _ _ _ _ _ _ ((bU b 11 (vI (aV A))), mf (nI (aL A)) (f 2) (f 3) (f 4) (f 5) (f 6) (f 7) (f 8) (nI (aU A)) (nI (aS A))) hw ⟨(F_count_in A 5 (by decide)).symm, ⟨⟨hT, rfl⟩, hV0, rH_vI, ⟨rfl, hUs⟩, hKp, ⟨rfl, hSg⟩, (fun t ht => tRel_of rfl rfl rfl rfl rfl (hTr t ht))⟩⟩ (by omega) (by omega) dX2_count_97
    · skip
      have hl : lv_has ls 2 [(0, .ref mo), (1, .int (nI 6))] := hl
      have hw : zS G ((mo, zo 2 (mF q (nI (aL A)) (f 2) (f 3) (f 4) (f 5) (f 6) (f 7) (f 8) (nI (aU A)) (nI (aS A)))) :: (q 0, zc G 0 (zI 200 (b 0))) :: (q 9, zc G 0 (zI 46 (b 9))) :: (q 10, zc G 0 (zI 46 (b 10))) :: (q 11, zc G 0 (zI 46 (vI (aV A)))) :: (q 12, zc G 0 (zI 46 (b 12))) :: (q 13, zc G 0 (zI 368 (b 13))) :: (q 15, zc G 0 (zI 92 (b 15))) :: (q 16, zc G 3 (zI 2 (b 16))) :: (q 17, zc G 0 (zI 5 (b 17))) :: (q 18, zc G 0 (zI 24 (b 18))) :: (q 20, zc G 0 (zI 3 (b 20))) :: (q 21, zc G 0 (zI 3 (b 21))) :: (q 22, zc G 0 (zI 3 (b 22))) :: (q 23, zc G 0 (zI 36 (b 23))) :: (q 24, zc G 0 (zI 36 (b 24))) :: rest) s s.heap [] := hw
      refine lv_tableIn (off := 97) (tgt := 98) hx hb dX2_count_1 (by decide) (by decide) (by decide) (by decide) ?_
      refine lv_aload_n hx hb dX2_count_98 rfl (lv_at hl 0 rfl) ?_
      refine z_get (v := .int (nI (aS A))) hC zf_X2_143_2 hw 0 rfl rfl dX2_count_99 ?_
      exact hend _ _ _ _ _ _ _ ((bU b 11 (vI (aV A))), mf (nI (aL A)) (f 2) (f 3) (f 4) (f 5) (f 6) (f 7) (f 8) (nI (aU A)) (nI (aS A))) hw ⟨(F_count_in A 6 (by decide)).symm, ⟨⟨hT, rfl⟩, hV0, rH_vI, ⟨rfl, hUs⟩, hKp, ⟨rfl, hSg⟩, (fun t ht => tRel_of rfl rfl rfl rfl rfl (hTr t ht))⟩⟩ (by omega) (by omega) dX2_count_102
    · skip
      have hl : lv_has ls 2 [(0, .ref mo), (1, .int (nI 7))] := hl
      have hw : zS G ((mo, zo 2 (mF q (nI (aL A)) (f 2) (f 3) (f 4) (f 5) (f 6) (f 7) (f 8) (nI (aU A)) (nI (aS A)))) :: (q 0, zc G 0 (zI 200 (b 0))) :: (q 9, zc G 0 (zI 46 (b 9))) :: (q 10, zc G 0 (zI 46 (b 10))) :: (q 11, zc G 0 (zI 46 (vI (aV A)))) :: (q 12, zc G 0 (zI 46 (b 12))) :: (q 13, zc G 0 (zI 368 (b 13))) :: (q 15, zc G 0 (zI 92 (b 15))) :: (q 16, zc G 3 (zI 2 (b 16))) :: (q 17, zc G 0 (zI 5 (b 17))) :: (q 18, zc G 0 (zI 24 (b 18))) :: (q 20, zc G 0 (zI 3 (b 20))) :: (q 21, zc G 0 (zI 3 (b 21))) :: (q 22, zc G 0 (zI 3 (b 22))) :: (q 23, zc G 0 (zI 36 (b 23))) :: (q 24, zc G 0 (zI 36 (b 24))) :: rest) s s.heap [] := hw
      refine lv_tableIn (off := 102) (tgt := 103) hx hb dX2_count_1 (by decide) (by decide) (by decide) (by decide) ?_
      refine lv_aload_n hx hb dX2_count_103 rfl (lv_at hl 0 rfl) ?_
      refine z_ci (z_runV (As := []) (rest := []) hC zv_X2_243 (m_X2_things G l mo q (nI (aL A)) (f 2) (f 3) (f 4) (f 5) (f 6) (f 7) (f 8) (nI (aU A)) (nI (aS A)) A (b 20) hA9 (fun t ht => lenT_at (hTr t ht)) (zrem [0, 11] _)) hw (hw.perm (z_cut (is := [0, 11]) (cells := [(mo, zo 2 (mF q (nI (aL A)) (f 2) (f 3) (f 4) (f 5) (f 6) (f 7) (f 8) (nI (aU A)) (nI (aS A)))), (q 20, zc G 0 (zI 3 (b 20)))]) rfl rfl)) 0 rfl rfl rfl rfl rfl (Nat.le_of_ble_eq_true rfl) hl.1 ⟨Nat.le_of_ble_eq_true rfl, Nat.le_of_ble_eq_true rfl⟩ ⟨(Nat.le_of_ble_eq_true rfl), (Nat.le_of_ble_eq_true rfl)⟩ dX2_count_104) hw (fun _ => z_keep (is := [0, 11]) (cs := [(mo, zo 2 (mF q (nI (aL A)) (f 2) (f 3) (f 4) (f 5) (f 6) (f 7) (f 8) (nI (aU A)) (nI (aS A)))), (q 20, zc G 0 (zI 3 (b 20)))]) rfl rfl) (fun r u H locs hp hw => ?_)
      obtain rfl : r = nI (thTo A 3) := hp
      exact hend _ _ _ _ _ _ _ ((bU b 11 (vI (aV A))), mf (nI (aL A)) (f 2) (f 3) (f 4) (f 5) (f 6) (f 7) (f 8) (nI (aU A)) (nI (aS A))) hw ⟨(F_count_in A 7 (by decide)).symm, ⟨⟨hT, rfl⟩, hV0, rH_vI, ⟨rfl, hUs⟩, hKp, ⟨rfl, hSg⟩, (fun t ht => tRel_of rfl rfl rfl rfl rfl (hTr t ht))⟩⟩ (by omega) (by omega) dX2_count_107
    · skip
      have hl : lv_has ls 2 [(0, .ref mo), (1, .int (nI 8))] := hl
      have hw : zS G ((mo, zo 2 (mF q (nI (aL A)) (f 2) (f 3) (f 4) (f 5) (f 6) (f 7) (f 8) (nI (aU A)) (nI (aS A)))) :: (q 0, zc G 0 (zI 200 (b 0))) :: (q 9, zc G 0 (zI 46 (b 9))) :: (q 10, zc G 0 (zI 46 (b 10))) :: (q 11, zc G 0 (zI 46 (vI (aV A)))) :: (q 12, zc G 0 (zI 46 (b 12))) :: (q 13, zc G 0 (zI 368 (b 13))) :: (q 15, zc G 0 (zI 92 (b 15))) :: (q 16, zc G 3 (zI 2 (b 16))) :: (q 17, zc G 0 (zI 5 (b 17))) :: (q 18, zc G 0 (zI 24 (b 18))) :: (q 20, zc G 0 (zI 3 (b 20))) :: (q 21, zc G 0 (zI 3 (b 21))) :: (q 22, zc G 0 (zI 3 (b 22))) :: (q 23, zc G 0 (zI 36 (b 23))) :: (q 24, zc G 0 (zI 36 (b 24))) :: rest) s s.heap [] := hw
      refine lv_tableIn (off := 107) (tgt := 108) hx hb dX2_count_1 (by decide) (by decide) (by decide) (by decide) ?_
      refine lv_aload_n hx hb dX2_count_108 rfl (lv_at hl 0 rfl) ?_
      refine z_get (v := .int (nI (aU A))) hC zf_X2_146_2 hw 0 rfl rfl dX2_count_109 ?_
      exact hend _ _ _ _ _ _ _ ((bU b 11 (vI (aV A))), mf (nI (aL A)) (f 2) (f 3) (f 4) (f 5) (f 6) (f 7) (f 8) (nI (aU A)) (nI (aS A))) hw ⟨(F_count_in A 8 (by decide)).symm, ⟨⟨hT, rfl⟩, hV0, rH_vI, ⟨rfl, hUs⟩, hKp, ⟨rfl, hSg⟩, (fun t ht => tRel_of rfl rfl rfl rfl rfl (hTr t ht))⟩⟩ (by omega) (by omega) dX2_count_112
    · skip
      have hl : lv_has ls 2 [(0, .ref mo), (1, .int (nI 9))] := hl
      have hw : zS G ((mo, zo 2 (mF q (nI (aL A)) (f 2) (f 3) (f 4) (f 5) (f 6) (f 7) (f 8) (nI (aU A)) (nI (aS A)))) :: (q 0, zc G 0 (zI 200 (b 0))) :: (q 9, zc G 0 (zI 46 (b 9))) :: (q 10, zc G 0 (zI 46 (b 10))) :: (q 11, zc G 0 (zI 46 (vI (aV A)))) :: (q 12, zc G 0 (zI 46 (b 12))) :: (q 13, zc G 0 (zI 368 (b 13))) :: (q 15, zc G 0 (zI 92 (b 15))) :: (q 16, zc G 3 (zI 2 (b 16))) :: (q 17, zc G 0 (zI 5 (b 17))) :: (q 18, zc G 0 (zI 24 (b 18))) :: (q 20, zc G 0 (zI 3 (b 20))) :: (q 21, zc G 0 (zI 3 (b 21))) :: (q 22, zc G 0 (zI 3 (b 22))) :: (q 23, zc G 0 (zI 36 (b 23))) :: (q 24, zc G 0 (zI 36 (b 24))) :: rest) s s.heap [] := hw
      refine lv_tableIn (off := 112) (tgt := 113) hx hb dX2_count_1 (by decide) (by decide) (by decide) (by decide) ?_
      refine lv_aload_n hx hb dX2_count_113 rfl (lv_at hl 0 rfl) ?_
      refine z_get (v := .int (nI (aL A))) hC zf_X2_63_2 hw 0 rfl rfl dX2_count_114 ?_
      exact hend _ _ _ _ _ _ _ ((bU b 11 (vI (aV A))), mf (nI (aL A)) (f 2) (f 3) (f 4) (f 5) (f 6) (f 7) (f 8) (nI (aU A)) (nI (aS A))) hw ⟨(F_count_in A 9 (by decide)).symm, ⟨⟨hT, rfl⟩, hV0, rH_vI, ⟨rfl, hUs⟩, hKp, ⟨rfl, hSg⟩, (fun t ht => tRel_of rfl rfl rfl rfl rfl (hTr t ht))⟩⟩ (by omega) (by omega) dX2_count_117
  · skip
    have hl : lv_has ls 2 [(0, .ref mo), (1, .int x)] := hl
    refine lv_iload_n hx hb dX2_count_0 rfl (lv_at hl 1 rfl) ?_
    refine lv_tableOut (tgt := 118) hx hb dX2_count_1 (cnt_out hout) (by decide) ?_
    refine lv_bipush (v := (-3)) hx hb dX2_count_118 zb_m3 ?_
    exact hend _ _ _ _ _ _ _ ((bU b 11 (vI (aV A))), mf (nI (aL A)) (f 2) (f 3) (f 4) (f 5) (f 6) (f 7) (f 8) (nI (aU A)) (nI (aS A))) hw ⟨(ifP_f hout).symm, ⟨⟨hT, rfl⟩, hV0, rH_vI, ⟨rfl, hUs⟩, hKp, ⟨rfl, hSg⟩, (fun t ht => tRel_of rfl rfl rfl rfl rfl (hTr t ht))⟩⟩ (by omega) (by omega) dX2_count_120
