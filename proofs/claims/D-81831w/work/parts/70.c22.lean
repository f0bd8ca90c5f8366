/-! LISTS: writing -/
set_option maxRecDepth 100000
/-- a thing more at place i -/
def insF (f : Nat → Option Nat) (i : Nat) (x : Option Nat) : Nat → Option Nat := fun j => if j < i then f j else if j = i then x else f (j - 1)
/-- the thing at place i cut out -/
def delF (f : Nat → Option Nat) (i : Nat) : Nat → Option Nat := fun j => if j < i then f j else f (j + 1)
theorem ins_arr {f : Nat → Option Nat} {n i x : Nat} (hi : i ≤ n) : ∀ j, j < n + 1 → va_up (va_cpy f f i (i + 1) (n - i)) i (some x) j = insF f i (some x) j := by
  intro j hj
  unfold va_up va_cpy insF
  by_cases h1 : j < i
  · rw [if_neg (by omega), if_neg (by omega), if_pos h1]
  · by_cases h2 : j = i
    · rw [if_pos h2, if_neg h1, if_pos h2]
    · rw [if_neg h2, if_pos ⟨by omega, by omega⟩, if_neg h1, if_neg h2]; congr 1; omega
theorem cp_arr {f : Nat → Option Nat} {n : Nat} : ∀ j, j < n → va_cpy f (fun _ => none) 0 0 n j = f j := by
  intro j hj
  unfold va_cpy
  rw [if_pos ⟨by omega, by omega⟩]; congr 1; omega
theorem del_arr {f : Nat → Option Nat} {n i : Nat} (hi : i < n) : ∀ j, j < n - 1 → va_up (va_cpy f f (i + 1) i (n - 1 - i)) (n - 1) none j = delF f i j := by
  intro j hj
  unfold va_up va_cpy delF
  rw [if_neg (by omega)]
  by_cases h1 : j < i
  · rw [if_neg (by omega), if_pos h1]
  · rw [if_pos ⟨by omega, by omega⟩, if_neg h1]; congr 1; omega
theorem del_arr0 {f : Nat → Option Nat} {n i : Nat} (hi : i + 1 = n) : ∀ j, j < n - 1 → va_up f (n - 1) none j = delF f i j := by
  intro j hj
  unfold va_up delF
  rw [if_neg (by omega), if_pos (by omega)]
set_option maxHeartbeats 4000000 in
theorem m_J0_copyOf_3 (G : zE) (l : Launch) (kA : Nat → Nat) (hG : zG G kA) (hV : zV G kA) (ed : Nat) (n : Nat) (ef : Nat → Option Nat) (X : va_W) (Y : va_W) (hn : n = 10) (hel : ∀ j, j < n → ∀ y, ef j = some y → elOk kA (X ++ Y) y) (rest : va_W) : zMq G l yJ0_copyOf_3 cJ0_copyOf_3 4 (some (.array (.object "java/lang/Object"))) 1 1 15 [.ref ed, .int (nI 15), .ref (kA 6)] ((ed, zc G 4 (zO n ef)) :: (X ++ (Y ++ rest))) (fun (r : Option Nat) u => r = some u) (fun (u : Nat) => (u, zc G 4 (zO 15 (va_cpy ef (fun _ => none) 0 0 n))) :: (ed, zc G 4 (zO n ef)) :: (X ++ (Y ++ rest))) := by
  refine z_begQ (by first | exact Or.inl ⟨_, rfl⟩ | exact Or.inr ⟨_, rfl⟩) (by decide) (Nat.le_of_ble_eq_true rfl) (fun p e s m args below meth c ls Q hC hl hw hend => ?_)
  have hx := hC.hx
  have hb := hC.hb
  have hl : lv_has ls 4 [(0, .ref ed), (1, .int (nI 15)), (2, .ref (kA 6))] := hl
  have hw : zS G ((ed, zc G 4 (zO n ef)) :: (X ++ (Y ++ rest))) s s.heap [] := hw
  have hz := hG s hC.hZ.1
  have hzv := hV s hC.hZ.1
  refine lv_aload_n hx hb dJ0_copyOf_3_0 rfl (lv_at hl 2 rfl) ?_
  refine z_ldcM hC q1640 hzv.2.2.2.1 dJ0_copyOf_3_1 ?_
  refine lv_acmp_ne (rx := (some (kA 6))) (ry := (some (kA 6))) (tgt := 13) hx hb dJ0_copyOf_3_3 (by decide) (fun h => absurd rfl h) (fun _ => ?_)
  refine lv_iload_n hx hb dJ0_copyOf_3_6 rfl (lv_at hl 1 rfl) ?_
  refine z_anew (t := 4) hC q1641 (hz.1 _ (cw_t q105 rfl)) (fun _ => rfl) hw (by decide) (Nat.le_of_ble_eq_true rfl) (Nat.le_of_ble_eq_true rfl) dJ0_copyOf_3_7 (fun q_7 H hw => ?_)
  have hw : zS G ((q_7, zc G 4 (zO 15 (fun _ => none))) :: (ed, zc G 4 (zO n ef)) :: (X ++ (Y ++ rest))) s H [] := hw
  refine lv_goto (tgt := 24) hx hb dJ0_copyOf_3_10 (by decide) ?_
  refine lv_astore_n (lv' := [(3, .ref q_7), (0, .ref ed), (1, .int (nI 15)), (2, .ref (kA 6))]) hx hb dJ0_copyOf_3_24 rfl hl (by decide) rfl (fun ls hl => ?_)
  refine lv_aload_n hx hb dJ0_copyOf_3_25 rfl (lv_at hl 1 rfl) ?_
  refine lv_iconst (v := (nI 0)) hx hb dJ0_copyOf_3_26 zk_0 ?_
  refine lv_aload_n hx hb dJ0_copyOf_3_27 rfl (lv_at hl 0 rfl) ?_
  refine lv_iconst (v := (nI 0)) hx hb dJ0_copyOf_3_28 zk_0 ?_
  refine lv_aload_n hx hb dJ0_copyOf_3_29 rfl (lv_at hl 1 rfl) ?_
  refine z_alen (t := 4) hC hw 1 rfl (fun _ => rfl) dJ0_copyOf_3_30 ?_
  show W p l e (zR 1 1 15) s m args below meth c H [] 1 15 Q (F0 m 31 ls [.int (nI n), .int (nI 0), .ref q_7, .int (nI 0), .ref ed])
  refine lv_iload_n hx hb dJ0_copyOf_3_31 rfl (lv_at hl 2 rfl) ?_
  refine z_mmin (v := nI (min n 15)) hC hl.1 q355 zm_min (zm_min_d (by omega) (by decide)) (Nat.le_of_ble_eq_true rfl) ⟨Nat.le_of_ble_eq_true rfl, Nat.le_of_ble_eq_true rfl⟩ (Nat.le_of_ble_eq_true rfl) (Nat.le_of_ble_eq_true rfl) dJ0_copyOf_3_32 ?_
  have hae := fun (y : Nat) (h : elOk kA (X ++ Y) y) => any_el hC hz hzv (E := [(q_7, zc G 4 (zO 15 (fun _ => none))), (ed, zc G 4 (zO n ef))]) (X := X) (Y := Y) hw h
  rw [show nI (min n 15) = nI n from by rw [Nat.min_eq_left (by omega)]]
  refine z_copyQ (t := 4) (h := va_cpy ef (fun _ => none) 0 0 n) hC hl.1 q358 zNat_ok hw 1 0 rfl rfl (fun _ => rfl) (by omega) (by omega) (by omega) (by decide) (fun i9 hi y hy => hae y (hel _ (by omega) y hy)) rfl (Nat.le_of_ble_eq_true rfl) ⟨Nat.le_of_ble_eq_true rfl, Nat.le_of_ble_eq_true rfl⟩ dJ0_copyOf_3_35 (fun H locs hw => ?_)
  have hw : zS G ((q_7, zc G 4 (zO 15 (va_cpy ef (fun _ => none) 0 0 n))) :: (ed, zc G 4 (zO n ef)) :: (X ++ (Y ++ rest))) s H locs := hw
  refine lv_aload_n hx hb dJ0_copyOf_3_38 rfl (lv_at hl 0 rfl) ?_
  exact hend _ _ _ _ _ _ (some q_7) q_7 hw rfl (Nat.le_of_ble_eq_true rfl) (Nat.le_of_ble_eq_true rfl) dJ0_copyOf_3_39
theorem zs_J0_300 : zSs RJ0 300 yJ0_copyOf_3 cJ0_copyOf_3 4 (some (.array (.object "java/lang/Object"))) 3 := ⟨lw_S q1637 q1638 q52 q1639, ⟨by decide +kernel, by decide +kernel⟩, by decide +kernel⟩
set_option maxHeartbeats 4000000 in
theorem m_J0_copyOf_2 (G : zE) (l : Launch) (kA : Nat → Nat) (hG : zG G kA) (hV : zV G kA) (ed : Nat) (n : Nat) (ef : Nat → Option Nat) (X : va_W) (Y : va_W) (hn : n = 10) (hel : ∀ j, j < n → ∀ y, ef j = some y → elOk kA (X ++ Y) y) (rest : va_W) : zMq G l yJ0_copyOf_2 cJ0_copyOf_2 2 (some (.array (.object "java/lang/Object"))) 2 1 15 [.ref ed, .int (nI 15)] ((ed, zc G 4 (zO n ef)) :: (X ++ (Y ++ rest))) (fun (r : Option Nat) u => r = some u) (fun (u : Nat) => (u, zc G 4 (zO 15 (va_cpy ef (fun _ => none) 0 0 n))) :: (ed, zc G 4 (zO n ef)) :: (X ++ (Y ++ rest))) := by
  refine z_begQ (by first | exact Or.inl ⟨_, rfl⟩ | exact Or.inr ⟨_, rfl⟩) (by decide) (Nat.le_of_ble_eq_true rfl) (fun p e s m args below meth c ls Q hC hl hw hend => ?_)
  have hx := hC.hx
  have hb := hC.hb
  have hl : lv_has ls 2 [(0, .ref ed), (1, .int (nI 15))] := hl
  have hw : zS G ((ed, zc G 4 (zO n ef)) :: (X ++ (Y ++ rest))) s s.heap [] := hw
  have hz := hG s hC.hZ.1
  have hzv := hV s hC.hZ.1
  refine lv_aload_n hx hb dJ0_copyOf_2_0 rfl (lv_at hl 0 rfl) ?_
  refine lv_iload_n hx hb dJ0_copyOf_2_1 rfl (lv_at hl 1 rfl) ?_
  refine lv_aload_n hx hb dJ0_copyOf_2_2 rfl (lv_at hl 0 rfl) ?_
  refine z_getC hC hl.1 q1636 hzv.2.2.2.2 q2231 q1420 q1446 hzv.2.2.2.1 hw 0 rfl (Nat.le_of_ble_eq_true rfl) ⟨Nat.le_of_ble_eq_true rfl, Nat.le_of_ble_eq_true rfl⟩ dJ0_copyOf_2_3 ?_
  refine z_cq (z_runS (As := [.ref ed, .int (nI 15), .ref (kA 6)]) (rest := []) hC zs_J0_300 (m_J0_copyOf_3 G l kA (by first | assumption | (omega)) (by first | assumption | (omega)) ed n ef X Y (by omega) (by first | assumption | (omega)) (zrem [0] [(ed, zc G 4 (zO n ef))] ++ rest)) (hw.perm (((((z_mv1 X Y rest).trans (z_mv1 Y X rest))).append_left [(ed, zc G 4 (zO n ef))]).trans (z_cutP2 (z_cut (is := [0]) (ws := [(ed, zc G 4 (zO n ef))]) (cells := [(ed, zc G 4 (zO n ef))]) rfl rfl)))) rfl rfl (Nat.le_of_ble_eq_true rfl) hl.1 ⟨Nat.le_of_ble_eq_true rfl, Nat.le_of_ble_eq_true rfl⟩ ⟨(Nat.le_of_ble_eq_true rfl), (Nat.le_of_ble_eq_true rfl)⟩ dJ0_copyOf_2_6) hw (fun u => (List.Perm.append_left [(u, zc G 4 (zO 15 (va_cpy ef (fun _ => none) 0 0 n)))] (z_putP2 (z_pput (is := [0]) (ws := [(ed, zc G 4 (zO n ef))]) (cells := [(ed, zc G 4 (zO n ef))]) (cells' := [(ed, zc G 4 (zO n ef))]) rfl rfl rfl))).trans ((((z_mv1 X Y rest).trans (z_mv1 Y X rest))).symm.append_left [(u, zc G 4 (zO 15 (va_cpy ef (fun _ => none) 0 0 n))), (ed, zc G 4 (zO n ef))])) (fun r u H locs hp hw => ?_)
  obtain ⟨en, rfl⟩ : ∃ z, z = u := ⟨_, rfl⟩
  have hw : zS G ((en, zc G 4 (zO 15 (va_cpy ef (fun _ => none) 0 0 n))) :: (ed, zc G 4 (zO n ef)) :: (X ++ (Y ++ rest))) s H locs := hw
  obtain rfl := hp
  exact hend _ _ _ _ _ _ (some en) en hw rfl (Nat.le_of_ble_eq_true rfl) (Nat.le_of_ble_eq_true rfl) dJ0_copyOf_2_9
set_option maxHeartbeats 4000000 in
theorem m_J23_grow_2_0 (G : zE) (l : Launch) (kA : Nat → Nat) (hG : zG G kA) (hV : zV G kA) (lst : Nat) (mq : Int32) (rest : va_W) : zMq G l yJ23_grow_2 cJ23_grow_2 4 (some (.array (.object "java/lang/Object"))) 4 1 10 [.ref lst, .int (nI 1)] ((lst, zo 14 [.int mq, .ref (kA 5), .int (nI 0)]) :: rest) (fun (r : Option Nat) u => r = some u) (fun (u : Nat) => (u, zc G 4 (zO 10 (fun _ => none))) :: (lst, zo 14 [.int mq, .ref u, .int (nI 0)]) :: rest) := by
  refine z_begQ (by first | exact Or.inl ⟨_, rfl⟩ | exact Or.inr ⟨_, rfl⟩) (by decide) (Nat.le_of_ble_eq_true rfl) (fun p e s m args below meth c ls Q hC hl hw hend => ?_)
  have hx := hC.hx
  have hb := hC.hb
  have hl : lv_has ls 4 [(0, .ref lst), (1, .int (nI 1))] := hl
  have hw : zS G ((lst, zo 14 [.int mq, .ref (kA 5), .int (nI 0)]) :: rest) s s.heap [] := hw
  have hz := hG s hC.hZ.1
  have hzv := hV s hC.hZ.1
  refine lv_aload_n hx hb dJ23_grow_2_0 rfl (lv_at hl 0 rfl) ?_
  refine z_get (v := .ref (kA 5)) hC zf_J23_9_14 hw 0 rfl rfl dJ23_grow_2_1 ?_
  refine z_alenK hC hzv.1.2 hw dJ23_grow_2_4 ?_
  refine lv_istore_n (lv' := [(2, .int (nI 0)), (0, .ref lst), (1, .int (nI 1))]) hx hb dJ23_grow_2_5 rfl hl (by decide) rfl (fun ls hl => ?_)
  refine lv_iload_n hx hb dJ23_grow_2_6 rfl (lv_at hl 0 rfl) ?_
  refine zj_gt (tgt := 20) hx hb (by decide) dJ23_grow_2_7 (by decide) (fun h => absurd h (by decide)) (fun _ => ?_)
  refine lv_aload_n hx hb dJ23_grow_2_10 rfl (lv_at hl 1 rfl) ?_
  refine z_get (v := .ref (kA 5)) hC zf_J23_9_14 hw 0 rfl rfl dJ23_grow_2_11 ?_
  refine z_gets (v := .ref (kA 5)) hC hzv.1.1 hw q1132 dJ23_grow_2_14 ?_
  refine lv_acmp_eq (rx := (some (kA 5))) (ry := (some (kA 5))) (tgt := 45) hx hb dJ23_grow_2_17 (by decide) (fun _ => ?_) (fun h => absurd rfl h)
  refine lv_aload_n hx hb dJ23_grow_2_45 rfl (lv_at hl 1 rfl) ?_
  refine lv_bipush (v := (nI 10)) hx hb dJ23_grow_2_46 zb_10 ?_
  refine lv_iload_n hx hb dJ23_grow_2_48 rfl (lv_at hl 2 rfl) ?_
  refine z_mmax (v := nI (max 10 1)) hC hl.1 q1642 zm_max (zm_max_d (by decide) (by decide)) (Nat.le_of_ble_eq_true rfl) ⟨Nat.le_of_ble_eq_true rfl, Nat.le_of_ble_eq_true rfl⟩ (Nat.le_of_ble_eq_true rfl) (Nat.le_of_ble_eq_true rfl) dJ23_grow_2_49 ?_
  refine z_anew (t := 4) hC q1643 (hz.1 _ (cw_t q105 rfl)) (fun _ => rfl) hw (by omega) (Nat.le_of_ble_eq_true rfl) (by show _ ≤ 10; omega) dJ23_grow_2_52 (fun q_52 H hw => ?_)
  have hw : zS G ((q_52, zc G 4 (zO (max 10 1) (fun _ => none))) :: (lst, zo 14 [.int mq, .ref (kA 5), .int (nI 0)]) :: rest) s H [] := hw
  refine lv_dup_x1 hx hb dJ23_grow_2_55 rfl rfl ?_
  refine z_put hC zf_J23_9_14 hw 1 rfl rfl rfl (Nat.le_of_ble_eq_true rfl) dJ23_grow_2_56 (fun H locs hw => ?_)
  have hw : zS G ((q_52, zc G 4 (zO (max 10 1) (fun _ => none))) :: (lst, zo 14 [.int mq, .ref q_52, .int (nI 0)]) :: rest) s H locs := hw
  exact hend _ _ _ _ _ _ (some q_52) q_52 hw rfl (Nat.le_of_ble_eq_true rfl) (by omega) dJ23_grow_2_59
theorem zs_J23_73 : zSs RJ23 73 yJ5_newLength cJ5_newLength 4 (some .int) 3 := ⟨lw_S q1632 q335 q59 q336, ⟨by decide +kernel, by decide +kernel⟩, by decide +kernel⟩
theorem zs_J23_66 : zSs RJ23 66 yJ0_copyOf_2 cJ0_copyOf_2 2 (some (.array (.object "java/lang/Object"))) 2 := ⟨lw_S q1633 q1634 q52 q1635, ⟨by decide +kernel, by decide +kernel⟩, by decide +kernel⟩
set_option maxHeartbeats 4000000 in
theorem m_J23_grow_2_n (G : zE) (l : Launch) (kA : Nat → Nat) (hG : zG G kA) (hV : zV G kA) (lst : Nat) (ed : Nat) (n : Nat) (mq : Int32) (ef : Nat → Option Nat) (X : va_W) (Y : va_W) (hn : n = 10) (hel : ∀ j, j < n → ∀ y, ef j = some y → elOk kA (X ++ Y) y) (rest : va_W) : zMq G l yJ23_grow_2 cJ23_grow_2 4 (some (.array (.object "java/lang/Object"))) 4 1 15 [.ref lst, .int (nI (n + 1))] ((lst, zo 14 [.int mq, .ref ed, .int (nI n)]) :: (ed, zc G 4 (zO n ef)) :: (X ++ (Y ++ rest))) (fun (r : Option Nat) u => r = some u) (fun (u : Nat) => (u, zc G 4 (zO 15 (va_cpy ef (fun _ => none) 0 0 n))) :: (lst, zo 14 [.int mq, .ref u, .int (nI n)]) :: (ed, zc G 4 (zO n ef)) :: (X ++ (Y ++ rest))) := by
  refine z_begQ (by first | exact Or.inl ⟨_, rfl⟩ | exact Or.inr ⟨_, rfl⟩) (by decide) (Nat.le_of_ble_eq_true rfl) (fun p e s m args below meth c ls Q hC hl hw hend => ?_)
  have hx := hC.hx
  have hb := hC.hb
  have hl : lv_has ls 4 [(0, .ref lst), (1, .int (nI (n + 1)))] := hl
  have hw : zS G ((lst, zo 14 [.int mq, .ref ed, .int (nI n)]) :: (ed, zc G 4 (zO n ef)) :: (X ++ (Y ++ rest))) s s.heap [] := hw
  have hz := hG s hC.hZ.1
  have hzv := hV s hC.hZ.1
  refine lv_aload_n hx hb dJ23_grow_2_0 rfl (lv_at hl 0 rfl) ?_
  refine z_get (v := .ref ed) hC zf_J23_9_14 hw 0 rfl rfl dJ23_grow_2_1 ?_
  refine z_alen (t := 4) hC hw 1 rfl (fun _ => rfl) dJ23_grow_2_4 ?_
  show W p l e (zR 4 1 15) s m args below meth c s.heap [] 0 0 Q (F0 m 5 ls [.int (nI n)])
  refine lv_istore_n (lv' := [(2, .int (nI n)), (0, .ref lst), (1, .int (nI (n + 1)))]) hx hb dJ23_grow_2_5 rfl hl (by decide) rfl (fun ls hl => ?_)
  refine lv_iload_n hx hb dJ23_grow_2_6 rfl (lv_at hl 0 rfl) ?_
  refine zj_gt (tgt := 20) hx hb (by omega) dJ23_grow_2_7 (by decide) (fun _ => ?_) (fun h => absurd h (by omega))
  refine lv_iload_n hx hb dJ23_grow_2_20 rfl (lv_at hl 0 rfl) ?_
  refine lv_iload_n hx hb dJ23_grow_2_21 rfl (lv_at hl 2 rfl) ?_
  refine lv_iload_n hx hb dJ23_grow_2_22 rfl (lv_at hl 0 rfl) ?_
  refine zn_isub hx hb (by omega) dJ23_grow_2_23 ?_
  refine lv_iload_n hx hb dJ23_grow_2_24 rfl (lv_at hl 0 rfl) ?_
  refine lv_iconst (v := (nI 1)) hx hb dJ23_grow_2_25 zk_1 ?_
  refine zv_ishr (v := (nI (n / 2 ^ 1))) hx hb (nI_shr (by omega) (by decide)) dJ23_grow_2_26 ?_
  refine z_ci (z_runS (As := [.int (nI n), .int (nI ((n + 1) - n)), .int (nI (n / 2 ^ 1))]) (rest := []) hC zs_J23_73 (m_J5_newLength G l n ((n + 1) - n) (n / 2 ^ 1) (by omega) (by omega) (by omega) (by omega) _) hw rfl rfl (Nat.le_of_ble_eq_true rfl) hl.1 ⟨Nat.le_of_ble_eq_true rfl, Nat.le_of_ble_eq_true rfl⟩ ⟨(Nat.le_of_ble_eq_true rfl), (Nat.le_of_ble_eq_true rfl)⟩ dJ23_grow_2_27) hw (fun _ => List.Perm.refl _) (fun r u H locs hp hw => ?_)
  obtain rfl : r = nI (n + max ((n + 1) - n) (n / 2 ^ 1)) := hp
  refine lv_istore_n (lv' := [(3, .int (nI (n + max ((n + 1) - n) (n / 2 ^ 1)))), (2, .int (nI n)), (0, .ref lst), (1, .int (nI (n + 1)))]) hx hb dJ23_grow_2_30 rfl hl (by decide) rfl (fun ls hl => ?_)
  have hl : lv_has ls 4 [(3, .int (nI 15)), (2, .int (nI n)), (0, .ref lst), (1, .int (nI (n + 1)))] := by subst hn; exact hl
  refine lv_aload_n hx hb dJ23_grow_2_31 rfl (lv_at hl 2 rfl) ?_
  refine lv_aload_n hx hb dJ23_grow_2_32 rfl (lv_at hl 2 rfl) ?_
  refine z_get (v := .ref ed) hC zf_J23_9_14 hw 0 rfl rfl dJ23_grow_2_33 ?_
  refine lv_iload_n hx hb dJ23_grow_2_36 rfl (lv_at hl 0 rfl) ?_
  refine z_cq (z_runS (As := [.ref ed, .int (nI 15)]) (rest := [.ref lst]) hC zs_J23_66 (m_J0_copyOf_2 G l kA (by first | assumption | (omega)) (by first | assumption | (omega)) ed n ef X Y (by omega) (by first | assumption | (omega)) (zrem [1] [(lst, zo 14 [.int mq, .ref ed, .int (nI n)]), (ed, zc G 4 (zO n ef))] ++ rest)) (hw.perm (((((z_mv1 X Y rest).trans (z_mv1 Y X rest))).append_left [(lst, zo 14 [.int mq, .ref ed, .int (nI n)]), (ed, zc G 4 (zO n ef))]).trans (z_cutP2 (z_cut (is := [1]) (ws := [(lst, zo 14 [.int mq, .ref ed, .int (nI n)]), (ed, zc G 4 (zO n ef))]) (cells := [(ed, zc G 4 (zO n ef))]) rfl rfl)))) rfl rfl (Nat.le_of_ble_eq_true rfl) hl.1 ⟨Nat.le_of_ble_eq_true rfl, Nat.le_of_ble_eq_true rfl⟩ ⟨(Nat.le_of_ble_eq_true rfl), (Nat.le_of_ble_eq_true rfl)⟩ dJ23_grow_2_37) hw (fun u => (List.Perm.append_left [(u, zc G 4 (zO 15 (va_cpy ef (fun _ => none) 0 0 n)))] (z_putP2 (z_pput (is := [1]) (ws := [(lst, zo 14 [.int mq, .ref ed, .int (nI n)]), (ed, zc G 4 (zO n ef))]) (cells := [(ed, zc G 4 (zO n ef))]) (cells' := [(ed, zc G 4 (zO n ef))]) rfl rfl rfl))).trans ((((z_mv1 X Y rest).trans (z_mv1 Y X rest))).symm.append_left [(u, zc G 4 (zO 15 (va_cpy ef (fun _ => none) 0 0 n))), (lst, zo 14 [.int mq, .ref ed, .int (nI n)]), (ed, zc G 4 (zO n ef))])) (fun r u H locs hp hw => ?_)
  obtain ⟨en, rfl⟩ : ∃ z, z = u := ⟨_, rfl⟩
  have hw : zS G ((en, zc G 4 (zO 15 (va_cpy ef (fun _ => none) 0 0 n))) :: (lst, zo 14 [.int mq, .ref ed, .int (nI n)]) :: (ed, zc G 4 (zO n ef)) :: (X ++ (Y ++ rest))) s H locs := hw
  obtain rfl := hp
  refine lv_dup_x1 hx hb dJ23_grow_2_40 rfl rfl ?_
  refine z_put hC zf_J23_9_14 hw 1 rfl rfl rfl (Nat.le_of_ble_eq_true rfl) dJ23_grow_2_41 (fun H locs hw => ?_)
  have hw : zS G ((en, zc G 4 (zO 15 (va_cpy ef (fun _ => none) 0 0 n))) :: (lst, zo 14 [.int mq, .ref en, .int (nI n)]) :: (ed, zc G 4 (zO n ef)) :: (X ++ (Y ++ rest))) s H locs := hw
  exact hend _ _ _ _ _ _ (some en) en hw rfl (Nat.le_of_ble_eq_true rfl) (Nat.le_of_ble_eq_true rfl) dJ23_grow_2_44
theorem zv_J23_69 : zVs RJ23 69 yJ23_grow_2 cJ23_grow_2 4 (some (.array (.object "java/lang/Object"))) 1 := ⟨lw_V q1628 q1630 qs23 q85 q1631, ⟨by decide +kernel, by decide +kernel⟩, by decide +kernel⟩
set_option maxHeartbeats 4000000 in
theorem m_J23_grow_0 (G : zE) (l : Launch) (kA : Nat → Nat) (hG : zG G kA) (hV : zV G kA) (lst : Nat) (mq : Int32) (rest : va_W) : zMq G l yJ23_grow cJ23_grow 1 (some (.array (.object "java/lang/Object"))) 5 1 10 [.ref lst] ((lst, zo 14 [.int mq, .ref (kA 5), .int (nI 0)]) :: rest) (fun (r : Option Nat) u => r = some u) (fun (u : Nat) => (u, zc G 4 (zO 10 (fun _ => none))) :: (lst, zo 14 [.int mq, .ref u, .int (nI 0)]) :: rest) := by
  refine z_begQ (by first | exact Or.inl ⟨_, rfl⟩ | exact Or.inr ⟨_, rfl⟩) (by decide) (Nat.le_of_ble_eq_true rfl) (fun p e s m args below meth c ls Q hC hl hw hend => ?_)
  have hx := hC.hx
  have hb := hC.hb
  have hl : lv_has ls 1 [(0, .ref lst)] := hl
  have hw : zS G ((lst, zo 14 [.int mq, .ref (kA 5), .int (nI 0)]) :: rest) s s.heap [] := hw
  have hz := hG s hC.hZ.1
  have hzv := hV s hC.hZ.1
  refine lv_aload_n hx hb dJ23_grow_0 rfl (lv_at hl 0 rfl) ?_
  refine lv_aload_n hx hb dJ23_grow_1 rfl (lv_at hl 0 rfl) ?_
  refine z_get (v := .int (nI 0)) hC zf_J23_48_14 hw 0 rfl rfl dJ23_grow_2 ?_
  refine lv_iconst (v := (nI 1)) hx hb dJ23_grow_5 zk_1 ?_
  refine zn_iadd hx hb dJ23_grow_6 ?_
  refine z_cq (z_runV (As := [.int (nI 1)]) (rest := []) hC zv_J23_69 (m_J23_grow_2_0 G l kA (by first | assumption | (omega)) (by first | assumption | (omega)) lst mq (zrem [0] _)) hw (hw.perm (z_cut (is := [0]) (cells := [(lst, zo 14 [.int mq, .ref (kA 5), .int (nI 0)])]) rfl rfl)) 0 rfl rfl rfl rfl rfl (Nat.le_of_ble_eq_true rfl) hl.1 ⟨Nat.le_of_ble_eq_true rfl, Nat.le_of_ble_eq_true rfl⟩ ⟨(Nat.le_of_ble_eq_true rfl), (Nat.le_of_ble_eq_true rfl)⟩ dJ23_grow_7) hw (fun u => z_new1 (is := [0]) (cs := [(lst, zo 14 [.int mq, .ref (kA 5), .int (nI 0)])]) (cs' := [(lst, zo 14 [.int mq, .ref u, .int (nI 0)])]) (nw := [(u, zc G 4 (zO 10 (fun _ => none)))]) rfl rfl rfl) (fun r u H locs hp hw => ?_)
  obtain ⟨en, rfl⟩ : ∃ z, z = u := ⟨_, rfl⟩
  have hw : zS G ((en, zc G 4 (zO 10 (fun _ => none))) :: (lst, zo 14 [.int mq, .ref en, .int (nI 0)]) :: rest) s H locs := hw
  obtain rfl := hp
  exact hend _ _ _ _ _ _ (some en) en hw rfl (Nat.le_of_ble_eq_true rfl) (Nat.le_of_ble_eq_true rfl) dJ23_grow_10
set_option maxHeartbeats 4000000 in
theorem m_J23_grow_n (G : zE) (l : Launch) (kA : Nat → Nat) (hG : zG G kA) (hV : zV G kA) (lst : Nat) (ed : Nat) (n : Nat) (mq : Int32) (ef : Nat → Option Nat) (X : va_W) (Y : va_W) (hn : n = 10) (hel : ∀ j, j < n → ∀ y, ef j = some y → elOk kA (X ++ Y) y) (rest : va_W) : zMq G l yJ23_grow cJ23_grow 1 (some (.array (.object "java/lang/Object"))) 5 1 15 [.ref lst] ((lst, zo 14 [.int mq, .ref ed, .int (nI n)]) :: (ed, zc G 4 (zO n ef)) :: (X ++ (Y ++ rest))) (fun (r : Option Nat) u => r = some u) (fun (u : Nat) => (u, zc G 4 (zO 15 (va_cpy ef (fun _ => none) 0 0 n))) :: (lst, zo 14 [.int mq, .ref u, .int (nI n)]) :: (ed, zc G 4 (zO n ef)) :: (X ++ (Y ++ rest))) := by
  refine z_begQ (by first | exact Or.inl ⟨_, rfl⟩ | exact Or.inr ⟨_, rfl⟩) (by decide) (Nat.le_of_ble_eq_true rfl) (fun p e s m args below meth c ls Q hC hl hw hend => ?_)
  have hx := hC.hx
  have hb := hC.hb
  have hl : lv_has ls 1 [(0, .ref lst)] := hl
  have hw : zS G ((lst, zo 14 [.int mq, .ref ed, .int (nI n)]) :: (ed, zc G 4 (zO n ef)) :: (X ++ (Y ++ rest))) s s.heap [] := hw
  have hz := hG s hC.hZ.1
  have hzv := hV s hC.hZ.1
  refine lv_aload_n hx hb dJ23_grow_0 rfl (lv_at hl 0 rfl) ?_
  refine lv_aload_n hx hb dJ23_grow_1 rfl (lv_at hl 0 rfl) ?_
  refine z_get (v := .int (nI n)) hC zf_J23_48_14 hw 0 rfl rfl dJ23_grow_2 ?_
  refine lv_iconst (v := (nI 1)) hx hb dJ23_grow_5 zk_1 ?_
  refine zn_iadd hx hb dJ23_grow_6 ?_
  refine z_cq (z_runV (As := [.int (nI (n + 1))]) (rest := []) hC zv_J23_69 (m_J23_grow_2_n G l kA (by first | assumption | (omega)) (by first | assumption | (omega)) lst ed n mq ef X Y (by omega) (by first | assumption | (omega)) (zrem [0, 1] [(lst, zo 14 [.int mq, .ref ed, .int (nI n)]), (ed, zc G 4 (zO n ef))] ++ rest)) hw (hw.perm (((((z_mv1 X Y rest).trans (z_mv1 Y X rest))).append_left [(lst, zo 14 [.int mq, .ref ed, .int (nI n)]), (ed, zc G 4 (zO n ef))]).trans (z_cutP2 (z_cut (is := [0, 1]) (ws := [(lst, zo 14 [.int mq, .ref ed, .int (nI n)]), (ed, zc G 4 (zO n ef))]) (cells := [(lst, zo 14 [.int mq, .ref ed, .int (nI n)]), (ed, zc G 4 (zO n ef))]) rfl rfl)))) 0 rfl rfl rfl rfl rfl (Nat.le_of_ble_eq_true rfl) hl.1 ⟨Nat.le_of_ble_eq_true rfl, Nat.le_of_ble_eq_true rfl⟩ ⟨(Nat.le_of_ble_eq_true rfl), (Nat.le_of_ble_eq_true rfl)⟩ dJ23_grow_7) hw (fun u => (List.Perm.append_left [(u, zc G 4 (zO 15 (va_cpy ef (fun _ => none) 0 0 n)))] (z_putP2 (z_pput (is := [0, 1]) (ws := [(lst, zo 14 [.int mq, .ref ed, .int (nI n)]), (ed, zc G 4 (zO n ef))]) (cells := [(lst, zo 14 [.int mq, .ref ed, .int (nI n)]), (ed, zc G 4 (zO n ef))]) (cells' := [(lst, zo 14 [.int mq, .ref u, .int (nI n)]), (ed, zc G 4 (zO n ef))]) rfl rfl rfl))).trans ((((z_mv1 X Y rest).trans (z_mv1 Y X rest))).symm.append_left [(u, zc G 4 (zO 15 (va_cpy ef (fun _ => none) 0 0 n))), (lst, zo 14 [.int mq, .ref u, .int (nI n)]), (ed, zc G 4 (zO n ef))])) (fun r u H locs hp hw => ?_)
  obtain ⟨en, rfl⟩ : ∃ z, z = u := ⟨_, rfl⟩
  have hw : zS G ((en, zc G 4 (zO 15 (va_cpy ef (fun _ => none) 0 0 n))) :: (lst, zo 14 [.int mq, .ref en, .int (nI n)]) :: (ed, zc G 4 (zO n ef)) :: (X ++ (Y ++ rest))) s H locs := hw
  obtain rfl := hp
  exact hend _ _ _ _ _ _ (some en) en hw rfl (Nat.le_of_ble_eq_true rfl) (Nat.le_of_ble_eq_true rfl) dJ23_grow_10
theorem zv_J23_135 : zVs RJ23 135 yJ23_rangeCheckForAdd cJ23_rangeCheckForAdd 2 none 1 := ⟨lw_V q1196 q1198 qs19 q85 q1199, ⟨by decide +kernel, by decide +kernel⟩, by decide +kernel⟩
theorem zf_J23_63_14 : zFu 14 0 RJ23 63 false .int := ⟨RJ23, TJ23, 3, tyJ23, rfl, by decide, in_J23, ⟨_, q585, Or.inr q581⟩, rfl, by decide +kernel, tyJ23_ok⟩
theorem zv_J23_129 : zVs RJ23 129 yJ23_grow cJ23_grow 1 (some (.array (.object "java/lang/Object"))) 0 := ⟨lw_V q1624 q1626 qs22 q85 q1627, ⟨by decide +kernel, by decide +kernel⟩, by decide +kernel⟩
set_option maxHeartbeats 4000000 in
theorem m_J23_add_0 (G : zE) (l : Launch) (kA : Nat → Nat) (hG : zG G kA) (hV : zV G kA) (lst : Nat) (mq : Int32) (ef : Nat → Option Nat) (X : va_W) (Y : va_W) (x : Nat) (hxk : elOk kA (X ++ Y) x) (rest : va_W) : zMv G l yJ23_add cJ23_add 5 6 1 15 [.ref lst, .int (nI 0), .ref x] ((lst, zo 14 [.int mq, .ref (kA 5), .int (nI 0)]) :: (X ++ (Y ++ rest))) (fun u => (∀ j, j < 0 + 1 → u.2.2 j = insF ef 0 (some x) j) ∧ 0 + 1 ≤ u.2.1 ∧ (u.2.1 = 10 ∨ u.2.1 = 15)) (fun (u : Nat × Nat × (Nat → Option Nat)) => (u.1, zc G 4 (zO u.2.1 u.2.2)) :: (lst, zo 14 [.int (mq + (nI 1)), .ref u.1, .int (nI (0 + 1))]) :: (X ++ (Y ++ rest))) := by
  refine z_begV (by decide) (Nat.le_of_ble_eq_true rfl) (fun p e s m args below meth c ls Q hC hnm hl hw hend => ?_)
  have hx := hC.hx
  have hb := hC.hb
  have hl : lv_has ls 5 [(0, .ref lst), (1, .int (nI 0)), (2, .ref x)] := hl
  have hw : zS G ((lst, zo 14 [.int mq, .ref (kA 5), .int (nI 0)]) :: (X ++ (Y ++ rest))) s s.heap [] := hw
  have hz := hG s hC.hZ.1
  have hzv := hV s hC.hZ.1
  refine lv_aload_n hx hb dJ23_add_0 rfl (lv_at hl 0 rfl) ?_
  refine lv_iload_n hx hb dJ23_add_1 rfl (lv_at hl 1 rfl) ?_
  refine z_cv (z_runV (As := [.int (nI 0)]) (rest := []) hC zv_J23_135 (m_J23_rangeCheckForAdd G l lst (kA 5) 0 mq 0 (Nat.le_refl _) (by decide) (zrem [0] _)) hw (hw.perm (z_cut (is := [0]) (cells := [(lst, zo 14 [.int mq, .ref (kA 5), .int (nI 0)])]) rfl rfl)) 0 rfl rfl rfl rfl rfl (Nat.le_of_ble_eq_true rfl) hl.1 ⟨Nat.le_of_ble_eq_true rfl, Nat.le_of_ble_eq_true rfl⟩ ⟨(Nat.le_of_ble_eq_true rfl), (Nat.le_of_ble_eq_true rfl)⟩ dJ23_add_2) hw (fun _ => z_keep (is := [0]) (cs := [(lst, zo 14 [.int mq, .ref (kA 5), .int (nI 0)])]) rfl rfl) (fun u H locs hp hw => ?_)
  refine lv_aload_n hx hb dJ23_add_5 rfl (lv_at hl 0 rfl) ?_
  refine lv_dup hx hb dJ23_add_6 rfl ?_
  refine z_getU (v := .int mq) hC zf_J23_63_14 hw 0 rfl rfl dJ23_add_7 ?_
  refine lv_iconst (v := (nI 1)) hx hb dJ23_add_10 zk_1 ?_
  refine lv_iadd hx hb dJ23_add_11 ?_
  refine z_putU hC zf_J23_63_14 (fun q h => by cases h; decide +kernel) hw 0 rfl (Nat.le_of_ble_eq_true rfl) dJ23_add_12 (fun H locs hw => ?_)
  have hw : zS G ((lst, zo 14 [.int (mq + (nI 1)), .ref (kA 5), .int (nI 0)]) :: (X ++ (Y ++ rest))) s H locs := hw
  refine lv_aload_n hx hb dJ23_add_15 rfl (lv_at hl 0 rfl) ?_
  refine z_get (v := .int (nI 0)) hC zf_J23_48_14 hw 0 rfl rfl dJ23_add_16 ?_
  refine lv_dup hx hb dJ23_add_19 rfl ?_
  refine lv_istore_n (lv' := [(3, .int (nI 0)), (0, .ref lst), (1, .int (nI 0)), (2, .ref x)]) hx hb dJ23_add_20 rfl hl (by decide) rfl (fun ls hl => ?_)
  refine lv_aload_n hx hb dJ23_add_21 rfl (lv_at hl 1 rfl) ?_
  refine z_get (v := .ref (kA 5)) hC zf_J23_9_14 hw 0 rfl rfl dJ23_add_22 ?_
  refine lv_dup hx hb dJ23_add_25 rfl ?_
  refine lv_astore (lv' := [(4, .ref (kA 5)), (3, .int (nI 0)), (0, .ref lst), (1, .int (nI 0)), (2, .ref x)]) hx hb dJ23_add_26 hl (by decide) rfl (fun ls hl => ?_)
  refine z_alenK hC hzv.1.2 hw dJ23_add_28 ?_
  refine zi_ne (tgt := 38) hx hb (by decide) (by decide) dJ23_add_29 (by decide) (fun h => absurd h (by decide)) (fun _ => ?_)
  refine lv_aload_n hx hb dJ23_add_32 rfl (lv_at hl 2 rfl) ?_
  refine z_cq (z_runV (As := []) (rest := []) hC zv_J23_129 (m_J23_grow_0 G l kA (by first | assumption | (omega)) (by first | assumption | (omega)) lst (mq + (nI 1)) (zrem [0] _)) hw (hw.perm (z_cut (is := [0]) (cells := [(lst, zo 14 [.int (mq + (nI 1)), .ref (kA 5), .int (nI 0)])]) rfl rfl)) 0 rfl rfl rfl rfl rfl (Nat.le_of_ble_eq_true rfl) hl.1 ⟨Nat.le_of_ble_eq_true rfl, Nat.le_of_ble_eq_true rfl⟩ ⟨(Nat.le_of_ble_eq_true rfl), (Nat.le_of_ble_eq_true rfl)⟩ dJ23_add_33) hw (fun u => z_new1 (is := [0]) (cs := [(lst, zo 14 [.int (mq + (nI 1)), .ref (kA 5), .int (nI 0)])]) (cs' := [(lst, zo 14 [.int (mq + (nI 1)), .ref u, .int (nI 0)])]) (nw := [(u, zc G 4 (zO 10 (fun _ => none)))]) rfl rfl rfl) (fun r u H locs hp hw => ?_)
  obtain ⟨en, rfl⟩ : ∃ z, z = u := ⟨_, rfl⟩
  have hw : zS G ((en, zc G 4 (zO 10 (fun _ => none))) :: (lst, zo 14 [.int (mq + (nI 1)), .ref en, .int (nI 0)]) :: (X ++ (Y ++ rest))) s H locs := hw
  obtain rfl := hp
  refine lv_astore (lv' := [(4, .ref en), (3, .int (nI 0)), (0, .ref lst), (1, .int (nI 0)), (2, .ref x)]) hx hb dJ23_add_36 hl (by decide) rfl (fun ls hl => ?_)
  refine lv_aload hx hb dJ23_add_38 (lv_at hl 0 rfl) ?_
  refine lv_iload_n hx hb dJ23_add_40 rfl (lv_at hl 3 rfl) ?_
  refine lv_aload hx hb dJ23_add_41 (lv_at hl 0 rfl) ?_
  refine lv_iload_n hx hb dJ23_add_43 rfl (lv_at hl 3 rfl) ?_
  refine lv_iconst (v := (nI 1)) hx hb dJ23_add_44 zk_1 ?_
  refine zn_iadd hx hb dJ23_add_45 ?_
  refine lv_iload_n hx hb dJ23_add_46 rfl (lv_at hl 1 rfl) ?_
  refine lv_iload_n hx hb dJ23_add_47 rfl (lv_at hl 3 rfl) ?_
  refine zn_isub hx hb (by decide) dJ23_add_48 ?_
  refine z_copyQ (t := 4) (h := va_cpy (fun _ => none) (fun _ => none) 0 1 0) hC hl.1 q1644 zNat_ok hw 0 0 rfl rfl (fun _ => rfl) (by omega) (by omega) (by decide) (by decide) (fun i9 hi y hy => absurd hi (Nat.not_lt_zero _)) rfl (Nat.le_of_ble_eq_true rfl) ⟨Nat.le_of_ble_eq_true rfl, Nat.le_of_ble_eq_true rfl⟩ dJ23_add_49 (fun H locs hw => ?_)
  have hw : zS G ((en, zc G 4 (zO 10 (va_cpy (fun _ => none) (fun _ => none) 0 1 0))) :: (lst, zo 14 [.int (mq + (nI 1)), .ref en, .int (nI 0)]) :: (X ++ (Y ++ rest))) s H locs := hw
  refine lv_aload hx hb dJ23_add_52 (lv_at hl 0 rfl) ?_
  refine lv_iload_n hx hb dJ23_add_54 rfl (lv_at hl 3 rfl) ?_
  refine lv_aload_n hx hb dJ23_add_55 rfl (lv_at hl 4 rfl) ?_
  have hxa := any_el hC hz hzv (E := [(en, zc G 4 (zO 10 (va_cpy (fun _ => none) (fun _ => none) 0 1 0))), (lst, zo 14 [.int (mq + (nI 1)), .ref en, .int (nI 0)])]) (X := X) (Y := Y) hw hxk
  refine z_aast (t := 4) (f' := va_up (va_cpy (fun _ => none) (fun _ => none) 0 1 0) 0 (some x)) hC hw 0 rfl (fun _ => rfl) (by decide) (by decide) hxa rfl dJ23_add_56 (fun H locs hw => ?_)
  have hw : zS G ((en, zc G 4 (zO 10 (va_up (va_cpy (fun _ => none) (fun _ => none) 0 1 0) 0 (some x)))) :: (lst, zo 14 [.int (mq + (nI 1)), .ref en, .int (nI 0)]) :: (X ++ (Y ++ rest))) s H locs := hw
  refine lv_aload_n hx hb dJ23_add_57 rfl (lv_at hl 2 rfl) ?_
  refine lv_iload_n hx hb dJ23_add_58 rfl (lv_at hl 1 rfl) ?_
  refine lv_iconst (v := (nI 1)) hx hb dJ23_add_59 zk_1 ?_
  refine zn_iadd hx hb dJ23_add_60 ?_
  refine z_puti hC zf_J23_48_14 hw 1 rfl (Nat.le_of_ble_eq_true rfl) dJ23_add_61 (fun H locs hw => ?_)
  have hw : zS G ((en, zc G 4 (zO 10 (va_up (va_cpy (fun _ => none) (fun _ => none) 0 1 0) 0 (some x)))) :: (lst, zo 14 [.int (mq + (nI 1)), .ref en, .int (nI 1)]) :: (X ++ (Y ++ rest))) s H locs := hw
  exact hend _ _ _ _ _ _ (en, 10, (va_up (va_cpy (fun _ => none) (fun _ => none) 0 1 0) 0 (some x))) hw ⟨fun j hj => by rw [show j = 0 from Nat.lt_one_iff.mp hj]; rfl, (show 0 + 1 ≤ 10 by decide), Or.inl rfl⟩ (Nat.le_of_ble_eq_true rfl) (Nat.le_of_ble_eq_true rfl) dJ23_add_64
set_option maxHeartbeats 4000000 in
theorem m_J23_add_o (G : zE) (l : Launch) (kA : Nat → Nat) (hG : zG G kA) (hV : zV G kA) (lst : Nat) (ed : Nat) (n : Nat) (mq : Int32) (cap : Nat) (ef : Nat → Option Nat) (i : Nat) (x : Nat) (X : va_W) (Y : va_W) (hxk : elOk kA (X ++ Y) x) (hel : ∀ j, j < n → ∀ y, ef j = some y → elOk kA (X ++ Y) y) (hi : i ≤ n) (hn : n < cap) (hc9 : cap = 10 ∨ cap = 15) (hn12 : n ≤ 12) (rest : va_W) : zMv G l yJ23_add cJ23_add 5 6 1 15 [.ref lst, .int (nI i), .ref x] ((lst, zo 14 [.int mq, .ref ed, .int (nI n)]) :: (ed, zc G 4 (zO cap ef)) :: (X ++ (Y ++ rest))) (fun u => (∀ j, j < n + 1 → u.2.2 j = insF ef i (some x) j) ∧ n + 1 ≤ u.2.1 ∧ (u.2.1 = 10 ∨ u.2.1 = 15)) (fun (u : Nat × Nat × (Nat → Option Nat)) => (lst, zo 14 [.int (mq + (nI 1)), .ref u.1, .int (nI (n + 1))]) :: (u.1, zc G 4 (zO u.2.1 u.2.2)) :: (X ++ (Y ++ rest))) := by
  refine z_begV (by decide) (Nat.le_of_ble_eq_true rfl) (fun p e s m args below meth c ls Q hC hnm hl hw hend => ?_)
  have hx := hC.hx
  have hb := hC.hb
  have hl : lv_has ls 5 [(0, .ref lst), (1, .int (nI i)), (2, .ref x)] := hl
  have hw : zS G ((lst, zo 14 [.int mq, .ref ed, .int (nI n)]) :: (ed, zc G 4 (zO cap ef)) :: (X ++ (Y ++ rest))) s s.heap [] := hw
  have hz := hG s hC.hZ.1
  have hzv := hV s hC.hZ.1
  refine lv_aload_n hx hb dJ23_add_0 rfl (lv_at hl 0 rfl) ?_
  refine lv_iload_n hx hb dJ23_add_1 rfl (lv_at hl 1 rfl) ?_
  refine z_cv (z_runV (As := [.int (nI i)]) (rest := []) hC zv_J23_135 (m_J23_rangeCheckForAdd G l lst ed n mq i (by omega) (by omega) (zrem [0] _)) hw (hw.perm (z_cut (is := [0]) (cells := [(lst, zo 14 [.int mq, .ref ed, .int (nI n)])]) rfl rfl)) 0 rfl rfl rfl rfl rfl (Nat.le_of_ble_eq_true rfl) hl.1 ⟨Nat.le_of_ble_eq_true rfl, Nat.le_of_ble_eq_true rfl⟩ ⟨(Nat.le_of_ble_eq_true rfl), (Nat.le_of_ble_eq_true rfl)⟩ dJ23_add_2) hw (fun _ => z_keep (is := [0]) (cs := [(lst, zo 14 [.int mq, .ref ed, .int (nI n)])]) rfl rfl) (fun u H locs hp hw => ?_)
  refine lv_aload_n hx hb dJ23_add_5 rfl (lv_at hl 0 rfl) ?_
  refine lv_dup hx hb dJ23_add_6 rfl ?_
  refine z_getU (v := .int mq) hC zf_J23_63_14 hw 0 rfl rfl dJ23_add_7 ?_
  refine lv_iconst (v := (nI 1)) hx hb dJ23_add_10 zk_1 ?_
  refine lv_iadd hx hb dJ23_add_11 ?_
  refine z_putU hC zf_J23_63_14 (fun q h => by cases h; decide +kernel) hw 0 rfl (Nat.le_of_ble_eq_true rfl) dJ23_add_12 (fun H locs hw => ?_)
  have hw : zS G ((lst, zo 14 [.int (mq + (nI 1)), .ref ed, .int (nI n)]) :: (ed, zc G 4 (zO cap ef)) :: (X ++ (Y ++ rest))) s H locs := hw
  refine lv_aload_n hx hb dJ23_add_15 rfl (lv_at hl 0 rfl) ?_
  refine z_get (v := .int (nI n)) hC zf_J23_48_14 hw 0 rfl rfl dJ23_add_16 ?_
  refine lv_dup hx hb dJ23_add_19 rfl ?_
  refine lv_istore_n (lv' := [(3, .int (nI n)), (0, .ref lst), (1, .int (nI i)), (2, .ref x)]) hx hb dJ23_add_20 rfl hl (by decide) rfl (fun ls hl => ?_)
  refine lv_aload_n hx hb dJ23_add_21 rfl (lv_at hl 1 rfl) ?_
  refine z_get (v := .ref ed) hC zf_J23_9_14 hw 0 rfl rfl dJ23_add_22 ?_
  refine lv_dup hx hb dJ23_add_25 rfl ?_
  refine lv_astore (lv' := [(4, .ref ed), (3, .int (nI n)), (0, .ref lst), (1, .int (nI i)), (2, .ref x)]) hx hb dJ23_add_26 hl (by decide) rfl (fun ls hl => ?_)
  refine z_alen (t := 4) hC hw 1 rfl (fun _ => rfl) dJ23_add_28 ?_
  show W p l e (zR 6 1 15) s m args below meth c H locs 0 0 Q (F0 m 29 ls [.int (nI cap), .int (nI n)])
  refine zi_ne (tgt := 38) hx hb (by omega) (by omega) dJ23_add_29 (by decide) (fun _ => ?_) (fun h => absurd h (by omega))
  refine lv_aload hx hb dJ23_add_38 (lv_at hl 0 rfl) ?_
  refine lv_iload_n hx hb dJ23_add_40 rfl (lv_at hl 3 rfl) ?_
  refine lv_aload hx hb dJ23_add_41 (lv_at hl 0 rfl) ?_
  refine lv_iload_n hx hb dJ23_add_43 rfl (lv_at hl 3 rfl) ?_
  refine lv_iconst (v := (nI 1)) hx hb dJ23_add_44 zk_1 ?_
  refine zn_iadd hx hb dJ23_add_45 ?_
  refine lv_iload_n hx hb dJ23_add_46 rfl (lv_at hl 1 rfl) ?_
  refine lv_iload_n hx hb dJ23_add_47 rfl (lv_at hl 3 rfl) ?_
  refine zn_isub hx hb (by omega) dJ23_add_48 ?_
  have hae := fun (y : Nat) (h : elOk kA (X ++ Y) y) => any_el hC hz hzv (E := [(lst, zo 14 [.int (mq + (nI 1)), .ref ed, .int (nI n)]), (ed, zc G 4 (zO cap ef))]) (X := X) (Y := Y) hw h
  refine z_copyQ (t := 4) (h := va_cpy ef ef i (i + 1) (n - i)) hC hl.1 q1644 zNat_ok hw 1 1 rfl rfl (fun _ => rfl) (by omega) (by omega) (by omega) (by omega) (fun i9 hi y hy => hae y (hel _ (by omega) y hy)) rfl (Nat.le_of_ble_eq_true rfl) ⟨Nat.le_of_ble_eq_true rfl, Nat.le_of_ble_eq_true rfl⟩ dJ23_add_49 (fun H locs hw => ?_)
  have hw : zS G ((lst, zo 14 [.int (mq + (nI 1)), .ref ed, .int (nI n)]) :: (ed, zc G 4 (zO cap (va_cpy ef ef i (i + 1) (n - i)))) :: (X ++ (Y ++ rest))) s H locs := hw
  refine lv_aload hx hb dJ23_add_52 (lv_at hl 0 rfl) ?_
  refine lv_iload_n hx hb dJ23_add_54 rfl (lv_at hl 3 rfl) ?_
  refine lv_aload_n hx hb dJ23_add_55 rfl (lv_at hl 4 rfl) ?_
  have hxa := any_el hC hz hzv (E := [(lst, zo 14 [.int (mq + (nI 1)), .ref ed, .int (nI n)]), (ed, zc G 4 (zO cap (va_cpy ef ef i (i + 1) (n - i))))]) (X := X) (Y := Y) hw hxk
  refine z_aast (t := 4) (f' := va_up (va_cpy ef ef i (i + 1) (n - i)) i (some x)) hC hw 1 rfl (fun _ => rfl) (by omega) (by omega) hxa rfl dJ23_add_56 (fun H locs hw => ?_)
  have hw : zS G ((lst, zo 14 [.int (mq + (nI 1)), .ref ed, .int (nI n)]) :: (ed, zc G 4 (zO cap (va_up (va_cpy ef ef i (i + 1) (n - i)) i (some x)))) :: (X ++ (Y ++ rest))) s H locs := hw
  refine lv_aload_n hx hb dJ23_add_57 rfl (lv_at hl 2 rfl) ?_
  refine lv_iload_n hx hb dJ23_add_58 rfl (lv_at hl 1 rfl) ?_
  refine lv_iconst (v := (nI 1)) hx hb dJ23_add_59 zk_1 ?_
  refine zn_iadd hx hb dJ23_add_60 ?_
  refine z_puti hC zf_J23_48_14 hw 0 rfl (Nat.le_of_ble_eq_true rfl) dJ23_add_61 (fun H locs hw => ?_)
  have hw : zS G ((lst, zo 14 [.int (mq + (nI 1)), .ref ed, .int (nI (n + 1))]) :: (ed, zc G 4 (zO cap (va_up (va_cpy ef ef i (i + 1) (n - i)) i (some x)))) :: (X ++ (Y ++ rest))) s H locs := hw
  exact hend _ _ _ _ _ _ (ed, cap, (va_up (va_cpy ef ef i (i + 1) (n - i)) i (some x))) hw ⟨ins_arr hi, (show n + 1 ≤ cap by omega), hc9⟩ (Nat.le_of_ble_eq_true rfl) (Nat.le_of_ble_eq_true rfl) dJ23_add_64
set_option maxHeartbeats 4000000 in
theorem m_J23_add_n (G : zE) (l : Launch) (kA : Nat → Nat) (hG : zG G kA) (hV : zV G kA) (lst : Nat) (ed : Nat) (n : Nat) (mq : Int32) (ef : Nat → Option Nat) (i : Nat) (x : Nat) (X : va_W) (Y : va_W) (hxk : elOk kA (X ++ Y) x) (hel : ∀ j, j < n → ∀ y, ef j = some y → elOk kA (X ++ Y) y) (hi : i ≤ n) (hn : n = 10) (rest : va_W) : zMv G l yJ23_add cJ23_add 5 6 1 15 [.ref lst, .int (nI i), .ref x] ((lst, zo 14 [.int mq, .ref ed, .int (nI n)]) :: (ed, zc G 4 (zO n ef)) :: (X ++ (Y ++ rest))) (fun u => (∀ j, j < n + 1 → u.2.2 j = insF ef i (some x) j) ∧ n + 1 ≤ u.2.1 ∧ (u.2.1 = 10 ∨ u.2.1 = 15)) (fun (u : Nat × Nat × (Nat → Option Nat)) => (lst, zo 14 [.int (mq + (nI 1)), .ref u.1, .int (nI (n + 1))]) :: (u.1, zc G 4 (zO u.2.1 u.2.2)) :: (X ++ (Y ++ rest))) := by
  refine z_begV (by decide) (Nat.le_of_ble_eq_true rfl) (fun p e s m args below meth c ls Q hC hnm hl hw hend => ?_)
  have hx := hC.hx
  have hb := hC.hb
  have hl : lv_has ls 5 [(0, .ref lst), (1, .int (nI i)), (2, .ref x)] := hl
  have hw : zS G ((lst, zo 14 [.int mq, .ref ed, .int (nI n)]) :: (ed, zc G 4 (zO n ef)) :: (X ++ (Y ++ rest))) s s.heap [] := hw
  have hz := hG s hC.hZ.1
  have hzv := hV s hC.hZ.1
  refine lv_aload_n hx hb dJ23_add_0 rfl (lv_at hl 0 rfl) ?_
  refine lv_iload_n hx hb dJ23_add_1 rfl (lv_at hl 1 rfl) ?_
  refine z_cv (z_runV (As := [.int (nI i)]) (rest := []) hC zv_J23_135 (m_J23_rangeCheckForAdd G l lst ed n mq i (by omega) (by omega) (zrem [0] _)) hw (hw.perm (z_cut (is := [0]) (cells := [(lst, zo 14 [.int mq, .ref ed, .int (nI n)])]) rfl rfl)) 0 rfl rfl rfl rfl rfl (Nat.le_of_ble_eq_true rfl) hl.1 ⟨Nat.le_of_ble_eq_true rfl, Nat.le_of_ble_eq_true rfl⟩ ⟨(Nat.le_of_ble_eq_true rfl), (Nat.le_of_ble_eq_true rfl)⟩ dJ23_add_2) hw (fun _ => z_keep (is := [0]) (cs := [(lst, zo 14 [.int mq, .ref ed, .int (nI n)])]) rfl rfl) (fun u H locs hp hw => ?_)
  refine lv_aload_n hx hb dJ23_add_5 rfl (lv_at hl 0 rfl) ?_
  refine lv_dup hx hb dJ23_add_6 rfl ?_
  refine z_getU (v := .int mq) hC zf_J23_63_14 hw 0 rfl rfl dJ23_add_7 ?_
  refine lv_iconst (v := (nI 1)) hx hb dJ23_add_10 zk_1 ?_
  refine lv_iadd hx hb dJ23_add_11 ?_
  refine z_putU hC zf_J23_63_14 (fun q h => by cases h; decide +kernel) hw 0 rfl (Nat.le_of_ble_eq_true rfl) dJ23_add_12 (fun H locs hw => ?_)
  have hw : zS G ((lst, zo 14 [.int (mq + (nI 1)), .ref ed, .int (nI n)]) :: (ed, zc G 4 (zO n ef)) :: (X ++ (Y ++ rest))) s H locs := hw
  refine lv_aload_n hx hb dJ23_add_15 rfl (lv_at hl 0 rfl) ?_
  refine z_get (v := .int (nI n)) hC zf_J23_48_14 hw 0 rfl rfl dJ23_add_16 ?_
  refine lv_dup hx hb dJ23_add_19 rfl ?_
  refine lv_istore_n (lv' := [(3, .int (nI n)), (0, .ref lst), (1, .int (nI i)), (2, .ref x)]) hx hb dJ23_add_20 rfl hl (by decide) rfl (fun ls hl => ?_)
  refine lv_aload_n hx hb dJ23_add_21 rfl (lv_at hl 1 rfl) ?_
  refine z_get (v := .ref ed) hC zf_J23_9_14 hw 0 rfl rfl dJ23_add_22 ?_
  refine lv_dup hx hb dJ23_add_25 rfl ?_
  refine lv_astore (lv' := [(4, .ref ed), (3, .int (nI n)), (0, .ref lst), (1, .int (nI i)), (2, .ref x)]) hx hb dJ23_add_26 hl (by decide) rfl (fun ls hl => ?_)
  refine z_alen (t := 4) hC hw 1 rfl (fun _ => rfl) dJ23_add_28 ?_
  show W p l e (zR 6 1 15) s m args below meth c H locs 0 0 Q (F0 m 29 ls [.int (nI n), .int (nI n)])
  refine zi_ne (tgt := 38) hx hb (by omega) (by omega) dJ23_add_29 (by decide) (fun h => absurd rfl h) (fun _ => ?_)
  refine lv_aload_n hx hb dJ23_add_32 rfl (lv_at hl 2 rfl) ?_
  refine z_cq (z_runV (As := []) (rest := []) hC zv_J23_129 (m_J23_grow_n G l kA (by first | assumption | (omega)) (by first | assumption | (omega)) lst ed n (mq + (nI 1)) ef X Y (by omega) (by first | assumption | (omega)) (zrem [0, 1] [(lst, zo 14 [.int (mq + (nI 1)), .ref ed, .int (nI n)]), (ed, zc G 4 (zO n ef))] ++ rest)) hw (hw.perm (((((z_mv1 X Y rest).trans (z_mv1 Y X rest))).append_left [(lst, zo 14 [.int (mq + (nI 1)), .ref ed, .int (nI n)]), (ed, zc G 4 (zO n ef))]).trans (z_cutP2 (z_cut (is := [0, 1]) (ws := [(lst, zo 14 [.int (mq + (nI 1)), .ref ed, .int (nI n)]), (ed, zc G 4 (zO n ef))]) (cells := [(lst, zo 14 [.int (mq + (nI 1)), .ref ed, .int (nI n)]), (ed, zc G 4 (zO n ef))]) rfl rfl)))) 0 rfl rfl rfl rfl rfl (Nat.le_of_ble_eq_true rfl) hl.1 ⟨Nat.le_of_ble_eq_true rfl, Nat.le_of_ble_eq_true rfl⟩ ⟨(Nat.le_of_ble_eq_true rfl), (Nat.le_of_ble_eq_true rfl)⟩ dJ23_add_33) hw (fun u => (List.Perm.append_left [(u, zc G 4 (zO 15 (va_cpy ef (fun _ => none) 0 0 n)))] (z_putP2 (z_pput (is := [0, 1]) (ws := [(lst, zo 14 [.int (mq + (nI 1)), .ref ed, .int (nI n)]), (ed, zc G 4 (zO n ef))]) (cells := [(lst, zo 14 [.int (mq + (nI 1)), .ref ed, .int (nI n)]), (ed, zc G 4 (zO n ef))]) (cells' := [(lst, zo 14 [.int (mq + (nI 1)), .ref u, .int (nI n)]), (ed, zc G 4 (zO n ef))]) rfl rfl rfl))).trans ((((z_mv1 X Y rest).trans (z_mv1 Y X rest))).symm.append_left [(u, zc G 4 (zO 15 (va_cpy ef (fun _ => none) 0 0 n))), (lst, zo 14 [.int (mq + (nI 1)), .ref u, .int (nI n)]), (ed, zc G 4 (zO n ef))])) (fun r u H locs hp hw => ?_)
  obtain ⟨en, rfl⟩ : ∃ z, z = u := ⟨_, rfl⟩
  have hw : zS G ((en, zc G 4 (zO 15 (va_cpy ef (fun _ => none) 0 0 n))) :: (lst, zo 14 [.int (mq + (nI 1)), .ref en, .int (nI n)]) :: (ed, zc G 4 (zO n ef)) :: (X ++ (Y ++ rest))) s H locs := hw
  obtain rfl := hp
  refine lv_astore (lv' := [(4, .ref en), (3, .int (nI n)), (0, .ref lst), (1, .int (nI i)), (2, .ref x)]) hx hb dJ23_add_36 hl (by decide) rfl (fun ls hl => ?_)
  refine lv_aload hx hb dJ23_add_38 (lv_at hl 0 rfl) ?_
  refine lv_iload_n hx hb dJ23_add_40 rfl (lv_at hl 3 rfl) ?_
  refine lv_aload hx hb dJ23_add_41 (lv_at hl 0 rfl) ?_
  refine lv_iload_n hx hb dJ23_add_43 rfl (lv_at hl 3 rfl) ?_
  refine lv_iconst (v := (nI 1)) hx hb dJ23_add_44 zk_1 ?_
  refine zn_iadd hx hb dJ23_add_45 ?_
  refine lv_iload_n hx hb dJ23_add_46 rfl (lv_at hl 1 rfl) ?_
  refine lv_iload_n hx hb dJ23_add_47 rfl (lv_at hl 3 rfl) ?_
  refine zn_isub hx hb (by omega) dJ23_add_48 ?_
  have hae := fun (y : Nat) (h : elOk kA (X ++ Y) y) => any_el hC hz hzv (E := [(en, zc G 4 (zO 15 (va_cpy ef (fun _ => none) 0 0 n))), (lst, zo 14 [.int (mq + (nI 1)), .ref en, .int (nI n)]), (ed, zc G 4 (zO n ef))]) (X := X) (Y := Y) hw h
  refine z_copyQ (t := 4) (h := va_cpy (va_cpy ef (fun _ => none) 0 0 n) (va_cpy ef (fun _ => none) 0 0 n) i (i + 1) (n - i)) hC hl.1 q1644 zNat_ok hw 0 0 rfl rfl (fun _ => rfl) (by omega) (by omega) (by decide) (by decide) (fun i9 hi y hy => hae y (hel (i + i9) (by omega) y ((cp_arr _ (by omega)).symm.trans hy))) rfl (Nat.le_of_ble_eq_true rfl) ⟨Nat.le_of_ble_eq_true rfl, Nat.le_of_ble_eq_true rfl⟩ dJ23_add_49 (fun H locs hw => ?_)
  have hw : zS G ((en, zc G 4 (zO 15 (va_cpy (va_cpy ef (fun _ => none) 0 0 n) (va_cpy ef (fun _ => none) 0 0 n) i (i + 1) (n - i)))) :: (lst, zo 14 [.int (mq + (nI 1)), .ref en, .int (nI n)]) :: (ed, zc G 4 (zO n ef)) :: (X ++ (Y ++ rest))) s H locs := hw
  refine lv_aload hx hb dJ23_add_52 (lv_at hl 0 rfl) ?_
  refine lv_iload_n hx hb dJ23_add_54 rfl (lv_at hl 3 rfl) ?_
  refine lv_aload_n hx hb dJ23_add_55 rfl (lv_at hl 4 rfl) ?_
  have hxa := any_el hC hz hzv (E := [(en, zc G 4 (zO 15 (va_cpy (va_cpy ef (fun _ => none) 0 0 n) (va_cpy ef (fun _ => none) 0 0 n) i (i + 1) (n - i)))), (lst, zo 14 [.int (mq + (nI 1)), .ref en, .int (nI n)]), (ed, zc G 4 (zO n ef))]) (X := X) (Y := Y) hw hxk
  refine z_aast (t := 4) (f' := va_up (va_cpy (va_cpy ef (fun _ => none) 0 0 n) (va_cpy ef (fun _ => none) 0 0 n) i (i + 1) (n - i)) i (some x)) hC hw 0 rfl (fun _ => rfl) (by omega) (by decide) hxa rfl dJ23_add_56 (fun H locs hw => ?_)
  have hw : zS G ((en, zc G 4 (zO 15 (va_up (va_cpy (va_cpy ef (fun _ => none) 0 0 n) (va_cpy ef (fun _ => none) 0 0 n) i (i + 1) (n - i)) i (some x)))) :: (lst, zo 14 [.int (mq + (nI 1)), .ref en, .int (nI n)]) :: (ed, zc G 4 (zO n ef)) :: (X ++ (Y ++ rest))) s H locs := hw
  refine lv_aload_n hx hb dJ23_add_57 rfl (lv_at hl 2 rfl) ?_
  refine lv_iload_n hx hb dJ23_add_58 rfl (lv_at hl 1 rfl) ?_
  refine lv_iconst (v := (nI 1)) hx hb dJ23_add_59 zk_1 ?_
  refine zn_iadd hx hb dJ23_add_60 ?_
  refine z_puti hC zf_J23_48_14 hw 1 rfl (Nat.le_of_ble_eq_true rfl) dJ23_add_61 (fun H locs hw => ?_)
  have hw : zS G ((en, zc G 4 (zO 15 (va_up (va_cpy (va_cpy ef (fun _ => none) 0 0 n) (va_cpy ef (fun _ => none) 0 0 n) i (i + 1) (n - i)) i (some x)))) :: (lst, zo 14 [.int (mq + (nI 1)), .ref en, .int (nI (n + 1))]) :: (ed, zc G 4 (zO n ef)) :: (X ++ (Y ++ rest))) s H locs := hw
  have hw : zS G ((ed, zc G 4 (zO n ef)) :: (en, zc G 4 (zO 15 (va_up (va_cpy (va_cpy ef (fun _ => none) 0 0 n) (va_cpy ef (fun _ => none) 0 0 n) i (i + 1) (n - i)) i (some x)))) :: (lst, zo 14 [.int (mq + (nI 1)), .ref en, .int (nI (n + 1))]) :: (X ++ (Y ++ rest))) s H locs := hw.perm (((z_cut (is := [2, 0, 1]) (ws := [(en, zc G 4 (zO 15 (va_up (va_cpy (va_cpy ef (fun _ => none) 0 0 n) (va_cpy ef (fun _ => none) 0 0 n) i (i + 1) (n - i)) i (some x)))), (lst, zo 14 [.int (mq + (nI 1)), .ref en, .int (nI (n + 1))]), (ed, zc G 4 (zO n ef))]) (cells := [(ed, zc G 4 (zO n ef)), (en, zc G 4 (zO 15 (va_up (va_cpy (va_cpy ef (fun _ => none) 0 0 n) (va_cpy ef (fun _ => none) 0 0 n) i (i + 1) (n - i)) i (some x)))), (lst, zo 14 [.int (mq + (nI 1)), .ref en, .int (nI (n + 1))])]) rfl rfl).append_right (X ++ (Y ++ rest))).trans (by rw [List.append_assoc]; exact List.Perm.refl _))
  have hw := hw.drop
  have hw : zS G ((lst, zo 14 [.int (mq + (nI 1)), .ref en, .int (nI (n + 1))]) :: (en, zc G 4 (zO 15 (va_up (va_cpy (va_cpy ef (fun _ => none) 0 0 n) (va_cpy ef (fun _ => none) 0 0 n) i (i + 1) (n - i)) i (some x)))) :: (X ++ (Y ++ rest))) s H locs := hw.perm (((z_cut (is := [1, 0]) (ws := [(en, zc G 4 (zO 15 (va_up (va_cpy (va_cpy ef (fun _ => none) 0 0 n) (va_cpy ef (fun _ => none) 0 0 n) i (i + 1) (n - i)) i (some x)))), (lst, zo 14 [.int (mq + (nI 1)), .ref en, .int (nI (n + 1))])]) (cells := [(lst, zo 14 [.int (mq + (nI 1)), .ref en, .int (nI (n + 1))]), (en, zc G 4 (zO 15 (va_up (va_cpy (va_cpy ef (fun _ => none) 0 0 n) (va_cpy ef (fun _ => none) 0 0 n) i (i + 1) (n - i)) i (some x))))]) rfl rfl).append_right (X ++ (Y ++ rest))).trans (by rw [List.append_assoc]; exact List.Perm.refl _))
  exact hend _ _ _ _ _ _ (en, 15, (va_up (va_cpy (va_cpy ef (fun _ => none) 0 0 n) (va_cpy ef (fun _ => none) 0 0 n) i (i + 1) (n - i)) i (some x))) hw ⟨fun j hj => (ins_arr hi j hj).trans (by unfold insF; split; exact cp_arr _ (by omega); split; rfl; exact cp_arr _ (by omega)), (show n + 1 ≤ 15 by omega), Or.inr rfl⟩ (Nat.le_of_ble_eq_true rfl) (Nat.le_of_ble_eq_true rfl) dJ23_add_64
