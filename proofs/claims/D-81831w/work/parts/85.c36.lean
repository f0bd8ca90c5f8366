/-! STRINGS: the builder -/
set_option maxRecDepth 100000
theorem shl0 (x : Int32) : x <<< (nI 0 &&& 31) = x := by rw [show (nI 0 &&& 31 : Int32) = 0 from by decide]; simp
theorem shr0 (x : Int32) : x >>> (nI 0 &&& 31) = x := by rw [show (nI 0 &&& 31 : Int32) = 0 from by decide]; simp
theorem le0 {a b : Nat} (h : a ≤ b) (hb : b < 2147483648) : nI a - nI b ≤ 0 := by
  rw [Int32.le_iff_toInt_le, Int32.toInt_sub, nI_toInt (by omega), nI_toInt hb, Int.bmod_eq_of_le (by omega) (by omega)]
  show (_ : Int) ≤ 0
  omega
theorem fit_up {g : Nat → Int32} (h : ∀ j, fits .byte (.int (g j)) = true) (k c : Nat) : ∀ j, fits .byte (.int (upd g k (btL c) j)) = true := by
  intro j
  unfold upd
  split
  · exact pk_fb _
  · exact h j
theorem cpy_at {g : Nat → Int32} {n j : Nat} (h : j < n) : va_cpy g (fun _ => 0) 0 0 n j = g j := by
  unfold va_cpy; rw [if_pos ⟨by omega, by omega⟩]; congr 1; omega
theorem fit_cpy {g : Nat → Int32} {n : Nat} (h : ∀ j, fits .byte (.int (g j)) = true) : ∀ j, fits .byte (.int (va_cpy g (fun _ => 0) 0 0 n j)) = true := by
  intro j
  unfold va_cpy
  split
  · exact h _
  · show fits .byte (.int (0 : Int32)) = true; decide
theorem ap_at {g : Nat → Int32} {n k j : Nat} {x : Int32} (hk : k = n) (hj : j < k + 1) : upd (va_cpy g (fun _ => 0) 0 0 n) k x j = if j = k then x else g j := by
  unfold upd
  by_cases e : j = k
  · rw [if_pos e, if_pos e]
  · rw [if_neg e, if_neg e]; exact cpy_at (by omega)
set_option maxHeartbeats 4000000 in
theorem m_J5_newLength_b (G : zE) (l : Launch) (a : Nat) (b : Nat) (c9 : Nat) (ha : a ≤ 1000) (hb9 : b ≤ 1000) (hc9 : c9 ≤ 2000) (h0 : 0 < a) (rest : va_W) : zMi G l yJ5_newLength cJ5_newLength 4 (some .int) 1 0 0 [.int (nI a), .int (nI b), .int (nI c9)] (rest) (fun (r : Int32) (_ : Unit) => r = nI (a + max b c9)) (fun (_ : Unit) => rest) := by
  refine z_begI (by decide) (Nat.le_of_ble_eq_true rfl) (fun p e s m args below meth c ls Q hC hl hw hend => ?_)
  have hx := hC.hx
  have hb := hC.hb
  have hl : lv_has ls 4 [(0, .int (nI a)), (1, .int (nI b)), (2, .int (nI c9))] := hl
  refine lv_iload_n hx hb dJ5_newLength_0 rfl (lv_at hl 0 rfl) ?_
  refine lv_iload_n hx hb dJ5_newLength_1 rfl (lv_at hl 1 rfl) ?_
  refine lv_iload_n hx hb dJ5_newLength_2 rfl (lv_at hl 2 rfl) ?_
  refine z_mmax (v := nI (max b c9)) hC hl.1 q337 zm_max (zm_max_d (by omega) (by omega)) (Nat.le_of_ble_eq_true rfl) ⟨Nat.le_of_ble_eq_true rfl, Nat.le_of_ble_eq_true rfl⟩ (Nat.le_of_ble_eq_true rfl) (Nat.le_of_ble_eq_true rfl) dJ5_newLength_3 ?_
  refine zn_iadd hx hb dJ5_newLength_6 ?_
  refine lv_istore_n (lv' := [(3, .int (nI (a + (max b c9)))), (0, .int (nI a)), (1, .int (nI b)), (2, .int (nI c9))]) hx hb dJ5_newLength_7 rfl hl (by decide) rfl (fun ls hl => ?_)
  refine lv_iconst (v := (nI 0)) hx hb dJ5_newLength_8 zk_0 ?_
  refine lv_iload_n hx hb dJ5_newLength_9 rfl (lv_at hl 0 rfl) ?_
  refine zi_ge (tgt := 21) hx hb (by decide) (by omega) dJ5_newLength_10 (by decide) (fun h => absurd h (by omega)) (fun _ => ?_)
  refine lv_iload_n hx hb dJ5_newLength_13 rfl (lv_at hl 0 rfl) ?_
  refine lv_ldc (v := (nI 2147483639)) hx hb hC.hown (hC.hts _ q340) dJ5_newLength_14 ?_
  refine zi_gt (tgt := 21) hx hb (by omega) (by decide) dJ5_newLength_16 (by decide) (fun h => absurd h (by omega)) (fun _ => ?_)
  refine lv_iload_n hx hb dJ5_newLength_19 rfl (lv_at hl 0 rfl) ?_
  exact hend _ _ _ _ _ _ _ () hw (by first | rfl | simp_all) (Nat.le_of_ble_eq_true rfl) (Nat.le_of_ble_eq_true rfl) dJ5_newLength_20
theorem zf_J1_22_11 : zFl 11 1 RJ1 22 false .byte := ⟨RJ2, TJ2, 4, tyJ2, rfl, by decide, in_J2, q307, rfl, by decide +kernel, tyJ2_ok, nmJ2⟩
set_option maxHeartbeats 4000000 in
theorem m_J1_isLatin1 (G : zE) (l : Launch) (kA : Nat → Nat) (hG : zG G kA) (sb : Nat) (va : Nat) (k : Nat) (cap : Nat) (g : Nat → Int32) (rest : va_W) : zMi G l yJ1_isLatin1 cJ1_isLatin1 1 (some .boolean) 0 0 0 [.ref sb] ((sb, zo 11 [.ref va, .int (nI 0), .int 0, .int (nI k)]) :: rest) (fun (r : Int32) (_ : Unit) => r = nI 1) (fun (_ : Unit) => (sb, zo 11 [.ref va, .int (nI 0), .int 0, .int (nI k)]) :: rest) := by
  refine z_begZ (by decide) (Nat.le_of_ble_eq_true rfl) (fun p e s m args below meth c ls Q hC hl hw hend => ?_)
  have hx := hC.hx
  have hb := hC.hb
  have hl : lv_has ls 1 [(0, .ref sb)] := hl
  have hw : zS G ((sb, zo 11 [.ref va, .int (nI 0), .int 0, .int (nI k)]) :: rest) s s.heap [] := hw
  have hz := hG s hC.hZ.1
  refine z_gets (v := .int (nI 1)) hC hz.2.2.2 hw q297 dJ1_isLatin1_0 ?_
  refine zj_eq (tgt := 17) hx hb (by decide) dJ1_isLatin1_3 (by decide) (fun h => absurd h (by decide)) (fun _ => ?_)
  refine lv_aload_n hx hb dJ1_isLatin1_6 rfl (lv_at hl 0 rfl) ?_
  refine z_get (v := .int (nI 0)) hC zf_J1_22_11 hw 0 rfl rfl dJ1_isLatin1_7 ?_
  refine zj_ne (tgt := 17) hx hb (by decide) dJ1_isLatin1_10 (by decide) (fun h => absurd h (by decide)) (fun _ => ?_)
  refine lv_iconst (v := (nI 1)) hx hb dJ1_isLatin1_13 zk_1 ?_
  refine lv_goto (tgt := 18) hx hb dJ1_isLatin1_14 (by decide) ?_
  exact hend _ _ _ _ _ _ _ () rfl hw rfl (Nat.le_of_ble_eq_true rfl) (Nat.le_of_ble_eq_true rfl) dJ1_isLatin1_18
set_option maxHeartbeats 4000000 in
theorem m_J7_canEncode (G : zE) (l : Launch) (c9 : Nat) (hc9 : c9 < 256) (rest : va_W) : zMi G l yJ7_canEncode cJ7_canEncode 1 (some .boolean) 0 0 0 [.int (nI c9)] (rest) (fun (r : Int32) (_ : Unit) => r = nI 1) (fun (_ : Unit) => rest) := by
  refine z_begZ (by decide) (Nat.le_of_ble_eq_true rfl) (fun p e s m args below meth c ls Q hC hl hw hend => ?_)
  have hx := hC.hx
  have hb := hC.hb
  have hl : lv_has ls 1 [(0, .int (nI c9))] := hl
  refine lv_iload_n hx hb dJ7_canEncode_0 rfl (lv_at hl 0 rfl) ?_
  refine lv_sipush (v := (nI 255)) hx hb dJ7_canEncode_1 zs_255 ?_
  refine zi_gt (tgt := 11) hx hb (by omega) (by decide) dJ7_canEncode_4 (by decide) (fun h => absurd h (by omega)) (fun _ => ?_)
  refine lv_iconst (v := (nI 1)) hx hb dJ7_canEncode_7 zk_1 ?_
  refine lv_goto (tgt := 12) hx hb dJ7_canEncode_8 (by decide) ?_
  exact hend _ _ _ _ _ _ _ () rfl hw rfl (Nat.le_of_ble_eq_true rfl) (Nat.le_of_ble_eq_true rfl) dJ7_canEncode_12
theorem zf_J1_15_11 : zFl 11 0 RJ1 15 false (.array .byte) := ⟨RJ2, TJ2, 4, tyJ2, rfl, by decide, in_J2, q306, rfl, by decide +kernel, tyJ2_ok, nmJ2⟩
theorem zs_J1_114 : zSs RJ1 114 yJ5_newLength cJ5_newLength 4 (some .int) 3 := ⟨lw_S q334 q335 q59 q336, ⟨by decide +kernel, by decide +kernel⟩, by decide +kernel⟩
set_option maxHeartbeats 4000000 in
theorem m_J1_newCapacity (G : zE) (l : Launch) (kA : Nat → Nat) (hG : zG G kA) (hS : zS9 G kA) (sb : Nat) (va : Nat) (k : Nat) (cap : Nat) (g : Nat → Int32) (hcap : cap ≤ 600) (hk : k = cap) (h0 : 0 < cap) (rest : va_W) : zMi G l yJ1_newCapacity cJ1_newCapacity 6 (some .int) 2 0 0 [.ref sb, .int (nI (k + 1))] ((sb, zo 11 [.ref va, .int (nI 0), .int 0, .int (nI k)]) :: (va, zc G 1 (zI cap g)) :: rest) (fun (r : Int32) (_ : Unit) => r = nI (2 * cap + 2)) (fun (_ : Unit) => (sb, zo 11 [.ref va, .int (nI 0), .int 0, .int (nI k)]) :: (va, zc G 1 (zI cap g)) :: rest) := by
  refine z_begI (by decide) (Nat.le_of_ble_eq_true rfl) (fun p e s m args below meth c ls Q hC hl hw hend => ?_)
  have hx := hC.hx
  have hb := hC.hb
  have hl : lv_has ls 6 [(0, .ref sb), (1, .int (nI (k + 1)))] := hl
  have hw : zS G ((sb, zo 11 [.ref va, .int (nI 0), .int 0, .int (nI k)]) :: (va, zc G 1 (zI cap g)) :: rest) s s.heap [] := hw
  have hz := hG s hC.hZ.1
  have hzs := hS s hC.hZ.1
  refine lv_aload_n hx hb dJ1_newCapacity_0 rfl (lv_at hl 0 rfl) ?_
  refine z_get (v := .ref va) hC zf_J1_15_11 hw 0 rfl rfl dJ1_newCapacity_1 ?_
  refine z_alen (t := 1) hC hw 1 rfl (fun _ => rfl) dJ1_newCapacity_4 ?_
  show W p l e (zR 2 0 0) s m args below meth c s.heap [] 0 0 Q (F0 m 5 ls [.int (nI cap)])
  refine lv_istore_n (lv' := [(2, .int (nI cap)), (0, .ref sb), (1, .int (nI (k + 1)))]) hx hb dJ1_newCapacity_5 rfl hl (by decide) rfl (fun ls hl => ?_)
  refine lv_iload_n hx hb dJ1_newCapacity_6 rfl (lv_at hl 2 rfl) ?_
  refine lv_aload_n hx hb dJ1_newCapacity_7 rfl (lv_at hl 1 rfl) ?_
  refine z_get (v := .int (nI 0)) hC zf_J1_22_11 hw 0 rfl rfl dJ1_newCapacity_8 ?_
  refine zv_ishl (v := (nI (k + 1))) hx hb (shl0 _) dJ1_newCapacity_11 ?_
  refine lv_istore_n (lv' := [(3, .int (nI (k + 1))), (2, .int (nI cap)), (0, .ref sb), (1, .int (nI (k + 1)))]) hx hb dJ1_newCapacity_12 rfl hl (by decide) rfl (fun ls hl => ?_)
  refine lv_iload_n hx hb dJ1_newCapacity_13 rfl (lv_at hl 0 rfl) ?_
  refine lv_iload_n hx hb dJ1_newCapacity_14 rfl (lv_at hl 1 rfl) ?_
  refine zv_isub (v := (nI 1)) hx hb (by rw [hk, nI_sub (by omega)]; congr 1; omega) dJ1_newCapacity_15 ?_
  refine lv_istore (lv' := [(4, .int (nI 1)), (3, .int (nI (k + 1))), (2, .int (nI cap)), (0, .ref sb), (1, .int (nI (k + 1)))]) hx hb dJ1_newCapacity_16 hl (by decide) rfl (fun ls hl => ?_)
  refine lv_iload_n hx hb dJ1_newCapacity_18 rfl (lv_at hl 2 rfl) ?_
  refine lv_iload hx hb dJ1_newCapacity_19 (lv_at hl 0 rfl) ?_
  refine lv_iload_n hx hb dJ1_newCapacity_21 rfl (lv_at hl 2 rfl) ?_
  refine lv_iconst (v := (nI 2)) hx hb dJ1_newCapacity_22 zk_2 ?_
  refine lv_aload_n hx hb dJ1_newCapacity_23 rfl (lv_at hl 3 rfl) ?_
  refine z_get (v := .int (nI 0)) hC zf_J1_22_11 hw 0 rfl rfl dJ1_newCapacity_24 ?_
  refine zv_ishl (v := (nI 2)) hx hb (shl0 _) dJ1_newCapacity_27 ?_
  refine zn_iadd hx hb dJ1_newCapacity_28 ?_
  refine z_ci (z_runS (As := [.int (nI cap), .int (nI 1), .int (nI (cap + 2))]) (rest := []) hC zs_J1_114 (m_J5_newLength_b G l cap 1 (cap + 2) (by omega) (by decide) (by omega) (by omega) _) hw rfl rfl (Nat.le_of_ble_eq_true rfl) hl.1 ⟨Nat.le_of_ble_eq_true rfl, Nat.le_of_ble_eq_true rfl⟩ ⟨(Nat.le_of_ble_eq_true rfl), (Nat.le_of_ble_eq_true rfl)⟩ dJ1_newCapacity_29) hw (fun _ => List.Perm.refl _) (fun r u H locs hp hw => ?_)
  obtain rfl : r = nI (cap + max 1 (cap + 2)) := hp
  refine lv_istore (lv' := [(5, .int (nI (cap + max 1 (cap + 2)))), (4, .int (nI 1)), (3, .int (nI (k + 1))), (2, .int (nI cap)), (0, .ref sb), (1, .int (nI (k + 1)))]) hx hb dJ1_newCapacity_32 hl (by decide) rfl (fun ls hl => ?_)
  refine lv_iload hx hb dJ1_newCapacity_34 (lv_at hl 0 rfl) ?_
  refine lv_ldc (v := (nI 2147483647)) hx hb hC.hown (hC.hts _ q344) dJ1_newCapacity_36 ?_
  refine zi_ne (tgt := 51) hx hb (by omega) (by decide) dJ1_newCapacity_38 (by decide) (fun _ => ?_) (fun h => absurd h (by omega))
  refine lv_iload hx hb dJ1_newCapacity_51 (lv_at hl 0 rfl) ?_
  refine lv_aload_n hx hb dJ1_newCapacity_53 rfl (lv_at hl 4 rfl) ?_
  refine z_get (v := .int (nI 0)) hC zf_J1_22_11 hw 0 rfl rfl dJ1_newCapacity_54 ?_
  refine zv_ishr (v := (nI (cap + max 1 (cap + 2)))) hx hb (shr0 _) dJ1_newCapacity_57 ?_
  exact hend _ _ _ _ _ _ _ () hw (congrArg nI (by omega)) (Nat.le_of_ble_eq_true rfl) (Nat.le_of_ble_eq_true rfl) dJ1_newCapacity_58
set_option maxHeartbeats 4000000 in
theorem m_J0_copyOf (G : zE) (l : Launch) (kA : Nat → Nat) (hG : zG G kA) (va : Nat) (cap : Nat) (m9 : Nat) (g : Nat → Int32) (hcap : cap ≤ 600) (hm : cap < m9) (hm2 : m9 ≤ 1300) (hfit : ∀ j, fits .byte (.int (g j)) = true) (rest : va_W) : zMq G l yJ0_copyOf cJ0_copyOf 3 (some (.array .byte)) 1 1 m9 [.ref va, .int (nI m9)] ((va, zc G 1 (zI cap g)) :: rest) (fun (r : Option Nat) u => r = some u) (fun (u : Nat) => (u, zc G 1 (zI m9 (va_cpy g (fun _ => 0) 0 0 cap))) :: (va, zc G 1 (zI cap g)) :: rest) := by
  refine z_begQ (by first | exact Or.inl ⟨_, rfl⟩ | exact Or.inr ⟨_, rfl⟩) (by decide) (Nat.le_of_ble_eq_true rfl) (fun p e s m args below meth c ls Q hC hl hw hend => ?_)
  have hx := hC.hx
  have hb := hC.hb
  have hl : lv_has ls 3 [(0, .ref va), (1, .int (nI m9))] := hl
  have hw : zS G ((va, zc G 1 (zI cap g)) :: rest) s s.heap [] := hw
  have hz := hG s hC.hZ.1
  refine lv_iload_n hx hb dJ0_copyOf_0 rfl (lv_at hl 1 rfl) ?_
  refine lv_aload_n hx hb dJ0_copyOf_1 rfl (lv_at hl 0 rfl) ?_
  refine z_alen (t := 1) hC hw 0 rfl (fun _ => rfl) dJ0_copyOf_2 ?_
  show W p l e (zR 1 1 m9) s m args below meth c s.heap [] 0 0 Q (F0 m 3 ls [.int (nI cap), .int (nI m9)])
  refine zi_ne (tgt := 14) hx hb (by omega) (by omega) dJ0_copyOf_3 (by decide) (fun _ => ?_) (fun h => absurd h (by omega))
  refine lv_iload_n hx hb dJ0_copyOf_14 rfl (lv_at hl 1 rfl) ?_
  refine z_newa (t := 1) (atype := .byte) (a0 := zI m9 (fun _ => 0)) hC (hC.hts _ q149) (fun _ => rfl) hw (fun _ => rfl) (by omega) (by decide) (Nat.le_of_ble_eq_true rfl) (by show _ ≤ m9; omega) dJ0_copyOf_15 (fun q_15 H hw => ?_)
  have hw : zS G ((q_15, zc G 1 (zI m9 (fun _ => 0))) :: (va, zc G 1 (zI cap g)) :: rest) s H [] := hw
  refine lv_astore_n (lv' := [(2, .ref q_15), (0, .ref va), (1, .int (nI m9))]) hx hb dJ0_copyOf_17 rfl hl (by decide) rfl (fun ls hl => ?_)
  refine lv_aload_n hx hb dJ0_copyOf_18 rfl (lv_at hl 1 rfl) ?_
  refine lv_iconst (v := (nI 0)) hx hb dJ0_copyOf_19 zk_0 ?_
  refine lv_aload_n hx hb dJ0_copyOf_20 rfl (lv_at hl 0 rfl) ?_
  refine lv_iconst (v := (nI 0)) hx hb dJ0_copyOf_21 zk_0 ?_
  refine lv_aload_n hx hb dJ0_copyOf_22 rfl (lv_at hl 1 rfl) ?_
  refine z_alen (t := 1) hC hw 1 rfl (fun _ => rfl) dJ0_copyOf_23 ?_
  show W p l e (zR 1 1 m9) s m args below meth c H [] 1 (0 + m9) Q (F0 m 24 ls [.int (nI cap), .int (nI 0), .ref q_15, .int (nI 0), .ref va])
  refine lv_iload_n hx hb dJ0_copyOf_24 rfl (lv_at hl 2 rfl) ?_
  refine z_mmin (v := nI (min cap m9)) hC hl.1 q355 zm_min (zm_min_d (by omega) (by omega)) (Nat.le_of_ble_eq_true rfl) ⟨Nat.le_of_ble_eq_true rfl, Nat.le_of_ble_eq_true rfl⟩ (Nat.le_of_ble_eq_true rfl) (by show _ ≤ m9; omega) dJ0_copyOf_25 ?_
  rw [show nI (min cap m9) = nI cap from by rw [Nat.min_eq_left (by omega)]]
  refine z_copyI (t := 1) (h := va_cpy g (fun _ => 0) 0 0 cap) hC hl.1 q358 zNat_ok hw 1 0 rfl rfl (fun _ => rfl) rfl (by omega) (by omega) (by omega) (by omega) (fun i _ => hfit _) rfl (Nat.le_of_ble_eq_true rfl) ⟨Nat.le_of_ble_eq_true rfl, Nat.le_of_ble_eq_true rfl⟩ dJ0_copyOf_28 (fun H locs hw => ?_)
  have hw : zS G ((q_15, zc G 1 (zI m9 (va_cpy g (fun _ => 0) 0 0 cap))) :: (va, zc G 1 (zI cap g)) :: rest) s H locs := hw
  refine lv_aload_n hx hb dJ0_copyOf_31 rfl (lv_at hl 0 rfl) ?_
  exact hend _ _ _ _ _ _ (some q_15) q_15 hw rfl (Nat.le_of_ble_eq_true rfl) (by omega) dJ0_copyOf_32
set_option maxHeartbeats 4000000 in
theorem m_J1_ensureCapacityInternal_n (G : zE) (l : Launch) (kA : Nat → Nat) (hG : zG G kA) (hS : zS9 G kA) (sb : Nat) (va : Nat) (k : Nat) (cap : Nat) (g : Nat → Int32) (hcap : cap ≤ 600) (hk : k < cap) (rest : va_W) : zMv G l yJ1_ensureCapacityInternal cJ1_ensureCapacityInternal 3 3 0 0 [.ref sb, .int (nI (k + 1))] ((sb, zo 11 [.ref va, .int (nI 0), .int 0, .int (nI k)]) :: (va, zc G 1 (zI cap g)) :: rest) (fun (_ : Unit) => True) (fun (_ : Unit) => (sb, zo 11 [.ref va, .int (nI 0), .int 0, .int (nI k)]) :: (va, zc G 1 (zI cap g)) :: rest) := by
  refine z_begV (by decide) (Nat.le_of_ble_eq_true rfl) (fun p e s m args below meth c ls Q hC hnm hl hw hend => ?_)
  have hx := hC.hx
  have hb := hC.hb
  have hl : lv_has ls 3 [(0, .ref sb), (1, .int (nI (k + 1)))] := hl
  have hw : zS G ((sb, zo 11 [.ref va, .int (nI 0), .int 0, .int (nI k)]) :: (va, zc G 1 (zI cap g)) :: rest) s s.heap [] := hw
  have hz := hG s hC.hZ.1
  have hzs := hS s hC.hZ.1
  refine lv_aload_n hx hb dJ1_ensureCapacityInternal_0 rfl (lv_at hl 0 rfl) ?_
  refine z_get (v := .ref va) hC zf_J1_15_11 hw 0 rfl rfl dJ1_ensureCapacityInternal_1 ?_
  refine z_alen (t := 1) hC hw 1 rfl (fun _ => rfl) dJ1_ensureCapacityInternal_4 ?_
  show W p l e (zR 3 0 0) s m args below meth c s.heap [] 0 0 Q (F0 m 5 ls [.int (nI cap)])
  refine lv_aload_n hx hb dJ1_ensureCapacityInternal_5 rfl (lv_at hl 0 rfl) ?_
  refine z_get (v := .int (nI 0)) hC zf_J1_22_11 hw 0 rfl rfl dJ1_ensureCapacityInternal_6 ?_
  refine zv_ishr (v := (nI cap)) hx hb (shr0 _) dJ1_ensureCapacityInternal_9 ?_
  refine lv_istore_n (lv' := [(2, .int (nI cap)), (0, .ref sb), (1, .int (nI (k + 1)))]) hx hb dJ1_ensureCapacityInternal_10 rfl hl (by decide) rfl (fun ls hl => ?_)
  refine lv_iload_n hx hb dJ1_ensureCapacityInternal_11 rfl (lv_at hl 2 rfl) ?_
  refine lv_iload_n hx hb dJ1_ensureCapacityInternal_12 rfl (lv_at hl 0 rfl) ?_
  refine zv_isub (v := (nI (k + 1) - nI cap)) hx hb rfl dJ1_ensureCapacityInternal_13 ?_
  refine lv_if_le (tgt := 38) hx hb dJ1_ensureCapacityInternal_14 (by decide) (fun _ => ?_) (fun h => absurd (le0 (show k + 1 ≤ cap by omega) (by omega)) h)
  exact hend _ _ _ _ _ _ () hw trivial (Nat.le_of_ble_eq_true rfl) (Nat.le_of_ble_eq_true rfl) dJ1_ensureCapacityInternal_38
theorem zn_J1_newCapacity : zNs yJ1_newCapacity cJ1_newCapacity 6 (some .int) 1 := ⟨q333, q55, ⟨by decide +kernel, by decide +kernel⟩, by decide +kernel⟩
theorem zs_J1_108 : zSs RJ1 108 yJ0_copyOf cJ0_copyOf 3 (some (.array .byte)) 2 := ⟨lw_S q345 q346 q52 q347, ⟨by decide +kernel, by decide +kernel⟩, by decide +kernel⟩
set_option maxHeartbeats 4000000 in
theorem m_J1_ensureCapacityInternal_g (G : zE) (l : Launch) (kA : Nat → Nat) (hG : zG G kA) (hS : zS9 G kA) (sb : Nat) (va : Nat) (k : Nat) (cap : Nat) (g : Nat → Int32) (hcap : cap ≤ 600) (hk : k = cap) (h0 : 0 < cap) (hfit : ∀ j, fits .byte (.int (g j)) = true) (rest : va_W) : zMv G l yJ1_ensureCapacityInternal cJ1_ensureCapacityInternal 3 3 1 (2 * cap + 2) [.ref sb, .int (nI (k + 1))] ((sb, zo 11 [.ref va, .int (nI 0), .int 0, .int (nI k)]) :: (va, zc G 1 (zI cap g)) :: rest) (fun _ => True) (fun (u : Nat) => (sb, zo 11 [.ref u, .int (nI 0), .int 0, .int (nI k)]) :: (u, zc G 1 (zI (2 * cap + 2) (va_cpy g (fun _ => 0) 0 0 cap))) :: rest) := by
  refine z_begV (by decide) (Nat.le_of_ble_eq_true rfl) (fun p e s m args below meth c ls Q hC hnm hl hw hend => ?_)
  have hx := hC.hx
  have hb := hC.hb
  have hl : lv_has ls 3 [(0, .ref sb), (1, .int (nI (k + 1)))] := hl
  have hw : zS G ((sb, zo 11 [.ref va, .int (nI 0), .int 0, .int (nI k)]) :: (va, zc G 1 (zI cap g)) :: rest) s s.heap [] := hw
  have hz := hG s hC.hZ.1
  have hzs := hS s hC.hZ.1
  refine lv_aload_n hx hb dJ1_ensureCapacityInternal_0 rfl (lv_at hl 0 rfl) ?_
  refine z_get (v := .ref va) hC zf_J1_15_11 hw 0 rfl rfl dJ1_ensureCapacityInternal_1 ?_
  refine z_alen (t := 1) hC hw 1 rfl (fun _ => rfl) dJ1_ensureCapacityInternal_4 ?_
  show W p l e (zR 3 1 (2 * cap + 2)) s m args below meth c s.heap [] 0 0 Q (F0 m 5 ls [.int (nI cap)])
  refine lv_aload_n hx hb dJ1_ensureCapacityInternal_5 rfl (lv_at hl 0 rfl) ?_
  refine z_get (v := .int (nI 0)) hC zf_J1_22_11 hw 0 rfl rfl dJ1_ensureCapacityInternal_6 ?_
  refine zv_ishr (v := (nI cap)) hx hb (shr0 _) dJ1_ensureCapacityInternal_9 ?_
  refine lv_istore_n (lv' := [(2, .int (nI cap)), (0, .ref sb), (1, .int (nI (k + 1)))]) hx hb dJ1_ensureCapacityInternal_10 rfl hl (by decide) rfl (fun ls hl => ?_)
  refine lv_iload_n hx hb dJ1_ensureCapacityInternal_11 rfl (lv_at hl 2 rfl) ?_
  refine lv_iload_n hx hb dJ1_ensureCapacityInternal_12 rfl (lv_at hl 0 rfl) ?_
  refine zv_isub (v := (nI 1)) hx hb (by rw [hk, nI_sub (by omega)]; congr 1; omega) dJ1_ensureCapacityInternal_13 ?_
  refine zj_le (tgt := 38) hx hb (by decide) dJ1_ensureCapacityInternal_14 (by decide) (fun h => absurd h (by decide)) (fun _ => ?_)
  refine lv_aload_n hx hb dJ1_ensureCapacityInternal_17 rfl (lv_at hl 1 rfl) ?_
  refine lv_aload_n hx hb dJ1_ensureCapacityInternal_18 rfl (lv_at hl 1 rfl) ?_
  refine z_get (v := .ref va) hC zf_J1_15_11 hw 0 rfl rfl dJ1_ensureCapacityInternal_19 ?_
  refine lv_aload_n hx hb dJ1_ensureCapacityInternal_22 rfl (lv_at hl 1 rfl) ?_
  refine lv_iload_n hx hb dJ1_ensureCapacityInternal_23 rfl (lv_at hl 2 rfl) ?_
  refine z_ci (z_runBP (n := 1) (As := [.int (nI (k + 1))]) (rest := [.ref va, .ref sb]) hC ⟨zn_J1_newCapacity, q332, ⟨by decide +kernel, by decide +kernel⟩, by decide +kernel⟩ rfl hzs.2.2.2.2.2.2.2 (va_Nw.of rfl (hC.hts _ q330)) (va_Nw.of rfl (hC.hts _ q2174)) (z_declO hC q332 q333) (m_J1_newCapacity G l kA (by first | assumption | (omega)) (by first | assumption | (omega)) sb va k cap g (by omega) hk h0 (zrem [0, 1] _))  hw (hw.perm (z_cut (is := [0, 1]) (cells := [(sb, zo 11 [.ref va, .int (nI 0), .int 0, .int (nI k)]), (va, zc G 1 (zI cap g))]) rfl rfl)) 0 rfl rfl rfl rfl (Nat.le_of_ble_eq_true rfl) hl.1 ⟨Nat.le_of_ble_eq_true rfl, Nat.le_of_ble_eq_true rfl⟩ ⟨(Nat.le_of_ble_eq_true rfl), (by show _ ≤ (2 * cap + 2); omega)⟩ dJ1_ensureCapacityInternal_24) hw (fun _ => z_keep (is := [0, 1]) (cs := [(sb, zo 11 [.ref va, .int (nI 0), .int 0, .int (nI k)]), (va, zc G 1 (zI cap g))]) rfl rfl) (fun r u H locs hp hw => ?_)
  obtain rfl : r = nI (2 * cap + 2) := hp
  refine lv_aload_n hx hb dJ1_ensureCapacityInternal_27 rfl (lv_at hl 1 rfl) ?_
  refine z_get (v := .int (nI 0)) hC zf_J1_22_11 hw 0 rfl rfl dJ1_ensureCapacityInternal_28 ?_
  refine zv_ishl (v := (nI (2 * cap + 2))) hx hb (shl0 _) dJ1_ensureCapacityInternal_31 ?_
  refine z_cq (z_runS (As := [.ref va, .int (nI (2 * cap + 2))]) (rest := [.ref sb]) hC zs_J1_108 (m_J0_copyOf G l kA (by first | assumption | (omega)) va cap (2 * cap + 2) g (by omega) (by omega) (by omega) (by first | assumption | (omega)) (zrem [1] _)) (hw.perm (z_cut (is := [1]) (cells := [(va, zc G 1 (zI cap g))]) rfl rfl)) rfl rfl (Nat.le_of_ble_eq_true rfl) hl.1 ⟨Nat.le_of_ble_eq_true rfl, Nat.le_of_ble_eq_true rfl⟩ ⟨(Nat.le_of_ble_eq_true rfl), (by show _ ≤ (2 * cap + 2); omega)⟩ dJ1_ensureCapacityInternal_32) hw (fun u => z_new1 (is := [1]) (cs := [(va, zc G 1 (zI cap g))]) (cs' := [(va, zc G 1 (zI cap g))]) (nw := [(u, zc G 1 (zI (2 * cap + 2) (va_cpy g (fun _ => 0) 0 0 cap)))]) rfl rfl rfl) (fun r u H locs hp hw => ?_)
  obtain ⟨v2, rfl⟩ : ∃ z, z = u := ⟨_, rfl⟩
  have hw : zS G ((v2, zc G 1 (zI (2 * cap + 2) (va_cpy g (fun _ => 0) 0 0 cap))) :: (sb, zo 11 [.ref va, .int (nI 0), .int 0, .int (nI k)]) :: (va, zc G 1 (zI cap g)) :: rest) s H locs := hw
  obtain rfl := hp
  refine z_put hC zf_J1_15_11 hw 1 rfl rfl rfl (Nat.le_of_ble_eq_true rfl) dJ1_ensureCapacityInternal_35 (fun H locs hw => ?_)
  have hw : zS G ((v2, zc G 1 (zI (2 * cap + 2) (va_cpy g (fun _ => 0) 0 0 cap))) :: (sb, zo 11 [.ref v2, .int (nI 0), .int 0, .int (nI k)]) :: (va, zc G 1 (zI cap g)) :: rest) s H locs := hw
  have hw : zS G ((va, zc G 1 (zI cap g)) :: (v2, zc G 1 (zI (2 * cap + 2) (va_cpy g (fun _ => 0) 0 0 cap))) :: (sb, zo 11 [.ref v2, .int (nI 0), .int 0, .int (nI k)]) :: rest) s H locs := hw.perm (((z_cut (is := [2, 0, 1]) (ws := [(v2, zc G 1 (zI (2 * cap + 2) (va_cpy g (fun _ => 0) 0 0 cap))), (sb, zo 11 [.ref v2, .int (nI 0), .int 0, .int (nI k)]), (va, zc G 1 (zI cap g))]) (cells := [(va, zc G 1 (zI cap g)), (v2, zc G 1 (zI (2 * cap + 2) (va_cpy g (fun _ => 0) 0 0 cap))), (sb, zo 11 [.ref v2, .int (nI 0), .int 0, .int (nI k)])]) rfl rfl).append_right rest).trans (by rw [List.append_assoc]; exact List.Perm.refl _))
  have hw := hw.drop
  have hw : zS G ((sb, zo 11 [.ref v2, .int (nI 0), .int 0, .int (nI k)]) :: (v2, zc G 1 (zI (2 * cap + 2) (va_cpy g (fun _ => 0) 0 0 cap))) :: rest) s H locs := hw.perm (((z_cut (is := [1, 0]) (ws := [(v2, zc G 1 (zI (2 * cap + 2) (va_cpy g (fun _ => 0) 0 0 cap))), (sb, zo 11 [.ref v2, .int (nI 0), .int 0, .int (nI k)])]) (cells := [(sb, zo 11 [.ref v2, .int (nI 0), .int 0, .int (nI k)]), (v2, zc G 1 (zI (2 * cap + 2) (va_cpy g (fun _ => 0) 0 0 cap)))]) rfl rfl).append_right rest).trans (by rw [List.append_assoc]; exact List.Perm.refl _))
  exact hend _ _ _ _ _ _ v2 hw trivial (Nat.le_of_ble_eq_true rfl) (by omega) dJ1_ensureCapacityInternal_38
theorem zf_J1_79_11 : zFl 11 3 RJ1 79 false .int := ⟨RJ2, TJ2, 4, tyJ2, rfl, by decide, in_J2, q309, rfl, by decide +kernel, tyJ2_ok, nmJ2⟩
theorem zn_J1_ensureCapacityInternal : zNs yJ1_ensureCapacityInternal cJ1_ensureCapacityInternal 3 none 1 := ⟨q329, q55, ⟨by decide +kernel, by decide +kernel⟩, by decide +kernel⟩
theorem zn_J1_isLatin1 : zNs yJ1_isLatin1 cJ1_isLatin1 1 (some .boolean) 0 := ⟨q363, q55, ⟨by decide +kernel, by decide +kernel⟩, by decide +kernel⟩
theorem zs_J1_191 : zSs RJ1 191 yJ7_canEncode cJ7_canEncode 1 (some .boolean) 1 := ⟨lw_S q364 q365 q61 q366, ⟨by decide +kernel, by decide +kernel⟩, by decide +kernel⟩
set_option maxHeartbeats 4000000 in
theorem m_J1_append_n (G : zE) (l : Launch) (kA : Nat → Nat) (hG : zG G kA) (hS : zS9 G kA) (sb : Nat) (va : Nat) (k : Nat) (cap : Nat) (g : Nat → Int32) (c9 : Nat) (hc9 : c9 < 256) (hcap : cap ≤ 600) (hfit : ∀ j, fits .byte (.int (g j)) = true) (hk : k < cap) (rest : va_W) : zMq G l yJ1_append cJ1_append 2 (some (.object "java/lang/AbstractStringBuilder")) 4 0 0 [.ref sb, .int (nI c9)] ((sb, zo 11 [.ref va, .int (nI 0), .int 0, .int (nI k)]) :: (va, zc G 1 (zI cap g)) :: rest) (fun (r : Option Nat) u => r = some sb ∧ (∀ j, j < k + 1 → u.2.2 j = if j = k then btL c9 else g j) ∧ (∀ j, fits .byte (.int (u.2.2 j)) = true) ∧ ((u.1 = va ∧ u.2.1 = cap ∧ k < cap) ∨ (u.2.1 = 2 * cap + 2 ∧ k = cap))) (fun (u : Nat × Nat × (Nat → Int32)) => (sb, zo 11 [.ref u.1, .int (nI 0), .int 0, .int (nI (k + 1))]) :: (u.1, zc G 1 (zI u.2.1 u.2.2)) :: rest) := by
  refine z_begQ (by first | exact Or.inl ⟨_, rfl⟩ | exact Or.inr ⟨_, rfl⟩) (by decide) (Nat.le_of_ble_eq_true rfl) (fun p e s m args below meth c ls Q hC hl hw hend => ?_)
  have hx := hC.hx
  have hb := hC.hb
  have hl : lv_has ls 2 [(0, .ref sb), (1, .int (nI c9))] := hl
  have hw : zS G ((sb, zo 11 [.ref va, .int (nI 0), .int 0, .int (nI k)]) :: (va, zc G 1 (zI cap g)) :: rest) s s.heap [] := hw
  have hz := hG s hC.hZ.1
  have hzs := hS s hC.hZ.1
  refine lv_aload_n hx hb dJ1_append_0 rfl (lv_at hl 0 rfl) ?_
  refine lv_aload_n hx hb dJ1_append_1 rfl (lv_at hl 0 rfl) ?_
  refine z_get (v := .int (nI k)) hC zf_J1_79_11 hw 0 rfl rfl dJ1_append_2 ?_
  refine lv_iconst (v := (nI 1)) hx hb dJ1_append_5 zk_1 ?_
  refine zn_iadd hx hb dJ1_append_6 ?_
  refine z_cv (z_runBP (n := 1) (As := [.int (nI (k + 1))]) (rest := []) hC ⟨zn_J1_ensureCapacityInternal, q328, ⟨by decide +kernel, by decide +kernel⟩, by decide +kernel⟩ rfl hzs.2.2.2.2.2.2.1 (va_Nw.of rfl (hC.hts _ q326)) (va_Nw.of rfl (hC.hts _ q2173)) (z_declO hC q328 q329) (m_J1_ensureCapacityInternal_n G l kA (by first | assumption | (omega)) (by first | assumption | (omega)) sb va k cap g (by omega) (by omega) (zrem [0, 1] _))  hw (hw.perm (z_cut (is := [0, 1]) (cells := [(sb, zo 11 [.ref va, .int (nI 0), .int 0, .int (nI k)]), (va, zc G 1 (zI cap g))]) rfl rfl)) 0 rfl rfl rfl rfl (Nat.le_of_ble_eq_true rfl) hl.1 ⟨Nat.le_of_ble_eq_true rfl, Nat.le_of_ble_eq_true rfl⟩ ⟨(Nat.le_of_ble_eq_true rfl), (Nat.le_of_ble_eq_true rfl)⟩ dJ1_append_7) hw (fun _ => z_keep (is := [0, 1]) (cs := [(sb, zo 11 [.ref va, .int (nI 0), .int 0, .int (nI k)]), (va, zc G 1 (zI cap g))]) rfl rfl) (fun u H locs hp hw => ?_)
  refine lv_aload_n hx hb dJ1_append_10 rfl (lv_at hl 0 rfl) ?_
  refine z_ci (z_runB (x := (⟨"java/lang/AbstractStringBuilder", "isLatin1", "()Z"⟩ : MethodName)) (owner := "java/lang/AbstractStringBuilder") (C := "java/lang/StringBuilder") (n := 0) (As := []) (rest := []) hC ⟨zn_J1_isLatin1, q360, q362, ⟨by decide +kernel, by decide +kernel⟩, by decide +kernel⟩ (hC.hts _ q359) (hC.hts _ q361) (z_declO hC q360 q363) (m_J1_isLatin1 G l kA (by first | assumption | (omega)) sb va k cap g (zrem [0] _)) hw (hw.perm (z_cut (is := [0]) (cells := [(sb, zo 11 [.ref va, .int (nI 0), .int 0, .int (nI k)])]) rfl rfl)) 0 rfl rfl rfl rfl rfl (Nat.le_of_ble_eq_true rfl) hl.1 ⟨Nat.le_of_ble_eq_true rfl, Nat.le_of_ble_eq_true rfl⟩ ⟨(Nat.le_of_ble_eq_true rfl), (Nat.le_of_ble_eq_true rfl)⟩ dJ1_append_11) hw (fun _ => z_keep (is := [0]) (cs := [(sb, zo 11 [.ref va, .int (nI 0), .int 0, .int (nI k)])]) rfl rfl) (fun r u H locs hp hw => ?_)
  obtain rfl : r = nI 1 := hp
  refine zj_eq (tgt := 45) hx hb (by decide) dJ1_append_14 (by decide) (fun h => absurd h (by decide)) (fun _ => ?_)
  refine lv_iload_n hx hb dJ1_append_17 rfl (lv_at hl 1 rfl) ?_
  refine z_ci (z_runS (As := [.int (nI c9)]) (rest := []) hC zs_J1_191 (m_J7_canEncode G l c9 (by omega) _) hw rfl rfl (Nat.le_of_ble_eq_true rfl) hl.1 ⟨Nat.le_of_ble_eq_true rfl, Nat.le_of_ble_eq_true rfl⟩ ⟨(Nat.le_of_ble_eq_true rfl), (Nat.le_of_ble_eq_true rfl)⟩ dJ1_append_18) hw (fun _ => List.Perm.refl _) (fun r u H locs hp hw => ?_)
  obtain rfl : r = nI 1 := hp
  refine zj_eq (tgt := 45) hx hb (by decide) dJ1_append_21 (by decide) (fun h => absurd h (by decide)) (fun _ => ?_)
  refine lv_aload_n hx hb dJ1_append_24 rfl (lv_at hl 0 rfl) ?_
  refine z_get (v := .ref va) hC zf_J1_15_11 hw 0 rfl rfl dJ1_append_25 ?_
  refine lv_aload_n hx hb dJ1_append_28 rfl (lv_at hl 0 rfl) ?_
  refine lv_dup hx hb dJ1_append_29 rfl ?_
  refine z_get (v := .int (nI k)) hC zf_J1_79_11 hw 0 rfl rfl dJ1_append_30 ?_
  refine lv_dup_x1 hx hb dJ1_append_33 rfl rfl ?_
  refine lv_iconst (v := (nI 1)) hx hb dJ1_append_34 zk_1 ?_
  refine zn_iadd hx hb dJ1_append_35 ?_
  refine z_puti hC zf_J1_79_11 hw 0 rfl (Nat.le_of_ble_eq_true rfl) dJ1_append_36 (fun H locs hw => ?_)
  have hw : zS G ((sb, zo 11 [.ref va, .int (nI 0), .int 0, .int (nI (k + 1))]) :: (va, zc G 1 (zI cap g)) :: rest) s H locs := hw
  refine lv_iload_n hx hb dJ1_append_39 rfl (lv_at hl 1 rfl) ?_
  refine lv_i2b (v := (btL c9)) hx hb dJ1_append_40 rfl ?_
  refine z_bast (f' := upd g k (btL c9)) hC hw 1 rfl (by omega) (by omega) (congrArg _ (nar_btL c9)) dJ1_append_41 (fun H locs hw => ?_)
  have hw : zS G ((sb, zo 11 [.ref va, .int (nI 0), .int 0, .int (nI (k + 1))]) :: (va, zc G 1 (zI cap (upd g k (btL c9)))) :: rest) s H locs := hw
  refine lv_goto (tgt := 75) hx hb dJ1_append_42 (by decide) ?_
  refine lv_aload_n hx hb dJ1_append_75 rfl (lv_at hl 0 rfl) ?_
  exact hend _ _ _ _ _ _ (some sb) (va, cap, (upd g k (btL c9))) hw ⟨rfl, fun j hj => by unfold upd; rfl, fit_up hfit k c9, Or.inl ⟨rfl, rfl, hk⟩⟩ (Nat.le_of_ble_eq_true rfl) (Nat.le_of_ble_eq_true rfl) dJ1_append_76
set_option maxHeartbeats 4000000 in
theorem m_J1_append_g (G : zE) (l : Launch) (kA : Nat → Nat) (hG : zG G kA) (hS : zS9 G kA) (sb : Nat) (va : Nat) (k : Nat) (cap : Nat) (g : Nat → Int32) (c9 : Nat) (hc9 : c9 < 256) (hcap : cap ≤ 600) (hfit : ∀ j, fits .byte (.int (g j)) = true) (hk : k = cap) (h0 : 0 < cap) (rest : va_W) : zMq G l yJ1_append cJ1_append 2 (some (.object "java/lang/AbstractStringBuilder")) 4 1 (2 * cap + 2) [.ref sb, .int (nI c9)] ((sb, zo 11 [.ref va, .int (nI 0), .int 0, .int (nI k)]) :: (va, zc G 1 (zI cap g)) :: rest) (fun (r : Option Nat) u => r = some sb ∧ (∀ j, j < k + 1 → u.2.2 j = if j = k then btL c9 else g j) ∧ (∀ j, fits .byte (.int (u.2.2 j)) = true) ∧ ((u.1 = va ∧ u.2.1 = cap ∧ k < cap) ∨ (u.2.1 = 2 * cap + 2 ∧ k = cap))) (fun (u : Nat × Nat × (Nat → Int32)) => (sb, zo 11 [.ref u.1, .int (nI 0), .int 0, .int (nI (k + 1))]) :: (u.1, zc G 1 (zI u.2.1 u.2.2)) :: rest) := by
  refine z_begQ (by first | exact Or.inl ⟨_, rfl⟩ | exact Or.inr ⟨_, rfl⟩) (by decide) (Nat.le_of_ble_eq_true rfl) (fun p e s m args below meth c ls Q hC hl hw hend => ?_)
  have hx := hC.hx
  have hb := hC.hb
  have hl : lv_has ls 2 [(0, .ref sb), (1, .int (nI c9))] := hl
  have hw : zS G ((sb, zo 11 [.ref va, .int (nI 0), .int 0, .int (nI k)]) :: (va, zc G 1 (zI cap g)) :: rest) s s.heap [] := hw
  have hz := hG s hC.hZ.1
  have hzs := hS s hC.hZ.1
  refine lv_aload_n hx hb dJ1_append_0 rfl (lv_at hl 0 rfl) ?_
  refine lv_aload_n hx hb dJ1_append_1 rfl (lv_at hl 0 rfl) ?_
  refine z_get (v := .int (nI k)) hC zf_J1_79_11 hw 0 rfl rfl dJ1_append_2 ?_
  refine lv_iconst (v := (nI 1)) hx hb dJ1_append_5 zk_1 ?_
  refine zn_iadd hx hb dJ1_append_6 ?_
  refine z_cv (z_runBP (n := 1) (As := [.int (nI (k + 1))]) (rest := []) hC ⟨zn_J1_ensureCapacityInternal, q328, ⟨by decide +kernel, by decide +kernel⟩, by decide +kernel⟩ rfl hzs.2.2.2.2.2.2.1 (va_Nw.of rfl (hC.hts _ q326)) (va_Nw.of rfl (hC.hts _ q2173)) (z_declO hC q328 q329) (m_J1_ensureCapacityInternal_g G l kA (by first | assumption | (omega)) (by first | assumption | (omega)) sb va k cap g (by omega) (by omega) (by omega) (by first | assumption | (omega)) (zrem [0, 1] _))  hw (hw.perm (z_cut (is := [0, 1]) (cells := [(sb, zo 11 [.ref va, .int (nI 0), .int 0, .int (nI k)]), (va, zc G 1 (zI cap g))]) rfl rfl)) 0 rfl rfl rfl rfl (Nat.le_of_ble_eq_true rfl) hl.1 ⟨Nat.le_of_ble_eq_true rfl, Nat.le_of_ble_eq_true rfl⟩ ⟨(Nat.le_of_ble_eq_true rfl), (by show _ ≤ (2 * cap + 2); omega)⟩ dJ1_append_7) hw (fun u => z_pput (is := [0, 1]) (cells := [(sb, zo 11 [.ref va, .int (nI 0), .int 0, .int (nI k)]), (va, zc G 1 (zI cap g))]) (cells' := [(sb, zo 11 [.ref u, .int (nI 0), .int 0, .int (nI k)]), (u, zc G 1 (zI (2 * cap + 2) (va_cpy g (fun _ => 0) 0 0 cap)))]) rfl rfl rfl) (fun u H locs hp hw => ?_)
  obtain ⟨v2, rfl⟩ : ∃ z, z = u := ⟨_, rfl⟩
  have hw : zS G ((sb, zo 11 [.ref v2, .int (nI 0), .int 0, .int (nI k)]) :: (v2, zc G 1 (zI (2 * cap + 2) (va_cpy g (fun _ => 0) 0 0 cap))) :: rest) s H locs := hw
  refine lv_aload_n hx hb dJ1_append_10 rfl (lv_at hl 0 rfl) ?_
  refine z_ci (z_runB (x := (⟨"java/lang/AbstractStringBuilder", "isLatin1", "()Z"⟩ : MethodName)) (owner := "java/lang/AbstractStringBuilder") (C := "java/lang/StringBuilder") (n := 0) (As := []) (rest := []) hC ⟨zn_J1_isLatin1, q360, q362, ⟨by decide +kernel, by decide +kernel⟩, by decide +kernel⟩ (hC.hts _ q359) (hC.hts _ q361) (z_declO hC q360 q363) (m_J1_isLatin1 G l kA (by first | assumption | (omega)) sb v2 k cap g (zrem [0] _)) hw (hw.perm (z_cut (is := [0]) (cells := [(sb, zo 11 [.ref v2, .int (nI 0), .int 0, .int (nI k)])]) rfl rfl)) 0 rfl rfl rfl rfl rfl (Nat.le_of_ble_eq_true rfl) hl.1 ⟨Nat.le_of_ble_eq_true rfl, Nat.le_of_ble_eq_true rfl⟩ ⟨(Nat.le_of_ble_eq_true rfl), (by show _ ≤ (2 * cap + 2); omega)⟩ dJ1_append_11) hw (fun _ => z_keep (is := [0]) (cs := [(sb, zo 11 [.ref v2, .int (nI 0), .int 0, .int (nI k)])]) rfl rfl) (fun r u H locs hp hw => ?_)
  obtain rfl : r = nI 1 := hp
  refine zj_eq (tgt := 45) hx hb (by decide) dJ1_append_14 (by decide) (fun h => absurd h (by decide)) (fun _ => ?_)
  refine lv_iload_n hx hb dJ1_append_17 rfl (lv_at hl 1 rfl) ?_
  refine z_ci (z_runS (As := [.int (nI c9)]) (rest := []) hC zs_J1_191 (m_J7_canEncode G l c9 (by omega) _) hw rfl rfl (Nat.le_of_ble_eq_true rfl) hl.1 ⟨Nat.le_of_ble_eq_true rfl, Nat.le_of_ble_eq_true rfl⟩ ⟨(Nat.le_of_ble_eq_true rfl), (by show _ ≤ (2 * cap + 2); omega)⟩ dJ1_append_18) hw (fun _ => List.Perm.refl _) (fun r u H locs hp hw => ?_)
  obtain rfl : r = nI 1 := hp
  refine zj_eq (tgt := 45) hx hb (by decide) dJ1_append_21 (by decide) (fun h => absurd h (by decide)) (fun _ => ?_)
  refine lv_aload_n hx hb dJ1_append_24 rfl (lv_at hl 0 rfl) ?_
  refine z_get (v := .ref v2) hC zf_J1_15_11 hw 0 rfl rfl dJ1_append_25 ?_
  refine lv_aload_n hx hb dJ1_append_28 rfl (lv_at hl 0 rfl) ?_
  refine lv_dup hx hb dJ1_append_29 rfl ?_
  refine z_get (v := .int (nI k)) hC zf_J1_79_11 hw 0 rfl rfl dJ1_append_30 ?_
  refine lv_dup_x1 hx hb dJ1_append_33 rfl rfl ?_
  refine lv_iconst (v := (nI 1)) hx hb dJ1_append_34 zk_1 ?_
  refine zn_iadd hx hb dJ1_append_35 ?_
  refine z_puti hC zf_J1_79_11 hw 0 rfl (Nat.le_of_ble_eq_true rfl) dJ1_append_36 (fun H locs hw => ?_)
  have hw : zS G ((sb, zo 11 [.ref v2, .int (nI 0), .int 0, .int (nI (k + 1))]) :: (v2, zc G 1 (zI (2 * cap + 2) (va_cpy g (fun _ => 0) 0 0 cap))) :: rest) s H locs := hw
  refine lv_iload_n hx hb dJ1_append_39 rfl (lv_at hl 1 rfl) ?_
  refine lv_i2b (v := (btL c9)) hx hb dJ1_append_40 rfl ?_
  refine z_bast (f' := upd (va_cpy g (fun _ => 0) 0 0 cap) k (btL c9)) hC hw 1 rfl (by omega) (by omega) (congrArg _ (nar_btL c9)) dJ1_append_41 (fun H locs hw => ?_)
  have hw : zS G ((sb, zo 11 [.ref v2, .int (nI 0), .int 0, .int (nI (k + 1))]) :: (v2, zc G 1 (zI (2 * cap + 2) (upd (va_cpy g (fun _ => 0) 0 0 cap) k (btL c9)))) :: rest) s H locs := hw
  refine lv_goto (tgt := 75) hx hb dJ1_append_42 (by decide) ?_
  refine lv_aload_n hx hb dJ1_append_75 rfl (lv_at hl 0 rfl) ?_
  exact hend _ _ _ _ _ _ (some sb) (v2, (2 * cap + 2), (upd (va_cpy g (fun _ => 0) 0 0 cap) k (btL c9))) hw ⟨rfl, fun j hj => ap_at hk hj, fit_up (fit_cpy hfit) k c9, Or.inr ⟨rfl, hk⟩⟩ (Nat.le_of_ble_eq_true rfl) (by omega) dJ1_append_76
theorem zn_J1_append : zNs yJ1_append cJ1_append 2 (some (.object "java/lang/AbstractStringBuilder")) 1 := ⟨q325, q55, ⟨by decide +kernel, by decide +kernel⟩, by decide +kernel⟩
theorem zu_J2_50 : GoodIn lw_all (va_wsSU RJ2 50 yJ1_append (ws_ yJ1_append cJ1_append 2 (some (.object "java/lang/AbstractStringBuilder")))) := by
  refine lw_app ?_ (lw_meth q325)
  intro w hw
  simp only [List.mem_cons, List.not_mem_nil, or_false] at hw
  rcases hw with e | e | e | e | e
  · rw [e]; exact q323
  · rw [e]; exact q2172
  · rw [e]; exact q318
  · rw [e]; exact q324
  · rw [e]; exact q55
set_option maxHeartbeats 4000000 in
theorem m_J2_append_n (G : zE) (l : Launch) (kA : Nat → Nat) (hG : zG G kA) (hS : zS9 G kA) (sb : Nat) (va : Nat) (k : Nat) (cap : Nat) (g : Nat → Int32) (c9 : Nat) (hc9 : c9 < 256) (hcap : cap ≤ 600) (hfit : ∀ j, fits .byte (.int (g j)) = true) (hk : k < cap) (rest : va_W) : zMq G l yJ2_append cJ2_append 2 (some (.object "java/lang/StringBuilder")) 5 0 0 [.ref sb, .int (nI c9)] ((sb, zo 11 [.ref va, .int (nI 0), .int 0, .int (nI k)]) :: (va, zc G 1 (zI cap g)) :: rest) (fun (r : Option Nat) u => r = some sb ∧ (∀ j, j < k + 1 → u.2.2 j = if j = k then btL c9 else g j) ∧ (∀ j, fits .byte (.int (u.2.2 j)) = true) ∧ ((u.1 = va ∧ u.2.1 = cap ∧ k < cap) ∨ (u.2.1 = 2 * cap + 2 ∧ k = cap))) (fun (u : Nat × Nat × (Nat → Int32)) => (sb, zo 11 [.ref u.1, .int (nI 0), .int 0, .int (nI (k + 1))]) :: (u.1, zc G 1 (zI u.2.1 u.2.2)) :: rest) := by
  refine z_begQ (by first | exact Or.inl ⟨_, rfl⟩ | exact Or.inr ⟨_, rfl⟩) (by decide) (Nat.le_of_ble_eq_true rfl) (fun p e s m args below meth c ls Q hC hl hw hend => ?_)
  have hx := hC.hx
  have hb := hC.hb
  have hl : lv_has ls 2 [(0, .ref sb), (1, .int (nI c9))] := hl
  have hw : zS G ((sb, zo 11 [.ref va, .int (nI 0), .int 0, .int (nI k)]) :: (va, zc G 1 (zI cap g)) :: rest) s s.heap [] := hw
  have hz := hG s hC.hZ.1
  have hzs := hS s hC.hZ.1
  refine lv_aload_n hx hb dJ2_append_0 rfl (lv_at hl 0 rfl) ?_
  refine lv_iload_n hx hb dJ2_append_1 rfl (lv_at hl 1 rfl) ?_
  refine z_cq (z_runSU (n := 1) (As := [.int (nI c9)]) (rest := []) hC ⟨zu_J2_50, by decide +kernel, by decide +kernel⟩ (m_J1_append_n G l kA (by first | assumption | (omega)) (by first | assumption | (omega)) sb va k cap g c9 (by omega) (by omega) (by first | assumption | (omega)) (by omega) (zrem [0, 1] _)) hw (hw.perm (z_cut (is := [0, 1]) (cells := [(sb, zo 11 [.ref va, .int (nI 0), .int 0, .int (nI k)]), (va, zc G 1 (zI cap g))]) rfl rfl)) 0 rfl rfl rfl rfl (Nat.le_of_ble_eq_true rfl) hl.1 ⟨Nat.le_of_ble_eq_true rfl, Nat.le_of_ble_eq_true rfl⟩ ⟨(Nat.le_of_ble_eq_true rfl), (Nat.le_of_ble_eq_true rfl)⟩ dJ2_append_2) hw (fun u => z_pput (is := [0, 1]) (cells := [(sb, zo 11 [.ref va, .int (nI 0), .int 0, .int (nI k)]), (va, zc G 1 (zI cap g))]) (cells' := [(sb, zo 11 [.ref u.1, .int (nI 0), .int 0, .int (nI (k + 1))]), (u.1, zc G 1 (zI u.2.1 u.2.2))]) rfl rfl rfl) (fun r u H locs hp hw => ?_)
  obtain ⟨va7, cap7, g7⟩ := u
  have hw : zS G ((sb, zo 11 [.ref va7, .int (nI 0), .int 0, .int (nI (k + 1))]) :: (va7, zc G 1 (zI cap7 g7)) :: rest) s H locs := hw
  obtain ⟨rfl, hg7, hfit7, hcap7⟩ := hp
  refine lv_pop hx hb dJ2_append_5 rfl ?_
  refine lv_aload_n hx hb dJ2_append_6 rfl (lv_at hl 0 rfl) ?_
  exact hend _ _ _ _ _ _ (some sb) (va7, cap7, g7) hw ⟨rfl, hg7, hfit7, hcap7⟩ (Nat.le_of_ble_eq_true rfl) (Nat.le_of_ble_eq_true rfl) dJ2_append_7
set_option maxHeartbeats 4000000 in
theorem m_J2_append_g (G : zE) (l : Launch) (kA : Nat → Nat) (hG : zG G kA) (hS : zS9 G kA) (sb : Nat) (va : Nat) (k : Nat) (cap : Nat) (g : Nat → Int32) (c9 : Nat) (hc9 : c9 < 256) (hcap : cap ≤ 600) (hfit : ∀ j, fits .byte (.int (g j)) = true) (hk : k = cap) (h0 : 0 < cap) (rest : va_W) : zMq G l yJ2_append cJ2_append 2 (some (.object "java/lang/StringBuilder")) 5 1 (2 * cap + 2) [.ref sb, .int (nI c9)] ((sb, zo 11 [.ref va, .int (nI 0), .int 0, .int (nI k)]) :: (va, zc G 1 (zI cap g)) :: rest) (fun (r : Option Nat) u => r = some sb ∧ (∀ j, j < k + 1 → u.2.2 j = if j = k then btL c9 else g j) ∧ (∀ j, fits .byte (.int (u.2.2 j)) = true) ∧ ((u.1 = va ∧ u.2.1 = cap ∧ k < cap) ∨ (u.2.1 = 2 * cap + 2 ∧ k = cap))) (fun (u : Nat × Nat × (Nat → Int32)) => (sb, zo 11 [.ref u.1, .int (nI 0), .int 0, .int (nI (k + 1))]) :: (u.1, zc G 1 (zI u.2.1 u.2.2)) :: rest) := by
  refine z_begQ (by first | exact Or.inl ⟨_, rfl⟩ | exact Or.inr ⟨_, rfl⟩) (by decide) (Nat.le_of_ble_eq_true rfl) (fun p e s m args below meth c ls Q hC hl hw hend => ?_)
  have hx := hC.hx
  have hb := hC.hb
  have hl : lv_has ls 2 [(0, .ref sb), (1, .int (nI c9))] := hl
  have hw : zS G ((sb, zo 11 [.ref va, .int (nI 0), .int 0, .int (nI k)]) :: (va, zc G 1 (zI cap g)) :: rest) s s.heap [] := hw
  have hz := hG s hC.hZ.1
  have hzs := hS s hC.hZ.1
  refine lv_aload_n hx hb dJ2_append_0 rfl (lv_at hl 0 rfl) ?_
  refine lv_iload_n hx hb dJ2_append_1 rfl (lv_at hl 1 rfl) ?_
  refine z_cq (z_runSU (n := 1) (As := [.int (nI c9)]) (rest := []) hC ⟨zu_J2_50, by decide +kernel, by decide +kernel⟩ (m_J1_append_g G l kA (by first | assumption | (omega)) (by first | assumption | (omega)) sb va k cap g c9 (by omega) (by omega) (by first | assumption | (omega)) (by omega) (by omega) (zrem [0, 1] _)) hw (hw.perm (z_cut (is := [0, 1]) (cells := [(sb, zo 11 [.ref va, .int (nI 0), .int 0, .int (nI k)]), (va, zc G 1 (zI cap g))]) rfl rfl)) 0 rfl rfl rfl rfl (Nat.le_of_ble_eq_true rfl) hl.1 ⟨Nat.le_of_ble_eq_true rfl, Nat.le_of_ble_eq_true rfl⟩ ⟨(Nat.le_of_ble_eq_true rfl), (by show _ ≤ (2 * cap + 2); omega)⟩ dJ2_append_2) hw (fun u => z_pput (is := [0, 1]) (cells := [(sb, zo 11 [.ref va, .int (nI 0), .int 0, .int (nI k)]), (va, zc G 1 (zI cap g))]) (cells' := [(sb, zo 11 [.ref u.1, .int (nI 0), .int 0, .int (nI (k + 1))]), (u.1, zc G 1 (zI u.2.1 u.2.2))]) rfl rfl rfl) (fun r u H locs hp hw => ?_)
  obtain ⟨va7, cap7, g7⟩ := u
  have hw : zS G ((sb, zo 11 [.ref va7, .int (nI 0), .int 0, .int (nI (k + 1))]) :: (va7, zc G 1 (zI cap7 g7)) :: rest) s H locs := hw
  obtain ⟨rfl, hg7, hfit7, hcap7⟩ := hp
  refine lv_pop hx hb dJ2_append_5 rfl ?_
  refine lv_aload_n hx hb dJ2_append_6 rfl (lv_at hl 0 rfl) ?_
  exact hend _ _ _ _ _ _ (some sb) (va7, cap7, g7) hw ⟨rfl, hg7, hfit7, hcap7⟩ (Nat.le_of_ble_eq_true rfl) (by omega) dJ2_append_7
set_option maxHeartbeats 4000000 in
theorem m_J1_init (G : zE) (l : Launch) (kA : Nat → Nat) (hG : zG G kA) (sb : Nat) (rest : va_W) : zMv G l yJ1_init cJ1_init 2 1 1 16 [.ref sb, .int (nI 16)] ((sb, zo 11 [.null, .int 0, .int 0, .int 0]) :: rest) (fun _ => True) (fun (u : Nat) => (u, zc G 1 (zI 16 (fun _ => 0))) :: (sb, zo 11 [.ref u, .int (nI 0), .int 0, .int 0]) :: rest) := by
  refine z_begV (by decide) (Nat.le_of_ble_eq_true rfl) (fun p e s m args below meth c ls Q hC hnm hl hw hend => ?_)
  have hx := hC.hx
  have hb := hC.hb
  have hl : lv_has ls 2 [(0, .ref sb), (1, .int (nI 16))] := hl
  have hw : zS G ((sb, zo 11 [.null, .int 0, .int 0, .int 0]) :: rest) s s.heap [] := hw
  have hz := hG s hC.hZ.1
  refine lv_aload_n hx hb dJ1_init_0 rfl (lv_at hl 0 rfl) ?_
  refine W.objInit hx hb hC.hown (hC.hts _ q296) (hC.hts _ q102) (hC.hts _ q103) rfl (by rw [hC.hml]; exact hl.1) rfl dJ1_init_1 (Nat.le_of_ble_eq_true rfl) (Nat.le_of_ble_eq_true rfl) ?_
  refine W.eq (g2 := F0 m 4 ls []) rfl ?_
  refine z_gets (v := .int (nI 1)) hC hz.2.2.2 hw q297 dJ1_init_4 ?_
  refine zj_eq (tgt := 25) hx hb (by decide) dJ1_init_7 (by decide) (fun h => absurd h (by decide)) (fun _ => ?_)
  refine lv_aload_n hx hb dJ1_init_10 rfl (lv_at hl 0 rfl) ?_
  refine lv_iload_n hx hb dJ1_init_11 rfl (lv_at hl 1 rfl) ?_
  refine z_newa (t := 1) (atype := .byte) (a0 := zI 16 (fun _ => 0)) hC (hC.hts _ q149) (fun _ => rfl) hw (fun _ => rfl) (by decide) (by decide) (Nat.le_of_ble_eq_true rfl) (Nat.le_of_ble_eq_true rfl) dJ1_init_12 (fun q_12 H hw => ?_)
  have hw : zS G ((q_12, zc G 1 (zI 16 (fun _ => 0))) :: (sb, zo 11 [.null, .int 0, .int 0, .int 0]) :: rest) s H [] := hw
  refine z_put hC zf_J1_15_11 hw 1 rfl rfl rfl (Nat.le_of_ble_eq_true rfl) dJ1_init_14 (fun H locs hw => ?_)
  have hw : zS G ((q_12, zc G 1 (zI 16 (fun _ => 0))) :: (sb, zo 11 [.ref q_12, .int 0, .int 0, .int 0]) :: rest) s H locs := hw
  refine lv_aload_n hx hb dJ1_init_17 rfl (lv_at hl 0 rfl) ?_
  refine lv_iconst (v := (nI 0)) hx hb dJ1_init_18 zk_0 ?_
  refine z_put hC zf_J1_22_11 hw 1 rfl rfl rfl (Nat.le_of_ble_eq_true rfl) dJ1_init_19 (fun H locs hw => ?_)
  have hw : zS G ((q_12, zc G 1 (zI 16 (fun _ => 0))) :: (sb, zo 11 [.ref q_12, .int (nI 0), .int 0, .int 0]) :: rest) s H locs := hw
  refine lv_goto (tgt := 38) hx hb dJ1_init_22 (by decide) ?_
  exact hend _ _ _ _ _ _ q_12 hw trivial (Nat.le_of_ble_eq_true rfl) (Nat.le_of_ble_eq_true rfl) dJ1_init_38
theorem zx_J2_1 : zIs RJ2 1 yJ1_init cJ1_init 2 1 := ⟨⟨q295, q55, q293, q294, rfl⟩, ⟨by decide +kernel, by decide +kernel⟩, by decide +kernel⟩
set_option maxHeartbeats 4000000 in
theorem m_J2_init (G : zE) (l : Launch) (kA : Nat → Nat) (hG : zG G kA) (sb : Nat) (rest : va_W) : zMv G l yJ2_init cJ2_init 1 2 1 16 [.ref sb] ((sb, zo 11 [.null, .int 0, .int 0, .int 0]) :: rest) (fun _ => True) (fun (u : Nat) => (u, zc G 1 (zI 16 (fun _ => 0))) :: (sb, zo 11 [.ref u, .int (nI 0), .int 0, .int 0]) :: rest) := by
  refine z_begV (by decide) (Nat.le_of_ble_eq_true rfl) (fun p e s m args below meth c ls Q hC hnm hl hw hend => ?_)
  have hx := hC.hx
  have hb := hC.hb
  have hl : lv_has ls 1 [(0, .ref sb)] := hl
  have hw : zS G ((sb, zo 11 [.null, .int 0, .int 0, .int 0]) :: rest) s s.heap [] := hw
  have hz := hG s hC.hZ.1
  refine lv_aload_n hx hb dJ2_init_0 rfl (lv_at hl 0 rfl) ?_
  refine lv_bipush (v := (nI 16)) hx hb dJ2_init_1 zb_16 ?_
  refine z_cv (z_runI (As := [.int (nI 16)]) (rest := []) hC zx_J2_1 (m_J1_init G l kA (by first | assumption | (omega)) sb (zrem [0] _)) (hw.perm (z_cut (is := [0]) (cells := [(sb, zo 11 [.null, .int 0, .int 0, .int 0])]) rfl rfl)) rfl rfl (Nat.le_of_ble_eq_true rfl) hl.1 ⟨Nat.le_of_ble_eq_true rfl, Nat.le_of_ble_eq_true rfl⟩ ⟨(Nat.le_of_ble_eq_true rfl), (Nat.le_of_ble_eq_true rfl)⟩ dJ2_init_3) hw (fun u => z_new1 (is := [0]) (cs := [(sb, zo 11 [.null, .int 0, .int 0, .int 0])]) (cs' := [(sb, zo 11 [.ref u, .int (nI 0), .int 0, .int 0])]) (nw := [(u, zc G 1 (zI 16 (fun _ => 0)))]) rfl rfl rfl) (fun u H locs hp hw => ?_)
  obtain ⟨va7, rfl⟩ : ∃ z, z = u := ⟨_, rfl⟩
  have hw : zS G ((va7, zc G 1 (zI 16 (fun _ => 0))) :: (sb, zo 11 [.ref va7, .int (nI 0), .int 0, .int 0]) :: rest) s H locs := hw
  exact hend _ _ _ _ _ _ va7 hw trivial (Nat.le_of_ble_eq_true rfl) (Nat.le_of_ble_eq_true rfl) dJ2_init_6
