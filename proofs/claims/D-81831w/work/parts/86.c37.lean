/-! STRINGS: Strings -/
set_option maxRecDepth 100000
theorem btL_and {c : Nat} (h : c < 256) : btL c &&& nI 255 = nI c := by
  have key : ∀ c : Fin 256, (nI c.1).toInt8.toInt32 &&& nI 255 = nI c.1 := by decide +kernel
  exact key ⟨c, h⟩
theorem zi2c {c : Nat} (h : c < 65536) : ((nI c).toUInt32 % 65536).toInt32 = nI c := by
  rw [pk_char]
  show nI ((BitVec.ofNat 32 c).toNat % 65536) = nI c
  rw [BitVec.toNat_ofNat]
  congr 1; omega
theorem nar_char {c : Nat} (h : c < 65536) : narrow .char (.int (nI c)) = .int (nI c) := by
  have e : ((nI c).toUInt32 % 65536).toInt32 = nI c := zi2c h
  exact congrArg Value.int e
set_option maxHeartbeats 4000000 in
theorem m_J0_checkLength (G : zE) (l : Launch) (n : Nat) (hn : n ≤ 1300) (rest : va_W) : zMv G l yJ0_checkLength cJ0_checkLength 2 0 0 0 [.int (nI 0), .int (nI n)] (rest) (fun (_ : Unit) => True) (fun (_ : Unit) => rest) := by
  refine z_begV (by decide) (Nat.le_of_ble_eq_true rfl) (fun p e s m args below meth c ls Q hC hnm hl hw hend => ?_)
  have hx := hC.hx
  have hb := hC.hb
  have hl : lv_has ls 2 [(0, .int (nI 0)), (1, .int (nI n))] := hl
  refine lv_iload_n hx hb dJ0_checkLength_0 rfl (lv_at hl 1 rfl) ?_
  refine lv_iload_n hx hb dJ0_checkLength_1 rfl (lv_at hl 0 rfl) ?_
  refine zi_ge (tgt := 37) hx hb (by omega) (by decide) dJ0_checkLength_2 (by decide) (fun _ => ?_) (fun h => absurd h (by omega))
  exact hend _ _ _ _ _ _ () hw trivial (Nat.le_of_ble_eq_true rfl) (Nat.le_of_ble_eq_true rfl) dJ0_checkLength_37
theorem zs_J0_343 : zSs RJ0 343 yJ0_checkLength cJ0_checkLength 2 none 2 := ⟨lw_S q445 q446 q52 q447, ⟨by decide +kernel, by decide +kernel⟩, by decide +kernel⟩
set_option maxHeartbeats 4000000 in
theorem m_J0_copyOfRangeByte (G : zE) (l : Launch) (kA : Nat → Nat) (hG : zG G kA) (va : Nat) (cap : Nat) (n : Nat) (g : Nat → Int32) (hcap : cap ≤ 1300) (hfit : ∀ j, fits .byte (.int (g j)) = true) (hn : n < cap) (rest : va_W) : zMq G l yJ0_copyOfRangeByte cJ0_copyOfRangeByte 5 (some (.array .byte)) 1 1 n [.ref va, .int (nI 0), .int (nI n)] ((va, zc G 1 (zI cap g)) :: rest) (fun (r : Option Nat) u => r = some u.1 ∧ ∀ j, j < n → u.2 j = g j) (fun (u : Nat × (Nat → Int32)) => (u.1, zc G 1 (zI n u.2)) :: (va, zc G 1 (zI cap g)) :: rest) := by
  refine z_begQ (by first | exact Or.inl ⟨_, rfl⟩ | exact Or.inr ⟨_, rfl⟩) (by decide) (Nat.le_of_ble_eq_true rfl) (fun p e s m args below meth c ls Q hC hl hw hend => ?_)
  have hx := hC.hx
  have hb := hC.hb
  have hl : lv_has ls 5 [(0, .ref va), (1, .int (nI 0)), (2, .int (nI n))] := hl
  have hw : zS G ((va, zc G 1 (zI cap g)) :: rest) s s.heap [] := hw
  have hz := hG s hC.hZ.1
  refine lv_iload_n hx hb dJ0_copyOfRangeByte_0 rfl (lv_at hl 1 rfl) ?_
  refine lv_iload_n hx hb dJ0_copyOfRangeByte_1 rfl (lv_at hl 2 rfl) ?_
  refine z_cv (z_runS (As := [.int (nI 0), .int (nI n)]) (rest := []) hC zs_J0_343 (m_J0_checkLength G l n (by omega) _) hw rfl rfl (Nat.le_of_ble_eq_true rfl) hl.1 ⟨Nat.le_of_ble_eq_true rfl, Nat.le_of_ble_eq_true rfl⟩ ⟨(Nat.le_of_ble_eq_true rfl), (by show _ ≤ n; omega)⟩ dJ0_copyOfRangeByte_2) hw (fun _ => List.Perm.refl _) (fun u H locs hp hw => ?_)
  refine lv_iload_n hx hb dJ0_copyOfRangeByte_5 rfl (lv_at hl 2 rfl) ?_
  refine lv_iload_n hx hb dJ0_copyOfRangeByte_6 rfl (lv_at hl 1 rfl) ?_
  refine zn_isub hx hb (by omega) dJ0_copyOfRangeByte_7 ?_
  refine lv_istore_n (lv' := [(3, .int (nI (n - 0))), (0, .ref va), (1, .int (nI 0)), (2, .int (nI n))]) hx hb dJ0_copyOfRangeByte_8 rfl hl (by decide) rfl (fun ls hl => ?_)
  refine lv_iload_n hx hb dJ0_copyOfRangeByte_9 rfl (lv_at hl 0 rfl) ?_
  refine z_newa (t := 1) (atype := .byte) (a0 := zI (n - 0) (fun _ => 0)) hC (hC.hts _ q149) (fun _ => rfl) hw (fun _ => rfl) (by omega) (by decide) (Nat.le_of_ble_eq_true rfl) (by show _ ≤ n; omega) dJ0_copyOfRangeByte_10 (fun q_10 H hw => ?_)
  have hw : zS G ((q_10, zc G 1 (zI (n - 0) (fun _ => 0))) :: (va, zc G 1 (zI cap g)) :: rest) s H locs := hw
  refine lv_astore (lv' := [(4, .ref q_10), (3, .int (nI (n - 0))), (0, .ref va), (1, .int (nI 0)), (2, .int (nI n))]) hx hb dJ0_copyOfRangeByte_12 hl (by decide) rfl (fun ls hl => ?_)
  refine lv_aload_n hx hb dJ0_copyOfRangeByte_14 rfl (lv_at hl 2 rfl) ?_
  refine lv_iload_n hx hb dJ0_copyOfRangeByte_15 rfl (lv_at hl 3 rfl) ?_
  refine lv_aload hx hb dJ0_copyOfRangeByte_16 (lv_at hl 0 rfl) ?_
  refine lv_iconst (v := (nI 0)) hx hb dJ0_copyOfRangeByte_18 zk_0 ?_
  refine lv_aload_n hx hb dJ0_copyOfRangeByte_19 rfl (lv_at hl 2 rfl) ?_
  refine z_alen (t := 1) hC hw 1 rfl (fun _ => rfl) dJ0_copyOfRangeByte_20 ?_
  show W p l e (zR 1 1 n) s m args below meth c H locs 1 (0 + (n - 0)) Q (F0 m 21 ls [.int (nI cap), .int (nI 0), .ref q_10, .int (nI 0), .ref va])
  refine lv_iload_n hx hb dJ0_copyOfRangeByte_21 rfl (lv_at hl 3 rfl) ?_
  refine zn_isub hx hb (by omega) dJ0_copyOfRangeByte_22 ?_
  refine lv_iload_n hx hb dJ0_copyOfRangeByte_23 rfl (lv_at hl 1 rfl) ?_
  refine z_mmin (v := nI (min (cap - 0) (n - 0))) hC hl.1 q355 zm_min (zm_min_d (by omega) (by omega)) (Nat.le_of_ble_eq_true rfl) ⟨Nat.le_of_ble_eq_true rfl, Nat.le_of_ble_eq_true rfl⟩ (Nat.le_of_ble_eq_true rfl) (by show _ ≤ n; omega) dJ0_copyOfRangeByte_24 ?_
  rw [show nI (min (cap - 0) (n - 0)) = nI n from by rw [Nat.min_eq_right (by omega)]; rfl]
  show W p l e (zR 1 1 n) s m args below meth c H locs 1 (0 + (n - 0)) Q (F0 m 27 ls [.int (nI n), .int (nI 0), .ref q_10, .int (nI 0), .ref va])
  refine z_copyI (t := 1) (h := va_cpy g (fun _ => 0) 0 0 n) hC hl.1 q358 zNat_ok hw 1 0 rfl rfl (fun _ => rfl) rfl (by omega) (by omega) (by omega) (by omega) (fun i _ => hfit _) rfl (Nat.le_of_ble_eq_true rfl) ⟨Nat.le_of_ble_eq_true rfl, Nat.le_of_ble_eq_true rfl⟩ dJ0_copyOfRangeByte_27 (fun H locs hw => ?_)
  have hw : zS G ((q_10, zc G 1 (zI (n - 0) (va_cpy g (fun _ => 0) 0 0 n))) :: (va, zc G 1 (zI cap g)) :: rest) s H locs := hw
  refine lv_aload hx hb dJ0_copyOfRangeByte_30 (lv_at hl 0 rfl) ?_
  exact hend _ _ _ _ _ _ (some q_10) (q_10, va_cpy g (fun _ => 0) 0 0 n) hw ⟨rfl, fun j hj => cpy_at hj⟩ (Nat.le_of_ble_eq_true rfl) (by omega) dJ0_copyOfRangeByte_32
theorem zs_J0_339 : zSs RJ0 339 yJ0_copyOfRangeByte cJ0_copyOfRangeByte 5 (some (.array .byte)) 3 := ⟨lw_S q442 q443 q52 q444, ⟨by decide +kernel, by decide +kernel⟩, by decide +kernel⟩
set_option maxHeartbeats 4000000 in
theorem m_J0_copyOfRange_r (G : zE) (l : Launch) (kA : Nat → Nat) (hG : zG G kA) (va : Nat) (cap : Nat) (n : Nat) (g : Nat → Int32) (hcap : cap ≤ 1300) (hfit : ∀ j, fits .byte (.int (g j)) = true) (hn : n < cap) (rest : va_W) : zMq G l yJ0_copyOfRange cJ0_copyOfRange 3 (some (.array .byte)) 2 1 n [.ref va, .int (nI 0), .int (nI n)] ((va, zc G 1 (zI cap g)) :: rest) (fun (r : Option Nat) u => r = some u.1 ∧ ∀ j, j < n → u.2 j = g j) (fun (u : Nat × (Nat → Int32)) => (u.1, zc G 1 (zI n u.2)) :: (va, zc G 1 (zI cap g)) :: rest) := by
  refine z_begQ (by first | exact Or.inl ⟨_, rfl⟩ | exact Or.inr ⟨_, rfl⟩) (by decide) (Nat.le_of_ble_eq_true rfl) (fun p e s m args below meth c ls Q hC hl hw hend => ?_)
  have hx := hC.hx
  have hb := hC.hb
  have hl : lv_has ls 3 [(0, .ref va), (1, .int (nI 0)), (2, .int (nI n))] := hl
  have hw : zS G ((va, zc G 1 (zI cap g)) :: rest) s s.heap [] := hw
  have hz := hG s hC.hZ.1
  refine lv_iload_n hx hb dJ0_copyOfRange_0 rfl (lv_at hl 1 rfl) ?_
  refine zj_ne (tgt := 10) hx hb (by decide) dJ0_copyOfRange_1 (by decide) (fun h => absurd h (by decide)) (fun _ => ?_)
  refine lv_iload_n hx hb dJ0_copyOfRange_4 rfl (lv_at hl 2 rfl) ?_
  refine lv_aload_n hx hb dJ0_copyOfRange_5 rfl (lv_at hl 0 rfl) ?_
  refine z_alen (t := 1) hC hw 0 rfl (fun _ => rfl) dJ0_copyOfRange_6 ?_
  show W p l e (zR 2 1 n) s m args below meth c s.heap [] 0 0 Q (F0 m 7 ls [.int (nI cap), .int (nI n)])
  refine zi_eq (tgt := 17) hx hb (by omega) (by omega) dJ0_copyOfRange_7 (by decide) (fun h => absurd h (by omega)) (fun _ => ?_)
  refine lv_aload_n hx hb dJ0_copyOfRange_10 rfl (lv_at hl 0 rfl) ?_
  refine lv_iload_n hx hb dJ0_copyOfRange_11 rfl (lv_at hl 1 rfl) ?_
  refine lv_iload_n hx hb dJ0_copyOfRange_12 rfl (lv_at hl 2 rfl) ?_
  refine z_cq (z_runS (As := [.ref va, .int (nI 0), .int (nI n)]) (rest := []) hC zs_J0_339 (m_J0_copyOfRangeByte G l kA (by first | assumption | (omega)) va cap n g (by omega) (by first | assumption | (omega)) (by omega) (zrem [0] _)) (hw.perm (z_cut (is := [0]) (cells := [(va, zc G 1 (zI cap g))]) rfl rfl)) rfl rfl (Nat.le_of_ble_eq_true rfl) hl.1 ⟨Nat.le_of_ble_eq_true rfl, Nat.le_of_ble_eq_true rfl⟩ ⟨(Nat.le_of_ble_eq_true rfl), (by show _ ≤ n; omega)⟩ dJ0_copyOfRange_13) hw (fun u => z_new1 (is := [0]) (cs := [(va, zc G 1 (zI cap g))]) (cs' := [(va, zc G 1 (zI cap g))]) (nw := [(u.1, zc G 1 (zI n u.2))]) rfl rfl rfl) (fun r u H locs hp hw => ?_)
  obtain ⟨v3, g3⟩ := u
  have hw : zS G ((v3, zc G 1 (zI n g3)) :: (va, zc G 1 (zI cap g)) :: rest) s H locs := hw
  obtain ⟨rfl, hg3⟩ := hp
  exact hend _ _ _ _ _ _ (some v3) (v3, g3) hw ⟨rfl, hg3⟩ (Nat.le_of_ble_eq_true rfl) (by omega) dJ0_copyOfRange_16
set_option maxHeartbeats 4000000 in
theorem m_J0_copyOfRange_c (G : zE) (l : Launch) (kA : Nat → Nat) (hG : zG G kA) (va : Nat) (cap : Nat) (n : Nat) (g : Nat → Int32) (hcap : cap ≤ 1300) (hfit : ∀ j, fits .byte (.int (g j)) = true) (hn : n = cap) (rest : va_W) : zMq G l yJ0_copyOfRange cJ0_copyOfRange 3 (some (.array .byte)) 1 1 n [.ref va, .int (nI 0), .int (nI n)] ((va, zc G 1 (zI cap g)) :: rest) (fun (r : Option Nat) u => r = some u.1 ∧ ∀ j, j < n → u.2 j = g j) (fun (u : Nat × (Nat → Int32)) => (u.1, zc G 1 (zI n u.2)) :: (va, zc G 1 (zI cap g)) :: rest) := by
  refine z_begQ (by first | exact Or.inl ⟨_, rfl⟩ | exact Or.inr ⟨_, rfl⟩) (by decide) (Nat.le_of_ble_eq_true rfl) (fun p e s m args below meth c ls Q hC hl hw hend => ?_)
  have hx := hC.hx
  have hb := hC.hb
  have hl : lv_has ls 3 [(0, .ref va), (1, .int (nI 0)), (2, .int (nI n))] := hl
  have hw : zS G ((va, zc G 1 (zI cap g)) :: rest) s s.heap [] := hw
  have hz := hG s hC.hZ.1
  subst hn
  have hw : zS G ((va, zc G 1 (zI n g)) :: rest) s s.heap [] := hw
  refine lv_iload_n hx hb dJ0_copyOfRange_0 rfl (lv_at hl 1 rfl) ?_
  refine zj_ne (tgt := 10) hx hb (by decide) dJ0_copyOfRange_1 (by decide) (fun h => absurd h (by decide)) (fun _ => ?_)
  refine lv_iload_n hx hb dJ0_copyOfRange_4 rfl (lv_at hl 2 rfl) ?_
  refine lv_aload_n hx hb dJ0_copyOfRange_5 rfl (lv_at hl 0 rfl) ?_
  refine z_alen (t := 1) hC hw 0 rfl (fun _ => rfl) dJ0_copyOfRange_6 ?_
  show W p l e (zR 1 1 n) s m args below meth c s.heap [] 0 0 Q (F0 m 7 ls [.int (nI n), .int (nI n)])
  refine zi_eq (tgt := 17) hx hb (by omega) (by omega) dJ0_copyOfRange_7 (by decide) (fun _ => ?_) (fun h => absurd h (by omega))
  refine lv_aload_n hx hb dJ0_copyOfRange_17 rfl (lv_at hl 0 rfl) ?_
  refine z_clone hC hz.1 hl.1 q348 hw 0 rfl (fun j _ => hfit j) (Nat.le_of_ble_eq_true rfl) ⟨Nat.le_of_ble_eq_true rfl, Nat.le_of_ble_eq_true rfl⟩ (Nat.le_of_ble_eq_true rfl) (by show _ ≤ n; omega) dJ0_copyOfRange_18 (fun q_18 H hw => ?_)
  have hw : zS G ((q_18, zc G 1 (zI n g)) :: (va, zc G 1 (zI n g)) :: rest) s H [] := hw
  refine z_castB hC q354 hw 0 rfl dJ0_copyOfRange_21 ?_
  exact hend _ _ _ _ _ _ (some q_18) (q_18, g) hw ⟨rfl, fun j _ => rfl⟩ (Nat.le_of_ble_eq_true rfl) (by omega) dJ0_copyOfRange_24
set_option maxHeartbeats 4000000 in
theorem m_J1_getValue (G : zE) (l : Launch) (kA : Nat → Nat) (hG : zG G kA) (sb : Nat) (va : Nat) (k : Nat) (rest : va_W) : zMq G l yJ1_getValue cJ1_getValue 1 (some (.array .byte)) 0 0 0 [.ref sb] ((sb, zo 11 [.ref va, .int (nI 0), .int 0, .int (nI k)]) :: rest) (fun (r : Option Nat) (_ : Unit) => r = some va) (fun (_ : Unit) => (sb, zo 11 [.ref va, .int (nI 0), .int 0, .int (nI k)]) :: rest) := by
  refine z_begQ (by first | exact Or.inl ⟨_, rfl⟩ | exact Or.inr ⟨_, rfl⟩) (by decide) (Nat.le_of_ble_eq_true rfl) (fun p e s m args below meth c ls Q hC hl hw hend => ?_)
  have hx := hC.hx
  have hb := hC.hb
  have hl : lv_has ls 1 [(0, .ref sb)] := hl
  have hw : zS G ((sb, zo 11 [.ref va, .int (nI 0), .int 0, .int (nI k)]) :: rest) s s.heap [] := hw
  have hz := hG s hC.hZ.1
  refine lv_aload_n hx hb dJ1_getValue_0 rfl (lv_at hl 0 rfl) ?_
  refine z_get (v := .ref va) hC zf_J1_15_11 hw 0 rfl rfl dJ1_getValue_1 ?_
  exact hend _ _ _ _ _ _ (some va) () hw rfl (Nat.le_of_ble_eq_true rfl) (Nat.le_of_ble_eq_true rfl) dJ1_getValue_4
set_option maxHeartbeats 4000000 in
theorem m_J1_length (G : zE) (l : Launch) (kA : Nat → Nat) (hG : zG G kA) (sb : Nat) (va : Nat) (k : Nat) (rest : va_W) : zMi G l yJ1_length cJ1_length 1 (some .int) 0 0 0 [.ref sb] ((sb, zo 11 [.ref va, .int (nI 0), .int 0, .int (nI k)]) :: rest) (fun (r : Int32) (_ : Unit) => r = nI k) (fun (_ : Unit) => (sb, zo 11 [.ref va, .int (nI 0), .int 0, .int (nI k)]) :: rest) := by
  refine z_begI (by decide) (Nat.le_of_ble_eq_true rfl) (fun p e s m args below meth c ls Q hC hl hw hend => ?_)
  have hx := hC.hx
  have hb := hC.hb
  have hl : lv_has ls 1 [(0, .ref sb)] := hl
  have hw : zS G ((sb, zo 11 [.ref va, .int (nI 0), .int 0, .int (nI k)]) :: rest) s s.heap [] := hw
  have hz := hG s hC.hZ.1
  refine lv_aload_n hx hb dJ1_length_0 rfl (lv_at hl 0 rfl) ?_
  refine z_get (v := .int (nI k)) hC zf_J1_79_11 hw 0 rfl rfl dJ1_length_1 ?_
  exact hend _ _ _ _ _ _ _ () hw (by first | rfl | simp_all) (Nat.le_of_ble_eq_true rfl) (Nat.le_of_ble_eq_true rfl) dJ1_length_4
theorem zn_J1_length : zNs yJ1_length cJ1_length 1 (some .int) 0 := ⟨q437, q55, ⟨by decide +kernel, by decide +kernel⟩, by decide +kernel⟩
theorem zu_J2_343 : GoodIn lw_all (va_wsSU RJ2 343 yJ1_length (ws_ yJ1_length cJ1_length 1 (some .int))) := by
  refine lw_app ?_ (lw_meth q437)
  intro w hw
  simp only [List.mem_cons, List.not_mem_nil, or_false] at hw
  rcases hw with e | e | e | e | e
  · rw [e]; exact q436
  · rw [e]; exact q432
  · rw [e]; exact q318
  · rw [e]; exact q431
  · rw [e]; exact q55
set_option maxHeartbeats 4000000 in
theorem m_J2_length (G : zE) (l : Launch) (kA : Nat → Nat) (hG : zG G kA) (sb : Nat) (va : Nat) (k : Nat) (rest : va_W) : zMi G l yJ2_length cJ2_length 1 (some .int) 1 0 0 [.ref sb] ((sb, zo 11 [.ref va, .int (nI 0), .int 0, .int (nI k)]) :: rest) (fun (r : Int32) (_ : Unit) => r = nI k) (fun (_ : Unit) => (sb, zo 11 [.ref va, .int (nI 0), .int 0, .int (nI k)]) :: rest) := by
  refine z_begI (by decide) (Nat.le_of_ble_eq_true rfl) (fun p e s m args below meth c ls Q hC hl hw hend => ?_)
  have hx := hC.hx
  have hb := hC.hb
  have hl : lv_has ls 1 [(0, .ref sb)] := hl
  have hw : zS G ((sb, zo 11 [.ref va, .int (nI 0), .int 0, .int (nI k)]) :: rest) s s.heap [] := hw
  have hz := hG s hC.hZ.1
  refine lv_aload_n hx hb dJ2_length_0 rfl (lv_at hl 0 rfl) ?_
  refine z_ci (z_runSU (n := 0) (As := []) (rest := []) hC ⟨zu_J2_343, by decide +kernel, by decide +kernel⟩ (m_J1_length G l kA (by first | assumption | (omega)) sb va k (zrem [0] _)) hw (hw.perm (z_cut (is := [0]) (cells := [(sb, zo 11 [.ref va, .int (nI 0), .int 0, .int (nI k)])]) rfl rfl)) 0 rfl rfl rfl rfl (Nat.le_of_ble_eq_true rfl) hl.1 ⟨Nat.le_of_ble_eq_true rfl, Nat.le_of_ble_eq_true rfl⟩ ⟨(Nat.le_of_ble_eq_true rfl), (Nat.le_of_ble_eq_true rfl)⟩ dJ2_length_1) hw (fun _ => z_keep (is := [0]) (cs := [(sb, zo 11 [.ref va, .int (nI 0), .int 0, .int (nI k)])]) rfl rfl) (fun r u H locs hp hw => ?_)
  obtain rfl : r = nI k := hp
  exact hend _ _ _ _ _ _ _ () hw (by first | rfl | simp_all) (Nat.le_of_ble_eq_true rfl) (Nat.le_of_ble_eq_true rfl) dJ2_length_4
theorem zn_J1_getValue : zNs yJ1_getValue cJ1_getValue 1 (some (.array .byte)) 0 := ⟨q429, q55, ⟨by decide +kernel, by decide +kernel⟩, by decide +kernel⟩
theorem zn_J2_length : zNs yJ2_length cJ2_length 1 (some .int) 0 := ⟨q435, q56, ⟨by decide +kernel, by decide +kernel⟩, by decide +kernel⟩
theorem zf_J3_15_12 : zFl 12 1 RJ3 15 true .byte := ⟨RJ3, TJ3, 4, tyJ3, rfl, by decide, in_J3, q463, rfl, by decide +kernel, tyJ3_ok, nmJ3⟩
theorem zs_J3_54 : zSs RJ3 54 yJ0_copyOfRange cJ0_copyOfRange 3 (some (.array .byte)) 3 := ⟨lw_S q439 q440 q52 q441, ⟨by decide +kernel, by decide +kernel⟩, by decide +kernel⟩
theorem zf_J3_9_12 : zFl 12 0 RJ3 9 true (.array .byte) := ⟨RJ3, TJ3, 4, tyJ3, rfl, by decide, in_J3, q462, rfl, by decide +kernel, tyJ3_ok, nmJ3⟩
set_option maxHeartbeats 4000000 in
theorem m_J3_init_2_r (G : zE) (l : Launch) (kA : Nat → Nat) (hG : zG G kA) (sb : Nat) (va : Nat) (k : Nat) (cap : Nat) (g : Nat → Int32) (sr : Nat) (hcap : cap ≤ 1300) (hfit : ∀ j, fits .byte (.int (g j)) = true) (hk : k < cap) (rest : va_W) : zMv G l yJ3_init_2 cJ3_init_2 5 3 1 k [.ref sr, .ref sb, .null] ((sr, zo 12 [.null, .int 0, .int 0, .int 0]) :: (sb, zo 11 [.ref va, .int (nI 0), .int 0, .int (nI k)]) :: (va, zc G 1 (zI cap g)) :: rest) (fun u => ∀ j, j < k → u.2 j = g j) (fun (u : Nat × (Nat → Int32)) => (u.1, zc G 1 (zI k u.2)) :: (sr, zo 12 [.ref u.1, .int (nI 0), .int 0, .int 0]) :: (sb, zo 11 [.ref va, .int (nI 0), .int 0, .int (nI k)]) :: (va, zc G 1 (zI cap g)) :: rest) := by
  refine z_begV (by decide) (Nat.le_of_ble_eq_true rfl) (fun p e s m args below meth c ls Q hC hnm hl hw hend => ?_)
  have hx := hC.hx
  have hb := hC.hb
  have hl : lv_has ls 5 [(0, .ref sr), (1, .ref sb), (2, .null)] := hl
  have hw : zS G ((sr, zo 12 [.null, .int 0, .int 0, .int 0]) :: (sb, zo 11 [.ref va, .int (nI 0), .int 0, .int (nI k)]) :: (va, zc G 1 (zI cap g)) :: rest) s s.heap [] := hw
  have hz := hG s hC.hZ.1
  refine lv_aload_n hx hb dJ3_init_2_0 rfl (lv_at hl 0 rfl) ?_
  refine W.objInit hx hb hC.hown (hC.hts _ q424) (hC.hts _ q102) (hC.hts _ q103) rfl (by rw [hC.hml]; exact hl.1) rfl dJ3_init_2_1 (Nat.le_of_ble_eq_true rfl) (Nat.le_of_ble_eq_true rfl) ?_
  refine W.eq (g2 := F0 m 4 ls []) rfl ?_
  refine lv_aload_n hx hb dJ3_init_2_4 rfl (lv_at hl 1 rfl) ?_
  refine z_cq (z_runB (x := (⟨"java/lang/AbstractStringBuilder", "getValue", "()[B"⟩ : MethodName)) (owner := "java/lang/AbstractStringBuilder") (C := "java/lang/StringBuilder") (n := 0) (As := []) (rest := []) hC ⟨zn_J1_getValue, q426, q428, ⟨by decide +kernel, by decide +kernel⟩, by decide +kernel⟩ (hC.hts _ q425) (hC.hts _ q427) (z_declO hC q426 q429) (m_J1_getValue G l kA (by first | assumption | (omega)) sb va k (zrem [1] _)) hw (hw.perm (z_cut (is := [1]) (cells := [(sb, zo 11 [.ref va, .int (nI 0), .int 0, .int (nI k)])]) rfl rfl)) 1 rfl rfl rfl rfl rfl (Nat.le_of_ble_eq_true rfl) hl.1 ⟨Nat.le_of_ble_eq_true rfl, Nat.le_of_ble_eq_true rfl⟩ ⟨(Nat.le_of_ble_eq_true rfl), (by show _ ≤ k; omega)⟩ dJ3_init_2_5) hw (fun _ => z_keep (is := [1]) (cs := [(sb, zo 11 [.ref va, .int (nI 0), .int 0, .int (nI k)])]) rfl rfl) (fun r u H locs hp hw => ?_)
  obtain rfl : r = some va := hp
  refine lv_astore_n (lv' := [(3, .ref va), (0, .ref sr), (1, .ref sb), (2, .null)]) hx hb dJ3_init_2_8 rfl hl (by decide) rfl (fun ls hl => ?_)
  refine lv_aload_n hx hb dJ3_init_2_9 rfl (lv_at hl 2 rfl) ?_
  refine z_ci (z_runB (x := (⟨"java/lang/AbstractStringBuilder", "length", "()I"⟩ : MethodName)) (owner := "java/lang/AbstractStringBuilder") (C := "java/lang/StringBuilder") (n := 0) (As := []) (rest := []) hC ⟨zn_J2_length, q434, q433, ⟨by decide +kernel, by decide +kernel⟩, by decide +kernel⟩ (hC.hts _ q430) (hC.hts _ q432) (z_declO hC q431 q437) (m_J2_length G l kA (by first | assumption | (omega)) sb va k (zrem [1] _)) hw (hw.perm (z_cut (is := [1]) (cells := [(sb, zo 11 [.ref va, .int (nI 0), .int 0, .int (nI k)])]) rfl rfl)) 1 rfl rfl rfl rfl rfl (Nat.le_of_ble_eq_true rfl) hl.1 ⟨Nat.le_of_ble_eq_true rfl, Nat.le_of_ble_eq_true rfl⟩ ⟨(Nat.le_of_ble_eq_true rfl), (by show _ ≤ k; omega)⟩ dJ3_init_2_10) hw (fun _ => z_keep (is := [1]) (cs := [(sb, zo 11 [.ref va, .int (nI 0), .int 0, .int (nI k)])]) rfl rfl) (fun r u H locs hp hw => ?_)
  obtain rfl : r = nI k := hp
  refine lv_istore (lv' := [(4, .int (nI k)), (3, .ref va), (0, .ref sr), (1, .ref sb), (2, .null)]) hx hb dJ3_init_2_13 hl (by decide) rfl (fun ls hl => ?_)
  refine lv_aload_n hx hb dJ3_init_2_15 rfl (lv_at hl 3 rfl) ?_
  refine z_ci (z_runB (x := (⟨"java/lang/AbstractStringBuilder", "isLatin1", "()Z"⟩ : MethodName)) (owner := "java/lang/AbstractStringBuilder") (C := "java/lang/StringBuilder") (n := 0) (As := []) (rest := []) hC ⟨zn_J1_isLatin1, q360, q362, ⟨by decide +kernel, by decide +kernel⟩, by decide +kernel⟩ (hC.hts _ q438) (hC.hts _ q361) (z_declO hC q360 q363) (m_J1_isLatin1 G l kA (by first | assumption | (omega)) sb va k cap g (zrem [1] _)) hw (hw.perm (z_cut (is := [1]) (cells := [(sb, zo 11 [.ref va, .int (nI 0), .int 0, .int (nI k)])]) rfl rfl)) 1 rfl rfl rfl rfl rfl (Nat.le_of_ble_eq_true rfl) hl.1 ⟨Nat.le_of_ble_eq_true rfl, Nat.le_of_ble_eq_true rfl⟩ ⟨(Nat.le_of_ble_eq_true rfl), (by show _ ≤ k; omega)⟩ dJ3_init_2_16) hw (fun _ => z_keep (is := [1]) (cs := [(sb, zo 11 [.ref va, .int (nI 0), .int 0, .int (nI k)])]) rfl rfl) (fun r u H locs hp hw => ?_)
  obtain rfl : r = nI 1 := hp
  refine zj_eq (tgt := 41) hx hb (by decide) dJ3_init_2_19 (by decide) (fun h => absurd h (by decide)) (fun _ => ?_)
  refine lv_aload_n hx hb dJ3_init_2_22 rfl (lv_at hl 2 rfl) ?_
  refine lv_iconst (v := (nI 0)) hx hb dJ3_init_2_23 zk_0 ?_
  refine z_putF hC zf_J3_15_12 ⟨_, rfl, rfl⟩ hnm hw 0 rfl rfl rfl (Nat.le_of_ble_eq_true rfl) dJ3_init_2_24 (fun H locs hw => ?_)
  have hw : zS G ((sr, zo 12 [.null, .int (nI 0), .int 0, .int 0]) :: (sb, zo 11 [.ref va, .int (nI 0), .int 0, .int (nI k)]) :: (va, zc G 1 (zI cap g)) :: rest) s H locs := hw
  refine lv_aload_n hx hb dJ3_init_2_27 rfl (lv_at hl 2 rfl) ?_
  refine lv_aload_n hx hb dJ3_init_2_28 rfl (lv_at hl 1 rfl) ?_
  refine lv_iconst (v := (nI 0)) hx hb dJ3_init_2_29 zk_0 ?_
  refine lv_iload hx hb dJ3_init_2_30 (lv_at hl 0 rfl) ?_
  refine z_cq (z_runS (As := [.ref va, .int (nI 0), .int (nI k)]) (rest := [.ref sr]) hC zs_J3_54 (m_J0_copyOfRange_r G l kA (by first | assumption | (omega)) va cap k g (by omega) (by first | assumption | (omega)) (by omega) (zrem [2] _)) (hw.perm (z_cut (is := [2]) (cells := [(va, zc G 1 (zI cap g))]) rfl rfl)) rfl rfl (Nat.le_of_ble_eq_true rfl) hl.1 ⟨Nat.le_of_ble_eq_true rfl, Nat.le_of_ble_eq_true rfl⟩ ⟨(Nat.le_of_ble_eq_true rfl), (by show _ ≤ k; omega)⟩ dJ3_init_2_32) hw (fun u => z_new1 (is := [2]) (cs := [(va, zc G 1 (zI cap g))]) (cs' := [(va, zc G 1 (zI cap g))]) (nw := [(u.1, zc G 1 (zI k u.2))]) rfl rfl rfl) (fun r u H locs hp hw => ?_)
  obtain ⟨v4, g4⟩ := u
  have hw : zS G ((v4, zc G 1 (zI k g4)) :: (sr, zo 12 [.null, .int (nI 0), .int 0, .int 0]) :: (sb, zo 11 [.ref va, .int (nI 0), .int 0, .int (nI k)]) :: (va, zc G 1 (zI cap g)) :: rest) s H locs := hw
  obtain ⟨rfl, hg3⟩ := hp
  refine z_putF hC zf_J3_9_12 ⟨_, rfl, rfl⟩ hnm hw 1 rfl rfl rfl (Nat.le_of_ble_eq_true rfl) dJ3_init_2_35 (fun H locs hw => ?_)
  have hw : zS G ((v4, zc G 1 (zI k g4)) :: (sr, zo 12 [.ref v4, .int (nI 0), .int 0, .int 0]) :: (sb, zo 11 [.ref va, .int (nI 0), .int 0, .int (nI k)]) :: (va, zc G 1 (zI cap g)) :: rest) s H locs := hw
  refine lv_goto (tgt := 97) hx hb dJ3_init_2_38 (by decide) ?_
  exact hend _ _ _ _ _ _ (v4, g4) hw hg3 (Nat.le_of_ble_eq_true rfl) (by omega) dJ3_init_2_97
theorem zx_J3_489 : zIs RJ3 489 yJ3_init_2 cJ3_init_2 5 2 := ⟨⟨q423, q57, q421, q422, rfl⟩, ⟨by decide +kernel, by decide +kernel⟩, by decide +kernel⟩
set_option maxHeartbeats 4000000 in
theorem m_J3_init_r (G : zE) (l : Launch) (kA : Nat → Nat) (hG : zG G kA) (sb : Nat) (va : Nat) (k : Nat) (cap : Nat) (g : Nat → Int32) (sr : Nat) (hcap : cap ≤ 1300) (hfit : ∀ j, fits .byte (.int (g j)) = true) (hk : k < cap) (rest : va_W) : zMv G l yJ3_init cJ3_init 2 4 1 k [.ref sr, .ref sb] ((sr, zo 12 [.null, .int 0, .int 0, .int 0]) :: (sb, zo 11 [.ref va, .int (nI 0), .int 0, .int (nI k)]) :: (va, zc G 1 (zI cap g)) :: rest) (fun u => ∀ j, j < k → u.2 j = g j) (fun (u : Nat × (Nat → Int32)) => (u.1, zc G 1 (zI k u.2)) :: (sr, zo 12 [.ref u.1, .int (nI 0), .int 0, .int 0]) :: (sb, zo 11 [.ref va, .int (nI 0), .int 0, .int (nI k)]) :: (va, zc G 1 (zI cap g)) :: rest) := by
  refine z_begV (by decide) (Nat.le_of_ble_eq_true rfl) (fun p e s m args below meth c ls Q hC hnm hl hw hend => ?_)
  have hx := hC.hx
  have hb := hC.hb
  have hl : lv_has ls 2 [(0, .ref sr), (1, .ref sb)] := hl
  have hw : zS G ((sr, zo 12 [.null, .int 0, .int 0, .int 0]) :: (sb, zo 11 [.ref va, .int (nI 0), .int 0, .int (nI k)]) :: (va, zc G 1 (zI cap g)) :: rest) s s.heap [] := hw
  have hz := hG s hC.hZ.1
  refine lv_aload_n hx hb dJ3_init_0 rfl (lv_at hl 0 rfl) ?_
  refine lv_aload_n hx hb dJ3_init_1 rfl (lv_at hl 1 rfl) ?_
  refine lv_null hx hb dJ3_init_2 ?_
  refine z_cv (z_runI (As := [.ref sb, .null]) (rest := []) hC zx_J3_489 (m_J3_init_2_r G l kA (by first | assumption | (omega)) sb va k cap g sr (by omega) (by first | assumption | (omega)) (by omega) (zrem [0, 1, 2] _)) (hw.perm (z_cut (is := [0, 1, 2]) (cells := [(sr, zo 12 [.null, .int 0, .int 0, .int 0]), (sb, zo 11 [.ref va, .int (nI 0), .int 0, .int (nI k)]), (va, zc G 1 (zI cap g))]) rfl rfl)) rfl rfl (Nat.le_of_ble_eq_true rfl) hl.1 ⟨Nat.le_of_ble_eq_true rfl, Nat.le_of_ble_eq_true rfl⟩ ⟨(Nat.le_of_ble_eq_true rfl), (by show _ ≤ k; omega)⟩ dJ3_init_3) hw (fun u => z_new1 (is := [0, 1, 2]) (cs := [(sr, zo 12 [.null, .int 0, .int 0, .int 0]), (sb, zo 11 [.ref va, .int (nI 0), .int 0, .int (nI k)]), (va, zc G 1 (zI cap g))]) (cs' := [(sr, zo 12 [.ref u.1, .int (nI 0), .int 0, .int 0]), (sb, zo 11 [.ref va, .int (nI 0), .int 0, .int (nI k)]), (va, zc G 1 (zI cap g))]) (nw := [(u.1, zc G 1 (zI k u.2))]) rfl rfl rfl) (fun u H locs hp hw => ?_)
  obtain ⟨v4, g4⟩ := u
  have hw : zS G ((v4, zc G 1 (zI k g4)) :: (sr, zo 12 [.ref v4, .int (nI 0), .int 0, .int 0]) :: (sb, zo 11 [.ref va, .int (nI 0), .int 0, .int (nI k)]) :: (va, zc G 1 (zI cap g)) :: rest) s H locs := hw
  have hg4 := hp
  exact hend _ _ _ _ _ _ (v4, g4) hw hg4 (Nat.le_of_ble_eq_true rfl) (by omega) dJ3_init_6
theorem zx_J2_137 : zIs RJ2 137 yJ3_init cJ3_init 2 1 := ⟨⟨q420, q57, q418, q419, rfl⟩, ⟨by decide +kernel, by decide +kernel⟩, by decide +kernel⟩
set_option maxHeartbeats 4000000 in
theorem m_J2_toString_r (G : zE) (l : Launch) (kA : Nat → Nat) (hG : zG G kA) (sb : Nat) (va : Nat) (k : Nat) (cap : Nat) (g : Nat → Int32) (hcap : cap ≤ 1300) (hfit : ∀ j, fits .byte (.int (g j)) = true) (hk : k < cap) (rest : va_W) : zMq G l yJ2_toString cJ2_toString 1 (some (.object "java/lang/String")) 5 2 (k + 4) [.ref sb] ((sb, zo 11 [.ref va, .int (nI 0), .int 0, .int (nI k)]) :: (va, zc G 1 (zI cap g)) :: rest) (fun (r : Option Nat) u => r = some u.1 ∧ ∀ j, j < k → u.2.2 j = g j) (fun (u : Nat × Nat × (Nat → Int32)) => (u.2.1, zc G 1 (zI k u.2.2)) :: (u.1, zo 12 [.ref u.2.1, .int (nI 0), .int 0, .int 0]) :: (sb, zo 11 [.ref va, .int (nI 0), .int 0, .int (nI k)]) :: (va, zc G 1 (zI cap g)) :: rest) := by
  refine z_begQ (by first | exact Or.inl ⟨_, rfl⟩ | exact Or.inr ⟨_, rfl⟩) (by decide) (Nat.le_of_ble_eq_true rfl) (fun p e s m args below meth c ls Q hC hl hw hend => ?_)
  have hx := hC.hx
  have hb := hC.hb
  have hl : lv_has ls 1 [(0, .ref sb)] := hl
  have hw : zS G ((sb, zo 11 [.ref va, .int (nI 0), .int 0, .int (nI k)]) :: (va, zc G 1 (zI cap g)) :: rest) s s.heap [] := hw
  have hz := hG s hC.hZ.1
  refine z_new (ci := 12) (fs := [.null, .int 0, .int 0, .int 0]) hC rfl in_J3 tyJ3_ok q416 q417 q57 hw (fun j hj => by revert hj; revert j; decide) (Nat.le_of_ble_eq_true rfl) (by show _ ≤ (k + 4); omega) dJ2_toString_0 (fun q_0 H hw => ?_)
  have hw : zS G ((q_0, zo 12 [.null, .int 0, .int 0, .int 0]) :: (sb, zo 11 [.ref va, .int (nI 0), .int 0, .int (nI k)]) :: (va, zc G 1 (zI cap g)) :: rest) s H [] := hw
  refine lv_dup hx hb dJ2_toString_3 rfl ?_
  refine lv_aload_n hx hb dJ2_toString_4 rfl (lv_at hl 0 rfl) ?_
  refine z_cv (z_runI (As := [.ref sb]) (rest := [.ref q_0]) hC zx_J2_137 (m_J3_init_r G l kA (by first | assumption | (omega)) sb va k cap g q_0 (by omega) (by first | assumption | (omega)) (by omega) (zrem [0, 1, 2] _)) (hw.perm (z_cut (is := [0, 1, 2]) (cells := [(q_0, zo 12 [.null, .int 0, .int 0, .int 0]), (sb, zo 11 [.ref va, .int (nI 0), .int 0, .int (nI k)]), (va, zc G 1 (zI cap g))]) rfl rfl)) rfl rfl (Nat.le_of_ble_eq_true rfl) hl.1 ⟨Nat.le_of_ble_eq_true rfl, Nat.le_of_ble_eq_true rfl⟩ ⟨(Nat.le_of_ble_eq_true rfl), (by show _ ≤ (k + 4); omega)⟩ dJ2_toString_5) hw (fun u => z_new1 (is := [0, 1, 2]) (cs := [(q_0, zo 12 [.null, .int 0, .int 0, .int 0]), (sb, zo 11 [.ref va, .int (nI 0), .int 0, .int (nI k)]), (va, zc G 1 (zI cap g))]) (cs' := [(q_0, zo 12 [.ref u.1, .int (nI 0), .int 0, .int 0]), (sb, zo 11 [.ref va, .int (nI 0), .int 0, .int (nI k)]), (va, zc G 1 (zI cap g))]) (nw := [(u.1, zc G 1 (zI k u.2))]) rfl rfl rfl) (fun u H locs hp hw => ?_)
  obtain ⟨v4, g4⟩ := u
  have hw : zS G ((v4, zc G 1 (zI k g4)) :: (q_0, zo 12 [.ref v4, .int (nI 0), .int 0, .int 0]) :: (sb, zo 11 [.ref va, .int (nI 0), .int 0, .int (nI k)]) :: (va, zc G 1 (zI cap g)) :: rest) s H locs := hw
  have hg4 := hp
  exact hend _ _ _ _ _ _ (some q_0) (q_0, v4, g4) hw ⟨rfl, hg4⟩ (Nat.le_of_ble_eq_true rfl) (by omega) dJ2_toString_8
set_option maxHeartbeats 4000000 in
theorem m_J3_init_2_c (G : zE) (l : Launch) (kA : Nat → Nat) (hG : zG G kA) (sb : Nat) (va : Nat) (k : Nat) (cap : Nat) (g : Nat → Int32) (sr : Nat) (hcap : cap ≤ 1300) (hfit : ∀ j, fits .byte (.int (g j)) = true) (hk : k = cap) (rest : va_W) : zMv G l yJ3_init_2 cJ3_init_2 5 3 1 k [.ref sr, .ref sb, .null] ((sr, zo 12 [.null, .int 0, .int 0, .int 0]) :: (sb, zo 11 [.ref va, .int (nI 0), .int 0, .int (nI k)]) :: (va, zc G 1 (zI cap g)) :: rest) (fun u => ∀ j, j < k → u.2 j = g j) (fun (u : Nat × (Nat → Int32)) => (u.1, zc G 1 (zI k u.2)) :: (sr, zo 12 [.ref u.1, .int (nI 0), .int 0, .int 0]) :: (sb, zo 11 [.ref va, .int (nI 0), .int 0, .int (nI k)]) :: (va, zc G 1 (zI cap g)) :: rest) := by
  refine z_begV (by decide) (Nat.le_of_ble_eq_true rfl) (fun p e s m args below meth c ls Q hC hnm hl hw hend => ?_)
  have hx := hC.hx
  have hb := hC.hb
  have hl : lv_has ls 5 [(0, .ref sr), (1, .ref sb), (2, .null)] := hl
  have hw : zS G ((sr, zo 12 [.null, .int 0, .int 0, .int 0]) :: (sb, zo 11 [.ref va, .int (nI 0), .int 0, .int (nI k)]) :: (va, zc G 1 (zI cap g)) :: rest) s s.heap [] := hw
  have hz := hG s hC.hZ.1
  refine lv_aload_n hx hb dJ3_init_2_0 rfl (lv_at hl 0 rfl) ?_
  refine W.objInit hx hb hC.hown (hC.hts _ q424) (hC.hts _ q102) (hC.hts _ q103) rfl (by rw [hC.hml]; exact hl.1) rfl dJ3_init_2_1 (Nat.le_of_ble_eq_true rfl) (Nat.le_of_ble_eq_true rfl) ?_
  refine W.eq (g2 := F0 m 4 ls []) rfl ?_
  refine lv_aload_n hx hb dJ3_init_2_4 rfl (lv_at hl 1 rfl) ?_
  refine z_cq (z_runB (x := (⟨"java/lang/AbstractStringBuilder", "getValue", "()[B"⟩ : MethodName)) (owner := "java/lang/AbstractStringBuilder") (C := "java/lang/StringBuilder") (n := 0) (As := []) (rest := []) hC ⟨zn_J1_getValue, q426, q428, ⟨by decide +kernel, by decide +kernel⟩, by decide +kernel⟩ (hC.hts _ q425) (hC.hts _ q427) (z_declO hC q426 q429) (m_J1_getValue G l kA (by first | assumption | (omega)) sb va k (zrem [1] _)) hw (hw.perm (z_cut (is := [1]) (cells := [(sb, zo 11 [.ref va, .int (nI 0), .int 0, .int (nI k)])]) rfl rfl)) 1 rfl rfl rfl rfl rfl (Nat.le_of_ble_eq_true rfl) hl.1 ⟨Nat.le_of_ble_eq_true rfl, Nat.le_of_ble_eq_true rfl⟩ ⟨(Nat.le_of_ble_eq_true rfl), (by show _ ≤ k; omega)⟩ dJ3_init_2_5) hw (fun _ => z_keep (is := [1]) (cs := [(sb, zo 11 [.ref va, .int (nI 0), .int 0, .int (nI k)])]) rfl rfl) (fun r u H locs hp hw => ?_)
  obtain rfl : r = some va := hp
  refine lv_astore_n (lv' := [(3, .ref va), (0, .ref sr), (1, .ref sb), (2, .null)]) hx hb dJ3_init_2_8 rfl hl (by decide) rfl (fun ls hl => ?_)
  refine lv_aload_n hx hb dJ3_init_2_9 rfl (lv_at hl 2 rfl) ?_
  refine z_ci (z_runB (x := (⟨"java/lang/AbstractStringBuilder", "length", "()I"⟩ : MethodName)) (owner := "java/lang/AbstractStringBuilder") (C := "java/lang/StringBuilder") (n := 0) (As := []) (rest := []) hC ⟨zn_J2_length, q434, q433, ⟨by decide +kernel, by decide +kernel⟩, by decide +kernel⟩ (hC.hts _ q430) (hC.hts _ q432) (z_declO hC q431 q437) (m_J2_length G l kA (by first | assumption | (omega)) sb va k (zrem [1] _)) hw (hw.perm (z_cut (is := [1]) (cells := [(sb, zo 11 [.ref va, .int (nI 0), .int 0, .int (nI k)])]) rfl rfl)) 1 rfl rfl rfl rfl rfl (Nat.le_of_ble_eq_true rfl) hl.1 ⟨Nat.le_of_ble_eq_true rfl, Nat.le_of_ble_eq_true rfl⟩ ⟨(Nat.le_of_ble_eq_true rfl), (by show _ ≤ k; omega)⟩ dJ3_init_2_10) hw (fun _ => z_keep (is := [1]) (cs := [(sb, zo 11 [.ref va, .int (nI 0), .int 0, .int (nI k)])]) rfl rfl) (fun r u H locs hp hw => ?_)
  obtain rfl : r = nI k := hp
  refine lv_istore (lv' := [(4, .int (nI k)), (3, .ref va), (0, .ref sr), (1, .ref sb), (2, .null)]) hx hb dJ3_init_2_13 hl (by decide) rfl (fun ls hl => ?_)
  refine lv_aload_n hx hb dJ3_init_2_15 rfl (lv_at hl 3 rfl) ?_
  refine z_ci (z_runB (x := (⟨"java/lang/AbstractStringBuilder", "isLatin1", "()Z"⟩ : MethodName)) (owner := "java/lang/AbstractStringBuilder") (C := "java/lang/StringBuilder") (n := 0) (As := []) (rest := []) hC ⟨zn_J1_isLatin1, q360, q362, ⟨by decide +kernel, by decide +kernel⟩, by decide +kernel⟩ (hC.hts _ q438) (hC.hts _ q361) (z_declO hC q360 q363) (m_J1_isLatin1 G l kA (by first | assumption | (omega)) sb va k cap g (zrem [1] _)) hw (hw.perm (z_cut (is := [1]) (cells := [(sb, zo 11 [.ref va, .int (nI 0), .int 0, .int (nI k)])]) rfl rfl)) 1 rfl rfl rfl rfl rfl (Nat.le_of_ble_eq_true rfl) hl.1 ⟨Nat.le_of_ble_eq_true rfl, Nat.le_of_ble_eq_true rfl⟩ ⟨(Nat.le_of_ble_eq_true rfl), (by show _ ≤ k; omega)⟩ dJ3_init_2_16) hw (fun _ => z_keep (is := [1]) (cs := [(sb, zo 11 [.ref va, .int (nI 0), .int 0, .int (nI k)])]) rfl rfl) (fun r u H locs hp hw => ?_)
  obtain rfl : r = nI 1 := hp
  refine zj_eq (tgt := 41) hx hb (by decide) dJ3_init_2_19 (by decide) (fun h => absurd h (by decide)) (fun _ => ?_)
  refine lv_aload_n hx hb dJ3_init_2_22 rfl (lv_at hl 2 rfl) ?_
  refine lv_iconst (v := (nI 0)) hx hb dJ3_init_2_23 zk_0 ?_
  refine z_putF hC zf_J3_15_12 ⟨_, rfl, rfl⟩ hnm hw 0 rfl rfl rfl (Nat.le_of_ble_eq_true rfl) dJ3_init_2_24 (fun H locs hw => ?_)
  have hw : zS G ((sr, zo 12 [.null, .int (nI 0), .int 0, .int 0]) :: (sb, zo 11 [.ref va, .int (nI 0), .int 0, .int (nI k)]) :: (va, zc G 1 (zI cap g)) :: rest) s H locs := hw
  refine lv_aload_n hx hb dJ3_init_2_27 rfl (lv_at hl 2 rfl) ?_
  refine lv_aload_n hx hb dJ3_init_2_28 rfl (lv_at hl 1 rfl) ?_
  refine lv_iconst (v := (nI 0)) hx hb dJ3_init_2_29 zk_0 ?_
  refine lv_iload hx hb dJ3_init_2_30 (lv_at hl 0 rfl) ?_
  refine z_cq (z_runS (As := [.ref va, .int (nI 0), .int (nI k)]) (rest := [.ref sr]) hC zs_J3_54 (m_J0_copyOfRange_c G l kA (by first | assumption | (omega)) va cap k g (by omega) (by first | assumption | (omega)) (by omega) (zrem [2] _)) (hw.perm (z_cut (is := [2]) (cells := [(va, zc G 1 (zI cap g))]) rfl rfl)) rfl rfl (Nat.le_of_ble_eq_true rfl) hl.1 ⟨Nat.le_of_ble_eq_true rfl, Nat.le_of_ble_eq_true rfl⟩ ⟨(Nat.le_of_ble_eq_true rfl), (by show _ ≤ k; omega)⟩ dJ3_init_2_32) hw (fun u => z_new1 (is := [2]) (cs := [(va, zc G 1 (zI cap g))]) (cs' := [(va, zc G 1 (zI cap g))]) (nw := [(u.1, zc G 1 (zI k u.2))]) rfl rfl rfl) (fun r u H locs hp hw => ?_)
  obtain ⟨v4, g4⟩ := u
  have hw : zS G ((v4, zc G 1 (zI k g4)) :: (sr, zo 12 [.null, .int (nI 0), .int 0, .int 0]) :: (sb, zo 11 [.ref va, .int (nI 0), .int 0, .int (nI k)]) :: (va, zc G 1 (zI cap g)) :: rest) s H locs := hw
  obtain ⟨rfl, hg3⟩ := hp
  refine z_putF hC zf_J3_9_12 ⟨_, rfl, rfl⟩ hnm hw 1 rfl rfl rfl (Nat.le_of_ble_eq_true rfl) dJ3_init_2_35 (fun H locs hw => ?_)
  have hw : zS G ((v4, zc G 1 (zI k g4)) :: (sr, zo 12 [.ref v4, .int (nI 0), .int 0, .int 0]) :: (sb, zo 11 [.ref va, .int (nI 0), .int 0, .int (nI k)]) :: (va, zc G 1 (zI cap g)) :: rest) s H locs := hw
  refine lv_goto (tgt := 97) hx hb dJ3_init_2_38 (by decide) ?_
  exact hend _ _ _ _ _ _ (v4, g4) hw hg3 (Nat.le_of_ble_eq_true rfl) (by omega) dJ3_init_2_97
set_option maxHeartbeats 4000000 in
theorem m_J3_init_c (G : zE) (l : Launch) (kA : Nat → Nat) (hG : zG G kA) (sb : Nat) (va : Nat) (k : Nat) (cap : Nat) (g : Nat → Int32) (sr : Nat) (hcap : cap ≤ 1300) (hfit : ∀ j, fits .byte (.int (g j)) = true) (hk : k = cap) (rest : va_W) : zMv G l yJ3_init cJ3_init 2 4 1 k [.ref sr, .ref sb] ((sr, zo 12 [.null, .int 0, .int 0, .int 0]) :: (sb, zo 11 [.ref va, .int (nI 0), .int 0, .int (nI k)]) :: (va, zc G 1 (zI cap g)) :: rest) (fun u => ∀ j, j < k → u.2 j = g j) (fun (u : Nat × (Nat → Int32)) => (u.1, zc G 1 (zI k u.2)) :: (sr, zo 12 [.ref u.1, .int (nI 0), .int 0, .int 0]) :: (sb, zo 11 [.ref va, .int (nI 0), .int 0, .int (nI k)]) :: (va, zc G 1 (zI cap g)) :: rest) := by
  refine z_begV (by decide) (Nat.le_of_ble_eq_true rfl) (fun p e s m args below meth c ls Q hC hnm hl hw hend => ?_)
  have hx := hC.hx
  have hb := hC.hb
  have hl : lv_has ls 2 [(0, .ref sr), (1, .ref sb)] := hl
  have hw : zS G ((sr, zo 12 [.null, .int 0, .int 0, .int 0]) :: (sb, zo 11 [.ref va, .int (nI 0), .int 0, .int (nI k)]) :: (va, zc G 1 (zI cap g)) :: rest) s s.heap [] := hw
  have hz := hG s hC.hZ.1
  refine lv_aload_n hx hb dJ3_init_0 rfl (lv_at hl 0 rfl) ?_
  refine lv_aload_n hx hb dJ3_init_1 rfl (lv_at hl 1 rfl) ?_
  refine lv_null hx hb dJ3_init_2 ?_
  refine z_cv (z_runI (As := [.ref sb, .null]) (rest := []) hC zx_J3_489 (m_J3_init_2_c G l kA (by first | assumption | (omega)) sb va k cap g sr (by omega) (by first | assumption | (omega)) (by omega) (zrem [0, 1, 2] _)) (hw.perm (z_cut (is := [0, 1, 2]) (cells := [(sr, zo 12 [.null, .int 0, .int 0, .int 0]), (sb, zo 11 [.ref va, .int (nI 0), .int 0, .int (nI k)]), (va, zc G 1 (zI cap g))]) rfl rfl)) rfl rfl (Nat.le_of_ble_eq_true rfl) hl.1 ⟨Nat.le_of_ble_eq_true rfl, Nat.le_of_ble_eq_true rfl⟩ ⟨(Nat.le_of_ble_eq_true rfl), (by show _ ≤ k; omega)⟩ dJ3_init_3) hw (fun u => z_new1 (is := [0, 1, 2]) (cs := [(sr, zo 12 [.null, .int 0, .int 0, .int 0]), (sb, zo 11 [.ref va, .int (nI 0), .int 0, .int (nI k)]), (va, zc G 1 (zI cap g))]) (cs' := [(sr, zo 12 [.ref u.1, .int (nI 0), .int 0, .int 0]), (sb, zo 11 [.ref va, .int (nI 0), .int 0, .int (nI k)]), (va, zc G 1 (zI cap g))]) (nw := [(u.1, zc G 1 (zI k u.2))]) rfl rfl rfl) (fun u H locs hp hw => ?_)
  obtain ⟨v4, g4⟩ := u
  have hw : zS G ((v4, zc G 1 (zI k g4)) :: (sr, zo 12 [.ref v4, .int (nI 0), .int 0, .int 0]) :: (sb, zo 11 [.ref va, .int (nI 0), .int 0, .int (nI k)]) :: (va, zc G 1 (zI cap g)) :: rest) s H locs := hw
  have hg4 := hp
  exact hend _ _ _ _ _ _ (v4, g4) hw hg4 (Nat.le_of_ble_eq_true rfl) (by omega) dJ3_init_6
set_option maxHeartbeats 4000000 in
theorem m_J2_toString_c (G : zE) (l : Launch) (kA : Nat → Nat) (hG : zG G kA) (sb : Nat) (va : Nat) (k : Nat) (cap : Nat) (g : Nat → Int32) (hcap : cap ≤ 1300) (hfit : ∀ j, fits .byte (.int (g j)) = true) (hk : k = cap) (rest : va_W) : zMq G l yJ2_toString cJ2_toString 1 (some (.object "java/lang/String")) 5 2 (k + 4) [.ref sb] ((sb, zo 11 [.ref va, .int (nI 0), .int 0, .int (nI k)]) :: (va, zc G 1 (zI cap g)) :: rest) (fun (r : Option Nat) u => r = some u.1 ∧ ∀ j, j < k → u.2.2 j = g j) (fun (u : Nat × Nat × (Nat → Int32)) => (u.2.1, zc G 1 (zI k u.2.2)) :: (u.1, zo 12 [.ref u.2.1, .int (nI 0), .int 0, .int 0]) :: (sb, zo 11 [.ref va, .int (nI 0), .int 0, .int (nI k)]) :: (va, zc G 1 (zI cap g)) :: rest) := by
  refine z_begQ (by first | exact Or.inl ⟨_, rfl⟩ | exact Or.inr ⟨_, rfl⟩) (by decide) (Nat.le_of_ble_eq_true rfl) (fun p e s m args below meth c ls Q hC hl hw hend => ?_)
  have hx := hC.hx
  have hb := hC.hb
  have hl : lv_has ls 1 [(0, .ref sb)] := hl
  have hw : zS G ((sb, zo 11 [.ref va, .int (nI 0), .int 0, .int (nI k)]) :: (va, zc G 1 (zI cap g)) :: rest) s s.heap [] := hw
  have hz := hG s hC.hZ.1
  refine z_new (ci := 12) (fs := [.null, .int 0, .int 0, .int 0]) hC rfl in_J3 tyJ3_ok q416 q417 q57 hw (fun j hj => by revert hj; revert j; decide) (Nat.le_of_ble_eq_true rfl) (by show _ ≤ (k + 4); omega) dJ2_toString_0 (fun q_0 H hw => ?_)
  have hw : zS G ((q_0, zo 12 [.null, .int 0, .int 0, .int 0]) :: (sb, zo 11 [.ref va, .int (nI 0), .int 0, .int (nI k)]) :: (va, zc G 1 (zI cap g)) :: rest) s H [] := hw
  refine lv_dup hx hb dJ2_toString_3 rfl ?_
  refine lv_aload_n hx hb dJ2_toString_4 rfl (lv_at hl 0 rfl) ?_
  refine z_cv (z_runI (As := [.ref sb]) (rest := [.ref q_0]) hC zx_J2_137 (m_J3_init_c G l kA (by first | assumption | (omega)) sb va k cap g q_0 (by omega) (by first | assumption | (omega)) (by omega) (zrem [0, 1, 2] _)) (hw.perm (z_cut (is := [0, 1, 2]) (cells := [(q_0, zo 12 [.null, .int 0, .int 0, .int 0]), (sb, zo 11 [.ref va, .int (nI 0), .int 0, .int (nI k)]), (va, zc G 1 (zI cap g))]) rfl rfl)) rfl rfl (Nat.le_of_ble_eq_true rfl) hl.1 ⟨Nat.le_of_ble_eq_true rfl, Nat.le_of_ble_eq_true rfl⟩ ⟨(Nat.le_of_ble_eq_true rfl), (by show _ ≤ (k + 4); omega)⟩ dJ2_toString_5) hw (fun u => z_new1 (is := [0, 1, 2]) (cs := [(q_0, zo 12 [.null, .int 0, .int 0, .int 0]), (sb, zo 11 [.ref va, .int (nI 0), .int 0, .int (nI k)]), (va, zc G 1 (zI cap g))]) (cs' := [(q_0, zo 12 [.ref u.1, .int (nI 0), .int 0, .int 0]), (sb, zo 11 [.ref va, .int (nI 0), .int 0, .int (nI k)]), (va, zc G 1 (zI cap g))]) (nw := [(u.1, zc G 1 (zI k u.2))]) rfl rfl rfl) (fun u H locs hp hw => ?_)
  obtain ⟨v4, g4⟩ := u
  have hw : zS G ((v4, zc G 1 (zI k g4)) :: (q_0, zo 12 [.ref v4, .int (nI 0), .int 0, .int 0]) :: (sb, zo 11 [.ref va, .int (nI 0), .int 0, .int (nI k)]) :: (va, zc G 1 (zI cap g)) :: rest) s H locs := hw
  have hg4 := hp
  exact hend _ _ _ _ _ _ (some q_0) (q_0, v4, g4) hw ⟨rfl, hg4⟩ (Nat.le_of_ble_eq_true rfl) (by omega) dJ2_toString_8
