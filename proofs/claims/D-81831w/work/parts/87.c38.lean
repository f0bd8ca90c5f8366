/-! STRINGS: reading -/
set_option maxRecDepth 100000
set_option maxHeartbeats 4000000 in
theorem m_J3_coder (G : zE) (l : Launch) (kA : Nat → Nat) (hG : zG G kA) (sr : Nat) (sv : Nat) (n : Nat) (g : Nat → Int32) (rest : va_W) : zMi G l yJ3_coder cJ3_coder 1 (some .byte) 0 0 0 [.ref sr] ((sr, zo 12 [.ref sv, .int (nI 0), .int 0, .int 0]) :: rest) (fun (r : Int32) (_ : Unit) => r = nI 0) (fun (_ : Unit) => (sr, zo 12 [.ref sv, .int (nI 0), .int 0, .int 0]) :: rest) := by
  refine z_begZ (by decide) (Nat.le_of_ble_eq_true rfl) (fun p e s m args below meth c ls Q hC hl hw hend => ?_)
  have hx := hC.hx
  have hb := hC.hb
  have hl : lv_has ls 1 [(0, .ref sr)] := hl
  have hw : zS G ((sr, zo 12 [.ref sv, .int (nI 0), .int 0, .int 0]) :: rest) s s.heap [] := hw
  have hz := hG s hC.hZ.1
  refine z_gets (v := .int (nI 1)) hC hz.2.2.2 hw q448 dJ3_coder_0 ?_
  refine zj_eq (tgt := 13) hx hb (by decide) dJ3_coder_3 (by decide) (fun h => absurd h (by decide)) (fun _ => ?_)
  refine lv_aload_n hx hb dJ3_coder_6 rfl (lv_at hl 0 rfl) ?_
  refine z_get (v := .int (nI 0)) hC zf_J3_15_12 hw 0 rfl rfl dJ3_coder_7 ?_
  refine lv_goto (tgt := 14) hx hb dJ3_coder_10 (by decide) ?_
  exact hend _ _ _ _ _ _ _ () rfl hw rfl (Nat.le_of_ble_eq_true rfl) (Nat.le_of_ble_eq_true rfl) dJ3_coder_14
theorem zv_J3_335 : zVs RJ3 335 yJ3_coder cJ3_coder 1 (some .byte) 0 := ⟨lw_V q684 q685 q686 q57 q687, ⟨by decide +kernel, by decide +kernel⟩, by decide +kernel⟩
set_option maxHeartbeats 4000000 in
theorem m_J3_length (G : zE) (l : Launch) (kA : Nat → Nat) (hG : zG G kA) (sr : Nat) (sv : Nat) (n : Nat) (g : Nat → Int32) (hn : n ≤ 1000) (rest : va_W) : zMi G l yJ3_length cJ3_length 1 (some .int) 1 0 0 [.ref sr] ((sr, zo 12 [.ref sv, .int (nI 0), .int 0, .int 0]) :: (sv, zc G 1 (zI n g)) :: rest) (fun (r : Int32) (_ : Unit) => r = nI n) (fun (_ : Unit) => (sr, zo 12 [.ref sv, .int (nI 0), .int 0, .int 0]) :: (sv, zc G 1 (zI n g)) :: rest) := by
  refine z_begI (by decide) (Nat.le_of_ble_eq_true rfl) (fun p e s m args below meth c ls Q hC hl hw hend => ?_)
  have hx := hC.hx
  have hb := hC.hb
  have hl : lv_has ls 1 [(0, .ref sr)] := hl
  have hw : zS G ((sr, zo 12 [.ref sv, .int (nI 0), .int 0, .int 0]) :: (sv, zc G 1 (zI n g)) :: rest) s s.heap [] := hw
  have hz := hG s hC.hZ.1
  refine lv_aload_n hx hb dJ3_length_0 rfl (lv_at hl 0 rfl) ?_
  refine z_get (v := .ref sv) hC zf_J3_9_12 hw 0 rfl rfl dJ3_length_1 ?_
  refine z_alen (t := 1) hC hw 1 rfl (fun _ => rfl) dJ3_length_4 ?_
  show W p l e (zR 1 0 0) s m args below meth c s.heap [] 0 0 Q (F0 m 5 ls [.int (nI n)])
  refine lv_aload_n hx hb dJ3_length_5 rfl (lv_at hl 0 rfl) ?_
  refine z_ci (z_runV (As := []) (rest := [.int (nI n)]) hC zv_J3_335 (m_J3_coder G l kA (by first | assumption | (omega)) sr sv n g (zrem [0] _)) hw (hw.perm (z_cut (is := [0]) (cells := [(sr, zo 12 [.ref sv, .int (nI 0), .int 0, .int 0])]) rfl rfl)) 0 rfl rfl rfl rfl rfl (Nat.le_of_ble_eq_true rfl) hl.1 ⟨Nat.le_of_ble_eq_true rfl, Nat.le_of_ble_eq_true rfl⟩ ⟨(Nat.le_of_ble_eq_true rfl), (Nat.le_of_ble_eq_true rfl)⟩ dJ3_length_6) hw (fun _ => z_keep (is := [0]) (cs := [(sr, zo 12 [.ref sv, .int (nI 0), .int 0, .int 0])]) rfl rfl) (fun r u H locs hp hw => ?_)
  obtain rfl : r = nI 0 := hp
  refine zv_ishr (v := (nI n)) hx hb (shr0 _) dJ3_length_9 ?_
  exact hend _ _ _ _ _ _ _ () hw (by first | rfl | simp_all) (Nat.le_of_ble_eq_true rfl) (Nat.le_of_ble_eq_true rfl) dJ3_length_10
set_option maxHeartbeats 4000000 in
theorem m_J3_isLatin1 (G : zE) (l : Launch) (kA : Nat → Nat) (hG : zG G kA) (sr : Nat) (sv : Nat) (n : Nat) (g : Nat → Int32) (rest : va_W) : zMi G l yJ3_isLatin1 cJ3_isLatin1 1 (some .boolean) 0 0 0 [.ref sr] ((sr, zo 12 [.ref sv, .int (nI 0), .int 0, .int 0]) :: rest) (fun (r : Int32) (_ : Unit) => r = nI 1) (fun (_ : Unit) => (sr, zo 12 [.ref sv, .int (nI 0), .int 0, .int 0]) :: rest) := by
  refine z_begZ (by decide) (Nat.le_of_ble_eq_true rfl) (fun p e s m args below meth c ls Q hC hl hw hend => ?_)
  have hx := hC.hx
  have hb := hC.hb
  have hl : lv_has ls 1 [(0, .ref sr)] := hl
  have hw : zS G ((sr, zo 12 [.ref sv, .int (nI 0), .int 0, .int 0]) :: rest) s s.heap [] := hw
  have hz := hG s hC.hZ.1
  refine z_gets (v := .int (nI 1)) hC hz.2.2.2 hw q448 dJ3_isLatin1_0 ?_
  refine zj_eq (tgt := 17) hx hb (by decide) dJ3_isLatin1_3 (by decide) (fun h => absurd h (by decide)) (fun _ => ?_)
  refine lv_aload_n hx hb dJ3_isLatin1_6 rfl (lv_at hl 0 rfl) ?_
  refine z_get (v := .int (nI 0)) hC zf_J3_15_12 hw 0 rfl rfl dJ3_isLatin1_7 ?_
  refine zj_ne (tgt := 17) hx hb (by decide) dJ3_isLatin1_10 (by decide) (fun h => absurd h (by decide)) (fun _ => ?_)
  refine lv_iconst (v := (nI 1)) hx hb dJ3_isLatin1_13 zk_1 ?_
  refine lv_goto (tgt := 18) hx hb dJ3_isLatin1_14 (by decide) ?_
  exact hend _ _ _ _ _ _ _ () rfl hw rfl (Nat.le_of_ble_eq_true rfl) (Nat.le_of_ble_eq_true rfl) dJ3_isLatin1_18
set_option maxHeartbeats 4000000 in
theorem m_J3_isEmpty (G : zE) (l : Launch) (kA : Nat → Nat) (hG : zG G kA) (sr : Nat) (sv : Nat) (n : Nat) (g : Nat → Int32) (hn : n ≤ 1000) (rest : va_W) : zMi G l yJ3_isEmpty cJ3_isEmpty 1 (some .boolean) 0 0 0 [.ref sr] ((sr, zo 12 [.ref sv, .int (nI 0), .int 0, .int 0]) :: (sv, zc G 1 (zI n g)) :: rest) (fun (r : Int32) (_ : Unit) => r = bI (n = 0)) (fun (_ : Unit) => (sr, zo 12 [.ref sv, .int (nI 0), .int 0, .int 0]) :: (sv, zc G 1 (zI n g)) :: rest) := by
  refine z_begZ (by decide) (Nat.le_of_ble_eq_true rfl) (fun p e s m args below meth c ls Q hC hl hw hend => ?_)
  have hx := hC.hx
  have hb := hC.hb
  have hl : lv_has ls 1 [(0, .ref sr)] := hl
  have hw : zS G ((sr, zo 12 [.ref sv, .int (nI 0), .int 0, .int 0]) :: (sv, zc G 1 (zI n g)) :: rest) s s.heap [] := hw
  have hz := hG s hC.hZ.1
  refine lv_aload_n hx hb dJ3_isEmpty_0 rfl (lv_at hl 0 rfl) ?_
  refine z_get (v := .ref sv) hC zf_J3_9_12 hw 0 rfl rfl dJ3_isEmpty_1 ?_
  refine z_alen (t := 1) hC hw 1 rfl (fun _ => rfl) dJ3_isEmpty_4 ?_
  show W p l e (zR 0 0 0) s m args below meth c s.heap [] 0 0 Q (F0 m 5 ls [.int (nI n)])
  refine zj_ne (tgt := 12) hx hb (by omega) dJ3_isEmpty_5 (by decide) (fun c_5 => ?_) (fun c_5 => ?_)
  · skip
    refine lv_iconst (v := (nI 0)) hx hb dJ3_isEmpty_12 zk_0 ?_
    exact hend _ _ _ _ _ _ _ () rfl hw (bI_f (by first | assumption | omega | simp_all)).symm (Nat.le_of_ble_eq_true rfl) (Nat.le_of_ble_eq_true rfl) dJ3_isEmpty_13
  · skip
    refine lv_iconst (v := (nI 1)) hx hb dJ3_isEmpty_8 zk_1 ?_
    refine lv_goto (tgt := 13) hx hb dJ3_isEmpty_9 (by decide) ?_
    exact hend _ _ _ _ _ _ _ () rfl hw (bI_t (by first | assumption | omega | simp_all)).symm (Nat.le_of_ble_eq_true rfl) (Nat.le_of_ble_eq_true rfl) dJ3_isEmpty_13
set_option maxHeartbeats 4000000 in
theorem m_J8_checkIndex_q (G : zE) (l : Launch) (i : Nat) (n : Nat) (us : Nat) (hi : i < n) (hn : n < 2147483648) (rest : va_W) : zMi G l yJ8_checkIndex cJ8_checkIndex 3 (some .int) 0 0 0 [.int (nI i), .int (nI n), .ref us] (rest) (fun (r : Int32) (_ : Unit) => r = nI i) (fun (_ : Unit) => rest) := by
  refine z_begI (by decide) (Nat.le_of_ble_eq_true rfl) (fun p e s m args below meth c ls Q hC hl hw hend => ?_)
  have hx := hC.hx
  have hb := hC.hb
  have hl : lv_has ls 3 [(0, .int (nI i)), (1, .int (nI n)), (2, .ref us)] := hl
  refine lv_iload_n hx hb dJ8_checkIndex_0 rfl (lv_at hl 0 rfl) ?_
  refine zj_lt (tgt := 9) hx hb (by omega) dJ8_checkIndex_1 (by decide) ?_
  refine lv_iload_n hx hb dJ8_checkIndex_4 rfl (lv_at hl 0 rfl) ?_
  refine lv_iload_n hx hb dJ8_checkIndex_5 rfl (lv_at hl 1 rfl) ?_
  refine zi_lt (tgt := 16) hx hb (by omega) (by omega) dJ8_checkIndex_6 (by decide) (fun _ => ?_) (fun h => absurd h (by omega))
  refine lv_iload_n hx hb dJ8_checkIndex_16 rfl (lv_at hl 0 rfl) ?_
  exact hend _ _ _ _ _ _ _ () hw (by first | rfl | simp_all) (Nat.le_of_ble_eq_true rfl) (Nat.le_of_ble_eq_true rfl) dJ8_checkIndex_17
theorem zs_J3_1059 : zSs RJ3 1059 yJ8_checkIndex cJ8_checkIndex 3 (some .int) 3 := ⟨lw_S q409 q410 q62 q411, ⟨by decide +kernel, by decide +kernel⟩, by decide +kernel⟩
set_option maxHeartbeats 4000000 in
theorem m_J3_checkIndex (G : zE) (l : Launch) (kA : Nat → Nat) (hG : zG G kA) (hS : zS9 G kA) (i : Nat) (n : Nat) (hi : i < n) (hn : n ≤ 1000) (rest : va_W) : zMv G l yJ3_checkIndex cJ3_checkIndex 2 1 0 0 [.int (nI i), .int (nI n)] (rest) (fun (_ : Unit) => True) (fun (_ : Unit) => rest) := by
  refine z_begV (by decide) (Nat.le_of_ble_eq_true rfl) (fun p e s m args below meth c ls Q hC hnm hl hw hend => ?_)
  have hx := hC.hx
  have hb := hC.hb
  have hl : lv_has ls 2 [(0, .int (nI i)), (1, .int (nI n))] := hl
  have hz := hG s hC.hZ.1
  have hzs := hS s hC.hZ.1
  refine lv_iload_n hx hb dJ3_checkIndex_0 rfl (lv_at hl 0 rfl) ?_
  refine lv_iload_n hx hb dJ3_checkIndex_1 rfl (lv_at hl 1 rfl) ?_
  rcases hzs.2.2.2.2.2.1 with hus | ⟨us, hus⟩
  · skip
    have hl : lv_has ls 2 [(0, .int (nI i)), (1, .int (nI n))] := hl
    refine z_gets (v := .null) hC hus hw q386 dJ3_checkIndex_2 ?_
    refine z_ci (z_runS (As := [.int (nI i), .int (nI n), .null]) (rest := []) hC zs_J3_1059 (m_J8_checkIndex G l i n (by omega) (by omega) _) hw rfl rfl (Nat.le_of_ble_eq_true rfl) hl.1 ⟨Nat.le_of_ble_eq_true rfl, Nat.le_of_ble_eq_true rfl⟩ ⟨(Nat.le_of_ble_eq_true rfl), (Nat.le_of_ble_eq_true rfl)⟩ dJ3_checkIndex_5) hw (fun _ => List.Perm.refl _) (fun r u H locs hp hw => ?_)
    obtain rfl : r = nI i := hp
    refine lv_pop hx hb dJ3_checkIndex_8 rfl ?_
    exact hend _ _ _ _ _ _ () hw trivial (Nat.le_of_ble_eq_true rfl) (Nat.le_of_ble_eq_true rfl) dJ3_checkIndex_9
  · skip
    have hl : lv_has ls 2 [(0, .int (nI i)), (1, .int (nI n))] := hl
    refine z_gets (v := .ref us) hC hus hw q386 dJ3_checkIndex_2 ?_
    refine z_ci (z_runS (As := [.int (nI i), .int (nI n), .ref us]) (rest := []) hC zs_J3_1059 (m_J8_checkIndex_q G l i n us (by omega) (by omega) _) hw rfl rfl (Nat.le_of_ble_eq_true rfl) hl.1 ⟨Nat.le_of_ble_eq_true rfl, Nat.le_of_ble_eq_true rfl⟩ ⟨(Nat.le_of_ble_eq_true rfl), (Nat.le_of_ble_eq_true rfl)⟩ dJ3_checkIndex_5) hw (fun _ => List.Perm.refl _) (fun r u H locs hp hw => ?_)
    obtain rfl : r = nI i := hp
    refine lv_pop hx hb dJ3_checkIndex_8 rfl ?_
    exact hend _ _ _ _ _ _ () hw trivial (Nat.le_of_ble_eq_true rfl) (Nat.le_of_ble_eq_true rfl) dJ3_checkIndex_9
theorem zs_J7_9 : zSs RJ7 9 yJ3_checkIndex cJ3_checkIndex 2 none 2 := ⟨lw_S q700 q407 q57 q408, ⟨by decide +kernel, by decide +kernel⟩, by decide +kernel⟩
set_option maxHeartbeats 4000000 in
theorem m_J7_charAt (G : zE) (l : Launch) (kA : Nat → Nat) (hG : zG G kA) (hS : zS9 G kA) (sv : Nat) (n : Nat) (i : Nat) (c9 : Nat) (g : Nat → Int32) (hi : i < n) (hn : n ≤ 1000) (hc9 : c9 < 256) (hgi : g i = btL c9) (rest : va_W) : zMi G l yJ7_charAt cJ7_charAt 2 (some .char) 2 0 0 [.ref sv, .int (nI i)] ((sv, zc G 1 (zI n g)) :: rest) (fun (r : Int32) (_ : Unit) => r = nI c9) (fun (_ : Unit) => (sv, zc G 1 (zI n g)) :: rest) := by
  refine z_begZ (by decide) (Nat.le_of_ble_eq_true rfl) (fun p e s m args below meth c ls Q hC hl hw hend => ?_)
  have hx := hC.hx
  have hb := hC.hb
  have hl : lv_has ls 2 [(0, .ref sv), (1, .int (nI i))] := hl
  have hw : zS G ((sv, zc G 1 (zI n g)) :: rest) s s.heap [] := hw
  have hz := hG s hC.hZ.1
  have hzs := hS s hC.hZ.1
  refine lv_iload_n hx hb dJ7_charAt_0 rfl (lv_at hl 1 rfl) ?_
  refine lv_aload_n hx hb dJ7_charAt_1 rfl (lv_at hl 0 rfl) ?_
  refine z_alen (t := 1) hC hw 0 rfl (fun _ => rfl) dJ7_charAt_2 ?_
  show W p l e (zR 2 0 0) s m args below meth c s.heap [] 0 0 Q (F0 m 3 ls [.int (nI n), .int (nI i)])
  refine z_cv (z_runS (As := [.int (nI i), .int (nI n)]) (rest := []) hC zs_J7_9 (m_J3_checkIndex G l kA (by first | assumption | (omega)) (by first | assumption | (omega)) i n (by omega) (by omega) _) hw rfl rfl (Nat.le_of_ble_eq_true rfl) hl.1 ⟨Nat.le_of_ble_eq_true rfl, Nat.le_of_ble_eq_true rfl⟩ ⟨(Nat.le_of_ble_eq_true rfl), (Nat.le_of_ble_eq_true rfl)⟩ dJ7_charAt_3) hw (fun _ => List.Perm.refl _) (fun u H locs hp hw => ?_)
  refine lv_aload_n hx hb dJ7_charAt_6 rfl (lv_at hl 0 rfl) ?_
  refine lv_iload_n hx hb dJ7_charAt_7 rfl (lv_at hl 1 rfl) ?_
  refine z_bald (x := (btL c9)) hC hw 0 rfl (by omega) (by omega) hgi dJ7_charAt_8 ?_
  refine lv_sipush (v := (nI 255)) hx hb dJ7_charAt_9 zs_255 ?_
  refine zv_iand (v := (nI c9)) hx hb (btL_and hc9) dJ7_charAt_12 ?_
  refine lv_i2c (v := (nI c9)) hx hb dJ7_charAt_13 (zi2c (by omega)) ?_
  exact hend _ _ _ _ _ _ _ () (nar_char (by omega)) hw rfl (Nat.le_of_ble_eq_true rfl) (Nat.le_of_ble_eq_true rfl) dJ7_charAt_14
theorem zv_J3_492 : zVs RJ3 492 yJ3_isLatin1 cJ3_isLatin1 1 (some .boolean) 0 := ⟨lw_V q693 q694 q695 q57 q696, ⟨by decide +kernel, by decide +kernel⟩, by decide +kernel⟩
theorem zs_J3_495 : zSs RJ3 495 yJ7_charAt cJ7_charAt 2 (some .char) 2 := ⟨lw_S q697 q698 q61 q699, ⟨by decide +kernel, by decide +kernel⟩, by decide +kernel⟩
set_option maxHeartbeats 4000000 in
theorem m_J3_charAt (G : zE) (l : Launch) (kA : Nat → Nat) (hG : zG G kA) (hS : zS9 G kA) (sr : Nat) (sv : Nat) (n : Nat) (g : Nat → Int32) (i : Nat) (c9 : Nat) (hi : i < n) (hn : n ≤ 1000) (hc9 : c9 < 256) (hgi : g i = btL c9) (rest : va_W) : zMi G l yJ3_charAt cJ3_charAt 2 (some .char) 3 0 0 [.ref sr, .int (nI i)] ((sr, zo 12 [.ref sv, .int (nI 0), .int 0, .int 0]) :: (sv, zc G 1 (zI n g)) :: rest) (fun (r : Int32) (_ : Unit) => r = nI c9) (fun (_ : Unit) => (sr, zo 12 [.ref sv, .int (nI 0), .int 0, .int 0]) :: (sv, zc G 1 (zI n g)) :: rest) := by
  refine z_begZ (by decide) (Nat.le_of_ble_eq_true rfl) (fun p e s m args below meth c ls Q hC hl hw hend => ?_)
  have hx := hC.hx
  have hb := hC.hb
  have hl : lv_has ls 2 [(0, .ref sr), (1, .int (nI i))] := hl
  have hw : zS G ((sr, zo 12 [.ref sv, .int (nI 0), .int 0, .int 0]) :: (sv, zc G 1 (zI n g)) :: rest) s s.heap [] := hw
  have hz := hG s hC.hZ.1
  have hzs := hS s hC.hZ.1
  refine lv_aload_n hx hb dJ3_charAt_0 rfl (lv_at hl 0 rfl) ?_
  refine z_ci (z_runV (As := []) (rest := []) hC zv_J3_492 (m_J3_isLatin1 G l kA (by first | assumption | (omega)) sr sv n g (zrem [0] _)) hw (hw.perm (z_cut (is := [0]) (cells := [(sr, zo 12 [.ref sv, .int (nI 0), .int 0, .int 0])]) rfl rfl)) 0 rfl rfl rfl rfl rfl (Nat.le_of_ble_eq_true rfl) hl.1 ⟨Nat.le_of_ble_eq_true rfl, Nat.le_of_ble_eq_true rfl⟩ ⟨(Nat.le_of_ble_eq_true rfl), (Nat.le_of_ble_eq_true rfl)⟩ dJ3_charAt_1) hw (fun _ => z_keep (is := [0]) (cs := [(sr, zo 12 [.ref sv, .int (nI 0), .int 0, .int 0])]) rfl rfl) (fun r u H locs hp hw => ?_)
  obtain rfl : r = nI 1 := hp
  refine zj_eq (tgt := 16) hx hb (by decide) dJ3_charAt_4 (by decide) (fun h => absurd h (by decide)) (fun _ => ?_)
  refine lv_aload_n hx hb dJ3_charAt_7 rfl (lv_at hl 0 rfl) ?_
  refine z_get (v := .ref sv) hC zf_J3_9_12 hw 0 rfl rfl dJ3_charAt_8 ?_
  refine lv_iload_n hx hb dJ3_charAt_11 rfl (lv_at hl 1 rfl) ?_
  refine z_ci (z_runS (As := [.ref sv, .int (nI i)]) (rest := []) hC zs_J3_495 (m_J7_charAt G l kA (by first | assumption | (omega)) (by first | assumption | (omega)) sv n i c9 g (by omega) (by omega) (by omega) (by omega) (zrem [1] _)) (hw.perm (z_cut (is := [1]) (cells := [(sv, zc G 1 (zI n g))]) rfl rfl)) rfl rfl (Nat.le_of_ble_eq_true rfl) hl.1 ⟨Nat.le_of_ble_eq_true rfl, Nat.le_of_ble_eq_true rfl⟩ ⟨(Nat.le_of_ble_eq_true rfl), (Nat.le_of_ble_eq_true rfl)⟩ dJ3_charAt_12) hw (fun _ => z_keep (is := [1]) (cs := [(sv, zc G 1 (zI n g))]) rfl rfl) (fun r u H locs hp hw => ?_)
  obtain rfl : r = nI c9 := hp
  exact hend _ _ _ _ _ _ _ () (nar_char (by omega)) hw rfl (Nat.le_of_ble_eq_true rfl) (Nat.le_of_ble_eq_true rfl) dJ3_charAt_15
theorem hdB_len : ∀ j, j < 10 → (hdB.getD j []).length ≤ 10 := by decide
set_option maxHeartbeats 4000000 in
theorem m_J7_equals (G : zE) (l : Launch) (kA : Nat → Nat) (hG : zG G kA) (hS : zS9 G kA) (sv : Nat) (n : Nat) (j : Nat) (g : Nat → Int32) (hj : j < 10) (hn : n ≤ 1000) (rest : va_W) : zMi G l yJ7_equals cJ7_equals 3 (some .boolean) 0 0 0 [.ref sv, .ref (kA (30 + j))] ((sv, zc G 1 (zI n g)) :: rest) (fun (r : Int32) (_ : Unit) => r = bI (n = (hdB.getD j []).length ∧ ∀ i, i < n → g i = nI ((hdB.getD j []).getD i 0))) (fun (_ : Unit) => (sv, zc G 1 (zI n g)) :: rest) := by
  refine z_begZ (by decide) (Nat.le_of_ble_eq_true rfl) (fun p e s m args below meth c ls Q hC hl hw hend => ?_)
  have hx := hC.hx
  have hb := hC.hb
  have hl : lv_has ls 3 [(0, .ref sv), (1, .ref (kA (30 + j)))] := hl
  have hw : zS G ((sv, zc G 1 (zI n g)) :: rest) s s.heap [] := hw
  have hz := hG s hC.hZ.1
  have hzs := hS s hC.hZ.1
  have hln := hdB_len j hj
  refine lv_aload_n hx hb dJ7_equals_0 rfl (lv_at hl 0 rfl) ?_
  refine z_alen (t := 1) hC hw 0 rfl (fun _ => rfl) dJ7_equals_1 ?_
  show W p l e (zR 0 0 0) s m args below meth c s.heap [] 0 0 Q (F0 m 2 ls [.int (nI n)])
  refine lv_aload_n hx hb dJ7_equals_2 rfl (lv_at hl 1 rfl) ?_
  refine z_alenK hC (hzs.2.1 j hj).2.2.2 hw dJ7_equals_3 ?_
  refine zi_ne (tgt := 34) hx hb (by omega) (by omega) dJ7_equals_4 (by decide) (fun c_4 => ?_) (fun c_4 => ?_)
  · skip
    refine lv_iconst (v := (nI 0)) hx hb dJ7_equals_34 zk_0 ?_
    exact hend _ _ _ _ _ _ _ () rfl hw (by first | exact (bI_t ⟨hlen, fun i hi => hg9 i (by omega)⟩).symm | exact (bI_f (fun q => c_21 (q.2 k (by omega)))).symm | exact (bI_f (fun q => c_4 q.1)).symm) (Nat.le_of_ble_eq_true rfl) (Nat.le_of_ble_eq_true rfl) dJ7_equals_35
  · skip
    refine lv_iconst (v := (nI 0)) hx hb dJ7_equals_7 zk_0 ?_
    refine lv_istore_n (lv' := [(2, .int (nI 0)), (0, .ref sv), (1, .ref (kA (30 + j)))]) hx hb dJ7_equals_8 rfl hl (by decide) rfl (fun ls hl => ?_)
    have loop_9 : ∀ (fuel : Nat) (k : Nat), (k ≤ n) → (n = (hdB.getD j []).length) → (∀ i, i < k → g i = nI ((hdB.getD j []).getD i 0)) → (n - k) < fuel → ∀ (H : Heap) (locs : List Loc) (ls : Array Slot), zS G ((sv, zc G 1 (zI n g)) :: rest) s H locs → lv_has ls 3 [(0, .ref sv), (1, .ref (kA (30 + j))), (2, .int (nI k))] → W p l e (zR 0 0 0) s m args below meth c H locs 0 0 Q (F0 m 9 ls []) := by
      intro fuel
      induction fuel with
      | zero => intro k hk hlen hg9 hfuel; exact absurd hfuel (Nat.not_lt_zero _)
      | succ fuel_9 ih_9 =>
        intro k hk hlen hg9 hfuel_9 H locs ls hw hl
        refine lv_iload_n hx hb dJ7_equals_9 rfl (lv_at hl 2 rfl) ?_
        refine lv_aload_n hx hb dJ7_equals_10 rfl (lv_at hl 0 rfl) ?_
        refine z_alen (t := 1) hC hw 0 rfl (fun _ => rfl) dJ7_equals_11 ?_
        show W p l e (zR 0 0 0) s m args below meth c H locs 0 0 Q (F0 m 12 ls [.int (nI n), .int (nI k)])
        refine zi_ge (tgt := 32) hx hb (by omega) (by omega) dJ7_equals_12 (by decide) (fun c_12 => ?_) (fun c_12 => ?_)
        · skip
          refine lv_iconst (v := (nI 1)) hx hb dJ7_equals_32 zk_1 ?_
          exact hend _ _ _ _ _ _ _ () rfl hw (by first | exact (bI_t ⟨hlen, fun i hi => hg9 i (by omega)⟩).symm | exact (bI_f (fun q => c_21 (q.2 k (by omega)))).symm | exact (bI_f (fun q => c_4 q.1)).symm) (Nat.le_of_ble_eq_true rfl) (Nat.le_of_ble_eq_true rfl) dJ7_equals_33
        · skip
          refine lv_aload_n hx hb dJ7_equals_15 rfl (lv_at hl 0 rfl) ?_
          refine lv_iload_n hx hb dJ7_equals_16 rfl (lv_at hl 2 rfl) ?_
          refine z_bald (x := (g k)) hC hw 0 rfl (by omega) (by omega) rfl dJ7_equals_17 ?_
          refine lv_aload_n hx hb dJ7_equals_18 rfl (lv_at hl 1 rfl) ?_
          refine lv_iload_n hx hb dJ7_equals_19 rfl (lv_at hl 2 rfl) ?_
          refine z_baldK (x := .int (nI ((hdB.getD j []).getD k 0))) hC (hzs.2.1 j hj).2.2.2 hw (by omega) (by omega) rfl dJ7_equals_20 ?_
          refine lv_icmp_eq (tgt := 26) hx hb dJ7_equals_21 (by decide) (fun c_21 => ?_) (fun c_21 => ?_)
          · skip
            refine lv_iinc (v := (nI (k + 1))) (lv' := [(2, .int (nI (k + 1))), (0, .ref sv), (1, .ref (kA (30 + j)))]) hx hb dJ7_equals_26 hl (k := 2) rfl (zincn _ 1) (by decide) rfl (fun ls hl => ?_)
            refine lv_goto (tgt := 9) hx hb dJ7_equals_29 (by decide) ?_
            exact ih_9 (k + 1) (by omega) (by omega) (fun i hi => by rcases Nat.lt_or_eq_of_le (Nat.le_of_lt_succ hi) with h | rfl; exact hg9 i h; exact c_21) (by omega) H locs ls hw (lv_sub hl [1, 2, 0] rfl)
          · skip
            refine lv_iconst (v := (nI 0)) hx hb dJ7_equals_24 zk_0 ?_
            exact hend _ _ _ _ _ _ _ () rfl hw (by first | exact (bI_t ⟨hlen, fun i hi => hg9 i (by omega)⟩).symm | exact (bI_f (fun q => c_21 (q.2 k (by omega)))).symm | exact (bI_f (fun q => c_4 q.1)).symm) (Nat.le_of_ble_eq_true rfl) (Nat.le_of_ble_eq_true rfl) dJ7_equals_25
    exact loop_9 ((n - 0) + 1) 0 (by omega) (by omega) (fun i hi => absurd hi (Nat.not_lt_zero _)) (Nat.lt_succ_self _) s.heap [] ls hw (lv_sub hl [1, 2, 0] rfl)
theorem zs_J3_541 : zSs RJ3 541 yJ7_equals cJ7_equals 3 (some .boolean) 2 := ⟨lw_S q636 q637 q61 q638, ⟨by decide +kernel, by decide +kernel⟩, by decide +kernel⟩
set_option maxHeartbeats 4000000 in
theorem m_J3_equals (G : zE) (l : Launch) (kA : Nat → Nat) (hG : zG G kA) (hS : zS9 G kA) (sr : Nat) (sv : Nat) (n : Nat) (g : Nat → Int32) (j : Nat) (hj : j < 10) (hn : n ≤ 1000) (rest : va_W) : zMi G l yJ3_equals cJ3_equals 3 (some .boolean) 1 0 0 [.ref sr, .ref (kA (10 + j))] ((sr, zo 12 [.ref sv, .int (nI 0), .int 0, .int 0]) :: (sv, zc G 1 (zI n g)) :: rest) (fun (r : Int32) (_ : Unit) => r = bI (n = (hdB.getD j []).length ∧ ∀ i, i < n → g i = nI ((hdB.getD j []).getD i 0))) (fun (_ : Unit) => (sr, zo 12 [.ref sv, .int (nI 0), .int 0, .int 0]) :: (sv, zc G 1 (zI n g)) :: rest) := by
  refine z_begZ (by decide) (Nat.le_of_ble_eq_true rfl) (fun p e s m args below meth c ls Q hC hl hw hend => ?_)
  have hx := hC.hx
  have hb := hC.hb
  have hl : lv_has ls 3 [(0, .ref sr), (1, .ref (kA (10 + j)))] := hl
  have hw : zS G ((sr, zo 12 [.ref sv, .int (nI 0), .int 0, .int 0]) :: (sv, zc G 1 (zI n g)) :: rest) s s.heap [] := hw
  have hz := hG s hC.hZ.1
  have hzs := hS s hC.hZ.1
  refine lv_aload_n hx hb dJ3_equals_0 rfl (lv_at hl 0 rfl) ?_
  refine lv_aload_n hx hb dJ3_equals_1 rfl (lv_at hl 1 rfl) ?_
  refine lv_acmp_ne (rx := (some sr)) (ry := (some (kA (10 + j)))) (tgt := 7) hx hb dJ3_equals_2 (by decide) (fun _ => ?_) (fun h => absurd (Option.some.inj h) (z_neK (q0 := 0) hw rfl (hzs.2.1 j hj).1))
  refine lv_aload_n hx hb dJ3_equals_7 rfl (lv_at hl 1 rfl) ?_
  refine z_instE hC q635 (z_hrK (hzs.2.1 j hj).1 hw) dJ3_equals_8 ?_
  refine zj_eq (tgt := 54) hx hb (by decide) dJ3_equals_11 (by decide) (fun h => absurd h (by decide)) (fun _ => ?_)
  refine lv_aload_n hx hb dJ3_equals_14 rfl (lv_at hl 1 rfl) ?_
  refine z_castE hC q635 (z_hrK (hzs.2.1 j hj).1 hw) dJ3_equals_15 ?_
  refine lv_astore_n (lv' := [(2, .ref (kA (10 + j))), (0, .ref sr), (1, .ref (kA (10 + j)))]) hx hb dJ3_equals_18 rfl hl (by decide) rfl (fun ls hl => ?_)
  refine z_gets (v := .int (nI 1)) hC hz.2.2.2 hw q448 dJ3_equals_19 ?_
  refine zj_eq (tgt := 36) hx hb (by decide) dJ3_equals_22 (by decide) (fun h => absurd h (by decide)) (fun _ => ?_)
  refine lv_aload_n hx hb dJ3_equals_25 rfl (lv_at hl 1 rfl) ?_
  refine z_get (v := .int (nI 0)) hC zf_J3_15_12 hw 0 rfl rfl dJ3_equals_26 ?_
  refine lv_aload_n hx hb dJ3_equals_29 rfl (lv_at hl 0 rfl) ?_
  refine z_getfK (v := .int (nI 0)) hC (hzs.2.1 j hj).2.1 hw q463 dJ3_equals_30 ?_
  refine zi_ne (tgt := 54) hx hb (by decide) (by decide) dJ3_equals_33 (by decide) (fun h => absurd h (by decide)) (fun _ => ?_)
  refine lv_aload_n hx hb dJ3_equals_36 rfl (lv_at hl 1 rfl) ?_
  refine z_get (v := .ref sv) hC zf_J3_9_12 hw 0 rfl rfl dJ3_equals_37 ?_
  refine lv_aload_n hx hb dJ3_equals_40 rfl (lv_at hl 0 rfl) ?_
  refine z_getfK (v := .ref (kA (30 + j))) hC (hzs.2.1 j hj).2.2.1 hw q462 dJ3_equals_41 ?_
  refine z_ci (z_runS (As := [.ref sv, .ref (kA (30 + j))]) (rest := []) hC zs_J3_541 (m_J7_equals G l kA (by first | assumption | (omega)) (by first | assumption | (omega)) sv n j g (by omega) (by omega) (zrem [1] _)) (hw.perm (z_cut (is := [1]) (cells := [(sv, zc G 1 (zI n g))]) rfl rfl)) rfl rfl (Nat.le_of_ble_eq_true rfl) hl.1 ⟨Nat.le_of_ble_eq_true rfl, Nat.le_of_ble_eq_true rfl⟩ ⟨(Nat.le_of_ble_eq_true rfl), (Nat.le_of_ble_eq_true rfl)⟩ dJ3_equals_44) hw (fun _ => z_keep (is := [1]) (cs := [(sv, zc G 1 (zI n g))]) rfl rfl) (fun r u H locs hp hw => ?_)
  obtain rfl : r = bI (n = (hdB.getD j []).length ∧ ∀ i, i < n → g i = nI ((hdB.getD j []).getD i 0)) := hp
  refine zb_eq (tgt := 54) hx hb dJ3_equals_47 (by decide) (fun c_47 => ?_) (fun c_47 => ?_)
  · skip
    refine lv_iconst (v := (nI 0)) hx hb dJ3_equals_54 zk_0 ?_
    exact hend _ _ _ _ _ _ _ () rfl hw (bI_f (by first | assumption | omega | simp_all)).symm (Nat.le_of_ble_eq_true rfl) (Nat.le_of_ble_eq_true rfl) dJ3_equals_55
  · skip
    refine lv_iconst (v := (nI 1)) hx hb dJ3_equals_50 zk_1 ?_
    refine lv_goto (tgt := 55) hx hb dJ3_equals_51 (by decide) ?_
    exact hend _ _ _ _ _ _ _ () rfl hw (bI_t (by first | assumption | omega | simp_all)).symm (Nat.le_of_ble_eq_true rfl) (Nat.le_of_ble_eq_true rfl) dJ3_equals_55
