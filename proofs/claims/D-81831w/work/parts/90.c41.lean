/-! READER: the fault -/
set_option maxRecDepth 100000
theorem zf_J13_7_4 : zFl 4 0 RJ13 7 false (.object "java/lang/Throwable") := ⟨RX4, TX4, 7, tyX4, rfl, by decide, in_X4, q563, rfl, by decide +kernel, tyX4_ok, nmX4⟩
theorem zf_J13_17_4 : zFl 4 1 RJ13 17 false (.array (.object "java/lang/StackTraceElement")) := ⟨RX4, TX4, 7, tyX4, rfl, by decide, in_X4, q564, rfl, by decide +kernel, tyX4_ok, nmX4⟩
theorem zf_J13_24_4 : zFl 4 2 RJ13 24 false (.object "java/util/List") := ⟨RX4, TX4, 7, tyX4, rfl, by decide, in_X4, q565, rfl, by decide +kernel, tyX4_ok, nmX4⟩
theorem zf_J13_31_4 : zFl 4 3 RJ13 31 false (.object "java/lang/String") := ⟨RX4, TX4, 7, tyX4, rfl, by decide, in_X4, q562, rfl, by decide +kernel, tyX4_ok, nmX4⟩
set_option maxHeartbeats 4000000 in
theorem m_J13_init_2 (G : zE) (l : Launch) (kA : Nat → Nat) (hG : zG G kA) (hS : zS9 G kA) (hY : zY G) (q9 : Nat) (rest : va_W) : zMv G l yJ13_init_2 cJ13_init_2 5 1 0 0 [.ref q9, .null, .null, .int (nI 0), .int (nI 0)] ((q9, zo 4 [.null, .null, .null, .null, .null, .int 0, .int 0]) :: rest) (fun (_ : Unit) => True) (fun (_ : Unit) => (q9, zo 4 [.null, .null, .null, .null, .null, .int 0, .int 0]) :: rest) := by
  refine z_begV (by decide) (Nat.le_of_ble_eq_true rfl) (fun p e s m args below meth c ls Q hC hnm hl hw hend => ?_)
  have hx := hC.hx
  have hb := hC.hb
  have hl : lv_has ls 5 [(0, .ref q9), (1, .null), (2, .null), (3, .int (nI 0)), (4, .int (nI 0))] := hl
  have hw : zS G ((q9, zo 4 [.null, .null, .null, .null, .null, .int 0, .int 0]) :: rest) s s.heap [] := hw
  have hz := hG s hC.hZ.1
  have hzs := hS s hC.hZ.1
  have hzy := hY s hC.hZ.1
  refine lv_aload_n hx hb dJ13_init_2_0 rfl (lv_at hl 0 rfl) ?_
  refine W.objInit hx hb hC.hown (hC.hts _ q517) (hC.hts _ q102) (hC.hts _ q103) rfl (by rw [hC.hml]; exact hl.1) rfl dJ13_init_2_1 (Nat.le_of_ble_eq_true rfl) (Nat.le_of_ble_eq_true rfl) ?_
  refine W.eq (g2 := F0 m 4 ls []) rfl ?_
  refine lv_aload_n hx hb dJ13_init_2_4 rfl (lv_at hl 0 rfl) ?_
  refine lv_aload_n hx hb dJ13_init_2_5 rfl (lv_at hl 0 rfl) ?_
  refine z_put hC zf_J13_7_4 hw 0 rfl rfl rfl (Nat.le_of_ble_eq_true rfl) dJ13_init_2_6 (fun H locs hw => ?_)
  have hw : zS G ((q9, zo 4 [.ref q9, .null, .null, .null, .null, .int 0, .int 0]) :: rest) s H locs := hw
  refine lv_aload_n hx hb dJ13_init_2_9 rfl (lv_at hl 0 rfl) ?_
  rcases hzy.2.1.1 with hus | ⟨us, hus⟩
  · skip
    have hl : lv_has ls 5 [(0, .ref q9), (1, .null), (2, .null), (3, .int (nI 0)), (4, .int (nI 0))] := hl
    refine z_gets (v := .null) hC hus hw q518 dJ13_init_2_10 ?_
    refine z_put hC zf_J13_17_4 hw 0 rfl rfl rfl (Nat.le_of_ble_eq_true rfl) dJ13_init_2_13 (fun H locs hw => ?_)
    have hw : zS G ((q9, zo 4 [.ref q9, .null, .null, .null, .null, .int 0, .int 0]) :: rest) s H locs := hw
    refine lv_aload_n hx hb dJ13_init_2_16 rfl (lv_at hl 0 rfl) ?_
    rcases hzy.2.2.1.1 with hut | ⟨ut, hut⟩
    · skip
      have hl : lv_has ls 5 [(0, .ref q9), (1, .null), (2, .null), (3, .int (nI 0)), (4, .int (nI 0))] := hl
      refine z_gets (v := .null) hC hut hw q520 dJ13_init_2_17 ?_
      refine z_put hC zf_J13_24_4 hw 0 rfl rfl rfl (Nat.le_of_ble_eq_true rfl) dJ13_init_2_20 (fun H locs hw => ?_)
      have hw : zS G ((q9, zo 4 [.ref q9, .null, .null, .null, .null, .int 0, .int 0]) :: rest) s H locs := hw
      refine lv_iload hx hb dJ13_init_2_23 (lv_at hl 4 rfl) ?_
      refine zj_eq (tgt := 36) hx hb (by decide) dJ13_init_2_25 (by decide) (fun _ => ?_) (fun h => absurd h (by decide))
      refine lv_aload_n hx hb dJ13_init_2_36 rfl (lv_at hl 0 rfl) ?_
      refine lv_null hx hb dJ13_init_2_37 ?_
      refine z_put hC zf_J13_17_4 hw 0 rfl rfl rfl (Nat.le_of_ble_eq_true rfl) dJ13_init_2_38 (fun H locs hw => ?_)
      have hw : zS G ((q9, zo 4 [.ref q9, .null, .null, .null, .null, .int 0, .int 0]) :: rest) s H locs := hw
      refine lv_aload_n hx hb dJ13_init_2_41 rfl (lv_at hl 0 rfl) ?_
      refine lv_aload_nN hx hb dJ13_init_2_42 rfl (lv_at hl 1 rfl) ?_
      refine z_put hC zf_J13_31_4 hw 0 rfl rfl rfl (Nat.le_of_ble_eq_true rfl) dJ13_init_2_43 (fun H locs hw => ?_)
      have hw : zS G ((q9, zo 4 [.ref q9, .null, .null, .null, .null, .int 0, .int 0]) :: rest) s H locs := hw
      refine lv_aload_n hx hb dJ13_init_2_46 rfl (lv_at hl 0 rfl) ?_
      refine lv_aload_nN hx hb dJ13_init_2_47 rfl (lv_at hl 2 rfl) ?_
      refine z_put hC zf_J13_7_4 hw 0 rfl rfl rfl (Nat.le_of_ble_eq_true rfl) dJ13_init_2_48 (fun H locs hw => ?_)
      have hw : zS G ((q9, zo 4 [.null, .null, .null, .null, .null, .int 0, .int 0]) :: rest) s H locs := hw
      refine lv_iload_n hx hb dJ13_init_2_51 rfl (lv_at hl 3 rfl) ?_
      refine zj_ne (tgt := 60) hx hb (by decide) dJ13_init_2_52 (by decide) (fun h => absurd h (by decide)) (fun _ => ?_)
      refine lv_aload_n hx hb dJ13_init_2_55 rfl (lv_at hl 0 rfl) ?_
      refine lv_null hx hb dJ13_init_2_56 ?_
      refine z_put hC zf_J13_24_4 hw 0 rfl rfl rfl (Nat.le_of_ble_eq_true rfl) dJ13_init_2_57 (fun H locs hw => ?_)
      have hw : zS G ((q9, zo 4 [.null, .null, .null, .null, .null, .int 0, .int 0]) :: rest) s H locs := hw
      exact hend _ _ _ _ _ _ () hw trivial (Nat.le_of_ble_eq_true rfl) (Nat.le_of_ble_eq_true rfl) dJ13_init_2_60
    · skip
      have hl : lv_has ls 5 [(0, .ref q9), (1, .null), (2, .null), (3, .int (nI 0)), (4, .int (nI 0))] := hl
      refine z_gets (v := .ref ut) hC hut hw q520 dJ13_init_2_17 ?_
      refine z_put hC zf_J13_24_4 hw 0 rfl rfl rfl (Nat.le_of_ble_eq_true rfl) dJ13_init_2_20 (fun H locs hw => ?_)
      have hw : zS G ((q9, zo 4 [.ref q9, .null, .ref ut, .null, .null, .int 0, .int 0]) :: rest) s H locs := hw
      refine lv_iload hx hb dJ13_init_2_23 (lv_at hl 4 rfl) ?_
      refine zj_eq (tgt := 36) hx hb (by decide) dJ13_init_2_25 (by decide) (fun _ => ?_) (fun h => absurd h (by decide))
      refine lv_aload_n hx hb dJ13_init_2_36 rfl (lv_at hl 0 rfl) ?_
      refine lv_null hx hb dJ13_init_2_37 ?_
      refine z_put hC zf_J13_17_4 hw 0 rfl rfl rfl (Nat.le_of_ble_eq_true rfl) dJ13_init_2_38 (fun H locs hw => ?_)
      have hw : zS G ((q9, zo 4 [.ref q9, .null, .ref ut, .null, .null, .int 0, .int 0]) :: rest) s H locs := hw
      refine lv_aload_n hx hb dJ13_init_2_41 rfl (lv_at hl 0 rfl) ?_
      refine lv_aload_nN hx hb dJ13_init_2_42 rfl (lv_at hl 1 rfl) ?_
      refine z_put hC zf_J13_31_4 hw 0 rfl rfl rfl (Nat.le_of_ble_eq_true rfl) dJ13_init_2_43 (fun H locs hw => ?_)
      have hw : zS G ((q9, zo 4 [.ref q9, .null, .ref ut, .null, .null, .int 0, .int 0]) :: rest) s H locs := hw
      refine lv_aload_n hx hb dJ13_init_2_46 rfl (lv_at hl 0 rfl) ?_
      refine lv_aload_nN hx hb dJ13_init_2_47 rfl (lv_at hl 2 rfl) ?_
      refine z_put hC zf_J13_7_4 hw 0 rfl rfl rfl (Nat.le_of_ble_eq_true rfl) dJ13_init_2_48 (fun H locs hw => ?_)
      have hw : zS G ((q9, zo 4 [.null, .null, .ref ut, .null, .null, .int 0, .int 0]) :: rest) s H locs := hw
      refine lv_iload_n hx hb dJ13_init_2_51 rfl (lv_at hl 3 rfl) ?_
      refine zj_ne (tgt := 60) hx hb (by decide) dJ13_init_2_52 (by decide) (fun h => absurd h (by decide)) (fun _ => ?_)
      refine lv_aload_n hx hb dJ13_init_2_55 rfl (lv_at hl 0 rfl) ?_
      refine lv_null hx hb dJ13_init_2_56 ?_
      refine z_put hC zf_J13_24_4 hw 0 rfl rfl rfl (Nat.le_of_ble_eq_true rfl) dJ13_init_2_57 (fun H locs hw => ?_)
      have hw : zS G ((q9, zo 4 [.null, .null, .null, .null, .null, .int 0, .int 0]) :: rest) s H locs := hw
      exact hend _ _ _ _ _ _ () hw trivial (Nat.le_of_ble_eq_true rfl) (Nat.le_of_ble_eq_true rfl) dJ13_init_2_60
  · skip
    have hl : lv_has ls 5 [(0, .ref q9), (1, .null), (2, .null), (3, .int (nI 0)), (4, .int (nI 0))] := hl
    refine z_gets (v := .ref us) hC hus hw q518 dJ13_init_2_10 ?_
    refine z_put hC zf_J13_17_4 hw 0 rfl rfl rfl (Nat.le_of_ble_eq_true rfl) dJ13_init_2_13 (fun H locs hw => ?_)
    have hw : zS G ((q9, zo 4 [.ref q9, .ref us, .null, .null, .null, .int 0, .int 0]) :: rest) s H locs := hw
    refine lv_aload_n hx hb dJ13_init_2_16 rfl (lv_at hl 0 rfl) ?_
    rcases hzy.2.2.1.1 with hut | ⟨ut, hut⟩
    · skip
      have hl : lv_has ls 5 [(0, .ref q9), (1, .null), (2, .null), (3, .int (nI 0)), (4, .int (nI 0))] := hl
      refine z_gets (v := .null) hC hut hw q520 dJ13_init_2_17 ?_
      refine z_put hC zf_J13_24_4 hw 0 rfl rfl rfl (Nat.le_of_ble_eq_true rfl) dJ13_init_2_20 (fun H locs hw => ?_)
      have hw : zS G ((q9, zo 4 [.ref q9, .ref us, .null, .null, .null, .int 0, .int 0]) :: rest) s H locs := hw
      refine lv_iload hx hb dJ13_init_2_23 (lv_at hl 4 rfl) ?_
      refine zj_eq (tgt := 36) hx hb (by decide) dJ13_init_2_25 (by decide) (fun _ => ?_) (fun h => absurd h (by decide))
      refine lv_aload_n hx hb dJ13_init_2_36 rfl (lv_at hl 0 rfl) ?_
      refine lv_null hx hb dJ13_init_2_37 ?_
      refine z_put hC zf_J13_17_4 hw 0 rfl rfl rfl (Nat.le_of_ble_eq_true rfl) dJ13_init_2_38 (fun H locs hw => ?_)
      have hw : zS G ((q9, zo 4 [.ref q9, .null, .null, .null, .null, .int 0, .int 0]) :: rest) s H locs := hw
      refine lv_aload_n hx hb dJ13_init_2_41 rfl (lv_at hl 0 rfl) ?_
      refine lv_aload_nN hx hb dJ13_init_2_42 rfl (lv_at hl 1 rfl) ?_
      refine z_put hC zf_J13_31_4 hw 0 rfl rfl rfl (Nat.le_of_ble_eq_true rfl) dJ13_init_2_43 (fun H locs hw => ?_)
      have hw : zS G ((q9, zo 4 [.ref q9, .null, .null, .null, .null, .int 0, .int 0]) :: rest) s H locs := hw
      refine lv_aload_n hx hb dJ13_init_2_46 rfl (lv_at hl 0 rfl) ?_
      refine lv_aload_nN hx hb dJ13_init_2_47 rfl (lv_at hl 2 rfl) ?_
      refine z_put hC zf_J13_7_4 hw 0 rfl rfl rfl (Nat.le_of_ble_eq_true rfl) dJ13_init_2_48 (fun H locs hw => ?_)
      have hw : zS G ((q9, zo 4 [.null, .null, .null, .null, .null, .int 0, .int 0]) :: rest) s H locs := hw
      refine lv_iload_n hx hb dJ13_init_2_51 rfl (lv_at hl 3 rfl) ?_
      refine zj_ne (tgt := 60) hx hb (by decide) dJ13_init_2_52 (by decide) (fun h => absurd h (by decide)) (fun _ => ?_)
      refine lv_aload_n hx hb dJ13_init_2_55 rfl (lv_at hl 0 rfl) ?_
      refine lv_null hx hb dJ13_init_2_56 ?_
      refine z_put hC zf_J13_24_4 hw 0 rfl rfl rfl (Nat.le_of_ble_eq_true rfl) dJ13_init_2_57 (fun H locs hw => ?_)
      have hw : zS G ((q9, zo 4 [.null, .null, .null, .null, .null, .int 0, .int 0]) :: rest) s H locs := hw
      exact hend _ _ _ _ _ _ () hw trivial (Nat.le_of_ble_eq_true rfl) (Nat.le_of_ble_eq_true rfl) dJ13_init_2_60
    · skip
      have hl : lv_has ls 5 [(0, .ref q9), (1, .null), (2, .null), (3, .int (nI 0)), (4, .int (nI 0))] := hl
      refine z_gets (v := .ref ut) hC hut hw q520 dJ13_init_2_17 ?_
      refine z_put hC zf_J13_24_4 hw 0 rfl rfl rfl (Nat.le_of_ble_eq_true rfl) dJ13_init_2_20 (fun H locs hw => ?_)
      have hw : zS G ((q9, zo 4 [.ref q9, .ref us, .ref ut, .null, .null, .int 0, .int 0]) :: rest) s H locs := hw
      refine lv_iload hx hb dJ13_init_2_23 (lv_at hl 4 rfl) ?_
      refine zj_eq (tgt := 36) hx hb (by decide) dJ13_init_2_25 (by decide) (fun _ => ?_) (fun h => absurd h (by decide))
      refine lv_aload_n hx hb dJ13_init_2_36 rfl (lv_at hl 0 rfl) ?_
      refine lv_null hx hb dJ13_init_2_37 ?_
      refine z_put hC zf_J13_17_4 hw 0 rfl rfl rfl (Nat.le_of_ble_eq_true rfl) dJ13_init_2_38 (fun H locs hw => ?_)
      have hw : zS G ((q9, zo 4 [.ref q9, .null, .ref ut, .null, .null, .int 0, .int 0]) :: rest) s H locs := hw
      refine lv_aload_n hx hb dJ13_init_2_41 rfl (lv_at hl 0 rfl) ?_
      refine lv_aload_nN hx hb dJ13_init_2_42 rfl (lv_at hl 1 rfl) ?_
      refine z_put hC zf_J13_31_4 hw 0 rfl rfl rfl (Nat.le_of_ble_eq_true rfl) dJ13_init_2_43 (fun H locs hw => ?_)
      have hw : zS G ((q9, zo 4 [.ref q9, .null, .ref ut, .null, .null, .int 0, .int 0]) :: rest) s H locs := hw
      refine lv_aload_n hx hb dJ13_init_2_46 rfl (lv_at hl 0 rfl) ?_
      refine lv_aload_nN hx hb dJ13_init_2_47 rfl (lv_at hl 2 rfl) ?_
      refine z_put hC zf_J13_7_4 hw 0 rfl rfl rfl (Nat.le_of_ble_eq_true rfl) dJ13_init_2_48 (fun H locs hw => ?_)
      have hw : zS G ((q9, zo 4 [.null, .null, .ref ut, .null, .null, .int 0, .int 0]) :: rest) s H locs := hw
      refine lv_iload_n hx hb dJ13_init_2_51 rfl (lv_at hl 3 rfl) ?_
      refine zj_ne (tgt := 60) hx hb (by decide) dJ13_init_2_52 (by decide) (fun h => absurd h (by decide)) (fun _ => ?_)
      refine lv_aload_n hx hb dJ13_init_2_55 rfl (lv_at hl 0 rfl) ?_
      refine lv_null hx hb dJ13_init_2_56 ?_
      refine z_put hC zf_J13_24_4 hw 0 rfl rfl rfl (Nat.le_of_ble_eq_true rfl) dJ13_init_2_57 (fun H locs hw => ?_)
      have hw : zS G ((q9, zo 4 [.null, .null, .null, .null, .null, .int 0, .int 0]) :: rest) s H locs := hw
      exact hend _ _ _ _ _ _ () hw trivial (Nat.le_of_ble_eq_true rfl) (Nat.le_of_ble_eq_true rfl) dJ13_init_2_60
theorem zx_J14_16 : zIs RJ14 16 yJ13_init_2 cJ13_init_2 5 4 := ⟨⟨q669, q67, q667, q668, rfl⟩, ⟨by decide +kernel, by decide +kernel⟩, by decide +kernel⟩
set_option maxHeartbeats 4000000 in
theorem m_J14_init_2 (G : zE) (l : Launch) (kA : Nat → Nat) (hG : zG G kA) (hS : zS9 G kA) (hY : zY G) (q9 : Nat) (rest : va_W) : zMv G l yJ14_init_2 cJ14_init_2 5 2 0 0 [.ref q9, .null, .null, .int (nI 0), .int (nI 0)] ((q9, zo 4 [.null, .null, .null, .null, .null, .int 0, .int 0]) :: rest) (fun (_ : Unit) => True) (fun (_ : Unit) => (q9, zo 4 [.null, .null, .null, .null, .null, .int 0, .int 0]) :: rest) := by
  refine z_begV (by decide) (Nat.le_of_ble_eq_true rfl) (fun p e s m args below meth c ls Q hC hnm hl hw hend => ?_)
  have hx := hC.hx
  have hb := hC.hb
  have hl : lv_has ls 5 [(0, .ref q9), (1, .null), (2, .null), (3, .int (nI 0)), (4, .int (nI 0))] := hl
  have hw : zS G ((q9, zo 4 [.null, .null, .null, .null, .null, .int 0, .int 0]) :: rest) s s.heap [] := hw
  have hz := hG s hC.hZ.1
  have hzs := hS s hC.hZ.1
  have hzy := hY s hC.hZ.1
  refine lv_aload_n hx hb dJ14_init_2_0 rfl (lv_at hl 0 rfl) ?_
  refine lv_aload_nN hx hb dJ14_init_2_1 rfl (lv_at hl 1 rfl) ?_
  refine lv_aload_nN hx hb dJ14_init_2_2 rfl (lv_at hl 2 rfl) ?_
  refine lv_iload_n hx hb dJ14_init_2_3 rfl (lv_at hl 3 rfl) ?_
  refine lv_iload hx hb dJ14_init_2_4 (lv_at hl 4 rfl) ?_
  refine z_cv (z_runI (As := [.null, .null, .int (nI 0), .int (nI 0)]) (rest := []) hC zx_J14_16 (m_J13_init_2 G l kA (by first | assumption | (omega)) (by first | assumption | (omega)) (by first | assumption | (omega)) q9 (zrem [0] _)) (hw.perm (z_cut (is := [0]) (cells := [(q9, zo 4 [.null, .null, .null, .null, .null, .int 0, .int 0])]) rfl rfl)) rfl rfl (Nat.le_of_ble_eq_true rfl) hl.1 ⟨Nat.le_of_ble_eq_true rfl, Nat.le_of_ble_eq_true rfl⟩ ⟨(Nat.le_of_ble_eq_true rfl), (Nat.le_of_ble_eq_true rfl)⟩ dJ14_init_2_6) hw (fun _ => z_keep (is := [0]) (cs := [(q9, zo 4 [.null, .null, .null, .null, .null, .int 0, .int 0])]) rfl rfl) (fun u H locs hp hw => ?_)
  exact hend _ _ _ _ _ _ () hw trivial (Nat.le_of_ble_eq_true rfl) (Nat.le_of_ble_eq_true rfl) dJ14_init_2_9
theorem zx_X4_1 : zIs RX4 1 yJ14_init_2 cJ14_init_2 5 4 := ⟨⟨q666, q68, q664, q665, rfl⟩, ⟨by decide +kernel, by decide +kernel⟩, by decide +kernel⟩
theorem zf_X4_7_4 : zFl 4 6 RX4 7 true .int := ⟨RX4, TX4, 7, tyX4, rfl, by decide, in_X4, q670, rfl, by decide +kernel, tyX4_ok, nmX4⟩
set_option maxHeartbeats 4000000 in
theorem m_X4_init (G : zE) (l : Launch) (kA : Nat → Nat) (hG : zG G kA) (hS : zS9 G kA) (hY : zY G) (q9 : Nat) (v : Int32) (rest : va_W) : zMv G l yX4_init cX4_init 2 3 0 0 [.ref q9, .int v] ((q9, zo 4 [.null, .null, .null, .null, .null, .int 0, .int 0]) :: rest) (fun (_ : Unit) => True) (fun (_ : Unit) => (q9, zo 4 [.null, .null, .null, .null, .null, .int 0, .int v]) :: rest) := by
  refine z_begV (by decide) (Nat.le_of_ble_eq_true rfl) (fun p e s m args below meth c ls Q hC hnm hl hw hend => ?_)
  have hx := hC.hx
  have hb := hC.hb
  have hl : lv_has ls 2 [(0, .ref q9), (1, .int v)] := hl
  have hw : zS G ((q9, zo 4 [.null, .null, .null, .null, .null, .int 0, .int 0]) :: rest) s s.heap [] := hw
  have hz := hG s hC.hZ.1
  have hzs := hS s hC.hZ.1
  have hzy := hY s hC.hZ.1
  refine lv_aload_n hx hb dX4_init_0 rfl (lv_at hl 0 rfl) ?_
  refine lv_null hx hb dX4_init_1 ?_
  refine lv_null hx hb dX4_init_2 ?_
  refine lv_iconst (v := (nI 0)) hx hb dX4_init_3 zk_0 ?_
  refine lv_iconst (v := (nI 0)) hx hb dX4_init_4 zk_0 ?_
  refine z_cv (z_runI (As := [.null, .null, .int (nI 0), .int (nI 0)]) (rest := []) hC zx_X4_1 (m_J14_init_2 G l kA (by first | assumption | (omega)) (by first | assumption | (omega)) (by first | assumption | (omega)) q9 (zrem [0] _)) (hw.perm (z_cut (is := [0]) (cells := [(q9, zo 4 [.null, .null, .null, .null, .null, .int 0, .int 0])]) rfl rfl)) rfl rfl (Nat.le_of_ble_eq_true rfl) hl.1 ⟨Nat.le_of_ble_eq_true rfl, Nat.le_of_ble_eq_true rfl⟩ ⟨(Nat.le_of_ble_eq_true rfl), (Nat.le_of_ble_eq_true rfl)⟩ dX4_init_5) hw (fun _ => z_keep (is := [0]) (cs := [(q9, zo 4 [.null, .null, .null, .null, .null, .int 0, .int 0])]) rfl rfl) (fun u H locs hp hw => ?_)
  refine lv_aload_n hx hb dX4_init_8 rfl (lv_at hl 0 rfl) ?_
  refine lv_iload_n hx hb dX4_init_9 rfl (lv_at hl 1 rfl) ?_
  refine z_putF hC zf_X4_7_4 ⟨_, rfl, rfl⟩ hnm hw 0 rfl rfl rfl (Nat.le_of_ble_eq_true rfl) dX4_init_10 (fun H locs hw => ?_)
  have hw : zS G ((q9, zo 4 [.null, .null, .null, .null, .null, .int 0, .int v]) :: rest) s H locs := hw
  exact hend _ _ _ _ _ _ () hw trivial (Nat.le_of_ble_eq_true rfl) (Nat.le_of_ble_eq_true rfl) dX4_init_13
set_option maxHeartbeats 4000000 in
theorem m_X3_want_t (G : zE) (l : Launch) (rd : Nat) (rest : va_W) : zMv G l yX3_want cX3_want 2 4 0 0 [.ref rd, .int (nI 1)] (rest) (fun (_ : Unit) => True) (fun (_ : Unit) => rest) := by
  refine z_begV (by decide) (Nat.le_of_ble_eq_true rfl) (fun p e s m args below meth c ls Q hC hnm hl hw hend => ?_)
  have hx := hC.hx
  have hb := hC.hb
  have hl : lv_has ls 2 [(0, .ref rd), (1, .int (nI 1))] := hl
  refine lv_iload_n hx hb dX3_want_0 rfl (lv_at hl 1 rfl) ?_
  refine zj_ne (tgt := 16) hx hb (by decide) dX3_want_1 (by decide) (fun _ => ?_) (fun h => absurd h (by decide))
  exact hend _ _ _ _ _ _ () hw trivial (Nat.le_of_ble_eq_true rfl) (Nat.le_of_ble_eq_true rfl) dX3_want_16
theorem zx_X3_88 : zIs RX3 88 yX4_init cX4_init 2 1 := ⟨⟨q663, q71, q661, q662, rfl⟩, ⟨by decide +kernel, by decide +kernel⟩, by decide +kernel⟩
set_option maxHeartbeats 4000000 in
theorem m_X3_want_f (G : zE) (l : Launch) (kA : Nat → Nat) (hG : zG G kA) (hS : zS9 G kA) (hY : zY G) (rd : Nat) (co : Nat) (wd : Nat) (cl : Nat) (p0 : Nat) (n : Nat) (th : Nat) (dg : Nat) (re : Nat) (fs : Int32) (rest : va_W) : zTh G l yX3_want cX3_want 2 none 4 1 7 [.ref rd, .int (nI 0)] ((rd, zo 3 [.int (nI p0), .int fs, .ref wd, .int (nI th), .int (nI dg), .ref cl, .int (nI re), .ref co]) :: rest) "NutCaches$Fault" (fun q => (q, zo 4 [.null, .null, .null, .null, .null, .int 0, .int fs]) :: (rd, zo 3 [.int (nI p0), .int fs, .ref wd, .int (nI th), .int (nI dg), .ref cl, .int (nI re), .ref co]) :: rest) := by
  refine z_begX (by decide) (Nat.le_of_ble_eq_true rfl) (fun p e s m args below meth c ls Q hQ hC htb hl hw hend => ?_)
  have hx := hC.hx
  have hb := hC.hb
  have hl : lv_has ls 2 [(0, .ref rd), (1, .int (nI 0))] := hl
  have hw : zS G ((rd, zo 3 [.int (nI p0), .int fs, .ref wd, .int (nI th), .int (nI dg), .ref cl, .int (nI re), .ref co]) :: rest) s s.heap [] := hw
  have hz := hG s hC.hZ.1
  have hzs := hS s hC.hZ.1
  have hzy := hY s hC.hZ.1
  refine lv_iload_n hx hb dX3_want_0 rfl (lv_at hl 1 rfl) ?_
  refine zj_ne (tgt := 16) hx hb (by decide) dX3_want_1 (by decide) (fun h => absurd h (by decide)) (fun _ => ?_)
  refine z_new (ci := 4) (fs := [.null, .null, .null, .null, .null, .int 0, .int 0]) hC rfl in_X4 tyX4_ok q652 q653 q71 hw (fun j hj => by revert hj; revert j; decide) (Nat.le_of_ble_eq_true rfl) (Nat.le_of_ble_eq_true rfl) dX3_want_4 (fun q_4 H hw => ?_)
  have hw : zS G ((q_4, zo 4 [.null, .null, .null, .null, .null, .int 0, .int 0]) :: (rd, zo 3 [.int (nI p0), .int fs, .ref wd, .int (nI th), .int (nI dg), .ref cl, .int (nI re), .ref co]) :: rest) s H [] := hw
  refine lv_dup hx hb dX3_want_7 rfl ?_
  refine lv_aload_n hx hb dX3_want_8 rfl (lv_at hl 0 rfl) ?_
  refine z_get (v := .int fs) hC zf_X3_68_3 hw 1 rfl rfl dX3_want_9 ?_
  refine z_cv (z_runI (As := [.int fs]) (rest := [.ref q_4]) hC zx_X3_88 (m_X4_init G l kA (by first | assumption | (omega)) (by first | assumption | (omega)) (by first | assumption | (omega)) q_4 fs (zrem [0] _)) (hw.perm (z_cut (is := [0]) (cells := [(q_4, zo 4 [.null, .null, .null, .null, .null, .int 0, .int 0])]) rfl rfl)) rfl rfl (Nat.le_of_ble_eq_true rfl) hl.1 ⟨Nat.le_of_ble_eq_true rfl, Nat.le_of_ble_eq_true rfl⟩ ⟨(Nat.le_of_ble_eq_true rfl), (Nat.le_of_ble_eq_true rfl)⟩ dX3_want_12) hw (fun _ => z_pput (is := [0]) (cells := [(q_4, zo 4 [.null, .null, .null, .null, .null, .int 0, .int 0])]) (cells' := [(q_4, zo 4 [.null, .null, .null, .null, .null, .int 0, .int fs])]) rfl rfl rfl) (fun u H locs hp hw => ?_)
  have hw : zS G ((q_4, zo 4 [.null, .null, .null, .null, .null, .int 0, .int fs]) :: (rd, zo 3 [.int (nI p0), .int fs, .ref wd, .int (nI th), .int (nI dg), .ref cl, .int (nI re), .ref co]) :: rest) s H locs := hw
  refine z_athrow hC hw 0 rfl rfl dX3_want_15 (fun ce9 hex => ?_)
  obtain ⟨hw, hx9⟩ := hex
  exact hend _ _ _ _ _ _ _ _ _ ⟨hw, hx9⟩ (by decide) (Nat.le_of_ble_eq_true rfl) (Nat.le_of_ble_eq_true rfl)
