/-! TRAILS: made, taken -/
set_option maxRecDepth 100000
theorem zv_X0_279 : zVs RX0 279 yJ18_intValue cJ18_intValue 1 (some .int) 0 := ⟨lw_V q1365 q628 q629 q73 q630, ⟨by decide +kernel, by decide +kernel⟩, by decide +kernel⟩
set_option maxHeartbeats 4000000 in
theorem m_X0_taken_0k (G : zE) (l : Launch) (kA : Nat → Nat) (hG : zG G kA) (hV : zV G kA) (j : Nat) (hj : j < 256) (rest : va_W) : zMi G l yX0_taken cX0_taken 2 (some .int) 1 0 0 [.ref (kA (100 + j)), .int (nI 0)] (rest) (fun (r : Int32) (_ : Unit) => r = nI j - nI 128 + nI 50000) (fun (_ : Unit) => rest) := by
  refine z_begI (by decide) (Nat.le_of_ble_eq_true rfl) (fun p e s m args below meth c ls Q hC hl hw hend => ?_)
  have hx := hC.hx
  have hb := hC.hb
  have hl : lv_has ls 2 [(0, .ref (kA (100 + j))), (1, .int (nI 0))] := hl
  have hz := hG s hC.hZ.1
  have hzv := hV s hC.hZ.1
  refine lv_iload_n hx hb dX0_taken_0 rfl (lv_at hl 1 rfl) ?_
  refine lv_lookup (off := 27) (tgt := 28) hx hb dX0_taken_1 (by decide) (by decide) (by decide) ?_
  refine lv_aload_n hx hb dX0_taken_28 rfl (lv_at hl 0 rfl) ?_
  refine z_castE hC q1364 (z_hrK (hzv.2.1.2.2.2 j hj).1 hw) dX0_taken_29 ?_
  refine z_ci (z_runVK (C := "java/lang/Integer") (As := []) (rest := []) hC zv_X0_279 (m_J18_intValue_k G l kA (by first | assumption | (omega)) (by first | assumption | (omega)) j (by omega) _) hw (z_hrK (hzv.2.1.2.2.2 j hj).1 hw) rfl rfl rfl (Nat.le_of_ble_eq_true rfl) hl.1 ⟨Nat.le_of_ble_eq_true rfl, Nat.le_of_ble_eq_true rfl⟩ ⟨(Nat.le_of_ble_eq_true rfl), (Nat.le_of_ble_eq_true rfl)⟩ dX0_taken_32) hw (fun _ => List.Perm.refl _) (fun r u H locs hp hw => ?_)
  obtain rfl : r = nI j - nI 128 := hp
  refine lv_ldcw (v := (nI 50000)) hx hb hC.hown (hC.hts _ q1366) dX0_taken_35 ?_
  refine lv_iadd hx hb dX0_taken_38 ?_
  exact hend _ _ _ _ _ _ _ () hw (by first | rfl | simp_all) (Nat.le_of_ble_eq_true rfl) (Nat.le_of_ble_eq_true rfl) dX0_taken_39
set_option maxHeartbeats 4000000 in
theorem m_X0_taken_0o (G : zE) (l : Launch) (kA : Nat → Nat) (hG : zG G kA) (hV : zV G kA) (q9 : Nat) (v : Int32) (rest : va_W) : zMi G l yX0_taken cX0_taken 2 (some .int) 1 0 0 [.ref q9, .int (nI 0)] ((q9, zo 13 [.int v]) :: rest) (fun (r : Int32) (_ : Unit) => r = v + nI 50000) (fun (_ : Unit) => (q9, zo 13 [.int v]) :: rest) := by
  refine z_begI (by decide) (Nat.le_of_ble_eq_true rfl) (fun p e s m args below meth c ls Q hC hl hw hend => ?_)
  have hx := hC.hx
  have hb := hC.hb
  have hl : lv_has ls 2 [(0, .ref q9), (1, .int (nI 0))] := hl
  have hw : zS G ((q9, zo 13 [.int v]) :: rest) s s.heap [] := hw
  have hz := hG s hC.hZ.1
  have hzv := hV s hC.hZ.1
  refine lv_iload_n hx hb dX0_taken_0 rfl (lv_at hl 1 rfl) ?_
  refine lv_lookup (off := 27) (tgt := 28) hx hb dX0_taken_1 (by decide) (by decide) (by decide) ?_
  refine lv_aload_n hx hb dX0_taken_28 rfl (lv_at hl 0 rfl) ?_
  refine z_castE hC q1364 (z_recv hC hw 0 rfl rfl) dX0_taken_29 ?_
  refine z_ci (z_runV (As := []) (rest := []) hC zv_X0_279 (m_J18_intValue_o G l q9 v (zrem [0] _)) hw (hw.perm (z_cut (is := [0]) (cells := [(q9, zo 13 [.int v])]) rfl rfl)) 0 rfl rfl rfl rfl rfl (Nat.le_of_ble_eq_true rfl) hl.1 ⟨Nat.le_of_ble_eq_true rfl, Nat.le_of_ble_eq_true rfl⟩ ⟨(Nat.le_of_ble_eq_true rfl), (Nat.le_of_ble_eq_true rfl)⟩ dX0_taken_32) hw (fun _ => z_keep (is := [0]) (cs := [(q9, zo 13 [.int v])]) rfl rfl) (fun r u H locs hp hw => ?_)
  obtain rfl : r = v := hp
  refine lv_ldcw (v := (nI 50000)) hx hb hC.hown (hC.hts _ q1366) dX0_taken_35 ?_
  refine lv_iadd hx hb dX0_taken_38 ?_
  exact hend _ _ _ _ _ _ _ () hw (by first | rfl | simp_all) (Nat.le_of_ble_eq_true rfl) (Nat.le_of_ble_eq_true rfl) dX0_taken_39
theorem zfs_X0_283_0 : ∀ kd, kd < 5 → zFl (5 + kd) 0 RX0 283 true .int
  | 0, _ => ⟨RX6, TX6, 2, tyX6, rfl, by decide, in_X6, q764, rfl, by decide +kernel, tyX6_ok, nmX6⟩
  | 1, _ => ⟨RX7, TX7, 2, tyX7, rfl, by decide, in_X7, q764, rfl, by decide +kernel, tyX7_ok, nmX7⟩
  | 2, _ => ⟨RX8, TX8, 2, tyX8, rfl, by decide, in_X8, q764, rfl, by decide +kernel, tyX8_ok, nmX8⟩
  | 3, _ => ⟨RX9, TX9, 2, tyX9, rfl, by decide, in_X9, q764, rfl, by decide +kernel, tyX9_ok, nmX9⟩
  | 4, _ => ⟨RX10, TX10, 2, tyX10, rfl, by decide, in_X10, q764, rfl, by decide +kernel, tyX10_ok, nmX10⟩
set_option maxHeartbeats 4000000 in
theorem m_X0_taken_1 (G : zE) (l : Launch) (kA : Nat → Nat) (hG : zG G kA) (hV : zV G kA) (oq : Nat) (kd : Nat) (nm : Int32) (nd : Int32) (hkd : kd < 5) (rest : va_W) : zMi G l yX0_taken cX0_taken 2 (some .int) 1 0 0 [.ref oq, .int (nI 1)] ((oq, zo (5 + kd) (sqF nm nd)) :: rest) (fun (r : Int32) (_ : Unit) => r = nm) (fun (_ : Unit) => (oq, zo (5 + kd) (sqF nm nd)) :: rest) := by
  refine z_begI (by decide) (Nat.le_of_ble_eq_true rfl) (fun p e s m args below meth c ls Q hC hl hw hend => ?_)
  have hx := hC.hx
  have hb := hC.hb
  have hl : lv_has ls 2 [(0, .ref oq), (1, .int (nI 1))] := hl
  have hw : zS G ((oq, zo (5 + kd) (sqF nm nd)) :: rest) s s.heap [] := hw
  have hz := hG s hC.hZ.1
  have hzv := hV s hC.hZ.1
  refine lv_iload_n hx hb dX0_taken_0 rfl (lv_at hl 1 rfl) ?_
  refine lv_lookup (off := 39) (tgt := 40) hx hb dX0_taken_1 (by decide) (by decide) (by decide) ?_
  refine lv_aload_n hx hb dX0_taken_40 rfl (lv_at hl 0 rfl) ?_
  refine z_castS hC q836 hz hw 0 rfl (by omega) dX0_taken_41 ?_
  refine z_getS0 (v := .int nm) hC zfs_X0_283_0 hw 0 rfl rfl (by omega) dX0_taken_44 ?_
  exact hend _ _ _ _ _ _ _ () hw (by first | rfl | simp_all) (Nat.le_of_ble_eq_true rfl) (Nat.le_of_ble_eq_true rfl) dX0_taken_47
theorem zv_X0_288 : zVs RX0 288 yJ29_byteValue cJ29_byteValue 1 (some .byte) 0 := ⟨lw_V q1368 q1369 q1370 q92 q1371, ⟨by decide +kernel, by decide +kernel⟩, by decide +kernel⟩
set_option maxHeartbeats 4000000 in
theorem m_X0_taken_2 (G : zE) (l : Launch) (kA : Nat → Nat) (hG : zG G kA) (hV : zV G kA) (j : Nat) (hj : j < 10) (rest : va_W) : zMi G l yX0_taken cX0_taken 2 (some .int) 1 0 0 [.ref (kA (528 + j)), .int (nI 2)] (rest) (fun (r : Int32) (_ : Unit) => r = nI j) (fun (_ : Unit) => rest) := by
  refine z_begI (by decide) (Nat.le_of_ble_eq_true rfl) (fun p e s m args below meth c ls Q hC hl hw hend => ?_)
  have hx := hC.hx
  have hb := hC.hb
  have hl : lv_has ls 2 [(0, .ref (kA (528 + j))), (1, .int (nI 2))] := hl
  have hz := hG s hC.hZ.1
  have hzv := hV s hC.hZ.1
  refine lv_iload_n hx hb dX0_taken_0 rfl (lv_at hl 1 rfl) ?_
  refine lv_lookup (off := 47) (tgt := 48) hx hb dX0_taken_1 (by decide) (by decide) (by decide) ?_
  refine lv_aload_n hx hb dX0_taken_48 rfl (lv_at hl 0 rfl) ?_
  refine z_castE hC q1367 (z_hrK (z_byO (hzv.2.2.1.2.2 (128 + j) (by omega)).1) hw) dX0_taken_49 ?_
  refine z_ci (z_runVK (C := "java/lang/Byte") (As := []) (rest := []) hC zv_X0_288 (m_J29_byteValue G l kA (by first | assumption | (omega)) (by first | assumption | (omega)) j (by omega) _) hw (z_hrK (z_byO (hzv.2.2.1.2.2 (128 + j) (by omega)).1) hw) rfl rfl rfl (Nat.le_of_ble_eq_true rfl) hl.1 ⟨Nat.le_of_ble_eq_true rfl, Nat.le_of_ble_eq_true rfl⟩ ⟨(Nat.le_of_ble_eq_true rfl), (Nat.le_of_ble_eq_true rfl)⟩ dX0_taken_52) hw (fun _ => List.Perm.refl _) (fun r u H locs hp hw => ?_)
  obtain rfl : r = nI j := hp
  exact hend _ _ _ _ _ _ _ () hw (by first | rfl | simp_all) (Nat.le_of_ble_eq_true rfl) (Nat.le_of_ble_eq_true rfl) dX0_taken_55
set_option maxHeartbeats 4000000 in
theorem m_X0_taken_x0k1 (G : zE) (l : Launch) (kA : Nat → Nat) (hG : zG G kA) (hV : zV G kA) (hY : zY G) (hlt : l.stackTraces = false) (hN : zN9 G) (j : Nat) (hj : j < 256) (rest : va_W) : zTh G l yX0_taken cX0_taken 2 (some .int) 260 3 890 [.ref (kA (100 + j)), .int (nI 1)] (rest) "java/lang/ClassCastException" (fun _ => rest) := by
  refine z_begX (by decide) (Nat.le_of_ble_eq_true rfl) (fun p e s m args below meth c ls Q hQ hC htb hl hw hend => ?_)
  have hx := hC.hx
  have hb := hC.hb
  have hl : lv_has ls 2 [(0, .ref (kA (100 + j))), (1, .int (nI 1))] := hl
  have hz := hG s hC.hZ.1
  have hzv := hV s hC.hZ.1
  have hzy := hY s hC.hZ.1
  have hzc := hN s hC.hZ.1
  refine lv_iload_n hx hb dX0_taken_0 rfl (lv_at hl 1 rfl) ?_
  refine lv_lookup (off := 39) (tgt := 40) hx hb dX0_taken_1 (by decide) (by decide) (by decide) ?_
  refine lv_aload_n hx hb dX0_taken_40 rfl (lv_at hl 0 rfl) ?_
  refine z_castX hC hlt hzy q836 (hzc ("java/lang/Integer", "NutCaches$Squirrel") (by decide)) kNm_all.2.2.2.2.2.2.1 kNm_all.1 (z_hrK (hzv.2.1.2.2.2 j hj).1 hw) hw hl.1 (Nat.le_of_ble_eq_true rfl) ⟨Nat.le_of_ble_eq_true rfl, Nat.le_of_ble_eq_true rfl⟩ (Nat.le_of_ble_eq_true rfl) (Nat.le_of_ble_eq_true rfl) dX0_taken_41 (fun q9 H ce9 hex => ?_)
  obtain ⟨hw, hx9⟩ := hex
  exact hend _ _ _ _ _ _ _ _ _ ⟨hw, hx9⟩ (by decide) (Nat.le_of_ble_eq_true rfl) (Nat.le_of_ble_eq_true rfl)
set_option maxHeartbeats 4000000 in
theorem m_X0_taken_x0o1 (G : zE) (l : Launch) (kA : Nat → Nat) (hG : zG G kA) (hV : zV G kA) (hY : zY G) (hlt : l.stackTraces = false) (hN : zN9 G) (q9 : Nat) (v : Int32) (rest : va_W) : zTh G l yX0_taken cX0_taken 2 (some .int) 260 3 890 [.ref q9, .int (nI 1)] ((q9, zo 13 [.int v]) :: rest) "java/lang/ClassCastException" (fun _ => (q9, zo 13 [.int v]) :: rest) := by
  refine z_begX (by decide) (Nat.le_of_ble_eq_true rfl) (fun p e s m args below meth c ls Q hQ hC htb hl hw hend => ?_)
  have hx := hC.hx
  have hb := hC.hb
  have hl : lv_has ls 2 [(0, .ref q9), (1, .int (nI 1))] := hl
  have hw : zS G ((q9, zo 13 [.int v]) :: rest) s s.heap [] := hw
  have hz := hG s hC.hZ.1
  have hzv := hV s hC.hZ.1
  have hzy := hY s hC.hZ.1
  have hzc := hN s hC.hZ.1
  refine lv_iload_n hx hb dX0_taken_0 rfl (lv_at hl 1 rfl) ?_
  refine lv_lookup (off := 39) (tgt := 40) hx hb dX0_taken_1 (by decide) (by decide) (by decide) ?_
  refine lv_aload_n hx hb dX0_taken_40 rfl (lv_at hl 0 rfl) ?_
  refine z_castX hC hlt hzy q836 (hzc ("java/lang/Integer", "NutCaches$Squirrel") (by decide)) kNm_all.2.2.2.2.2.2.1 kNm_all.1 (z_recv hC hw 0 rfl rfl) hw hl.1 (Nat.le_of_ble_eq_true rfl) ⟨Nat.le_of_ble_eq_true rfl, Nat.le_of_ble_eq_true rfl⟩ (Nat.le_of_ble_eq_true rfl) (Nat.le_of_ble_eq_true rfl) dX0_taken_41 (fun q9 H ce9 hex => ?_)
  obtain ⟨hw, hx9⟩ := hex
  exact hend _ _ _ _ _ _ _ _ _ ⟨hw, hx9⟩ (by decide) (Nat.le_of_ble_eq_true rfl) (Nat.le_of_ble_eq_true rfl)
set_option maxHeartbeats 4000000 in
theorem m_X0_taken_x0k2 (G : zE) (l : Launch) (kA : Nat → Nat) (hG : zG G kA) (hV : zV G kA) (hY : zY G) (hlt : l.stackTraces = false) (hN : zN9 G) (j : Nat) (hj : j < 256) (rest : va_W) : zTh G l yX0_taken cX0_taken 2 (some .int) 260 3 890 [.ref (kA (100 + j)), .int (nI 2)] (rest) "java/lang/ClassCastException" (fun _ => rest) := by
  refine z_begX (by decide) (Nat.le_of_ble_eq_true rfl) (fun p e s m args below meth c ls Q hQ hC htb hl hw hend => ?_)
  have hx := hC.hx
  have hb := hC.hb
  have hl : lv_has ls 2 [(0, .ref (kA (100 + j))), (1, .int (nI 2))] := hl
  have hz := hG s hC.hZ.1
  have hzv := hV s hC.hZ.1
  have hzy := hY s hC.hZ.1
  have hzc := hN s hC.hZ.1
  refine lv_iload_n hx hb dX0_taken_0 rfl (lv_at hl 1 rfl) ?_
  refine lv_lookup (off := 47) (tgt := 48) hx hb dX0_taken_1 (by decide) (by decide) (by decide) ?_
  refine lv_aload_n hx hb dX0_taken_48 rfl (lv_at hl 0 rfl) ?_
  refine z_castX hC hlt hzy q1367 (hzc ("java/lang/Integer", "java/lang/Byte") (by decide)) kNm_all.2.2.2.2.2.2.1 kNm_all.2.2.2.2.2.2.2 (z_hrK (hzv.2.1.2.2.2 j hj).1 hw) hw hl.1 (Nat.le_of_ble_eq_true rfl) ⟨Nat.le_of_ble_eq_true rfl, Nat.le_of_ble_eq_true rfl⟩ (Nat.le_of_ble_eq_true rfl) (Nat.le_of_ble_eq_true rfl) dX0_taken_49 (fun q9 H ce9 hex => ?_)
  obtain ⟨hw, hx9⟩ := hex
  exact hend _ _ _ _ _ _ _ _ _ ⟨hw, hx9⟩ (by decide) (Nat.le_of_ble_eq_true rfl) (Nat.le_of_ble_eq_true rfl)
set_option maxHeartbeats 4000000 in
theorem m_X0_taken_x0o2 (G : zE) (l : Launch) (kA : Nat → Nat) (hG : zG G kA) (hV : zV G kA) (hY : zY G) (hlt : l.stackTraces = false) (hN : zN9 G) (q9 : Nat) (v : Int32) (rest : va_W) : zTh G l yX0_taken cX0_taken 2 (some .int) 260 3 890 [.ref q9, .int (nI 2)] ((q9, zo 13 [.int v]) :: rest) "java/lang/ClassCastException" (fun _ => (q9, zo 13 [.int v]) :: rest) := by
  refine z_begX (by decide) (Nat.le_of_ble_eq_true rfl) (fun p e s m args below meth c ls Q hQ hC htb hl hw hend => ?_)
  have hx := hC.hx
  have hb := hC.hb
  have hl : lv_has ls 2 [(0, .ref q9), (1, .int (nI 2))] := hl
  have hw : zS G ((q9, zo 13 [.int v]) :: rest) s s.heap [] := hw
  have hz := hG s hC.hZ.1
  have hzv := hV s hC.hZ.1
  have hzy := hY s hC.hZ.1
  have hzc := hN s hC.hZ.1
  refine lv_iload_n hx hb dX0_taken_0 rfl (lv_at hl 1 rfl) ?_
  refine lv_lookup (off := 47) (tgt := 48) hx hb dX0_taken_1 (by decide) (by decide) (by decide) ?_
  refine lv_aload_n hx hb dX0_taken_48 rfl (lv_at hl 0 rfl) ?_
  refine z_castX hC hlt hzy q1367 (hzc ("java/lang/Integer", "java/lang/Byte") (by decide)) kNm_all.2.2.2.2.2.2.1 kNm_all.2.2.2.2.2.2.2 (z_recv hC hw 0 rfl rfl) hw hl.1 (Nat.le_of_ble_eq_true rfl) ⟨Nat.le_of_ble_eq_true rfl, Nat.le_of_ble_eq_true rfl⟩ (Nat.le_of_ble_eq_true rfl) (Nat.le_of_ble_eq_true rfl) dX0_taken_49 (fun q9 H ce9 hex => ?_)
  obtain ⟨hw, hx9⟩ := hex
  exact hend _ _ _ _ _ _ _ _ _ ⟨hw, hx9⟩ (by decide) (Nat.le_of_ble_eq_true rfl) (Nat.le_of_ble_eq_true rfl)
set_option maxHeartbeats 4000000 in
theorem m_X0_taken_x10 (G : zE) (l : Launch) (kA : Nat → Nat) (hG : zG G kA) (hV : zV G kA) (hY : zY G) (hlt : l.stackTraces = false) (hN : zN9 G) (oq : Nat) (kd : Nat) (nm : Int32) (nd : Int32) (hkd : kd < 5) (rest : va_W) : zTh G l yX0_taken cX0_taken 2 (some .int) 260 3 890 [.ref oq, .int (nI 0)] ((oq, zo (5 + kd) (sqF nm nd)) :: rest) "java/lang/ClassCastException" (fun _ => (oq, zo (5 + kd) (sqF nm nd)) :: rest) := by
  refine z_begX (by decide) (Nat.le_of_ble_eq_true rfl) (fun p e s m args below meth c ls Q hQ hC htb hl hw hend => ?_)
  have hx := hC.hx
  have hb := hC.hb
  have hl : lv_has ls 2 [(0, .ref oq), (1, .int (nI 0))] := hl
  have hw : zS G ((oq, zo (5 + kd) (sqF nm nd)) :: rest) s s.heap [] := hw
  have hz := hG s hC.hZ.1
  have hzv := hV s hC.hZ.1
  have hzy := hY s hC.hZ.1
  have hzc := hN s hC.hZ.1
  rcases (show kd = 0 ∨ kd = 1 ∨ kd = 2 ∨ kd = 3 ∨ kd = 4 by omega) with rfl | rfl | rfl | rfl | rfl
  · skip
    have hl : lv_has ls 2 [(0, .ref oq), (1, .int (nI 0))] := hl
    have hw : zS G ((oq, zo 5 (sqF nm nd)) :: rest) s s.heap [] := hw
    refine lv_iload_n hx hb dX0_taken_0 rfl (lv_at hl 1 rfl) ?_
    refine lv_lookup (off := 27) (tgt := 28) hx hb dX0_taken_1 (by decide) (by decide) (by decide) ?_
    refine lv_aload_n hx hb dX0_taken_28 rfl (lv_at hl 0 rfl) ?_
    refine z_castX hC hlt hzy q1364 (hzc ("NutCaches$Plain", "java/lang/Integer") (by decide)) kNm_all.2.1 kNm_all.2.2.2.2.2.2.1 (z_recv hC hw 0 rfl rfl) hw hl.1 (Nat.le_of_ble_eq_true rfl) ⟨Nat.le_of_ble_eq_true rfl, Nat.le_of_ble_eq_true rfl⟩ (Nat.le_of_ble_eq_true rfl) (Nat.le_of_ble_eq_true rfl) dX0_taken_29 (fun q9 H ce9 hex => ?_)
    obtain ⟨hw, hx9⟩ := hex
    exact hend _ _ _ _ _ _ _ _ _ ⟨hw, hx9⟩ (by decide) (Nat.le_of_ble_eq_true rfl) (Nat.le_of_ble_eq_true rfl)
  · skip
    have hl : lv_has ls 2 [(0, .ref oq), (1, .int (nI 0))] := hl
    have hw : zS G ((oq, zo 6 (sqF nm nd)) :: rest) s s.heap [] := hw
    refine lv_iload_n hx hb dX0_taken_0 rfl (lv_at hl 1 rfl) ?_
    refine lv_lookup (off := 27) (tgt := 28) hx hb dX0_taken_1 (by decide) (by decide) (by decide) ?_
    refine lv_aload_n hx hb dX0_taken_28 rfl (lv_at hl 0 rfl) ?_
    refine z_castX hC hlt hzy q1364 (hzc ("NutCaches$Greedy", "java/lang/Integer") (by decide)) kNm_all.2.2.1 kNm_all.2.2.2.2.2.2.1 (z_recv hC hw 0 rfl rfl) hw hl.1 (Nat.le_of_ble_eq_true rfl) ⟨Nat.le_of_ble_eq_true rfl, Nat.le_of_ble_eq_true rfl⟩ (Nat.le_of_ble_eq_true rfl) (Nat.le_of_ble_eq_true rfl) dX0_taken_29 (fun q9 H ce9 hex => ?_)
    obtain ⟨hw, hx9⟩ := hex
    exact hend _ _ _ _ _ _ _ _ _ ⟨hw, hx9⟩ (by decide) (Nat.le_of_ble_eq_true rfl) (Nat.le_of_ble_eq_true rfl)
  · skip
    have hl : lv_has ls 2 [(0, .ref oq), (1, .int (nI 0))] := hl
    have hw : zS G ((oq, zo 7 (sqF nm nd)) :: rest) s s.heap [] := hw
    refine lv_iload_n hx hb dX0_taken_0 rfl (lv_at hl 1 rfl) ?_
    refine lv_lookup (off := 27) (tgt := 28) hx hb dX0_taken_1 (by decide) (by decide) (by decide) ?_
    refine lv_aload_n hx hb dX0_taken_28 rfl (lv_at hl 0 rfl) ?_
    refine z_castX hC hlt hzy q1364 (hzc ("NutCaches$Neat", "java/lang/Integer") (by decide)) kNm_all.2.2.2.1 kNm_all.2.2.2.2.2.2.1 (z_recv hC hw 0 rfl rfl) hw hl.1 (Nat.le_of_ble_eq_true rfl) ⟨Nat.le_of_ble_eq_true rfl, Nat.le_of_ble_eq_true rfl⟩ (Nat.le_of_ble_eq_true rfl) (Nat.le_of_ble_eq_true rfl) dX0_taken_29 (fun q9 H ce9 hex => ?_)
    obtain ⟨hw, hx9⟩ := hex
    exact hend _ _ _ _ _ _ _ _ _ ⟨hw, hx9⟩ (by decide) (Nat.le_of_ble_eq_true rfl) (Nat.le_of_ble_eq_true rfl)
  · skip
    have hl : lv_has ls 2 [(0, .ref oq), (1, .int (nI 0))] := hl
    have hw : zS G ((oq, zo 8 (sqF nm nd)) :: rest) s s.heap [] := hw
    refine lv_iload_n hx hb dX0_taken_0 rfl (lv_at hl 1 rfl) ?_
    refine lv_lookup (off := 27) (tgt := 28) hx hb dX0_taken_1 (by decide) (by decide) (by decide) ?_
    refine lv_aload_n hx hb dX0_taken_28 rfl (lv_at hl 0 rfl) ?_
    refine z_castX hC hlt hzy q1364 (hzc ("NutCaches$Dozy", "java/lang/Integer") (by decide)) kNm_all.2.2.2.2.1 kNm_all.2.2.2.2.2.2.1 (z_recv hC hw 0 rfl rfl) hw hl.1 (Nat.le_of_ble_eq_true rfl) ⟨Nat.le_of_ble_eq_true rfl, Nat.le_of_ble_eq_true rfl⟩ (Nat.le_of_ble_eq_true rfl) (Nat.le_of_ble_eq_true rfl) dX0_taken_29 (fun q9 H ce9 hex => ?_)
    obtain ⟨hw, hx9⟩ := hex
    exact hend _ _ _ _ _ _ _ _ _ ⟨hw, hx9⟩ (by decide) (Nat.le_of_ble_eq_true rfl) (Nat.le_of_ble_eq_true rfl)
  · skip
    have hl : lv_has ls 2 [(0, .ref oq), (1, .int (nI 0))] := hl
    have hw : zS G ((oq, zo 9 (sqF nm nd)) :: rest) s s.heap [] := hw
    refine lv_iload_n hx hb dX0_taken_0 rfl (lv_at hl 1 rfl) ?_
    refine lv_lookup (off := 27) (tgt := 28) hx hb dX0_taken_1 (by decide) (by decide) (by decide) ?_
    refine lv_aload_n hx hb dX0_taken_28 rfl (lv_at hl 0 rfl) ?_
    refine z_castX hC hlt hzy q1364 (hzc ("NutCaches$Spy", "java/lang/Integer") (by decide)) kNm_all.2.2.2.2.2.1 kNm_all.2.2.2.2.2.2.1 (z_recv hC hw 0 rfl rfl) hw hl.1 (Nat.le_of_ble_eq_true rfl) ⟨Nat.le_of_ble_eq_true rfl, Nat.le_of_ble_eq_true rfl⟩ (Nat.le_of_ble_eq_true rfl) (Nat.le_of_ble_eq_true rfl) dX0_taken_29 (fun q9 H ce9 hex => ?_)
    obtain ⟨hw, hx9⟩ := hex
    exact hend _ _ _ _ _ _ _ _ _ ⟨hw, hx9⟩ (by decide) (Nat.le_of_ble_eq_true rfl) (Nat.le_of_ble_eq_true rfl)
set_option maxHeartbeats 4000000 in
theorem m_X0_taken_x12 (G : zE) (l : Launch) (kA : Nat → Nat) (hG : zG G kA) (hV : zV G kA) (hY : zY G) (hlt : l.stackTraces = false) (hN : zN9 G) (oq : Nat) (kd : Nat) (nm : Int32) (nd : Int32) (hkd : kd < 5) (rest : va_W) : zTh G l yX0_taken cX0_taken 2 (some .int) 260 3 890 [.ref oq, .int (nI 2)] ((oq, zo (5 + kd) (sqF nm nd)) :: rest) "java/lang/ClassCastException" (fun _ => (oq, zo (5 + kd) (sqF nm nd)) :: rest) := by
  refine z_begX (by decide) (Nat.le_of_ble_eq_true rfl) (fun p e s m args below meth c ls Q hQ hC htb hl hw hend => ?_)
  have hx := hC.hx
  have hb := hC.hb
  have hl : lv_has ls 2 [(0, .ref oq), (1, .int (nI 2))] := hl
  have hw : zS G ((oq, zo (5 + kd) (sqF nm nd)) :: rest) s s.heap [] := hw
  have hz := hG s hC.hZ.1
  have hzv := hV s hC.hZ.1
  have hzy := hY s hC.hZ.1
  have hzc := hN s hC.hZ.1
  rcases (show kd = 0 ∨ kd = 1 ∨ kd = 2 ∨ kd = 3 ∨ kd = 4 by omega) with rfl | rfl | rfl | rfl | rfl
  · skip
    have hl : lv_has ls 2 [(0, .ref oq), (1, .int (nI 2))] := hl
    have hw : zS G ((oq, zo 5 (sqF nm nd)) :: rest) s s.heap [] := hw
    refine lv_iload_n hx hb dX0_taken_0 rfl (lv_at hl 1 rfl) ?_
    refine lv_lookup (off := 47) (tgt := 48) hx hb dX0_taken_1 (by decide) (by decide) (by decide) ?_
    refine lv_aload_n hx hb dX0_taken_48 rfl (lv_at hl 0 rfl) ?_
    refine z_castX hC hlt hzy q1367 (hzc ("NutCaches$Plain", "java/lang/Byte") (by decide)) kNm_all.2.1 kNm_all.2.2.2.2.2.2.2 (z_recv hC hw 0 rfl rfl) hw hl.1 (Nat.le_of_ble_eq_true rfl) ⟨Nat.le_of_ble_eq_true rfl, Nat.le_of_ble_eq_true rfl⟩ (Nat.le_of_ble_eq_true rfl) (Nat.le_of_ble_eq_true rfl) dX0_taken_49 (fun q9 H ce9 hex => ?_)
    obtain ⟨hw, hx9⟩ := hex
    exact hend _ _ _ _ _ _ _ _ _ ⟨hw, hx9⟩ (by decide) (Nat.le_of_ble_eq_true rfl) (Nat.le_of_ble_eq_true rfl)
  · skip
    have hl : lv_has ls 2 [(0, .ref oq), (1, .int (nI 2))] := hl
    have hw : zS G ((oq, zo 6 (sqF nm nd)) :: rest) s s.heap [] := hw
    refine lv_iload_n hx hb dX0_taken_0 rfl (lv_at hl 1 rfl) ?_
    refine lv_lookup (off := 47) (tgt := 48) hx hb dX0_taken_1 (by decide) (by decide) (by decide) ?_
    refine lv_aload_n hx hb dX0_taken_48 rfl (lv_at hl 0 rfl) ?_
    refine z_castX hC hlt hzy q1367 (hzc ("NutCaches$Greedy", "java/lang/Byte") (by decide)) kNm_all.2.2.1 kNm_all.2.2.2.2.2.2.2 (z_recv hC hw 0 rfl rfl) hw hl.1 (Nat.le_of_ble_eq_true rfl) ⟨Nat.le_of_ble_eq_true rfl, Nat.le_of_ble_eq_true rfl⟩ (Nat.le_of_ble_eq_true rfl) (Nat.le_of_ble_eq_true rfl) dX0_taken_49 (fun q9 H ce9 hex => ?_)
    obtain ⟨hw, hx9⟩ := hex
    exact hend _ _ _ _ _ _ _ _ _ ⟨hw, hx9⟩ (by decide) (Nat.le_of_ble_eq_true rfl) (Nat.le_of_ble_eq_true rfl)
  · skip
    have hl : lv_has ls 2 [(0, .ref oq), (1, .int (nI 2))] := hl
    have hw : zS G ((oq, zo 7 (sqF nm nd)) :: rest) s s.heap [] := hw
    refine lv_iload_n hx hb dX0_taken_0 rfl (lv_at hl 1 rfl) ?_
    refine lv_lookup (off := 47) (tgt := 48) hx hb dX0_taken_1 (by decide) (by decide) (by decide) ?_
    refine lv_aload_n hx hb dX0_taken_48 rfl (lv_at hl 0 rfl) ?_
    refine z_castX hC hlt hzy q1367 (hzc ("NutCaches$Neat", "java/lang/Byte") (by decide)) kNm_all.2.2.2.1 kNm_all.2.2.2.2.2.2.2 (z_recv hC hw 0 rfl rfl) hw hl.1 (Nat.le_of_ble_eq_true rfl) ⟨Nat.le_of_ble_eq_true rfl, Nat.le_of_ble_eq_true rfl⟩ (Nat.le_of_ble_eq_true rfl) (Nat.le_of_ble_eq_true rfl) dX0_taken_49 (fun q9 H ce9 hex => ?_)
    obtain ⟨hw, hx9⟩ := hex
    exact hend _ _ _ _ _ _ _ _ _ ⟨hw, hx9⟩ (by decide) (Nat.le_of_ble_eq_true rfl) (Nat.le_of_ble_eq_true rfl)
  · skip
    have hl : lv_has ls 2 [(0, .ref oq), (1, .int (nI 2))] := hl
    have hw : zS G ((oq, zo 8 (sqF nm nd)) :: rest) s s.heap [] := hw
    refine lv_iload_n hx hb dX0_taken_0 rfl (lv_at hl 1 rfl) ?_
    refine lv_lookup (off := 47) (tgt := 48) hx hb dX0_taken_1 (by decide) (by decide) (by decide) ?_
    refine lv_aload_n hx hb dX0_taken_48 rfl (lv_at hl 0 rfl) ?_
    refine z_castX hC hlt hzy q1367 (hzc ("NutCaches$Dozy", "java/lang/Byte") (by decide)) kNm_all.2.2.2.2.1 kNm_all.2.2.2.2.2.2.2 (z_recv hC hw 0 rfl rfl) hw hl.1 (Nat.le_of_ble_eq_true rfl) ⟨Nat.le_of_ble_eq_true rfl, Nat.le_of_ble_eq_true rfl⟩ (Nat.le_of_ble_eq_true rfl) (Nat.le_of_ble_eq_true rfl) dX0_taken_49 (fun q9 H ce9 hex => ?_)
    obtain ⟨hw, hx9⟩ := hex
    exact hend _ _ _ _ _ _ _ _ _ ⟨hw, hx9⟩ (by decide) (Nat.le_of_ble_eq_true rfl) (Nat.le_of_ble_eq_true rfl)
  · skip
    have hl : lv_has ls 2 [(0, .ref oq), (1, .int (nI 2))] := hl
    have hw : zS G ((oq, zo 9 (sqF nm nd)) :: rest) s s.heap [] := hw
    refine lv_iload_n hx hb dX0_taken_0 rfl (lv_at hl 1 rfl) ?_
    refine lv_lookup (off := 47) (tgt := 48) hx hb dX0_taken_1 (by decide) (by decide) (by decide) ?_
    refine lv_aload_n hx hb dX0_taken_48 rfl (lv_at hl 0 rfl) ?_
    refine z_castX hC hlt hzy q1367 (hzc ("NutCaches$Spy", "java/lang/Byte") (by decide)) kNm_all.2.2.2.2.2.1 kNm_all.2.2.2.2.2.2.2 (z_recv hC hw 0 rfl rfl) hw hl.1 (Nat.le_of_ble_eq_true rfl) ⟨Nat.le_of_ble_eq_true rfl, Nat.le_of_ble_eq_true rfl⟩ (Nat.le_of_ble_eq_true rfl) (Nat.le_of_ble_eq_true rfl) dX0_taken_49 (fun q9 H ce9 hex => ?_)
    obtain ⟨hw, hx9⟩ := hex
    exact hend _ _ _ _ _ _ _ _ _ ⟨hw, hx9⟩ (by decide) (Nat.le_of_ble_eq_true rfl) (Nat.le_of_ble_eq_true rfl)
set_option maxHeartbeats 4000000 in
theorem m_X0_taken_x20 (G : zE) (l : Launch) (kA : Nat → Nat) (hG : zG G kA) (hV : zV G kA) (hY : zY G) (hlt : l.stackTraces = false) (hN : zN9 G) (j : Nat) (hj : j < 10) (rest : va_W) : zTh G l yX0_taken cX0_taken 2 (some .int) 260 3 890 [.ref (kA (528 + j)), .int (nI 0)] (rest) "java/lang/ClassCastException" (fun _ => rest) := by
  refine z_begX (by decide) (Nat.le_of_ble_eq_true rfl) (fun p e s m args below meth c ls Q hQ hC htb hl hw hend => ?_)
  have hx := hC.hx
  have hb := hC.hb
  have hl : lv_has ls 2 [(0, .ref (kA (528 + j))), (1, .int (nI 0))] := hl
  have hz := hG s hC.hZ.1
  have hzv := hV s hC.hZ.1
  have hzy := hY s hC.hZ.1
  have hzc := hN s hC.hZ.1
  refine lv_iload_n hx hb dX0_taken_0 rfl (lv_at hl 1 rfl) ?_
  refine lv_lookup (off := 27) (tgt := 28) hx hb dX0_taken_1 (by decide) (by decide) (by decide) ?_
  refine lv_aload_n hx hb dX0_taken_28 rfl (lv_at hl 0 rfl) ?_
  refine z_castX hC hlt hzy q1364 (hzc ("java/lang/Byte", "java/lang/Integer") (by decide)) kNm_all.2.2.2.2.2.2.2 kNm_all.2.2.2.2.2.2.1 (z_hrK (z_byO (hzv.2.2.1.2.2 (128 + j) (by omega)).1) hw) hw hl.1 (Nat.le_of_ble_eq_true rfl) ⟨Nat.le_of_ble_eq_true rfl, Nat.le_of_ble_eq_true rfl⟩ (Nat.le_of_ble_eq_true rfl) (Nat.le_of_ble_eq_true rfl) dX0_taken_29 (fun q9 H ce9 hex => ?_)
  obtain ⟨hw, hx9⟩ := hex
  exact hend _ _ _ _ _ _ _ _ _ ⟨hw, hx9⟩ (by decide) (Nat.le_of_ble_eq_true rfl) (Nat.le_of_ble_eq_true rfl)
set_option maxHeartbeats 4000000 in
theorem m_X0_taken_x21 (G : zE) (l : Launch) (kA : Nat → Nat) (hG : zG G kA) (hV : zV G kA) (hY : zY G) (hlt : l.stackTraces = false) (hN : zN9 G) (j : Nat) (hj : j < 10) (rest : va_W) : zTh G l yX0_taken cX0_taken 2 (some .int) 260 3 890 [.ref (kA (528 + j)), .int (nI 1)] (rest) "java/lang/ClassCastException" (fun _ => rest) := by
  refine z_begX (by decide) (Nat.le_of_ble_eq_true rfl) (fun p e s m args below meth c ls Q hQ hC htb hl hw hend => ?_)
  have hx := hC.hx
  have hb := hC.hb
  have hl : lv_has ls 2 [(0, .ref (kA (528 + j))), (1, .int (nI 1))] := hl
  have hz := hG s hC.hZ.1
  have hzv := hV s hC.hZ.1
  have hzy := hY s hC.hZ.1
  have hzc := hN s hC.hZ.1
  refine lv_iload_n hx hb dX0_taken_0 rfl (lv_at hl 1 rfl) ?_
  refine lv_lookup (off := 39) (tgt := 40) hx hb dX0_taken_1 (by decide) (by decide) (by decide) ?_
  refine lv_aload_n hx hb dX0_taken_40 rfl (lv_at hl 0 rfl) ?_
  refine z_castX hC hlt hzy q836 (hzc ("java/lang/Byte", "NutCaches$Squirrel") (by decide)) kNm_all.2.2.2.2.2.2.2 kNm_all.1 (z_hrK (z_byO (hzv.2.2.1.2.2 (128 + j) (by omega)).1) hw) hw hl.1 (Nat.le_of_ble_eq_true rfl) ⟨Nat.le_of_ble_eq_true rfl, Nat.le_of_ble_eq_true rfl⟩ (Nat.le_of_ble_eq_true rfl) (Nat.le_of_ble_eq_true rfl) dX0_taken_41 (fun q9 H ce9 hex => ?_)
  obtain ⟨hw, hx9⟩ := hex
  exact hend _ _ _ _ _ _ _ _ _ ⟨hw, hx9⟩ (by decide) (Nat.le_of_ble_eq_true rfl) (Nat.le_of_ble_eq_true rfl)
theorem zs_X0_312 : zSs RX0 312 yJ18_valueOf cJ18_valueOf 1 (some (.object "java/lang/Integer")) 1 := ⟨lw_S q1567 q1568 q73 q1569, ⟨by decide +kernel, by decide +kernel⟩, by decide +kernel⟩
set_option maxHeartbeats 4000000 in
theorem m_X0_made_0o (G : zE) (l : Launch) (kA : Nat → Nat) (hG : zG G kA) (hV : zV G kA) (co : Nat) (w : Nat → Nat) (mn : Int32) (bm : Int32) (sm : Int32) (lt : Int32) (sf : Nat → Option Nat) (v : Int32) (hnv : ∀ j, j < 256 → v ≠ nI j - nI 128) (rest : va_W) : zMq G l yX0_made cX0_made 3 (some (.object "java/lang/Object")) 4 1 1 [.ref co, .int (nI 0), .int v] ((co, zo 0 (cF w mn bm sm lt)) :: (w 0, zc G 4 (zO 5 sf)) :: rest) (fun (r : Option Nat) u => r = some u) (fun (u : Nat) => (u, zo 13 [.int v]) :: (co, zo 0 (cF w mn bm sm lt)) :: (w 0, zc G 4 (zO 5 sf)) :: rest) := by
  refine z_begQ (by first | exact Or.inl ⟨_, rfl⟩ | exact Or.inr ⟨_, rfl⟩) (by decide) (Nat.le_of_ble_eq_true rfl) (fun p e s m args below meth c ls Q hC hl hw hend => ?_)
  have hx := hC.hx
  have hb := hC.hb
  have hl : lv_has ls 3 [(0, .ref co), (1, .int (nI 0)), (2, .int v)] := hl
  have hw : zS G ((co, zo 0 (cF w mn bm sm lt)) :: (w 0, zc G 4 (zO 5 sf)) :: rest) s s.heap [] := hw
  have hz := hG s hC.hZ.1
  have hzv := hV s hC.hZ.1
  refine lv_iload_n hx hb dX0_made_0 rfl (lv_at hl 1 rfl) ?_
  refine lv_lookup (off := 27) (tgt := 28) hx hb dX0_made_1 (by decide) (by decide) (by decide) ?_
  refine lv_iload_n hx hb dX0_made_28 rfl (lv_at hl 2 rfl) ?_
  refine z_cq (z_runS (As := [.int v]) (rest := []) hC zs_X0_312 (m_J18_valueOf_o G l kA (by first | assumption | (omega)) (by first | assumption | (omega)) v (by first | assumption | (omega)) _) hw rfl rfl (Nat.le_of_ble_eq_true rfl) hl.1 ⟨Nat.le_of_ble_eq_true rfl, Nat.le_of_ble_eq_true rfl⟩ ⟨(Nat.le_of_ble_eq_true rfl), (Nat.le_of_ble_eq_true rfl)⟩ dX0_made_29) hw (fun _ => List.Perm.refl _) (fun r u H locs hp hw => ?_)
  obtain ⟨en, rfl⟩ : ∃ z, z = u := ⟨_, rfl⟩
  have hw : zS G ((en, zo 13 [.int v]) :: (co, zo 0 (cF w mn bm sm lt)) :: (w 0, zc G 4 (zO 5 sf)) :: rest) s H locs := hw
  obtain rfl := hp
  exact hend _ _ _ _ _ _ (some en) en hw rfl (Nat.le_of_ble_eq_true rfl) (Nat.le_of_ble_eq_true rfl) dX0_made_32
set_option maxHeartbeats 4000000 in
theorem m_X0_made_0k (G : zE) (l : Launch) (kA : Nat → Nat) (hG : zG G kA) (hV : zV G kA) (co : Nat) (w : Nat → Nat) (mn : Int32) (bm : Int32) (sm : Int32) (lt : Int32) (sf : Nat → Option Nat) (j : Nat) (hj : j < 256) (rest : va_W) : zMq G l yX0_made cX0_made 3 (some (.object "java/lang/Object")) 4 0 0 [.ref co, .int (nI 0), .int (nI j - nI 128)] ((co, zo 0 (cF w mn bm sm lt)) :: (w 0, zc G 4 (zO 5 sf)) :: rest) (fun (r : Option Nat) (_ : Unit) => r = some (kA (100 + j))) (fun (_ : Unit) => (co, zo 0 (cF w mn bm sm lt)) :: (w 0, zc G 4 (zO 5 sf)) :: rest) := by
  refine z_begQ (by first | exact Or.inl ⟨_, rfl⟩ | exact Or.inr ⟨_, rfl⟩) (by decide) (Nat.le_of_ble_eq_true rfl) (fun p e s m args below meth c ls Q hC hl hw hend => ?_)
  have hx := hC.hx
  have hb := hC.hb
  have hl : lv_has ls 3 [(0, .ref co), (1, .int (nI 0)), (2, .int (nI j - nI 128))] := hl
  have hw : zS G ((co, zo 0 (cF w mn bm sm lt)) :: (w 0, zc G 4 (zO 5 sf)) :: rest) s s.heap [] := hw
  have hz := hG s hC.hZ.1
  have hzv := hV s hC.hZ.1
  refine lv_iload_n hx hb dX0_made_0 rfl (lv_at hl 1 rfl) ?_
  refine lv_lookup (off := 27) (tgt := 28) hx hb dX0_made_1 (by decide) (by decide) (by decide) ?_
  refine lv_iload_n hx hb dX0_made_28 rfl (lv_at hl 2 rfl) ?_
  refine z_cq (z_runS (As := [.int (nI j - nI 128)]) (rest := []) hC zs_X0_312 (m_J18_valueOf_k G l kA (by first | assumption | (omega)) (by first | assumption | (omega)) j (by omega) _) hw rfl rfl (Nat.le_of_ble_eq_true rfl) hl.1 ⟨Nat.le_of_ble_eq_true rfl, Nat.le_of_ble_eq_true rfl⟩ ⟨(Nat.le_of_ble_eq_true rfl), (Nat.le_of_ble_eq_true rfl)⟩ dX0_made_29) hw (fun _ => List.Perm.refl _) (fun r u H locs hp hw => ?_)
  obtain rfl : r = some (kA (100 + j)) := hp
  exact hend _ _ _ _ _ _ (some (kA (100 + j))) () hw rfl (Nat.le_of_ble_eq_true rfl) (Nat.le_of_ble_eq_true rfl) dX0_made_32
set_option maxHeartbeats 4000000 in
theorem m_X0_made_1 (G : zE) (l : Launch) (kA : Nat → Nat) (hG : zG G kA) (hV : zV G kA) (co : Nat) (w : Nat → Nat) (mn : Int32) (bm : Int32) (sm : Int32) (lt : Int32) (sf : Nat → Option Nat) (i : Nat) (oq : Nat) (hi : i < 5) (hsf : sf i = some oq) (rest : va_W) : zMq G l yX0_made cX0_made 3 (some (.object "java/lang/Object")) 4 0 0 [.ref co, .int (nI 1), .int (nI i)] ((co, zo 0 (cF w mn bm sm lt)) :: (w 0, zc G 4 (zO 5 sf)) :: rest) (fun (r : Option Nat) (_ : Unit) => r = some oq) (fun (_ : Unit) => (co, zo 0 (cF w mn bm sm lt)) :: (w 0, zc G 4 (zO 5 sf)) :: rest) := by
  refine z_begQ (by first | exact Or.inl ⟨_, rfl⟩ | exact Or.inr ⟨_, rfl⟩) (by decide) (Nat.le_of_ble_eq_true rfl) (fun p e s m args below meth c ls Q hC hl hw hend => ?_)
  have hx := hC.hx
  have hb := hC.hb
  have hl : lv_has ls 3 [(0, .ref co), (1, .int (nI 1)), (2, .int (nI i))] := hl
  have hw : zS G ((co, zo 0 (cF w mn bm sm lt)) :: (w 0, zc G 4 (zO 5 sf)) :: rest) s s.heap [] := hw
  have hz := hG s hC.hZ.1
  have hzv := hV s hC.hZ.1
  refine lv_iload_n hx hb dX0_made_0 rfl (lv_at hl 1 rfl) ?_
  refine lv_lookup (off := 32) (tgt := 33) hx hb dX0_made_1 (by decide) (by decide) (by decide) ?_
  refine lv_aload_n hx hb dX0_made_33 rfl (lv_at hl 0 rfl) ?_
  refine z_get (v := .ref (w 0)) hC zf_X0_21_0 hw 0 rfl rfl dX0_made_34 ?_
  refine lv_iload_n hx hb dX0_made_37 rfl (lv_at hl 2 rfl) ?_
  refine z_aald (x := .ref oq) (t := 4) hC hw 1 rfl (fun _ => rfl) (by omega) (by decide) (congrArg va_rf hsf) dX0_made_38 ?_
  exact hend _ _ _ _ _ _ (some oq) () hw rfl (Nat.le_of_ble_eq_true rfl) (Nat.le_of_ble_eq_true rfl) dX0_made_39
theorem zs_X0_316 : zSs RX0 316 yJ29_valueOf cJ29_valueOf 2 (some (.object "java/lang/Byte")) 1 := ⟨lw_S q1586 q1587 q92 q1588, ⟨by decide +kernel, by decide +kernel⟩, by decide +kernel⟩
set_option maxHeartbeats 4000000 in
theorem m_X0_made_2 (G : zE) (l : Launch) (kA : Nat → Nat) (hG : zG G kA) (hV : zV G kA) (co : Nat) (w : Nat → Nat) (mn : Int32) (bm : Int32) (sm : Int32) (lt : Int32) (sf : Nat → Option Nat) (j : Nat) (hj : j < 10) (rest : va_W) : zMq G l yX0_made cX0_made 3 (some (.object "java/lang/Object")) 4 0 0 [.ref co, .int (nI 2), .int (nI j)] ((co, zo 0 (cF w mn bm sm lt)) :: (w 0, zc G 4 (zO 5 sf)) :: rest) (fun (r : Option Nat) (_ : Unit) => r = some (kA (528 + j))) (fun (_ : Unit) => (co, zo 0 (cF w mn bm sm lt)) :: (w 0, zc G 4 (zO 5 sf)) :: rest) := by
  refine z_begQ (by first | exact Or.inl ⟨_, rfl⟩ | exact Or.inr ⟨_, rfl⟩) (by decide) (Nat.le_of_ble_eq_true rfl) (fun p e s m args below meth c ls Q hC hl hw hend => ?_)
  have hx := hC.hx
  have hb := hC.hb
  have hl : lv_has ls 3 [(0, .ref co), (1, .int (nI 2)), (2, .int (nI j))] := hl
  have hw : zS G ((co, zo 0 (cF w mn bm sm lt)) :: (w 0, zc G 4 (zO 5 sf)) :: rest) s s.heap [] := hw
  have hz := hG s hC.hZ.1
  have hzv := hV s hC.hZ.1
  refine lv_iload_n hx hb dX0_made_0 rfl (lv_at hl 1 rfl) ?_
  refine lv_lookup (off := 39) (tgt := 40) hx hb dX0_made_1 (by decide) (by decide) (by decide) ?_
  refine lv_iload_n hx hb dX0_made_40 rfl (lv_at hl 2 rfl) ?_
  refine lv_i2b (v := (nI j)) hx hb dX0_made_41 (zi2b (by omega)) ?_
  refine z_cq (z_runS (As := [.int (nI j)]) (rest := []) hC zs_X0_316 (m_J29_valueOf G l kA (by first | assumption | (omega)) (by first | assumption | (omega)) j (by omega) _) hw rfl rfl (Nat.le_of_ble_eq_true rfl) hl.1 ⟨Nat.le_of_ble_eq_true rfl, Nat.le_of_ble_eq_true rfl⟩ ⟨(Nat.le_of_ble_eq_true rfl), (Nat.le_of_ble_eq_true rfl)⟩ dX0_made_42) hw (fun _ => List.Perm.refl _) (fun r u H locs hp hw => ?_)
  obtain rfl : r = some (kA (528 + j)) := hp
  exact hend _ _ _ _ _ _ (some (kA (528 + j))) () hw rfl (Nat.le_of_ble_eq_true rfl) (Nat.le_of_ble_eq_true rfl) dX0_made_45
