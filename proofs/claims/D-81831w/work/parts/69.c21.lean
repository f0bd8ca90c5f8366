/-! LISTS: reading -/
set_option maxRecDepth 100000
theorem zf_J23_48_14 : zFl 14 2 RJ23 48 false .int := ⟨RJ23, TJ23, 3, tyJ23, rfl, by decide, in_J23, q1138, rfl, by decide +kernel, tyJ23_ok, nmJ23⟩
set_option maxHeartbeats 4000000 in
theorem m_J23_size (G : zE) (l : Launch) (lst : Nat) (ed : Nat) (n : Nat) (mq : Int32) (rest : va_W) : zMi G l yJ23_size cJ23_size 1 (some .int) 0 0 0 [.ref lst] ((lst, zo 14 [.int mq, .ref ed, .int (nI n)]) :: rest) (fun (r : Int32) (_ : Unit) => r = nI n) (fun (_ : Unit) => (lst, zo 14 [.int mq, .ref ed, .int (nI n)]) :: rest) := by
  refine z_begI (by decide) (Nat.le_of_ble_eq_true rfl) (fun p e s m args below meth c ls Q hC hl hw hend => ?_)
  have hx := hC.hx
  have hb := hC.hb
  have hl : lv_has ls 1 [(0, .ref lst)] := hl
  have hw : zS G ((lst, zo 14 [.int mq, .ref ed, .int (nI n)]) :: rest) s s.heap [] := hw
  refine lv_aload_n hx hb dJ23_size_0 rfl (lv_at hl 0 rfl) ?_
  refine z_get (v := .int (nI n)) hC zf_J23_48_14 hw 0 rfl rfl dJ23_size_1 ?_
  exact hend _ _ _ _ _ _ _ () hw (by first | rfl | simp_all) (Nat.le_of_ble_eq_true rfl) (Nat.le_of_ble_eq_true rfl) dJ23_size_4
theorem zf_J25_13_15 : zFu 15 0 RJ25 13 false .int := ⟨RJ25, TJ25, 5, tyJ25, rfl, by decide, in_J25, ⟨_, q1164, Or.inr q1165⟩, rfl, by decide +kernel, tyJ25_ok⟩
set_option maxHeartbeats 4000000 in
theorem m_J25_nextIndex (G : zE) (l : Launch) (it : Nat) (lst : Nat) (cu : Nat) (lr : Int32) (mq : Int32) (rest : va_W) : zMi G l yJ25_nextIndex cJ25_nextIndex 1 (some .int) 0 0 0 [.ref it] ((it, zo 15 [.int (nI cu), .int lr, .int mq, .ref lst, .ref lst]) :: rest) (fun (r : Int32) (_ : Unit) => r = nI cu) (fun (_ : Unit) => (it, zo 15 [.int (nI cu), .int lr, .int mq, .ref lst, .ref lst]) :: rest) := by
  refine z_begI (by decide) (Nat.le_of_ble_eq_true rfl) (fun p e s m args below meth c ls Q hC hl hw hend => ?_)
  have hx := hC.hx
  have hb := hC.hb
  have hl : lv_has ls 1 [(0, .ref it)] := hl
  have hw : zS G ((it, zo 15 [.int (nI cu), .int lr, .int mq, .ref lst, .ref lst]) :: rest) s s.heap [] := hw
  refine lv_aload_n hx hb dJ25_nextIndex_0 rfl (lv_at hl 0 rfl) ?_
  refine z_getU (v := .int (nI cu)) hC zf_J25_13_15 hw 0 rfl rfl dJ25_nextIndex_1 ?_
  exact hend _ _ _ _ _ _ _ () hw (by first | rfl | simp_all) (Nat.le_of_ble_eq_true rfl) (Nat.le_of_ble_eq_true rfl) dJ25_nextIndex_4
set_option maxHeartbeats 4000000 in
theorem m_J25_previousIndex (G : zE) (l : Launch) (it : Nat) (lst : Nat) (cu : Nat) (lr : Int32) (mq : Int32) (rest : va_W) : zMi G l yJ25_previousIndex cJ25_previousIndex 1 (some .int) 0 0 0 [.ref it] ((it, zo 15 [.int (nI cu), .int lr, .int mq, .ref lst, .ref lst]) :: rest) (fun (r : Int32) (_ : Unit) => r = nI cu - nI 1) (fun (_ : Unit) => (it, zo 15 [.int (nI cu), .int lr, .int mq, .ref lst, .ref lst]) :: rest) := by
  refine z_begI (by decide) (Nat.le_of_ble_eq_true rfl) (fun p e s m args below meth c ls Q hC hl hw hend => ?_)
  have hx := hC.hx
  have hb := hC.hb
  have hl : lv_has ls 1 [(0, .ref it)] := hl
  have hw : zS G ((it, zo 15 [.int (nI cu), .int lr, .int mq, .ref lst, .ref lst]) :: rest) s s.heap [] := hw
  refine lv_aload_n hx hb dJ25_previousIndex_0 rfl (lv_at hl 0 rfl) ?_
  refine z_getU (v := .int (nI cu)) hC zf_J25_13_15 hw 0 rfl rfl dJ25_previousIndex_1 ?_
  refine lv_iconst (v := (nI 1)) hx hb dJ25_previousIndex_4 zk_1 ?_
  refine zv_isub (v := (nI cu - nI 1)) hx hb rfl dJ25_previousIndex_5 ?_
  exact hend _ _ _ _ _ _ _ () hw (by first | rfl | simp_all) (Nat.le_of_ble_eq_true rfl) (Nat.le_of_ble_eq_true rfl) dJ25_previousIndex_6
theorem zf_J24_25_15 : zFu 15 0 RJ24 25 false .int := ⟨RJ25, TJ25, 5, tyJ25, rfl, by decide, in_J25, ⟨_, q1166, Or.inl rfl⟩, rfl, by decide +kernel, tyJ25_ok⟩
theorem zf_J24_1_15 : zFu 15 3 RJ24 1 true (.object "java/util/ArrayList") := ⟨RJ25, TJ25, 5, tyJ25, rfl, by decide, in_J25, ⟨_, q1173, Or.inl rfl⟩, rfl, by decide +kernel, tyJ25_ok⟩
set_option maxHeartbeats 4000000 in
theorem m_J24_hasNext (G : zE) (l : Launch) (kA : Nat → Nat) (hG : zG G kA) (lst : Nat) (ed : Nat) (n : Nat) (mq : Int32) (it : Nat) (cu : Nat) (lr : Int32) (hn12 : n ≤ 12) (hh12 : cu ≤ n) (rest : va_W) : zMi G l yJ24_hasNext cJ24_hasNext 1 (some .boolean) 0 0 0 [.ref it] ((lst, zo 14 [.int mq, .ref ed, .int (nI n)]) :: (it, zo 15 [.int (nI cu), .int lr, .int mq, .ref lst, .ref lst]) :: rest) (fun (r : Int32) (_ : Unit) => r = bI (¬ cu = n)) (fun (_ : Unit) => (lst, zo 14 [.int mq, .ref ed, .int (nI n)]) :: (it, zo 15 [.int (nI cu), .int lr, .int mq, .ref lst, .ref lst]) :: rest) := by
  refine z_begZ (by decide) (Nat.le_of_ble_eq_true rfl) (fun p e s m args below meth c ls Q hC hl hw hend => ?_)
  have hx := hC.hx
  have hb := hC.hb
  have hl : lv_has ls 1 [(0, .ref it)] := hl
  have hw : zS G ((lst, zo 14 [.int mq, .ref ed, .int (nI n)]) :: (it, zo 15 [.int (nI cu), .int lr, .int mq, .ref lst, .ref lst]) :: rest) s s.heap [] := hw
  have hz := hG s hC.hZ.1
  refine lv_aload_n hx hb dJ24_hasNext_0 rfl (lv_at hl 0 rfl) ?_
  refine z_getU (v := .int (nI cu)) hC zf_J24_25_15 hw 1 rfl rfl dJ24_hasNext_1 ?_
  refine lv_aload_n hx hb dJ24_hasNext_4 rfl (lv_at hl 0 rfl) ?_
  refine z_getU (v := .ref lst) hC zf_J24_1_15 hw 1 rfl rfl dJ24_hasNext_5 ?_
  refine z_getN (v := .int (nI n)) (k := 2) hC (show zcl[14]? = some (RJ23, TJ23, 3) from rfl) in_J23 (by decide) rfl rfl rfl (hz.1 _ (cw_t q1137 rfl)) hw 0 rfl rfl dJ24_hasNext_8 ?_
  refine zi_eq (tgt := 18) hx hb (by omega) (by omega) dJ24_hasNext_11 (by decide) (fun c_11 => ?_) (fun c_11 => ?_)
  · skip
    refine lv_iconst (v := (nI 0)) hx hb dJ24_hasNext_18 zk_0 ?_
    exact hend _ _ _ _ _ _ _ () rfl hw (by first | exact (bI_t c_11).symm | exact (bI_f (fun q => q c_11)).symm | exact (bI_f (fun q => q (Decidable.not_not.mp c_11))).symm) (Nat.le_of_ble_eq_true rfl) (Nat.le_of_ble_eq_true rfl) dJ24_hasNext_19
  · skip
    refine lv_iconst (v := (nI 1)) hx hb dJ24_hasNext_14 zk_1 ?_
    refine lv_goto (tgt := 19) hx hb dJ24_hasNext_15 (by decide) ?_
    exact hend _ _ _ _ _ _ _ () rfl hw (by first | exact (bI_t c_11).symm | exact (bI_f (fun q => q c_11)).symm | exact (bI_f (fun q => q (Decidable.not_not.mp c_11))).symm) (Nat.le_of_ble_eq_true rfl) (Nat.le_of_ble_eq_true rfl) dJ24_hasNext_19
set_option maxHeartbeats 4000000 in
theorem m_J25_hasPrevious (G : zE) (l : Launch) (it : Nat) (lst : Nat) (cu : Nat) (lr : Int32) (mq : Int32) (hh12 : cu ≤ 12) (rest : va_W) : zMi G l yJ25_hasPrevious cJ25_hasPrevious 1 (some .boolean) 0 0 0 [.ref it] ((it, zo 15 [.int (nI cu), .int lr, .int mq, .ref lst, .ref lst]) :: rest) (fun (r : Int32) (_ : Unit) => r = bI (¬ cu = 0)) (fun (_ : Unit) => (it, zo 15 [.int (nI cu), .int lr, .int mq, .ref lst, .ref lst]) :: rest) := by
  refine z_begZ (by decide) (Nat.le_of_ble_eq_true rfl) (fun p e s m args below meth c ls Q hC hl hw hend => ?_)
  have hx := hC.hx
  have hb := hC.hb
  have hl : lv_has ls 1 [(0, .ref it)] := hl
  have hw : zS G ((it, zo 15 [.int (nI cu), .int lr, .int mq, .ref lst, .ref lst]) :: rest) s s.heap [] := hw
  refine lv_aload_n hx hb dJ25_hasPrevious_0 rfl (lv_at hl 0 rfl) ?_
  refine z_getU (v := .int (nI cu)) hC zf_J25_13_15 hw 0 rfl rfl dJ25_hasPrevious_1 ?_
  refine zj_eq (tgt := 11) hx hb (by omega) dJ25_hasPrevious_4 (by decide) (fun c_4 => ?_) (fun c_4 => ?_)
  · skip
    refine lv_iconst (v := (nI 0)) hx hb dJ25_hasPrevious_11 zk_0 ?_
    exact hend _ _ _ _ _ _ _ () rfl hw (by first | exact (bI_t c_4).symm | exact (bI_f (fun q => q c_4)).symm) (Nat.le_of_ble_eq_true rfl) (Nat.le_of_ble_eq_true rfl) dJ25_hasPrevious_12
  · skip
    refine lv_iconst (v := (nI 1)) hx hb dJ25_hasPrevious_7 zk_1 ?_
    refine lv_goto (tgt := 12) hx hb dJ25_hasPrevious_8 (by decide) ?_
    exact hend _ _ _ _ _ _ _ () rfl hw (by first | exact (bI_t c_4).symm | exact (bI_f (fun q => q c_4)).symm) (Nat.le_of_ble_eq_true rfl) (Nat.le_of_ble_eq_true rfl) dJ25_hasPrevious_12
set_option maxHeartbeats 4000000 in
theorem m_J8_checkIndex (G : zE) (l : Launch) (i : Nat) (n : Nat) (hi : i < n) (hn : n < 2147483648) (rest : va_W) : zMi G l yJ8_checkIndex cJ8_checkIndex 3 (some .int) 0 0 0 [.int (nI i), .int (nI n), .null] (rest) (fun (r : Int32) (_ : Unit) => r = nI i) (fun (_ : Unit) => rest) := by
  refine z_begI (by decide) (Nat.le_of_ble_eq_true rfl) (fun p e s m args below meth c ls Q hC hl hw hend => ?_)
  have hx := hC.hx
  have hb := hC.hb
  have hl : lv_has ls 3 [(0, .int (nI i)), (1, .int (nI n)), (2, .null)] := hl
  refine lv_iload_n hx hb dJ8_checkIndex_0 rfl (lv_at hl 0 rfl) ?_
  refine zj_lt (tgt := 9) hx hb (by omega) dJ8_checkIndex_1 (by decide) ?_
  refine lv_iload_n hx hb dJ8_checkIndex_4 rfl (lv_at hl 0 rfl) ?_
  refine lv_iload_n hx hb dJ8_checkIndex_5 rfl (lv_at hl 1 rfl) ?_
  refine zi_lt (tgt := 16) hx hb (by omega) (by omega) dJ8_checkIndex_6 (by decide) (fun _ => ?_) (fun h => absurd h (by omega))
  refine lv_iload_n hx hb dJ8_checkIndex_16 rfl (lv_at hl 0 rfl) ?_
  exact hend _ _ _ _ _ _ _ () hw (by first | rfl | simp_all) (Nat.le_of_ble_eq_true rfl) (Nat.le_of_ble_eq_true rfl) dJ8_checkIndex_17
theorem zs_J12_105 : zSs RJ12 105 yJ8_checkIndex cJ8_checkIndex 3 (some .int) 3 := ⟨lw_S q1351 q410 q62 q411, ⟨by decide +kernel, by decide +kernel⟩, by decide +kernel⟩
set_option maxHeartbeats 4000000 in
theorem m_J12_checkIndex (G : zE) (l : Launch) (i : Nat) (n : Nat) (hi : i < n) (hn : n < 2147483648) (rest : va_W) : zMi G l yJ12_checkIndex cJ12_checkIndex 2 (some .int) 1 0 0 [.int (nI i), .int (nI n)] (rest) (fun (r : Int32) (_ : Unit) => r = nI i) (fun (_ : Unit) => rest) := by
  refine z_begI (by decide) (Nat.le_of_ble_eq_true rfl) (fun p e s m args below meth c ls Q hC hl hw hend => ?_)
  have hx := hC.hx
  have hb := hC.hb
  have hl : lv_has ls 2 [(0, .int (nI i)), (1, .int (nI n))] := hl
  refine lv_iload_n hx hb dJ12_checkIndex_0 rfl (lv_at hl 0 rfl) ?_
  refine lv_iload_n hx hb dJ12_checkIndex_1 rfl (lv_at hl 1 rfl) ?_
  refine lv_null hx hb dJ12_checkIndex_2 ?_
  refine z_ci (z_runS (As := [.int (nI i), .int (nI n), .null]) (rest := []) hC zs_J12_105 (m_J8_checkIndex G l i n (by omega) (by omega) _) hw rfl rfl (Nat.le_of_ble_eq_true rfl) hl.1 ⟨Nat.le_of_ble_eq_true rfl, Nat.le_of_ble_eq_true rfl⟩ ⟨(Nat.le_of_ble_eq_true rfl), (Nat.le_of_ble_eq_true rfl)⟩ dJ12_checkIndex_3) hw (fun _ => List.Perm.refl _) (fun r u H locs hp hw => ?_)
  obtain rfl : r = nI i := hp
  exact hend _ _ _ _ _ _ _ () hw (by first | rfl | simp_all) (Nat.le_of_ble_eq_true rfl) (Nat.le_of_ble_eq_true rfl) dJ12_checkIndex_6
theorem zf_J23_9_14 : zFl 14 1 RJ23 9 false (.array (.object "java/lang/Object")) := ⟨RJ23, TJ23, 3, tyJ23, rfl, by decide, in_J23, q1134, rfl, by decide +kernel, tyJ23_ok, nmJ23⟩
set_option maxHeartbeats 4000000 in
theorem m_J23_elementData (G : zE) (l : Launch) (lst : Nat) (ed : Nat) (n : Nat) (mq : Int32) (cap : Nat) (ef : Nat → Option Nat) (i : Nat) (hi : i < cap) (hc9 : cap ≤ 15) (rest : va_W) : zMq G l yJ23_elementData cJ23_elementData 2 (some (.object "java/lang/Object")) 0 0 0 [.ref lst, .int (nI i)] ((lst, zo 14 [.int mq, .ref ed, .int (nI n)]) :: (ed, zc G 4 (zO cap ef)) :: rest) (fun (r : Option Nat) (_ : Unit) => r = ef i) (fun (_ : Unit) => (lst, zo 14 [.int mq, .ref ed, .int (nI n)]) :: (ed, zc G 4 (zO cap ef)) :: rest) := by
  refine z_begQ (by first | exact Or.inl ⟨_, rfl⟩ | exact Or.inr ⟨_, rfl⟩) (by decide) (Nat.le_of_ble_eq_true rfl) (fun p e s m args below meth c ls Q hC hl hw hend => ?_)
  have hx := hC.hx
  have hb := hC.hb
  have hl : lv_has ls 2 [(0, .ref lst), (1, .int (nI i))] := hl
  have hw : zS G ((lst, zo 14 [.int mq, .ref ed, .int (nI n)]) :: (ed, zc G 4 (zO cap ef)) :: rest) s s.heap [] := hw
  refine lv_aload_n hx hb dJ23_elementData_0 rfl (lv_at hl 0 rfl) ?_
  refine z_get (v := .ref ed) hC zf_J23_9_14 hw 0 rfl rfl dJ23_elementData_1 ?_
  refine lv_iload_n hx hb dJ23_elementData_4 rfl (lv_at hl 1 rfl) ?_
  refine z_aald (x := va_rf (ef i)) (t := 4) hC hw 1 rfl (fun _ => rfl) (by omega) (by omega) rfl dJ23_elementData_5 ?_
  exact hend _ _ _ _ _ _ (ef i) () hw rfl (Nat.le_of_ble_eq_true rfl) (Nat.le_of_ble_eq_true rfl) dJ23_elementData_6
theorem zs_J23_118 : zSs RJ23 118 yJ12_checkIndex cJ12_checkIndex 2 (some .int) 2 := ⟨lw_S q1348 q1349 q66 q1350, ⟨by decide +kernel, by decide +kernel⟩, by decide +kernel⟩
theorem zv_J23_123 : zVs RJ23 123 yJ23_elementData cJ23_elementData 2 (some (.object "java/lang/Object")) 1 := ⟨lw_V q1352 q1353 q1354 q85 q1355, ⟨by decide +kernel, by decide +kernel⟩, by decide +kernel⟩
set_option maxHeartbeats 4000000 in
theorem m_J23_get (G : zE) (l : Launch) (lst : Nat) (ed : Nat) (n : Nat) (mq : Int32) (cap : Nat) (ef : Nat → Option Nat) (i : Nat) (hi : i < n) (hn : n ≤ cap) (hc9 : cap ≤ 15) (rest : va_W) : zMq G l yJ23_get cJ23_get 2 (some (.object "java/lang/Object")) 2 0 0 [.ref lst, .int (nI i)] ((lst, zo 14 [.int mq, .ref ed, .int (nI n)]) :: (ed, zc G 4 (zO cap ef)) :: rest) (fun (r : Option Nat) (_ : Unit) => r = ef i) (fun (_ : Unit) => (lst, zo 14 [.int mq, .ref ed, .int (nI n)]) :: (ed, zc G 4 (zO cap ef)) :: rest) := by
  refine z_begQ (by first | exact Or.inl ⟨_, rfl⟩ | exact Or.inr ⟨_, rfl⟩) (by decide) (Nat.le_of_ble_eq_true rfl) (fun p e s m args below meth c ls Q hC hl hw hend => ?_)
  have hx := hC.hx
  have hb := hC.hb
  have hl : lv_has ls 2 [(0, .ref lst), (1, .int (nI i))] := hl
  have hw : zS G ((lst, zo 14 [.int mq, .ref ed, .int (nI n)]) :: (ed, zc G 4 (zO cap ef)) :: rest) s s.heap [] := hw
  refine lv_iload_n hx hb dJ23_get_0 rfl (lv_at hl 1 rfl) ?_
  refine lv_aload_n hx hb dJ23_get_1 rfl (lv_at hl 0 rfl) ?_
  refine z_get (v := .int (nI n)) hC zf_J23_48_14 hw 0 rfl rfl dJ23_get_2 ?_
  refine z_ci (z_runS (As := [.int (nI i), .int (nI n)]) (rest := []) hC zs_J23_118 (m_J12_checkIndex G l i n (by omega) (by omega) _) hw rfl rfl (Nat.le_of_ble_eq_true rfl) hl.1 ⟨Nat.le_of_ble_eq_true rfl, Nat.le_of_ble_eq_true rfl⟩ ⟨(Nat.le_of_ble_eq_true rfl), (Nat.le_of_ble_eq_true rfl)⟩ dJ23_get_5) hw (fun _ => List.Perm.refl _) (fun r u H locs hp hw => ?_)
  obtain rfl : r = nI i := hp
  refine lv_pop hx hb dJ23_get_8 rfl ?_
  refine lv_aload_n hx hb dJ23_get_9 rfl (lv_at hl 0 rfl) ?_
  refine lv_iload_n hx hb dJ23_get_10 rfl (lv_at hl 1 rfl) ?_
  refine z_cq (z_runV (As := [.int (nI i)]) (rest := []) hC zv_J23_123 (m_J23_elementData G l lst ed n mq cap ef i (by omega) (by omega) (zrem [0, 1] _)) hw (hw.perm (z_cut (is := [0, 1]) (cells := [(lst, zo 14 [.int mq, .ref ed, .int (nI n)]), (ed, zc G 4 (zO cap ef))]) rfl rfl)) 0 rfl rfl rfl rfl rfl (Nat.le_of_ble_eq_true rfl) hl.1 ⟨Nat.le_of_ble_eq_true rfl, Nat.le_of_ble_eq_true rfl⟩ ⟨(Nat.le_of_ble_eq_true rfl), (Nat.le_of_ble_eq_true rfl)⟩ dJ23_get_11) hw (fun _ => z_keep (is := [0, 1]) (cs := [(lst, zo 14 [.int mq, .ref ed, .int (nI n)]), (ed, zc G 4 (zO cap ef))]) rfl rfl) (fun r u H locs hp hw => ?_)
  obtain rfl : r = ef i := hp
  exact hend _ _ _ _ _ _ (ef i) () hw rfl (Nat.le_of_ble_eq_true rfl) (Nat.le_of_ble_eq_true rfl) dJ23_get_14
theorem zf_J24_17_14 : zFu 14 0 RJ24 17 false .int := ⟨RJ23, TJ23, 3, tyJ23, rfl, by decide, in_J23, ⟨_, q580, Or.inr q581⟩, rfl, by decide +kernel, tyJ23_ok⟩
theorem zf_J24_22_15 : zFu 15 2 RJ24 22 false .int := ⟨RJ25, TJ25, 5, tyJ25, rfl, by decide, in_J25, ⟨_, q1170, Or.inl rfl⟩, rfl, by decide +kernel, tyJ25_ok⟩
set_option maxHeartbeats 4000000 in
theorem m_J24_checkForComodification (G : zE) (l : Launch) (kA : Nat → Nat) (hG : zG G kA) (lst : Nat) (ed : Nat) (n : Nat) (mq : Int32) (it : Nat) (cv : Int32) (lr : Int32) (rest : va_W) : zMv G l yJ24_checkForComodification cJ24_checkForComodification 1 0 0 0 [.ref it] ((lst, zo 14 [.int mq, .ref ed, .int (nI n)]) :: (it, zo 15 [.int cv, .int lr, .int mq, .ref lst, .ref lst]) :: rest) (fun (_ : Unit) => True) (fun (_ : Unit) => (lst, zo 14 [.int mq, .ref ed, .int (nI n)]) :: (it, zo 15 [.int cv, .int lr, .int mq, .ref lst, .ref lst]) :: rest) := by
  refine z_begV (by decide) (Nat.le_of_ble_eq_true rfl) (fun p e s m args below meth c ls Q hC hnm hl hw hend => ?_)
  have hx := hC.hx
  have hb := hC.hb
  have hl : lv_has ls 1 [(0, .ref it)] := hl
  have hw : zS G ((lst, zo 14 [.int mq, .ref ed, .int (nI n)]) :: (it, zo 15 [.int cv, .int lr, .int mq, .ref lst, .ref lst]) :: rest) s s.heap [] := hw
  have hz := hG s hC.hZ.1
  refine lv_aload_n hx hb dJ24_checkForComodification_0 rfl (lv_at hl 0 rfl) ?_
  refine z_getU (v := .ref lst) hC zf_J24_1_15 hw 1 rfl rfl dJ24_checkForComodification_1 ?_
  refine z_getU (v := .int mq) hC zf_J24_17_14 hw 0 rfl rfl dJ24_checkForComodification_4 ?_
  refine lv_aload_n hx hb dJ24_checkForComodification_7 rfl (lv_at hl 0 rfl) ?_
  refine z_getU (v := .int mq) hC zf_J24_22_15 hw 1 rfl rfl dJ24_checkForComodification_8 ?_
  refine lv_icmp_eq (tgt := 22) hx hb dJ24_checkForComodification_11 (by decide) (fun _ => ?_) (fun h => absurd rfl h)
  exact hend _ _ _ _ _ _ () hw trivial (Nat.le_of_ble_eq_true rfl) (Nat.le_of_ble_eq_true rfl) dJ24_checkForComodification_22
theorem zn_J24_checkForComodification : zNs yJ24_checkForComodification cJ24_checkForComodification 1 none 0 := ⟨q1525, q86, ⟨by decide +kernel, by decide +kernel⟩, by decide +kernel⟩
theorem zf_J24_37_14 : zFl 14 1 RJ24 37 false (.array (.object "java/lang/Object")) := ⟨RJ23, TJ23, 3, tyJ23, rfl, by decide, in_J23, q1135, rfl, by decide +kernel, tyJ23_ok, nmJ23⟩
theorem zf_J24_13_15 : zFu 15 1 RJ24 13 false .int := ⟨RJ25, TJ25, 5, tyJ25, rfl, by decide, in_J25, ⟨_, q1167, Or.inl rfl⟩, rfl, by decide +kernel, tyJ25_ok⟩
set_option maxHeartbeats 4000000 in
theorem m_J24_next (G : zE) (l : Launch) (kA : Nat → Nat) (hG : zG G kA) (lst : Nat) (ed : Nat) (n : Nat) (mq : Int32) (cap : Nat) (ef : Nat → Option Nat) (it : Nat) (cu : Nat) (lr : Int32) (hh12 : cu < n) (hn : n ≤ cap) (hc9 : cap ≤ 15) (rest : va_W) : zMq G l yJ24_next cJ24_next 3 (some (.object "java/lang/Object")) 2 0 0 [.ref it] ((lst, zo 14 [.int mq, .ref ed, .int (nI n)]) :: (it, zo 15 [.int (nI cu), .int lr, .int mq, .ref lst, .ref lst]) :: (ed, zc G 4 (zO cap ef)) :: rest) (fun (r : Option Nat) (_ : Unit) => r = ef cu) (fun (_ : Unit) => (lst, zo 14 [.int mq, .ref ed, .int (nI n)]) :: (it, zo 15 [.int (nI (cu + 1)), .int (nI cu), .int mq, .ref lst, .ref lst]) :: (ed, zc G 4 (zO cap ef)) :: rest) := by
  refine z_begQ (by first | exact Or.inl ⟨_, rfl⟩ | exact Or.inr ⟨_, rfl⟩) (by decide) (Nat.le_of_ble_eq_true rfl) (fun p e s m args below meth c ls Q hC hl hw hend => ?_)
  have hx := hC.hx
  have hb := hC.hb
  have hl : lv_has ls 3 [(0, .ref it)] := hl
  have hw : zS G ((lst, zo 14 [.int mq, .ref ed, .int (nI n)]) :: (it, zo 15 [.int (nI cu), .int lr, .int mq, .ref lst, .ref lst]) :: (ed, zc G 4 (zO cap ef)) :: rest) s s.heap [] := hw
  have hz := hG s hC.hZ.1
  refine lv_aload_n hx hb dJ24_next_0 rfl (lv_at hl 0 rfl) ?_
  refine z_cv (z_runB (x := (⟨"java/util/ArrayList$Itr", "checkForComodification", "()V"⟩ : MethodName)) (owner := "java/util/ArrayList$Itr") (C := "java/util/ArrayList$ListItr") (n := 0) (As := []) (rest := []) hC ⟨zn_J24_checkForComodification, q1524, q2190, ⟨by decide +kernel, by decide +kernel⟩, by decide +kernel⟩ (hC.hts _ q1546) (hC.hts _ q2189) (z_declO hC q1524 q1525) (m_J24_checkForComodification G l kA (by first | assumption | (omega)) lst ed n mq it (nI cu) lr (zrem [0, 1] _)) hw (hw.perm (z_cut (is := [0, 1]) (cells := [(lst, zo 14 [.int mq, .ref ed, .int (nI n)]), (it, zo 15 [.int (nI cu), .int lr, .int mq, .ref lst, .ref lst])]) rfl rfl)) 1 rfl rfl rfl rfl rfl (Nat.le_of_ble_eq_true rfl) hl.1 ⟨Nat.le_of_ble_eq_true rfl, Nat.le_of_ble_eq_true rfl⟩ ⟨(Nat.le_of_ble_eq_true rfl), (Nat.le_of_ble_eq_true rfl)⟩ dJ24_next_1) hw (fun _ => z_keep (is := [0, 1]) (cs := [(lst, zo 14 [.int mq, .ref ed, .int (nI n)]), (it, zo 15 [.int (nI cu), .int lr, .int mq, .ref lst, .ref lst])]) rfl rfl) (fun u H locs hp hw => ?_)
  refine lv_aload_n hx hb dJ24_next_4 rfl (lv_at hl 0 rfl) ?_
  refine z_getU (v := .int (nI cu)) hC zf_J24_25_15 hw 1 rfl rfl dJ24_next_5 ?_
  refine lv_istore_n (lv' := [(1, .int (nI cu)), (0, .ref it)]) hx hb dJ24_next_8 rfl hl (by decide) rfl (fun ls hl => ?_)
  refine lv_iload_n hx hb dJ24_next_9 rfl (lv_at hl 0 rfl) ?_
  refine lv_aload_n hx hb dJ24_next_10 rfl (lv_at hl 1 rfl) ?_
  refine z_getU (v := .ref lst) hC zf_J24_1_15 hw 1 rfl rfl dJ24_next_11 ?_
  refine z_getN (v := .int (nI n)) (k := 2) hC (show zcl[14]? = some (RJ23, TJ23, 3) from rfl) in_J23 (by decide) rfl rfl rfl (hz.1 _ (cw_t q1137 rfl)) hw 0 rfl rfl dJ24_next_14 ?_
  refine zi_lt (tgt := 28) hx hb (by omega) (by omega) dJ24_next_17 (by decide) (fun _ => ?_) (fun h => absurd h (by omega))
  refine lv_aload_n hx hb dJ24_next_28 rfl (lv_at hl 1 rfl) ?_
  refine z_getU (v := .ref lst) hC zf_J24_1_15 hw 1 rfl rfl dJ24_next_29 ?_
  refine z_get (v := .ref ed) hC zf_J24_37_14 hw 0 rfl rfl dJ24_next_32 ?_
  refine lv_astore_n (lv' := [(2, .ref ed), (1, .int (nI cu)), (0, .ref it)]) hx hb dJ24_next_35 rfl hl (by decide) rfl (fun ls hl => ?_)
  refine lv_iload_n hx hb dJ24_next_36 rfl (lv_at hl 1 rfl) ?_
  refine lv_aload_n hx hb dJ24_next_37 rfl (lv_at hl 0 rfl) ?_
  refine z_alen (t := 4) hC hw 2 rfl (fun _ => rfl) dJ24_next_38 ?_
  show W p l e (zR 2 0 0) s m args below meth c H locs 0 0 Q (F0 m 39 ls [.int (nI cap), .int (nI cu)])
  refine zi_lt (tgt := 50) hx hb (by omega) (by omega) dJ24_next_39 (by decide) (fun _ => ?_) (fun h => absurd h (by omega))
  refine lv_aload_n hx hb dJ24_next_50 rfl (lv_at hl 2 rfl) ?_
  refine lv_iload_n hx hb dJ24_next_51 rfl (lv_at hl 1 rfl) ?_
  refine lv_iconst (v := (nI 1)) hx hb dJ24_next_52 zk_1 ?_
  refine zn_iadd hx hb dJ24_next_53 ?_
  refine z_putU hC zf_J24_25_15 (fun q h => by cases h; decide +kernel) hw 1 rfl (Nat.le_of_ble_eq_true rfl) dJ24_next_54 (fun H locs hw => ?_)
  have hw : zS G ((lst, zo 14 [.int mq, .ref ed, .int (nI n)]) :: (it, zo 15 [.int (nI (cu + 1)), .int lr, .int mq, .ref lst, .ref lst]) :: (ed, zc G 4 (zO cap ef)) :: rest) s H locs := hw
  refine lv_aload_n hx hb dJ24_next_57 rfl (lv_at hl 0 rfl) ?_
  refine lv_aload_n hx hb dJ24_next_58 rfl (lv_at hl 2 rfl) ?_
  refine lv_iload_n hx hb dJ24_next_59 rfl (lv_at hl 1 rfl) ?_
  refine lv_dup_x1 hx hb dJ24_next_60 rfl rfl ?_
  refine z_putU hC zf_J24_13_15 (fun q h => by cases h; decide +kernel) hw 1 rfl (Nat.le_of_ble_eq_true rfl) dJ24_next_61 (fun H locs hw => ?_)
  have hw : zS G ((lst, zo 14 [.int mq, .ref ed, .int (nI n)]) :: (it, zo 15 [.int (nI (cu + 1)), .int (nI cu), .int mq, .ref lst, .ref lst]) :: (ed, zc G 4 (zO cap ef)) :: rest) s H locs := hw
  refine z_aald (x := va_rf (ef cu)) (t := 4) hC hw 2 rfl (fun _ => rfl) (by omega) (by omega) rfl dJ24_next_64 ?_
  exact hend _ _ _ _ _ _ (ef cu) () hw rfl (Nat.le_of_ble_eq_true rfl) (Nat.le_of_ble_eq_true rfl) dJ24_next_65
theorem zf_J25_1_15 : zFu 15 4 RJ25 1 true (.object "java/util/ArrayList") := ⟨RJ25, TJ25, 5, tyJ25, rfl, by decide, in_J25, ⟨_, q1163, Or.inl rfl⟩, rfl, by decide +kernel, tyJ25_ok⟩
theorem zf_J25_25_14 : zFl 14 1 RJ25 25 false (.array (.object "java/lang/Object")) := ⟨RJ23, TJ23, 3, tyJ23, rfl, by decide, in_J23, q1136, rfl, by decide +kernel, tyJ23_ok, nmJ23⟩
theorem zf_J25_34_15 : zFu 15 1 RJ25 34 false .int := ⟨RJ25, TJ25, 5, tyJ25, rfl, by decide, in_J25, ⟨_, q1168, Or.inr q1169⟩, rfl, by decide +kernel, tyJ25_ok⟩
set_option maxHeartbeats 4000000 in
theorem m_J25_previous (G : zE) (l : Launch) (kA : Nat → Nat) (hG : zG G kA) (lst : Nat) (ed : Nat) (n : Nat) (mq : Int32) (cap : Nat) (ef : Nat → Option Nat) (it : Nat) (cu : Nat) (lr : Int32) (hh0 : 0 < cu) (hh12 : cu ≤ n) (hn : n ≤ cap) (hc9 : cap ≤ 15) (rest : va_W) : zMq G l yJ25_previous cJ25_previous 3 (some (.object "java/lang/Object")) 2 0 0 [.ref it] ((lst, zo 14 [.int mq, .ref ed, .int (nI n)]) :: (it, zo 15 [.int (nI cu), .int lr, .int mq, .ref lst, .ref lst]) :: (ed, zc G 4 (zO cap ef)) :: rest) (fun (r : Option Nat) (_ : Unit) => r = ef (cu - 1)) (fun (_ : Unit) => (lst, zo 14 [.int mq, .ref ed, .int (nI n)]) :: (it, zo 15 [.int (nI (cu - 1)), .int (nI (cu - 1)), .int mq, .ref lst, .ref lst]) :: (ed, zc G 4 (zO cap ef)) :: rest) := by
  refine z_begQ (by first | exact Or.inl ⟨_, rfl⟩ | exact Or.inr ⟨_, rfl⟩) (by decide) (Nat.le_of_ble_eq_true rfl) (fun p e s m args below meth c ls Q hC hl hw hend => ?_)
  have hx := hC.hx
  have hb := hC.hb
  have hl : lv_has ls 3 [(0, .ref it)] := hl
  have hw : zS G ((lst, zo 14 [.int mq, .ref ed, .int (nI n)]) :: (it, zo 15 [.int (nI cu), .int lr, .int mq, .ref lst, .ref lst]) :: (ed, zc G 4 (zO cap ef)) :: rest) s s.heap [] := hw
  have hz := hG s hC.hZ.1
  refine lv_aload_n hx hb dJ25_previous_0 rfl (lv_at hl 0 rfl) ?_
  refine z_cv (z_runB (x := (⟨"java/util/ArrayList$ListItr", "checkForComodification", "()V"⟩ : MethodName)) (owner := "java/util/ArrayList$Itr") (C := "java/util/ArrayList$ListItr") (n := 0) (As := []) (rest := []) hC ⟨zn_J24_checkForComodification, q1524, q2190, ⟨by decide +kernel, by decide +kernel⟩, by decide +kernel⟩ (hC.hts _ q1520) (hC.hts _ q1521) (z_declO hC q1524 q1525) (m_J24_checkForComodification G l kA (by first | assumption | (omega)) lst ed n mq it (nI cu) lr (zrem [0, 1] _)) hw (hw.perm (z_cut (is := [0, 1]) (cells := [(lst, zo 14 [.int mq, .ref ed, .int (nI n)]), (it, zo 15 [.int (nI cu), .int lr, .int mq, .ref lst, .ref lst])]) rfl rfl)) 1 rfl rfl rfl rfl rfl (Nat.le_of_ble_eq_true rfl) hl.1 ⟨Nat.le_of_ble_eq_true rfl, Nat.le_of_ble_eq_true rfl⟩ ⟨(Nat.le_of_ble_eq_true rfl), (Nat.le_of_ble_eq_true rfl)⟩ dJ25_previous_1) hw (fun _ => z_keep (is := [0, 1]) (cs := [(lst, zo 14 [.int mq, .ref ed, .int (nI n)]), (it, zo 15 [.int (nI cu), .int lr, .int mq, .ref lst, .ref lst])]) rfl rfl) (fun u H locs hp hw => ?_)
  refine lv_aload_n hx hb dJ25_previous_4 rfl (lv_at hl 0 rfl) ?_
  refine z_getU (v := .int (nI cu)) hC zf_J25_13_15 hw 1 rfl rfl dJ25_previous_5 ?_
  refine lv_iconst (v := (nI 1)) hx hb dJ25_previous_8 zk_1 ?_
  refine zn_isub hx hb (by omega) dJ25_previous_9 ?_
  refine lv_istore_n (lv' := [(1, .int (nI (cu - 1))), (0, .ref it)]) hx hb dJ25_previous_10 rfl hl (by decide) rfl (fun ls hl => ?_)
  refine lv_iload_n hx hb dJ25_previous_11 rfl (lv_at hl 0 rfl) ?_
  refine zj_ge (tgt := 23) hx hb (by omega) dJ25_previous_12 (by decide) ?_
  refine lv_aload_n hx hb dJ25_previous_23 rfl (lv_at hl 1 rfl) ?_
  refine z_getU (v := .ref lst) hC zf_J25_1_15 hw 1 rfl rfl dJ25_previous_24 ?_
  refine z_get (v := .ref ed) hC zf_J25_25_14 hw 0 rfl rfl dJ25_previous_27 ?_
  refine lv_astore_n (lv' := [(2, .ref ed), (1, .int (nI (cu - 1))), (0, .ref it)]) hx hb dJ25_previous_30 rfl hl (by decide) rfl (fun ls hl => ?_)
  refine lv_iload_n hx hb dJ25_previous_31 rfl (lv_at hl 1 rfl) ?_
  refine lv_aload_n hx hb dJ25_previous_32 rfl (lv_at hl 0 rfl) ?_
  refine z_alen (t := 4) hC hw 2 rfl (fun _ => rfl) dJ25_previous_33 ?_
  show W p l e (zR 2 0 0) s m args below meth c H locs 0 0 Q (F0 m 34 ls [.int (nI cap), .int (nI (cu - 1))])
  refine zi_lt (tgt := 45) hx hb (by omega) (by omega) dJ25_previous_34 (by decide) (fun _ => ?_) (fun h => absurd h (by omega))
  refine lv_aload_n hx hb dJ25_previous_45 rfl (lv_at hl 2 rfl) ?_
  refine lv_iload_n hx hb dJ25_previous_46 rfl (lv_at hl 1 rfl) ?_
  refine z_putU hC zf_J25_13_15 (fun q h => by cases h; decide +kernel) hw 1 rfl (Nat.le_of_ble_eq_true rfl) dJ25_previous_47 (fun H locs hw => ?_)
  have hw : zS G ((lst, zo 14 [.int mq, .ref ed, .int (nI n)]) :: (it, zo 15 [.int (nI (cu - 1)), .int lr, .int mq, .ref lst, .ref lst]) :: (ed, zc G 4 (zO cap ef)) :: rest) s H locs := hw
  refine lv_aload_n hx hb dJ25_previous_50 rfl (lv_at hl 0 rfl) ?_
  refine lv_aload_n hx hb dJ25_previous_51 rfl (lv_at hl 2 rfl) ?_
  refine lv_iload_n hx hb dJ25_previous_52 rfl (lv_at hl 1 rfl) ?_
  refine lv_dup_x1 hx hb dJ25_previous_53 rfl rfl ?_
  refine z_putU hC zf_J25_34_15 (fun q h => by cases h; decide +kernel) hw 1 rfl (Nat.le_of_ble_eq_true rfl) dJ25_previous_54 (fun H locs hw => ?_)
  have hw : zS G ((lst, zo 14 [.int mq, .ref ed, .int (nI n)]) :: (it, zo 15 [.int (nI (cu - 1)), .int (nI (cu - 1)), .int mq, .ref lst, .ref lst]) :: (ed, zc G 4 (zO cap ef)) :: rest) s H locs := hw
  refine z_aald (x := va_rf (ef (cu - 1))) (t := 4) hC hw 2 rfl (fun _ => rfl) (by omega) (by omega) rfl dJ25_previous_57 ?_
  exact hend _ _ _ _ _ _ (ef (cu - 1)) () hw rfl (Nat.le_of_ble_eq_true rfl) (Nat.le_of_ble_eq_true rfl) dJ25_previous_58
set_option maxHeartbeats 4000000 in
theorem m_J23_rangeCheckForAdd (G : zE) (l : Launch) (lst : Nat) (ed : Nat) (n : Nat) (mq : Int32) (i : Nat) (hi : i ≤ n) (hn12 : n ≤ 12) (rest : va_W) : zMv G l yJ23_rangeCheckForAdd cJ23_rangeCheckForAdd 2 0 0 0 [.ref lst, .int (nI i)] ((lst, zo 14 [.int mq, .ref ed, .int (nI n)]) :: rest) (fun (_ : Unit) => True) (fun (_ : Unit) => (lst, zo 14 [.int mq, .ref ed, .int (nI n)]) :: rest) := by
  refine z_begV (by decide) (Nat.le_of_ble_eq_true rfl) (fun p e s m args below meth c ls Q hC hnm hl hw hend => ?_)
  have hx := hC.hx
  have hb := hC.hb
  have hl : lv_has ls 2 [(0, .ref lst), (1, .int (nI i))] := hl
  have hw : zS G ((lst, zo 14 [.int mq, .ref ed, .int (nI n)]) :: rest) s s.heap [] := hw
  refine lv_iload_n hx hb dJ23_rangeCheckForAdd_0 rfl (lv_at hl 1 rfl) ?_
  refine lv_aload_n hx hb dJ23_rangeCheckForAdd_1 rfl (lv_at hl 0 rfl) ?_
  refine z_get (v := .int (nI n)) hC zf_J23_48_14 hw 0 rfl rfl dJ23_rangeCheckForAdd_2 ?_
  refine zi_gt (tgt := 12) hx hb (by omega) (by omega) dJ23_rangeCheckForAdd_5 (by decide) (fun h => absurd h (by omega)) (fun _ => ?_)
  refine lv_iload_n hx hb dJ23_rangeCheckForAdd_8 rfl (lv_at hl 1 rfl) ?_
  refine zj_ge (tgt := 25) hx hb (by omega) dJ23_rangeCheckForAdd_9 (by decide) ?_
  exact hend _ _ _ _ _ _ () hw trivial (Nat.le_of_ble_eq_true rfl) (Nat.le_of_ble_eq_true rfl) dJ23_rangeCheckForAdd_25
set_option maxHeartbeats 4000000 in
theorem m_J5_newLength (G : zE) (l : Launch) (a : Nat) (b : Nat) (c9 : Nat) (ha : a ≤ 100) (hb9 : b ≤ 100) (hc9 : c9 ≤ 100) (h0 : 0 < a) (rest : va_W) : zMi G l yJ5_newLength cJ5_newLength 4 (some .int) 1 0 0 [.int (nI a), .int (nI b), .int (nI c9)] (rest) (fun (r : Int32) (_ : Unit) => r = nI (a + max b c9)) (fun (_ : Unit) => rest) := by
  refine z_begI (by decide) (Nat.le_of_ble_eq_true rfl) (fun p e s m args below meth c ls Q hC hl hw hend => ?_)
  have hx := hC.hx
  have hb := hC.hb
  have hl : lv_has ls 4 [(0, .int (nI a)), (1, .int (nI b)), (2, .int (nI c9))] := hl
  refine lv_iload_n hx hb dJ5_newLength_0 rfl (lv_at hl 0 rfl) ?_
  refine lv_iload_n hx hb dJ5_newLength_1 rfl (lv_at hl 1 rfl) ?_
  refine lv_iload_n hx hb dJ5_newLength_2 rfl (lv_at hl 2 rfl) ?_
  refine z_mmax (v := nI (max b c9)) hC hl.1 q337 zm_max (zm_max_d (by omega) (by omega)) (Nat.le_of_ble_eq_true rfl) ⟨Nat.le_of_ble_eq_true rfl, Nat.le_of_ble_eq_true rfl⟩ (Nat.le_of_ble_eq_true rfl) (Nat.le_of_ble_eq_true rfl) dJ5_newLength_3 ?_
  refine zn_iadd hx hb dJ5_newLength_6 ?_
  refine lv_istore_n (lv' := [(3, .int (nI (a + (max b c9)))), (0, .int (nI a)), (1, .int (nI b)), (2, .int (nI c9))]) hx hb dJ5_newLength_7 rfl hl (by decide) rfl (fun ls hl => ?_)
  refine lv_iconst (v := (nI 0)) hx hb dJ5_newLength_8 zk_0 ?_
  refine lv_iload_n hx hb dJ5_newLength_9 rfl (lv_at hl 0 rfl) ?_
  refine zi_ge (tgt := 21) hx hb (by decide) (by omega) dJ5_newLength_10 (by decide) (fun h => absurd h (by omega)) (fun _ => ?_)
  refine lv_iload_n hx hb dJ5_newLength_13 rfl (lv_at hl 0 rfl) ?_
  refine lv_ldc (v := (nI 2147483639)) hx hb hC.hown (hC.hts _ q340) dJ5_newLength_14 ?_
  refine zi_gt (tgt := 21) hx hb (by omega) (by decide) dJ5_newLength_16 (by decide) (fun h => absurd h (by omega)) (fun _ => ?_)
  refine lv_iload_n hx hb dJ5_newLength_19 rfl (lv_at hl 0 rfl) ?_
  exact hend _ _ _ _ _ _ _ () hw (by first | rfl | simp_all) (Nat.le_of_ble_eq_true rfl) (Nat.le_of_ble_eq_true rfl) dJ5_newLength_20
