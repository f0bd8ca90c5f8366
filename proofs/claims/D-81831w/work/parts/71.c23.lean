/-! LISTS: the iterator -/
set_option maxRecDepth 100000
theorem z_rfcat (r : Option Nat) : (va_rf r).category = 1 := by cases r <;> rfl
theorem zv_J25_46 : zVs RJ25 46 yJ23_add cJ23_add 5 none 2 := ⟨lw_V q1667 q1622 q2191 q85 q1623, ⟨by decide +kernel, by decide +kernel⟩, by decide +kernel⟩
theorem zf_J25_50_14 : zFu 14 0 RJ25 50 false .int := ⟨RJ23, TJ23, 3, tyJ23, rfl, by decide, in_J23, ⟨_, q584, Or.inr q581⟩, rfl, by decide +kernel, tyJ23_ok⟩
theorem zf_J25_53_15 : zFu 15 2 RJ25 53 false .int := ⟨RJ25, TJ25, 5, tyJ25, rfl, by decide, in_J25, ⟨_, q1171, Or.inr q1172⟩, rfl, by decide +kernel, tyJ25_ok⟩
set_option maxHeartbeats 4000000 in
theorem m_J25_add_0 (G : zE) (l : Launch) (kA : Nat → Nat) (hG : zG G kA) (hV : zV G kA) (lst : Nat) (it : Nat) (x : Nat) (mq : Int32) (lr : Int32) (ef : Nat → Option Nat) (X : va_W) (Y : va_W) (hxk : elOk kA (X ++ Y) x) (rest : va_W) : zWv G l yJ25_add cJ25_add 3 [(4, 41, 44, 44)] 8 1 15 [.ref it, .ref x] ((lst, zo 14 [.int mq, .ref (kA 5), .int (nI 0)]) :: (it, zo 15 [.int (nI 0), .int lr, .int mq, .ref lst, .ref lst]) :: (X ++ (Y ++ rest))) (fun u => (∀ j, j < 0 + 1 → u.2.2 j = insF ef 0 (some x) j) ∧ 0 + 1 ≤ u.2.1 ∧ (u.2.1 = 10 ∨ u.2.1 = 15)) (fun (u : Nat × Nat × (Nat → Option Nat)) => (u.1, zc G 4 (zO u.2.1 u.2.2)) :: (lst, zo 14 [.int (mq + (nI 1)), .ref u.1, .int (nI (0 + 1))]) :: (it, zo 15 [.int (nI 1), .int (-1), .int (mq + (nI 1)), .ref lst, .ref lst]) :: (X ++ (Y ++ rest))) := by
  refine z_begVW (by decide) (Nat.le_of_ble_eq_true rfl) (fun p e s m args below meth c ls Q hC htb hnm hl hw hend => ?_)
  have hx := hC.hx
  have hb := hC.hb
  have hl : lv_has ls 3 [(0, .ref it), (1, .ref x)] := hl
  have hw : zS G ((lst, zo 14 [.int mq, .ref (kA 5), .int (nI 0)]) :: (it, zo 15 [.int (nI 0), .int lr, .int mq, .ref lst, .ref lst]) :: (X ++ (Y ++ rest))) s s.heap [] := hw
  have hz := hG s hC.hZ.1
  have hzv := hV s hC.hZ.1
  refine lv_aload_n hx hb dJ25_add_0 rfl (lv_at hl 0 rfl) ?_
  refine z_cv (z_runB (x := (⟨"java/util/ArrayList$ListItr", "checkForComodification", "()V"⟩ : MethodName)) (owner := "java/util/ArrayList$Itr") (C := "java/util/ArrayList$ListItr") (n := 0) (As := []) (rest := []) hC ⟨zn_J24_checkForComodification, q1524, q2190, ⟨by decide +kernel, by decide +kernel⟩, by decide +kernel⟩ (hC.hts _ q1520) (hC.hts _ q1521) (z_declO hC q1524 q1525) (m_J24_checkForComodification G l kA (by first | assumption | (omega)) lst (kA 5) 0 mq it (nI 0) lr (zrem [0, 1] _)) hw (hw.perm (z_cut (is := [0, 1]) (cells := [(lst, zo 14 [.int mq, .ref (kA 5), .int (nI 0)]), (it, zo 15 [.int (nI 0), .int lr, .int mq, .ref lst, .ref lst])]) rfl rfl)) 1 rfl rfl rfl rfl rfl (Nat.le_of_ble_eq_true rfl) hl.1 ⟨Nat.le_of_ble_eq_true rfl, Nat.le_of_ble_eq_true rfl⟩ ⟨(Nat.le_of_ble_eq_true rfl), (Nat.le_of_ble_eq_true rfl)⟩ dJ25_add_1) hw (fun _ => z_keep (is := [0, 1]) (cs := [(lst, zo 14 [.int mq, .ref (kA 5), .int (nI 0)]), (it, zo 15 [.int (nI 0), .int lr, .int mq, .ref lst, .ref lst])]) rfl rfl) (fun u H locs hp hw => ?_)
  refine lv_aload_n hx hb dJ25_add_4 rfl (lv_at hl 0 rfl) ?_
  refine z_getU (v := .int (nI 0)) hC zf_J25_13_15 hw 1 rfl rfl dJ25_add_5 ?_
  refine lv_istore_n (lv' := [(2, .int (nI 0)), (0, .ref it), (1, .ref x)]) hx hb dJ25_add_8 rfl hl (by decide) rfl (fun ls hl => ?_)
  refine lv_aload_n hx hb dJ25_add_9 rfl (lv_at hl 1 rfl) ?_
  refine z_getU (v := .ref lst) hC zf_J25_1_15 hw 1 rfl rfl dJ25_add_10 ?_
  refine lv_iload_n hx hb dJ25_add_13 rfl (lv_at hl 0 rfl) ?_
  refine lv_aload_n hx hb dJ25_add_14 rfl (lv_at hl 2 rfl) ?_
  refine z_cv (z_runV (As := [.int (nI 0), .ref x]) (rest := []) hC zv_J25_46 (m_J23_add_0 G l kA (by first | assumption | (omega)) (by first | assumption | (omega)) lst mq ef X Y x hxk (zrem [0] [(lst, zo 14 [.int mq, .ref (kA 5), .int (nI 0)]), (it, zo 15 [.int (nI 0), .int lr, .int mq, .ref lst, .ref lst])] ++ rest)) hw (hw.perm (((((z_mv1 X Y rest).trans (z_mv1 Y X rest))).append_left [(lst, zo 14 [.int mq, .ref (kA 5), .int (nI 0)]), (it, zo 15 [.int (nI 0), .int lr, .int mq, .ref lst, .ref lst])]).trans (z_cutP2 (z_cut (is := [0]) (ws := [(lst, zo 14 [.int mq, .ref (kA 5), .int (nI 0)]), (it, zo 15 [.int (nI 0), .int lr, .int mq, .ref lst, .ref lst])]) (cells := [(lst, zo 14 [.int mq, .ref (kA 5), .int (nI 0)])]) rfl rfl)))) 0 rfl rfl rfl rfl rfl (Nat.le_of_ble_eq_true rfl) hl.1 ⟨Nat.le_of_ble_eq_true rfl, Nat.le_of_ble_eq_true rfl⟩ ⟨(Nat.le_of_ble_eq_true rfl), (Nat.le_of_ble_eq_true rfl)⟩ dJ25_add_15) hw (fun u => (List.Perm.append_left [(u.1, zc G 4 (zO u.2.1 u.2.2))] (z_putP2 (z_pput (is := [0]) (ws := [(lst, zo 14 [.int mq, .ref (kA 5), .int (nI 0)]), (it, zo 15 [.int (nI 0), .int lr, .int mq, .ref lst, .ref lst])]) (cells := [(lst, zo 14 [.int mq, .ref (kA 5), .int (nI 0)])]) (cells' := [(lst, zo 14 [.int (mq + (nI 1)), .ref u.1, .int (nI (0 + 1))])]) rfl rfl rfl))).trans ((((z_mv1 X Y rest).trans (z_mv1 Y X rest))).symm.append_left [(u.1, zc G 4 (zO u.2.1 u.2.2)), (lst, zo 14 [.int (mq + (nI 1)), .ref u.1, .int (nI (0 + 1))]), (it, zo 15 [.int (nI 0), .int lr, .int mq, .ref lst, .ref lst])])) (fun u H locs hp hw => ?_)
  obtain ⟨en, cap7, ef7⟩ := u
  have hw : zS G ((en, zc G 4 (zO cap7 ef7)) :: (lst, zo 14 [.int (mq + (nI 1)), .ref en, .int (nI (0 + 1))]) :: (it, zo 15 [.int (nI 0), .int lr, .int mq, .ref lst, .ref lst]) :: (X ++ (Y ++ rest))) s H locs := hw
  obtain ⟨hnE, hnC, hnD⟩ := hp
  refine lv_aload_n hx hb dJ25_add_18 rfl (lv_at hl 1 rfl) ?_
  refine lv_iload_n hx hb dJ25_add_19 rfl (lv_at hl 0 rfl) ?_
  refine lv_iconst (v := (nI 1)) hx hb dJ25_add_20 zk_1 ?_
  refine zn_iadd hx hb dJ25_add_21 ?_
  refine z_putU hC zf_J25_13_15 (fun q h => by cases h; decide +kernel) hw 2 rfl (Nat.le_of_ble_eq_true rfl) dJ25_add_22 (fun H locs hw => ?_)
  have hw : zS G ((en, zc G 4 (zO cap7 ef7)) :: (lst, zo 14 [.int (mq + (nI 1)), .ref en, .int (nI (0 + 1))]) :: (it, zo 15 [.int (nI 1), .int lr, .int mq, .ref lst, .ref lst]) :: (X ++ (Y ++ rest))) s H locs := hw
  refine lv_aload_n hx hb dJ25_add_25 rfl (lv_at hl 1 rfl) ?_
  refine lv_iconst (v := -1) hx hb dJ25_add_26 zk_m1 ?_
  refine z_putU hC zf_J25_34_15 (fun q h => by cases h; decide +kernel) hw 2 rfl (Nat.le_of_ble_eq_true rfl) dJ25_add_27 (fun H locs hw => ?_)
  have hw : zS G ((en, zc G 4 (zO cap7 ef7)) :: (lst, zo 14 [.int (mq + (nI 1)), .ref en, .int (nI (0 + 1))]) :: (it, zo 15 [.int (nI 1), .int (-1), .int mq, .ref lst, .ref lst]) :: (X ++ (Y ++ rest))) s H locs := hw
  refine lv_aload_n hx hb dJ25_add_30 rfl (lv_at hl 1 rfl) ?_
  refine lv_aload_n hx hb dJ25_add_31 rfl (lv_at hl 1 rfl) ?_
  refine z_getU (v := .ref lst) hC zf_J25_1_15 hw 2 rfl rfl dJ25_add_32 ?_
  refine z_getU (v := .int (mq + (nI 1))) hC zf_J25_50_14 hw 1 rfl rfl dJ25_add_35 ?_
  refine z_putU hC zf_J25_53_15 (fun q h => by cases h; decide +kernel) hw 2 rfl (Nat.le_of_ble_eq_true rfl) dJ25_add_38 (fun H locs hw => ?_)
  have hw : zS G ((en, zc G 4 (zO cap7 ef7)) :: (lst, zo 14 [.int (mq + (nI 1)), .ref en, .int (nI (0 + 1))]) :: (it, zo 15 [.int (nI 1), .int (-1), .int (mq + (nI 1)), .ref lst, .ref lst]) :: (X ++ (Y ++ rest))) s H locs := hw
  refine lv_goto (tgt := 53) hx hb dJ25_add_41 (by decide) ?_
  exact hend _ _ _ _ _ _ (en, cap7, ef7) hw ⟨hnE, hnC, hnD⟩ (Nat.le_of_ble_eq_true rfl) (Nat.le_of_ble_eq_true rfl) dJ25_add_53
set_option maxHeartbeats 4000000 in
theorem m_J25_add_o (G : zE) (l : Launch) (kA : Nat → Nat) (hG : zG G kA) (hV : zV G kA) (lst : Nat) (ed : Nat) (n : Nat) (mq : Int32) (cap : Nat) (ef : Nat → Option Nat) (it : Nat) (cu : Nat) (x : Nat) (lr : Int32) (X : va_W) (Y : va_W) (hxk : elOk kA (X ++ Y) x) (hel : ∀ j, j < n → ∀ y, ef j = some y → elOk kA (X ++ Y) y) (hh12 : cu ≤ n) (hn : n ≤ cap) (hc9 : cap = 10 ∨ cap = 15) (hn12 : n < 12) (rest : va_W) : zWv G l yJ25_add cJ25_add 3 [(4, 41, 44, 44)] 8 1 15 [.ref it, .ref x] ((lst, zo 14 [.int mq, .ref ed, .int (nI n)]) :: (it, zo 15 [.int (nI cu), .int lr, .int mq, .ref lst, .ref lst]) :: (ed, zc G 4 (zO cap ef)) :: (X ++ (Y ++ rest))) (fun u => (∀ j, j < n + 1 → u.2.2 j = insF ef cu (some x) j) ∧ n + 1 ≤ u.2.1 ∧ (u.2.1 = 10 ∨ u.2.1 = 15)) (fun (u : Nat × Nat × (Nat → Option Nat)) => (lst, zo 14 [.int (mq + (nI 1)), .ref u.1, .int (nI (n + 1))]) :: (it, zo 15 [.int (nI (cu + 1)), .int (-1), .int (mq + (nI 1)), .ref lst, .ref lst]) :: (u.1, zc G 4 (zO u.2.1 u.2.2)) :: (X ++ (Y ++ rest))) := by
  refine z_begVW (by decide) (Nat.le_of_ble_eq_true rfl) (fun p e s m args below meth c ls Q hC htb hnm hl hw hend => ?_)
  have hx := hC.hx
  have hb := hC.hb
  have hl : lv_has ls 3 [(0, .ref it), (1, .ref x)] := hl
  have hw : zS G ((lst, zo 14 [.int mq, .ref ed, .int (nI n)]) :: (it, zo 15 [.int (nI cu), .int lr, .int mq, .ref lst, .ref lst]) :: (ed, zc G 4 (zO cap ef)) :: (X ++ (Y ++ rest))) s s.heap [] := hw
  have hz := hG s hC.hZ.1
  have hzv := hV s hC.hZ.1
  refine lv_aload_n hx hb dJ25_add_0 rfl (lv_at hl 0 rfl) ?_
  refine z_cv (z_runB (x := (⟨"java/util/ArrayList$ListItr", "checkForComodification", "()V"⟩ : MethodName)) (owner := "java/util/ArrayList$Itr") (C := "java/util/ArrayList$ListItr") (n := 0) (As := []) (rest := []) hC ⟨zn_J24_checkForComodification, q1524, q2190, ⟨by decide +kernel, by decide +kernel⟩, by decide +kernel⟩ (hC.hts _ q1520) (hC.hts _ q1521) (z_declO hC q1524 q1525) (m_J24_checkForComodification G l kA (by first | assumption | (omega)) lst ed n mq it (nI cu) lr (zrem [0, 1] _)) hw (hw.perm (z_cut (is := [0, 1]) (cells := [(lst, zo 14 [.int mq, .ref ed, .int (nI n)]), (it, zo 15 [.int (nI cu), .int lr, .int mq, .ref lst, .ref lst])]) rfl rfl)) 1 rfl rfl rfl rfl rfl (Nat.le_of_ble_eq_true rfl) hl.1 ⟨Nat.le_of_ble_eq_true rfl, Nat.le_of_ble_eq_true rfl⟩ ⟨(Nat.le_of_ble_eq_true rfl), (Nat.le_of_ble_eq_true rfl)⟩ dJ25_add_1) hw (fun _ => z_keep (is := [0, 1]) (cs := [(lst, zo 14 [.int mq, .ref ed, .int (nI n)]), (it, zo 15 [.int (nI cu), .int lr, .int mq, .ref lst, .ref lst])]) rfl rfl) (fun u H locs hp hw => ?_)
  refine lv_aload_n hx hb dJ25_add_4 rfl (lv_at hl 0 rfl) ?_
  refine z_getU (v := .int (nI cu)) hC zf_J25_13_15 hw 1 rfl rfl dJ25_add_5 ?_
  refine lv_istore_n (lv' := [(2, .int (nI cu)), (0, .ref it), (1, .ref x)]) hx hb dJ25_add_8 rfl hl (by decide) rfl (fun ls hl => ?_)
  refine lv_aload_n hx hb dJ25_add_9 rfl (lv_at hl 1 rfl) ?_
  refine z_getU (v := .ref lst) hC zf_J25_1_15 hw 1 rfl rfl dJ25_add_10 ?_
  refine lv_iload_n hx hb dJ25_add_13 rfl (lv_at hl 0 rfl) ?_
  refine lv_aload_n hx hb dJ25_add_14 rfl (lv_at hl 2 rfl) ?_
  rcases Nat.lt_or_ge n cap with hlt9 | hge9
  · skip
    have hl : lv_has ls 3 [(2, .int (nI cu)), (0, .ref it), (1, .ref x)] := hl
    refine z_cv (z_runV (As := [.int (nI cu), .ref x]) (rest := []) hC zv_J25_46 (m_J23_add_o G l kA (by first | assumption | (omega)) (by first | assumption | (omega)) lst ed n mq cap ef cu x X Y hxk hel hh12 (by omega) hc9 (by omega) (zrem [0, 2] [(lst, zo 14 [.int mq, .ref ed, .int (nI n)]), (it, zo 15 [.int (nI cu), .int lr, .int mq, .ref lst, .ref lst]), (ed, zc G 4 (zO cap ef))] ++ rest)) hw (hw.perm (((((z_mv1 X Y rest).trans (z_mv1 Y X rest))).append_left [(lst, zo 14 [.int mq, .ref ed, .int (nI n)]), (it, zo 15 [.int (nI cu), .int lr, .int mq, .ref lst, .ref lst]), (ed, zc G 4 (zO cap ef))]).trans (z_cutP2 (z_cut (is := [0, 2]) (ws := [(lst, zo 14 [.int mq, .ref ed, .int (nI n)]), (it, zo 15 [.int (nI cu), .int lr, .int mq, .ref lst, .ref lst]), (ed, zc G 4 (zO cap ef))]) (cells := [(lst, zo 14 [.int mq, .ref ed, .int (nI n)]), (ed, zc G 4 (zO cap ef))]) rfl rfl)))) 0 rfl rfl rfl rfl rfl (Nat.le_of_ble_eq_true rfl) hl.1 ⟨Nat.le_of_ble_eq_true rfl, Nat.le_of_ble_eq_true rfl⟩ ⟨(Nat.le_of_ble_eq_true rfl), (Nat.le_of_ble_eq_true rfl)⟩ dJ25_add_15) hw (fun u => (z_putP2 (z_pput (is := [0, 2]) (ws := [(lst, zo 14 [.int mq, .ref ed, .int (nI n)]), (it, zo 15 [.int (nI cu), .int lr, .int mq, .ref lst, .ref lst]), (ed, zc G 4 (zO cap ef))]) (cells := [(lst, zo 14 [.int mq, .ref ed, .int (nI n)]), (ed, zc G 4 (zO cap ef))]) (cells' := [(lst, zo 14 [.int (mq + (nI 1)), .ref u.1, .int (nI (n + 1))]), (u.1, zc G 4 (zO u.2.1 u.2.2))]) rfl rfl rfl)).trans ((((z_mv1 X Y rest).trans (z_mv1 Y X rest))).symm.append_left [(lst, zo 14 [.int (mq + (nI 1)), .ref u.1, .int (nI (n + 1))]), (it, zo 15 [.int (nI cu), .int lr, .int mq, .ref lst, .ref lst]), (u.1, zc G 4 (zO u.2.1 u.2.2))])) (fun u H locs hp hw => ?_)
    obtain ⟨en, cap7, ef7⟩ := u
    have hw : zS G ((lst, zo 14 [.int (mq + (nI 1)), .ref en, .int (nI (n + 1))]) :: (it, zo 15 [.int (nI cu), .int lr, .int mq, .ref lst, .ref lst]) :: (en, zc G 4 (zO cap7 ef7)) :: (X ++ (Y ++ rest))) s H locs := hw
    obtain ⟨hnE, hnC, hnD⟩ := hp
    refine lv_aload_n hx hb dJ25_add_18 rfl (lv_at hl 1 rfl) ?_
    refine lv_iload_n hx hb dJ25_add_19 rfl (lv_at hl 0 rfl) ?_
    refine lv_iconst (v := (nI 1)) hx hb dJ25_add_20 zk_1 ?_
    refine zn_iadd hx hb dJ25_add_21 ?_
    refine z_putU hC zf_J25_13_15 (fun q h => by cases h; decide +kernel) hw 1 rfl (Nat.le_of_ble_eq_true rfl) dJ25_add_22 (fun H locs hw => ?_)
    have hw : zS G ((lst, zo 14 [.int (mq + (nI 1)), .ref en, .int (nI (n + 1))]) :: (it, zo 15 [.int (nI (cu + 1)), .int lr, .int mq, .ref lst, .ref lst]) :: (en, zc G 4 (zO cap7 ef7)) :: (X ++ (Y ++ rest))) s H locs := hw
    refine lv_aload_n hx hb dJ25_add_25 rfl (lv_at hl 1 rfl) ?_
    refine lv_iconst (v := -1) hx hb dJ25_add_26 zk_m1 ?_
    refine z_putU hC zf_J25_34_15 (fun q h => by cases h; decide +kernel) hw 1 rfl (Nat.le_of_ble_eq_true rfl) dJ25_add_27 (fun H locs hw => ?_)
    have hw : zS G ((lst, zo 14 [.int (mq + (nI 1)), .ref en, .int (nI (n + 1))]) :: (it, zo 15 [.int (nI (cu + 1)), .int (-1), .int mq, .ref lst, .ref lst]) :: (en, zc G 4 (zO cap7 ef7)) :: (X ++ (Y ++ rest))) s H locs := hw
    refine lv_aload_n hx hb dJ25_add_30 rfl (lv_at hl 1 rfl) ?_
    refine lv_aload_n hx hb dJ25_add_31 rfl (lv_at hl 1 rfl) ?_
    refine z_getU (v := .ref lst) hC zf_J25_1_15 hw 1 rfl rfl dJ25_add_32 ?_
    refine z_getU (v := .int (mq + (nI 1))) hC zf_J25_50_14 hw 0 rfl rfl dJ25_add_35 ?_
    refine z_putU hC zf_J25_53_15 (fun q h => by cases h; decide +kernel) hw 1 rfl (Nat.le_of_ble_eq_true rfl) dJ25_add_38 (fun H locs hw => ?_)
    have hw : zS G ((lst, zo 14 [.int (mq + (nI 1)), .ref en, .int (nI (n + 1))]) :: (it, zo 15 [.int (nI (cu + 1)), .int (-1), .int (mq + (nI 1)), .ref lst, .ref lst]) :: (en, zc G 4 (zO cap7 ef7)) :: (X ++ (Y ++ rest))) s H locs := hw
    refine lv_goto (tgt := 53) hx hb dJ25_add_41 (by decide) ?_
    exact hend _ _ _ _ _ _ (en, cap7, ef7) hw ⟨hnE, hnC, hnD⟩ (Nat.le_of_ble_eq_true rfl) (Nat.le_of_ble_eq_true rfl) dJ25_add_53
  · skip
    obtain rfl : n = cap := by omega
    have hw : zS G ((lst, zo 14 [.int mq, .ref ed, .int (nI n)]) :: (it, zo 15 [.int (nI cu), .int lr, .int mq, .ref lst, .ref lst]) :: (ed, zc G 4 (zO n ef)) :: (X ++ (Y ++ rest))) s H locs := hw
    have hl : lv_has ls 3 [(2, .int (nI cu)), (0, .ref it), (1, .ref x)] := hl
    have hw : zS G ((lst, zo 14 [.int mq, .ref ed, .int (nI n)]) :: (it, zo 15 [.int (nI cu), .int lr, .int mq, .ref lst, .ref lst]) :: (ed, zc G 4 (zO n ef)) :: (X ++ (Y ++ rest))) s H locs := hw
    refine z_cv (z_runV (As := [.int (nI cu), .ref x]) (rest := []) hC zv_J25_46 (m_J23_add_n G l kA (by first | assumption | (omega)) (by first | assumption | (omega)) lst ed n mq ef cu x X Y hxk hel hh12 (by omega) (zrem [0, 2] [(lst, zo 14 [.int mq, .ref ed, .int (nI n)]), (it, zo 15 [.int (nI cu), .int lr, .int mq, .ref lst, .ref lst]), (ed, zc G 4 (zO n ef))] ++ rest)) hw (hw.perm (((((z_mv1 X Y rest).trans (z_mv1 Y X rest))).append_left [(lst, zo 14 [.int mq, .ref ed, .int (nI n)]), (it, zo 15 [.int (nI cu), .int lr, .int mq, .ref lst, .ref lst]), (ed, zc G 4 (zO n ef))]).trans (z_cutP2 (z_cut (is := [0, 2]) (ws := [(lst, zo 14 [.int mq, .ref ed, .int (nI n)]), (it, zo 15 [.int (nI cu), .int lr, .int mq, .ref lst, .ref lst]), (ed, zc G 4 (zO n ef))]) (cells := [(lst, zo 14 [.int mq, .ref ed, .int (nI n)]), (ed, zc G 4 (zO n ef))]) rfl rfl)))) 0 rfl rfl rfl rfl rfl (Nat.le_of_ble_eq_true rfl) hl.1 ⟨Nat.le_of_ble_eq_true rfl, Nat.le_of_ble_eq_true rfl⟩ ⟨(Nat.le_of_ble_eq_true rfl), (Nat.le_of_ble_eq_true rfl)⟩ dJ25_add_15) hw (fun u => (z_putP2 (z_pput (is := [0, 2]) (ws := [(lst, zo 14 [.int mq, .ref ed, .int (nI n)]), (it, zo 15 [.int (nI cu), .int lr, .int mq, .ref lst, .ref lst]), (ed, zc G 4 (zO n ef))]) (cells := [(lst, zo 14 [.int mq, .ref ed, .int (nI n)]), (ed, zc G 4 (zO n ef))]) (cells' := [(lst, zo 14 [.int (mq + (nI 1)), .ref u.1, .int (nI (n + 1))]), (u.1, zc G 4 (zO u.2.1 u.2.2))]) rfl rfl rfl)).trans ((((z_mv1 X Y rest).trans (z_mv1 Y X rest))).symm.append_left [(lst, zo 14 [.int (mq + (nI 1)), .ref u.1, .int (nI (n + 1))]), (it, zo 15 [.int (nI cu), .int lr, .int mq, .ref lst, .ref lst]), (u.1, zc G 4 (zO u.2.1 u.2.2))])) (fun u H locs hp hw => ?_)
    obtain ⟨en, cap7, ef7⟩ := u
    have hw : zS G ((lst, zo 14 [.int (mq + (nI 1)), .ref en, .int (nI (n + 1))]) :: (it, zo 15 [.int (nI cu), .int lr, .int mq, .ref lst, .ref lst]) :: (en, zc G 4 (zO cap7 ef7)) :: (X ++ (Y ++ rest))) s H locs := hw
    obtain ⟨hnE, hnC, hnD⟩ := hp
    refine lv_aload_n hx hb dJ25_add_18 rfl (lv_at hl 1 rfl) ?_
    refine lv_iload_n hx hb dJ25_add_19 rfl (lv_at hl 0 rfl) ?_
    refine lv_iconst (v := (nI 1)) hx hb dJ25_add_20 zk_1 ?_
    refine zn_iadd hx hb dJ25_add_21 ?_
    refine z_putU hC zf_J25_13_15 (fun q h => by cases h; decide +kernel) hw 1 rfl (Nat.le_of_ble_eq_true rfl) dJ25_add_22 (fun H locs hw => ?_)
    have hw : zS G ((lst, zo 14 [.int (mq + (nI 1)), .ref en, .int (nI (n + 1))]) :: (it, zo 15 [.int (nI (cu + 1)), .int lr, .int mq, .ref lst, .ref lst]) :: (en, zc G 4 (zO cap7 ef7)) :: (X ++ (Y ++ rest))) s H locs := hw
    refine lv_aload_n hx hb dJ25_add_25 rfl (lv_at hl 1 rfl) ?_
    refine lv_iconst (v := -1) hx hb dJ25_add_26 zk_m1 ?_
    refine z_putU hC zf_J25_34_15 (fun q h => by cases h; decide +kernel) hw 1 rfl (Nat.le_of_ble_eq_true rfl) dJ25_add_27 (fun H locs hw => ?_)
    have hw : zS G ((lst, zo 14 [.int (mq + (nI 1)), .ref en, .int (nI (n + 1))]) :: (it, zo 15 [.int (nI (cu + 1)), .int (-1), .int mq, .ref lst, .ref lst]) :: (en, zc G 4 (zO cap7 ef7)) :: (X ++ (Y ++ rest))) s H locs := hw
    refine lv_aload_n hx hb dJ25_add_30 rfl (lv_at hl 1 rfl) ?_
    refine lv_aload_n hx hb dJ25_add_31 rfl (lv_at hl 1 rfl) ?_
    refine z_getU (v := .ref lst) hC zf_J25_1_15 hw 1 rfl rfl dJ25_add_32 ?_
    refine z_getU (v := .int (mq + (nI 1))) hC zf_J25_50_14 hw 0 rfl rfl dJ25_add_35 ?_
    refine z_putU hC zf_J25_53_15 (fun q h => by cases h; decide +kernel) hw 1 rfl (Nat.le_of_ble_eq_true rfl) dJ25_add_38 (fun H locs hw => ?_)
    have hw : zS G ((lst, zo 14 [.int (mq + (nI 1)), .ref en, .int (nI (n + 1))]) :: (it, zo 15 [.int (nI (cu + 1)), .int (-1), .int (mq + (nI 1)), .ref lst, .ref lst]) :: (en, zc G 4 (zO cap7 ef7)) :: (X ++ (Y ++ rest))) s H locs := hw
    refine lv_goto (tgt := 53) hx hb dJ25_add_41 (by decide) ?_
    exact hend _ _ _ _ _ _ (en, cap7, ef7) hw ⟨hnE, hnC, hnD⟩ (Nat.le_of_ble_eq_true rfl) (Nat.le_of_ble_eq_true rfl) dJ25_add_53
set_option maxHeartbeats 4000000 in
theorem m_J23_set (G : zE) (l : Launch) (kA : Nat → Nat) (hG : zG G kA) (hV : zV G kA) (lst : Nat) (ed : Nat) (n : Nat) (mq : Int32) (cap : Nat) (ef : Nat → Option Nat) (i : Nat) (x : Nat) (X : va_W) (Y : va_W) (hxk : elOk kA (X ++ Y) x) (hi : i < n) (hn : n ≤ cap) (hc9 : cap ≤ 15) (rest : va_W) : zMq G l yJ23_set cJ23_set 4 (some (.object "java/lang/Object")) 5 0 0 [.ref lst, .int (nI i), .ref x] ((lst, zo 14 [.int mq, .ref ed, .int (nI n)]) :: (ed, zc G 4 (zO cap ef)) :: (X ++ (Y ++ rest))) (fun (r : Option Nat) (_ : Unit) => r = ef i) (fun (_ : Unit) => (lst, zo 14 [.int mq, .ref ed, .int (nI n)]) :: (ed, zc G 4 (zO cap (va_up ef i (some x)))) :: (X ++ (Y ++ rest))) := by
  refine z_begQ (by first | exact Or.inl ⟨_, rfl⟩ | exact Or.inr ⟨_, rfl⟩) (by decide) (Nat.le_of_ble_eq_true rfl) (fun p e s m args below meth c ls Q hC hl hw hend => ?_)
  have hx := hC.hx
  have hb := hC.hb
  have hl : lv_has ls 4 [(0, .ref lst), (1, .int (nI i)), (2, .ref x)] := hl
  have hw : zS G ((lst, zo 14 [.int mq, .ref ed, .int (nI n)]) :: (ed, zc G 4 (zO cap ef)) :: (X ++ (Y ++ rest))) s s.heap [] := hw
  have hz := hG s hC.hZ.1
  have hzv := hV s hC.hZ.1
  refine lv_iload_n hx hb dJ23_set_0 rfl (lv_at hl 1 rfl) ?_
  refine lv_aload_n hx hb dJ23_set_1 rfl (lv_at hl 0 rfl) ?_
  refine z_get (v := .int (nI n)) hC zf_J23_48_14 hw 0 rfl rfl dJ23_set_2 ?_
  refine z_ci (z_runS (As := [.int (nI i), .int (nI n)]) (rest := []) hC zs_J23_118 (m_J12_checkIndex G l i n (by omega) (by omega) _) hw rfl rfl (Nat.le_of_ble_eq_true rfl) hl.1 ⟨Nat.le_of_ble_eq_true rfl, Nat.le_of_ble_eq_true rfl⟩ ⟨(Nat.le_of_ble_eq_true rfl), (Nat.le_of_ble_eq_true rfl)⟩ dJ23_set_5) hw (fun _ => List.Perm.refl _) (fun r u H locs hp hw => ?_)
  obtain rfl : r = nI i := hp
  refine lv_pop hx hb dJ23_set_8 rfl ?_
  refine lv_aload_n hx hb dJ23_set_9 rfl (lv_at hl 0 rfl) ?_
  refine lv_iload_n hx hb dJ23_set_10 rfl (lv_at hl 1 rfl) ?_
  refine z_cq (z_runV (As := [.int (nI i)]) (rest := []) hC zv_J23_123 (m_J23_elementData G l lst ed n mq cap ef i (by omega) (by omega) (zrem [0, 1] _)) hw (hw.perm (z_cut (is := [0, 1]) (cells := [(lst, zo 14 [.int mq, .ref ed, .int (nI n)]), (ed, zc G 4 (zO cap ef))]) rfl rfl)) 0 rfl rfl rfl rfl rfl (Nat.le_of_ble_eq_true rfl) hl.1 ⟨Nat.le_of_ble_eq_true rfl, Nat.le_of_ble_eq_true rfl⟩ ⟨(Nat.le_of_ble_eq_true rfl), (Nat.le_of_ble_eq_true rfl)⟩ dJ23_set_11) hw (fun _ => z_keep (is := [0, 1]) (cs := [(lst, zo 14 [.int mq, .ref ed, .int (nI n)]), (ed, zc G 4 (zO cap ef))]) rfl rfl) (fun r u H locs hp hw => ?_)
  obtain rfl : r = ef i := hp
  refine z_astore_nQ (lv' := [(3, va_rf (ef i)), (0, .ref lst), (1, .int (nI i)), (2, .ref x)]) hx hb dJ23_set_14 rfl hl (by decide) rfl (fun ls hl => ?_)
  refine lv_aload_n hx hb dJ23_set_15 rfl (lv_at hl 1 rfl) ?_
  refine z_get (v := .ref ed) hC zf_J23_9_14 hw 0 rfl rfl dJ23_set_16 ?_
  refine lv_iload_n hx hb dJ23_set_19 rfl (lv_at hl 2 rfl) ?_
  refine lv_aload_n hx hb dJ23_set_20 rfl (lv_at hl 3 rfl) ?_
  have hxa := any_el hC hz hzv (E := [(lst, zo 14 [.int mq, .ref ed, .int (nI n)]), (ed, zc G 4 (zO cap ef))]) (X := X) (Y := Y) hw hxk
  refine z_aast (t := 4) (f' := va_up ef i (some x)) hC hw 1 rfl (fun _ => rfl) (by omega) (by omega) hxa rfl dJ23_set_21 (fun H locs hw => ?_)
  have hw : zS G ((lst, zo 14 [.int mq, .ref ed, .int (nI n)]) :: (ed, zc G 4 (zO cap (va_up ef i (some x)))) :: (X ++ (Y ++ rest))) s H locs := hw
  refine z_aload_nQ hx hb dJ23_set_22 rfl (lv_at hl 0 rfl) ?_
  exact hend _ _ _ _ _ _ (ef i) () hw rfl (Nat.le_of_ble_eq_true rfl) (Nat.le_of_ble_eq_true rfl) dJ23_set_23
theorem zv_J25_40 : zVs RJ25 40 yJ23_set cJ23_set 4 (some (.object "java/lang/Object")) 2 := ⟨lw_V q1719 q1706 q2192 q85 q1707, ⟨by decide +kernel, by decide +kernel⟩, by decide +kernel⟩
set_option maxHeartbeats 4000000 in
theorem m_J25_set_o (G : zE) (l : Launch) (kA : Nat → Nat) (hG : zG G kA) (hV : zV G kA) (lst : Nat) (ed : Nat) (n : Nat) (mq : Int32) (cap : Nat) (ef : Nat → Option Nat) (it : Nat) (cu : Nat) (i : Nat) (x : Nat) (X : va_W) (Y : va_W) (hxk : elOk kA (X ++ Y) x) (hi : i < n) (hn : n ≤ cap) (hc9 : cap ≤ 15) (rest : va_W) : zWv G l yJ25_set cJ25_set 3 [(19, 32, 35, 44)] 8 0 0 [.ref it, .ref x] ((lst, zo 14 [.int mq, .ref ed, .int (nI n)]) :: (it, zo 15 [.int (nI cu), .int (nI i), .int mq, .ref lst, .ref lst]) :: (ed, zc G 4 (zO cap ef)) :: (X ++ (Y ++ rest))) (fun (_ : Unit) => True) (fun (_ : Unit) => (lst, zo 14 [.int mq, .ref ed, .int (nI n)]) :: (it, zo 15 [.int (nI cu), .int (nI i), .int mq, .ref lst, .ref lst]) :: (ed, zc G 4 (zO cap (va_up ef i (some x)))) :: (X ++ (Y ++ rest))) := by
  refine z_begVW (by decide) (Nat.le_of_ble_eq_true rfl) (fun p e s m args below meth c ls Q hC htb hnm hl hw hend => ?_)
  have hx := hC.hx
  have hb := hC.hb
  have hl : lv_has ls 3 [(0, .ref it), (1, .ref x)] := hl
  have hw : zS G ((lst, zo 14 [.int mq, .ref ed, .int (nI n)]) :: (it, zo 15 [.int (nI cu), .int (nI i), .int mq, .ref lst, .ref lst]) :: (ed, zc G 4 (zO cap ef)) :: (X ++ (Y ++ rest))) s s.heap [] := hw
  have hz := hG s hC.hZ.1
  have hzv := hV s hC.hZ.1
  refine lv_aload_n hx hb dJ25_set_0 rfl (lv_at hl 0 rfl) ?_
  refine z_getU (v := .int (nI i)) hC zf_J25_34_15 hw 1 rfl rfl dJ25_set_1 ?_
  refine zj_ge (tgt := 15) hx hb (by omega) dJ25_set_4 (by decide) ?_
  refine lv_aload_n hx hb dJ25_set_15 rfl (lv_at hl 0 rfl) ?_
  refine z_cv (z_runB (x := (⟨"java/util/ArrayList$ListItr", "checkForComodification", "()V"⟩ : MethodName)) (owner := "java/util/ArrayList$Itr") (C := "java/util/ArrayList$ListItr") (n := 0) (As := []) (rest := []) hC ⟨zn_J24_checkForComodification, q1524, q2190, ⟨by decide +kernel, by decide +kernel⟩, by decide +kernel⟩ (hC.hts _ q1520) (hC.hts _ q1521) (z_declO hC q1524 q1525) (m_J24_checkForComodification G l kA (by first | assumption | (omega)) lst ed n mq it (nI cu) (nI i) (zrem [0, 1] _)) hw (hw.perm (z_cut (is := [0, 1]) (cells := [(lst, zo 14 [.int mq, .ref ed, .int (nI n)]), (it, zo 15 [.int (nI cu), .int (nI i), .int mq, .ref lst, .ref lst])]) rfl rfl)) 1 rfl rfl rfl rfl rfl (Nat.le_of_ble_eq_true rfl) hl.1 ⟨Nat.le_of_ble_eq_true rfl, Nat.le_of_ble_eq_true rfl⟩ ⟨(Nat.le_of_ble_eq_true rfl), (Nat.le_of_ble_eq_true rfl)⟩ dJ25_set_16) hw (fun _ => z_keep (is := [0, 1]) (cs := [(lst, zo 14 [.int mq, .ref ed, .int (nI n)]), (it, zo 15 [.int (nI cu), .int (nI i), .int mq, .ref lst, .ref lst])]) rfl rfl) (fun u H locs hp hw => ?_)
  refine lv_aload_n hx hb dJ25_set_19 rfl (lv_at hl 0 rfl) ?_
  refine z_getU (v := .ref lst) hC zf_J25_1_15 hw 1 rfl rfl dJ25_set_20 ?_
  refine lv_aload_n hx hb dJ25_set_23 rfl (lv_at hl 0 rfl) ?_
  refine z_getU (v := .int (nI i)) hC zf_J25_34_15 hw 1 rfl rfl dJ25_set_24 ?_
  refine lv_aload_n hx hb dJ25_set_27 rfl (lv_at hl 1 rfl) ?_
  refine z_cq (z_runV (As := [.int (nI i), .ref x]) (rest := []) hC zv_J25_40 (m_J23_set G l kA (by first | assumption | (omega)) (by first | assumption | (omega)) lst ed n mq cap ef i x X Y (by first | assumption | (omega)) (by omega) (by omega) (by omega) (zrem [0, 2] [(lst, zo 14 [.int mq, .ref ed, .int (nI n)]), (it, zo 15 [.int (nI cu), .int (nI i), .int mq, .ref lst, .ref lst]), (ed, zc G 4 (zO cap ef))] ++ rest)) hw (hw.perm (((((z_mv1 X Y rest).trans (z_mv1 Y X rest))).append_left [(lst, zo 14 [.int mq, .ref ed, .int (nI n)]), (it, zo 15 [.int (nI cu), .int (nI i), .int mq, .ref lst, .ref lst]), (ed, zc G 4 (zO cap ef))]).trans (z_cutP2 (z_cut (is := [0, 2]) (ws := [(lst, zo 14 [.int mq, .ref ed, .int (nI n)]), (it, zo 15 [.int (nI cu), .int (nI i), .int mq, .ref lst, .ref lst]), (ed, zc G 4 (zO cap ef))]) (cells := [(lst, zo 14 [.int mq, .ref ed, .int (nI n)]), (ed, zc G 4 (zO cap ef))]) rfl rfl)))) 0 rfl rfl rfl rfl rfl (Nat.le_of_ble_eq_true rfl) hl.1 ⟨Nat.le_of_ble_eq_true rfl, Nat.le_of_ble_eq_true rfl⟩ ⟨(Nat.le_of_ble_eq_true rfl), (Nat.le_of_ble_eq_true rfl)⟩ dJ25_set_28) hw (fun _ => (z_putP2 (z_pput (is := [0, 2]) (ws := [(lst, zo 14 [.int mq, .ref ed, .int (nI n)]), (it, zo 15 [.int (nI cu), .int (nI i), .int mq, .ref lst, .ref lst]), (ed, zc G 4 (zO cap ef))]) (cells := [(lst, zo 14 [.int mq, .ref ed, .int (nI n)]), (ed, zc G 4 (zO cap ef))]) (cells' := [(lst, zo 14 [.int mq, .ref ed, .int (nI n)]), (ed, zc G 4 (zO cap (va_up ef i (some x))))]) rfl rfl rfl)).trans ((((z_mv1 X Y rest).trans (z_mv1 Y X rest))).symm.append_left [(lst, zo 14 [.int mq, .ref ed, .int (nI n)]), (it, zo 15 [.int (nI cu), .int (nI i), .int mq, .ref lst, .ref lst]), (ed, zc G 4 (zO cap (va_up ef i (some x))))])) (fun r u H locs hp hw => ?_)
  have hw : zS G ((lst, zo 14 [.int mq, .ref ed, .int (nI n)]) :: (it, zo 15 [.int (nI cu), .int (nI i), .int mq, .ref lst, .ref lst]) :: (ed, zc G 4 (zO cap (va_up ef i (some x)))) :: (X ++ (Y ++ rest))) s H locs := hw
  obtain rfl : r = ef i := hp
  refine lv_pop hx hb dJ25_set_31 (z_rfcat _) ?_
  refine lv_goto (tgt := 44) hx hb dJ25_set_32 (by decide) ?_
  exact hend _ _ _ _ _ _ () hw trivial (Nat.le_of_ble_eq_true rfl) (Nat.le_of_ble_eq_true rfl) dJ25_set_44
theorem ex0t_J25_39 : ∀ w ∈ vx_at0 RJ25 39 "java/lang/IllegalStateException" exNames, w ∈ lw_tbl := by decide +kernel
theorem ex0o_J25_39 : ∀ w ∈ Cond.classLink RJ25 37 "java/lang/IllegalStateException" :: Cond.initialized "java/lang/IllegalStateException" :: vx_at0 RJ25 39 "java/lang/IllegalStateException" exNames, vx_ot w = true := by decide +kernel
set_option maxHeartbeats 4000000 in
theorem m_J25_set_x (G : zE) (l : Launch) (kA : Nat → Nat) (hG : zG G kA) (hV : zV G kA) (hY : zY G) (hlt : l.stackTraces = false) (it : Nat) (lst : Nat) (cu : Nat) (x : Nat) (mq : Int32) (rest : va_W) : zThW G l yJ25_set cJ25_set 3 none [(19, 32, 35, 44)] 260 1 6 [.ref it, .ref x] ((it, zo 15 [.int (nI cu), .int (-1), .int mq, .ref lst, .ref lst]) :: rest) "java/lang/IllegalStateException" (fun _ => (it, zo 15 [.int (nI cu), .int (-1), .int mq, .ref lst, .ref lst]) :: rest) := by
  refine z_begXW (by decide) (Nat.le_of_ble_eq_true rfl) (fun p e s m args below meth c ls Q hQ hC htb hl hw hend => ?_)
  have hx := hC.hx
  have hb := hC.hb
  have hl : lv_has ls 3 [(0, .ref it), (1, .ref x)] := hl
  have hw : zS G ((it, zo 15 [.int (nI cu), .int (-1), .int mq, .ref lst, .ref lst]) :: rest) s s.heap [] := hw
  have hz := hG s hC.hZ.1
  have hzv := hV s hC.hZ.1
  have hzy := hY s hC.hZ.1
  refine lv_aload_n hx hb dJ25_set_0 rfl (lv_at hl 0 rfl) ?_
  refine z_getU (v := .int (-1)) hC zf_J25_34_15 hw 0 rfl rfl dJ25_set_1 ?_
  refine lv_if_ge (tgt := 15) hx hb dJ25_set_4 (by decide) (fun h => absurd h (by decide)) (fun _ => ?_)
  exact z_thr0 hC hlt hzy hQ htb (by decide +kernel) q1717 q95 ex0t_J25_39 ex0o_J25_39 dJ25_set_7 dJ25_set_10 dJ25_set_11 dJ25_set_14 (by decide) hw (fun _ => rfl) hl.1 (Nat.le_of_ble_eq_true rfl) ⟨Nat.le_of_ble_eq_true rfl, Nat.le_of_ble_eq_true rfl⟩ (Nat.le_of_ble_eq_true rfl) (Nat.le_of_ble_eq_true rfl) (Nat.le_of_ble_eq_true rfl) (Nat.le_of_ble_eq_true rfl)
set_option maxHeartbeats 4000000 in
theorem m_J23_fastRemove (G : zE) (l : Launch) (kA : Nat → Nat) (hG : zG G kA) (hV : zV G kA) (lst : Nat) (ed : Nat) (n : Nat) (mq : Int32) (cap : Nat) (ef : Nat → Option Nat) (i : Nat) (X : va_W) (Y : va_W) (hel : ∀ j, j < n → ∀ y, ef j = some y → elOk kA (X ++ Y) y) (hi : i < n) (hn : n ≤ cap) (hc9 : cap ≤ 15) (rest : va_W) : zMv G l yJ23_fastRemove cJ23_fastRemove 4 2 0 0 [.ref lst, .ref ed, .int (nI i)] ((lst, zo 14 [.int mq, .ref ed, .int (nI n)]) :: (ed, zc G 4 (zO cap ef)) :: (X ++ (Y ++ rest))) (fun u => ∀ j, j < n - 1 → u j = delF ef i j) (fun (u : Nat → Option Nat) => (lst, zo 14 [.int (mq + (nI 1)), .ref ed, .int (nI (n - 1))]) :: (ed, zc G 4 (zO cap u)) :: (X ++ (Y ++ rest))) := by
  refine z_begV (by decide) (Nat.le_of_ble_eq_true rfl) (fun p e s m args below meth c ls Q hC hnm hl hw hend => ?_)
  have hx := hC.hx
  have hb := hC.hb
  have hl : lv_has ls 4 [(0, .ref lst), (1, .ref ed), (2, .int (nI i))] := hl
  have hw : zS G ((lst, zo 14 [.int mq, .ref ed, .int (nI n)]) :: (ed, zc G 4 (zO cap ef)) :: (X ++ (Y ++ rest))) s s.heap [] := hw
  have hz := hG s hC.hZ.1
  have hzv := hV s hC.hZ.1
  refine lv_aload_n hx hb dJ23_fastRemove_0 rfl (lv_at hl 0 rfl) ?_
  refine lv_dup hx hb dJ23_fastRemove_1 rfl ?_
  refine z_getU (v := .int mq) hC zf_J23_63_14 hw 0 rfl rfl dJ23_fastRemove_2 ?_
  refine lv_iconst (v := (nI 1)) hx hb dJ23_fastRemove_5 zk_1 ?_
  refine lv_iadd hx hb dJ23_fastRemove_6 ?_
  refine z_putU hC zf_J23_63_14 (fun q h => by cases h; decide +kernel) hw 0 rfl (Nat.le_of_ble_eq_true rfl) dJ23_fastRemove_7 (fun H locs hw => ?_)
  have hw : zS G ((lst, zo 14 [.int (mq + (nI 1)), .ref ed, .int (nI n)]) :: (ed, zc G 4 (zO cap ef)) :: (X ++ (Y ++ rest))) s H locs := hw
  refine lv_aload_n hx hb dJ23_fastRemove_10 rfl (lv_at hl 0 rfl) ?_
  refine z_get (v := .int (nI n)) hC zf_J23_48_14 hw 0 rfl rfl dJ23_fastRemove_11 ?_
  refine lv_iconst (v := (nI 1)) hx hb dJ23_fastRemove_14 zk_1 ?_
  refine zn_isub hx hb (by omega) dJ23_fastRemove_15 ?_
  refine lv_dup hx hb dJ23_fastRemove_16 rfl ?_
  refine lv_istore_n (lv' := [(3, .int (nI (n - 1))), (0, .ref lst), (1, .ref ed), (2, .int (nI i))]) hx hb dJ23_fastRemove_17 rfl hl (by decide) rfl (fun ls hl => ?_)
  refine lv_iload_n hx hb dJ23_fastRemove_18 rfl (lv_at hl 3 rfl) ?_
  refine zi_le (tgt := 34) hx hb (by omega) (by omega) dJ23_fastRemove_19 (by decide) (fun c_19 => ?_) (fun c_19 => ?_)
  · skip
    refine lv_aload_n hx hb dJ23_fastRemove_34 rfl (lv_at hl 2 rfl) ?_
    refine lv_aload_n hx hb dJ23_fastRemove_35 rfl (lv_at hl 1 rfl) ?_
    refine lv_iload_n hx hb dJ23_fastRemove_36 rfl (lv_at hl 0 rfl) ?_
    refine lv_dup_x1 hx hb dJ23_fastRemove_37 rfl rfl ?_
    refine z_puti hC zf_J23_48_14 hw 0 rfl (Nat.le_of_ble_eq_true rfl) dJ23_fastRemove_38 (fun H locs hw => ?_)
    have hw : zS G ((lst, zo 14 [.int (mq + (nI 1)), .ref ed, .int (nI (n - 1))]) :: (ed, zc G 4 (zO cap ef)) :: (X ++ (Y ++ rest))) s H locs := hw
    refine lv_null hx hb dJ23_fastRemove_41 ?_
    refine z_aastN (t := 4) (f' := va_up ef (n - 1) none) hC hw 1 rfl (fun _ => rfl) (by omega) (by omega) rfl dJ23_fastRemove_42 (fun H locs hw => ?_)
    have hw : zS G ((lst, zo 14 [.int (mq + (nI 1)), .ref ed, .int (nI (n - 1))]) :: (ed, zc G 4 (zO cap (va_up ef (n - 1) none))) :: (X ++ (Y ++ rest))) s H locs := hw
    exact hend _ _ _ _ _ _ (va_up ef (n - 1) none) hw (del_arr0 (by omega)) (Nat.le_of_ble_eq_true rfl) (Nat.le_of_ble_eq_true rfl) dJ23_fastRemove_43
  · skip
    refine lv_aload_n hx hb dJ23_fastRemove_22 rfl (lv_at hl 2 rfl) ?_
    refine lv_iload_n hx hb dJ23_fastRemove_23 rfl (lv_at hl 3 rfl) ?_
    refine lv_iconst (v := (nI 1)) hx hb dJ23_fastRemove_24 zk_1 ?_
    refine zn_iadd hx hb dJ23_fastRemove_25 ?_
    refine lv_aload_n hx hb dJ23_fastRemove_26 rfl (lv_at hl 2 rfl) ?_
    refine lv_iload_n hx hb dJ23_fastRemove_27 rfl (lv_at hl 3 rfl) ?_
    refine lv_iload_n hx hb dJ23_fastRemove_28 rfl (lv_at hl 0 rfl) ?_
    refine lv_iload_n hx hb dJ23_fastRemove_29 rfl (lv_at hl 3 rfl) ?_
    refine zn_isub hx hb (by omega) dJ23_fastRemove_30 ?_
    have hae := fun (y : Nat) (h : elOk kA (X ++ Y) y) => any_el hC hz hzv (E := [(lst, zo 14 [.int (mq + (nI 1)), .ref ed, .int (nI n)]), (ed, zc G 4 (zO cap ef))]) (X := X) (Y := Y) hw h
    refine z_copyQ (t := 4) (h := va_cpy ef ef (i + 1) i ((n - 1) - i)) hC hl.1 q1644 zNat_ok hw 1 1 rfl rfl (fun _ => rfl) (by omega) (by omega) (by omega) (by omega) (fun i9 hi y hy => hae y (hel _ (by omega) y hy)) rfl (Nat.le_of_ble_eq_true rfl) ⟨Nat.le_of_ble_eq_true rfl, Nat.le_of_ble_eq_true rfl⟩ dJ23_fastRemove_31 (fun H locs hw => ?_)
    have hw : zS G ((lst, zo 14 [.int (mq + (nI 1)), .ref ed, .int (nI n)]) :: (ed, zc G 4 (zO cap (va_cpy ef ef (i + 1) i ((n - 1) - i)))) :: (X ++ (Y ++ rest))) s H locs := hw
    refine lv_aload_n hx hb dJ23_fastRemove_34 rfl (lv_at hl 2 rfl) ?_
    refine lv_aload_n hx hb dJ23_fastRemove_35 rfl (lv_at hl 1 rfl) ?_
    refine lv_iload_n hx hb dJ23_fastRemove_36 rfl (lv_at hl 0 rfl) ?_
    refine lv_dup_x1 hx hb dJ23_fastRemove_37 rfl rfl ?_
    refine z_puti hC zf_J23_48_14 hw 0 rfl (Nat.le_of_ble_eq_true rfl) dJ23_fastRemove_38 (fun H locs hw => ?_)
    have hw : zS G ((lst, zo 14 [.int (mq + (nI 1)), .ref ed, .int (nI (n - 1))]) :: (ed, zc G 4 (zO cap (va_cpy ef ef (i + 1) i ((n - 1) - i)))) :: (X ++ (Y ++ rest))) s H locs := hw
    refine lv_null hx hb dJ23_fastRemove_41 ?_
    refine z_aastN (t := 4) (f' := va_up (va_cpy ef ef (i + 1) i ((n - 1) - i)) (n - 1) none) hC hw 1 rfl (fun _ => rfl) (by omega) (by omega) rfl dJ23_fastRemove_42 (fun H locs hw => ?_)
    have hw : zS G ((lst, zo 14 [.int (mq + (nI 1)), .ref ed, .int (nI (n - 1))]) :: (ed, zc G 4 (zO cap (va_up (va_cpy ef ef (i + 1) i ((n - 1) - i)) (n - 1) none))) :: (X ++ (Y ++ rest))) s H locs := hw
    exact hend _ _ _ _ _ _ (va_up (va_cpy ef ef (i + 1) i ((n - 1) - i)) (n - 1) none) hw (del_arr hi) (Nat.le_of_ble_eq_true rfl) (Nat.le_of_ble_eq_true rfl) dJ23_fastRemove_43
theorem zv_J23_144 : zVs RJ23 144 yJ23_fastRemove cJ23_fastRemove 4 none 2 := ⟨lw_V q1745 q1747 qs24 q85 q1748, ⟨by decide +kernel, by decide +kernel⟩, by decide +kernel⟩
set_option maxHeartbeats 4000000 in
theorem m_J23_remove (G : zE) (l : Launch) (kA : Nat → Nat) (hG : zG G kA) (hV : zV G kA) (lst : Nat) (ed : Nat) (n : Nat) (mq : Int32) (cap : Nat) (ef : Nat → Option Nat) (i : Nat) (X : va_W) (Y : va_W) (hel : ∀ j, j < n → ∀ y, ef j = some y → elOk kA (X ++ Y) y) (hi : i < n) (hn : n ≤ cap) (hc9 : cap ≤ 15) (rest : va_W) : zMq G l yJ23_remove cJ23_remove 4 (some (.object "java/lang/Object")) 4 0 0 [.ref lst, .int (nI i)] ((lst, zo 14 [.int mq, .ref ed, .int (nI n)]) :: (ed, zc G 4 (zO cap ef)) :: (X ++ (Y ++ rest))) (fun (r : Option Nat) u => ∀ j, j < n - 1 → u j = delF ef i j) (fun (u : Nat → Option Nat) => (lst, zo 14 [.int (mq + (nI 1)), .ref ed, .int (nI (n - 1))]) :: (ed, zc G 4 (zO cap u)) :: (X ++ (Y ++ rest))) := by
  refine z_begQ (by first | exact Or.inl ⟨_, rfl⟩ | exact Or.inr ⟨_, rfl⟩) (by decide) (Nat.le_of_ble_eq_true rfl) (fun p e s m args below meth c ls Q hC hl hw hend => ?_)
  have hx := hC.hx
  have hb := hC.hb
  have hl : lv_has ls 4 [(0, .ref lst), (1, .int (nI i))] := hl
  have hw : zS G ((lst, zo 14 [.int mq, .ref ed, .int (nI n)]) :: (ed, zc G 4 (zO cap ef)) :: (X ++ (Y ++ rest))) s s.heap [] := hw
  have hz := hG s hC.hZ.1
  have hzv := hV s hC.hZ.1
  refine lv_iload_n hx hb dJ23_remove_0 rfl (lv_at hl 1 rfl) ?_
  refine lv_aload_n hx hb dJ23_remove_1 rfl (lv_at hl 0 rfl) ?_
  refine z_get (v := .int (nI n)) hC zf_J23_48_14 hw 0 rfl rfl dJ23_remove_2 ?_
  refine z_ci (z_runS (As := [.int (nI i), .int (nI n)]) (rest := []) hC zs_J23_118 (m_J12_checkIndex G l i n (by omega) (by omega) _) hw rfl rfl (Nat.le_of_ble_eq_true rfl) hl.1 ⟨Nat.le_of_ble_eq_true rfl, Nat.le_of_ble_eq_true rfl⟩ ⟨(Nat.le_of_ble_eq_true rfl), (Nat.le_of_ble_eq_true rfl)⟩ dJ23_remove_5) hw (fun _ => List.Perm.refl _) (fun r u H locs hp hw => ?_)
  obtain rfl : r = nI i := hp
  refine lv_pop hx hb dJ23_remove_8 rfl ?_
  refine lv_aload_n hx hb dJ23_remove_9 rfl (lv_at hl 0 rfl) ?_
  refine z_get (v := .ref ed) hC zf_J23_9_14 hw 0 rfl rfl dJ23_remove_10 ?_
  refine lv_astore_n (lv' := [(2, .ref ed), (0, .ref lst), (1, .int (nI i))]) hx hb dJ23_remove_13 rfl hl (by decide) rfl (fun ls hl => ?_)
  refine lv_aload_n hx hb dJ23_remove_14 rfl (lv_at hl 0 rfl) ?_
  refine lv_iload_n hx hb dJ23_remove_15 rfl (lv_at hl 2 rfl) ?_
  refine z_aald (x := va_rf (ef i)) (t := 4) hC hw 1 rfl (fun _ => rfl) (by omega) (by omega) rfl dJ23_remove_16 ?_
  refine z_astore_nQ (lv' := [(3, va_rf (ef i)), (2, .ref ed), (0, .ref lst), (1, .int (nI i))]) hx hb dJ23_remove_17 rfl hl (by decide) rfl (fun ls hl => ?_)
  refine lv_aload_n hx hb dJ23_remove_18 rfl (lv_at hl 2 rfl) ?_
  refine lv_aload_n hx hb dJ23_remove_19 rfl (lv_at hl 1 rfl) ?_
  refine lv_iload_n hx hb dJ23_remove_20 rfl (lv_at hl 3 rfl) ?_
  refine z_cv (z_runV (As := [.ref ed, .int (nI i)]) (rest := []) hC zv_J23_144 (m_J23_fastRemove G l kA (by first | assumption | (omega)) (by first | assumption | (omega)) lst ed n mq cap ef i X Y hel (by omega) (by omega) (by omega) (zrem [0, 1] [(lst, zo 14 [.int mq, .ref ed, .int (nI n)]), (ed, zc G 4 (zO cap ef))] ++ rest)) hw (hw.perm (((((z_mv1 X Y rest).trans (z_mv1 Y X rest))).append_left [(lst, zo 14 [.int mq, .ref ed, .int (nI n)]), (ed, zc G 4 (zO cap ef))]).trans (z_cutP2 (z_cut (is := [0, 1]) (ws := [(lst, zo 14 [.int mq, .ref ed, .int (nI n)]), (ed, zc G 4 (zO cap ef))]) (cells := [(lst, zo 14 [.int mq, .ref ed, .int (nI n)]), (ed, zc G 4 (zO cap ef))]) rfl rfl)))) 0 rfl rfl rfl rfl rfl (Nat.le_of_ble_eq_true rfl) hl.1 ⟨Nat.le_of_ble_eq_true rfl, Nat.le_of_ble_eq_true rfl⟩ ⟨(Nat.le_of_ble_eq_true rfl), (Nat.le_of_ble_eq_true rfl)⟩ dJ23_remove_21) hw (fun u => (z_putP2 (z_pput (is := [0, 1]) (ws := [(lst, zo 14 [.int mq, .ref ed, .int (nI n)]), (ed, zc G 4 (zO cap ef))]) (cells := [(lst, zo 14 [.int mq, .ref ed, .int (nI n)]), (ed, zc G 4 (zO cap ef))]) (cells' := [(lst, zo 14 [.int (mq + (nI 1)), .ref ed, .int (nI (n - 1))]), (ed, zc G 4 (zO cap u))]) rfl rfl rfl)).trans ((((z_mv1 X Y rest).trans (z_mv1 Y X rest))).symm.append_left [(lst, zo 14 [.int (mq + (nI 1)), .ref ed, .int (nI (n - 1))]), (ed, zc G 4 (zO cap u))])) (fun u H locs hp hw => ?_)
  obtain ⟨ef7, rfl⟩ : ∃ z, z = u := ⟨_, rfl⟩
  have hw : zS G ((lst, zo 14 [.int (mq + (nI 1)), .ref ed, .int (nI (n - 1))]) :: (ed, zc G 4 (zO cap ef7)) :: (X ++ (Y ++ rest))) s H locs := hw
  have hdE := hp
  refine z_aload_nQ hx hb dJ23_remove_24 rfl (lv_at hl 0 rfl) ?_
  exact hend _ _ _ _ _ _ (ef i) ef7 hw hdE (Nat.le_of_ble_eq_true rfl) (Nat.le_of_ble_eq_true rfl) dJ23_remove_25
theorem zv_J24_47 : zVs RJ24 47 yJ23_remove cJ23_remove 4 (some (.object "java/lang/Object")) 1 := ⟨lw_V q1760 q1743 q2193 q85 q1744, ⟨by decide +kernel, by decide +kernel⟩, by decide +kernel⟩
set_option maxHeartbeats 4000000 in
theorem m_J24_remove_o (G : zE) (l : Launch) (kA : Nat → Nat) (hG : zG G kA) (hV : zV G kA) (lst : Nat) (ed : Nat) (n : Nat) (mq : Int32) (cap : Nat) (ef : Nat → Option Nat) (it : Nat) (cu : Nat) (i : Nat) (X : va_W) (Y : va_W) (hel : ∀ j, j < n → ∀ y, ef j = some y → elOk kA (X ++ Y) y) (hi : i < n) (hn : n ≤ cap) (hc9 : cap ≤ 15) (rest : va_W) : zWv G l yJ24_remove cJ24_remove 2 [(19, 55, 58, 51)] 6 0 0 [.ref it] ((lst, zo 14 [.int mq, .ref ed, .int (nI n)]) :: (it, zo 15 [.int (nI cu), .int (nI i), .int mq, .ref lst, .ref lst]) :: (ed, zc G 4 (zO cap ef)) :: (X ++ (Y ++ rest))) (fun u => ∀ j, j < n - 1 → u j = delF ef i j) (fun (u : Nat → Option Nat) => (lst, zo 14 [.int (mq + (nI 1)), .ref ed, .int (nI (n - 1))]) :: (it, zo 15 [.int (nI i), .int (-1), .int (mq + (nI 1)), .ref lst, .ref lst]) :: (ed, zc G 4 (zO cap u)) :: (X ++ (Y ++ rest))) := by
  refine z_begVW (by decide) (Nat.le_of_ble_eq_true rfl) (fun p e s m args below meth c ls Q hC htb hnm hl hw hend => ?_)
  have hx := hC.hx
  have hb := hC.hb
  have hl : lv_has ls 2 [(0, .ref it)] := hl
  have hw : zS G ((lst, zo 14 [.int mq, .ref ed, .int (nI n)]) :: (it, zo 15 [.int (nI cu), .int (nI i), .int mq, .ref lst, .ref lst]) :: (ed, zc G 4 (zO cap ef)) :: (X ++ (Y ++ rest))) s s.heap [] := hw
  have hz := hG s hC.hZ.1
  have hzv := hV s hC.hZ.1
  refine lv_aload_n hx hb dJ24_remove_0 rfl (lv_at hl 0 rfl) ?_
  refine z_getU (v := .int (nI i)) hC zf_J24_13_15 hw 1 rfl rfl dJ24_remove_1 ?_
  refine zj_ge (tgt := 15) hx hb (by omega) dJ24_remove_4 (by decide) ?_
  refine lv_aload_n hx hb dJ24_remove_15 rfl (lv_at hl 0 rfl) ?_
  refine z_cv (z_runB (x := (⟨"java/util/ArrayList$Itr", "checkForComodification", "()V"⟩ : MethodName)) (owner := "java/util/ArrayList$Itr") (C := "java/util/ArrayList$ListItr") (n := 0) (As := []) (rest := []) hC ⟨zn_J24_checkForComodification, q1524, q2190, ⟨by decide +kernel, by decide +kernel⟩, by decide +kernel⟩ (hC.hts _ q1546) (hC.hts _ q2189) (z_declO hC q1524 q1525) (m_J24_checkForComodification G l kA (by first | assumption | (omega)) lst ed n mq it (nI cu) (nI i) (zrem [0, 1] _)) hw (hw.perm (z_cut (is := [0, 1]) (cells := [(lst, zo 14 [.int mq, .ref ed, .int (nI n)]), (it, zo 15 [.int (nI cu), .int (nI i), .int mq, .ref lst, .ref lst])]) rfl rfl)) 1 rfl rfl rfl rfl rfl (Nat.le_of_ble_eq_true rfl) hl.1 ⟨Nat.le_of_ble_eq_true rfl, Nat.le_of_ble_eq_true rfl⟩ ⟨(Nat.le_of_ble_eq_true rfl), (Nat.le_of_ble_eq_true rfl)⟩ dJ24_remove_16) hw (fun _ => z_keep (is := [0, 1]) (cs := [(lst, zo 14 [.int mq, .ref ed, .int (nI n)]), (it, zo 15 [.int (nI cu), .int (nI i), .int mq, .ref lst, .ref lst])]) rfl rfl) (fun u H locs hp hw => ?_)
  refine lv_aload_n hx hb dJ24_remove_19 rfl (lv_at hl 0 rfl) ?_
  refine z_getU (v := .ref lst) hC zf_J24_1_15 hw 1 rfl rfl dJ24_remove_20 ?_
  refine lv_aload_n hx hb dJ24_remove_23 rfl (lv_at hl 0 rfl) ?_
  refine z_getU (v := .int (nI i)) hC zf_J24_13_15 hw 1 rfl rfl dJ24_remove_24 ?_
  refine z_cq (z_runV (As := [.int (nI i)]) (rest := []) hC zv_J24_47 (m_J23_remove G l kA (by first | assumption | (omega)) (by first | assumption | (omega)) lst ed n mq cap ef i X Y hel (by omega) (by omega) (by omega) (zrem [0, 2] [(lst, zo 14 [.int mq, .ref ed, .int (nI n)]), (it, zo 15 [.int (nI cu), .int (nI i), .int mq, .ref lst, .ref lst]), (ed, zc G 4 (zO cap ef))] ++ rest)) hw (hw.perm (((((z_mv1 X Y rest).trans (z_mv1 Y X rest))).append_left [(lst, zo 14 [.int mq, .ref ed, .int (nI n)]), (it, zo 15 [.int (nI cu), .int (nI i), .int mq, .ref lst, .ref lst]), (ed, zc G 4 (zO cap ef))]).trans (z_cutP2 (z_cut (is := [0, 2]) (ws := [(lst, zo 14 [.int mq, .ref ed, .int (nI n)]), (it, zo 15 [.int (nI cu), .int (nI i), .int mq, .ref lst, .ref lst]), (ed, zc G 4 (zO cap ef))]) (cells := [(lst, zo 14 [.int mq, .ref ed, .int (nI n)]), (ed, zc G 4 (zO cap ef))]) rfl rfl)))) 0 rfl rfl rfl rfl rfl (Nat.le_of_ble_eq_true rfl) hl.1 ⟨Nat.le_of_ble_eq_true rfl, Nat.le_of_ble_eq_true rfl⟩ ⟨(Nat.le_of_ble_eq_true rfl), (Nat.le_of_ble_eq_true rfl)⟩ dJ24_remove_27) hw (fun u => (z_putP2 (z_pput (is := [0, 2]) (ws := [(lst, zo 14 [.int mq, .ref ed, .int (nI n)]), (it, zo 15 [.int (nI cu), .int (nI i), .int mq, .ref lst, .ref lst]), (ed, zc G 4 (zO cap ef))]) (cells := [(lst, zo 14 [.int mq, .ref ed, .int (nI n)]), (ed, zc G 4 (zO cap ef))]) (cells' := [(lst, zo 14 [.int (mq + (nI 1)), .ref ed, .int (nI (n - 1))]), (ed, zc G 4 (zO cap u))]) rfl rfl rfl)).trans ((((z_mv1 X Y rest).trans (z_mv1 Y X rest))).symm.append_left [(lst, zo 14 [.int (mq + (nI 1)), .ref ed, .int (nI (n - 1))]), (it, zo 15 [.int (nI cu), .int (nI i), .int mq, .ref lst, .ref lst]), (ed, zc G 4 (zO cap u))])) (fun r u H locs hp hw => ?_)
  obtain ⟨ef7, rfl⟩ : ∃ z, z = u := ⟨_, rfl⟩
  have hw : zS G ((lst, zo 14 [.int (mq + (nI 1)), .ref ed, .int (nI (n - 1))]) :: (it, zo 15 [.int (nI cu), .int (nI i), .int mq, .ref lst, .ref lst]) :: (ed, zc G 4 (zO cap ef7)) :: (X ++ (Y ++ rest))) s H locs := hw
  have hdE := hp
  refine lv_pop hx hb dJ24_remove_30 (z_rfcat _) ?_
  refine lv_aload_n hx hb dJ24_remove_31 rfl (lv_at hl 0 rfl) ?_
  refine lv_aload_n hx hb dJ24_remove_32 rfl (lv_at hl 0 rfl) ?_
  refine z_getU (v := .int (nI i)) hC zf_J24_13_15 hw 1 rfl rfl dJ24_remove_33 ?_
  refine z_putU hC zf_J24_25_15 (fun q h => by cases h; decide +kernel) hw 1 rfl (Nat.le_of_ble_eq_true rfl) dJ24_remove_36 (fun H locs hw => ?_)
  have hw : zS G ((lst, zo 14 [.int (mq + (nI 1)), .ref ed, .int (nI (n - 1))]) :: (it, zo 15 [.int (nI i), .int (nI i), .int mq, .ref lst, .ref lst]) :: (ed, zc G 4 (zO cap ef7)) :: (X ++ (Y ++ rest))) s H locs := hw
  refine lv_aload_n hx hb dJ24_remove_39 rfl (lv_at hl 0 rfl) ?_
  refine lv_iconst (v := -1) hx hb dJ24_remove_40 zk_m1 ?_
  refine z_putU hC zf_J24_13_15 (fun q h => by cases h; decide +kernel) hw 1 rfl (Nat.le_of_ble_eq_true rfl) dJ24_remove_41 (fun H locs hw => ?_)
  have hw : zS G ((lst, zo 14 [.int (mq + (nI 1)), .ref ed, .int (nI (n - 1))]) :: (it, zo 15 [.int (nI i), .int (-1), .int mq, .ref lst, .ref lst]) :: (ed, zc G 4 (zO cap ef7)) :: (X ++ (Y ++ rest))) s H locs := hw
  refine lv_aload_n hx hb dJ24_remove_44 rfl (lv_at hl 0 rfl) ?_
  refine lv_aload_n hx hb dJ24_remove_45 rfl (lv_at hl 0 rfl) ?_
  refine z_getU (v := .ref lst) hC zf_J24_1_15 hw 1 rfl rfl dJ24_remove_46 ?_
  refine z_getU (v := .int (mq + (nI 1))) hC zf_J24_17_14 hw 0 rfl rfl dJ24_remove_49 ?_
  refine z_putU hC zf_J24_22_15 (fun q h => by cases h; decide +kernel) hw 1 rfl (Nat.le_of_ble_eq_true rfl) dJ24_remove_52 (fun H locs hw => ?_)
  have hw : zS G ((lst, zo 14 [.int (mq + (nI 1)), .ref ed, .int (nI (n - 1))]) :: (it, zo 15 [.int (nI i), .int (-1), .int (mq + (nI 1)), .ref lst, .ref lst]) :: (ed, zc G 4 (zO cap ef7)) :: (X ++ (Y ++ rest))) s H locs := hw
  refine lv_goto (tgt := 67) hx hb dJ24_remove_55 (by decide) ?_
  exact hend _ _ _ _ _ _ ef7 hw hdE (Nat.le_of_ble_eq_true rfl) (Nat.le_of_ble_eq_true rfl) dJ24_remove_67
theorem ex0t_J24_46 : ∀ w ∈ vx_at0 RJ24 46 "java/lang/IllegalStateException" exNames, w ∈ lw_tbl := by decide +kernel
theorem ex0o_J24_46 : ∀ w ∈ Cond.classLink RJ24 44 "java/lang/IllegalStateException" :: Cond.initialized "java/lang/IllegalStateException" :: vx_at0 RJ24 46 "java/lang/IllegalStateException" exNames, vx_ot w = true := by decide +kernel
set_option maxHeartbeats 4000000 in
theorem m_J24_remove_x (G : zE) (l : Launch) (kA : Nat → Nat) (hG : zG G kA) (hV : zV G kA) (hY : zY G) (hlt : l.stackTraces = false) (it : Nat) (lst : Nat) (cu : Nat) (mq : Int32) (rest : va_W) : zThW G l yJ24_remove cJ24_remove 2 none [(19, 55, 58, 51)] 260 1 6 [.ref it] ((it, zo 15 [.int (nI cu), .int (-1), .int mq, .ref lst, .ref lst]) :: rest) "java/lang/IllegalStateException" (fun _ => (it, zo 15 [.int (nI cu), .int (-1), .int mq, .ref lst, .ref lst]) :: rest) := by
  refine z_begXW (by decide) (Nat.le_of_ble_eq_true rfl) (fun p e s m args below meth c ls Q hQ hC htb hl hw hend => ?_)
  have hx := hC.hx
  have hb := hC.hb
  have hl : lv_has ls 2 [(0, .ref it)] := hl
  have hw : zS G ((it, zo 15 [.int (nI cu), .int (-1), .int mq, .ref lst, .ref lst]) :: rest) s s.heap [] := hw
  have hz := hG s hC.hZ.1
  have hzv := hV s hC.hZ.1
  have hzy := hY s hC.hZ.1
  refine lv_aload_n hx hb dJ24_remove_0 rfl (lv_at hl 0 rfl) ?_
  refine z_getU (v := .int (-1)) hC zf_J24_13_15 hw 0 rfl rfl dJ24_remove_1 ?_
  refine lv_if_ge (tgt := 15) hx hb dJ24_remove_4 (by decide) (fun h => absurd h (by decide)) (fun _ => ?_)
  exact z_thr0 hC hlt hzy hQ htb (by decide +kernel) q1758 q95 ex0t_J24_46 ex0o_J24_46 dJ24_remove_7 dJ24_remove_10 dJ24_remove_11 dJ24_remove_14 (by decide) hw (fun _ => rfl) hl.1 (Nat.le_of_ble_eq_true rfl) ⟨Nat.le_of_ble_eq_true rfl, Nat.le_of_ble_eq_true rfl⟩ (Nat.le_of_ble_eq_true rfl) (Nat.le_of_ble_eq_true rfl) (Nat.le_of_ble_eq_true rfl) (Nat.le_of_ble_eq_true rfl)
set_option maxHeartbeats 4000000 in
theorem m_J9_init (G : zE) (l : Launch) (lst : Nat) (rest : va_W) : zMv G l yJ9_init cJ9_init 1 1 0 0 [.ref lst] (rest) (fun (_ : Unit) => True) (fun (_ : Unit) => rest) := by
  refine z_begV (by decide) (Nat.le_of_ble_eq_true rfl) (fun p e s m args below meth c ls Q hC hnm hl hw hend => ?_)
  have hx := hC.hx
  have hb := hC.hb
  have hl : lv_has ls 1 [(0, .ref lst)] := hl
  refine lv_aload_n hx hb dJ9_init_0 rfl (lv_at hl 0 rfl) ?_
  refine W.objInit hx hb hC.hown (hC.hts _ q489) (hC.hts _ q102) (hC.hts _ q103) rfl (by rw [hC.hml]; exact hl.1) rfl dJ9_init_1 (Nat.le_of_ble_eq_true rfl) (Nat.le_of_ble_eq_true rfl) ?_
  refine W.eq (g2 := F0 m 4 ls []) rfl ?_
  exact hend _ _ _ _ _ _ () hw trivial (Nat.le_of_ble_eq_true rfl) (Nat.le_of_ble_eq_true rfl) dJ9_init_4
theorem zx_J10_1 : zIs RJ10 1 yJ9_init cJ9_init 1 0 := ⟨⟨q488, q63, q486, q487, rfl⟩, ⟨by decide +kernel, by decide +kernel⟩, by decide +kernel⟩
theorem zf_J10_7_14 : zFl 14 0 RJ10 7 false .int := ⟨RJ23, TJ23, 3, tyJ23, rfl, by decide, in_J23, q579, rfl, by decide +kernel, tyJ23_ok, nmJ23⟩
set_option maxHeartbeats 4000000 in
theorem m_J10_init (G : zE) (l : Launch) (lst : Nat) (mq : Int32) (n9 : Int32) (rest : va_W) : zMv G l yJ10_init cJ10_init 1 2 0 0 [.ref lst] ((lst, zo 14 [.int mq, .null, .int n9]) :: rest) (fun (_ : Unit) => True) (fun (_ : Unit) => (lst, zo 14 [.int 0, .null, .int n9]) :: rest) := by
  refine z_begV (by decide) (Nat.le_of_ble_eq_true rfl) (fun p e s m args below meth c ls Q hC hnm hl hw hend => ?_)
  have hx := hC.hx
  have hb := hC.hb
  have hl : lv_has ls 1 [(0, .ref lst)] := hl
  have hw : zS G ((lst, zo 14 [.int mq, .null, .int n9]) :: rest) s s.heap [] := hw
  refine lv_aload_n hx hb dJ10_init_0 rfl (lv_at hl 0 rfl) ?_
  refine z_cv (z_runI (As := []) (rest := []) hC zx_J10_1 (m_J9_init G l lst _) hw rfl rfl (Nat.le_of_ble_eq_true rfl) hl.1 ⟨Nat.le_of_ble_eq_true rfl, Nat.le_of_ble_eq_true rfl⟩ ⟨(Nat.le_of_ble_eq_true rfl), (Nat.le_of_ble_eq_true rfl)⟩ dJ10_init_1) hw (fun _ => List.Perm.refl _) (fun u H locs hp hw => ?_)
  refine lv_aload_n hx hb dJ10_init_4 rfl (lv_at hl 0 rfl) ?_
  refine lv_iconst (v := (nI 0)) hx hb dJ10_init_5 zk_0 ?_
  refine z_puti hC zf_J10_7_14 hw 0 rfl (Nat.le_of_ble_eq_true rfl) dJ10_init_6 (fun H locs hw => ?_)
  have hw : zS G ((lst, zo 14 [.int (nI 0), .null, .int n9]) :: rest) s H locs := hw
  exact hend _ _ _ _ _ _ () hw trivial (Nat.le_of_ble_eq_true rfl) (Nat.le_of_ble_eq_true rfl) dJ10_init_9
theorem zx_J23_1 : zIs RJ23 1 yJ10_init cJ10_init 1 0 := ⟨⟨q485, q64, q1131, q484, rfl⟩, ⟨by decide +kernel, by decide +kernel⟩, by decide +kernel⟩
set_option maxHeartbeats 4000000 in
theorem m_J23_init (G : zE) (l : Launch) (kA : Nat → Nat) (hG : zG G kA) (hV : zV G kA) (lst : Nat) (rest : va_W) : zMv G l yJ23_init cJ23_init 1 3 0 0 [.ref lst] ((lst, zo 14 [.int 0, .null, .int 0]) :: rest) (fun (_ : Unit) => True) (fun (_ : Unit) => (lst, zo 14 [.int 0, .ref (kA 5), .int (nI 0)]) :: rest) := by
  refine z_begV (by decide) (Nat.le_of_ble_eq_true rfl) (fun p e s m args below meth c ls Q hC hnm hl hw hend => ?_)
  have hx := hC.hx
  have hb := hC.hb
  have hl : lv_has ls 1 [(0, .ref lst)] := hl
  have hw : zS G ((lst, zo 14 [.int 0, .null, .int 0]) :: rest) s s.heap [] := hw
  have hz := hG s hC.hZ.1
  have hzv := hV s hC.hZ.1
  refine lv_aload_n hx hb dJ23_init_0 rfl (lv_at hl 0 rfl) ?_
  refine z_cv (z_runI (As := []) (rest := []) hC zx_J23_1 (m_J10_init G l lst 0 0 (zrem [0] _)) (hw.perm (z_cut (is := [0]) (cells := [(lst, zo 14 [.int 0, .null, .int 0])]) rfl rfl)) rfl rfl (Nat.le_of_ble_eq_true rfl) hl.1 ⟨Nat.le_of_ble_eq_true rfl, Nat.le_of_ble_eq_true rfl⟩ ⟨(Nat.le_of_ble_eq_true rfl), (Nat.le_of_ble_eq_true rfl)⟩ dJ23_init_1) hw (fun _ => z_pput (is := [0]) (cells := [(lst, zo 14 [.int 0, .null, .int 0])]) (cells' := [(lst, zo 14 [.int 0, .null, .int 0])]) rfl rfl rfl) (fun u H locs hp hw => ?_)
  have hw : zS G ((lst, zo 14 [.int 0, .null, .int 0]) :: rest) s H locs := hw
  refine lv_aload_n hx hb dJ23_init_4 rfl (lv_at hl 0 rfl) ?_
  refine z_gets (v := .ref (kA 5)) hC hzv.1.1 hw q1132 dJ23_init_5 ?_
  refine z_put hC zf_J23_9_14 hw 0 rfl rfl rfl (Nat.le_of_ble_eq_true rfl) dJ23_init_8 (fun H locs hw => ?_)
  have hw : zS G ((lst, zo 14 [.int 0, .ref (kA 5), .int 0]) :: rest) s H locs := hw
  exact hend _ _ _ _ _ _ () hw trivial (Nat.le_of_ble_eq_true rfl) (Nat.le_of_ble_eq_true rfl) dJ23_init_11
set_option maxHeartbeats 4000000 in
theorem m_J24_init (G : zE) (l : Launch) (kA : Nat → Nat) (hG : zG G kA) (it : Nat) (lst : Nat) (ed : Nat) (n : Nat) (mq : Int32) (v3 : Value) (rest : va_W) : zMv G l yJ24_init cJ24_init 2 2 0 0 [.ref it, .ref lst] ((lst, zo 14 [.int mq, .ref ed, .int (nI n)]) :: (it, zo 15 [.int 0, .int 0, .int 0, v3, .ref lst]) :: rest) (fun (_ : Unit) => True) (fun (_ : Unit) => (lst, zo 14 [.int mq, .ref ed, .int (nI n)]) :: (it, zo 15 [.int 0, .int (-1), .int mq, .ref lst, .ref lst]) :: rest) := by
  refine z_begV (by decide) (Nat.le_of_ble_eq_true rfl) (fun p e s m args below meth c ls Q hC hnm hl hw hend => ?_)
  have hx := hC.hx
  have hb := hC.hb
  have hl : lv_has ls 2 [(0, .ref it), (1, .ref lst)] := hl
  have hw : zS G ((lst, zo 14 [.int mq, .ref ed, .int (nI n)]) :: (it, zo 15 [.int 0, .int 0, .int 0, v3, .ref lst]) :: rest) s s.heap [] := hw
  have hz := hG s hC.hZ.1
  refine lv_aload_n hx hb dJ24_init_0 rfl (lv_at hl 0 rfl) ?_
  refine lv_aload_n hx hb dJ24_init_1 rfl (lv_at hl 1 rfl) ?_
  refine z_putTw (k2 := 4) hC zf_J24_1_15 (by decide) ⟨_, rfl, rfl⟩ hnm (fun q h => by cases h; decide +kernel) (by decide) rfl hw 1 rfl (Nat.le_of_ble_eq_true rfl) dJ24_init_2 (fun w_2 H locs hwv_2 hw => ?_)
  have hw : zS G ((lst, zo 14 [.int mq, .ref ed, .int (nI n)]) :: (it, zo 15 [.int 0, .int 0, .int 0, .ref lst, w_2]) :: rest) s H locs := hw
  obtain rfl : w_2 = .ref lst := hwv_2.elim id id
  have hw : zS G ((lst, zo 14 [.int mq, .ref ed, .int (nI n)]) :: (it, zo 15 [.int 0, .int 0, .int 0, .ref lst, (.ref lst)]) :: rest) s H locs := hw
  refine lv_aload_n hx hb dJ24_init_5 rfl (lv_at hl 0 rfl) ?_
  refine W.objInit hx hb hC.hown (hC.hts _ q1162) (hC.hts _ q102) (hC.hts _ q103) rfl (by rw [hC.hml]; exact hl.1) rfl dJ24_init_6 (Nat.le_of_ble_eq_true rfl) (Nat.le_of_ble_eq_true rfl) ?_
  refine W.eq (g2 := F0 m 9 ls []) rfl ?_
  refine lv_aload_n hx hb dJ24_init_9 rfl (lv_at hl 0 rfl) ?_
  refine lv_iconst (v := -1) hx hb dJ24_init_10 zk_m1 ?_
  refine z_putU hC zf_J24_13_15 (fun q h => by cases h; decide +kernel) hw 1 rfl (Nat.le_of_ble_eq_true rfl) dJ24_init_11 (fun H locs hw => ?_)
  have hw : zS G ((lst, zo 14 [.int mq, .ref ed, .int (nI n)]) :: (it, zo 15 [.int 0, .int (-1), .int 0, .ref lst, (.ref lst)]) :: rest) s H locs := hw
  refine lv_aload_n hx hb dJ24_init_14 rfl (lv_at hl 0 rfl) ?_
  refine lv_aload_n hx hb dJ24_init_15 rfl (lv_at hl 0 rfl) ?_
  refine z_getU (v := .ref lst) hC zf_J24_1_15 hw 1 rfl rfl dJ24_init_16 ?_
  refine z_getU (v := .int mq) hC zf_J24_17_14 hw 0 rfl rfl dJ24_init_19 ?_
  refine z_putU hC zf_J24_22_15 (fun q h => by cases h; decide +kernel) hw 1 rfl (Nat.le_of_ble_eq_true rfl) dJ24_init_22 (fun H locs hw => ?_)
  have hw : zS G ((lst, zo 14 [.int mq, .ref ed, .int (nI n)]) :: (it, zo 15 [.int 0, .int (-1), .int mq, .ref lst, (.ref lst)]) :: rest) s H locs := hw
  exact hend _ _ _ _ _ _ () hw trivial (Nat.le_of_ble_eq_true rfl) (Nat.le_of_ble_eq_true rfl) dJ24_init_25
theorem zx_J25_7 : zIs RJ25 7 yJ24_init cJ24_init 2 1 := ⟨⟨q1161, q86, q1159, q1160, rfl⟩, ⟨by decide +kernel, by decide +kernel⟩, by decide +kernel⟩
set_option maxHeartbeats 4000000 in
theorem m_J25_init (G : zE) (l : Launch) (kA : Nat → Nat) (hG : zG G kA) (it : Nat) (lst : Nat) (ed : Nat) (n : Nat) (mq : Int32) (rest : va_W) : zMv G l yJ25_init cJ25_init 3 3 0 0 [.ref it, .ref lst, .int (nI 0)] ((lst, zo 14 [.int mq, .ref ed, .int (nI n)]) :: (it, zo 15 [.int 0, .int 0, .int 0, .null, .null]) :: rest) (fun (_ : Unit) => True) (fun (_ : Unit) => (lst, zo 14 [.int mq, .ref ed, .int (nI n)]) :: (it, zo 15 [.int (nI 0), .int (-1), .int mq, .ref lst, .ref lst]) :: rest) := by
  refine z_begV (by decide) (Nat.le_of_ble_eq_true rfl) (fun p e s m args below meth c ls Q hC hnm hl hw hend => ?_)
  have hx := hC.hx
  have hb := hC.hb
  have hl : lv_has ls 3 [(0, .ref it), (1, .ref lst), (2, .int (nI 0))] := hl
  have hw : zS G ((lst, zo 14 [.int mq, .ref ed, .int (nI n)]) :: (it, zo 15 [.int 0, .int 0, .int 0, .null, .null]) :: rest) s s.heap [] := hw
  have hz := hG s hC.hZ.1
  refine lv_aload_n hx hb dJ25_init_0 rfl (lv_at hl 0 rfl) ?_
  refine lv_aload_n hx hb dJ25_init_1 rfl (lv_at hl 1 rfl) ?_
  refine z_putTw (k2 := 3) hC zf_J25_1_15 (by decide) ⟨_, rfl, rfl⟩ hnm (fun q h => by cases h; decide +kernel) (by decide) rfl hw 1 rfl (Nat.le_of_ble_eq_true rfl) dJ25_init_2 (fun w_2 H locs hwv_2 hw => ?_)
  have hw : zS G ((lst, zo 14 [.int mq, .ref ed, .int (nI n)]) :: (it, zo 15 [.int 0, .int 0, .int 0, w_2, .ref lst]) :: rest) s H locs := hw
  refine lv_aload_n hx hb dJ25_init_5 rfl (lv_at hl 0 rfl) ?_
  refine lv_aload_n hx hb dJ25_init_6 rfl (lv_at hl 1 rfl) ?_
  refine z_cv (z_runI (As := [.ref lst]) (rest := []) hC zx_J25_7 (m_J24_init G l kA (by first | assumption | (omega)) it lst ed n mq w_2 (zrem [0, 1] _)) (hw.perm (z_cut (is := [0, 1]) (cells := [(lst, zo 14 [.int mq, .ref ed, .int (nI n)]), (it, zo 15 [.int 0, .int 0, .int 0, w_2, .ref lst])]) rfl rfl)) rfl rfl (Nat.le_of_ble_eq_true rfl) hl.1 ⟨Nat.le_of_ble_eq_true rfl, Nat.le_of_ble_eq_true rfl⟩ ⟨(Nat.le_of_ble_eq_true rfl), (Nat.le_of_ble_eq_true rfl)⟩ dJ25_init_7) hw (fun _ => z_pput (is := [0, 1]) (cells := [(lst, zo 14 [.int mq, .ref ed, .int (nI n)]), (it, zo 15 [.int 0, .int 0, .int 0, w_2, .ref lst])]) (cells' := [(lst, zo 14 [.int mq, .ref ed, .int (nI n)]), (it, zo 15 [.int 0, .int (-1), .int mq, .ref lst, .ref lst])]) rfl rfl rfl) (fun u H locs hp hw => ?_)
  have hw : zS G ((lst, zo 14 [.int mq, .ref ed, .int (nI n)]) :: (it, zo 15 [.int 0, .int (-1), .int mq, .ref lst, .ref lst]) :: rest) s H locs := hw
  refine lv_aload_n hx hb dJ25_init_10 rfl (lv_at hl 0 rfl) ?_
  refine lv_iload_n hx hb dJ25_init_11 rfl (lv_at hl 2 rfl) ?_
  refine z_putU hC zf_J25_13_15 (fun q h => by cases h; decide +kernel) hw 1 rfl (Nat.le_of_ble_eq_true rfl) dJ25_init_12 (fun H locs hw => ?_)
  have hw : zS G ((lst, zo 14 [.int mq, .ref ed, .int (nI n)]) :: (it, zo 15 [.int (nI 0), .int (-1), .int mq, .ref lst, .ref lst]) :: rest) s H locs := hw
  exact hend _ _ _ _ _ _ () hw trivial (Nat.le_of_ble_eq_true rfl) (Nat.le_of_ble_eq_true rfl) dJ25_init_15
theorem zx_J23_264 : zIs RJ23 264 yJ25_init cJ25_init 3 2 := ⟨⟨q1158, q87, q1156, q1157, rfl⟩, ⟨by decide +kernel, by decide +kernel⟩, by decide +kernel⟩
set_option maxHeartbeats 4000000 in
theorem m_J23_listIterator (G : zE) (l : Launch) (kA : Nat → Nat) (hG : zG G kA) (lst : Nat) (ed : Nat) (n : Nat) (mq : Int32) (rest : va_W) : zMq G l yJ23_listIterator cJ23_listIterator 1 (some (.object "java/util/ListIterator")) 4 1 5 [.ref lst] ((lst, zo 14 [.int mq, .ref ed, .int (nI n)]) :: rest) (fun (r : Option Nat) u => r = some u) (fun (u : Nat) => (u, zo 15 [.int (nI 0), .int (-1), .int mq, .ref lst, .ref lst]) :: (lst, zo 14 [.int mq, .ref ed, .int (nI n)]) :: rest) := by
  refine z_begQ (by first | exact Or.inl ⟨_, rfl⟩ | exact Or.inr ⟨_, rfl⟩) (by decide) (Nat.le_of_ble_eq_true rfl) (fun p e s m args below meth c ls Q hC hl hw hend => ?_)
  have hx := hC.hx
  have hb := hC.hb
  have hl : lv_has ls 1 [(0, .ref lst)] := hl
  have hw : zS G ((lst, zo 14 [.int mq, .ref ed, .int (nI n)]) :: rest) s s.heap [] := hw
  have hz := hG s hC.hZ.1
  refine z_new (ci := 15) (fs := [.int 0, .int 0, .int 0, .null, .null]) hC rfl in_J25 tyJ25_ok q1154 q1155 q87 hw (fun j hj => by revert hj; revert j; decide) (Nat.le_of_ble_eq_true rfl) (Nat.le_of_ble_eq_true rfl) dJ23_listIterator_0 (fun q_0 H hw => ?_)
  have hw : zS G ((q_0, zo 15 [.int 0, .int 0, .int 0, .null, .null]) :: (lst, zo 14 [.int mq, .ref ed, .int (nI n)]) :: rest) s H [] := hw
  refine lv_dup hx hb dJ23_listIterator_3 rfl ?_
  refine lv_aload_n hx hb dJ23_listIterator_4 rfl (lv_at hl 0 rfl) ?_
  refine lv_iconst (v := (nI 0)) hx hb dJ23_listIterator_5 zk_0 ?_
  refine z_cv (z_runI (As := [.ref lst, .int (nI 0)]) (rest := [.ref q_0]) hC zx_J23_264 (m_J25_init G l kA (by first | assumption | (omega)) q_0 lst ed n mq (zrem [1, 0] _)) (hw.perm (z_cut (is := [1, 0]) (cells := [(lst, zo 14 [.int mq, .ref ed, .int (nI n)]), (q_0, zo 15 [.int 0, .int 0, .int 0, .null, .null])]) rfl rfl)) rfl rfl (Nat.le_of_ble_eq_true rfl) hl.1 ⟨Nat.le_of_ble_eq_true rfl, Nat.le_of_ble_eq_true rfl⟩ ⟨(Nat.le_of_ble_eq_true rfl), (Nat.le_of_ble_eq_true rfl)⟩ dJ23_listIterator_6) hw (fun _ => z_pput (is := [1, 0]) (cells := [(lst, zo 14 [.int mq, .ref ed, .int (nI n)]), (q_0, zo 15 [.int 0, .int 0, .int 0, .null, .null])]) (cells' := [(lst, zo 14 [.int mq, .ref ed, .int (nI n)]), (q_0, zo 15 [.int (nI 0), .int (-1), .int mq, .ref lst, .ref lst])]) rfl rfl rfl) (fun u H locs hp hw => ?_)
  have hw : zS G ((q_0, zo 15 [.int (nI 0), .int (-1), .int mq, .ref lst, .ref lst]) :: (lst, zo 14 [.int mq, .ref ed, .int (nI n)]) :: rest) s H locs := hw
  exact hend _ _ _ _ _ _ (some q_0) q_0 hw rfl (Nat.le_of_ble_eq_true rfl) (Nat.le_of_ble_eq_true rfl) dJ23_listIterator_9
