/-! TRAILS: the row of things -/
set_option maxRecDepth 100000
theorem zf_X11_12_10 : zFl 10 0 RX11 12 true (.object "java/util/List") := ⟨RX11, TX11, 3, tyX11, rfl, by decide, in_X11, q1246, rfl, by decide +kernel, tyX11_ok, nmX11⟩
theorem zif_X11_28_14 : zIf RX11 28 "java/util/ArrayList" (⟨"java/util/List", "size", "()I"⟩ : MethodName) yJ23_size 0 := ⟨q1600, q1603, q1210, q85, ⟨by decide +kernel, by decide +kernel⟩, by decide +kernel⟩
set_option maxHeartbeats 4000000 in
theorem m_X11_many (G : zE) (l : Launch) (kA : Nat → Nat) (hG : zG G kA) (lst : Nat) (ed : Nat) (n : Nat) (mq : Int32) (a : Nat) (bk : Int32) (it : Nat) (rest : va_W) : zMi G l yX11_many cX11_many 1 (some .int) 2 0 0 [.ref a] ((a, zo 10 [.ref lst, .ref it, .int bk]) :: (lst, zo 14 [.int mq, .ref ed, .int (nI n)]) :: rest) (fun (r : Int32) (_ : Unit) => r = nI n) (fun (_ : Unit) => (a, zo 10 [.ref lst, .ref it, .int bk]) :: (lst, zo 14 [.int mq, .ref ed, .int (nI n)]) :: rest) := by
  refine z_begI (by decide) (Nat.le_of_ble_eq_true rfl) (fun p e s m args below meth c ls Q hC hl hw hend => ?_)
  have hx := hC.hx
  have hb := hC.hb
  have hl : lv_has ls 1 [(0, .ref a)] := hl
  have hw : zS G ((a, zo 10 [.ref lst, .ref it, .int bk]) :: (lst, zo 14 [.int mq, .ref ed, .int (nI n)]) :: rest) s s.heap [] := hw
  have hz := hG s hC.hZ.1
  refine lv_aload_n hx hb dX11_many_0 rfl (lv_at hl 0 rfl) ?_
  refine z_get (v := .ref lst) hC zf_X11_12_10 hw 0 rfl rfl dX11_many_1 ?_
  refine z_c5i (z_runF (As := []) (rest := []) hC zif_X11_28_14 q1211 ⟨hz.1 _ (cw_t q1602 rfl), hz.1 _ (cw_t q1601 rfl), hz.1 _ (cw_t q1605 rfl), hz.1 _ (cw_t q1604 rfl), hz.1 _ (cw_t q595 rfl)⟩ (m_J23_size G l lst ed n mq (zrem [1] _)) hw (hw.perm (z_cut (is := [1]) (cells := [(lst, zo 14 [.int mq, .ref ed, .int (nI n)])]) rfl rfl)) 1 rfl rfl rfl rfl rfl (Nat.le_of_ble_eq_true rfl) hl.1 ⟨Nat.le_of_ble_eq_true rfl, Nat.le_of_ble_eq_true rfl⟩ ⟨(Nat.le_of_ble_eq_true rfl), (Nat.le_of_ble_eq_true rfl)⟩ dX11_many_4) hw (fun _ => z_keep (is := [1]) (cs := [(lst, zo 14 [.int mq, .ref ed, .int (nI n)])]) rfl rfl) (fun r u H locs hp hw => ?_)
  obtain rfl : r = nI n := hp
  exact hend _ _ _ _ _ _ _ () hw (by first | rfl | simp_all) (Nat.le_of_ble_eq_true rfl) (Nat.le_of_ble_eq_true rfl) dX11_many_9
theorem zf_X11_24_10 : zFl 10 1 RX11 24 false (.object "java/util/ListIterator") := ⟨RX11, TX11, 3, tyX11, rfl, by decide, in_X11, q1247, rfl, by decide +kernel, tyX11_ok, nmX11⟩
theorem zif_X11_32_15 : zIf RX11 32 "java/util/ArrayList$ListItr" (⟨"java/util/ListIterator", "hasNext", "()Z"⟩ : MethodName) yJ24_hasNext 0 := ⟨q1266, q1277, q1279, q86, ⟨by decide +kernel, by decide +kernel⟩, by decide +kernel⟩
theorem zif_X11_44_15 : zIf RX11 44 "java/util/ArrayList$ListItr" (⟨"java/util/ListIterator", "nextIndex", "()I"⟩ : MethodName) yJ25_nextIndex 0 := ⟨q1312, q1320, q1322, q87, ⟨by decide +kernel, by decide +kernel⟩, by decide +kernel⟩
theorem zif_X11_50_14 : zIf RX11 50 "java/util/ArrayList" (⟨"java/util/List", "get", "(I)Ljava/lang/Object;"⟩ : MethodName) yJ23_get 1 := ⟨q1340, q1343, q1345, q85, ⟨by decide +kernel, by decide +kernel⟩, by decide +kernel⟩
set_option maxHeartbeats 4000000 in
theorem m_X11_ahead_0 (G : zE) (l : Launch) (kA : Nat → Nat) (hG : zG G kA) (lst : Nat) (ed : Nat) (n : Nat) (mq : Int32) (cap : Nat) (ef : Nat → Option Nat) (a : Nat) (bk : Int32) (it : Nat) (cu : Nat) (lr : Int32) (hh12 : cu < n) (hn : n ≤ cap) (hc9 : cap ≤ 15) (hn12 : n ≤ 12) (rest : va_W) : zMq G l yX11_ahead cX11_ahead 2 (some (.object "java/lang/Object")) 5 0 0 [.ref a, .int (nI 0)] ((a, zo 10 [.ref lst, .ref it, .int bk]) :: (lst, zo 14 [.int mq, .ref ed, .int (nI n)]) :: (it, zo 15 [.int (nI cu), .int lr, .int mq, .ref lst, .ref lst]) :: (ed, zc G 4 (zO cap ef)) :: rest) (fun (r : Option Nat) (_ : Unit) => r = ef cu) (fun (_ : Unit) => (a, zo 10 [.ref lst, .ref it, .int bk]) :: (lst, zo 14 [.int mq, .ref ed, .int (nI n)]) :: (it, zo 15 [.int (nI cu), .int lr, .int mq, .ref lst, .ref lst]) :: (ed, zc G 4 (zO cap ef)) :: rest) := by
  refine z_begQ (by first | exact Or.inl ⟨_, rfl⟩ | exact Or.inr ⟨_, rfl⟩) (by decide) (Nat.le_of_ble_eq_true rfl) (fun p e s m args below meth c ls Q hC hl hw hend => ?_)
  have hx := hC.hx
  have hb := hC.hb
  have hl : lv_has ls 2 [(0, .ref a), (1, .int (nI 0))] := hl
  have hw : zS G ((a, zo 10 [.ref lst, .ref it, .int bk]) :: (lst, zo 14 [.int mq, .ref ed, .int (nI n)]) :: (it, zo 15 [.int (nI cu), .int lr, .int mq, .ref lst, .ref lst]) :: (ed, zc G 4 (zO cap ef)) :: rest) s s.heap [] := hw
  have hz := hG s hC.hZ.1
  refine lv_iload_n hx hb dX11_ahead_0 rfl (lv_at hl 1 rfl) ?_
  refine zj_ne (tgt := 19) hx hb (by decide) dX11_ahead_1 (by decide) (fun h => absurd h (by decide)) (fun _ => ?_)
  refine lv_aload_n hx hb dX11_ahead_4 rfl (lv_at hl 0 rfl) ?_
  refine z_get (v := .ref it) hC zf_X11_24_10 hw 0 rfl rfl dX11_ahead_5 ?_
  refine z_c5i (z_runF (As := []) (rest := []) hC zif_X11_32_15 q1281 ⟨hz.1 _ (cw_t q1268 rfl), hz.1 _ (cw_t q1267 rfl), hz.1 _ (cw_t q1280 rfl), hz.1 _ (cw_t q1278 rfl), hz.1 _ (cw_t q1276 rfl)⟩ (m_J24_hasNext G l kA (by first | assumption | (omega)) lst ed n mq it cu lr (by omega) (by omega) (zrem [1, 2] _)) hw (hw.perm (z_cut (is := [1, 2]) (cells := [(lst, zo 14 [.int mq, .ref ed, .int (nI n)]), (it, zo 15 [.int (nI cu), .int lr, .int mq, .ref lst, .ref lst])]) rfl rfl)) 2 rfl rfl rfl rfl rfl (Nat.le_of_ble_eq_true rfl) hl.1 ⟨Nat.le_of_ble_eq_true rfl, Nat.le_of_ble_eq_true rfl⟩ ⟨(Nat.le_of_ble_eq_true rfl), (Nat.le_of_ble_eq_true rfl)⟩ dX11_ahead_8) hw (fun _ => z_keep (is := [1, 2]) (cs := [(lst, zo 14 [.int mq, .ref ed, .int (nI n)]), (it, zo 15 [.int (nI cu), .int lr, .int mq, .ref lst, .ref lst])]) rfl rfl) (fun r u H locs hp hw => ?_)
  obtain rfl : r = bI (¬ cu = n) := hp
  refine zb_ne (tgt := 39) hx hb dX11_ahead_13 (by decide) (fun _ => ?_) (fun h => absurd h (by omega))
  refine lv_aload_n hx hb dX11_ahead_39 rfl (lv_at hl 0 rfl) ?_
  refine z_get (v := .ref lst) hC zf_X11_12_10 hw 0 rfl rfl dX11_ahead_40 ?_
  refine lv_iload_n hx hb dX11_ahead_43 rfl (lv_at hl 1 rfl) ?_
  refine zj_ne (tgt := 59) hx hb (by decide) dX11_ahead_44 (by decide) (fun h => absurd h (by decide)) (fun _ => ?_)
  refine lv_aload_n hx hb dX11_ahead_47 rfl (lv_at hl 0 rfl) ?_
  refine z_get (v := .ref it) hC zf_X11_24_10 hw 0 rfl rfl dX11_ahead_48 ?_
  refine z_c5i (z_runF (As := []) (rest := [.ref lst]) hC zif_X11_44_15 q1324 ⟨hz.1 _ (cw_t q1314 rfl), hz.1 _ (cw_t q1313 rfl), hz.1 _ (cw_t q1323 rfl), hz.1 _ (cw_t q1321 rfl), hz.1 _ (cw_t q1276 rfl)⟩ (m_J25_nextIndex G l it lst cu lr mq (zrem [2] _)) hw (hw.perm (z_cut (is := [2]) (cells := [(it, zo 15 [.int (nI cu), .int lr, .int mq, .ref lst, .ref lst])]) rfl rfl)) 2 rfl rfl rfl rfl rfl (Nat.le_of_ble_eq_true rfl) hl.1 ⟨Nat.le_of_ble_eq_true rfl, Nat.le_of_ble_eq_true rfl⟩ ⟨(Nat.le_of_ble_eq_true rfl), (Nat.le_of_ble_eq_true rfl)⟩ dX11_ahead_51) hw (fun _ => z_keep (is := [2]) (cs := [(it, zo 15 [.int (nI cu), .int lr, .int mq, .ref lst, .ref lst])]) rfl rfl) (fun r u H locs hp hw => ?_)
  obtain rfl : r = nI cu := hp
  refine lv_goto (tgt := 68) hx hb dX11_ahead_56 (by decide) ?_
  refine z_c5q (z_runF (As := [.int (nI cu)]) (rest := []) hC zif_X11_50_14 q1347 ⟨hz.1 _ (cw_t q1342 rfl), hz.1 _ (cw_t q1341 rfl), hz.1 _ (cw_t q1346 rfl), hz.1 _ (cw_t q1344 rfl), hz.1 _ (cw_t q595 rfl)⟩ (m_J23_get G l lst ed n mq cap ef cu (by omega) (by omega) (by omega) (zrem [1, 3] _)) hw (hw.perm (z_cut (is := [1, 3]) (cells := [(lst, zo 14 [.int mq, .ref ed, .int (nI n)]), (ed, zc G 4 (zO cap ef))]) rfl rfl)) 1 rfl rfl rfl rfl rfl (Nat.le_of_ble_eq_true rfl) hl.1 ⟨Nat.le_of_ble_eq_true rfl, Nat.le_of_ble_eq_true rfl⟩ ⟨(Nat.le_of_ble_eq_true rfl), (Nat.le_of_ble_eq_true rfl)⟩ dX11_ahead_68) hw (fun _ => z_keep (is := [1, 3]) (cs := [(lst, zo 14 [.int mq, .ref ed, .int (nI n)]), (ed, zc G 4 (zO cap ef))]) rfl rfl) (fun r u H locs hp hw => ?_)
  obtain rfl : r = ef cu := hp
  exact hend _ _ _ _ _ _ (ef cu) () hw rfl (Nat.le_of_ble_eq_true rfl) (Nat.le_of_ble_eq_true rfl) dX11_ahead_73
theorem zif_X11_38_15 : zIf RX11 38 "java/util/ArrayList$ListItr" (⟨"java/util/ListIterator", "hasPrevious", "()Z"⟩ : MethodName) yJ25_hasPrevious 0 := ⟨q1283, q1291, q1293, q87, ⟨by decide +kernel, by decide +kernel⟩, by decide +kernel⟩
theorem zif_X11_47_15 : zIf RX11 47 "java/util/ArrayList$ListItr" (⟨"java/util/ListIterator", "previousIndex", "()I"⟩ : MethodName) yJ25_previousIndex 0 := ⟨q1326, q1334, q1336, q87, ⟨by decide +kernel, by decide +kernel⟩, by decide +kernel⟩
set_option maxHeartbeats 4000000 in
theorem m_X11_ahead_1 (G : zE) (l : Launch) (kA : Nat → Nat) (hG : zG G kA) (lst : Nat) (ed : Nat) (n : Nat) (mq : Int32) (cap : Nat) (ef : Nat → Option Nat) (a : Nat) (bk : Int32) (it : Nat) (cu : Nat) (lr : Int32) (hh0 : 0 < cu) (hh12 : cu ≤ n) (hn : n ≤ cap) (hc9 : cap ≤ 15) (hn12 : n ≤ 12) (rest : va_W) : zMq G l yX11_ahead cX11_ahead 2 (some (.object "java/lang/Object")) 5 0 0 [.ref a, .int (nI 1)] ((a, zo 10 [.ref lst, .ref it, .int bk]) :: (lst, zo 14 [.int mq, .ref ed, .int (nI n)]) :: (it, zo 15 [.int (nI cu), .int lr, .int mq, .ref lst, .ref lst]) :: (ed, zc G 4 (zO cap ef)) :: rest) (fun (r : Option Nat) (_ : Unit) => r = ef (cu - 1)) (fun (_ : Unit) => (a, zo 10 [.ref lst, .ref it, .int bk]) :: (lst, zo 14 [.int mq, .ref ed, .int (nI n)]) :: (it, zo 15 [.int (nI cu), .int lr, .int mq, .ref lst, .ref lst]) :: (ed, zc G 4 (zO cap ef)) :: rest) := by
  refine z_begQ (by first | exact Or.inl ⟨_, rfl⟩ | exact Or.inr ⟨_, rfl⟩) (by decide) (Nat.le_of_ble_eq_true rfl) (fun p e s m args below meth c ls Q hC hl hw hend => ?_)
  have hx := hC.hx
  have hb := hC.hb
  have hl : lv_has ls 2 [(0, .ref a), (1, .int (nI 1))] := hl
  have hw : zS G ((a, zo 10 [.ref lst, .ref it, .int bk]) :: (lst, zo 14 [.int mq, .ref ed, .int (nI n)]) :: (it, zo 15 [.int (nI cu), .int lr, .int mq, .ref lst, .ref lst]) :: (ed, zc G 4 (zO cap ef)) :: rest) s s.heap [] := hw
  have hz := hG s hC.hZ.1
  refine lv_iload_n hx hb dX11_ahead_0 rfl (lv_at hl 1 rfl) ?_
  refine zj_ne (tgt := 19) hx hb (by decide) dX11_ahead_1 (by decide) (fun _ => ?_) (fun h => absurd h (by decide))
  refine lv_aload_n hx hb dX11_ahead_19 rfl (lv_at hl 0 rfl) ?_
  refine z_get (v := .ref it) hC zf_X11_24_10 hw 0 rfl rfl dX11_ahead_20 ?_
  refine z_c5i (z_runF (As := []) (rest := []) hC zif_X11_38_15 q1295 ⟨hz.1 _ (cw_t q1285 rfl), hz.1 _ (cw_t q1284 rfl), hz.1 _ (cw_t q1294 rfl), hz.1 _ (cw_t q1292 rfl), hz.1 _ (cw_t q1276 rfl)⟩ (m_J25_hasPrevious G l it lst cu lr mq (by omega) (zrem [2] _)) hw (hw.perm (z_cut (is := [2]) (cells := [(it, zo 15 [.int (nI cu), .int lr, .int mq, .ref lst, .ref lst])]) rfl rfl)) 2 rfl rfl rfl rfl rfl (Nat.le_of_ble_eq_true rfl) hl.1 ⟨Nat.le_of_ble_eq_true rfl, Nat.le_of_ble_eq_true rfl⟩ ⟨(Nat.le_of_ble_eq_true rfl), (Nat.le_of_ble_eq_true rfl)⟩ dX11_ahead_23) hw (fun _ => z_keep (is := [2]) (cs := [(it, zo 15 [.int (nI cu), .int lr, .int mq, .ref lst, .ref lst])]) rfl rfl) (fun r u H locs hp hw => ?_)
  obtain rfl : r = bI (¬ cu = 0) := hp
  refine zb_ne (tgt := 39) hx hb dX11_ahead_28 (by decide) (fun _ => ?_) (fun h => absurd h (by omega))
  refine lv_aload_n hx hb dX11_ahead_39 rfl (lv_at hl 0 rfl) ?_
  refine z_get (v := .ref lst) hC zf_X11_12_10 hw 0 rfl rfl dX11_ahead_40 ?_
  refine lv_iload_n hx hb dX11_ahead_43 rfl (lv_at hl 1 rfl) ?_
  refine zj_ne (tgt := 59) hx hb (by decide) dX11_ahead_44 (by decide) (fun _ => ?_) (fun h => absurd h (by decide))
  refine lv_aload_n hx hb dX11_ahead_59 rfl (lv_at hl 0 rfl) ?_
  refine z_get (v := .ref it) hC zf_X11_24_10 hw 0 rfl rfl dX11_ahead_60 ?_
  refine z_c5i (z_runF (As := []) (rest := [.ref lst]) hC zif_X11_47_15 q1338 ⟨hz.1 _ (cw_t q1328 rfl), hz.1 _ (cw_t q1327 rfl), hz.1 _ (cw_t q1337 rfl), hz.1 _ (cw_t q1335 rfl), hz.1 _ (cw_t q1276 rfl)⟩ (m_J25_previousIndex G l it lst cu lr mq (zrem [2] _)) hw (hw.perm (z_cut (is := [2]) (cells := [(it, zo 15 [.int (nI cu), .int lr, .int mq, .ref lst, .ref lst])]) rfl rfl)) 2 rfl rfl rfl rfl rfl (Nat.le_of_ble_eq_true rfl) hl.1 ⟨Nat.le_of_ble_eq_true rfl, Nat.le_of_ble_eq_true rfl⟩ ⟨(Nat.le_of_ble_eq_true rfl), (Nat.le_of_ble_eq_true rfl)⟩ dX11_ahead_63) hw (fun _ => z_keep (is := [2]) (cs := [(it, zo 15 [.int (nI cu), .int lr, .int mq, .ref lst, .ref lst])]) rfl rfl) (fun r u H locs hp hw => ?_)
  obtain rfl : r = nI cu - nI 1 := hp
  rw [nI_sub (show 1 ≤ cu by omega)]
  refine z_c5q (z_runF (As := [.int (nI (cu - 1))]) (rest := []) hC zif_X11_50_14 q1347 ⟨hz.1 _ (cw_t q1342 rfl), hz.1 _ (cw_t q1341 rfl), hz.1 _ (cw_t q1346 rfl), hz.1 _ (cw_t q1344 rfl), hz.1 _ (cw_t q595 rfl)⟩ (m_J23_get G l lst ed n mq cap ef (cu - 1) (by omega) (by omega) (by omega) (zrem [1, 3] _)) hw (hw.perm (z_cut (is := [1, 3]) (cells := [(lst, zo 14 [.int mq, .ref ed, .int (nI n)]), (ed, zc G 4 (zO cap ef))]) rfl rfl)) 1 rfl rfl rfl rfl rfl (Nat.le_of_ble_eq_true rfl) hl.1 ⟨Nat.le_of_ble_eq_true rfl, Nat.le_of_ble_eq_true rfl⟩ ⟨(Nat.le_of_ble_eq_true rfl), (Nat.le_of_ble_eq_true rfl)⟩ dX11_ahead_68) hw (fun _ => z_keep (is := [1, 3]) (cs := [(lst, zo 14 [.int mq, .ref ed, .int (nI n)]), (ed, zc G 4 (zO cap ef))]) rfl rfl) (fun r u H locs hp hw => ?_)
  obtain rfl : r = ef (cu - 1) := hp
  exact hend _ _ _ _ _ _ (ef (cu - 1)) () hw rfl (Nat.le_of_ble_eq_true rfl) (Nat.le_of_ble_eq_true rfl) dX11_ahead_73
theorem ex0t_X11_43 : ∀ w ∈ vx_at0 RX11 43 "java/util/NoSuchElementException" exNames, w ∈ lw_tbl := by decide +kernel
theorem ex0o_X11_43 : ∀ w ∈ Cond.classLink RX11 41 "java/util/NoSuchElementException" :: Cond.initialized "java/util/NoSuchElementException" :: vx_at0 RX11 43 "java/util/NoSuchElementException" exNames, vx_ot w = true := by decide +kernel
set_option maxHeartbeats 4000000 in
theorem m_X11_ahead_x0 (G : zE) (l : Launch) (kA : Nat → Nat) (hG : zG G kA) (hY : zY G) (hlt : l.stackTraces = false) (lst : Nat) (ed : Nat) (n : Nat) (mq : Int32) (a : Nat) (bk : Int32) (it : Nat) (lr : Int32) (hn12 : n ≤ 12) (rest : va_W) : zTh G l yX11_ahead cX11_ahead 2 (some (.object "java/lang/Object")) 262 1 6 [.ref a, .int (nI 0)] ((a, zo 10 [.ref lst, .ref it, .int bk]) :: (lst, zo 14 [.int mq, .ref ed, .int (nI n)]) :: (it, zo 15 [.int (nI n), .int lr, .int mq, .ref lst, .ref lst]) :: rest) "java/util/NoSuchElementException" (fun _ => (a, zo 10 [.ref lst, .ref it, .int bk]) :: (lst, zo 14 [.int mq, .ref ed, .int (nI n)]) :: (it, zo 15 [.int (nI n), .int lr, .int mq, .ref lst, .ref lst]) :: rest) := by
  refine z_begX (by decide) (Nat.le_of_ble_eq_true rfl) (fun p e s m args below meth c ls Q hQ hC htb hl hw hend => ?_)
  have hx := hC.hx
  have hb := hC.hb
  have hl : lv_has ls 2 [(0, .ref a), (1, .int (nI 0))] := hl
  have hw : zS G ((a, zo 10 [.ref lst, .ref it, .int bk]) :: (lst, zo 14 [.int mq, .ref ed, .int (nI n)]) :: (it, zo 15 [.int (nI n), .int lr, .int mq, .ref lst, .ref lst]) :: rest) s s.heap [] := hw
  have hz := hG s hC.hZ.1
  have hzy := hY s hC.hZ.1
  refine lv_iload_n hx hb dX11_ahead_0 rfl (lv_at hl 1 rfl) ?_
  refine zj_ne (tgt := 19) hx hb (by decide) dX11_ahead_1 (by decide) (fun h => absurd h (by decide)) (fun _ => ?_)
  refine lv_aload_n hx hb dX11_ahead_4 rfl (lv_at hl 0 rfl) ?_
  refine z_get (v := .ref it) hC zf_X11_24_10 hw 0 rfl rfl dX11_ahead_5 ?_
  refine z_c5i (z_runF (As := []) (rest := []) hC zif_X11_32_15 q1281 ⟨hz.1 _ (cw_t q1268 rfl), hz.1 _ (cw_t q1267 rfl), hz.1 _ (cw_t q1280 rfl), hz.1 _ (cw_t q1278 rfl), hz.1 _ (cw_t q1276 rfl)⟩ (m_J24_hasNext G l kA (by first | assumption | (omega)) lst ed n mq it n lr (by omega) (by omega) (zrem [1, 2] _)) hw (hw.perm (z_cut (is := [1, 2]) (cells := [(lst, zo 14 [.int mq, .ref ed, .int (nI n)]), (it, zo 15 [.int (nI n), .int lr, .int mq, .ref lst, .ref lst])]) rfl rfl)) 2 rfl rfl rfl rfl rfl (Nat.le_of_ble_eq_true rfl) hl.1 ⟨Nat.le_of_ble_eq_true rfl, Nat.le_of_ble_eq_true rfl⟩ ⟨(Nat.le_of_ble_eq_true rfl), (Nat.le_of_ble_eq_true rfl)⟩ dX11_ahead_8) hw (fun _ => z_keep (is := [1, 2]) (cs := [(lst, zo 14 [.int mq, .ref ed, .int (nI n)]), (it, zo 15 [.int (nI n), .int lr, .int mq, .ref lst, .ref lst])]) rfl rfl) (fun r u H locs hp hw => ?_)
  obtain rfl : r = bI (¬ n = n) := hp
  refine zb_ne (tgt := 39) hx hb dX11_ahead_13 (by decide) (fun q => absurd rfl q) (fun _ => ?_)
  refine lv_goto (tgt := 31) hx hb dX11_ahead_16 (by decide) ?_
  exact z_thr0 hC hlt hzy hQ htb (by decide +kernel) q1296 q90 ex0t_X11_43 ex0o_X11_43 dX11_ahead_31 dX11_ahead_34 dX11_ahead_35 dX11_ahead_38 (by decide) hw (fun _ => rfl) hl.1 (Nat.le_of_ble_eq_true rfl) ⟨Nat.le_of_ble_eq_true rfl, Nat.le_of_ble_eq_true rfl⟩ (Nat.le_of_ble_eq_true rfl) (Nat.le_of_ble_eq_true rfl) (Nat.le_of_ble_eq_true rfl) (Nat.le_of_ble_eq_true rfl)
set_option maxHeartbeats 4000000 in
theorem m_X11_ahead_x1 (G : zE) (l : Launch) (kA : Nat → Nat) (hG : zG G kA) (hY : zY G) (hlt : l.stackTraces = false) (lst : Nat) (ed : Nat) (n : Nat) (mq : Int32) (a : Nat) (bk : Int32) (it : Nat) (lr : Int32) (hn12 : n ≤ 12) (rest : va_W) : zTh G l yX11_ahead cX11_ahead 2 (some (.object "java/lang/Object")) 262 1 6 [.ref a, .int (nI 1)] ((a, zo 10 [.ref lst, .ref it, .int bk]) :: (lst, zo 14 [.int mq, .ref ed, .int (nI n)]) :: (it, zo 15 [.int (nI 0), .int lr, .int mq, .ref lst, .ref lst]) :: rest) "java/util/NoSuchElementException" (fun _ => (a, zo 10 [.ref lst, .ref it, .int bk]) :: (lst, zo 14 [.int mq, .ref ed, .int (nI n)]) :: (it, zo 15 [.int (nI 0), .int lr, .int mq, .ref lst, .ref lst]) :: rest) := by
  refine z_begX (by decide) (Nat.le_of_ble_eq_true rfl) (fun p e s m args below meth c ls Q hQ hC htb hl hw hend => ?_)
  have hx := hC.hx
  have hb := hC.hb
  have hl : lv_has ls 2 [(0, .ref a), (1, .int (nI 1))] := hl
  have hw : zS G ((a, zo 10 [.ref lst, .ref it, .int bk]) :: (lst, zo 14 [.int mq, .ref ed, .int (nI n)]) :: (it, zo 15 [.int (nI 0), .int lr, .int mq, .ref lst, .ref lst]) :: rest) s s.heap [] := hw
  have hz := hG s hC.hZ.1
  have hzy := hY s hC.hZ.1
  refine lv_iload_n hx hb dX11_ahead_0 rfl (lv_at hl 1 rfl) ?_
  refine zj_ne (tgt := 19) hx hb (by decide) dX11_ahead_1 (by decide) (fun _ => ?_) (fun h => absurd h (by decide))
  refine lv_aload_n hx hb dX11_ahead_19 rfl (lv_at hl 0 rfl) ?_
  refine z_get (v := .ref it) hC zf_X11_24_10 hw 0 rfl rfl dX11_ahead_20 ?_
  refine z_c5i (z_runF (As := []) (rest := []) hC zif_X11_38_15 q1295 ⟨hz.1 _ (cw_t q1285 rfl), hz.1 _ (cw_t q1284 rfl), hz.1 _ (cw_t q1294 rfl), hz.1 _ (cw_t q1292 rfl), hz.1 _ (cw_t q1276 rfl)⟩ (m_J25_hasPrevious G l it lst 0 lr mq (by decide) (zrem [2] _)) hw (hw.perm (z_cut (is := [2]) (cells := [(it, zo 15 [.int (nI 0), .int lr, .int mq, .ref lst, .ref lst])]) rfl rfl)) 2 rfl rfl rfl rfl rfl (Nat.le_of_ble_eq_true rfl) hl.1 ⟨Nat.le_of_ble_eq_true rfl, Nat.le_of_ble_eq_true rfl⟩ ⟨(Nat.le_of_ble_eq_true rfl), (Nat.le_of_ble_eq_true rfl)⟩ dX11_ahead_23) hw (fun _ => z_keep (is := [2]) (cs := [(it, zo 15 [.int (nI 0), .int lr, .int mq, .ref lst, .ref lst])]) rfl rfl) (fun r u H locs hp hw => ?_)
  obtain rfl : r = bI (¬ 0 = 0) := hp
  refine zb_ne (tgt := 39) hx hb dX11_ahead_28 (by decide) (fun q => absurd rfl q) (fun _ => ?_)
  exact z_thr0 hC hlt hzy hQ htb (by decide +kernel) q1296 q90 ex0t_X11_43 ex0o_X11_43 dX11_ahead_31 dX11_ahead_34 dX11_ahead_35 dX11_ahead_38 (by decide) hw (fun _ => rfl) hl.1 (Nat.le_of_ble_eq_true rfl) ⟨Nat.le_of_ble_eq_true rfl, Nat.le_of_ble_eq_true rfl⟩ (Nat.le_of_ble_eq_true rfl) (Nat.le_of_ble_eq_true rfl) (Nat.le_of_ble_eq_true rfl) (Nat.le_of_ble_eq_true rfl)
theorem zf_X11_54_10 : zFl 10 2 RX11 54 false .boolean := ⟨RX11, TX11, 3, tyX11, rfl, by decide, in_X11, q1248, rfl, by decide +kernel, tyX11_ok, nmX11⟩
theorem zif_X11_62_15 : zIf RX11 62 "java/util/ArrayList$ListItr" (⟨"java/util/ListIterator", "next", "()Ljava/lang/Object;"⟩ : MethodName) yJ24_next 0 := ⟨q1529, q1541, q1543, q86, ⟨by decide +kernel, by decide +kernel⟩, by decide +kernel⟩
set_option maxHeartbeats 4000000 in
theorem m_X11_step_0 (G : zE) (l : Launch) (kA : Nat → Nat) (hG : zG G kA) (lst : Nat) (ed : Nat) (n : Nat) (mq : Int32) (cap : Nat) (ef : Nat → Option Nat) (a : Nat) (bk : Int32) (it : Nat) (cu : Nat) (lr : Int32) (hh12 : cu < n) (hn : n ≤ cap) (hc9 : cap ≤ 15) (rest : va_W) : zMv G l yX11_step cX11_step 2 5 0 0 [.ref a, .int (nI 0)] ((a, zo 10 [.ref lst, .ref it, .int bk]) :: (lst, zo 14 [.int mq, .ref ed, .int (nI n)]) :: (it, zo 15 [.int (nI cu), .int lr, .int mq, .ref lst, .ref lst]) :: (ed, zc G 4 (zO cap ef)) :: rest) (fun (_ : Unit) => True) (fun (_ : Unit) => (a, zo 10 [.ref lst, .ref it, .int (nI 0)]) :: (lst, zo 14 [.int mq, .ref ed, .int (nI n)]) :: (it, zo 15 [.int (nI (cu + 1)), .int (nI cu), .int mq, .ref lst, .ref lst]) :: (ed, zc G 4 (zO cap ef)) :: rest) := by
  refine z_begV (by decide) (Nat.le_of_ble_eq_true rfl) (fun p e s m args below meth c ls Q hC hnm hl hw hend => ?_)
  have hx := hC.hx
  have hb := hC.hb
  have hl : lv_has ls 2 [(0, .ref a), (1, .int (nI 0))] := hl
  have hw : zS G ((a, zo 10 [.ref lst, .ref it, .int bk]) :: (lst, zo 14 [.int mq, .ref ed, .int (nI n)]) :: (it, zo 15 [.int (nI cu), .int lr, .int mq, .ref lst, .ref lst]) :: (ed, zc G 4 (zO cap ef)) :: rest) s s.heap [] := hw
  have hz := hG s hC.hZ.1
  refine lv_aload_n hx hb dX11_step_0 rfl (lv_at hl 0 rfl) ?_
  refine lv_iload_n hx hb dX11_step_1 rfl (lv_at hl 1 rfl) ?_
  refine lv_iconst (v := (nI 1)) hx hb dX11_step_2 zk_1 ?_
  refine zi_ne (tgt := 10) hx hb (by decide) (by decide) dX11_step_3 (by decide) (fun _ => ?_) (fun h => absurd h (by decide))
  refine lv_iconst (v := (nI 0)) hx hb dX11_step_10 zk_0 ?_
  refine z_put hC zf_X11_54_10 hw 0 rfl rfl rfl (Nat.le_of_ble_eq_true rfl) dX11_step_11 (fun H locs hw => ?_)
  have hw : zS G ((a, zo 10 [.ref lst, .ref it, .int (nI 0)]) :: (lst, zo 14 [.int mq, .ref ed, .int (nI n)]) :: (it, zo 15 [.int (nI cu), .int lr, .int mq, .ref lst, .ref lst]) :: (ed, zc G 4 (zO cap ef)) :: rest) s H locs := hw
  refine lv_aload_n hx hb dX11_step_14 rfl (lv_at hl 0 rfl) ?_
  refine z_get (v := .int (nI 0)) hC zf_X11_54_10 hw 0 rfl rfl dX11_step_15 ?_
  refine zj_eq (tgt := 34) hx hb (by decide) dX11_step_18 (by decide) (fun _ => ?_) (fun h => absurd h (by decide))
  refine lv_aload_n hx hb dX11_step_34 rfl (lv_at hl 0 rfl) ?_
  refine z_get (v := .ref it) hC zf_X11_24_10 hw 0 rfl rfl dX11_step_35 ?_
  refine z_c5q (z_runF (As := []) (rest := []) hC zif_X11_62_15 q1545 ⟨hz.1 _ (cw_t q1531 rfl), hz.1 _ (cw_t q1530 rfl), hz.1 _ (cw_t q1544 rfl), hz.1 _ (cw_t q1542 rfl), hz.1 _ (cw_t q1276 rfl)⟩ (m_J24_next G l kA (by first | assumption | (omega)) lst ed n mq cap ef it cu lr (by omega) (by omega) (by omega) (zrem [1, 2, 3] _)) hw (hw.perm (z_cut (is := [1, 2, 3]) (cells := [(lst, zo 14 [.int mq, .ref ed, .int (nI n)]), (it, zo 15 [.int (nI cu), .int lr, .int mq, .ref lst, .ref lst]), (ed, zc G 4 (zO cap ef))]) rfl rfl)) 2 rfl rfl rfl rfl rfl (Nat.le_of_ble_eq_true rfl) hl.1 ⟨Nat.le_of_ble_eq_true rfl, Nat.le_of_ble_eq_true rfl⟩ ⟨(Nat.le_of_ble_eq_true rfl), (Nat.le_of_ble_eq_true rfl)⟩ dX11_step_38) hw (fun _ => z_pput (is := [1, 2, 3]) (cells := [(lst, zo 14 [.int mq, .ref ed, .int (nI n)]), (it, zo 15 [.int (nI cu), .int lr, .int mq, .ref lst, .ref lst]), (ed, zc G 4 (zO cap ef))]) (cells' := [(lst, zo 14 [.int mq, .ref ed, .int (nI n)]), (it, zo 15 [.int (nI (cu + 1)), .int (nI cu), .int mq, .ref lst, .ref lst]), (ed, zc G 4 (zO cap ef))]) rfl rfl rfl) (fun r u H locs hp hw => ?_)
  have hw : zS G ((a, zo 10 [.ref lst, .ref it, .int (nI 0)]) :: (lst, zo 14 [.int mq, .ref ed, .int (nI n)]) :: (it, zo 15 [.int (nI (cu + 1)), .int (nI cu), .int mq, .ref lst, .ref lst]) :: (ed, zc G 4 (zO cap ef)) :: rest) s H locs := hw
  obtain rfl : r = ef cu := hp
  refine lv_pop hx hb dX11_step_43 (z_rfcat _) ?_
  exact hend _ _ _ _ _ _ () hw trivial (Nat.le_of_ble_eq_true rfl) (Nat.le_of_ble_eq_true rfl) dX11_step_44
theorem zif_X11_58_15 : zIf RX11 58 "java/util/ArrayList$ListItr" (⟨"java/util/ListIterator", "previous", "()Ljava/lang/Object;"⟩ : MethodName) yJ25_previous 0 := ⟨q1377, q1515, q1517, q87, ⟨by decide +kernel, by decide +kernel⟩, by decide +kernel⟩
set_option maxHeartbeats 4000000 in
theorem m_X11_step_1 (G : zE) (l : Launch) (kA : Nat → Nat) (hG : zG G kA) (lst : Nat) (ed : Nat) (n : Nat) (mq : Int32) (cap : Nat) (ef : Nat → Option Nat) (a : Nat) (bk : Int32) (it : Nat) (cu : Nat) (lr : Int32) (hh0 : 0 < cu) (hh12 : cu ≤ n) (hn : n ≤ cap) (hc9 : cap ≤ 15) (rest : va_W) : zMv G l yX11_step cX11_step 2 5 0 0 [.ref a, .int (nI 1)] ((a, zo 10 [.ref lst, .ref it, .int bk]) :: (lst, zo 14 [.int mq, .ref ed, .int (nI n)]) :: (it, zo 15 [.int (nI cu), .int lr, .int mq, .ref lst, .ref lst]) :: (ed, zc G 4 (zO cap ef)) :: rest) (fun (_ : Unit) => True) (fun (_ : Unit) => (a, zo 10 [.ref lst, .ref it, .int (nI 1)]) :: (lst, zo 14 [.int mq, .ref ed, .int (nI n)]) :: (it, zo 15 [.int (nI (cu - 1)), .int (nI (cu - 1)), .int mq, .ref lst, .ref lst]) :: (ed, zc G 4 (zO cap ef)) :: rest) := by
  refine z_begV (by decide) (Nat.le_of_ble_eq_true rfl) (fun p e s m args below meth c ls Q hC hnm hl hw hend => ?_)
  have hx := hC.hx
  have hb := hC.hb
  have hl : lv_has ls 2 [(0, .ref a), (1, .int (nI 1))] := hl
  have hw : zS G ((a, zo 10 [.ref lst, .ref it, .int bk]) :: (lst, zo 14 [.int mq, .ref ed, .int (nI n)]) :: (it, zo 15 [.int (nI cu), .int lr, .int mq, .ref lst, .ref lst]) :: (ed, zc G 4 (zO cap ef)) :: rest) s s.heap [] := hw
  have hz := hG s hC.hZ.1
  refine lv_aload_n hx hb dX11_step_0 rfl (lv_at hl 0 rfl) ?_
  refine lv_iload_n hx hb dX11_step_1 rfl (lv_at hl 1 rfl) ?_
  refine lv_iconst (v := (nI 1)) hx hb dX11_step_2 zk_1 ?_
  refine zi_ne (tgt := 10) hx hb (by decide) (by decide) dX11_step_3 (by decide) (fun h => absurd h (by decide)) (fun _ => ?_)
  refine lv_iconst (v := (nI 1)) hx hb dX11_step_6 zk_1 ?_
  refine lv_goto (tgt := 11) hx hb dX11_step_7 (by decide) ?_
  refine z_put hC zf_X11_54_10 hw 0 rfl rfl rfl (Nat.le_of_ble_eq_true rfl) dX11_step_11 (fun H locs hw => ?_)
  have hw : zS G ((a, zo 10 [.ref lst, .ref it, .int (nI 1)]) :: (lst, zo 14 [.int mq, .ref ed, .int (nI n)]) :: (it, zo 15 [.int (nI cu), .int lr, .int mq, .ref lst, .ref lst]) :: (ed, zc G 4 (zO cap ef)) :: rest) s H locs := hw
  refine lv_aload_n hx hb dX11_step_14 rfl (lv_at hl 0 rfl) ?_
  refine z_get (v := .int (nI 1)) hC zf_X11_54_10 hw 0 rfl rfl dX11_step_15 ?_
  refine zj_eq (tgt := 34) hx hb (by decide) dX11_step_18 (by decide) (fun h => absurd h (by decide)) (fun _ => ?_)
  refine lv_aload_n hx hb dX11_step_21 rfl (lv_at hl 0 rfl) ?_
  refine z_get (v := .ref it) hC zf_X11_24_10 hw 0 rfl rfl dX11_step_22 ?_
  refine z_c5q (z_runF (As := []) (rest := []) hC zif_X11_58_15 q1519 ⟨hz.1 _ (cw_t q1379 rfl), hz.1 _ (cw_t q1378 rfl), hz.1 _ (cw_t q1518 rfl), hz.1 _ (cw_t q1516 rfl), hz.1 _ (cw_t q1276 rfl)⟩ (m_J25_previous G l kA (by first | assumption | (omega)) lst ed n mq cap ef it cu lr (by omega) (by omega) (by omega) (by omega) (zrem [1, 2, 3] _)) hw (hw.perm (z_cut (is := [1, 2, 3]) (cells := [(lst, zo 14 [.int mq, .ref ed, .int (nI n)]), (it, zo 15 [.int (nI cu), .int lr, .int mq, .ref lst, .ref lst]), (ed, zc G 4 (zO cap ef))]) rfl rfl)) 2 rfl rfl rfl rfl rfl (Nat.le_of_ble_eq_true rfl) hl.1 ⟨Nat.le_of_ble_eq_true rfl, Nat.le_of_ble_eq_true rfl⟩ ⟨(Nat.le_of_ble_eq_true rfl), (Nat.le_of_ble_eq_true rfl)⟩ dX11_step_25) hw (fun _ => z_pput (is := [1, 2, 3]) (cells := [(lst, zo 14 [.int mq, .ref ed, .int (nI n)]), (it, zo 15 [.int (nI cu), .int lr, .int mq, .ref lst, .ref lst]), (ed, zc G 4 (zO cap ef))]) (cells' := [(lst, zo 14 [.int mq, .ref ed, .int (nI n)]), (it, zo 15 [.int (nI (cu - 1)), .int (nI (cu - 1)), .int mq, .ref lst, .ref lst]), (ed, zc G 4 (zO cap ef))]) rfl rfl rfl) (fun r u H locs hp hw => ?_)
  have hw : zS G ((a, zo 10 [.ref lst, .ref it, .int (nI 1)]) :: (lst, zo 14 [.int mq, .ref ed, .int (nI n)]) :: (it, zo 15 [.int (nI (cu - 1)), .int (nI (cu - 1)), .int mq, .ref lst, .ref lst]) :: (ed, zc G 4 (zO cap ef)) :: rest) s H locs := hw
  obtain rfl : r = ef (cu - 1) := hp
  refine lv_pop hx hb dX11_step_30 (z_rfcat _) ?_
  refine lv_goto (tgt := 44) hx hb dX11_step_31 (by decide) ?_
  exact hend _ _ _ _ _ _ () hw trivial (Nat.le_of_ble_eq_true rfl) (Nat.le_of_ble_eq_true rfl) dX11_step_44
theorem zv_X11_65 : zVs RX11 65 yX11_many cX11_many 1 (some .int) 0 := ⟨lw_V q1595 q1596 q1597 q84 q1598, ⟨by decide +kernel, by decide +kernel⟩, by decide +kernel⟩
set_option maxHeartbeats 4000000 in
theorem m_X11_add_f (G : zE) (l : Launch) (kA : Nat → Nat) (hG : zG G kA) (hV : zV G kA) (lst : Nat) (ed : Nat) (n : Nat) (mq : Int32) (a : Nat) (bk : Int32) (it : Nat) (x : Nat) (rest : va_W) : zMi G l yX11_add cX11_add 2 (some .int) 9 0 0 [.ref a, .ref x] ((a, zo 10 [.ref lst, .ref it, .int bk]) :: (lst, zo 14 [.int mq, .ref ed, .int (nI 12)]) :: rest) (fun (r : Int32) (_ : Unit) => r = -15) (fun (_ : Unit) => (a, zo 10 [.ref lst, .ref it, .int bk]) :: (lst, zo 14 [.int mq, .ref ed, .int (nI 12)]) :: rest) := by
  refine z_begI (by decide) (Nat.le_of_ble_eq_true rfl) (fun p e s m args below meth c ls Q hC hl hw hend => ?_)
  have hx := hC.hx
  have hb := hC.hb
  have hl : lv_has ls 2 [(0, .ref a), (1, .ref x)] := hl
  have hw : zS G ((a, zo 10 [.ref lst, .ref it, .int bk]) :: (lst, zo 14 [.int mq, .ref ed, .int (nI 12)]) :: rest) s s.heap [] := hw
  have hz := hG s hC.hZ.1
  have hzv := hV s hC.hZ.1
  refine lv_aload_n hx hb dX11_add_0 rfl (lv_at hl 0 rfl) ?_
  refine z_ci (z_runV (As := []) (rest := []) hC zv_X11_65 (m_X11_many G l kA (by first | assumption | (omega)) lst ed 12 mq a bk it (zrem [0, 1] _)) hw (hw.perm (z_cut (is := [0, 1]) (cells := [(a, zo 10 [.ref lst, .ref it, .int bk]), (lst, zo 14 [.int mq, .ref ed, .int (nI 12)])]) rfl rfl)) 0 rfl rfl rfl rfl rfl (Nat.le_of_ble_eq_true rfl) hl.1 ⟨Nat.le_of_ble_eq_true rfl, Nat.le_of_ble_eq_true rfl⟩ ⟨(Nat.le_of_ble_eq_true rfl), (Nat.le_of_ble_eq_true rfl)⟩ dX11_add_1) hw (fun _ => z_keep (is := [0, 1]) (cs := [(a, zo 10 [.ref lst, .ref it, .int bk]), (lst, zo 14 [.int mq, .ref ed, .int (nI 12)])]) rfl rfl) (fun r u H locs hp hw => ?_)
  obtain rfl : r = nI 12 := hp
  refine lv_bipush (v := (nI 12)) hx hb dX11_add_4 zb_12 ?_
  refine zi_ne (tgt := 12) hx hb (by decide) (by decide) dX11_add_6 (by decide) (fun h => absurd h (by decide)) (fun _ => ?_)
  refine lv_bipush (v := (-15)) hx hb dX11_add_9 zb_m15 ?_
  exact hend _ _ _ _ _ _ _ () hw (by first | rfl | simp_all) (Nat.le_of_ble_eq_true rfl) (Nat.le_of_ble_eq_true rfl) dX11_add_11
theorem zif_X11_68_15 : zIf RX11 68 "java/util/ArrayList$ListItr" (⟨"java/util/ListIterator", "add", "(Ljava/lang/Object;)V"⟩ : MethodName) yJ25_add 1 := ⟨q1610, q1662, q1664, q87, ⟨by decide +kernel, by decide +kernel⟩, by decide +kernel⟩
set_option maxHeartbeats 4000000 in
theorem m_X11_add_0 (G : zE) (l : Launch) (kA : Nat → Nat) (hG : zG G kA) (hV : zV G kA) (a : Nat) (lst : Nat) (it : Nat) (x : Nat) (bk : Int32) (mq : Int32) (lr : Int32) (ef : Nat → Option Nat) (X : va_W) (Y : va_W) (hxk : elOk kA (X ++ Y) x) (rest : va_W) : zMi G l yX11_add cX11_add 2 (some .int) 9 1 15 [.ref a, .ref x] ((a, zo 10 [.ref lst, .ref it, .int bk]) :: (lst, zo 14 [.int mq, .ref (kA 5), .int (nI 0)]) :: (it, zo 15 [.int (nI 0), .int lr, .int mq, .ref lst, .ref lst]) :: (X ++ (Y ++ rest))) (fun (r : Int32) u => r = nI (0 + 1) ∧ (∀ j, j < 0 + 1 → u.2.2 j = insF ef 0 (some x) j) ∧ 0 + 1 ≤ u.2.1 ∧ (u.2.1 = 10 ∨ u.2.1 = 15)) (fun (u : Nat × Nat × (Nat → Option Nat)) => (u.1, zc G 4 (zO u.2.1 u.2.2)) :: (a, zo 10 [.ref lst, .ref it, .int bk]) :: (lst, zo 14 [.int (mq + (nI 1)), .ref u.1, .int (nI (0 + 1))]) :: (it, zo 15 [.int (nI 1), .int (-1), .int (mq + (nI 1)), .ref lst, .ref lst]) :: (X ++ (Y ++ rest))) := by
  refine z_begI (by decide) (Nat.le_of_ble_eq_true rfl) (fun p e s m args below meth c ls Q hC hl hw hend => ?_)
  have hx := hC.hx
  have hb := hC.hb
  have hl : lv_has ls 2 [(0, .ref a), (1, .ref x)] := hl
  have hw : zS G ((a, zo 10 [.ref lst, .ref it, .int bk]) :: (lst, zo 14 [.int mq, .ref (kA 5), .int (nI 0)]) :: (it, zo 15 [.int (nI 0), .int lr, .int mq, .ref lst, .ref lst]) :: (X ++ (Y ++ rest))) s s.heap [] := hw
  have hz := hG s hC.hZ.1
  have hzv := hV s hC.hZ.1
  refine lv_aload_n hx hb dX11_add_0 rfl (lv_at hl 0 rfl) ?_
  refine z_ci (z_runV (As := []) (rest := []) hC zv_X11_65 (m_X11_many G l kA (by first | assumption | (omega)) lst (kA 5) 0 mq a bk it (zrem [0, 1] _)) hw (hw.perm (z_cut (is := [0, 1]) (cells := [(a, zo 10 [.ref lst, .ref it, .int bk]), (lst, zo 14 [.int mq, .ref (kA 5), .int (nI 0)])]) rfl rfl)) 0 rfl rfl rfl rfl rfl (Nat.le_of_ble_eq_true rfl) hl.1 ⟨Nat.le_of_ble_eq_true rfl, Nat.le_of_ble_eq_true rfl⟩ ⟨(Nat.le_of_ble_eq_true rfl), (Nat.le_of_ble_eq_true rfl)⟩ dX11_add_1) hw (fun _ => z_keep (is := [0, 1]) (cs := [(a, zo 10 [.ref lst, .ref it, .int bk]), (lst, zo 14 [.int mq, .ref (kA 5), .int (nI 0)])]) rfl rfl) (fun r u H locs hp hw => ?_)
  obtain rfl : r = nI 0 := hp
  refine lv_bipush (v := (nI 12)) hx hb dX11_add_4 zb_12 ?_
  refine zi_ne (tgt := 12) hx hb (by decide) (by decide) dX11_add_6 (by decide) (fun _ => ?_) (fun h => absurd h (by decide))
  refine lv_aload_n hx hb dX11_add_12 rfl (lv_at hl 0 rfl) ?_
  refine z_get (v := .ref it) hC zf_X11_24_10 hw 0 rfl rfl dX11_add_13 ?_
  refine lv_aload_n hx hb dX11_add_16 rfl (lv_at hl 1 rfl) ?_
  refine z_c5v (z_runFW (As := [.ref x]) (rest := []) hC zif_X11_68_15 q1666 ⟨hz.1 _ (cw_t q1612 rfl), hz.1 _ (cw_t q1611 rfl), hz.1 _ (cw_t q1665 rfl), hz.1 _ (cw_t q1663 rfl), hz.1 _ (cw_t q1276 rfl)⟩ (m_J25_add_0 G l kA (by first | assumption | (omega)) (by first | assumption | (omega)) lst it x mq lr ef X Y hxk (zrem [1, 2] [(a, zo 10 [.ref lst, .ref it, .int bk]), (lst, zo 14 [.int mq, .ref (kA 5), .int (nI 0)]), (it, zo 15 [.int (nI 0), .int lr, .int mq, .ref lst, .ref lst])] ++ rest)) hw (hw.perm (((((z_mv1 X Y rest).trans (z_mv1 Y X rest))).append_left [(a, zo 10 [.ref lst, .ref it, .int bk]), (lst, zo 14 [.int mq, .ref (kA 5), .int (nI 0)]), (it, zo 15 [.int (nI 0), .int lr, .int mq, .ref lst, .ref lst])]).trans (z_cutP2 (z_cut (is := [1, 2]) (ws := [(a, zo 10 [.ref lst, .ref it, .int bk]), (lst, zo 14 [.int mq, .ref (kA 5), .int (nI 0)]), (it, zo 15 [.int (nI 0), .int lr, .int mq, .ref lst, .ref lst])]) (cells := [(lst, zo 14 [.int mq, .ref (kA 5), .int (nI 0)]), (it, zo 15 [.int (nI 0), .int lr, .int mq, .ref lst, .ref lst])]) rfl rfl)))) 2 rfl rfl rfl rfl rfl (Nat.le_of_ble_eq_true rfl) hl.1 ⟨Nat.le_of_ble_eq_true rfl, Nat.le_of_ble_eq_true rfl⟩ ⟨(Nat.le_of_ble_eq_true rfl), (Nat.le_of_ble_eq_true rfl)⟩ dX11_add_17) hw (fun u => (List.Perm.append_left [(u.1, zc G 4 (zO u.2.1 u.2.2))] (z_putP2 (z_pput (is := [1, 2]) (ws := [(a, zo 10 [.ref lst, .ref it, .int bk]), (lst, zo 14 [.int mq, .ref (kA 5), .int (nI 0)]), (it, zo 15 [.int (nI 0), .int lr, .int mq, .ref lst, .ref lst])]) (cells := [(lst, zo 14 [.int mq, .ref (kA 5), .int (nI 0)]), (it, zo 15 [.int (nI 0), .int lr, .int mq, .ref lst, .ref lst])]) (cells' := [(lst, zo 14 [.int (mq + (nI 1)), .ref u.1, .int (nI (0 + 1))]), (it, zo 15 [.int (nI 1), .int (-1), .int (mq + (nI 1)), .ref lst, .ref lst])]) rfl rfl rfl))).trans ((((z_mv1 X Y rest).trans (z_mv1 Y X rest))).symm.append_left [(u.1, zc G 4 (zO u.2.1 u.2.2)), (a, zo 10 [.ref lst, .ref it, .int bk]), (lst, zo 14 [.int (mq + (nI 1)), .ref u.1, .int (nI (0 + 1))]), (it, zo 15 [.int (nI 1), .int (-1), .int (mq + (nI 1)), .ref lst, .ref lst])])) (fun u H locs hp hw => ?_)
  obtain ⟨en, cap7, ef7⟩ := u
  have hw : zS G ((en, zc G 4 (zO cap7 ef7)) :: (a, zo 10 [.ref lst, .ref it, .int bk]) :: (lst, zo 14 [.int (mq + (nI 1)), .ref en, .int (nI (0 + 1))]) :: (it, zo 15 [.int (nI 1), .int (-1), .int (mq + (nI 1)), .ref lst, .ref lst]) :: (X ++ (Y ++ rest))) s H locs := hw
  obtain ⟨hnE, hnC, hnD⟩ := hp
  refine lv_aload_n hx hb dX11_add_22 rfl (lv_at hl 0 rfl) ?_
  refine z_ci (z_runV (As := []) (rest := []) hC zv_X11_65 (m_X11_many G l kA (by first | assumption | (omega)) lst en (0 + 1) (mq + (nI 1)) a bk it (zrem [1, 2] _)) hw (hw.perm (z_cut (is := [1, 2]) (cells := [(a, zo 10 [.ref lst, .ref it, .int bk]), (lst, zo 14 [.int (mq + (nI 1)), .ref en, .int (nI (0 + 1))])]) rfl rfl)) 1 rfl rfl rfl rfl rfl (Nat.le_of_ble_eq_true rfl) hl.1 ⟨Nat.le_of_ble_eq_true rfl, Nat.le_of_ble_eq_true rfl⟩ ⟨(Nat.le_of_ble_eq_true rfl), (Nat.le_of_ble_eq_true rfl)⟩ dX11_add_23) hw (fun _ => z_keep (is := [1, 2]) (cs := [(a, zo 10 [.ref lst, .ref it, .int bk]), (lst, zo 14 [.int (mq + (nI 1)), .ref en, .int (nI (0 + 1))])]) rfl rfl) (fun r u H locs hp hw => ?_)
  obtain rfl : r = nI (0 + 1) := hp
  exact hend _ _ _ _ _ _ _ (en, cap7, ef7) hw ⟨rfl, hnE, hnC, hnD⟩ (Nat.le_of_ble_eq_true rfl) (Nat.le_of_ble_eq_true rfl) dX11_add_26
set_option maxHeartbeats 4000000 in
theorem m_X11_add_o (G : zE) (l : Launch) (kA : Nat → Nat) (hG : zG G kA) (hV : zV G kA) (lst : Nat) (ed : Nat) (n : Nat) (mq : Int32) (cap : Nat) (ef : Nat → Option Nat) (a : Nat) (bk : Int32) (it : Nat) (cu : Nat) (lr : Int32) (x : Nat) (X : va_W) (Y : va_W) (hxk : elOk kA (X ++ Y) x) (hel : ∀ j, j < n → ∀ y, ef j = some y → elOk kA (X ++ Y) y) (hh12 : cu ≤ n) (hn : n ≤ cap) (hc9 : cap = 10 ∨ cap = 15) (hn12 : n < 12) (rest : va_W) : zMi G l yX11_add cX11_add 2 (some .int) 9 1 15 [.ref a, .ref x] ((a, zo 10 [.ref lst, .ref it, .int bk]) :: (lst, zo 14 [.int mq, .ref ed, .int (nI n)]) :: (it, zo 15 [.int (nI cu), .int lr, .int mq, .ref lst, .ref lst]) :: (ed, zc G 4 (zO cap ef)) :: (X ++ (Y ++ rest))) (fun (r : Int32) u => r = nI (n + 1) ∧ (∀ j, j < n + 1 → u.2.2 j = insF ef cu (some x) j) ∧ n + 1 ≤ u.2.1 ∧ (u.2.1 = 10 ∨ u.2.1 = 15)) (fun (u : Nat × Nat × (Nat → Option Nat)) => (a, zo 10 [.ref lst, .ref it, .int bk]) :: (lst, zo 14 [.int (mq + (nI 1)), .ref u.1, .int (nI (n + 1))]) :: (it, zo 15 [.int (nI (cu + 1)), .int (-1), .int (mq + (nI 1)), .ref lst, .ref lst]) :: (u.1, zc G 4 (zO u.2.1 u.2.2)) :: (X ++ (Y ++ rest))) := by
  refine z_begI (by decide) (Nat.le_of_ble_eq_true rfl) (fun p e s m args below meth c ls Q hC hl hw hend => ?_)
  have hx := hC.hx
  have hb := hC.hb
  have hl : lv_has ls 2 [(0, .ref a), (1, .ref x)] := hl
  have hw : zS G ((a, zo 10 [.ref lst, .ref it, .int bk]) :: (lst, zo 14 [.int mq, .ref ed, .int (nI n)]) :: (it, zo 15 [.int (nI cu), .int lr, .int mq, .ref lst, .ref lst]) :: (ed, zc G 4 (zO cap ef)) :: (X ++ (Y ++ rest))) s s.heap [] := hw
  have hz := hG s hC.hZ.1
  have hzv := hV s hC.hZ.1
  refine lv_aload_n hx hb dX11_add_0 rfl (lv_at hl 0 rfl) ?_
  refine z_ci (z_runV (As := []) (rest := []) hC zv_X11_65 (m_X11_many G l kA (by first | assumption | (omega)) lst ed n mq a bk it (zrem [0, 1] _)) hw (hw.perm (z_cut (is := [0, 1]) (cells := [(a, zo 10 [.ref lst, .ref it, .int bk]), (lst, zo 14 [.int mq, .ref ed, .int (nI n)])]) rfl rfl)) 0 rfl rfl rfl rfl rfl (Nat.le_of_ble_eq_true rfl) hl.1 ⟨Nat.le_of_ble_eq_true rfl, Nat.le_of_ble_eq_true rfl⟩ ⟨(Nat.le_of_ble_eq_true rfl), (Nat.le_of_ble_eq_true rfl)⟩ dX11_add_1) hw (fun _ => z_keep (is := [0, 1]) (cs := [(a, zo 10 [.ref lst, .ref it, .int bk]), (lst, zo 14 [.int mq, .ref ed, .int (nI n)])]) rfl rfl) (fun r u H locs hp hw => ?_)
  obtain rfl : r = nI n := hp
  refine lv_bipush (v := (nI 12)) hx hb dX11_add_4 zb_12 ?_
  refine zi_ne (tgt := 12) hx hb (by omega) (by decide) dX11_add_6 (by decide) (fun _ => ?_) (fun h => absurd h (by omega))
  refine lv_aload_n hx hb dX11_add_12 rfl (lv_at hl 0 rfl) ?_
  refine z_get (v := .ref it) hC zf_X11_24_10 hw 0 rfl rfl dX11_add_13 ?_
  refine lv_aload_n hx hb dX11_add_16 rfl (lv_at hl 1 rfl) ?_
  refine z_c5v (z_runFW (As := [.ref x]) (rest := []) hC zif_X11_68_15 q1666 ⟨hz.1 _ (cw_t q1612 rfl), hz.1 _ (cw_t q1611 rfl), hz.1 _ (cw_t q1665 rfl), hz.1 _ (cw_t q1663 rfl), hz.1 _ (cw_t q1276 rfl)⟩ (m_J25_add_o G l kA (by first | assumption | (omega)) (by first | assumption | (omega)) lst ed n mq cap ef it cu x lr X Y hxk hel (by omega) (by omega) hc9 (by omega) (zrem [1, 2, 3] [(a, zo 10 [.ref lst, .ref it, .int bk]), (lst, zo 14 [.int mq, .ref ed, .int (nI n)]), (it, zo 15 [.int (nI cu), .int lr, .int mq, .ref lst, .ref lst]), (ed, zc G 4 (zO cap ef))] ++ rest)) hw (hw.perm (((((z_mv1 X Y rest).trans (z_mv1 Y X rest))).append_left [(a, zo 10 [.ref lst, .ref it, .int bk]), (lst, zo 14 [.int mq, .ref ed, .int (nI n)]), (it, zo 15 [.int (nI cu), .int lr, .int mq, .ref lst, .ref lst]), (ed, zc G 4 (zO cap ef))]).trans (z_cutP2 (z_cut (is := [1, 2, 3]) (ws := [(a, zo 10 [.ref lst, .ref it, .int bk]), (lst, zo 14 [.int mq, .ref ed, .int (nI n)]), (it, zo 15 [.int (nI cu), .int lr, .int mq, .ref lst, .ref lst]), (ed, zc G 4 (zO cap ef))]) (cells := [(lst, zo 14 [.int mq, .ref ed, .int (nI n)]), (it, zo 15 [.int (nI cu), .int lr, .int mq, .ref lst, .ref lst]), (ed, zc G 4 (zO cap ef))]) rfl rfl)))) 2 rfl rfl rfl rfl rfl (Nat.le_of_ble_eq_true rfl) hl.1 ⟨Nat.le_of_ble_eq_true rfl, Nat.le_of_ble_eq_true rfl⟩ ⟨(Nat.le_of_ble_eq_true rfl), (Nat.le_of_ble_eq_true rfl)⟩ dX11_add_17) hw (fun u => (z_putP2 (z_pput (is := [1, 2, 3]) (ws := [(a, zo 10 [.ref lst, .ref it, .int bk]), (lst, zo 14 [.int mq, .ref ed, .int (nI n)]), (it, zo 15 [.int (nI cu), .int lr, .int mq, .ref lst, .ref lst]), (ed, zc G 4 (zO cap ef))]) (cells := [(lst, zo 14 [.int mq, .ref ed, .int (nI n)]), (it, zo 15 [.int (nI cu), .int lr, .int mq, .ref lst, .ref lst]), (ed, zc G 4 (zO cap ef))]) (cells' := [(lst, zo 14 [.int (mq + (nI 1)), .ref u.1, .int (nI (n + 1))]), (it, zo 15 [.int (nI (cu + 1)), .int (-1), .int (mq + (nI 1)), .ref lst, .ref lst]), (u.1, zc G 4 (zO u.2.1 u.2.2))]) rfl rfl rfl)).trans ((((z_mv1 X Y rest).trans (z_mv1 Y X rest))).symm.append_left [(a, zo 10 [.ref lst, .ref it, .int bk]), (lst, zo 14 [.int (mq + (nI 1)), .ref u.1, .int (nI (n + 1))]), (it, zo 15 [.int (nI (cu + 1)), .int (-1), .int (mq + (nI 1)), .ref lst, .ref lst]), (u.1, zc G 4 (zO u.2.1 u.2.2))])) (fun u H locs hp hw => ?_)
  obtain ⟨en, cap7, ef7⟩ := u
  have hw : zS G ((a, zo 10 [.ref lst, .ref it, .int bk]) :: (lst, zo 14 [.int (mq + (nI 1)), .ref en, .int (nI (n + 1))]) :: (it, zo 15 [.int (nI (cu + 1)), .int (-1), .int (mq + (nI 1)), .ref lst, .ref lst]) :: (en, zc G 4 (zO cap7 ef7)) :: (X ++ (Y ++ rest))) s H locs := hw
  obtain ⟨hnE, hnC, hnD⟩ := hp
  refine lv_aload_n hx hb dX11_add_22 rfl (lv_at hl 0 rfl) ?_
  refine z_ci (z_runV (As := []) (rest := []) hC zv_X11_65 (m_X11_many G l kA (by first | assumption | (omega)) lst en (n + 1) (mq + (nI 1)) a bk it (zrem [0, 1] _)) hw (hw.perm (z_cut (is := [0, 1]) (cells := [(a, zo 10 [.ref lst, .ref it, .int bk]), (lst, zo 14 [.int (mq + (nI 1)), .ref en, .int (nI (n + 1))])]) rfl rfl)) 0 rfl rfl rfl rfl rfl (Nat.le_of_ble_eq_true rfl) hl.1 ⟨Nat.le_of_ble_eq_true rfl, Nat.le_of_ble_eq_true rfl⟩ ⟨(Nat.le_of_ble_eq_true rfl), (Nat.le_of_ble_eq_true rfl)⟩ dX11_add_23) hw (fun _ => z_keep (is := [0, 1]) (cs := [(a, zo 10 [.ref lst, .ref it, .int bk]), (lst, zo 14 [.int (mq + (nI 1)), .ref en, .int (nI (n + 1))])]) rfl rfl) (fun r u H locs hp hw => ?_)
  obtain rfl : r = nI (n + 1) := hp
  exact hend _ _ _ _ _ _ _ (en, cap7, ef7) hw ⟨rfl, hnE, hnC, hnD⟩ (Nat.le_of_ble_eq_true rfl) (Nat.le_of_ble_eq_true rfl) dX11_add_26
theorem zif_X11_72_15 : zIf RX11 72 "java/util/ArrayList$ListItr" (⟨"java/util/ListIterator", "set", "(Ljava/lang/Object;)V"⟩ : MethodName) yJ25_set 1 := ⟨q1679, q1712, q1714, q87, ⟨by decide +kernel, by decide +kernel⟩, by decide +kernel⟩
set_option maxHeartbeats 4000000 in
theorem m_X11_set_1 (G : zE) (l : Launch) (kA : Nat → Nat) (hG : zG G kA) (hV : zV G kA) (lst : Nat) (ed : Nat) (n : Nat) (mq : Int32) (cap : Nat) (ef : Nat → Option Nat) (a : Nat) (it : Nat) (x : Nat) (i : Nat) (X : va_W) (Y : va_W) (hxk : elOk kA (X ++ Y) x) (hi : i < n) (hn : n ≤ cap) (hc9 : cap ≤ 15) (rest : va_W) : zMi G l yX11_set cX11_set 2 (some .int) 9 0 0 [.ref a, .ref x] ((a, zo 10 [.ref lst, .ref it, .int (nI 1)]) :: (lst, zo 14 [.int mq, .ref ed, .int (nI n)]) :: (it, zo 15 [.int (nI i), .int (nI i), .int mq, .ref lst, .ref lst]) :: (ed, zc G 4 (zO cap ef)) :: (X ++ (Y ++ rest))) (fun (r : Int32) (_ : Unit) => r = nI i) (fun (_ : Unit) => (a, zo 10 [.ref lst, .ref it, .int (nI 1)]) :: (lst, zo 14 [.int mq, .ref ed, .int (nI n)]) :: (it, zo 15 [.int (nI i), .int (nI i), .int mq, .ref lst, .ref lst]) :: (ed, zc G 4 (zO cap (va_up ef i (some x)))) :: (X ++ (Y ++ rest))) := by
  refine z_begI (by decide) (Nat.le_of_ble_eq_true rfl) (fun p e s m args below meth c ls Q hC hl hw hend => ?_)
  have hx := hC.hx
  have hb := hC.hb
  have hl : lv_has ls 2 [(0, .ref a), (1, .ref x)] := hl
  have hw : zS G ((a, zo 10 [.ref lst, .ref it, .int (nI 1)]) :: (lst, zo 14 [.int mq, .ref ed, .int (nI n)]) :: (it, zo 15 [.int (nI i), .int (nI i), .int mq, .ref lst, .ref lst]) :: (ed, zc G 4 (zO cap ef)) :: (X ++ (Y ++ rest))) s s.heap [] := hw
  have hz := hG s hC.hZ.1
  have hzv := hV s hC.hZ.1
  refine lv_aload_n hx hb dX11_set_0 rfl (lv_at hl 0 rfl) ?_
  refine z_get (v := .ref it) hC zf_X11_24_10 hw 0 rfl rfl dX11_set_1 ?_
  refine lv_aload_n hx hb dX11_set_4 rfl (lv_at hl 1 rfl) ?_
  refine z_c5v (z_runFW (As := [.ref x]) (rest := []) hC zif_X11_72_15 q1716 ⟨hz.1 _ (cw_t q1681 rfl), hz.1 _ (cw_t q1680 rfl), hz.1 _ (cw_t q1715 rfl), hz.1 _ (cw_t q1713 rfl), hz.1 _ (cw_t q1276 rfl)⟩ (m_J25_set_o G l kA (by first | assumption | (omega)) (by first | assumption | (omega)) lst ed n mq cap ef it i i x X Y (by first | assumption | (omega)) (by omega) (by omega) (by omega) (zrem [1, 2, 3] [(a, zo 10 [.ref lst, .ref it, .int (nI 1)]), (lst, zo 14 [.int mq, .ref ed, .int (nI n)]), (it, zo 15 [.int (nI i), .int (nI i), .int mq, .ref lst, .ref lst]), (ed, zc G 4 (zO cap ef))] ++ rest)) hw (hw.perm (((((z_mv1 X Y rest).trans (z_mv1 Y X rest))).append_left [(a, zo 10 [.ref lst, .ref it, .int (nI 1)]), (lst, zo 14 [.int mq, .ref ed, .int (nI n)]), (it, zo 15 [.int (nI i), .int (nI i), .int mq, .ref lst, .ref lst]), (ed, zc G 4 (zO cap ef))]).trans (z_cutP2 (z_cut (is := [1, 2, 3]) (ws := [(a, zo 10 [.ref lst, .ref it, .int (nI 1)]), (lst, zo 14 [.int mq, .ref ed, .int (nI n)]), (it, zo 15 [.int (nI i), .int (nI i), .int mq, .ref lst, .ref lst]), (ed, zc G 4 (zO cap ef))]) (cells := [(lst, zo 14 [.int mq, .ref ed, .int (nI n)]), (it, zo 15 [.int (nI i), .int (nI i), .int mq, .ref lst, .ref lst]), (ed, zc G 4 (zO cap ef))]) rfl rfl)))) 2 rfl rfl rfl rfl rfl (Nat.le_of_ble_eq_true rfl) hl.1 ⟨Nat.le_of_ble_eq_true rfl, Nat.le_of_ble_eq_true rfl⟩ ⟨(Nat.le_of_ble_eq_true rfl), (Nat.le_of_ble_eq_true rfl)⟩ dX11_set_5) hw (fun _ => (z_putP2 (z_pput (is := [1, 2, 3]) (ws := [(a, zo 10 [.ref lst, .ref it, .int (nI 1)]), (lst, zo 14 [.int mq, .ref ed, .int (nI n)]), (it, zo 15 [.int (nI i), .int (nI i), .int mq, .ref lst, .ref lst]), (ed, zc G 4 (zO cap ef))]) (cells := [(lst, zo 14 [.int mq, .ref ed, .int (nI n)]), (it, zo 15 [.int (nI i), .int (nI i), .int mq, .ref lst, .ref lst]), (ed, zc G 4 (zO cap ef))]) (cells' := [(lst, zo 14 [.int mq, .ref ed, .int (nI n)]), (it, zo 15 [.int (nI i), .int (nI i), .int mq, .ref lst, .ref lst]), (ed, zc G 4 (zO cap (va_up ef i (some x))))]) rfl rfl rfl)).trans ((((z_mv1 X Y rest).trans (z_mv1 Y X rest))).symm.append_left [(a, zo 10 [.ref lst, .ref it, .int (nI 1)]), (lst, zo 14 [.int mq, .ref ed, .int (nI n)]), (it, zo 15 [.int (nI i), .int (nI i), .int mq, .ref lst, .ref lst]), (ed, zc G 4 (zO cap (va_up ef i (some x))))])) (fun u H locs hp hw => ?_)
  have hw : zS G ((a, zo 10 [.ref lst, .ref it, .int (nI 1)]) :: (lst, zo 14 [.int mq, .ref ed, .int (nI n)]) :: (it, zo 15 [.int (nI i), .int (nI i), .int mq, .ref lst, .ref lst]) :: (ed, zc G 4 (zO cap (va_up ef i (some x)))) :: (X ++ (Y ++ rest))) s H locs := hw
  refine lv_aload_n hx hb dX11_set_10 rfl (lv_at hl 0 rfl) ?_
  refine z_get (v := .int (nI 1)) hC zf_X11_54_10 hw 0 rfl rfl dX11_set_11 ?_
  refine zj_eq (tgt := 29) hx hb (by decide) dX11_set_14 (by decide) (fun h => absurd h (by decide)) (fun _ => ?_)
  refine lv_aload_n hx hb dX11_set_17 rfl (lv_at hl 0 rfl) ?_
  refine z_get (v := .ref it) hC zf_X11_24_10 hw 0 rfl rfl dX11_set_18 ?_
  refine z_c5i (z_runF (As := []) (rest := []) hC zif_X11_44_15 q1324 ⟨hz.1 _ (cw_t q1314 rfl), hz.1 _ (cw_t q1313 rfl), hz.1 _ (cw_t q1323 rfl), hz.1 _ (cw_t q1321 rfl), hz.1 _ (cw_t q1276 rfl)⟩ (m_J25_nextIndex G l it lst i (nI i) mq (zrem [2] _)) hw (hw.perm (z_cut (is := [2]) (cells := [(it, zo 15 [.int (nI i), .int (nI i), .int mq, .ref lst, .ref lst])]) rfl rfl)) 2 rfl rfl rfl rfl rfl (Nat.le_of_ble_eq_true rfl) hl.1 ⟨Nat.le_of_ble_eq_true rfl, Nat.le_of_ble_eq_true rfl⟩ ⟨(Nat.le_of_ble_eq_true rfl), (Nat.le_of_ble_eq_true rfl)⟩ dX11_set_21) hw (fun _ => z_keep (is := [2]) (cs := [(it, zo 15 [.int (nI i), .int (nI i), .int mq, .ref lst, .ref lst])]) rfl rfl) (fun r u H locs hp hw => ?_)
  obtain rfl : r = nI i := hp
  refine lv_goto (tgt := 38) hx hb dX11_set_26 (by decide) ?_
  exact hend _ _ _ _ _ _ _ () hw (by first | rfl | simp_all) (Nat.le_of_ble_eq_true rfl) (Nat.le_of_ble_eq_true rfl) dX11_set_38
set_option maxHeartbeats 4000000 in
theorem m_X11_set_0 (G : zE) (l : Launch) (kA : Nat → Nat) (hG : zG G kA) (hV : zV G kA) (lst : Nat) (ed : Nat) (n : Nat) (mq : Int32) (cap : Nat) (ef : Nat → Option Nat) (a : Nat) (it : Nat) (x : Nat) (i : Nat) (X : va_W) (Y : va_W) (hxk : elOk kA (X ++ Y) x) (hi : i < n) (hn : n ≤ cap) (hc9 : cap ≤ 15) (rest : va_W) : zMi G l yX11_set cX11_set 2 (some .int) 9 0 0 [.ref a, .ref x] ((a, zo 10 [.ref lst, .ref it, .int (nI 0)]) :: (lst, zo 14 [.int mq, .ref ed, .int (nI n)]) :: (it, zo 15 [.int (nI (i + 1)), .int (nI i), .int mq, .ref lst, .ref lst]) :: (ed, zc G 4 (zO cap ef)) :: (X ++ (Y ++ rest))) (fun (r : Int32) (_ : Unit) => r = nI i) (fun (_ : Unit) => (a, zo 10 [.ref lst, .ref it, .int (nI 0)]) :: (lst, zo 14 [.int mq, .ref ed, .int (nI n)]) :: (it, zo 15 [.int (nI (i + 1)), .int (nI i), .int mq, .ref lst, .ref lst]) :: (ed, zc G 4 (zO cap (va_up ef i (some x)))) :: (X ++ (Y ++ rest))) := by
  refine z_begI (by decide) (Nat.le_of_ble_eq_true rfl) (fun p e s m args below meth c ls Q hC hl hw hend => ?_)
  have hx := hC.hx
  have hb := hC.hb
  have hl : lv_has ls 2 [(0, .ref a), (1, .ref x)] := hl
  have hw : zS G ((a, zo 10 [.ref lst, .ref it, .int (nI 0)]) :: (lst, zo 14 [.int mq, .ref ed, .int (nI n)]) :: (it, zo 15 [.int (nI (i + 1)), .int (nI i), .int mq, .ref lst, .ref lst]) :: (ed, zc G 4 (zO cap ef)) :: (X ++ (Y ++ rest))) s s.heap [] := hw
  have hz := hG s hC.hZ.1
  have hzv := hV s hC.hZ.1
  refine lv_aload_n hx hb dX11_set_0 rfl (lv_at hl 0 rfl) ?_
  refine z_get (v := .ref it) hC zf_X11_24_10 hw 0 rfl rfl dX11_set_1 ?_
  refine lv_aload_n hx hb dX11_set_4 rfl (lv_at hl 1 rfl) ?_
  refine z_c5v (z_runFW (As := [.ref x]) (rest := []) hC zif_X11_72_15 q1716 ⟨hz.1 _ (cw_t q1681 rfl), hz.1 _ (cw_t q1680 rfl), hz.1 _ (cw_t q1715 rfl), hz.1 _ (cw_t q1713 rfl), hz.1 _ (cw_t q1276 rfl)⟩ (m_J25_set_o G l kA (by first | assumption | (omega)) (by first | assumption | (omega)) lst ed n mq cap ef it (i + 1) i x X Y (by first | assumption | (omega)) (by omega) (by omega) (by omega) (zrem [1, 2, 3] [(a, zo 10 [.ref lst, .ref it, .int (nI 0)]), (lst, zo 14 [.int mq, .ref ed, .int (nI n)]), (it, zo 15 [.int (nI (i + 1)), .int (nI i), .int mq, .ref lst, .ref lst]), (ed, zc G 4 (zO cap ef))] ++ rest)) hw (hw.perm (((((z_mv1 X Y rest).trans (z_mv1 Y X rest))).append_left [(a, zo 10 [.ref lst, .ref it, .int (nI 0)]), (lst, zo 14 [.int mq, .ref ed, .int (nI n)]), (it, zo 15 [.int (nI (i + 1)), .int (nI i), .int mq, .ref lst, .ref lst]), (ed, zc G 4 (zO cap ef))]).trans (z_cutP2 (z_cut (is := [1, 2, 3]) (ws := [(a, zo 10 [.ref lst, .ref it, .int (nI 0)]), (lst, zo 14 [.int mq, .ref ed, .int (nI n)]), (it, zo 15 [.int (nI (i + 1)), .int (nI i), .int mq, .ref lst, .ref lst]), (ed, zc G 4 (zO cap ef))]) (cells := [(lst, zo 14 [.int mq, .ref ed, .int (nI n)]), (it, zo 15 [.int (nI (i + 1)), .int (nI i), .int mq, .ref lst, .ref lst]), (ed, zc G 4 (zO cap ef))]) rfl rfl)))) 2 rfl rfl rfl rfl rfl (Nat.le_of_ble_eq_true rfl) hl.1 ⟨Nat.le_of_ble_eq_true rfl, Nat.le_of_ble_eq_true rfl⟩ ⟨(Nat.le_of_ble_eq_true rfl), (Nat.le_of_ble_eq_true rfl)⟩ dX11_set_5) hw (fun _ => (z_putP2 (z_pput (is := [1, 2, 3]) (ws := [(a, zo 10 [.ref lst, .ref it, .int (nI 0)]), (lst, zo 14 [.int mq, .ref ed, .int (nI n)]), (it, zo 15 [.int (nI (i + 1)), .int (nI i), .int mq, .ref lst, .ref lst]), (ed, zc G 4 (zO cap ef))]) (cells := [(lst, zo 14 [.int mq, .ref ed, .int (nI n)]), (it, zo 15 [.int (nI (i + 1)), .int (nI i), .int mq, .ref lst, .ref lst]), (ed, zc G 4 (zO cap ef))]) (cells' := [(lst, zo 14 [.int mq, .ref ed, .int (nI n)]), (it, zo 15 [.int (nI (i + 1)), .int (nI i), .int mq, .ref lst, .ref lst]), (ed, zc G 4 (zO cap (va_up ef i (some x))))]) rfl rfl rfl)).trans ((((z_mv1 X Y rest).trans (z_mv1 Y X rest))).symm.append_left [(a, zo 10 [.ref lst, .ref it, .int (nI 0)]), (lst, zo 14 [.int mq, .ref ed, .int (nI n)]), (it, zo 15 [.int (nI (i + 1)), .int (nI i), .int mq, .ref lst, .ref lst]), (ed, zc G 4 (zO cap (va_up ef i (some x))))])) (fun u H locs hp hw => ?_)
  have hw : zS G ((a, zo 10 [.ref lst, .ref it, .int (nI 0)]) :: (lst, zo 14 [.int mq, .ref ed, .int (nI n)]) :: (it, zo 15 [.int (nI (i + 1)), .int (nI i), .int mq, .ref lst, .ref lst]) :: (ed, zc G 4 (zO cap (va_up ef i (some x)))) :: (X ++ (Y ++ rest))) s H locs := hw
  refine lv_aload_n hx hb dX11_set_10 rfl (lv_at hl 0 rfl) ?_
  refine z_get (v := .int (nI 0)) hC zf_X11_54_10 hw 0 rfl rfl dX11_set_11 ?_
  refine zj_eq (tgt := 29) hx hb (by decide) dX11_set_14 (by decide) (fun _ => ?_) (fun h => absurd h (by decide))
  refine lv_aload_n hx hb dX11_set_29 rfl (lv_at hl 0 rfl) ?_
  refine z_get (v := .ref it) hC zf_X11_24_10 hw 0 rfl rfl dX11_set_30 ?_
  refine z_c5i (z_runF (As := []) (rest := []) hC zif_X11_47_15 q1338 ⟨hz.1 _ (cw_t q1328 rfl), hz.1 _ (cw_t q1327 rfl), hz.1 _ (cw_t q1337 rfl), hz.1 _ (cw_t q1335 rfl), hz.1 _ (cw_t q1276 rfl)⟩ (m_J25_previousIndex G l it lst (i + 1) (nI i) mq (zrem [2] _)) hw (hw.perm (z_cut (is := [2]) (cells := [(it, zo 15 [.int (nI (i + 1)), .int (nI i), .int mq, .ref lst, .ref lst])]) rfl rfl)) 2 rfl rfl rfl rfl rfl (Nat.le_of_ble_eq_true rfl) hl.1 ⟨Nat.le_of_ble_eq_true rfl, Nat.le_of_ble_eq_true rfl⟩ ⟨(Nat.le_of_ble_eq_true rfl), (Nat.le_of_ble_eq_true rfl)⟩ dX11_set_33) hw (fun _ => z_keep (is := [2]) (cs := [(it, zo 15 [.int (nI (i + 1)), .int (nI i), .int mq, .ref lst, .ref lst])]) rfl rfl) (fun r u H locs hp hw => ?_)
  obtain rfl : r = nI (i + 1) - nI 1 := hp
  exact hend _ _ _ _ _ _ _ () hw (by rw [nI_sub (show 1 ≤ i + 1 by omega)]; rfl) (Nat.le_of_ble_eq_true rfl) (Nat.le_of_ble_eq_true rfl) dX11_set_38
set_option maxHeartbeats 4000000 in
theorem m_X11_set_x (G : zE) (l : Launch) (kA : Nat → Nat) (hG : zG G kA) (hV : zV G kA) (hY : zY G) (hlt : l.stackTraces = false) (a : Nat) (lst : Nat) (it : Nat) (cu : Nat) (x : Nat) (bk : Int32) (mq : Int32) (rest : va_W) : zTh G l yX11_set cX11_set 2 (some .int) 262 1 6 [.ref a, .ref x] ((a, zo 10 [.ref lst, .ref it, .int bk]) :: (it, zo 15 [.int (nI cu), .int (-1), .int mq, .ref lst, .ref lst]) :: rest) "java/lang/IllegalStateException" (fun _ => (a, zo 10 [.ref lst, .ref it, .int bk]) :: (it, zo 15 [.int (nI cu), .int (-1), .int mq, .ref lst, .ref lst]) :: rest) := by
  refine z_begX (by decide) (Nat.le_of_ble_eq_true rfl) (fun p e s m args below meth c ls Q hQ hC htb hl hw hend => ?_)
  have hx := hC.hx
  have hb := hC.hb
  have hl : lv_has ls 2 [(0, .ref a), (1, .ref x)] := hl
  have hw : zS G ((a, zo 10 [.ref lst, .ref it, .int bk]) :: (it, zo 15 [.int (nI cu), .int (-1), .int mq, .ref lst, .ref lst]) :: rest) s s.heap [] := hw
  have hz := hG s hC.hZ.1
  have hzv := hV s hC.hZ.1
  have hzy := hY s hC.hZ.1
  refine lv_aload_n hx hb dX11_set_0 rfl (lv_at hl 0 rfl) ?_
  refine z_get (v := .ref it) hC zf_X11_24_10 hw 0 rfl rfl dX11_set_1 ?_
  refine lv_aload_n hx hb dX11_set_4 rfl (lv_at hl 1 rfl) ?_
  refine z_ct5 (z_runFT (As := [.ref x]) (rest := []) hC zif_X11_72_15 q1716 ⟨hz.1 _ (cw_t q1681 rfl), hz.1 _ (cw_t q1680 rfl), hz.1 _ (cw_t q1715 rfl), hz.1 _ (cw_t q1713 rfl), hz.1 _ (cw_t q1276 rfl)⟩ (m_J25_set_x G l kA (by first | assumption | (omega)) (by first | assumption | (omega)) (by first | assumption | (omega)) (by omega) it lst cu x mq (zrem [1] _)) hw (hw.perm (z_cut (is := [1]) (cells := [(it, zo 15 [.int (nI cu), .int (-1), .int mq, .ref lst, .ref lst])]) rfl rfl)) 1 rfl rfl rfl rfl rfl (Nat.le_of_ble_eq_true rfl) hl.1 ⟨Nat.le_of_ble_eq_true rfl, Nat.le_of_ble_eq_true rfl⟩ ⟨(Nat.le_of_ble_eq_true rfl), (Nat.le_of_ble_eq_true rfl)⟩ dX11_set_5) hw (fun q9 => z_keep (is := [1]) (cs := [(it, zo 15 [.int (nI cu), .int (-1), .int mq, .ref lst, .ref lst])]) rfl rfl) (fun q9 H locs ce9 hex => ?_)
  obtain ⟨hw, hx9⟩ := hex
  exact hend _ _ _ _ _ _ _ _ _ ⟨hw, hx9⟩ (by decide) (Nat.le_of_ble_eq_true rfl) (Nat.le_of_ble_eq_true rfl)
theorem zif_X11_75_15 : zIf RX11 75 "java/util/ArrayList$ListItr" (⟨"java/util/ListIterator", "remove", "()V"⟩ : MethodName) yJ24_remove 0 := ⟨q1729, q1753, q1755, q86, ⟨by decide +kernel, by decide +kernel⟩, by decide +kernel⟩
set_option maxHeartbeats 4000000 in
theorem m_X11_cut_o (G : zE) (l : Launch) (kA : Nat → Nat) (hG : zG G kA) (hV : zV G kA) (lst : Nat) (ed : Nat) (n : Nat) (mq : Int32) (cap : Nat) (ef : Nat → Option Nat) (a : Nat) (bk : Int32) (it : Nat) (cu : Nat) (i : Nat) (X : va_W) (Y : va_W) (hel : ∀ j, j < n → ∀ y, ef j = some y → elOk kA (X ++ Y) y) (hi : i < n) (hn : n ≤ cap) (hc9 : cap ≤ 15) (rest : va_W) : zMi G l yX11_cut cX11_cut 1 (some .int) 8 0 0 [.ref a] ((a, zo 10 [.ref lst, .ref it, .int bk]) :: (lst, zo 14 [.int mq, .ref ed, .int (nI n)]) :: (it, zo 15 [.int (nI cu), .int (nI i), .int mq, .ref lst, .ref lst]) :: (ed, zc G 4 (zO cap ef)) :: (X ++ (Y ++ rest))) (fun (r : Int32) u => r = nI (n - 1) ∧ ∀ j, j < n - 1 → u j = delF ef i j) (fun (u : Nat → Option Nat) => (a, zo 10 [.ref lst, .ref it, .int bk]) :: (lst, zo 14 [.int (mq + (nI 1)), .ref ed, .int (nI (n - 1))]) :: (it, zo 15 [.int (nI i), .int (-1), .int (mq + (nI 1)), .ref lst, .ref lst]) :: (ed, zc G 4 (zO cap u)) :: (X ++ (Y ++ rest))) := by
  refine z_begI (by decide) (Nat.le_of_ble_eq_true rfl) (fun p e s m args below meth c ls Q hC hl hw hend => ?_)
  have hx := hC.hx
  have hb := hC.hb
  have hl : lv_has ls 1 [(0, .ref a)] := hl
  have hw : zS G ((a, zo 10 [.ref lst, .ref it, .int bk]) :: (lst, zo 14 [.int mq, .ref ed, .int (nI n)]) :: (it, zo 15 [.int (nI cu), .int (nI i), .int mq, .ref lst, .ref lst]) :: (ed, zc G 4 (zO cap ef)) :: (X ++ (Y ++ rest))) s s.heap [] := hw
  have hz := hG s hC.hZ.1
  have hzv := hV s hC.hZ.1
  refine lv_aload_n hx hb dX11_cut_0 rfl (lv_at hl 0 rfl) ?_
  refine z_get (v := .ref it) hC zf_X11_24_10 hw 0 rfl rfl dX11_cut_1 ?_
  refine z_c5v (z_runFW (As := []) (rest := []) hC zif_X11_75_15 q1757 ⟨hz.1 _ (cw_t q1731 rfl), hz.1 _ (cw_t q1730 rfl), hz.1 _ (cw_t q1756 rfl), hz.1 _ (cw_t q1754 rfl), hz.1 _ (cw_t q1276 rfl)⟩ (m_J24_remove_o G l kA (by first | assumption | (omega)) (by first | assumption | (omega)) lst ed n mq cap ef it cu i X Y hel (by omega) (by omega) (by omega) (zrem [1, 2, 3] [(a, zo 10 [.ref lst, .ref it, .int bk]), (lst, zo 14 [.int mq, .ref ed, .int (nI n)]), (it, zo 15 [.int (nI cu), .int (nI i), .int mq, .ref lst, .ref lst]), (ed, zc G 4 (zO cap ef))] ++ rest)) hw (hw.perm (((((z_mv1 X Y rest).trans (z_mv1 Y X rest))).append_left [(a, zo 10 [.ref lst, .ref it, .int bk]), (lst, zo 14 [.int mq, .ref ed, .int (nI n)]), (it, zo 15 [.int (nI cu), .int (nI i), .int mq, .ref lst, .ref lst]), (ed, zc G 4 (zO cap ef))]).trans (z_cutP2 (z_cut (is := [1, 2, 3]) (ws := [(a, zo 10 [.ref lst, .ref it, .int bk]), (lst, zo 14 [.int mq, .ref ed, .int (nI n)]), (it, zo 15 [.int (nI cu), .int (nI i), .int mq, .ref lst, .ref lst]), (ed, zc G 4 (zO cap ef))]) (cells := [(lst, zo 14 [.int mq, .ref ed, .int (nI n)]), (it, zo 15 [.int (nI cu), .int (nI i), .int mq, .ref lst, .ref lst]), (ed, zc G 4 (zO cap ef))]) rfl rfl)))) 2 rfl rfl rfl rfl rfl (Nat.le_of_ble_eq_true rfl) hl.1 ⟨Nat.le_of_ble_eq_true rfl, Nat.le_of_ble_eq_true rfl⟩ ⟨(Nat.le_of_ble_eq_true rfl), (Nat.le_of_ble_eq_true rfl)⟩ dX11_cut_4) hw (fun u => (z_putP2 (z_pput (is := [1, 2, 3]) (ws := [(a, zo 10 [.ref lst, .ref it, .int bk]), (lst, zo 14 [.int mq, .ref ed, .int (nI n)]), (it, zo 15 [.int (nI cu), .int (nI i), .int mq, .ref lst, .ref lst]), (ed, zc G 4 (zO cap ef))]) (cells := [(lst, zo 14 [.int mq, .ref ed, .int (nI n)]), (it, zo 15 [.int (nI cu), .int (nI i), .int mq, .ref lst, .ref lst]), (ed, zc G 4 (zO cap ef))]) (cells' := [(lst, zo 14 [.int (mq + (nI 1)), .ref ed, .int (nI (n - 1))]), (it, zo 15 [.int (nI i), .int (-1), .int (mq + (nI 1)), .ref lst, .ref lst]), (ed, zc G 4 (zO cap u))]) rfl rfl rfl)).trans ((((z_mv1 X Y rest).trans (z_mv1 Y X rest))).symm.append_left [(a, zo 10 [.ref lst, .ref it, .int bk]), (lst, zo 14 [.int (mq + (nI 1)), .ref ed, .int (nI (n - 1))]), (it, zo 15 [.int (nI i), .int (-1), .int (mq + (nI 1)), .ref lst, .ref lst]), (ed, zc G 4 (zO cap u))])) (fun u H locs hp hw => ?_)
  obtain ⟨ef7, rfl⟩ : ∃ z, z = u := ⟨_, rfl⟩
  have hw : zS G ((a, zo 10 [.ref lst, .ref it, .int bk]) :: (lst, zo 14 [.int (mq + (nI 1)), .ref ed, .int (nI (n - 1))]) :: (it, zo 15 [.int (nI i), .int (-1), .int (mq + (nI 1)), .ref lst, .ref lst]) :: (ed, zc G 4 (zO cap ef7)) :: (X ++ (Y ++ rest))) s H locs := hw
  have hdE := hp
  refine lv_aload_n hx hb dX11_cut_9 rfl (lv_at hl 0 rfl) ?_
  refine z_ci (z_runV (As := []) (rest := []) hC zv_X11_65 (m_X11_many G l kA (by first | assumption | (omega)) lst ed (n - 1) (mq + (nI 1)) a bk it (zrem [0, 1] _)) hw (hw.perm (z_cut (is := [0, 1]) (cells := [(a, zo 10 [.ref lst, .ref it, .int bk]), (lst, zo 14 [.int (mq + (nI 1)), .ref ed, .int (nI (n - 1))])]) rfl rfl)) 0 rfl rfl rfl rfl rfl (Nat.le_of_ble_eq_true rfl) hl.1 ⟨Nat.le_of_ble_eq_true rfl, Nat.le_of_ble_eq_true rfl⟩ ⟨(Nat.le_of_ble_eq_true rfl), (Nat.le_of_ble_eq_true rfl)⟩ dX11_cut_10) hw (fun _ => z_keep (is := [0, 1]) (cs := [(a, zo 10 [.ref lst, .ref it, .int bk]), (lst, zo 14 [.int (mq + (nI 1)), .ref ed, .int (nI (n - 1))])]) rfl rfl) (fun r u H locs hp hw => ?_)
  obtain rfl : r = nI (n - 1) := hp
  exact hend _ _ _ _ _ _ _ ef7 hw ⟨rfl, hdE⟩ (Nat.le_of_ble_eq_true rfl) (Nat.le_of_ble_eq_true rfl) dX11_cut_13
set_option maxHeartbeats 4000000 in
theorem m_X11_cut_x (G : zE) (l : Launch) (kA : Nat → Nat) (hG : zG G kA) (hV : zV G kA) (hY : zY G) (hlt : l.stackTraces = false) (a : Nat) (lst : Nat) (it : Nat) (cu : Nat) (bk : Int32) (mq : Int32) (rest : va_W) : zTh G l yX11_cut cX11_cut 1 (some .int) 262 1 6 [.ref a] ((a, zo 10 [.ref lst, .ref it, .int bk]) :: (it, zo 15 [.int (nI cu), .int (-1), .int mq, .ref lst, .ref lst]) :: rest) "java/lang/IllegalStateException" (fun _ => (a, zo 10 [.ref lst, .ref it, .int bk]) :: (it, zo 15 [.int (nI cu), .int (-1), .int mq, .ref lst, .ref lst]) :: rest) := by
  refine z_begX (by decide) (Nat.le_of_ble_eq_true rfl) (fun p e s m args below meth c ls Q hQ hC htb hl hw hend => ?_)
  have hx := hC.hx
  have hb := hC.hb
  have hl : lv_has ls 1 [(0, .ref a)] := hl
  have hw : zS G ((a, zo 10 [.ref lst, .ref it, .int bk]) :: (it, zo 15 [.int (nI cu), .int (-1), .int mq, .ref lst, .ref lst]) :: rest) s s.heap [] := hw
  have hz := hG s hC.hZ.1
  have hzv := hV s hC.hZ.1
  have hzy := hY s hC.hZ.1
  refine lv_aload_n hx hb dX11_cut_0 rfl (lv_at hl 0 rfl) ?_
  refine z_get (v := .ref it) hC zf_X11_24_10 hw 0 rfl rfl dX11_cut_1 ?_
  refine z_ct5 (z_runFT (As := []) (rest := []) hC zif_X11_75_15 q1757 ⟨hz.1 _ (cw_t q1731 rfl), hz.1 _ (cw_t q1730 rfl), hz.1 _ (cw_t q1756 rfl), hz.1 _ (cw_t q1754 rfl), hz.1 _ (cw_t q1276 rfl)⟩ (m_J24_remove_x G l kA (by first | assumption | (omega)) (by first | assumption | (omega)) (by first | assumption | (omega)) (by omega) it lst cu mq (zrem [1] _)) hw (hw.perm (z_cut (is := [1]) (cells := [(it, zo 15 [.int (nI cu), .int (-1), .int mq, .ref lst, .ref lst])]) rfl rfl)) 1 rfl rfl rfl rfl rfl (Nat.le_of_ble_eq_true rfl) hl.1 ⟨Nat.le_of_ble_eq_true rfl, Nat.le_of_ble_eq_true rfl⟩ ⟨(Nat.le_of_ble_eq_true rfl), (Nat.le_of_ble_eq_true rfl)⟩ dX11_cut_4) hw (fun q9 => z_keep (is := [1]) (cs := [(it, zo 15 [.int (nI cu), .int (-1), .int mq, .ref lst, .ref lst])]) rfl rfl) (fun q9 H locs ce9 hex => ?_)
  obtain ⟨hw, hx9⟩ := hex
  exact hend _ _ _ _ _ _ _ _ _ ⟨hw, hx9⟩ (by decide) (Nat.le_of_ble_eq_true rfl) (Nat.le_of_ble_eq_true rfl)
theorem zif_X11_18_14 : zIf RX11 18 "java/util/ArrayList" (⟨"java/util/List", "listIterator", "()Ljava/util/ListIterator;"⟩ : MethodName) yJ23_listIterator 0 := ⟨q1146, q1149, q1151, q85, ⟨by decide +kernel, by decide +kernel⟩, by decide +kernel⟩
set_option maxHeartbeats 4000000 in
theorem m_X11_rewind (G : zE) (l : Launch) (kA : Nat → Nat) (hG : zG G kA) (lst : Nat) (ed : Nat) (n : Nat) (mq : Int32) (a : Nat) (bk : Int32) (it : Nat) (cu : Nat) (lr : Int32) (rest : va_W) : zMi G l yX11_rewind cX11_rewind 2 (some .int) 6 1 5 [.ref a] ((a, zo 10 [.ref lst, .ref it, .int bk]) :: (lst, zo 14 [.int mq, .ref ed, .int (nI n)]) :: (it, zo 15 [.int (nI cu), .int lr, .int mq, .ref lst, .ref lst]) :: rest) (fun (r : Int32) _ => r = nI cu) (fun (u : Nat) => (u, zo 15 [.int (nI 0), .int (-1), .int mq, .ref lst, .ref lst]) :: (a, zo 10 [.ref lst, .ref u, .int bk]) :: (lst, zo 14 [.int mq, .ref ed, .int (nI n)]) :: (it, zo 15 [.int (nI cu), .int lr, .int mq, .ref lst, .ref lst]) :: rest) := by
  refine z_begI (by decide) (Nat.le_of_ble_eq_true rfl) (fun p e s m args below meth c ls Q hC hl hw hend => ?_)
  have hx := hC.hx
  have hb := hC.hb
  have hl : lv_has ls 2 [(0, .ref a)] := hl
  have hw : zS G ((a, zo 10 [.ref lst, .ref it, .int bk]) :: (lst, zo 14 [.int mq, .ref ed, .int (nI n)]) :: (it, zo 15 [.int (nI cu), .int lr, .int mq, .ref lst, .ref lst]) :: rest) s s.heap [] := hw
  have hz := hG s hC.hZ.1
  refine lv_aload_n hx hb dX11_rewind_0 rfl (lv_at hl 0 rfl) ?_
  refine z_get (v := .ref it) hC zf_X11_24_10 hw 0 rfl rfl dX11_rewind_1 ?_
  refine z_c5i (z_runF (As := []) (rest := []) hC zif_X11_44_15 q1324 ⟨hz.1 _ (cw_t q1314 rfl), hz.1 _ (cw_t q1313 rfl), hz.1 _ (cw_t q1323 rfl), hz.1 _ (cw_t q1321 rfl), hz.1 _ (cw_t q1276 rfl)⟩ (m_J25_nextIndex G l it lst cu lr mq (zrem [2] _)) hw (hw.perm (z_cut (is := [2]) (cells := [(it, zo 15 [.int (nI cu), .int lr, .int mq, .ref lst, .ref lst])]) rfl rfl)) 2 rfl rfl rfl rfl rfl (Nat.le_of_ble_eq_true rfl) hl.1 ⟨Nat.le_of_ble_eq_true rfl, Nat.le_of_ble_eq_true rfl⟩ ⟨(Nat.le_of_ble_eq_true rfl), (Nat.le_of_ble_eq_true rfl)⟩ dX11_rewind_4) hw (fun _ => z_keep (is := [2]) (cs := [(it, zo 15 [.int (nI cu), .int lr, .int mq, .ref lst, .ref lst])]) rfl rfl) (fun r u H locs hp hw => ?_)
  obtain rfl : r = nI cu := hp
  refine lv_istore_n (lv' := [(1, .int (nI cu)), (0, .ref a)]) hx hb dX11_rewind_9 rfl hl (by decide) rfl (fun ls hl => ?_)
  refine lv_aload_n hx hb dX11_rewind_10 rfl (lv_at hl 1 rfl) ?_
  refine lv_aload_n hx hb dX11_rewind_11 rfl (lv_at hl 1 rfl) ?_
  refine z_get (v := .ref lst) hC zf_X11_12_10 hw 0 rfl rfl dX11_rewind_12 ?_
  refine z_c5q (z_runF (As := []) (rest := [.ref a]) hC zif_X11_18_14 q1153 ⟨hz.1 _ (cw_t q1148 rfl), hz.1 _ (cw_t q1147 rfl), hz.1 _ (cw_t q1152 rfl), hz.1 _ (cw_t q1150 rfl), hz.1 _ (cw_t q595 rfl)⟩ (m_J23_listIterator G l kA (by first | assumption | (omega)) lst ed n mq (zrem [1] _)) hw (hw.perm (z_cut (is := [1]) (cells := [(lst, zo 14 [.int mq, .ref ed, .int (nI n)])]) rfl rfl)) 1 rfl rfl rfl rfl rfl (Nat.le_of_ble_eq_true rfl) hl.1 ⟨Nat.le_of_ble_eq_true rfl, Nat.le_of_ble_eq_true rfl⟩ ⟨(Nat.le_of_ble_eq_true rfl), (Nat.le_of_ble_eq_true rfl)⟩ dX11_rewind_15) hw (fun u => z_new1 (is := [1]) (cs := [(lst, zo 14 [.int mq, .ref ed, .int (nI n)])]) (cs' := [(lst, zo 14 [.int mq, .ref ed, .int (nI n)])]) (nw := [(u, zo 15 [.int (nI 0), .int (-1), .int mq, .ref lst, .ref lst])]) rfl rfl rfl) (fun r u H locs hp hw => ?_)
  obtain ⟨it2, rfl⟩ : ∃ z, z = u := ⟨_, rfl⟩
  have hw : zS G ((it2, zo 15 [.int (nI 0), .int (-1), .int mq, .ref lst, .ref lst]) :: (a, zo 10 [.ref lst, .ref it, .int bk]) :: (lst, zo 14 [.int mq, .ref ed, .int (nI n)]) :: (it, zo 15 [.int (nI cu), .int lr, .int mq, .ref lst, .ref lst]) :: rest) s H locs := hw
  obtain rfl := hp
  refine z_put hC zf_X11_24_10 hw 1 rfl rfl rfl (Nat.le_of_ble_eq_true rfl) dX11_rewind_20 (fun H locs hw => ?_)
  have hw : zS G ((it2, zo 15 [.int (nI 0), .int (-1), .int mq, .ref lst, .ref lst]) :: (a, zo 10 [.ref lst, .ref it2, .int bk]) :: (lst, zo 14 [.int mq, .ref ed, .int (nI n)]) :: (it, zo 15 [.int (nI cu), .int lr, .int mq, .ref lst, .ref lst]) :: rest) s H locs := hw
  refine lv_iload_n hx hb dX11_rewind_23 rfl (lv_at hl 0 rfl) ?_
  exact hend _ _ _ _ _ _ _ it2 hw rfl (Nat.le_of_ble_eq_true rfl) (Nat.le_of_ble_eq_true rfl) dX11_rewind_24
theorem zx_X11_11 : zIs RX11 11 yJ23_init cJ23_init 1 0 := ⟨⟨q1130, q85, q1128, q1129, rfl⟩, ⟨by decide +kernel, by decide +kernel⟩, by decide +kernel⟩
set_option maxHeartbeats 4000000 in
theorem m_X11_init (G : zE) (l : Launch) (kA : Nat → Nat) (hG : zG G kA) (hV : zV G kA) (a : Nat) (rest : va_W) : zMv G l yX11_init cX11_init 1 7 2 8 [.ref a] ((a, zo 10 [.null, .null, .int 0]) :: rest) (fun _ => True) (fun (u : Nat × Nat) => (u.2, zo 15 [.int (nI 0), .int (-1), .int 0, .ref u.1, .ref u.1]) :: (u.1, zo 14 [.int 0, .ref (kA 5), .int (nI 0)]) :: (a, zo 10 [.ref u.1, .ref u.2, .int 0]) :: rest) := by
  refine z_begV (by decide) (Nat.le_of_ble_eq_true rfl) (fun p e s m args below meth c ls Q hC hnm hl hw hend => ?_)
  have hx := hC.hx
  have hb := hC.hb
  have hl : lv_has ls 1 [(0, .ref a)] := hl
  have hw : zS G ((a, zo 10 [.null, .null, .int 0]) :: rest) s s.heap [] := hw
  have hz := hG s hC.hZ.1
  have hzv := hV s hC.hZ.1
  refine lv_aload_n hx hb dX11_init_0 rfl (lv_at hl 0 rfl) ?_
  refine W.objInit hx hb hC.hown (hC.hts _ q1125) (hC.hts _ q102) (hC.hts _ q103) rfl (by rw [hC.hml]; exact hl.1) rfl dX11_init_1 (Nat.le_of_ble_eq_true rfl) (Nat.le_of_ble_eq_true rfl) ?_
  refine W.eq (g2 := F0 m 4 ls []) rfl ?_
  refine lv_aload_n hx hb dX11_init_4 rfl (lv_at hl 0 rfl) ?_
  refine z_new (ci := 14) (fs := [.int 0, .null, .int 0]) hC rfl in_J23 tyJ23_ok q1126 q1127 q85 hw (fun j hj => by revert hj; revert j; decide) (Nat.le_of_ble_eq_true rfl) (Nat.le_of_ble_eq_true rfl) dX11_init_5 (fun q_5 H hw => ?_)
  have hw : zS G ((q_5, zo 14 [.int 0, .null, .int 0]) :: (a, zo 10 [.null, .null, .int 0]) :: rest) s H [] := hw
  refine lv_dup hx hb dX11_init_8 rfl ?_
  refine z_cv (z_runI (As := []) (rest := [.ref q_5, .ref a]) hC zx_X11_11 (m_J23_init G l kA (by first | assumption | (omega)) (by first | assumption | (omega)) q_5 (zrem [0] _)) (hw.perm (z_cut (is := [0]) (cells := [(q_5, zo 14 [.int 0, .null, .int 0])]) rfl rfl)) rfl rfl (Nat.le_of_ble_eq_true rfl) hl.1 ⟨Nat.le_of_ble_eq_true rfl, Nat.le_of_ble_eq_true rfl⟩ ⟨(Nat.le_of_ble_eq_true rfl), (Nat.le_of_ble_eq_true rfl)⟩ dX11_init_9) hw (fun _ => z_pput (is := [0]) (cells := [(q_5, zo 14 [.int 0, .null, .int 0])]) (cells' := [(q_5, zo 14 [.int 0, .ref (kA 5), .int (nI 0)])]) rfl rfl rfl) (fun u H locs hp hw => ?_)
  have hw : zS G ((q_5, zo 14 [.int 0, .ref (kA 5), .int (nI 0)]) :: (a, zo 10 [.null, .null, .int 0]) :: rest) s H locs := hw
  refine z_putF hC zf_X11_12_10 ⟨_, rfl, rfl⟩ hnm hw 1 rfl rfl rfl (Nat.le_of_ble_eq_true rfl) dX11_init_12 (fun H locs hw => ?_)
  have hw : zS G ((q_5, zo 14 [.int 0, .ref (kA 5), .int (nI 0)]) :: (a, zo 10 [.ref q_5, .null, .int 0]) :: rest) s H locs := hw
  refine lv_aload_n hx hb dX11_init_15 rfl (lv_at hl 0 rfl) ?_
  refine lv_aload_n hx hb dX11_init_16 rfl (lv_at hl 0 rfl) ?_
  refine z_get (v := .ref q_5) hC zf_X11_12_10 hw 1 rfl rfl dX11_init_17 ?_
  refine z_c5q (z_runF (As := []) (rest := [.ref a]) hC zif_X11_18_14 q1153 ⟨hz.1 _ (cw_t q1148 rfl), hz.1 _ (cw_t q1147 rfl), hz.1 _ (cw_t q1152 rfl), hz.1 _ (cw_t q1150 rfl), hz.1 _ (cw_t q595 rfl)⟩ (m_J23_listIterator G l kA (by first | assumption | (omega)) q_5 (kA 5) 0 0 (zrem [0] _)) hw (hw.perm (z_cut (is := [0]) (cells := [(q_5, zo 14 [.int 0, .ref (kA 5), .int (nI 0)])]) rfl rfl)) 0 rfl rfl rfl rfl rfl (Nat.le_of_ble_eq_true rfl) hl.1 ⟨Nat.le_of_ble_eq_true rfl, Nat.le_of_ble_eq_true rfl⟩ ⟨(Nat.le_of_ble_eq_true rfl), (Nat.le_of_ble_eq_true rfl)⟩ dX11_init_20) hw (fun u => z_new1 (is := [0]) (cs := [(q_5, zo 14 [.int 0, .ref (kA 5), .int (nI 0)])]) (cs' := [(q_5, zo 14 [.int 0, .ref (kA 5), .int (nI 0)])]) (nw := [(u, zo 15 [.int (nI 0), .int (-1), .int 0, .ref q_5, .ref q_5])]) rfl rfl rfl) (fun r u H locs hp hw => ?_)
  obtain ⟨it2, rfl⟩ : ∃ z, z = u := ⟨_, rfl⟩
  have hw : zS G ((it2, zo 15 [.int (nI 0), .int (-1), .int 0, .ref q_5, .ref q_5]) :: (q_5, zo 14 [.int 0, .ref (kA 5), .int (nI 0)]) :: (a, zo 10 [.ref q_5, .null, .int 0]) :: rest) s H locs := hw
  obtain rfl := hp
  refine z_put hC zf_X11_24_10 hw 2 rfl rfl rfl (Nat.le_of_ble_eq_true rfl) dX11_init_25 (fun H locs hw => ?_)
  have hw : zS G ((it2, zo 15 [.int (nI 0), .int (-1), .int 0, .ref q_5, .ref q_5]) :: (q_5, zo 14 [.int 0, .ref (kA 5), .int (nI 0)]) :: (a, zo 10 [.ref q_5, .ref it2, .int 0]) :: rest) s H locs := hw
  exact hend _ _ _ _ _ _ (q_5, it2) hw trivial (Nat.le_of_ble_eq_true rfl) (Nat.le_of_ble_eq_true rfl) dX11_init_28
