/-! COMPONENT: begin -/
set_option maxRecDepth 100000
set_option maxHeartbeats 4000000 in
theorem m_J0_fill_5 (G : zE) (l : Launch) (a7 : Nat) (n : Nat) (f : Nat → Option Nat) (hn : n ≤ 100) (rest : va_W) : zMv G l yJ0_fill cJ0_fill 4 0 0 0 [.ref a7, .null] ((a7, zc G 5 (zO n f)) :: rest) (fun u => ∀ j, j < n → u j = none) (fun (u : Nat → Option Nat) => (a7, zc G 5 (zO n u)) :: rest) := by
  refine z_begV (by decide) (Nat.le_of_ble_eq_true rfl) (fun p e s m args below meth c ls Q hC hnm hl hw hend => ?_)
  have hx := hC.hx
  have hb := hC.hb
  have hl : lv_has ls 4 [(0, .ref a7), (1, .null)] := hl
  have hw : zS G ((a7, zc G 5 (zO n f)) :: rest) s s.heap [] := hw
  refine lv_iconst (v := (nI 0)) hx hb dJ0_fill_0 zk_0 ?_
  refine lv_istore_n (lv' := [(2, .int (nI 0)), (0, .ref a7), (1, .null)]) hx hb dJ0_fill_1 rfl hl (by decide) rfl (fun ls hl => ?_)
  refine lv_aload_n hx hb dJ0_fill_2 rfl (lv_at hl 1 rfl) ?_
  refine z_alen (t := 5) hC hw 0 rfl (fun _ => rfl) dJ0_fill_3 ?_
  show W p l e (zR 0 0 0) s m args below meth c s.heap [] 0 0 Q (F0 m 4 ls [.int (nI n)])
  refine lv_istore_n (lv' := [(3, .int (nI n)), (2, .int (nI 0)), (0, .ref a7), (1, .null)]) hx hb dJ0_fill_4 rfl hl (by decide) rfl (fun ls hl => ?_)
  have loop_5 : ∀ (fuel : Nat) (k : Nat) (g : Nat → Option Nat), (k ≤ n) → (∀ j, j < k → g j = none) → (n - k) < fuel → ∀ (H : Heap) (locs : List Loc) (ls : Array Slot), zS G ((a7, zc G 5 (zO n g)) :: rest) s H locs → lv_has ls 4 [(0, .ref a7), (1, .null), (2, .int (nI k)), (3, .int (nI n))] → W p l e (zR 0 0 0) s m args below meth c H locs 0 0 Q (F0 m 5 ls []) := by
    intro fuel
    induction fuel with
    | zero => intro k g hk hg hfuel; exact absurd hfuel (Nat.not_lt_zero _)
    | succ fuel_5 ih_5 =>
      intro k g hk hg hfuel_5 H locs ls hw hl
      refine lv_iload_n hx hb dJ0_fill_5 rfl (lv_at hl 2 rfl) ?_
      refine lv_iload_n hx hb dJ0_fill_6 rfl (lv_at hl 3 rfl) ?_
      refine zi_ge (tgt := 20) hx hb (by omega) (by omega) dJ0_fill_7 (by decide) (fun c_7 => ?_) (fun c_7 => ?_)
      · skip
        exact hend _ _ _ _ _ _ g hw (fun j hj => hg j (by omega)) (Nat.le_of_ble_eq_true rfl) (Nat.le_of_ble_eq_true rfl) dJ0_fill_20
      · skip
        refine lv_aload_n hx hb dJ0_fill_10 rfl (lv_at hl 0 rfl) ?_
        refine lv_iload_n hx hb dJ0_fill_11 rfl (lv_at hl 2 rfl) ?_
        refine lv_aload_nN hx hb dJ0_fill_12 rfl (lv_at hl 1 rfl) ?_
        refine z_aastN (t := 5) (f' := va_up g k none) hC hw 0 rfl (fun _ => rfl) (by omega) (by omega) rfl dJ0_fill_13 (fun H locs hw => ?_)
        have hw : zS G ((a7, zc G 5 (zO n (va_up g k none))) :: rest) s H locs := hw
        refine lv_iinc (v := (nI (k + 1))) (lv' := [(2, .int (nI (k + 1))), (0, .ref a7), (1, .null), (3, .int (nI n))]) hx hb dJ0_fill_14 hl (k := 2) rfl (zincn _ 1) (by decide) rfl (fun ls hl => ?_)
        refine lv_goto (tgt := 5) hx hb dJ0_fill_17 (by decide) ?_
        exact ih_5 (k + 1) (va_up g k none) (by omega) (fun j hj => by unfold va_up; split; rfl; exact hg j (by omega)) (by omega) H locs ls hw (lv_sub hl [1, 2, 0, 3] rfl)
  exact loop_5 ((n - 0) + 1) 0 f (by omega) (fun j hj => absurd hj (Nat.not_lt_zero _)) (Nat.lt_succ_self _) s.heap [] ls hw (lv_sub hl [2, 3, 1, 0] rfl)
set_option maxHeartbeats 4000000 in
theorem m_J0_fill_6 (G : zE) (l : Launch) (a7 : Nat) (n : Nat) (f : Nat → Option Nat) (hn : n ≤ 100) (rest : va_W) : zMv G l yJ0_fill cJ0_fill 4 0 0 0 [.ref a7, .null] ((a7, zc G 6 (zO n f)) :: rest) (fun u => ∀ j, j < n → u j = none) (fun (u : Nat → Option Nat) => (a7, zc G 6 (zO n u)) :: rest) := by
  refine z_begV (by decide) (Nat.le_of_ble_eq_true rfl) (fun p e s m args below meth c ls Q hC hnm hl hw hend => ?_)
  have hx := hC.hx
  have hb := hC.hb
  have hl : lv_has ls 4 [(0, .ref a7), (1, .null)] := hl
  have hw : zS G ((a7, zc G 6 (zO n f)) :: rest) s s.heap [] := hw
  refine lv_iconst (v := (nI 0)) hx hb dJ0_fill_0 zk_0 ?_
  refine lv_istore_n (lv' := [(2, .int (nI 0)), (0, .ref a7), (1, .null)]) hx hb dJ0_fill_1 rfl hl (by decide) rfl (fun ls hl => ?_)
  refine lv_aload_n hx hb dJ0_fill_2 rfl (lv_at hl 1 rfl) ?_
  refine z_alen (t := 6) hC hw 0 rfl (fun _ => rfl) dJ0_fill_3 ?_
  show W p l e (zR 0 0 0) s m args below meth c s.heap [] 0 0 Q (F0 m 4 ls [.int (nI n)])
  refine lv_istore_n (lv' := [(3, .int (nI n)), (2, .int (nI 0)), (0, .ref a7), (1, .null)]) hx hb dJ0_fill_4 rfl hl (by decide) rfl (fun ls hl => ?_)
  have loop_5 : ∀ (fuel : Nat) (k : Nat) (g : Nat → Option Nat), (k ≤ n) → (∀ j, j < k → g j = none) → (n - k) < fuel → ∀ (H : Heap) (locs : List Loc) (ls : Array Slot), zS G ((a7, zc G 6 (zO n g)) :: rest) s H locs → lv_has ls 4 [(0, .ref a7), (1, .null), (2, .int (nI k)), (3, .int (nI n))] → W p l e (zR 0 0 0) s m args below meth c H locs 0 0 Q (F0 m 5 ls []) := by
    intro fuel
    induction fuel with
    | zero => intro k g hk hg hfuel; exact absurd hfuel (Nat.not_lt_zero _)
    | succ fuel_5 ih_5 =>
      intro k g hk hg hfuel_5 H locs ls hw hl
      refine lv_iload_n hx hb dJ0_fill_5 rfl (lv_at hl 2 rfl) ?_
      refine lv_iload_n hx hb dJ0_fill_6 rfl (lv_at hl 3 rfl) ?_
      refine zi_ge (tgt := 20) hx hb (by omega) (by omega) dJ0_fill_7 (by decide) (fun c_7 => ?_) (fun c_7 => ?_)
      · skip
        exact hend _ _ _ _ _ _ g hw (fun j hj => hg j (by omega)) (Nat.le_of_ble_eq_true rfl) (Nat.le_of_ble_eq_true rfl) dJ0_fill_20
      · skip
        refine lv_aload_n hx hb dJ0_fill_10 rfl (lv_at hl 0 rfl) ?_
        refine lv_iload_n hx hb dJ0_fill_11 rfl (lv_at hl 2 rfl) ?_
        refine lv_aload_nN hx hb dJ0_fill_12 rfl (lv_at hl 1 rfl) ?_
        refine z_aastN (t := 6) (f' := va_up g k none) hC hw 0 rfl (fun _ => rfl) (by omega) (by omega) rfl dJ0_fill_13 (fun H locs hw => ?_)
        have hw : zS G ((a7, zc G 6 (zO n (va_up g k none))) :: rest) s H locs := hw
        refine lv_iinc (v := (nI (k + 1))) (lv' := [(2, .int (nI (k + 1))), (0, .ref a7), (1, .null), (3, .int (nI n))]) hx hb dJ0_fill_14 hl (k := 2) rfl (zincn _ 1) (by decide) rfl (fun ls hl => ?_)
        refine lv_goto (tgt := 5) hx hb dJ0_fill_17 (by decide) ?_
        exact ih_5 (k + 1) (va_up g k none) (by omega) (fun j hj => by unfold va_up; split; rfl; exact hg j (by omega)) (by omega) H locs ls hw (lv_sub hl [1, 2, 0, 3] rfl)
  exact loop_5 ((n - 0) + 1) 0 f (by omega) (fun j hj => absurd hj (Nat.not_lt_zero _)) (Nat.lt_succ_self _) s.heap [] ls hw (lv_sub hl [2, 3, 1, 0] rfl)
set_option maxHeartbeats 4000000 in
theorem m_J0_fill_2 (G : zE) (l : Launch) (a7 : Nat) (f : Nat → Nat) (hb8 : ∀ j, f j < 512) (rest : va_W) : zMv G l yJ0_fill_2 cJ0_fill_2 4 0 0 0 [.ref a7, .int (nI 0)] ((a7, zc G 2 (zI 5 (vI f))) :: rest) (fun u => (∀ j, j < 5 → u j = 0) ∧ ∀ j, u j < 512) (fun (u : Nat → Nat) => (a7, zc G 2 (zI 5 (vI u))) :: rest) := by
  refine z_begV (by decide) (Nat.le_of_ble_eq_true rfl) (fun p e s m args below meth c ls Q hC hnm hl hw hend => ?_)
  have hx := hC.hx
  have hb := hC.hb
  have hl : lv_has ls 4 [(0, .ref a7), (1, .int (nI 0))] := hl
  have hw : zS G ((a7, zc G 2 (zI 5 (vI f))) :: rest) s s.heap [] := hw
  refine lv_iconst (v := (nI 0)) hx hb dJ0_fill_2_0 zk_0 ?_
  refine lv_istore_n (lv' := [(2, .int (nI 0)), (0, .ref a7), (1, .int (nI 0))]) hx hb dJ0_fill_2_1 rfl hl (by decide) rfl (fun ls hl => ?_)
  refine lv_aload_n hx hb dJ0_fill_2_2 rfl (lv_at hl 1 rfl) ?_
  refine z_alen (t := 2) hC hw 0 rfl (fun _ => rfl) dJ0_fill_2_3 ?_
  show W p l e (zR 0 0 0) s m args below meth c s.heap [] 0 0 Q (F0 m 4 ls [.int (nI 5)])
  refine lv_istore_n (lv' := [(3, .int (nI 5)), (2, .int (nI 0)), (0, .ref a7), (1, .int (nI 0))]) hx hb dJ0_fill_2_4 rfl hl (by decide) rfl (fun ls hl => ?_)
  have loop_5 : ∀ (fuel : Nat) (k : Nat) (g : Nat → Nat), (k ≤ 5) → (∀ j, j < k → g j = 0) → (∀ j, g j < 512) → (5 - k) < fuel → ∀ (H : Heap) (locs : List Loc) (ls : Array Slot), zS G ((a7, zc G 2 (zI 5 (vI g))) :: rest) s H locs → lv_has ls 4 [(0, .ref a7), (1, .int (nI 0)), (2, .int (nI k)), (3, .int (nI 5))] → W p l e (zR 0 0 0) s m args below meth c H locs 0 0 Q (F0 m 5 ls []) := by
    intro fuel
    induction fuel with
    | zero => intro k g hk hg hb9 hfuel; exact absurd hfuel (Nat.not_lt_zero _)
    | succ fuel_5 ih_5 =>
      intro k g hk hg hb9 hfuel_5 H locs ls hw hl
      refine lv_iload_n hx hb dJ0_fill_2_5 rfl (lv_at hl 2 rfl) ?_
      refine lv_iload_n hx hb dJ0_fill_2_6 rfl (lv_at hl 3 rfl) ?_
      refine zi_ge (tgt := 20) hx hb (by omega) (by decide) dJ0_fill_2_7 (by decide) (fun c_7 => ?_) (fun c_7 => ?_)
      · skip
        exact hend _ _ _ _ _ _ g hw ⟨fun j hj => hg j (by omega), hb9⟩ (Nat.le_of_ble_eq_true rfl) (Nat.le_of_ble_eq_true rfl) dJ0_fill_2_20
      · skip
        refine lv_aload_n hx hb dJ0_fill_2_10 rfl (lv_at hl 0 rfl) ?_
        refine lv_iload_n hx hb dJ0_fill_2_11 rfl (lv_at hl 2 rfl) ?_
        refine lv_iload_n hx hb dJ0_fill_2_12 rfl (lv_at hl 1 rfl) ?_
        refine z_sast (f' := vI (updN g k 0)) hC hw 0 rfl (by omega) (by decide) ((congrArg _ (znshort (by decide))).trans (vI_upd _ _ _)) dJ0_fill_2_13 (fun H locs hw => ?_)
        have hw : zS G ((a7, zc G 2 (zI 5 (vI (updN g k 0)))) :: rest) s H locs := hw
        refine lv_iinc (v := (nI (k + 1))) (lv' := [(2, .int (nI (k + 1))), (0, .ref a7), (1, .int (nI 0)), (3, .int (nI 5))]) hx hb dJ0_fill_2_14 hl (k := 2) rfl (zincn _ 1) (by decide) rfl (fun ls hl => ?_)
        refine lv_goto (tgt := 5) hx hb dJ0_fill_2_17 (by decide) ?_
        exact ih_5 (k + 1) (updN g k 0) (by omega) (fun j hj => by unfold updN; split; rfl; exact hg j (by omega)) (fun j => by unfold updN; split; decide; exact hb9 j) (by omega) H locs ls hw (lv_sub hl [1, 2, 0, 3] rfl)
  exact loop_5 ((5 - 0) + 1) 0 f (by decide) (fun j hj => absurd hj (Nat.not_lt_zero _)) hb8 (Nat.lt_succ_self _) s.heap [] ls hw (lv_sub hl [2, 3, 1, 0] rfl)
theorem zf_X0_31_0 : zFl 0 2 RX0 31 true (.object "NutCaches$State") := ⟨RX0, TX0, 13, tyX0, rfl, by decide, in_X0, q175, rfl, by decide +kernel, tyX0_ok, nmX0⟩
theorem zs_X0_51 : zSs RX0 51 yJ0_fill cJ0_fill 4 none 2 := ⟨lw_S q167 q168 q52 q169, ⟨by decide +kernel, by decide +kernel⟩, by decide +kernel⟩
set_option maxHeartbeats 4000000 in
theorem m_X0_begin (G : zE) (l : Launch) (co : Nat) (w : Nat → Nat) (zt : Nat → Nat) (zn : Nat → Nat) (v : Nat → Nat) (td : Nat) (ps : Nat) (dy : Nat) (tg : Int32) (gg : Int32) (mn : Int32) (bm : Int32) (sm : Int32) (lt : Int32) (tp : Nat → Nat) (tn : Nat → Nat) (ta : Nat → Nat) (tl : Nat → Nat) (tk : Nat → Nat) (pl : Nat → Nat) (nu : Nat → Nat) (ax : Nat → Nat) (le : Nat → Nat) (kn : Nat → Nat) (kf : Nat → Option Nat) (tf : Nat → Option Nat) (ks : Nat → va_W) (ts : Nat → va_W) (hH : Hw v) (hR1 : sRel v tp tn ta tl tk) (hbn : sBd pl nu ax le kn) (rest : va_W) : zMv G l yX0_begin cX0_begin 1 4 0 0 [.ref co] ((co, zo 0 (cF w mn bm sm lt)) :: (w 1, zo 1 (stF zt co (nI (v 0)) (nI td) (tg))) :: (zt 0, zc G 1 (zI 9 (vI tp))) :: (zt 1, zc G 1 (zI 9 (vI tn))) :: (zt 2, zc G 1 (zI 5 (vI ta))) :: (zt 3, zc G 1 (zI 5 (vI tl))) :: (zt 4, zc G 2 (zI 5 (vI tk))) :: (w 2, zo 1 (stF zn co (nI ps) (nI dy) (gg))) :: (zn 0, zc G 1 (zI 9 (vI pl))) :: (zn 1, zc G 1 (zI 9 (vI nu))) :: (zn 2, zc G 1 (zI 5 (vI ax))) :: (zn 3, zc G 1 (zI 5 (vI le))) :: (zn 4, zc G 2 (zI 5 (vI kn))) :: (w 4, zc G 5 (zO 2 kf)) :: (w 7, zc G 6 (zO 3 tf)) :: (pw 2 ks ++ (pw 3 ts ++ rest))) (fun u => sRel v u.1 u.2.1 u.2.2.1 u.2.2.2.1 u.2.2.2.2.1 ∧ (∀ j, j < 2 → u.2.2.2.2.2.1 j = none) ∧ ∀ j, j < 3 → u.2.2.2.2.2.2 j = none) (fun (u : (Nat → Nat) × (Nat → Nat) × (Nat → Nat) × (Nat → Nat) × (Nat → Nat) × (Nat → Option Nat) × (Nat → Option Nat)) => (co, zo 0 (cF w mn (nI 0) (nI 0) lt)) :: (w 1, zo 1 (stF zt co (nI (v 0)) (nI td) (tg))) :: (zt 0, zc G 1 (zI 9 (vI tp))) :: (zt 1, zc G 1 (zI 9 (vI tn))) :: (zt 2, zc G 1 (zI 5 (vI ta))) :: (zt 3, zc G 1 (zI 5 (vI tl))) :: (zt 4, zc G 2 (zI 5 (vI tk))) :: (w 2, zo 1 (stF zn co (nI (v 0)) (nI td) (gg))) :: (zn 0, zc G 1 (zI 9 (vI u.1))) :: (zn 1, zc G 1 (zI 9 (vI u.2.1))) :: (zn 2, zc G 1 (zI 5 (vI u.2.2.1))) :: (zn 3, zc G 1 (zI 5 (vI u.2.2.2.1))) :: (zn 4, zc G 2 (zI 5 (vI u.2.2.2.2.1))) :: (w 4, zc G 5 (zO 2 u.2.2.2.2.2.1)) :: (w 7, zc G 6 (zO 3 u.2.2.2.2.2.2)) :: (pw 2 (fun _ => []) ++ (pw 3 (fun _ => []) ++ rest))) := by
  refine z_begV (by decide) (Nat.le_of_ble_eq_true rfl) (fun p e s m args below meth c ls Q hC hnm hl hw hend => ?_)
  have hx := hC.hx
  have hb := hC.hb
  have hl : lv_has ls 1 [(0, .ref co)] := hl
  have hw : zS G ((co, zo 0 (cF w mn bm sm lt)) :: (w 1, zo 1 (stF zt co (nI (v 0)) (nI td) (tg))) :: (zt 0, zc G 1 (zI 9 (vI tp))) :: (zt 1, zc G 1 (zI 9 (vI tn))) :: (zt 2, zc G 1 (zI 5 (vI ta))) :: (zt 3, zc G 1 (zI 5 (vI tl))) :: (zt 4, zc G 2 (zI 5 (vI tk))) :: (w 2, zo 1 (stF zn co (nI ps) (nI dy) (gg))) :: (zn 0, zc G 1 (zI 9 (vI pl))) :: (zn 1, zc G 1 (zI 9 (vI nu))) :: (zn 2, zc G 1 (zI 5 (vI ax))) :: (zn 3, zc G 1 (zI 5 (vI le))) :: (zn 4, zc G 2 (zI 5 (vI kn))) :: (w 4, zc G 5 (zO 2 kf)) :: (w 7, zc G 6 (zO 3 tf)) :: (pw 2 ks ++ (pw 3 ts ++ rest))) s s.heap [] := hw
  have hbt := hR1.2.2.2
  refine lv_aload_n hx hb dX0_begin_0 rfl (lv_at hl 0 rfl) ?_
  refine z_get (v := .ref (w 2)) hC zf_X0_27_0 hw 0 rfl rfl dX0_begin_1 ?_
  refine lv_aload_n hx hb dX0_begin_4 rfl (lv_at hl 0 rfl) ?_
  refine z_get (v := .ref (w 1)) hC zf_X0_31_0 hw 0 rfl rfl dX0_begin_5 ?_
  refine z_cq (z_runV (As := [.ref (w 1)]) (rest := []) hC zv_X0_34 (m_X1_set G l (w 2) (w 1) co zn zt ps dy (v 0) td gg tg pl nu ax le kn tp tn ta tl tk (fun j => (hbt j).1) (fun j => (hbt j).2.1) (fun j => (hbt j).2.2.1) (fun j => (hbt j).2.2.2.1) (fun j => (hbt j).2.2.2.2) (zrem [7, 8, 9, 10, 11, 12, 1, 2, 3, 4, 5, 6] _)) hw (hw.perm (z_cut (is := [7, 8, 9, 10, 11, 12, 1, 2, 3, 4, 5, 6]) (cells := [(w 2, zo 1 (stF zn co (nI ps) (nI dy) (gg))), (zn 0, zc G 1 (zI 9 (vI pl))), (zn 1, zc G 1 (zI 9 (vI nu))), (zn 2, zc G 1 (zI 5 (vI ax))), (zn 3, zc G 1 (zI 5 (vI le))), (zn 4, zc G 2 (zI 5 (vI kn))), (w 1, zo 1 (stF zt co (nI (v 0)) (nI td) (tg))), (zt 0, zc G 1 (zI 9 (vI tp))), (zt 1, zc G 1 (zI 9 (vI tn))), (zt 2, zc G 1 (zI 5 (vI ta))), (zt 3, zc G 1 (zI 5 (vI tl))), (zt 4, zc G 2 (zI 5 (vI tk)))]) rfl rfl)) 7 rfl rfl rfl rfl rfl (Nat.le_of_ble_eq_true rfl) hl.1 ⟨Nat.le_of_ble_eq_true rfl, Nat.le_of_ble_eq_true rfl⟩ ⟨(Nat.le_of_ble_eq_true rfl), (Nat.le_of_ble_eq_true rfl)⟩ dX0_begin_8) hw (fun _ => z_pput (is := [7, 8, 9, 10, 11, 12, 1, 2, 3, 4, 5, 6]) (cells := [(w 2, zo 1 (stF zn co (nI ps) (nI dy) (gg))), (zn 0, zc G 1 (zI 9 (vI pl))), (zn 1, zc G 1 (zI 9 (vI nu))), (zn 2, zc G 1 (zI 5 (vI ax))), (zn 3, zc G 1 (zI 5 (vI le))), (zn 4, zc G 2 (zI 5 (vI kn))), (w 1, zo 1 (stF zt co (nI (v 0)) (nI td) (tg))), (zt 0, zc G 1 (zI 9 (vI tp))), (zt 1, zc G 1 (zI 9 (vI tn))), (zt 2, zc G 1 (zI 5 (vI ta))), (zt 3, zc G 1 (zI 5 (vI tl))), (zt 4, zc G 2 (zI 5 (vI tk)))]) (cells' := [(w 2, zo 1 (stF zn co (nI (v 0)) (nI td) (gg))), (zn 0, zc G 1 (zI 9 (vI (cpN tp pl 9)))), (zn 1, zc G 1 (zI 9 (vI (cpN tn nu 9)))), (zn 2, zc G 1 (zI 5 (vI (cpN ta ax 5)))), (zn 3, zc G 1 (zI 5 (vI (cpN tl le 5)))), (zn 4, zc G 2 (zI 5 (vI (cpN tk kn 5)))), (w 1, zo 1 (stF zt co (nI (v 0)) (nI td) (tg))), (zt 0, zc G 1 (zI 9 (vI tp))), (zt 1, zc G 1 (zI 9 (vI tn))), (zt 2, zc G 1 (zI 5 (vI ta))), (zt 3, zc G 1 (zI 5 (vI tl))), (zt 4, zc G 2 (zI 5 (vI tk)))]) rfl rfl rfl) (fun r u H locs hp hw => ?_)
  have hw : zS G ((co, zo 0 (cF w mn bm sm lt)) :: (w 1, zo 1 (stF zt co (nI (v 0)) (nI td) (tg))) :: (zt 0, zc G 1 (zI 9 (vI tp))) :: (zt 1, zc G 1 (zI 9 (vI tn))) :: (zt 2, zc G 1 (zI 5 (vI ta))) :: (zt 3, zc G 1 (zI 5 (vI tl))) :: (zt 4, zc G 2 (zI 5 (vI tk))) :: (w 2, zo 1 (stF zn co (nI (v 0)) (nI td) (gg))) :: (zn 0, zc G 1 (zI 9 (vI (cpN tp pl 9)))) :: (zn 1, zc G 1 (zI 9 (vI (cpN tn nu 9)))) :: (zn 2, zc G 1 (zI 5 (vI (cpN ta ax 5)))) :: (zn 3, zc G 1 (zI 5 (vI (cpN tl le 5)))) :: (zn 4, zc G 2 (zI 5 (vI (cpN tk kn 5)))) :: (w 4, zc G 5 (zO 2 kf)) :: (w 7, zc G 6 (zO 3 tf)) :: (pw 2 ks ++ (pw 3 ts ++ rest))) s H locs := hw
  obtain rfl : r = some (w 2) := hp
  refine lv_pop hx hb dX0_begin_11 rfl ?_
  refine lv_aload_n hx hb dX0_begin_12 rfl (lv_at hl 0 rfl) ?_
  refine lv_iconst (v := (nI 0)) hx hb dX0_begin_13 zk_0 ?_
  refine z_puti hC zf_X0_40_0 hw 0 rfl (Nat.le_of_ble_eq_true rfl) dX0_begin_14 (fun H locs hw => ?_)
  have hw : zS G ((co, zo 0 (cF w mn (nI 0) sm lt)) :: (w 1, zo 1 (stF zt co (nI (v 0)) (nI td) (tg))) :: (zt 0, zc G 1 (zI 9 (vI tp))) :: (zt 1, zc G 1 (zI 9 (vI tn))) :: (zt 2, zc G 1 (zI 5 (vI ta))) :: (zt 3, zc G 1 (zI 5 (vI tl))) :: (zt 4, zc G 2 (zI 5 (vI tk))) :: (w 2, zo 1 (stF zn co (nI (v 0)) (nI td) (gg))) :: (zn 0, zc G 1 (zI 9 (vI (cpN tp pl 9)))) :: (zn 1, zc G 1 (zI 9 (vI (cpN tn nu 9)))) :: (zn 2, zc G 1 (zI 5 (vI (cpN ta ax 5)))) :: (zn 3, zc G 1 (zI 5 (vI (cpN tl le 5)))) :: (zn 4, zc G 2 (zI 5 (vI (cpN tk kn 5)))) :: (w 4, zc G 5 (zO 2 kf)) :: (w 7, zc G 6 (zO 3 tf)) :: (pw 2 ks ++ (pw 3 ts ++ rest))) s H locs := hw
  refine lv_aload_n hx hb dX0_begin_17 rfl (lv_at hl 0 rfl) ?_
  refine lv_iconst (v := (nI 0)) hx hb dX0_begin_18 zk_0 ?_
  refine z_puti hC zf_X0_44_0 hw 0 rfl (Nat.le_of_ble_eq_true rfl) dX0_begin_19 (fun H locs hw => ?_)
  have hw : zS G ((co, zo 0 (cF w mn (nI 0) (nI 0) lt)) :: (w 1, zo 1 (stF zt co (nI (v 0)) (nI td) (tg))) :: (zt 0, zc G 1 (zI 9 (vI tp))) :: (zt 1, zc G 1 (zI 9 (vI tn))) :: (zt 2, zc G 1 (zI 5 (vI ta))) :: (zt 3, zc G 1 (zI 5 (vI tl))) :: (zt 4, zc G 2 (zI 5 (vI tk))) :: (w 2, zo 1 (stF zn co (nI (v 0)) (nI td) (gg))) :: (zn 0, zc G 1 (zI 9 (vI (cpN tp pl 9)))) :: (zn 1, zc G 1 (zI 9 (vI (cpN tn nu 9)))) :: (zn 2, zc G 1 (zI 5 (vI (cpN ta ax 5)))) :: (zn 3, zc G 1 (zI 5 (vI (cpN tl le 5)))) :: (zn 4, zc G 2 (zI 5 (vI (cpN tk kn 5)))) :: (w 4, zc G 5 (zO 2 kf)) :: (w 7, zc G 6 (zO 3 tf)) :: (pw 2 ks ++ (pw 3 ts ++ rest))) s H locs := hw
  refine lv_aload_n hx hb dX0_begin_22 rfl (lv_at hl 0 rfl) ?_
  refine z_get (v := .ref (w 4)) hC zf_X0_47_0 hw 0 rfl rfl dX0_begin_23 ?_
  refine lv_null hx hb dX0_begin_26 ?_
  refine z_cv (z_runS (As := [.ref (w 4), .null]) (rest := []) hC zs_X0_51 (m_J0_fill_5 G l (w 4) 2 kf (by decide) (zrem [13] _)) (hw.perm (z_cut (is := [13]) (cells := [(w 4, zc G 5 (zO 2 kf))]) rfl rfl)) rfl rfl (Nat.le_of_ble_eq_true rfl) hl.1 ⟨Nat.le_of_ble_eq_true rfl, Nat.le_of_ble_eq_true rfl⟩ ⟨(Nat.le_of_ble_eq_true rfl), (Nat.le_of_ble_eq_true rfl)⟩ dX0_begin_27) hw (fun u => z_pput (is := [13]) (cells := [(w 4, zc G 5 (zO 2 kf))]) (cells' := [(w 4, zc G 5 (zO 2 u))]) rfl rfl rfl) (fun u H locs hp hw => ?_)
  obtain ⟨kf7, rfl⟩ : ∃ z, z = u := ⟨_, rfl⟩
  have hw : zS G ((co, zo 0 (cF w mn (nI 0) (nI 0) lt)) :: (w 1, zo 1 (stF zt co (nI (v 0)) (nI td) (tg))) :: (zt 0, zc G 1 (zI 9 (vI tp))) :: (zt 1, zc G 1 (zI 9 (vI tn))) :: (zt 2, zc G 1 (zI 5 (vI ta))) :: (zt 3, zc G 1 (zI 5 (vI tl))) :: (zt 4, zc G 2 (zI 5 (vI tk))) :: (w 2, zo 1 (stF zn co (nI (v 0)) (nI td) (gg))) :: (zn 0, zc G 1 (zI 9 (vI (cpN tp pl 9)))) :: (zn 1, zc G 1 (zI 9 (vI (cpN tn nu 9)))) :: (zn 2, zc G 1 (zI 5 (vI (cpN ta ax 5)))) :: (zn 3, zc G 1 (zI 5 (vI (cpN tl le 5)))) :: (zn 4, zc G 2 (zI 5 (vI (cpN tk kn 5)))) :: (w 4, zc G 5 (zO 2 kf7)) :: (w 7, zc G 6 (zO 3 tf)) :: (pw 2 ks ++ (pw 3 ts ++ rest))) s H locs := hw
  have hf7 := hp
  have hkf7 := hf7
  refine lv_aload_n hx hb dX0_begin_30 rfl (lv_at hl 0 rfl) ?_
  refine z_get (v := .ref (w 7)) hC zf_X0_57_0 hw 0 rfl rfl dX0_begin_31 ?_
  refine lv_null hx hb dX0_begin_34 ?_
  refine z_cv (z_runS (As := [.ref (w 7), .null]) (rest := []) hC zs_X0_51 (m_J0_fill_6 G l (w 7) 3 tf (by decide) (zrem [14] _)) (hw.perm (z_cut (is := [14]) (cells := [(w 7, zc G 6 (zO 3 tf))]) rfl rfl)) rfl rfl (Nat.le_of_ble_eq_true rfl) hl.1 ⟨Nat.le_of_ble_eq_true rfl, Nat.le_of_ble_eq_true rfl⟩ ⟨(Nat.le_of_ble_eq_true rfl), (Nat.le_of_ble_eq_true rfl)⟩ dX0_begin_35) hw (fun u => z_pput (is := [14]) (cells := [(w 7, zc G 6 (zO 3 tf))]) (cells' := [(w 7, zc G 6 (zO 3 u))]) rfl rfl rfl) (fun u H locs hp hw => ?_)
  obtain ⟨tf7, rfl⟩ : ∃ z, z = u := ⟨_, rfl⟩
  have hw : zS G ((co, zo 0 (cF w mn (nI 0) (nI 0) lt)) :: (w 1, zo 1 (stF zt co (nI (v 0)) (nI td) (tg))) :: (zt 0, zc G 1 (zI 9 (vI tp))) :: (zt 1, zc G 1 (zI 9 (vI tn))) :: (zt 2, zc G 1 (zI 5 (vI ta))) :: (zt 3, zc G 1 (zI 5 (vI tl))) :: (zt 4, zc G 2 (zI 5 (vI tk))) :: (w 2, zo 1 (stF zn co (nI (v 0)) (nI td) (gg))) :: (zn 0, zc G 1 (zI 9 (vI (cpN tp pl 9)))) :: (zn 1, zc G 1 (zI 9 (vI (cpN tn nu 9)))) :: (zn 2, zc G 1 (zI 5 (vI (cpN ta ax 5)))) :: (zn 3, zc G 1 (zI 5 (vI (cpN tl le 5)))) :: (zn 4, zc G 2 (zI 5 (vI (cpN tk kn 5)))) :: (w 4, zc G 5 (zO 2 kf7)) :: (w 7, zc G 6 (zO 3 tf7)) :: (pw 2 ks ++ (pw 3 ts ++ rest))) s H locs := hw
  have hf7 := hp
  have htf7 := hf7
  have hw : zS G ((co, zo 0 (cF w mn (nI 0) (nI 0) lt)) :: (w 1, zo 1 (stF zt co (nI (v 0)) (nI td) (tg))) :: (zt 0, zc G 1 (zI 9 (vI tp))) :: (zt 1, zc G 1 (zI 9 (vI tn))) :: (zt 2, zc G 1 (zI 5 (vI ta))) :: (zt 3, zc G 1 (zI 5 (vI tl))) :: (zt 4, zc G 2 (zI 5 (vI tk))) :: (w 2, zo 1 (stF zn co (nI (v 0)) (nI td) (gg))) :: (zn 0, zc G 1 (zI 9 (vI (cpN tp pl 9)))) :: (zn 1, zc G 1 (zI 9 (vI (cpN tn nu 9)))) :: (zn 2, zc G 1 (zI 5 (vI (cpN ta ax 5)))) :: (zn 3, zc G 1 (zI 5 (vI (cpN tl le 5)))) :: (zn 4, zc G 2 (zI 5 (vI (cpN tk kn 5)))) :: (w 4, zc G 5 (zO 2 kf7)) :: (w 7, zc G 6 (zO 3 tf7)) :: (pw 3 ts ++ rest)) s H locs := zS.dropM (E := [(co, zo 0 (cF w mn (nI 0) (nI 0) lt)), (w 1, zo 1 (stF zt co (nI (v 0)) (nI td) (tg))), (zt 0, zc G 1 (zI 9 (vI tp))), (zt 1, zc G 1 (zI 9 (vI tn))), (zt 2, zc G 1 (zI 5 (vI ta))), (zt 3, zc G 1 (zI 5 (vI tl))), (zt 4, zc G 2 (zI 5 (vI tk))), (w 2, zo 1 (stF zn co (nI (v 0)) (nI td) (gg))), (zn 0, zc G 1 (zI 9 (vI (cpN tp pl 9)))), (zn 1, zc G 1 (zI 9 (vI (cpN tn nu 9)))), (zn 2, zc G 1 (zI 5 (vI (cpN ta ax 5)))), (zn 3, zc G 1 (zI 5 (vI (cpN tl le 5)))), (zn 4, zc G 2 (zI 5 (vI (cpN tk kn 5)))), (w 4, zc G 5 (zO 2 kf7)), (w 7, zc G 6 (zO 3 tf7))]) hw
  have hw : zS G ((co, zo 0 (cF w mn (nI 0) (nI 0) lt)) :: (w 1, zo 1 (stF zt co (nI (v 0)) (nI td) (tg))) :: (zt 0, zc G 1 (zI 9 (vI tp))) :: (zt 1, zc G 1 (zI 9 (vI tn))) :: (zt 2, zc G 1 (zI 5 (vI ta))) :: (zt 3, zc G 1 (zI 5 (vI tl))) :: (zt 4, zc G 2 (zI 5 (vI tk))) :: (w 2, zo 1 (stF zn co (nI (v 0)) (nI td) (gg))) :: (zn 0, zc G 1 (zI 9 (vI (cpN tp pl 9)))) :: (zn 1, zc G 1 (zI 9 (vI (cpN tn nu 9)))) :: (zn 2, zc G 1 (zI 5 (vI (cpN ta ax 5)))) :: (zn 3, zc G 1 (zI 5 (vI (cpN tl le 5)))) :: (zn 4, zc G 2 (zI 5 (vI (cpN tk kn 5)))) :: (w 4, zc G 5 (zO 2 kf7)) :: (w 7, zc G 6 (zO 3 tf7)) :: (pw 2 (fun _ => []) ++ (pw 3 ts ++ rest))) s H locs := by rw [pl_none]; exact hw
  have hw : zS G ((co, zo 0 (cF w mn (nI 0) (nI 0) lt)) :: (w 1, zo 1 (stF zt co (nI (v 0)) (nI td) (tg))) :: (zt 0, zc G 1 (zI 9 (vI tp))) :: (zt 1, zc G 1 (zI 9 (vI tn))) :: (zt 2, zc G 1 (zI 5 (vI ta))) :: (zt 3, zc G 1 (zI 5 (vI tl))) :: (zt 4, zc G 2 (zI 5 (vI tk))) :: (w 2, zo 1 (stF zn co (nI (v 0)) (nI td) (gg))) :: (zn 0, zc G 1 (zI 9 (vI (cpN tp pl 9)))) :: (zn 1, zc G 1 (zI 9 (vI (cpN tn nu 9)))) :: (zn 2, zc G 1 (zI 5 (vI (cpN ta ax 5)))) :: (zn 3, zc G 1 (zI 5 (vI (cpN tl le 5)))) :: (zn 4, zc G 2 (zI 5 (vI (cpN tk kn 5)))) :: (w 4, zc G 5 (zO 2 kf7)) :: (w 7, zc G 6 (zO 3 tf7)) :: (pw 3 ts ++ (pw 2 (fun _ => []) ++ rest))) s H locs := hw.perm (((z_mv1 (pw 2 (fun _ => [])) (pw 3 ts) rest)).append_left [(co, zo 0 (cF w mn (nI 0) (nI 0) lt)), (w 1, zo 1 (stF zt co (nI (v 0)) (nI td) (tg))), (zt 0, zc G 1 (zI 9 (vI tp))), (zt 1, zc G 1 (zI 9 (vI tn))), (zt 2, zc G 1 (zI 5 (vI ta))), (zt 3, zc G 1 (zI 5 (vI tl))), (zt 4, zc G 2 (zI 5 (vI tk))), (w 2, zo 1 (stF zn co (nI (v 0)) (nI td) (gg))), (zn 0, zc G 1 (zI 9 (vI (cpN tp pl 9)))), (zn 1, zc G 1 (zI 9 (vI (cpN tn nu 9)))), (zn 2, zc G 1 (zI 5 (vI (cpN ta ax 5)))), (zn 3, zc G 1 (zI 5 (vI (cpN tl le 5)))), (zn 4, zc G 2 (zI 5 (vI (cpN tk kn 5)))), (w 4, zc G 5 (zO 2 kf7)), (w 7, zc G 6 (zO 3 tf7))])
  have hw : zS G ((co, zo 0 (cF w mn (nI 0) (nI 0) lt)) :: (w 1, zo 1 (stF zt co (nI (v 0)) (nI td) (tg))) :: (zt 0, zc G 1 (zI 9 (vI tp))) :: (zt 1, zc G 1 (zI 9 (vI tn))) :: (zt 2, zc G 1 (zI 5 (vI ta))) :: (zt 3, zc G 1 (zI 5 (vI tl))) :: (zt 4, zc G 2 (zI 5 (vI tk))) :: (w 2, zo 1 (stF zn co (nI (v 0)) (nI td) (gg))) :: (zn 0, zc G 1 (zI 9 (vI (cpN tp pl 9)))) :: (zn 1, zc G 1 (zI 9 (vI (cpN tn nu 9)))) :: (zn 2, zc G 1 (zI 5 (vI (cpN ta ax 5)))) :: (zn 3, zc G 1 (zI 5 (vI (cpN tl le 5)))) :: (zn 4, zc G 2 (zI 5 (vI (cpN tk kn 5)))) :: (w 4, zc G 5 (zO 2 kf7)) :: (w 7, zc G 6 (zO 3 tf7)) :: (pw 2 (fun _ => []) ++ rest)) s H locs := zS.dropM (E := [(co, zo 0 (cF w mn (nI 0) (nI 0) lt)), (w 1, zo 1 (stF zt co (nI (v 0)) (nI td) (tg))), (zt 0, zc G 1 (zI 9 (vI tp))), (zt 1, zc G 1 (zI 9 (vI tn))), (zt 2, zc G 1 (zI 5 (vI ta))), (zt 3, zc G 1 (zI 5 (vI tl))), (zt 4, zc G 2 (zI 5 (vI tk))), (w 2, zo 1 (stF zn co (nI (v 0)) (nI td) (gg))), (zn 0, zc G 1 (zI 9 (vI (cpN tp pl 9)))), (zn 1, zc G 1 (zI 9 (vI (cpN tn nu 9)))), (zn 2, zc G 1 (zI 5 (vI (cpN ta ax 5)))), (zn 3, zc G 1 (zI 5 (vI (cpN tl le 5)))), (zn 4, zc G 2 (zI 5 (vI (cpN tk kn 5)))), (w 4, zc G 5 (zO 2 kf7)), (w 7, zc G 6 (zO 3 tf7))]) hw
  have hw : zS G ((co, zo 0 (cF w mn (nI 0) (nI 0) lt)) :: (w 1, zo 1 (stF zt co (nI (v 0)) (nI td) (tg))) :: (zt 0, zc G 1 (zI 9 (vI tp))) :: (zt 1, zc G 1 (zI 9 (vI tn))) :: (zt 2, zc G 1 (zI 5 (vI ta))) :: (zt 3, zc G 1 (zI 5 (vI tl))) :: (zt 4, zc G 2 (zI 5 (vI tk))) :: (w 2, zo 1 (stF zn co (nI (v 0)) (nI td) (gg))) :: (zn 0, zc G 1 (zI 9 (vI (cpN tp pl 9)))) :: (zn 1, zc G 1 (zI 9 (vI (cpN tn nu 9)))) :: (zn 2, zc G 1 (zI 5 (vI (cpN ta ax 5)))) :: (zn 3, zc G 1 (zI 5 (vI (cpN tl le 5)))) :: (zn 4, zc G 2 (zI 5 (vI (cpN tk kn 5)))) :: (w 4, zc G 5 (zO 2 kf7)) :: (w 7, zc G 6 (zO 3 tf7)) :: (pw 3 (fun _ => []) ++ (pw 2 (fun _ => []) ++ rest))) s H locs := by rw [pl_none]; exact hw
  have hw : zS G ((co, zo 0 (cF w mn (nI 0) (nI 0) lt)) :: (w 1, zo 1 (stF zt co (nI (v 0)) (nI td) (tg))) :: (zt 0, zc G 1 (zI 9 (vI tp))) :: (zt 1, zc G 1 (zI 9 (vI tn))) :: (zt 2, zc G 1 (zI 5 (vI ta))) :: (zt 3, zc G 1 (zI 5 (vI tl))) :: (zt 4, zc G 2 (zI 5 (vI tk))) :: (w 2, zo 1 (stF zn co (nI (v 0)) (nI td) (gg))) :: (zn 0, zc G 1 (zI 9 (vI (cpN tp pl 9)))) :: (zn 1, zc G 1 (zI 9 (vI (cpN tn nu 9)))) :: (zn 2, zc G 1 (zI 5 (vI (cpN ta ax 5)))) :: (zn 3, zc G 1 (zI 5 (vI (cpN tl le 5)))) :: (zn 4, zc G 2 (zI 5 (vI (cpN tk kn 5)))) :: (w 4, zc G 5 (zO 2 kf7)) :: (w 7, zc G 6 (zO 3 tf7)) :: (pw 2 (fun _ => []) ++ (pw 3 (fun _ => []) ++ rest))) s H locs := hw.perm (((z_mv1 (pw 3 (fun _ => [])) (pw 2 (fun _ => [])) rest)).append_left [(co, zo 0 (cF w mn (nI 0) (nI 0) lt)), (w 1, zo 1 (stF zt co (nI (v 0)) (nI td) (tg))), (zt 0, zc G 1 (zI 9 (vI tp))), (zt 1, zc G 1 (zI 9 (vI tn))), (zt 2, zc G 1 (zI 5 (vI ta))), (zt 3, zc G 1 (zI 5 (vI tl))), (zt 4, zc G 2 (zI 5 (vI tk))), (w 2, zo 1 (stF zn co (nI (v 0)) (nI td) (gg))), (zn 0, zc G 1 (zI 9 (vI (cpN tp pl 9)))), (zn 1, zc G 1 (zI 9 (vI (cpN tn nu 9)))), (zn 2, zc G 1 (zI 5 (vI (cpN ta ax 5)))), (zn 3, zc G 1 (zI 5 (vI (cpN tl le 5)))), (zn 4, zc G 2 (zI 5 (vI (cpN tk kn 5)))), (w 4, zc G 5 (zO 2 kf7)), (w 7, zc G 6 (zO 3 tf7))])
  exact hend _ _ _ _ _ _ ((cpN tp pl 9), (cpN tn nu 9), (cpN ta ax 5), (cpN tl le 5), (cpN tk kn 5), kf7, tf7) hw ⟨sRel_cp hH hR1 hbn, hkf7, htf7⟩ (Nat.le_of_ble_eq_true rfl) (Nat.le_of_ble_eq_true rfl) dX0_begin_38
