/-! TRAILS: drop, trail, whyNot -/
set_option maxRecDepth 100000
theorem zv_X0_338 : zVs RX0 338 yX11_many cX11_many 1 (some .int) 0 := ⟨lw_V q1775 q1596 q1597 q84 q1598, ⟨by decide +kernel, by decide +kernel⟩, by decide +kernel⟩
set_option maxHeartbeats 4000000 in
theorem m_X0_drop (G : zE) (l : Launch) (kA : Nat → Nat) (hG : zG G kA) (hY : zY G) (hlt : l.stackTraces = false) (co : Nat) (w : Nat → Nat) (mn : Int32) (bm : Int32) (sm : Int32) (lt : Int32) (A : AS) (tf : Nat → Option Nat) (ts : Nat → va_W) (sq : Nat → Nat) (hA : AOk A) (hT : trR G kA A sq tf ts) (x : Int32) (rest : va_W) : zWi G l yX0_drop cX0_drop 5 (some .int) [(10, 20, 29, 216), (10, 20, 44, 0), (29, 35, 44, 0), (44, 46, 44, 0)] 262 1 8 [.ref co, .int x] ((co, zo 0 (cF w mn bm sm lt)) :: (w 7, zc G 6 (zO 3 tf)) :: (pw 3 ts ++ rest)) (fun (r : Int32) u => r = (F_drop A x).1 ∧ trR G kA (F_drop A x).2 sq u.1 u.2) (fun (u : (Nat → Option Nat) × (Nat → va_W)) => (co, zo 0 (cF w mn bm sm lt)) :: (w 7, zc G 6 (zO 3 u.1)) :: (pw 3 u.2 ++ rest)) := by
  refine z_begIW (by decide) (Nat.le_of_ble_eq_true rfl) (fun p e s m args below meth c ls Q hC htb hl hw hend => ?_)
  have hx := hC.hx
  have hb := hC.hb
  have hl : lv_has ls 5 [(0, .ref co), (1, .int x)] := hl
  have hw : zS G ((co, zo 0 (cF w mn bm sm lt)) :: (w 7, zc G 6 (zO 3 tf)) :: (pw 3 ts ++ rest)) s s.heap [] := hw
  have hz := hG s hC.hZ.1
  have hzy := hY s hC.hZ.1
  refine lv_iload_n hx hb dX0_drop_0 rfl (lv_at hl 1 rfl) ?_
  refine z_ci (z_runS (As := [.int x]) (rest := []) hC zs_X0_275 (m_X0_isTrail G l x _) hw rfl rfl (Nat.le_of_ble_eq_true rfl) hl.1 ⟨Nat.le_of_ble_eq_true rfl, Nat.le_of_ble_eq_true rfl⟩ ⟨(Nat.le_of_ble_eq_true rfl), (Nat.le_of_ble_eq_true rfl)⟩ dX0_drop_1) hw (fun _ => List.Perm.refl _) (fun r u H locs hp hw => ?_)
  obtain rfl : r = bI (inR x 0 2) := hp
  refine zb_ne (tgt := 10) hx hb dX0_drop_4 (by decide) (fun c_4 => ?_) (fun c_4 => ?_)
  · skip
    obtain ⟨t, ht0, ht2, rfl⟩ := c_4
    have hl : lv_has ls 5 [(0, .ref co), (1, .int (nI t))] := hl
    have ht3 : t < 3 := by omega
    refine lv_aload_n hx hb dX0_drop_10 rfl (lv_at hl 0 rfl) ?_
    refine z_get (v := .ref (w 7)) hC zf_X0_57_0 hw 0 rfl rfl dX0_drop_11 ?_
    refine lv_iload_n hx hb dX0_drop_14 rfl (lv_at hl 1 rfl) ?_
    refine z_aald (x := va_rf (tf t)) (t := 6) hC hw 1 rfl (fun _ => rfl) (by omega) (by decide) rfl dX0_drop_15 ?_
    rcases tr_cases (hT t ht3) (hA.2.2.2.2.2.2 t ht3) with ⟨htf, hat, hxb⟩ | ⟨a, lst, it, mq, bk, htf, hat, hbk, hxb⟩ | ⟨a, l9, cu, c9, lst, it, ed, cap, ef, els, mq, bk, htf, hat, hle, hla, hcap, hcp2, hlc, hbk, hl12, hcl, hcp, hok, hxb⟩
    · skip
      rw [htf]
      show W p l e (zR 262 1 8) s m args below meth c H locs 0 0 Q (F0 m 16 ls [.null])
      have hl : lv_has ls 5 [(0, .ref co), (1, .int (nI t))] := hl
      have hw : zS G ((co, zo 0 (cF w mn bm sm lt)) :: (w 7, zc G 6 (zO 3 tf)) :: (pw 3 ts ++ rest)) s H locs := hw
      refine z_invN (As := []) (rest := []) hC hlt hzy zv_X0_338 hw rfl rfl hl.1 (Nat.le_of_ble_eq_true rfl) ⟨Nat.le_of_ble_eq_true rfl, Nat.le_of_ble_eq_true rfl⟩ (Nat.le_of_ble_eq_true rfl) (Nat.le_of_ble_eq_true rfl) dX0_drop_16 (fun q9 H ce9 hex => ?_)
      obtain ⟨hw, hx9⟩ := hex
      have hw : zS G ((co, zo 0 (cF w mn bm sm lt)) :: (w 7, zc G 6 (zO 3 tf)) :: (pw 3 ts ++ rest)) s H locs := hw
      refine z_catch (ce := ce9) (hh := [(10, 20, 29, 216), (10, 20, 44, 0), (29, 35, 44, 0), (44, 46, 44, 0)]) (E := "java/lang/NullPointerException") hC htb (tableOf []) ⟨10, 20, 29, 216⟩ (tableOf [(10, 20, 44, 0), (29, 35, 44, 0), (44, 46, 44, 0)]) rfl (fun z hz => nomatch hz) (by decide) (by decide) q1025 (hz.1 _ (cw_t q495 rfl)) ⟨hw, hx9⟩ ?_
      show W p l e (zR 262 1 8) s m args below meth c H locs 1 8 Q (F0 m 29 ls [.ref q9])
      refine lv_astore_n (lv' := [(2, .ref q9), (0, .ref co), (1, .int (nI t))]) hx hb dX0_drop_29 rfl hl (by decide) rfl (fun ls hl => ?_)
      refine lv_aload_n hx hb dX0_drop_30 rfl (lv_at hl 0 rfl) ?_
      refine z_ci (z_runSE (As := [.ref q9]) (rest := []) hC zs_X0_304 (m_X0_found_NPE G l kA (by first | assumption | (omega)) (by first | assumption | (omega)) (by omega) q9 _) hw hx9 rfl rfl (Nat.le_of_ble_eq_true rfl) hl.1 ⟨Nat.le_of_ble_eq_true rfl, Nat.le_of_ble_eq_true rfl⟩ ⟨(Nat.le_of_ble_eq_true rfl), (Nat.le_of_ble_eq_true rfl)⟩ dX0_drop_31) hw (fun _ => List.Perm.refl _) (fun r u H locs hp hw => ?_)
      obtain rfl : r = -11 := hp
      refine lv_istore_n (lv' := [(3, .int (-11)), (2, .ref q9), (0, .ref co), (1, .int (nI t))]) hx hb dX0_drop_34 rfl hl (by decide) rfl (fun ls hl => ?_)
      refine lv_aload_n hx hb dX0_drop_35 rfl (lv_at hl 2 rfl) ?_
      refine z_get (v := .ref (w 7)) hC zf_X0_57_0 hw 0 rfl rfl dX0_drop_36 ?_
      refine lv_iload_n hx hb dX0_drop_39 rfl (lv_at hl 3 rfl) ?_
      refine lv_null hx hb dX0_drop_40 ?_
      refine z_aastN (t := 6) (f' := va_up tf t none) hC hw 1 rfl (fun _ => rfl) (by omega) (by decide) rfl dX0_drop_41 (fun H locs hw => ?_)
      have hw : zS G ((co, zo 0 (cF w mn bm sm lt)) :: (w 7, zc G 6 (zO 3 (va_up tf t none))) :: (pw 3 ts ++ rest)) s H locs := hw
      refine lv_iload_n hx hb dX0_drop_42 rfl (lv_at hl 0 rfl) ?_
      have hF : F_drop A (nI t) = (-11, A) := by unfold F_drop; rw [ifP_t ⟨t, ht0, ht2, rfl⟩, cl_nI (by omega), hat]
      exact hend _ _ _ _ _ _ _ ((va_up tf t none), ts) hw (by rw [hF]; exact ⟨rfl, (by rw [← htf, va_up_id]; exact hT)⟩) (Nat.le_of_ble_eq_true rfl) (Nat.le_of_ble_eq_true rfl) dX0_drop_43
    · skip
      rw [htf]
      show W p l e (zR 262 1 8) s m args below meth c H locs 0 0 Q (F0 m 16 ls [.ref a])
      have hw : zS G ((a, zo 10 [.ref lst, .ref it, .int bk]) :: (lst, zo 14 [.int mq, .ref (kA 5), .int (nI 0)]) :: (it, zo 15 [.int (nI 0), .int (-1), .int mq, .ref lst, .ref lst]) :: (co, zo 0 (cF w mn bm sm lt)) :: (w 7, zc G 6 (zO 3 tf)) :: (pwX 3 ts t ++ rest)) s H locs := hw.perm (sl_open (E := [(co, zo 0 (cF w mn bm sm lt)), (w 7, zc G 6 (zO 3 tf))]) (C := [(a, zo 10 [.ref lst, .ref it, .int bk]), (lst, zo 14 [.int mq, .ref (kA 5), .int (nI 0)]), (it, zo 15 [.int (nI 0), .int (-1), .int mq, .ref lst, .ref lst])]) (P := []) ht3 (hxb.trans (List.append_nil _).symm))
      have hl : lv_has ls 5 [(0, .ref co), (1, .int (nI t))] := hl
      have hw : zS G ((a, zo 10 [.ref lst, .ref it, .int bk]) :: (lst, zo 14 [.int mq, .ref (kA 5), .int (nI 0)]) :: (it, zo 15 [.int (nI 0), .int (-1), .int mq, .ref lst, .ref lst]) :: (co, zo 0 (cF w mn bm sm lt)) :: (w 7, zc G 6 (zO 3 tf)) :: (pwX 3 ts t ++ rest)) s H locs := hw
      refine z_ci (z_runV (As := []) (rest := []) hC zv_X0_338 (m_X11_many G l kA (by first | assumption | (omega)) lst (kA 5) 0 mq a bk it (zrem [0, 1] _)) hw (hw.perm (z_cut (is := [0, 1]) (cells := [(a, zo 10 [.ref lst, .ref it, .int bk]), (lst, zo 14 [.int mq, .ref (kA 5), .int (nI 0)])]) rfl rfl)) 0 rfl rfl rfl rfl rfl (Nat.le_of_ble_eq_true rfl) hl.1 ⟨Nat.le_of_ble_eq_true rfl, Nat.le_of_ble_eq_true rfl⟩ ⟨(Nat.le_of_ble_eq_true rfl), (Nat.le_of_ble_eq_true rfl)⟩ dX0_drop_16) hw (fun _ => z_keep (is := [0, 1]) (cs := [(a, zo 10 [.ref lst, .ref it, .int bk]), (lst, zo 14 [.int mq, .ref (kA 5), .int (nI 0)])]) rfl rfl) (fun r u H locs hp hw => ?_)
      obtain rfl : r = nI 0 := hp
      refine lv_istore_n (lv' := [(2, .int (nI 0)), (0, .ref co), (1, .int (nI t))]) hx hb dX0_drop_19 rfl hl (by decide) rfl (fun ls hl => ?_)
      refine lv_aload_n hx hb dX0_drop_20 rfl (lv_at hl 1 rfl) ?_
      refine z_get (v := .ref (w 7)) hC zf_X0_57_0 hw 3 rfl rfl dX0_drop_21 ?_
      refine lv_iload_n hx hb dX0_drop_24 rfl (lv_at hl 2 rfl) ?_
      refine lv_null hx hb dX0_drop_25 ?_
      refine z_aastN (t := 6) (f' := va_up tf t none) hC hw 4 rfl (fun _ => rfl) (by omega) (by decide) rfl dX0_drop_26 (fun H locs hw => ?_)
      have hw : zS G ((a, zo 10 [.ref lst, .ref it, .int bk]) :: (lst, zo 14 [.int mq, .ref (kA 5), .int (nI 0)]) :: (it, zo 15 [.int (nI 0), .int (-1), .int mq, .ref lst, .ref lst]) :: (co, zo 0 (cF w mn bm sm lt)) :: (w 7, zc G 6 (zO 3 (va_up tf t none))) :: (pwX 3 ts t ++ rest)) s H locs := hw
      refine lv_iload_n hx hb dX0_drop_27 rfl (lv_at hl 0 rfl) ?_
      have hw := hw.drop
      have hw := hw.drop
      have hw := hw.drop
      have hw : zS G ((co, zo 0 (cF w mn bm sm lt)) :: (w 7, zc G 6 (zO 3 (va_up tf t none))) :: (pw 3 (va_up ts t []) ++ rest)) s H locs := hw.perm (pl_put (x := []) (E := [(co, zo 0 (cF w mn bm sm lt)), (w 7, zc G 6 (zO 3 (va_up tf t none)))]) (sl := ts) ht3)
      have hF : F_drop A (nI t) = (nI 0, sT A t none) := by unfold F_drop; rw [ifP_t ⟨t, ht0, ht2, rfl⟩, cl_nI (by omega), hat]; rfl
      exact hend _ _ _ _ _ _ _ ((va_up tf t none), (va_up ts t [])) hw (by rw [hF]; exact ⟨rfl, (trR_up hT (t := t) (o := none) (tr := none) (x := []) rfl)⟩) (Nat.le_of_ble_eq_true rfl) (Nat.le_of_ble_eq_true rfl) dX0_drop_28
    · skip
      rw [htf]
      show W p l e (zR 262 1 8) s m args below meth c H locs 0 0 Q (F0 m 16 ls [.ref a])
      have hw : zS G ((a, zo 10 [.ref lst, .ref it, .int bk]) :: (lst, zo 14 [.int mq, .ref ed, .int (nI l9.length)]) :: (it, zo 15 [.int (nI cu), .int (optI c9), .int mq, .ref lst, .ref lst]) :: (ed, zc G 4 (zO cap ef)) :: (co, zo 0 (cF w mn bm sm lt)) :: (w 7, zc G 6 (zO 3 tf)) :: (elW els ++ (pwX 3 ts t ++ rest))) s H locs := hw.perm (sl_open (E := [(co, zo 0 (cF w mn bm sm lt)), (w 7, zc G 6 (zO 3 tf))]) (C := [(a, zo 10 [.ref lst, .ref it, .int bk]), (lst, zo 14 [.int mq, .ref ed, .int (nI l9.length)]), (it, zo 15 [.int (nI cu), .int (optI c9), .int mq, .ref lst, .ref lst]), (ed, zc G 4 (zO cap ef))]) (P := elW els) ht3 hxb)
      have hl : lv_has ls 5 [(0, .ref co), (1, .int (nI t))] := hl
      have hw : zS G ((a, zo 10 [.ref lst, .ref it, .int bk]) :: (lst, zo 14 [.int mq, .ref ed, .int (nI l9.length)]) :: (it, zo 15 [.int (nI cu), .int (optI c9), .int mq, .ref lst, .ref lst]) :: (ed, zc G 4 (zO cap ef)) :: (co, zo 0 (cF w mn bm sm lt)) :: (w 7, zc G 6 (zO 3 tf)) :: (elW els ++ (pwX 3 ts t ++ rest))) s H locs := hw
      refine z_ci (z_runV (As := []) (rest := []) hC zv_X0_338 (m_X11_many G l kA (by first | assumption | (omega)) lst ed l9.length mq a bk it (zrem [0, 1] _)) hw (hw.perm (z_cut (is := [0, 1]) (cells := [(a, zo 10 [.ref lst, .ref it, .int bk]), (lst, zo 14 [.int mq, .ref ed, .int (nI l9.length)])]) rfl rfl)) 0 rfl rfl rfl rfl rfl (Nat.le_of_ble_eq_true rfl) hl.1 ⟨Nat.le_of_ble_eq_true rfl, Nat.le_of_ble_eq_true rfl⟩ ⟨(Nat.le_of_ble_eq_true rfl), (Nat.le_of_ble_eq_true rfl)⟩ dX0_drop_16) hw (fun _ => z_keep (is := [0, 1]) (cs := [(a, zo 10 [.ref lst, .ref it, .int bk]), (lst, zo 14 [.int mq, .ref ed, .int (nI l9.length)])]) rfl rfl) (fun r u H locs hp hw => ?_)
      obtain rfl : r = nI l9.length := hp
      refine lv_istore_n (lv' := [(2, .int (nI l9.length)), (0, .ref co), (1, .int (nI t))]) hx hb dX0_drop_19 rfl hl (by decide) rfl (fun ls hl => ?_)
      refine lv_aload_n hx hb dX0_drop_20 rfl (lv_at hl 1 rfl) ?_
      refine z_get (v := .ref (w 7)) hC zf_X0_57_0 hw 4 rfl rfl dX0_drop_21 ?_
      refine lv_iload_n hx hb dX0_drop_24 rfl (lv_at hl 2 rfl) ?_
      refine lv_null hx hb dX0_drop_25 ?_
      refine z_aastN (t := 6) (f' := va_up tf t none) hC hw 5 rfl (fun _ => rfl) (by omega) (by decide) rfl dX0_drop_26 (fun H locs hw => ?_)
      have hw : zS G ((a, zo 10 [.ref lst, .ref it, .int bk]) :: (lst, zo 14 [.int mq, .ref ed, .int (nI l9.length)]) :: (it, zo 15 [.int (nI cu), .int (optI c9), .int mq, .ref lst, .ref lst]) :: (ed, zc G 4 (zO cap ef)) :: (co, zo 0 (cF w mn bm sm lt)) :: (w 7, zc G 6 (zO 3 (va_up tf t none))) :: (elW els ++ (pwX 3 ts t ++ rest))) s H locs := hw
      refine lv_iload_n hx hb dX0_drop_27 rfl (lv_at hl 0 rfl) ?_
      have hw := hw.drop
      have hw := hw.drop
      have hw := hw.drop
      have hw := hw.drop
      have hw : zS G ((co, zo 0 (cF w mn bm sm lt)) :: (w 7, zc G 6 (zO 3 (va_up tf t none))) :: (pwX 3 ts t ++ rest)) s H locs := zS.dropM (E := [(co, zo 0 (cF w mn bm sm lt)), (w 7, zc G 6 (zO 3 (va_up tf t none)))]) hw
      have hw : zS G ((co, zo 0 (cF w mn bm sm lt)) :: (w 7, zc G 6 (zO 3 (va_up tf t none))) :: (pw 3 (va_up ts t []) ++ rest)) s H locs := hw.perm (pl_put (x := []) (E := [(co, zo 0 (cF w mn bm sm lt)), (w 7, zc G 6 (zO 3 (va_up tf t none)))]) (sl := ts) ht3)
      have hF : F_drop A (nI t) = (nI l9.length, sT A t none) := by unfold F_drop; rw [ifP_t ⟨t, ht0, ht2, rfl⟩, cl_nI (by omega), hat]
      exact hend _ _ _ _ _ _ _ ((va_up tf t none), (va_up ts t [])) hw (by rw [hF]; exact ⟨rfl, (trR_up hT (t := t) (o := none) (tr := none) (x := []) rfl)⟩) (Nat.le_of_ble_eq_true rfl) (Nat.le_of_ble_eq_true rfl) dX0_drop_28
  · skip
    refine lv_bipush (v := (-2)) hx hb dX0_drop_7 zb_m2 ?_
    have hF : F_drop A x = (-2, A) := by exact ifP_f c_4
    exact hend _ _ _ _ _ _ _ (tf, ts) hw (by rw [hF]; exact ⟨rfl, hT⟩) (Nat.le_of_ble_eq_true rfl) (Nat.le_of_ble_eq_true rfl) dX0_drop_9
theorem zn_X11_init : zNs yX11_init cX11_init 1 none 0 := ⟨q1124, q84, ⟨by decide +kernel, by decide +kernel⟩, by decide +kernel⟩
set_option maxHeartbeats 4000000 in
theorem m_X0_trail (G : zE) (l : Launch) (kA : Nat → Nat) (hG : zG G kA) (hV : zV G kA) (co : Nat) (w : Nat → Nat) (mn : Int32) (bm : Int32) (sm : Int32) (lt : Int32) (A : AS) (tf : Nat → Option Nat) (ts : Nat → va_W) (sq : Nat → Nat) (hA : AOk A) (hT : trR G kA A sq tf ts) (x : Int32) (rest : va_W) : zMi G l yX0_trail cX0_trail 2 (some .int) 8 3 11 [.ref co, .int x] ((co, zo 0 (cF w mn bm sm lt)) :: (w 7, zc G 6 (zO 3 tf)) :: (pw 3 ts ++ rest)) (fun (r : Int32) u => r = (F_trail A x).1 ∧ trR G kA (F_trail A x).2 sq u.1 u.2) (fun (u : (Nat → Option Nat) × (Nat → va_W)) => (co, zo 0 (cF w mn bm sm lt)) :: (w 7, zc G 6 (zO 3 u.1)) :: (pw 3 u.2 ++ rest)) := by
  refine z_begI (by decide) (Nat.le_of_ble_eq_true rfl) (fun p e s m args below meth c ls Q hC hl hw hend => ?_)
  have hx := hC.hx
  have hb := hC.hb
  have hl : lv_has ls 2 [(0, .ref co), (1, .int x)] := hl
  have hw : zS G ((co, zo 0 (cF w mn bm sm lt)) :: (w 7, zc G 6 (zO 3 tf)) :: (pw 3 ts ++ rest)) s s.heap [] := hw
  have hz := hG s hC.hZ.1
  have hzv := hV s hC.hZ.1
  refine lv_iload_n hx hb dX0_trail_0 rfl (lv_at hl 1 rfl) ?_
  refine z_ci (z_runS (As := [.int x]) (rest := []) hC zs_X0_275 (m_X0_isTrail G l x _) hw rfl rfl (Nat.le_of_ble_eq_true rfl) hl.1 ⟨Nat.le_of_ble_eq_true rfl, Nat.le_of_ble_eq_true rfl⟩ ⟨(Nat.le_of_ble_eq_true rfl), (Nat.le_of_ble_eq_true rfl)⟩ dX0_trail_1) hw (fun _ => List.Perm.refl _) (fun r u H locs hp hw => ?_)
  obtain rfl : r = bI (inR x 0 2) := hp
  refine zb_ne (tgt := 10) hx hb dX0_trail_4 (by decide) (fun c_4 => ?_) (fun c_4 => ?_)
  · skip
    obtain ⟨t, ht0, ht2, rfl⟩ := c_4
    have hl : lv_has ls 2 [(0, .ref co), (1, .int (nI t))] := hl
    have ht3 : t < 3 := by omega
    refine lv_aload_n hx hb dX0_trail_10 rfl (lv_at hl 0 rfl) ?_
    refine z_get (v := .ref (w 7)) hC zf_X0_57_0 hw 0 rfl rfl dX0_trail_11 ?_
    refine lv_iload_n hx hb dX0_trail_14 rfl (lv_at hl 1 rfl) ?_
    refine z_new (ci := 10) (fs := [.null, .null, .int 0]) hC rfl in_X11 tyX11_ok q154 q1121 q84 hw (fun j hj => by revert hj; revert j; decide) (Nat.le_of_ble_eq_true rfl) (Nat.le_of_ble_eq_true rfl) dX0_trail_15 (fun q_15 H hw => ?_)
    have hw : zS G ((q_15, zo 10 [.null, .null, .int 0]) :: (co, zo 0 (cF w mn bm sm lt)) :: (w 7, zc G 6 (zO 3 tf)) :: (pw 3 ts ++ rest)) s H locs := hw
    refine lv_dup hx hb dX0_trail_18 rfl ?_
    refine z_cv (z_runIN (n := 0) (As := []) (rest := [.ref q_15, .int (nI t), .ref (w 7)]) hC ⟨zn_X11_init, q1123, rfl⟩ (hz.1 _ (cw_t q1122 rfl)) (m_X11_init G l kA (by first | assumption | (omega)) (by first | assumption | (omega)) q_15 (zrem [0] _)) (hw.perm (z_cut (is := [0]) (cells := [(q_15, zo 10 [.null, .null, .int 0])]) rfl rfl)) rfl rfl (Nat.le_of_ble_eq_true rfl) hl.1 ⟨Nat.le_of_ble_eq_true rfl, Nat.le_of_ble_eq_true rfl⟩ ⟨(Nat.le_of_ble_eq_true rfl), (Nat.le_of_ble_eq_true rfl)⟩ dX0_trail_19) hw (fun u => z_new1 (is := [0]) (cs := [(q_15, zo 10 [.null, .null, .int 0])]) (cs' := [(q_15, zo 10 [.ref u.1, .ref u.2, .int 0])]) (nw := [(u.2, zo 15 [.int (nI 0), .int (-1), .int 0, .ref u.1, .ref u.1]), (u.1, zo 14 [.int 0, .ref (kA 5), .int (nI 0)])]) rfl rfl rfl) (fun u H locs hp hw => ?_)
    obtain ⟨lst2, it2⟩ := u
    have hw : zS G ((it2, zo 15 [.int (nI 0), .int (-1), .int 0, .ref lst2, .ref lst2]) :: (lst2, zo 14 [.int 0, .ref (kA 5), .int (nI 0)]) :: (q_15, zo 10 [.ref lst2, .ref it2, .int 0]) :: (co, zo 0 (cF w mn bm sm lt)) :: (w 7, zc G 6 (zO 3 tf)) :: (pw 3 ts ++ rest)) s H locs := hw
    refine z_aast (t := 6) (f' := va_up tf t (some q_15)) hC hw 4 rfl (fun _ => rfl) (by omega) (by decide) (z_anyE hC hw 2 rfl rfl) rfl dX0_trail_22 (fun H locs hw => ?_)
    have hw : zS G ((it2, zo 15 [.int (nI 0), .int (-1), .int 0, .ref lst2, .ref lst2]) :: (lst2, zo 14 [.int 0, .ref (kA 5), .int (nI 0)]) :: (q_15, zo 10 [.ref lst2, .ref it2, .int 0]) :: (co, zo 0 (cF w mn bm sm lt)) :: (w 7, zc G 6 (zO 3 (va_up tf t (some q_15)))) :: (pw 3 ts ++ rest)) s H locs := hw
    refine lv_iconst (v := (nI 0)) hx hb dX0_trail_23 zk_0 ?_
    have hw : zS G ((it2, zo 15 [.int (nI 0), .int (-1), .int 0, .ref lst2, .ref lst2]) :: (lst2, zo 14 [.int 0, .ref (kA 5), .int (nI 0)]) :: (q_15, zo 10 [.ref lst2, .ref it2, .int 0]) :: (co, zo 0 (cF w mn bm sm lt)) :: (w 7, zc G 6 (zO 3 (va_up tf t (some q_15)))) :: (pwX 3 ts t ++ rest)) s H locs := (hw.perm (pl_get (E := [(it2, zo 15 [.int (nI 0), .int (-1), .int 0, .ref lst2, .ref lst2]), (lst2, zo 14 [.int 0, .ref (kA 5), .int (nI 0)]), (q_15, zo 10 [.ref lst2, .ref it2, .int 0]), (co, zo 0 (cF w mn bm sm lt)), (w 7, zc G 6 (zO 3 (va_up tf t (some q_15))))]) (sl := ts) ht3)).dropP _
    have hw : zS G ((q_15, zo 10 [.ref lst2, .ref it2, .int 0]) :: (lst2, zo 14 [.int 0, .ref (kA 5), .int (nI 0)]) :: (it2, zo 15 [.int (nI 0), .int (-1), .int 0, .ref lst2, .ref lst2]) :: (co, zo 0 (cF w mn bm sm lt)) :: (w 7, zc G 6 (zO 3 (va_up tf t (some q_15)))) :: (pwX 3 ts t ++ rest)) s H locs := hw.perm (((z_cut (is := [2, 1, 0, 3, 4]) (ws := [(it2, zo 15 [.int (nI 0), .int (-1), .int 0, .ref lst2, .ref lst2]), (lst2, zo 14 [.int 0, .ref (kA 5), .int (nI 0)]), (q_15, zo 10 [.ref lst2, .ref it2, .int 0]), (co, zo 0 (cF w mn bm sm lt)), (w 7, zc G 6 (zO 3 (va_up tf t (some q_15))))]) (cells := [(q_15, zo 10 [.ref lst2, .ref it2, .int 0]), (lst2, zo 14 [.int 0, .ref (kA 5), .int (nI 0)]), (it2, zo 15 [.int (nI 0), .int (-1), .int 0, .ref lst2, .ref lst2]), (co, zo 0 (cF w mn bm sm lt)), (w 7, zc G 6 (zO 3 (va_up tf t (some q_15))))]) rfl rfl).append_right (pwX 3 ts t ++ rest)).trans (by rw [List.append_assoc]; exact List.Perm.refl _))
    have hw : zS G ((co, zo 0 (cF w mn bm sm lt)) :: (w 7, zc G 6 (zO 3 (va_up tf t (some q_15)))) :: (pw 3 (va_up ts t ([(q_15, zo 10 [.ref lst2, .ref it2, .int 0]), (lst2, zo 14 [.int 0, .ref (kA 5), .int (nI 0)]), (it2, zo 15 [.int (nI 0), .int (-1), .int 0, .ref lst2, .ref lst2])] ++ [])) ++ rest)) s H locs := hw.perm (sl_close (E := [(co, zo 0 (cF w mn bm sm lt)), (w 7, zc G 6 (zO 3 (va_up tf t (some q_15))))]) (C := [(q_15, zo 10 [.ref lst2, .ref it2, .int 0]), (lst2, zo 14 [.int 0, .ref (kA 5), .int (nI 0)]), (it2, zo 15 [.int (nI 0), .int (-1), .int 0, .ref lst2, .ref lst2])]) (P := []) (sl := ts) ht3)
    have hF : F_trail A (nI t) = (nI 0, sT A t (some ([], 0, none))) := by unfold F_trail; rw [ifP_t ⟨t, ht0, ht2, rfl⟩, cl_nI (by omega)]
    exact hend _ _ _ _ _ _ _ ((va_up tf t (some q_15)), (va_up ts t ([(q_15, zo 10 [.ref lst2, .ref it2, .int 0]), (lst2, zo 14 [.int 0, .ref (kA 5), .int (nI 0)]), (it2, zo 15 [.int (nI 0), .int (-1), .int 0, .ref lst2, .ref lst2])] ++ []))) hw (by rw [hF]; exact ⟨rfl, (trR_up hT (t := t) (o := some q_15) (tr := some ([], 0, none)) ⟨lst2, it2, kA 5, 0, fun _ => none, [], 0, 0, [], rfl, fun k hk => absurd hk (Nat.not_lt_zero _), Or.inl ⟨rfl, rfl, rfl⟩, fun p hp => (nomatch hp), Or.inl rfl, rfl⟩)⟩) (Nat.le_of_ble_eq_true rfl) (Nat.le_of_ble_eq_true rfl) dX0_trail_24
  · skip
    refine lv_bipush (v := (-2)) hx hb dX0_trail_7 zb_m2 ?_
    have hF : F_trail A x = (-2, A) := by exact ifP_f c_4
    exact hend _ _ _ _ _ _ _ (tf, ts) hw (by rw [hF]; exact ⟨rfl, hT⟩) (Nat.le_of_ble_eq_true rfl) (Nat.le_of_ble_eq_true rfl) dX0_trail_9
theorem in_ln {x : Int32} : lg_cmp (iL x) (-9999) < 0 ↔ ¬ -9999 ≤ x := by
  rw [lg_neg, iL_toInt, Int32.not_le, Int32.lt_iff_toInt_lt]; exact Iff.rfl
set_option maxHeartbeats 4000000 in
theorem m_X0_in_n (G : zE) (l : Launch) (x : Int32) (b : Nat) (hb9 : b < 2147483648) (rest : va_W) : zMi G l yX0_in cX0_in 6 (some .boolean) 0 0 0 [.long (iL x), .long (-9999), .long (lN b)] (rest) (fun (r : Int32) (_ : Unit) => r = bI (-9999 ≤ x ∧ x ≤ nI b)) (fun (_ : Unit) => rest) := by
  refine z_begZ (by decide) (Nat.le_of_ble_eq_true rfl) (fun p e s m args below meth c ls Q hC hl hw hend => ?_)
  have hx := hC.hx
  have hb := hC.hb
  have hl : lv_has ls 6 [(0, .long (iL x)), (2, .long (-9999)), (4, .long (lN b))] := hl
  refine lv_lload_n hx hb dX0_in_0 rfl (lv_at hl 0 rfl) ?_
  refine lv_lload_n hx hb dX0_in_1 rfl (lv_at hl 1 rfl) ?_
  refine W.lcmp hx hb dX0_in_2 ?_
  refine lv_if_lt (tgt := 17) hx hb dX0_in_3 (by decide) (fun c_3 => ?_) (fun c_3 => ?_)
  · skip
    refine lv_iconst (v := (nI 0)) hx hb dX0_in_17 zk_0 ?_
    exact hend _ _ _ _ _ _ _ () rfl hw (by first | exact (bI_t (id ⟨Decidable.not_not.mp (mt in_ln.mpr c_3), Decidable.not_not.mp (mt (in_r hb9).mpr c_10)⟩)).symm | exact (bI_f (fun q => in_ln.mp c_3 (id q).1)).symm | exact (bI_f (fun q => (in_r hb9).mp c_10 (id q).2)).symm) (Nat.le_of_ble_eq_true rfl) (Nat.le_of_ble_eq_true rfl) dX0_in_18
  · skip
    refine lv_lload_n hx hb dX0_in_6 rfl (lv_at hl 0 rfl) ?_
    refine lv_lload hx hb dX0_in_7 (lv_at hl 2 rfl) ?_
    refine W.lcmp hx hb dX0_in_9 ?_
    refine lv_if_gt (tgt := 17) hx hb dX0_in_10 (by decide) (fun c_10 => ?_) (fun c_10 => ?_)
    · skip
      refine lv_iconst (v := (nI 0)) hx hb dX0_in_17 zk_0 ?_
      exact hend _ _ _ _ _ _ _ () rfl hw (by first | exact (bI_t (id ⟨Decidable.not_not.mp (mt in_ln.mpr c_3), Decidable.not_not.mp (mt (in_r hb9).mpr c_10)⟩)).symm | exact (bI_f (fun q => in_ln.mp c_3 (id q).1)).symm | exact (bI_f (fun q => (in_r hb9).mp c_10 (id q).2)).symm) (Nat.le_of_ble_eq_true rfl) (Nat.le_of_ble_eq_true rfl) dX0_in_18
    · skip
      refine lv_iconst (v := (nI 1)) hx hb dX0_in_13 zk_1 ?_
      refine lv_goto (tgt := 18) hx hb dX0_in_14 (by decide) ?_
      exact hend _ _ _ _ _ _ _ () rfl hw (by first | exact (bI_t (id ⟨Decidable.not_not.mp (mt in_ln.mpr c_3), Decidable.not_not.mp (mt (in_r hb9).mpr c_10)⟩)).symm | exact (bI_f (fun q => in_ln.mp c_3 (id q).1)).symm | exact (bI_f (fun q => (in_r hb9).mp c_10 (id q).2)).symm) (Nat.le_of_ble_eq_true rfl) (Nat.le_of_ble_eq_true rfl) dX0_in_18
set_option maxHeartbeats 4000000 in
theorem m_X0_whyNot (G : zE) (l : Launch) (co : Nat) (mn : Nat) (w : Nat → Nat) (bm : Int32) (sm : Int32) (lt : Int32) (A : AS) (hmn : mn = aV A 1) (h59 : mn ≤ 5) (x : Int32) (k : Int32) (v : Int32) (rest : va_W) : zMi G l yX0_whyNot cX0_whyNot 5 (some .int) 2 0 0 [.ref co, .int x, .int k, .int v] ((co, zo 0 (cF w (nI mn) bm sm lt)) :: rest) (fun (r : Int32) (_ : Unit) => r = ifP (badP A x k v) (-2) (ifP (wellP k v) (nI 0) (-3))) (fun (_ : Unit) => (co, zo 0 (cF w (nI mn) bm sm lt)) :: rest) := by
  refine z_begI (by decide) (Nat.le_of_ble_eq_true rfl) (fun p e s m args below meth c ls Q hC hl hw hend => ?_)
  have hx := hC.hx
  have hb := hC.hb
  have hl : lv_has ls 5 [(0, .ref co), (1, .int x), (2, .int k), (3, .int v)] := hl
  have hw : zS G ((co, zo 0 (cF w (nI mn) bm sm lt)) :: rest) s s.heap [] := hw
  refine lv_iload_n hx hb dX0_whyNot_0 rfl (lv_at hl 1 rfl) ?_
  refine z_ci (z_runS (As := [.int x]) (rest := []) hC zs_X0_275 (m_X0_isTrail G l x _) hw rfl rfl (Nat.le_of_ble_eq_true rfl) hl.1 ⟨Nat.le_of_ble_eq_true rfl, Nat.le_of_ble_eq_true rfl⟩ ⟨(Nat.le_of_ble_eq_true rfl), (Nat.le_of_ble_eq_true rfl)⟩ dX0_whyNot_1) hw (fun _ => List.Perm.refl _) (fun r u H locs hp hw => ?_)
  obtain rfl : r = bI (inR x 0 2) := hp
  refine zb_eq (tgt := 20) hx hb dX0_whyNot_4 (by decide) (fun c_4 => ?_) (fun c_4 => ?_)
  · skip
    refine lv_bipush (v := (-2)) hx hb dX0_whyNot_20 zb_m2 ?_
    exact hend _ _ _ _ _ _ _ () hw (by first | exact (ifP_t (Or.inl c_4)).symm | exact (ifP_t (Or.inr ⟨c_9, fun q => c_17 (hmn ▸ q)⟩)).symm | (refine Eq.symm (Eq.trans (ifP_f (fun q => q.elim (fun q => q c_4) (fun q => by first | exact q.2 (hmn ▸ c_17) | exact c_9 q.1))) ?_); first | exact ifP_t ((wellP_0 c_24).mp c_72) | exact ifP_f (fun q => c_72 ((wellP_0 c_24).mpr q)) | exact ifP_t (Or.inr (Or.inr c_43)) | exact ifP_t ((wellP_2 c_48).mp c_60) | exact ifP_f (fun q => c_60 ((wellP_2 c_48).mpr q)) | exact ifP_f (wellP_no c_24 c_48 c_43))) (Nat.le_of_ble_eq_true rfl) (Nat.le_of_ble_eq_true rfl) dX0_whyNot_22
  · skip
    refine lv_iload_n hx hb dX0_whyNot_7 rfl (lv_at hl 2 rfl) ?_
    refine lv_iconst (v := (nI 1)) hx hb dX0_whyNot_8 zk_1 ?_
    refine lv_icmp_ne (tgt := 23) hx hb dX0_whyNot_9 (by decide) (fun c_9 => ?_) (fun c_9 => ?_)
    · skip
      refine lv_iload_n hx hb dX0_whyNot_23 rfl (lv_at hl 2 rfl) ?_
      refine lv_if_ne (tgt := 41) hx hb dX0_whyNot_24 (by decide) (fun c_24 => ?_) (fun c_24 => ?_)
      · skip
        refine lv_iload_n hx hb dX0_whyNot_41 rfl (lv_at hl 2 rfl) ?_
        refine lv_iconst (v := (nI 1)) hx hb dX0_whyNot_42 zk_1 ?_
        refine lv_icmp_eq (tgt := 63) hx hb dX0_whyNot_43 (by decide) (fun c_43 => ?_) (fun c_43 => ?_)
        · skip
          refine lv_iconst (v := (nI 1)) hx hb dX0_whyNot_63 zk_1 ?_
          refine lv_goto (tgt := 68) hx hb dX0_whyNot_64 (by decide) ?_
          refine lv_istore (lv' := [(4, .int (nI 1)), (0, .ref co), (1, .int x), (2, .int k), (3, .int v)]) hx hb dX0_whyNot_68 hl (by decide) rfl (fun ls hl => ?_)
          refine lv_iload hx hb dX0_whyNot_70 (lv_at hl 0 rfl) ?_
          refine zj_eq (tgt := 79) hx hb (by decide) dX0_whyNot_72 (by decide) (fun h => absurd h (by decide)) (fun _ => ?_)
          refine lv_iconst (v := (nI 0)) hx hb dX0_whyNot_75 zk_0 ?_
          refine lv_goto (tgt := 81) hx hb dX0_whyNot_76 (by decide) ?_
          exact hend _ _ _ _ _ _ _ () hw (by first | exact (ifP_t (Or.inl c_4)).symm | exact (ifP_t (Or.inr ⟨c_9, fun q => c_17 (hmn ▸ q)⟩)).symm | (refine Eq.symm (Eq.trans (ifP_f (fun q => q.elim (fun q => q c_4) (fun q => by first | exact q.2 (hmn ▸ c_17) | exact c_9 q.1))) ?_); first | exact ifP_t ((wellP_0 c_24).mp c_72) | exact ifP_f (fun q => c_72 ((wellP_0 c_24).mpr q)) | exact ifP_t (Or.inr (Or.inr c_43)) | exact ifP_t ((wellP_2 c_48).mp c_60) | exact ifP_f (fun q => c_60 ((wellP_2 c_48).mpr q)) | exact ifP_f (wellP_no c_24 c_48 c_43))) (Nat.le_of_ble_eq_true rfl) (Nat.le_of_ble_eq_true rfl) dX0_whyNot_81
        · skip
          refine lv_iload_n hx hb dX0_whyNot_46 rfl (lv_at hl 2 rfl) ?_
          refine lv_iconst (v := (nI 2)) hx hb dX0_whyNot_47 zk_2 ?_
          refine lv_icmp_ne (tgt := 67) hx hb dX0_whyNot_48 (by decide) (fun c_48 => ?_) (fun c_48 => ?_)
          · skip
            refine lv_iconst (v := (nI 0)) hx hb dX0_whyNot_67 zk_0 ?_
            refine lv_istore (lv' := [(4, .int (nI 0)), (0, .ref co), (1, .int x), (2, .int k), (3, .int v)]) hx hb dX0_whyNot_68 hl (by decide) rfl (fun ls hl => ?_)
            refine lv_iload hx hb dX0_whyNot_70 (lv_at hl 0 rfl) ?_
            refine zj_eq (tgt := 79) hx hb (by decide) dX0_whyNot_72 (by decide) (fun _ => ?_) (fun h => absurd h (by decide))
            refine lv_bipush (v := (-3)) hx hb dX0_whyNot_79 zb_m3 ?_
            exact hend _ _ _ _ _ _ _ () hw (by first | exact (ifP_t (Or.inl c_4)).symm | exact (ifP_t (Or.inr ⟨c_9, fun q => c_17 (hmn ▸ q)⟩)).symm | (refine Eq.symm (Eq.trans (ifP_f (fun q => q.elim (fun q => q c_4) (fun q => by first | exact q.2 (hmn ▸ c_17) | exact c_9 q.1))) ?_); first | exact ifP_t ((wellP_0 c_24).mp c_72) | exact ifP_f (fun q => c_72 ((wellP_0 c_24).mpr q)) | exact ifP_t (Or.inr (Or.inr c_43)) | exact ifP_t ((wellP_2 c_48).mp c_60) | exact ifP_f (fun q => c_60 ((wellP_2 c_48).mpr q)) | exact ifP_f (wellP_no c_24 c_48 c_43))) (Nat.le_of_ble_eq_true rfl) (Nat.le_of_ble_eq_true rfl) dX0_whyNot_81
          · skip
            refine lv_iload_n hx hb dX0_whyNot_51 rfl (lv_at hl 3 rfl) ?_
            refine lv_i2l (v := (iL v)) hx hb dX0_whyNot_52 rfl ?_
            refine lv_lconst (v := lN 0) hx hb dX0_whyNot_53 rfl ?_
            refine lv_ldc2 (v := (lN 9)) hx hb hC.hown (hC.hts _ q1091) dX0_whyNot_54 ?_
            refine z_ci (z_runS (As := [.long (iL v), .long (lN 0), .long (lN 9)]) (rest := []) hC zs_X0_126 (m_X0_in G l v 0 9 (by decide) (by decide) _) hw rfl rfl (Nat.le_of_ble_eq_true rfl) hl.1 ⟨Nat.le_of_ble_eq_true rfl, Nat.le_of_ble_eq_true rfl⟩ ⟨(Nat.le_of_ble_eq_true rfl), (Nat.le_of_ble_eq_true rfl)⟩ dX0_whyNot_57) hw (fun _ => List.Perm.refl _) (fun r u H locs hp hw => ?_)
            obtain rfl : r = bI (inR v 0 9) := hp
            refine zb_eq (tgt := 67) hx hb dX0_whyNot_60 (by decide) (fun c_60 => ?_) (fun c_60 => ?_)
            · skip
              refine lv_iconst (v := (nI 0)) hx hb dX0_whyNot_67 zk_0 ?_
              refine lv_istore (lv' := [(4, .int (nI 0)), (0, .ref co), (1, .int x), (2, .int k), (3, .int v)]) hx hb dX0_whyNot_68 hl (by decide) rfl (fun ls hl => ?_)
              refine lv_iload hx hb dX0_whyNot_70 (lv_at hl 0 rfl) ?_
              refine zj_eq (tgt := 79) hx hb (by decide) dX0_whyNot_72 (by decide) (fun _ => ?_) (fun h => absurd h (by decide))
              refine lv_bipush (v := (-3)) hx hb dX0_whyNot_79 zb_m3 ?_
              exact hend _ _ _ _ _ _ _ () hw (by first | exact (ifP_t (Or.inl c_4)).symm | exact (ifP_t (Or.inr ⟨c_9, fun q => c_17 (hmn ▸ q)⟩)).symm | (refine Eq.symm (Eq.trans (ifP_f (fun q => q.elim (fun q => q c_4) (fun q => by first | exact q.2 (hmn ▸ c_17) | exact c_9 q.1))) ?_); first | exact ifP_t ((wellP_0 c_24).mp c_72) | exact ifP_f (fun q => c_72 ((wellP_0 c_24).mpr q)) | exact ifP_t (Or.inr (Or.inr c_43)) | exact ifP_t ((wellP_2 c_48).mp c_60) | exact ifP_f (fun q => c_60 ((wellP_2 c_48).mpr q)) | exact ifP_f (wellP_no c_24 c_48 c_43))) (Nat.le_of_ble_eq_true rfl) (Nat.le_of_ble_eq_true rfl) dX0_whyNot_81
            · skip
              refine lv_iconst (v := (nI 1)) hx hb dX0_whyNot_63 zk_1 ?_
              refine lv_goto (tgt := 68) hx hb dX0_whyNot_64 (by decide) ?_
              refine lv_istore (lv' := [(4, .int (nI 1)), (0, .ref co), (1, .int x), (2, .int k), (3, .int v)]) hx hb dX0_whyNot_68 hl (by decide) rfl (fun ls hl => ?_)
              refine lv_iload hx hb dX0_whyNot_70 (lv_at hl 0 rfl) ?_
              refine zj_eq (tgt := 79) hx hb (by decide) dX0_whyNot_72 (by decide) (fun h => absurd h (by decide)) (fun _ => ?_)
              refine lv_iconst (v := (nI 0)) hx hb dX0_whyNot_75 zk_0 ?_
              refine lv_goto (tgt := 81) hx hb dX0_whyNot_76 (by decide) ?_
              exact hend _ _ _ _ _ _ _ () hw (by first | exact (ifP_t (Or.inl c_4)).symm | exact (ifP_t (Or.inr ⟨c_9, fun q => c_17 (hmn ▸ q)⟩)).symm | (refine Eq.symm (Eq.trans (ifP_f (fun q => q.elim (fun q => q c_4) (fun q => by first | exact q.2 (hmn ▸ c_17) | exact c_9 q.1))) ?_); first | exact ifP_t ((wellP_0 c_24).mp c_72) | exact ifP_f (fun q => c_72 ((wellP_0 c_24).mpr q)) | exact ifP_t (Or.inr (Or.inr c_43)) | exact ifP_t ((wellP_2 c_48).mp c_60) | exact ifP_f (fun q => c_60 ((wellP_2 c_48).mpr q)) | exact ifP_f (wellP_no c_24 c_48 c_43))) (Nat.le_of_ble_eq_true rfl) (Nat.le_of_ble_eq_true rfl) dX0_whyNot_81
      · skip
        refine lv_iload_n hx hb dX0_whyNot_27 rfl (lv_at hl 3 rfl) ?_
        refine lv_i2l (v := (iL v)) hx hb dX0_whyNot_28 rfl ?_
        refine lv_ldc2 (v := (-9999)) hx hb hC.hown (hC.hts _ q1561) dX0_whyNot_29 ?_
        refine lv_ldc2 (v := (lN 9999)) hx hb hC.hown (hC.hts _ q1562) dX0_whyNot_32 ?_
        refine z_ci (z_runS (As := [.long (iL v), .long (-9999), .long (lN 9999)]) (rest := []) hC zs_X0_126 (m_X0_in_n G l v 9999 (by decide) _) hw rfl rfl (Nat.le_of_ble_eq_true rfl) hl.1 ⟨Nat.le_of_ble_eq_true rfl, Nat.le_of_ble_eq_true rfl⟩ ⟨(Nat.le_of_ble_eq_true rfl), (Nat.le_of_ble_eq_true rfl)⟩ dX0_whyNot_35) hw (fun _ => List.Perm.refl _) (fun r u H locs hp hw => ?_)
        obtain rfl : r = bI (-9999 ≤ v ∧ v ≤ nI 9999) := hp
        refine lv_goto (tgt := 68) hx hb dX0_whyNot_38 (by decide) ?_
        refine lv_istore (lv' := [(4, .int (bI (-9999 ≤ v ∧ v ≤ nI 9999))), (0, .ref co), (1, .int x), (2, .int k), (3, .int v)]) hx hb dX0_whyNot_68 hl (by decide) rfl (fun ls hl => ?_)
        refine lv_iload hx hb dX0_whyNot_70 (lv_at hl 0 rfl) ?_
        refine zb_eq (tgt := 79) hx hb dX0_whyNot_72 (by decide) (fun c_72 => ?_) (fun c_72 => ?_)
        · skip
          refine lv_bipush (v := (-3)) hx hb dX0_whyNot_79 zb_m3 ?_
          exact hend _ _ _ _ _ _ _ () hw (by first | exact (ifP_t (Or.inl c_4)).symm | exact (ifP_t (Or.inr ⟨c_9, fun q => c_17 (hmn ▸ q)⟩)).symm | (refine Eq.symm (Eq.trans (ifP_f (fun q => q.elim (fun q => q c_4) (fun q => by first | exact q.2 (hmn ▸ c_17) | exact c_9 q.1))) ?_); first | exact ifP_t ((wellP_0 c_24).mp c_72) | exact ifP_f (fun q => c_72 ((wellP_0 c_24).mpr q)) | exact ifP_t (Or.inr (Or.inr c_43)) | exact ifP_t ((wellP_2 c_48).mp c_60) | exact ifP_f (fun q => c_60 ((wellP_2 c_48).mpr q)) | exact ifP_f (wellP_no c_24 c_48 c_43))) (Nat.le_of_ble_eq_true rfl) (Nat.le_of_ble_eq_true rfl) dX0_whyNot_81
        · skip
          refine lv_iconst (v := (nI 0)) hx hb dX0_whyNot_75 zk_0 ?_
          refine lv_goto (tgt := 81) hx hb dX0_whyNot_76 (by decide) ?_
          exact hend _ _ _ _ _ _ _ () hw (by first | exact (ifP_t (Or.inl c_4)).symm | exact (ifP_t (Or.inr ⟨c_9, fun q => c_17 (hmn ▸ q)⟩)).symm | (refine Eq.symm (Eq.trans (ifP_f (fun q => q.elim (fun q => q c_4) (fun q => by first | exact q.2 (hmn ▸ c_17) | exact c_9 q.1))) ?_); first | exact ifP_t ((wellP_0 c_24).mp c_72) | exact ifP_f (fun q => c_72 ((wellP_0 c_24).mpr q)) | exact ifP_t (Or.inr (Or.inr c_43)) | exact ifP_t ((wellP_2 c_48).mp c_60) | exact ifP_f (fun q => c_60 ((wellP_2 c_48).mpr q)) | exact ifP_f (wellP_no c_24 c_48 c_43))) (Nat.le_of_ble_eq_true rfl) (Nat.le_of_ble_eq_true rfl) dX0_whyNot_81
    · skip
      refine lv_aload_n hx hb dX0_whyNot_12 rfl (lv_at hl 0 rfl) ?_
      refine lv_iload_n hx hb dX0_whyNot_13 rfl (lv_at hl 3 rfl) ?_
      refine z_ci (z_runV (As := [.int v]) (rest := []) hC zv_X0_170 (m_X0_isSquirrel G l co w mn bm sm lt v (by omega) (zrem [0] _)) hw (hw.perm (z_cut (is := [0]) (cells := [(co, zo 0 (cF w (nI mn) bm sm lt))]) rfl rfl)) 0 rfl rfl rfl rfl rfl (Nat.le_of_ble_eq_true rfl) hl.1 ⟨Nat.le_of_ble_eq_true rfl, Nat.le_of_ble_eq_true rfl⟩ ⟨(Nat.le_of_ble_eq_true rfl), (Nat.le_of_ble_eq_true rfl)⟩ dX0_whyNot_14) hw (fun _ => z_keep (is := [0]) (cs := [(co, zo 0 (cF w (nI mn) bm sm lt))]) rfl rfl) (fun r u H locs hp hw => ?_)
      obtain rfl : r = bI (isP mn v) := hp
      refine zb_ne (tgt := 23) hx hb dX0_whyNot_17 (by decide) (fun c_17 => ?_) (fun c_17 => ?_)
      · skip
        refine lv_iload_n hx hb dX0_whyNot_23 rfl (lv_at hl 2 rfl) ?_
        refine lv_if_ne (tgt := 41) hx hb dX0_whyNot_24 (by decide) (fun c_24 => ?_) (fun c_24 => ?_)
        · skip
          refine lv_iload_n hx hb dX0_whyNot_41 rfl (lv_at hl 2 rfl) ?_
          refine lv_iconst (v := (nI 1)) hx hb dX0_whyNot_42 zk_1 ?_
          refine lv_icmp_eq (tgt := 63) hx hb dX0_whyNot_43 (by decide) (fun c_43 => ?_) (fun c_43 => ?_)
          · skip
            refine lv_iconst (v := (nI 1)) hx hb dX0_whyNot_63 zk_1 ?_
            refine lv_goto (tgt := 68) hx hb dX0_whyNot_64 (by decide) ?_
            refine lv_istore (lv' := [(4, .int (nI 1)), (0, .ref co), (1, .int x), (2, .int k), (3, .int v)]) hx hb dX0_whyNot_68 hl (by decide) rfl (fun ls hl => ?_)
            refine lv_iload hx hb dX0_whyNot_70 (lv_at hl 0 rfl) ?_
            refine zj_eq (tgt := 79) hx hb (by decide) dX0_whyNot_72 (by decide) (fun h => absurd h (by decide)) (fun _ => ?_)
            refine lv_iconst (v := (nI 0)) hx hb dX0_whyNot_75 zk_0 ?_
            refine lv_goto (tgt := 81) hx hb dX0_whyNot_76 (by decide) ?_
            exact hend _ _ _ _ _ _ _ () hw (by first | exact (ifP_t (Or.inl c_4)).symm | exact (ifP_t (Or.inr ⟨c_9, fun q => c_17 (hmn ▸ q)⟩)).symm | (refine Eq.symm (Eq.trans (ifP_f (fun q => q.elim (fun q => q c_4) (fun q => by first | exact q.2 (hmn ▸ c_17) | exact c_9 q.1))) ?_); first | exact ifP_t ((wellP_0 c_24).mp c_72) | exact ifP_f (fun q => c_72 ((wellP_0 c_24).mpr q)) | exact ifP_t (Or.inr (Or.inr c_43)) | exact ifP_t ((wellP_2 c_48).mp c_60) | exact ifP_f (fun q => c_60 ((wellP_2 c_48).mpr q)) | exact ifP_f (wellP_no c_24 c_48 c_43))) (Nat.le_of_ble_eq_true rfl) (Nat.le_of_ble_eq_true rfl) dX0_whyNot_81
          · skip
            refine lv_iload_n hx hb dX0_whyNot_46 rfl (lv_at hl 2 rfl) ?_
            refine lv_iconst (v := (nI 2)) hx hb dX0_whyNot_47 zk_2 ?_
            refine lv_icmp_ne (tgt := 67) hx hb dX0_whyNot_48 (by decide) (fun c_48 => ?_) (fun c_48 => ?_)
            · skip
              refine lv_iconst (v := (nI 0)) hx hb dX0_whyNot_67 zk_0 ?_
              refine lv_istore (lv' := [(4, .int (nI 0)), (0, .ref co), (1, .int x), (2, .int k), (3, .int v)]) hx hb dX0_whyNot_68 hl (by decide) rfl (fun ls hl => ?_)
              refine lv_iload hx hb dX0_whyNot_70 (lv_at hl 0 rfl) ?_
              refine zj_eq (tgt := 79) hx hb (by decide) dX0_whyNot_72 (by decide) (fun _ => ?_) (fun h => absurd h (by decide))
              refine lv_bipush (v := (-3)) hx hb dX0_whyNot_79 zb_m3 ?_
              exact hend _ _ _ _ _ _ _ () hw (by first | exact (ifP_t (Or.inl c_4)).symm | exact (ifP_t (Or.inr ⟨c_9, fun q => c_17 (hmn ▸ q)⟩)).symm | (refine Eq.symm (Eq.trans (ifP_f (fun q => q.elim (fun q => q c_4) (fun q => by first | exact q.2 (hmn ▸ c_17) | exact c_9 q.1))) ?_); first | exact ifP_t ((wellP_0 c_24).mp c_72) | exact ifP_f (fun q => c_72 ((wellP_0 c_24).mpr q)) | exact ifP_t (Or.inr (Or.inr c_43)) | exact ifP_t ((wellP_2 c_48).mp c_60) | exact ifP_f (fun q => c_60 ((wellP_2 c_48).mpr q)) | exact ifP_f (wellP_no c_24 c_48 c_43))) (Nat.le_of_ble_eq_true rfl) (Nat.le_of_ble_eq_true rfl) dX0_whyNot_81
            · skip
              refine lv_iload_n hx hb dX0_whyNot_51 rfl (lv_at hl 3 rfl) ?_
              refine lv_i2l (v := (iL v)) hx hb dX0_whyNot_52 rfl ?_
              refine lv_lconst (v := lN 0) hx hb dX0_whyNot_53 rfl ?_
              refine lv_ldc2 (v := (lN 9)) hx hb hC.hown (hC.hts _ q1091) dX0_whyNot_54 ?_
              refine z_ci (z_runS (As := [.long (iL v), .long (lN 0), .long (lN 9)]) (rest := []) hC zs_X0_126 (m_X0_in G l v 0 9 (by decide) (by decide) _) hw rfl rfl (Nat.le_of_ble_eq_true rfl) hl.1 ⟨Nat.le_of_ble_eq_true rfl, Nat.le_of_ble_eq_true rfl⟩ ⟨(Nat.le_of_ble_eq_true rfl), (Nat.le_of_ble_eq_true rfl)⟩ dX0_whyNot_57) hw (fun _ => List.Perm.refl _) (fun r u H locs hp hw => ?_)
              obtain rfl : r = bI (inR v 0 9) := hp
              refine zb_eq (tgt := 67) hx hb dX0_whyNot_60 (by decide) (fun c_60 => ?_) (fun c_60 => ?_)
              · skip
                refine lv_iconst (v := (nI 0)) hx hb dX0_whyNot_67 zk_0 ?_
                refine lv_istore (lv' := [(4, .int (nI 0)), (0, .ref co), (1, .int x), (2, .int k), (3, .int v)]) hx hb dX0_whyNot_68 hl (by decide) rfl (fun ls hl => ?_)
                refine lv_iload hx hb dX0_whyNot_70 (lv_at hl 0 rfl) ?_
                refine zj_eq (tgt := 79) hx hb (by decide) dX0_whyNot_72 (by decide) (fun _ => ?_) (fun h => absurd h (by decide))
                refine lv_bipush (v := (-3)) hx hb dX0_whyNot_79 zb_m3 ?_
                exact hend _ _ _ _ _ _ _ () hw (by first | exact (ifP_t (Or.inl c_4)).symm | exact (ifP_t (Or.inr ⟨c_9, fun q => c_17 (hmn ▸ q)⟩)).symm | (refine Eq.symm (Eq.trans (ifP_f (fun q => q.elim (fun q => q c_4) (fun q => by first | exact q.2 (hmn ▸ c_17) | exact c_9 q.1))) ?_); first | exact ifP_t ((wellP_0 c_24).mp c_72) | exact ifP_f (fun q => c_72 ((wellP_0 c_24).mpr q)) | exact ifP_t (Or.inr (Or.inr c_43)) | exact ifP_t ((wellP_2 c_48).mp c_60) | exact ifP_f (fun q => c_60 ((wellP_2 c_48).mpr q)) | exact ifP_f (wellP_no c_24 c_48 c_43))) (Nat.le_of_ble_eq_true rfl) (Nat.le_of_ble_eq_true rfl) dX0_whyNot_81
              · skip
                refine lv_iconst (v := (nI 1)) hx hb dX0_whyNot_63 zk_1 ?_
                refine lv_goto (tgt := 68) hx hb dX0_whyNot_64 (by decide) ?_
                refine lv_istore (lv' := [(4, .int (nI 1)), (0, .ref co), (1, .int x), (2, .int k), (3, .int v)]) hx hb dX0_whyNot_68 hl (by decide) rfl (fun ls hl => ?_)
                refine lv_iload hx hb dX0_whyNot_70 (lv_at hl 0 rfl) ?_
                refine zj_eq (tgt := 79) hx hb (by decide) dX0_whyNot_72 (by decide) (fun h => absurd h (by decide)) (fun _ => ?_)
                refine lv_iconst (v := (nI 0)) hx hb dX0_whyNot_75 zk_0 ?_
                refine lv_goto (tgt := 81) hx hb dX0_whyNot_76 (by decide) ?_
                exact hend _ _ _ _ _ _ _ () hw (by first | exact (ifP_t (Or.inl c_4)).symm | exact (ifP_t (Or.inr ⟨c_9, fun q => c_17 (hmn ▸ q)⟩)).symm | (refine Eq.symm (Eq.trans (ifP_f (fun q => q.elim (fun q => q c_4) (fun q => by first | exact q.2 (hmn ▸ c_17) | exact c_9 q.1))) ?_); first | exact ifP_t ((wellP_0 c_24).mp c_72) | exact ifP_f (fun q => c_72 ((wellP_0 c_24).mpr q)) | exact ifP_t (Or.inr (Or.inr c_43)) | exact ifP_t ((wellP_2 c_48).mp c_60) | exact ifP_f (fun q => c_60 ((wellP_2 c_48).mpr q)) | exact ifP_f (wellP_no c_24 c_48 c_43))) (Nat.le_of_ble_eq_true rfl) (Nat.le_of_ble_eq_true rfl) dX0_whyNot_81
        · skip
          refine lv_iload_n hx hb dX0_whyNot_27 rfl (lv_at hl 3 rfl) ?_
          refine lv_i2l (v := (iL v)) hx hb dX0_whyNot_28 rfl ?_
          refine lv_ldc2 (v := (-9999)) hx hb hC.hown (hC.hts _ q1561) dX0_whyNot_29 ?_
          refine lv_ldc2 (v := (lN 9999)) hx hb hC.hown (hC.hts _ q1562) dX0_whyNot_32 ?_
          refine z_ci (z_runS (As := [.long (iL v), .long (-9999), .long (lN 9999)]) (rest := []) hC zs_X0_126 (m_X0_in_n G l v 9999 (by decide) _) hw rfl rfl (Nat.le_of_ble_eq_true rfl) hl.1 ⟨Nat.le_of_ble_eq_true rfl, Nat.le_of_ble_eq_true rfl⟩ ⟨(Nat.le_of_ble_eq_true rfl), (Nat.le_of_ble_eq_true rfl)⟩ dX0_whyNot_35) hw (fun _ => List.Perm.refl _) (fun r u H locs hp hw => ?_)
          obtain rfl : r = bI (-9999 ≤ v ∧ v ≤ nI 9999) := hp
          refine lv_goto (tgt := 68) hx hb dX0_whyNot_38 (by decide) ?_
          refine lv_istore (lv' := [(4, .int (bI (-9999 ≤ v ∧ v ≤ nI 9999))), (0, .ref co), (1, .int x), (2, .int k), (3, .int v)]) hx hb dX0_whyNot_68 hl (by decide) rfl (fun ls hl => ?_)
          refine lv_iload hx hb dX0_whyNot_70 (lv_at hl 0 rfl) ?_
          refine zb_eq (tgt := 79) hx hb dX0_whyNot_72 (by decide) (fun c_72 => ?_) (fun c_72 => ?_)
          · skip
            refine lv_bipush (v := (-3)) hx hb dX0_whyNot_79 zb_m3 ?_
            exact hend _ _ _ _ _ _ _ () hw (by first | exact (ifP_t (Or.inl c_4)).symm | exact (ifP_t (Or.inr ⟨c_9, fun q => c_17 (hmn ▸ q)⟩)).symm | (refine Eq.symm (Eq.trans (ifP_f (fun q => q.elim (fun q => q c_4) (fun q => by first | exact q.2 (hmn ▸ c_17) | exact c_9 q.1))) ?_); first | exact ifP_t ((wellP_0 c_24).mp c_72) | exact ifP_f (fun q => c_72 ((wellP_0 c_24).mpr q)) | exact ifP_t (Or.inr (Or.inr c_43)) | exact ifP_t ((wellP_2 c_48).mp c_60) | exact ifP_f (fun q => c_60 ((wellP_2 c_48).mpr q)) | exact ifP_f (wellP_no c_24 c_48 c_43))) (Nat.le_of_ble_eq_true rfl) (Nat.le_of_ble_eq_true rfl) dX0_whyNot_81
          · skip
            refine lv_iconst (v := (nI 0)) hx hb dX0_whyNot_75 zk_0 ?_
            refine lv_goto (tgt := 81) hx hb dX0_whyNot_76 (by decide) ?_
            exact hend _ _ _ _ _ _ _ () hw (by first | exact (ifP_t (Or.inl c_4)).symm | exact (ifP_t (Or.inr ⟨c_9, fun q => c_17 (hmn ▸ q)⟩)).symm | (refine Eq.symm (Eq.trans (ifP_f (fun q => q.elim (fun q => q c_4) (fun q => by first | exact q.2 (hmn ▸ c_17) | exact c_9 q.1))) ?_); first | exact ifP_t ((wellP_0 c_24).mp c_72) | exact ifP_f (fun q => c_72 ((wellP_0 c_24).mpr q)) | exact ifP_t (Or.inr (Or.inr c_43)) | exact ifP_t ((wellP_2 c_48).mp c_60) | exact ifP_f (fun q => c_60 ((wellP_2 c_48).mpr q)) | exact ifP_f (wellP_no c_24 c_48 c_43))) (Nat.le_of_ble_eq_true rfl) (Nat.le_of_ble_eq_true rfl) dX0_whyNot_81
      · skip
        refine lv_bipush (v := (-2)) hx hb dX0_whyNot_20 zb_m2 ?_
        exact hend _ _ _ _ _ _ _ () hw (by first | exact (ifP_t (Or.inl c_4)).symm | exact (ifP_t (Or.inr ⟨c_9, fun q => c_17 (hmn ▸ q)⟩)).symm | (refine Eq.symm (Eq.trans (ifP_f (fun q => q.elim (fun q => q c_4) (fun q => by first | exact q.2 (hmn ▸ c_17) | exact c_9 q.1))) ?_); first | exact ifP_t ((wellP_0 c_24).mp c_72) | exact ifP_f (fun q => c_72 ((wellP_0 c_24).mpr q)) | exact ifP_t (Or.inr (Or.inr c_43)) | exact ifP_t ((wellP_2 c_48).mp c_60) | exact ifP_f (fun q => c_60 ((wellP_2 c_48).mpr q)) | exact ifP_f (wellP_no c_24 c_48 c_43))) (Nat.le_of_ble_eq_true rfl) (Nat.le_of_ble_eq_true rfl) dX0_whyNot_22
