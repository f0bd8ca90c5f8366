/-! COMPONENT: things, count -/
set_option maxRecDepth 100000
set_option maxHeartbeats 4000000 in
theorem m_X0_things (G : zE) (l : Launch) (kA : Nat → Nat) (hG : zG G kA) (co : Nat) (w : Nat → Nat) (mn : Int32) (bm : Int32) (sm : Int32) (lt : Int32) (A : AS) (tf : Nat → Option Nat) (ts : Nat → va_W) (sq : Nat → Nat) (hA : AOk A) (hT : trR G kA A sq tf ts) (rest : va_W) : zMi G l yX0_things cX0_things 6 (some .int) 3 0 0 [.ref co] ((co, zo 0 (cF w mn bm sm lt)) :: (w 7, zc G 6 (zO 3 tf)) :: (pw 3 ts ++ rest)) (fun (r : Int32) (_ : Unit) => r = nI (thTo A 3)) (fun (_ : Unit) => (co, zo 0 (cF w mn bm sm lt)) :: (w 7, zc G 6 (zO 3 tf)) :: (pw 3 ts ++ rest)) := by
  refine z_begI (by decide) (Nat.le_of_ble_eq_true rfl) (fun p e s m args below meth c ls Q hC hl hw hend => ?_)
  have hx := hC.hx
  have hb := hC.hb
  have hl : lv_has ls 6 [(0, .ref co)] := hl
  have hw : zS G ((co, zo 0 (cF w mn bm sm lt)) :: (w 7, zc G 6 (zO 3 tf)) :: (pw 3 ts ++ rest)) s s.heap [] := hw
  have hz := hG s hC.hZ.1
  refine lv_iconst (v := (nI 0)) hx hb dX0_things_0 zk_0 ?_
  refine lv_istore_n (lv' := [(1, .int (nI 0)), (0, .ref co)]) hx hb dX0_things_1 rfl hl (by decide) rfl (fun ls hl => ?_)
  refine lv_aload_n hx hb dX0_things_2 rfl (lv_at hl 1 rfl) ?_
  refine z_get (v := .ref (w 7)) hC zf_X0_57_0 hw 0 rfl rfl dX0_things_3 ?_
  refine lv_astore_n (lv' := [(2, .ref (w 7)), (1, .int (nI 0)), (0, .ref co)]) hx hb dX0_things_6 rfl hl (by decide) rfl (fun ls hl => ?_)
  refine lv_aload_n hx hb dX0_things_7 rfl (lv_at hl 0 rfl) ?_
  refine z_alen (t := 6) hC hw 1 rfl (fun _ => rfl) dX0_things_8 ?_
  show W p l e (zR 3 0 0) s m args below meth c s.heap [] 0 0 Q (F0 m 9 ls [.int (nI 3)])
  refine lv_istore_n (lv' := [(3, .int (nI 3)), (2, .ref (w 7)), (1, .int (nI 0)), (0, .ref co)]) hx hb dX0_things_9 rfl hl (by decide) rfl (fun ls hl => ?_)
  refine lv_iconst (v := (nI 0)) hx hb dX0_things_10 zk_0 ?_
  refine lv_istore (lv' := [(4, .int (nI 0)), (3, .int (nI 3)), (2, .ref (w 7)), (1, .int (nI 0)), (0, .ref co)]) hx hb dX0_things_11 hl (by decide) rfl (fun ls hl => ?_)
  have loop_13 : ∀ (fuel : Nat) (t : Nat), (t ≤ 3) → (3 - t) < fuel → ∀ (H : Heap) (locs : List Loc) (ls : Array Slot), zS G ((co, zo 0 (cF w mn bm sm lt)) :: (w 7, zc G 6 (zO 3 tf)) :: (pw 3 ts ++ rest)) s H locs → lv_has ls 6 [(0, .ref co), (1, .int (nI (thTo A t))), (2, .ref (w 7)), (3, .int (nI 3)), (4, .int (nI t))] → W p l e (zR 3 0 0) s m args below meth c H locs 0 0 Q (F0 m 13 ls []) := by
    intro fuel
    induction fuel with
    | zero => intro t ht4 hfuel; exact absurd hfuel (Nat.not_lt_zero _)
    | succ fuel_13 ih_13 =>
      intro t ht4 hfuel_13 H locs ls hw hl
      refine lv_iload hx hb dX0_things_13 (lv_at hl 4 rfl) ?_
      refine lv_iload_n hx hb dX0_things_15 rfl (lv_at hl 3 rfl) ?_
      refine zi_ge (tgt := 48) hx hb (by omega) (by decide) dX0_things_16 (by decide) (fun c_16 => ?_) (fun c_16 => ?_)
      · skip
        refine lv_iload_n hx hb dX0_things_48 rfl (lv_at hl 1 rfl) ?_
        exact hend _ _ _ _ _ _ _ () hw (by rw [show t = 3 by omega]) (Nat.le_of_ble_eq_true rfl) (Nat.le_of_ble_eq_true rfl) dX0_things_49
      · skip
        have ht3 : t < 3 := c_16
        refine lv_aload_n hx hb dX0_things_19 rfl (lv_at hl 2 rfl) ?_
        refine lv_iload hx hb dX0_things_20 (lv_at hl 4 rfl) ?_
        refine z_aald (x := va_rf (tf t)) (t := 6) hC hw 1 rfl (fun _ => rfl) (by omega) (by decide) rfl dX0_things_22 ?_
        rcases tr_cases (hT t ht3) (hA.2.2.2.2.2.2 t ht3) with ⟨htf, hat, hxb⟩ | ⟨a, lst, it, mq, bk, htf, hat, hbk, hxb⟩ | ⟨a, l9, cu, c9, lst, it, ed, cap, ef, els, mq, bk, htf, hat, hle, hla, hcap, hcp2, hlc, hbk, hl12, hcl, hcp, hok, hxb⟩
        · skip
          rw [htf]
          show W p l e (zR 3 0 0) s m args below meth c H locs 0 0 Q (F0 m 23 ls [.null])
          have hl : lv_has ls 6 [(0, .ref co), (1, .int (nI (thTo A t))), (2, .ref (w 7)), (3, .int (nI 3)), (4, .int (nI t))] := hl
          have hw : zS G ((co, zo 0 (cF w mn bm sm lt)) :: (w 7, zc G 6 (zO 3 tf)) :: (pw 3 ts ++ rest)) s H locs := hw
          refine lv_astoreN (lv' := [(5, .null), (0, .ref co), (1, .int (nI (thTo A t))), (2, .ref (w 7)), (3, .int (nI 3)), (4, .int (nI t))]) hx hb dX0_things_23 hl (by decide) rfl (fun ls hl => ?_)
          refine lv_iload_n hx hb dX0_things_25 rfl (lv_at hl 2 rfl) ?_
          refine lv_aloadN hx hb dX0_things_26 (lv_at hl 0 rfl) ?_
          refine lv_ifnonnullN hx hb dX0_things_28 ?_
          refine lv_iconst (v := (nI 0)) hx hb dX0_things_31 zk_0 ?_
          refine lv_goto (tgt := 40) hx hb dX0_things_32 (by decide) ?_
          refine zv_iadd (v := (nI (thTo A (t + 1)))) hx hb (by rw [nI_add]; show nI (_ + _) = nI (thTo A t + (match aTr A t with | none => 0 | some x => x.1.length)); rw [hat] <;> rfl) dX0_things_40 ?_
          refine lv_istore_n (lv' := [(1, .int (nI (thTo A (t + 1)))), (5, .null), (0, .ref co), (2, .ref (w 7)), (3, .int (nI 3)), (4, .int (nI t))]) hx hb dX0_things_41 rfl hl (by decide) rfl (fun ls hl => ?_)
          refine lv_iinc (v := (nI (t + 1))) (lv' := [(4, .int (nI (t + 1))), (1, .int (nI (thTo A (t + 1)))), (5, .null), (0, .ref co), (2, .ref (w 7)), (3, .int (nI 3))]) hx hb dX0_things_42 hl (k := 5) rfl (zincn _ 1) (by decide) rfl (fun ls hl => ?_)
          refine lv_goto (tgt := 13) hx hb dX0_things_45 (by decide) ?_
          exact ih_13 (t + 1) (by omega) (by omega) H locs ls hw (lv_sub hl [3, 1, 4, 5, 0] rfl)
        · skip
          rw [htf]
          show W p l e (zR 3 0 0) s m args below meth c H locs 0 0 Q (F0 m 23 ls [.ref a])
          have hw : zS G ((a, zo 10 [.ref lst, .ref it, .int bk]) :: (lst, zo 14 [.int mq, .ref (kA 5), .int (nI 0)]) :: (it, zo 15 [.int (nI 0), .int (-1), .int mq, .ref lst, .ref lst]) :: (co, zo 0 (cF w mn bm sm lt)) :: (w 7, zc G 6 (zO 3 tf)) :: (pwX 3 ts t ++ rest)) s H locs := hw.perm (sl_open (E := [(co, zo 0 (cF w mn bm sm lt)), (w 7, zc G 6 (zO 3 tf))]) (C := [(a, zo 10 [.ref lst, .ref it, .int bk]), (lst, zo 14 [.int mq, .ref (kA 5), .int (nI 0)]), (it, zo 15 [.int (nI 0), .int (-1), .int mq, .ref lst, .ref lst])]) (P := []) ht3 (hxb.trans (List.append_nil _).symm))
          have hl : lv_has ls 6 [(0, .ref co), (1, .int (nI (thTo A t))), (2, .ref (w 7)), (3, .int (nI 3)), (4, .int (nI t))] := hl
          have hw : zS G ((a, zo 10 [.ref lst, .ref it, .int bk]) :: (lst, zo 14 [.int mq, .ref (kA 5), .int (nI 0)]) :: (it, zo 15 [.int (nI 0), .int (-1), .int mq, .ref lst, .ref lst]) :: (co, zo 0 (cF w mn bm sm lt)) :: (w 7, zc G 6 (zO 3 tf)) :: (pwX 3 ts t ++ rest)) s H locs := hw
          refine lv_astore (lv' := [(5, .ref a), (0, .ref co), (1, .int (nI (thTo A t))), (2, .ref (w 7)), (3, .int (nI 3)), (4, .int (nI t))]) hx hb dX0_things_23 hl (by decide) rfl (fun ls hl => ?_)
          refine lv_iload_n hx hb dX0_things_25 rfl (lv_at hl 2 rfl) ?_
          refine lv_aload hx hb dX0_things_26 (lv_at hl 0 rfl) ?_
          refine lv_ifnonnull (tgt := 35) hx hb dX0_things_28 (by decide) ?_
          refine lv_aload hx hb dX0_things_35 (lv_at hl 0 rfl) ?_
          refine z_ci (z_runV (As := []) (rest := [.int (nI (thTo A t))]) hC zv_X0_338 (m_X11_many G l kA (by first | assumption | (omega)) lst (kA 5) 0 mq a bk it (zrem [0, 1] _)) hw (hw.perm (z_cut (is := [0, 1]) (cells := [(a, zo 10 [.ref lst, .ref it, .int bk]), (lst, zo 14 [.int mq, .ref (kA 5), .int (nI 0)])]) rfl rfl)) 0 rfl rfl rfl rfl rfl (Nat.le_of_ble_eq_true rfl) hl.1 ⟨Nat.le_of_ble_eq_true rfl, Nat.le_of_ble_eq_true rfl⟩ ⟨(Nat.le_of_ble_eq_true rfl), (Nat.le_of_ble_eq_true rfl)⟩ dX0_things_37) hw (fun _ => z_keep (is := [0, 1]) (cs := [(a, zo 10 [.ref lst, .ref it, .int bk]), (lst, zo 14 [.int mq, .ref (kA 5), .int (nI 0)])]) rfl rfl) (fun r u H locs hp hw => ?_)
          obtain rfl : r = nI 0 := hp
          have hw : zS G ((co, zo 0 (cF w mn bm sm lt)) :: (w 7, zc G 6 (zO 3 tf)) :: (pw 3 ts ++ rest)) s H locs := by have h9 := hw.perm (sl_close (E := [(co, zo 0 (cF w mn bm sm lt)), (w 7, zc G 6 (zO 3 tf))]) (C := [(a, zo 10 [.ref lst, .ref it, .int bk]), (lst, zo 14 [.int mq, .ref (kA 5), .int (nI 0)]), (it, zo 15 [.int (nI 0), .int (-1), .int mq, .ref lst, .ref lst])]) (P := []) (sl := ts) ht3); rw [show va_up ts t ([(a, zo 10 [.ref lst, .ref it, .int bk]), (lst, zo 14 [.int mq, .ref (kA 5), .int (nI 0)]), (it, zo 15 [.int (nI 0), .int (-1), .int mq, .ref lst, .ref lst])] ++ []) = ts by rw [show [(a, zo 10 [.ref lst, .ref it, .int bk]), (lst, zo 14 [.int mq, .ref (kA 5), .int (nI 0)]), (it, zo 15 [.int (nI 0), .int (-1), .int mq, .ref lst, .ref lst])] ++ [] = ts t from ((List.append_nil _).trans hxb.symm), va_up_id]] at h9; exact h9
          refine zv_iadd (v := (nI (thTo A (t + 1)))) hx hb (by rw [nI_add]; show nI (_ + _) = nI (thTo A t + (match aTr A t with | none => 0 | some x => x.1.length)); rw [hat] <;> rfl) dX0_things_40 ?_
          refine lv_istore_n (lv' := [(1, .int (nI (thTo A (t + 1)))), (5, .ref a), (0, .ref co), (2, .ref (w 7)), (3, .int (nI 3)), (4, .int (nI t))]) hx hb dX0_things_41 rfl hl (by decide) rfl (fun ls hl => ?_)
          refine lv_iinc (v := (nI (t + 1))) (lv' := [(4, .int (nI (t + 1))), (1, .int (nI (thTo A (t + 1)))), (5, .ref a), (0, .ref co), (2, .ref (w 7)), (3, .int (nI 3))]) hx hb dX0_things_42 hl (k := 5) rfl (zincn _ 1) (by decide) rfl (fun ls hl => ?_)
          refine lv_goto (tgt := 13) hx hb dX0_things_45 (by decide) ?_
          exact ih_13 (t + 1) (by omega) (by omega) H locs ls hw (lv_sub hl [3, 1, 4, 5, 0] rfl)
        · skip
          rw [htf]
          show W p l e (zR 3 0 0) s m args below meth c H locs 0 0 Q (F0 m 23 ls [.ref a])
          have hw : zS G ((a, zo 10 [.ref lst, .ref it, .int bk]) :: (lst, zo 14 [.int mq, .ref ed, .int (nI l9.length)]) :: (it, zo 15 [.int (nI cu), .int (optI c9), .int mq, .ref lst, .ref lst]) :: (ed, zc G 4 (zO cap ef)) :: (co, zo 0 (cF w mn bm sm lt)) :: (w 7, zc G 6 (zO 3 tf)) :: (elW els ++ (pwX 3 ts t ++ rest))) s H locs := hw.perm (sl_open (E := [(co, zo 0 (cF w mn bm sm lt)), (w 7, zc G 6 (zO 3 tf))]) (C := [(a, zo 10 [.ref lst, .ref it, .int bk]), (lst, zo 14 [.int mq, .ref ed, .int (nI l9.length)]), (it, zo 15 [.int (nI cu), .int (optI c9), .int mq, .ref lst, .ref lst]), (ed, zc G 4 (zO cap ef))]) (P := elW els) ht3 hxb)
          have hl : lv_has ls 6 [(0, .ref co), (1, .int (nI (thTo A t))), (2, .ref (w 7)), (3, .int (nI 3)), (4, .int (nI t))] := hl
          have hw : zS G ((a, zo 10 [.ref lst, .ref it, .int bk]) :: (lst, zo 14 [.int mq, .ref ed, .int (nI l9.length)]) :: (it, zo 15 [.int (nI cu), .int (optI c9), .int mq, .ref lst, .ref lst]) :: (ed, zc G 4 (zO cap ef)) :: (co, zo 0 (cF w mn bm sm lt)) :: (w 7, zc G 6 (zO 3 tf)) :: (elW els ++ (pwX 3 ts t ++ rest))) s H locs := hw
          refine lv_astore (lv' := [(5, .ref a), (0, .ref co), (1, .int (nI (thTo A t))), (2, .ref (w 7)), (3, .int (nI 3)), (4, .int (nI t))]) hx hb dX0_things_23 hl (by decide) rfl (fun ls hl => ?_)
          refine lv_iload_n hx hb dX0_things_25 rfl (lv_at hl 2 rfl) ?_
          refine lv_aload hx hb dX0_things_26 (lv_at hl 0 rfl) ?_
          refine lv_ifnonnull (tgt := 35) hx hb dX0_things_28 (by decide) ?_
          refine lv_aload hx hb dX0_things_35 (lv_at hl 0 rfl) ?_
          refine z_ci (z_runV (As := []) (rest := [.int (nI (thTo A t))]) hC zv_X0_338 (m_X11_many G l kA (by first | assumption | (omega)) lst ed l9.length mq a bk it (zrem [0, 1] _)) hw (hw.perm (z_cut (is := [0, 1]) (cells := [(a, zo 10 [.ref lst, .ref it, .int bk]), (lst, zo 14 [.int mq, .ref ed, .int (nI l9.length)])]) rfl rfl)) 0 rfl rfl rfl rfl rfl (Nat.le_of_ble_eq_true rfl) hl.1 ⟨Nat.le_of_ble_eq_true rfl, Nat.le_of_ble_eq_true rfl⟩ ⟨(Nat.le_of_ble_eq_true rfl), (Nat.le_of_ble_eq_true rfl)⟩ dX0_things_37) hw (fun _ => z_keep (is := [0, 1]) (cs := [(a, zo 10 [.ref lst, .ref it, .int bk]), (lst, zo 14 [.int mq, .ref ed, .int (nI l9.length)])]) rfl rfl) (fun r u H locs hp hw => ?_)
          obtain rfl : r = nI l9.length := hp
          have hw : zS G ((a, zo 10 [.ref lst, .ref it, .int bk]) :: (lst, zo 14 [.int mq, .ref ed, .int (nI l9.length)]) :: (it, zo 15 [.int (nI cu), .int (optI c9), .int mq, .ref lst, .ref lst]) :: (ed, zc G 4 (zO cap ef)) :: (co, zo 0 (cF w mn bm sm lt)) :: (w 7, zc G 6 (zO 3 tf)) :: (pwX 3 ts t ++ (elW els ++ rest))) s H locs := hw.perm (((z_mv1 (elW els) (pwX 3 ts t) rest)).append_left [(a, zo 10 [.ref lst, .ref it, .int bk]), (lst, zo 14 [.int mq, .ref ed, .int (nI l9.length)]), (it, zo 15 [.int (nI cu), .int (optI c9), .int mq, .ref lst, .ref lst]), (ed, zc G 4 (zO cap ef)), (co, zo 0 (cF w mn bm sm lt)), (w 7, zc G 6 (zO 3 tf))])
          have hw : zS G ((a, zo 10 [.ref lst, .ref it, .int bk]) :: (lst, zo 14 [.int mq, .ref ed, .int (nI l9.length)]) :: (it, zo 15 [.int (nI cu), .int (optI c9), .int mq, .ref lst, .ref lst]) :: (ed, zc G 4 (zO cap ef)) :: (co, zo 0 (cF w mn bm sm lt)) :: (w 7, zc G 6 (zO 3 tf)) :: (elW els ++ (pwX 3 ts t ++ rest))) s H locs := hw.perm (((z_mv1 (pwX 3 ts t) (elW els) rest)).append_left [(a, zo 10 [.ref lst, .ref it, .int bk]), (lst, zo 14 [.int mq, .ref ed, .int (nI l9.length)]), (it, zo 15 [.int (nI cu), .int (optI c9), .int mq, .ref lst, .ref lst]), (ed, zc G 4 (zO cap ef)), (co, zo 0 (cF w mn bm sm lt)), (w 7, zc G 6 (zO 3 tf))])
          have hw : zS G ((co, zo 0 (cF w mn bm sm lt)) :: (w 7, zc G 6 (zO 3 tf)) :: (pw 3 ts ++ rest)) s H locs := by have h9 := hw.perm (sl_close (E := [(co, zo 0 (cF w mn bm sm lt)), (w 7, zc G 6 (zO 3 tf))]) (C := [(a, zo 10 [.ref lst, .ref it, .int bk]), (lst, zo 14 [.int mq, .ref ed, .int (nI l9.length)]), (it, zo 15 [.int (nI cu), .int (optI c9), .int mq, .ref lst, .ref lst]), (ed, zc G 4 (zO cap ef))]) (P := elW els) (sl := ts) ht3); rw [show va_up ts t ([(a, zo 10 [.ref lst, .ref it, .int bk]), (lst, zo 14 [.int mq, .ref ed, .int (nI l9.length)]), (it, zo 15 [.int (nI cu), .int (optI c9), .int mq, .ref lst, .ref lst]), (ed, zc G 4 (zO cap ef))] ++ elW els) = ts by rw [show [(a, zo 10 [.ref lst, .ref it, .int bk]), (lst, zo 14 [.int mq, .ref ed, .int (nI l9.length)]), (it, zo 15 [.int (nI cu), .int (optI c9), .int mq, .ref lst, .ref lst]), (ed, zc G 4 (zO cap ef))] ++ elW els = ts t from hxb.symm, va_up_id]] at h9; exact h9
          refine zv_iadd (v := (nI (thTo A (t + 1)))) hx hb (by rw [nI_add]; show nI (_ + _) = nI (thTo A t + (match aTr A t with | none => 0 | some x => x.1.length)); rw [hat] <;> rfl) dX0_things_40 ?_
          refine lv_istore_n (lv' := [(1, .int (nI (thTo A (t + 1)))), (5, .ref a), (0, .ref co), (2, .ref (w 7)), (3, .int (nI 3)), (4, .int (nI t))]) hx hb dX0_things_41 rfl hl (by decide) rfl (fun ls hl => ?_)
          refine lv_iinc (v := (nI (t + 1))) (lv' := [(4, .int (nI (t + 1))), (1, .int (nI (thTo A (t + 1)))), (5, .ref a), (0, .ref co), (2, .ref (w 7)), (3, .int (nI 3))]) hx hb dX0_things_42 hl (k := 5) rfl (zincn _ 1) (by decide) rfl (fun ls hl => ?_)
          refine lv_goto (tgt := 13) hx hb dX0_things_45 (by decide) ?_
          exact ih_13 (t + 1) (by omega) (by omega) H locs ls hw (lv_sub hl [3, 1, 4, 5, 0] rfl)
  exact loop_13 ((3 - 0) + 1) 0 (by decide) (Nat.lt_succ_self _) s.heap [] ls hw (lv_sub hl [4, 3, 2, 1, 0] rfl)
theorem zv_X0_340 : zVs RX0 340 yX0_nutsOfAll cX0_nutsOfAll 3 (some .int) 0 := ⟨lw_V q1780 q1782 qs25 q49 q1783, ⟨by decide +kernel, by decide +kernel⟩, by decide +kernel⟩
theorem zv_X0_343 : zVs RX0 343 yX0_things cX0_things 6 (some .int) 0 := ⟨lw_V q1784 q1786 qs26 q49 q1787, ⟨by decide +kernel, by decide +kernel⟩, by decide +kernel⟩
set_option maxHeartbeats 4000000 in
theorem m_X0_count (G : zE) (l : Launch) (kA : Nat → Nat) (hG : zG G kA) (co : Nat) (w : Nat → Nat) (zn : Nat → Nat) (A : AS) (ps : Nat) (mn : Nat) (dy : Nat) (um : Nat) (sm : Nat) (lt : Nat) (gg : Int32) (pl : Nat → Nat) (nu : Nat → Nat) (ax : Nat → Nat) (le : Nat → Nat) (kn : Nat → Nat) (hA : AOk A) (hps : ps = aV A 0) (hmn : mn = aV A 1) (hdy : dy = aV A 2) (hR : sRel (aV A) pl nu ax le kn) (hum : um = aU A) (hsm : sm = aS A) (htl : lt = aL A) (tf : Nat → Option Nat) (ts : Nat → va_W) (sq : Nat → Nat) (hT : trR G kA A sq tf ts) (x : Int32) (rest : va_W) : zMi G l yX0_count cX0_count 2 (some .int) 4 0 0 [.ref co, .int x] ((co, zo 0 (cF w (nI mn) (nI um) (nI sm) (nI lt))) :: (w 2, zo 1 (stF zn co (nI ps) (nI dy) (gg))) :: (zn 0, zc G 1 (zI 9 (vI pl))) :: (zn 1, zc G 1 (zI 9 (vI nu))) :: (zn 2, zc G 1 (zI 5 (vI ax))) :: (zn 3, zc G 1 (zI 5 (vI le))) :: (zn 4, zc G 2 (zI 5 (vI kn))) :: (w 7, zc G 6 (zO 3 tf)) :: (pw 3 ts ++ rest)) (fun (r : Int32) (_ : Unit) => r = F_count A x) (fun (_ : Unit) => (co, zo 0 (cF w (nI mn) (nI um) (nI sm) (nI lt))) :: (w 2, zo 1 (stF zn co (nI ps) (nI dy) (gg))) :: (zn 0, zc G 1 (zI 9 (vI pl))) :: (zn 1, zc G 1 (zI 9 (vI nu))) :: (zn 2, zc G 1 (zI 5 (vI ax))) :: (zn 3, zc G 1 (zI 5 (vI le))) :: (zn 4, zc G 2 (zI 5 (vI kn))) :: (w 7, zc G 6 (zO 3 tf)) :: (pw 3 ts ++ rest)) := by
  refine z_begI (by decide) (Nat.le_of_ble_eq_true rfl) (fun p e s m args below meth c ls Q hC hl hw hend => ?_)
  have hx := hC.hx
  have hb := hC.hb
  have hl : lv_has ls 2 [(0, .ref co), (1, .int x)] := hl
  have hw : zS G ((co, zo 0 (cF w (nI mn) (nI um) (nI sm) (nI lt))) :: (w 2, zo 1 (stF zn co (nI ps) (nI dy) (gg))) :: (zn 0, zc G 1 (zI 9 (vI pl))) :: (zn 1, zc G 1 (zI 9 (vI nu))) :: (zn 2, zc G 1 (zI 5 (vI ax))) :: (zn 3, zc G 1 (zI 5 (vI le))) :: (zn 4, zc G 2 (zI 5 (vI kn))) :: (w 7, zc G 6 (zO 3 tf)) :: (pw 3 ts ++ rest)) s s.heap [] := hw
  have hz := hG s hC.hZ.1
  have hgv := hA.2.2.1.1
  have hH : Hw (aV A) := hgv.1
  have hpl := fun j => (hR.2.2.2 j).1
  have hnu := fun j => (hR.2.2.2 j).2.1
  have hax := fun j => (hR.2.2.2 j).2.2.1
  have hle := fun j => (hR.2.2.2 j).2.2.2.1
  have hkn := fun j => (hR.2.2.2 j).2.2.2.2
  have hp9 : ps ≤ 9 := by rw [hps]; exact hH.1
  have hm5 : mn ≤ 5 := by rw [hmn]; exact hH.2.1
  have hd999 : dy ≤ 999 := by rw [hdy]; exact hA.2.2.1.2.2
  rcases cnt_cases x with ⟨k, hk, rfl⟩ | hout
  · skip
    have hl : lv_has ls 2 [(0, .ref co), (1, .int (nI k))] := hl
    have hw : zS G ((co, zo 0 (cF w (nI mn) (nI um) (nI sm) (nI lt))) :: (w 2, zo 1 (stF zn co (nI ps) (nI dy) (gg))) :: (zn 0, zc G 1 (zI 9 (vI pl))) :: (zn 1, zc G 1 (zI 9 (vI nu))) :: (zn 2, zc G 1 (zI 5 (vI ax))) :: (zn 3, zc G 1 (zI 5 (vI le))) :: (zn 4, zc G 2 (zI 5 (vI kn))) :: (w 7, zc G 6 (zO 3 tf)) :: (pw 3 ts ++ rest)) s s.heap [] := hw
    refine lv_iload_n hx hb dX0_count_0 rfl (lv_at hl 1 rfl) ?_
    rcases cnt_in hk with rfl | rfl | rfl | rfl | rfl | rfl | rfl | rfl | rfl | rfl
    · skip
      have hl : lv_has ls 2 [(0, .ref co), (1, .int (nI 0))] := hl
      have hw : zS G ((co, zo 0 (cF w (nI mn) (nI um) (nI sm) (nI lt))) :: (w 2, zo 1 (stF zn co (nI ps) (nI dy) (gg))) :: (zn 0, zc G 1 (zI 9 (vI pl))) :: (zn 1, zc G 1 (zI 9 (vI nu))) :: (zn 2, zc G 1 (zI 5 (vI ax))) :: (zn 3, zc G 1 (zI 5 (vI le))) :: (zn 4, zc G 2 (zI 5 (vI kn))) :: (w 7, zc G 6 (zO 3 tf)) :: (pw 3 ts ++ rest)) s s.heap [] := hw
      refine lv_tableIn (off := 55) (tgt := 56) hx hb dX0_count_1 (by decide) (by decide) (by decide) (by decide) ?_
      refine lv_aload_n hx hb dX0_count_56 rfl (lv_at hl 0 rfl) ?_
      refine z_get (v := .ref (w 2)) hC zf_X0_27_0 hw 0 rfl rfl dX0_count_57 ?_
      refine z_get (v := .int (nI ps)) hC zf_X0_76_1 hw 1 rfl rfl dX0_count_60 ?_
      exact hend _ _ _ _ _ _ _ () hw (by subst hps hmn hdy hum hsm htl; first | exact (ifP_f hout).symm | exact (F_count_in A 0 (by decide)).symm | exact (F_count_in A 1 (by decide)).symm | exact (F_count_in A 2 (by decide)).symm | exact (congrArg nI (alive_c hH hR rfl)).trans (F_count_in A 3 (by decide)).symm | exact (F_count_in A 4 (by decide)).symm | exact (congrArg nI (stored_c hR rfl)).trans (F_count_in A 5 (by decide)).symm | exact (F_count_in A 6 (by decide)).symm | exact (F_count_in A 7 (by decide)).symm | exact (F_count_in A 8 (by decide)).symm | exact (F_count_in A 9 (by decide)).symm) (Nat.le_of_ble_eq_true rfl) (Nat.le_of_ble_eq_true rfl) dX0_count_63
    · skip
      have hl : lv_has ls 2 [(0, .ref co), (1, .int (nI 1))] := hl
      have hw : zS G ((co, zo 0 (cF w (nI mn) (nI um) (nI sm) (nI lt))) :: (w 2, zo 1 (stF zn co (nI ps) (nI dy) (gg))) :: (zn 0, zc G 1 (zI 9 (vI pl))) :: (zn 1, zc G 1 (zI 9 (vI nu))) :: (zn 2, zc G 1 (zI 5 (vI ax))) :: (zn 3, zc G 1 (zI 5 (vI le))) :: (zn 4, zc G 2 (zI 5 (vI kn))) :: (w 7, zc G 6 (zO 3 tf)) :: (pw 3 ts ++ rest)) s s.heap [] := hw
      refine lv_tableIn (off := 63) (tgt := 64) hx hb dX0_count_1 (by decide) (by decide) (by decide) (by decide) ?_
      refine lv_aload_n hx hb dX0_count_64 rfl (lv_at hl 0 rfl) ?_
      refine z_get (v := .int (nI mn)) hC zf_X0_73_0 hw 0 rfl rfl dX0_count_65 ?_
      exact hend _ _ _ _ _ _ _ () hw (by subst hps hmn hdy hum hsm htl; first | exact (ifP_f hout).symm | exact (F_count_in A 0 (by decide)).symm | exact (F_count_in A 1 (by decide)).symm | exact (F_count_in A 2 (by decide)).symm | exact (congrArg nI (alive_c hH hR rfl)).trans (F_count_in A 3 (by decide)).symm | exact (F_count_in A 4 (by decide)).symm | exact (congrArg nI (stored_c hR rfl)).trans (F_count_in A 5 (by decide)).symm | exact (F_count_in A 6 (by decide)).symm | exact (F_count_in A 7 (by decide)).symm | exact (F_count_in A 8 (by decide)).symm | exact (F_count_in A 9 (by decide)).symm) (Nat.le_of_ble_eq_true rfl) (Nat.le_of_ble_eq_true rfl) dX0_count_68
    · skip
      have hl : lv_has ls 2 [(0, .ref co), (1, .int (nI 2))] := hl
      have hw : zS G ((co, zo 0 (cF w (nI mn) (nI um) (nI sm) (nI lt))) :: (w 2, zo 1 (stF zn co (nI ps) (nI dy) (gg))) :: (zn 0, zc G 1 (zI 9 (vI pl))) :: (zn 1, zc G 1 (zI 9 (vI nu))) :: (zn 2, zc G 1 (zI 5 (vI ax))) :: (zn 3, zc G 1 (zI 5 (vI le))) :: (zn 4, zc G 2 (zI 5 (vI kn))) :: (w 7, zc G 6 (zO 3 tf)) :: (pw 3 ts ++ rest)) s s.heap [] := hw
      refine lv_tableIn (off := 68) (tgt := 69) hx hb dX0_count_1 (by decide) (by decide) (by decide) (by decide) ?_
      refine lv_aload_n hx hb dX0_count_69 rfl (lv_at hl 0 rfl) ?_
      refine z_get (v := .ref (w 2)) hC zf_X0_27_0 hw 0 rfl rfl dX0_count_70 ?_
      refine z_get (v := .int (nI dy)) hC zf_X0_201_1 hw 1 rfl rfl dX0_count_73 ?_
      exact hend _ _ _ _ _ _ _ () hw (by subst hps hmn hdy hum hsm htl; first | exact (ifP_f hout).symm | exact (F_count_in A 0 (by decide)).symm | exact (F_count_in A 1 (by decide)).symm | exact (F_count_in A 2 (by decide)).symm | exact (congrArg nI (alive_c hH hR rfl)).trans (F_count_in A 3 (by decide)).symm | exact (F_count_in A 4 (by decide)).symm | exact (congrArg nI (stored_c hR rfl)).trans (F_count_in A 5 (by decide)).symm | exact (F_count_in A 6 (by decide)).symm | exact (F_count_in A 7 (by decide)).symm | exact (F_count_in A 8 (by decide)).symm | exact (F_count_in A 9 (by decide)).symm) (Nat.le_of_ble_eq_true rfl) (Nat.le_of_ble_eq_true rfl) dX0_count_76
    · skip
      have hl : lv_has ls 2 [(0, .ref co), (1, .int (nI 3))] := hl
      have hw : zS G ((co, zo 0 (cF w (nI mn) (nI um) (nI sm) (nI lt))) :: (w 2, zo 1 (stF zn co (nI ps) (nI dy) (gg))) :: (zn 0, zc G 1 (zI 9 (vI pl))) :: (zn 1, zc G 1 (zI 9 (vI nu))) :: (zn 2, zc G 1 (zI 5 (vI ax))) :: (zn 3, zc G 1 (zI 5 (vI le))) :: (zn 4, zc G 2 (zI 5 (vI kn))) :: (w 7, zc G 6 (zO 3 tf)) :: (pw 3 ts ++ rest)) s s.heap [] := hw
      refine lv_tableIn (off := 76) (tgt := 77) hx hb dX0_count_1 (by decide) (by decide) (by decide) (by decide) ?_
      refine lv_aload_n hx hb dX0_count_77 rfl (lv_at hl 0 rfl) ?_
      refine z_get (v := .ref (w 2)) hC zf_X0_27_0 hw 0 rfl rfl dX0_count_78 ?_
      refine z_ci (z_runV (As := []) (rest := []) hC zv_X0_225 (m_X1_alive G l kA (by first | assumption | (omega)) (w 2) co zn w (nI um) (nI sm) (nI lt) ps dy gg mn le (by omega) (by first | assumption | (have := hle j; omega)) (zrem [1, 5, 0] _)) hw (hw.perm (z_cut (is := [1, 5, 0]) (cells := [(w 2, zo 1 (stF zn co (nI ps) (nI dy) gg)), (zn 3, zc G 1 (zI 5 (vI le))), (co, zo 0 (cF w (nI mn) (nI um) (nI sm) (nI lt)))]) rfl rfl)) 1 rfl rfl rfl rfl rfl (Nat.le_of_ble_eq_true rfl) hl.1 ⟨Nat.le_of_ble_eq_true rfl, Nat.le_of_ble_eq_true rfl⟩ ⟨(Nat.le_of_ble_eq_true rfl), (Nat.le_of_ble_eq_true rfl)⟩ dX0_count_81) hw (fun _ => z_keep (is := [1, 5, 0]) (cs := [(w 2, zo 1 (stF zn co (nI ps) (nI dy) gg)), (zn 3, zc G 1 (zI 5 (vI le))), (co, zo 0 (cF w (nI mn) (nI um) (nI sm) (nI lt)))]) rfl rfl) (fun r u H locs hp hw => ?_)
      obtain rfl : r = nI (orB (fun i => decide (¬ le i = 3)) mn) := hp
      exact hend _ _ _ _ _ _ _ () hw (by subst hps hmn hdy hum hsm htl; first | exact (ifP_f hout).symm | exact (F_count_in A 0 (by decide)).symm | exact (F_count_in A 1 (by decide)).symm | exact (F_count_in A 2 (by decide)).symm | exact (congrArg nI (alive_c hH hR rfl)).trans (F_count_in A 3 (by decide)).symm | exact (F_count_in A 4 (by decide)).symm | exact (congrArg nI (stored_c hR rfl)).trans (F_count_in A 5 (by decide)).symm | exact (F_count_in A 6 (by decide)).symm | exact (F_count_in A 7 (by decide)).symm | exact (F_count_in A 8 (by decide)).symm | exact (F_count_in A 9 (by decide)).symm) (Nat.le_of_ble_eq_true rfl) (Nat.le_of_ble_eq_true rfl) dX0_count_84
    · skip
      have hl : lv_has ls 2 [(0, .ref co), (1, .int (nI 4))] := hl
      have hw : zS G ((co, zo 0 (cF w (nI mn) (nI um) (nI sm) (nI lt))) :: (w 2, zo 1 (stF zn co (nI ps) (nI dy) (gg))) :: (zn 0, zc G 1 (zI 9 (vI pl))) :: (zn 1, zc G 1 (zI 9 (vI nu))) :: (zn 2, zc G 1 (zI 5 (vI ax))) :: (zn 3, zc G 1 (zI 5 (vI le))) :: (zn 4, zc G 2 (zI 5 (vI kn))) :: (w 7, zc G 6 (zO 3 tf)) :: (pw 3 ts ++ rest)) s s.heap [] := hw
      refine lv_tableIn (off := 84) (tgt := 85) hx hb dX0_count_1 (by decide) (by decide) (by decide) (by decide) ?_
      refine lv_aload_n hx hb dX0_count_85 rfl (lv_at hl 0 rfl) ?_
      refine z_ci (z_runV (As := []) (rest := []) hC zv_X0_340 (m_X0_nutsOfAll G l co w zn (aV A) pl nu ax le kn (nI mn) (nI um) (nI sm) (nI lt) (nI dy) gg ps hH hps hR (zrem [0, 1, 3] _)) hw (hw.perm (z_cut (is := [0, 1, 3]) (cells := [(co, zo 0 (cF w (nI mn) (nI um) (nI sm) (nI lt))), (w 2, zo 1 (stF zn co (nI ps) (nI dy) gg)), (zn 1, zc G 1 (zI 9 (vI nu)))]) rfl rfl)) 0 rfl rfl rfl rfl rfl (Nat.le_of_ble_eq_true rfl) hl.1 ⟨Nat.le_of_ble_eq_true rfl, Nat.le_of_ble_eq_true rfl⟩ ⟨(Nat.le_of_ble_eq_true rfl), (Nat.le_of_ble_eq_true rfl)⟩ dX0_count_86) hw (fun _ => z_keep (is := [0, 1, 3]) (cs := [(co, zo 0 (cF w (nI mn) (nI um) (nI sm) (nI lt))), (w 2, zo 1 (stF zn co (nI ps) (nI dy) gg)), (zn 1, zc G 1 (zI 9 (vI nu)))]) rfl rfl) (fun r u H locs hp hw => ?_)
      obtain rfl : r = nI (nutsTo (aV A) ((aV A) 0)) := hp
      exact hend _ _ _ _ _ _ _ () hw (by subst hps hmn hdy hum hsm htl; first | exact (ifP_f hout).symm | exact (F_count_in A 0 (by decide)).symm | exact (F_count_in A 1 (by decide)).symm | exact (F_count_in A 2 (by decide)).symm | exact (congrArg nI (alive_c hH hR rfl)).trans (F_count_in A 3 (by decide)).symm | exact (F_count_in A 4 (by decide)).symm | exact (congrArg nI (stored_c hR rfl)).trans (F_count_in A 5 (by decide)).symm | exact (F_count_in A 6 (by decide)).symm | exact (F_count_in A 7 (by decide)).symm | exact (F_count_in A 8 (by decide)).symm | exact (F_count_in A 9 (by decide)).symm) (Nat.le_of_ble_eq_true rfl) (Nat.le_of_ble_eq_true rfl) dX0_count_89
    · skip
      have hl : lv_has ls 2 [(0, .ref co), (1, .int (nI 5))] := hl
      have hw : zS G ((co, zo 0 (cF w (nI mn) (nI um) (nI sm) (nI lt))) :: (w 2, zo 1 (stF zn co (nI ps) (nI dy) (gg))) :: (zn 0, zc G 1 (zI 9 (vI pl))) :: (zn 1, zc G 1 (zI 9 (vI nu))) :: (zn 2, zc G 1 (zI 5 (vI ax))) :: (zn 3, zc G 1 (zI 5 (vI le))) :: (zn 4, zc G 2 (zI 5 (vI kn))) :: (w 7, zc G 6 (zO 3 tf)) :: (pw 3 ts ++ rest)) s s.heap [] := hw
      refine lv_tableIn (off := 89) (tgt := 90) hx hb dX0_count_1 (by decide) (by decide) (by decide) (by decide) ?_
      refine lv_aload_n hx hb dX0_count_90 rfl (lv_at hl 0 rfl) ?_
      refine z_get (v := .ref (w 2)) hC zf_X0_27_0 hw 0 rfl rfl dX0_count_91 ?_
      refine z_ci (z_runV (As := []) (rest := []) hC zv_X0_246 (m_X1_stored G l (w 2) co zn ps dy gg nu (by omega) (by first | assumption | (have := hnu j; omega)) (zrem [1, 3] _)) hw (hw.perm (z_cut (is := [1, 3]) (cells := [(w 2, zo 1 (stF zn co (nI ps) (nI dy) gg)), (zn 1, zc G 1 (zI 9 (vI nu)))]) rfl rfl)) 1 rfl rfl rfl rfl rfl (Nat.le_of_ble_eq_true rfl) hl.1 ⟨Nat.le_of_ble_eq_true rfl, Nat.le_of_ble_eq_true rfl⟩ ⟨(Nat.le_of_ble_eq_true rfl), (Nat.le_of_ble_eq_true rfl)⟩ dX0_count_94) hw (fun _ => z_keep (is := [1, 3]) (cs := [(w 2, zo 1 (stF zn co (nI ps) (nI dy) gg)), (zn 1, zc G 1 (zI 9 (vI nu)))]) rfl rfl) (fun r u H locs hp hw => ?_)
      obtain rfl : r = nI (orB (fun p => decide (0 < nu p)) ps) := hp
      exact hend _ _ _ _ _ _ _ () hw (by subst hps hmn hdy hum hsm htl; first | exact (ifP_f hout).symm | exact (F_count_in A 0 (by decide)).symm | exact (F_count_in A 1 (by decide)).symm | exact (F_count_in A 2 (by decide)).symm | exact (congrArg nI (alive_c hH hR rfl)).trans (F_count_in A 3 (by decide)).symm | exact (F_count_in A 4 (by decide)).symm | exact (congrArg nI (stored_c hR rfl)).trans (F_count_in A 5 (by decide)).symm | exact (F_count_in A 6 (by decide)).symm | exact (F_count_in A 7 (by decide)).symm | exact (F_count_in A 8 (by decide)).symm | exact (F_count_in A 9 (by decide)).symm) (Nat.le_of_ble_eq_true rfl) (Nat.le_of_ble_eq_true rfl) dX0_count_97
    · skip
      have hl : lv_has ls 2 [(0, .ref co), (1, .int (nI 6))] := hl
      have hw : zS G ((co, zo 0 (cF w (nI mn) (nI um) (nI sm) (nI lt))) :: (w 2, zo 1 (stF zn co (nI ps) (nI dy) (gg))) :: (zn 0, zc G 1 (zI 9 (vI pl))) :: (zn 1, zc G 1 (zI 9 (vI nu))) :: (zn 2, zc G 1 (zI 5 (vI ax))) :: (zn 3, zc G 1 (zI 5 (vI le))) :: (zn 4, zc G 2 (zI 5 (vI kn))) :: (w 7, zc G 6 (zO 3 tf)) :: (pw 3 ts ++ rest)) s s.heap [] := hw
      refine lv_tableIn (off := 97) (tgt := 98) hx hb dX0_count_1 (by decide) (by decide) (by decide) (by decide) ?_
      refine lv_aload_n hx hb dX0_count_98 rfl (lv_at hl 0 rfl) ?_
      refine z_get (v := .int (nI sm)) hC zf_X0_44_0 hw 0 rfl rfl dX0_count_99 ?_
      exact hend _ _ _ _ _ _ _ () hw (by subst hps hmn hdy hum hsm htl; first | exact (ifP_f hout).symm | exact (F_count_in A 0 (by decide)).symm | exact (F_count_in A 1 (by decide)).symm | exact (F_count_in A 2 (by decide)).symm | exact (congrArg nI (alive_c hH hR rfl)).trans (F_count_in A 3 (by decide)).symm | exact (F_count_in A 4 (by decide)).symm | exact (congrArg nI (stored_c hR rfl)).trans (F_count_in A 5 (by decide)).symm | exact (F_count_in A 6 (by decide)).symm | exact (F_count_in A 7 (by decide)).symm | exact (F_count_in A 8 (by decide)).symm | exact (F_count_in A 9 (by decide)).symm) (Nat.le_of_ble_eq_true rfl) (Nat.le_of_ble_eq_true rfl) dX0_count_102
    · skip
      have hl : lv_has ls 2 [(0, .ref co), (1, .int (nI 7))] := hl
      have hw : zS G ((co, zo 0 (cF w (nI mn) (nI um) (nI sm) (nI lt))) :: (w 2, zo 1 (stF zn co (nI ps) (nI dy) (gg))) :: (zn 0, zc G 1 (zI 9 (vI pl))) :: (zn 1, zc G 1 (zI 9 (vI nu))) :: (zn 2, zc G 1 (zI 5 (vI ax))) :: (zn 3, zc G 1 (zI 5 (vI le))) :: (zn 4, zc G 2 (zI 5 (vI kn))) :: (w 7, zc G 6 (zO 3 tf)) :: (pw 3 ts ++ rest)) s s.heap [] := hw
      refine lv_tableIn (off := 102) (tgt := 103) hx hb dX0_count_1 (by decide) (by decide) (by decide) (by decide) ?_
      refine lv_aload_n hx hb dX0_count_103 rfl (lv_at hl 0 rfl) ?_
      refine z_ci (z_runV (As := []) (rest := []) hC zv_X0_343 (m_X0_things G l kA (by first | assumption | (omega)) co w (nI mn) (nI um) (nI sm) (nI lt) A tf ts sq (by first | assumption | (omega)) (by first | assumption | (omega)) (zrem [0, 7] [(co, zo 0 (cF w (nI mn) (nI um) (nI sm) (nI lt))), (w 2, zo 1 (stF zn co (nI ps) (nI dy) (gg))), (zn 0, zc G 1 (zI 9 (vI pl))), (zn 1, zc G 1 (zI 9 (vI nu))), (zn 2, zc G 1 (zI 5 (vI ax))), (zn 3, zc G 1 (zI 5 (vI le))), (zn 4, zc G 2 (zI 5 (vI kn))), (w 7, zc G 6 (zO 3 tf))] ++ rest)) hw (hw.perm (z_cutP (z_cut (is := [0, 7]) (ws := [(co, zo 0 (cF w (nI mn) (nI um) (nI sm) (nI lt))), (w 2, zo 1 (stF zn co (nI ps) (nI dy) (gg))), (zn 0, zc G 1 (zI 9 (vI pl))), (zn 1, zc G 1 (zI 9 (vI nu))), (zn 2, zc G 1 (zI 5 (vI ax))), (zn 3, zc G 1 (zI 5 (vI le))), (zn 4, zc G 2 (zI 5 (vI kn))), (w 7, zc G 6 (zO 3 tf))]) (cells := [(co, zo 0 (cF w (nI mn) (nI um) (nI sm) (nI lt))), (w 7, zc G 6 (zO 3 tf))]) rfl rfl))) 0 rfl rfl rfl rfl rfl (Nat.le_of_ble_eq_true rfl) hl.1 ⟨Nat.le_of_ble_eq_true rfl, Nat.le_of_ble_eq_true rfl⟩ ⟨(Nat.le_of_ble_eq_true rfl), (Nat.le_of_ble_eq_true rfl)⟩ dX0_count_104) hw (fun _ => z_putP (z_pput (is := [0, 7]) (ws := [(co, zo 0 (cF w (nI mn) (nI um) (nI sm) (nI lt))), (w 2, zo 1 (stF zn co (nI ps) (nI dy) (gg))), (zn 0, zc G 1 (zI 9 (vI pl))), (zn 1, zc G 1 (zI 9 (vI nu))), (zn 2, zc G 1 (zI 5 (vI ax))), (zn 3, zc G 1 (zI 5 (vI le))), (zn 4, zc G 2 (zI 5 (vI kn))), (w 7, zc G 6 (zO 3 tf))]) (cells := [(co, zo 0 (cF w (nI mn) (nI um) (nI sm) (nI lt))), (w 7, zc G 6 (zO 3 tf))]) (cells' := [(co, zo 0 (cF w (nI mn) (nI um) (nI sm) (nI lt))), (w 7, zc G 6 (zO 3 tf))]) rfl rfl rfl)) (fun r u H locs hp hw => ?_)
      obtain rfl : r = nI (thTo A 3) := hp
      exact hend _ _ _ _ _ _ _ () hw (by subst hps hmn hdy hum hsm htl; first | exact (ifP_f hout).symm | exact (F_count_in A 0 (by decide)).symm | exact (F_count_in A 1 (by decide)).symm | exact (F_count_in A 2 (by decide)).symm | exact (congrArg nI (alive_c hH hR rfl)).trans (F_count_in A 3 (by decide)).symm | exact (F_count_in A 4 (by decide)).symm | exact (congrArg nI (stored_c hR rfl)).trans (F_count_in A 5 (by decide)).symm | exact (F_count_in A 6 (by decide)).symm | exact (F_count_in A 7 (by decide)).symm | exact (F_count_in A 8 (by decide)).symm | exact (F_count_in A 9 (by decide)).symm) (Nat.le_of_ble_eq_true rfl) (Nat.le_of_ble_eq_true rfl) dX0_count_107
    · skip
      have hl : lv_has ls 2 [(0, .ref co), (1, .int (nI 8))] := hl
      have hw : zS G ((co, zo 0 (cF w (nI mn) (nI um) (nI sm) (nI lt))) :: (w 2, zo 1 (stF zn co (nI ps) (nI dy) (gg))) :: (zn 0, zc G 1 (zI 9 (vI pl))) :: (zn 1, zc G 1 (zI 9 (vI nu))) :: (zn 2, zc G 1 (zI 5 (vI ax))) :: (zn 3, zc G 1 (zI 5 (vI le))) :: (zn 4, zc G 2 (zI 5 (vI kn))) :: (w 7, zc G 6 (zO 3 tf)) :: (pw 3 ts ++ rest)) s s.heap [] := hw
      refine lv_tableIn (off := 107) (tgt := 108) hx hb dX0_count_1 (by decide) (by decide) (by decide) (by decide) ?_
      refine lv_aload_n hx hb dX0_count_108 rfl (lv_at hl 0 rfl) ?_
      refine z_get (v := .int (nI um)) hC zf_X0_40_0 hw 0 rfl rfl dX0_count_109 ?_
      exact hend _ _ _ _ _ _ _ () hw (by subst hps hmn hdy hum hsm htl; first | exact (ifP_f hout).symm | exact (F_count_in A 0 (by decide)).symm | exact (F_count_in A 1 (by decide)).symm | exact (F_count_in A 2 (by decide)).symm | exact (congrArg nI (alive_c hH hR rfl)).trans (F_count_in A 3 (by decide)).symm | exact (F_count_in A 4 (by decide)).symm | exact (congrArg nI (stored_c hR rfl)).trans (F_count_in A 5 (by decide)).symm | exact (F_count_in A 6 (by decide)).symm | exact (F_count_in A 7 (by decide)).symm | exact (F_count_in A 8 (by decide)).symm | exact (F_count_in A 9 (by decide)).symm) (Nat.le_of_ble_eq_true rfl) (Nat.le_of_ble_eq_true rfl) dX0_count_112
    · skip
      have hl : lv_has ls 2 [(0, .ref co), (1, .int (nI 9))] := hl
      have hw : zS G ((co, zo 0 (cF w (nI mn) (nI um) (nI sm) (nI lt))) :: (w 2, zo 1 (stF zn co (nI ps) (nI dy) (gg))) :: (zn 0, zc G 1 (zI 9 (vI pl))) :: (zn 1, zc G 1 (zI 9 (vI nu))) :: (zn 2, zc G 1 (zI 5 (vI ax))) :: (zn 3, zc G 1 (zI 5 (vI le))) :: (zn 4, zc G 2 (zI 5 (vI kn))) :: (w 7, zc G 6 (zO 3 tf)) :: (pw 3 ts ++ rest)) s s.heap [] := hw
      refine lv_tableIn (off := 112) (tgt := 113) hx hb dX0_count_1 (by decide) (by decide) (by decide) (by decide) ?_
      refine lv_aload_n hx hb dX0_count_113 rfl (lv_at hl 0 rfl) ?_
      refine z_get (v := .int (nI lt)) hC zf_X0_132_0 hw 0 rfl rfl dX0_count_114 ?_
      exact hend _ _ _ _ _ _ _ () hw (by subst hps hmn hdy hum hsm htl; first | exact (ifP_f hout).symm | exact (F_count_in A 0 (by decide)).symm | exact (F_count_in A 1 (by decide)).symm | exact (F_count_in A 2 (by decide)).symm | exact (congrArg nI (alive_c hH hR rfl)).trans (F_count_in A 3 (by decide)).symm | exact (F_count_in A 4 (by decide)).symm | exact (congrArg nI (stored_c hR rfl)).trans (F_count_in A 5 (by decide)).symm | exact (F_count_in A 6 (by decide)).symm | exact (F_count_in A 7 (by decide)).symm | exact (F_count_in A 8 (by decide)).symm | exact (F_count_in A 9 (by decide)).symm) (Nat.le_of_ble_eq_true rfl) (Nat.le_of_ble_eq_true rfl) dX0_count_117
  · skip
    have hl : lv_has ls 2 [(0, .ref co), (1, .int x)] := hl
    refine lv_iload_n hx hb dX0_count_0 rfl (lv_at hl 1 rfl) ?_
    refine lv_tableOut (tgt := 118) hx hb dX0_count_1 (cnt_out hout) (by decide) ?_
    refine lv_bipush (v := (-3)) hx hb dX0_count_118 zb_m3 ?_
    exact hend _ _ _ _ _ _ _ () hw (by subst hps hmn hdy hum hsm htl; first | exact (ifP_f hout).symm | exact (F_count_in A 0 (by decide)).symm | exact (F_count_in A 1 (by decide)).symm | exact (F_count_in A 2 (by decide)).symm | exact (congrArg nI (alive_c hH hR rfl)).trans (F_count_in A 3 (by decide)).symm | exact (F_count_in A 4 (by decide)).symm | exact (congrArg nI (stored_c hR rfl)).trans (F_count_in A 5 (by decide)).symm | exact (F_count_in A 6 (by decide)).symm | exact (F_count_in A 7 (by decide)).symm | exact (F_count_in A 8 (by decide)).symm | exact (F_count_in A 9 (by decide)).symm) (Nat.le_of_ble_eq_true rfl) (Nat.le_of_ble_eq_true rfl) dX0_count_120
