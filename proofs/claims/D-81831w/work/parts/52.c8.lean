/-! COMPONENT: asked -/
set_option maxRecDepth 100000
theorem know_c {v pl nu ax le kn : Nat → Nat} {t : Nat} (hH : Hw v) (hR : sRel v pl nu ax le kn) : orB (fun i => (kn i).testBit t) (v 1) = knowN v t := by
  have h1 := hH.2.1
  exact orB_congr (fun i hi => by rw [(hR.2.2.1 i (by omega)).2])
theorem zv_X0_159 : zVs RX0 159 yX0_isPit cX0_isPit 2 (some .boolean) 1 := ⟨lw_V q813 q815 qs9 q49 q816, ⟨by decide +kernel, by decide +kernel⟩, by decide +kernel⟩
theorem zv_X0_163 : zVs RX0 163 yX0_whoKnows cX0_whoKnows 4 (some .int) 1 := ⟨lw_V q817 q819 qs10 q49 q820, ⟨by decide +kernel, by decide +kernel⟩, by decide +kernel⟩
theorem zf_X0_90_1 : zFl 1 1 RX0 90 true (.array .byte) := ⟨RX1, TX1, 9, tyX1, rfl, by decide, in_X1, q115, rfl, by decide +kernel, tyX1_ok, nmX1⟩
theorem zf_X0_86_1 : zFl 1 0 RX0 86 true (.array .byte) := ⟨RX1, TX1, 9, tyX1, rfl, by decide, in_X1, q113, rfl, by decide +kernel, tyX1_ok, nmX1⟩
set_option maxHeartbeats 4000000 in
theorem m_X0_pit (G : zE) (l : Launch) (co : Nat) (w : Nat → Nat) (zn : Nat → Nat) (A : AS) (ps : Nat) (mn : Nat) (dy : Nat) (bm : Int32) (sm : Int32) (lt : Int32) (gg : Int32) (pl : Nat → Nat) (nu : Nat → Nat) (ax : Nat → Nat) (le : Nat → Nat) (kn : Nat → Nat) (hA : AOk A) (hps : ps = aV A 0) (hmn : mn = aV A 1) (hdy : dy = aV A 2) (hR : sRel (aV A) pl nu ax le kn) (x : Int32) (y : Int32) (rest : va_W) : zMi G l yX0_pit cX0_pit 3 (some .int) 2 0 0 [.ref co, .int x, .int y] ((co, zo 0 (cF w (nI mn) bm sm lt)) :: (w 2, zo 1 (stF zn co (nI ps) (nI dy) (gg))) :: (zn 0, zc G 1 (zI 9 (vI pl))) :: (zn 1, zc G 1 (zI 9 (vI nu))) :: (zn 4, zc G 2 (zI 5 (vI kn))) :: rest) (fun (r : Int32) (_ : Unit) => r = F_pit A x y) (fun (_ : Unit) => (co, zo 0 (cF w (nI mn) bm sm lt)) :: (w 2, zo 1 (stF zn co (nI ps) (nI dy) (gg))) :: (zn 0, zc G 1 (zI 9 (vI pl))) :: (zn 1, zc G 1 (zI 9 (vI nu))) :: (zn 4, zc G 2 (zI 5 (vI kn))) :: rest) := by
  refine z_begI (by decide) (Nat.le_of_ble_eq_true rfl) (fun p e s m args below meth c ls Q hC hl hw hend => ?_)
  have hx := hC.hx
  have hb := hC.hb
  have hl : lv_has ls 3 [(0, .ref co), (1, .int x), (2, .int y)] := hl
  have hw : zS G ((co, zo 0 (cF w (nI mn) bm sm lt)) :: (w 2, zo 1 (stF zn co (nI ps) (nI dy) (gg))) :: (zn 0, zc G 1 (zI 9 (vI pl))) :: (zn 1, zc G 1 (zI 9 (vI nu))) :: (zn 4, zc G 2 (zI 5 (vI kn))) :: rest) s s.heap [] := hw
  have hgv := hA.2.2.1.1
  have hH : Hw (aV A) := hgv.1
  have hpl := fun j => (hR.2.2.2 j).1
  have hnu := fun j => (hR.2.2.2 j).2.1
  have hax := fun j => (hR.2.2.2 j).2.2.1
  have hle := fun j => (hR.2.2.2 j).2.2.2.1
  have hkn := fun j => (hR.2.2.2 j).2.2.2.2
  have hp9 : ps ≤ 9 := by rw [hps]; exact hH.1
  have hm5 : mn ≤ 5 := by rw [hmn]; exact hH.2.1
  have hd999 : dy ≤ 999 := by rw [hdy]; exact hA.2.2.1.2.2
  refine lv_aload_n hx hb dX0_pit_0 rfl (lv_at hl 0 rfl) ?_
  refine lv_iload_n hx hb dX0_pit_1 rfl (lv_at hl 1 rfl) ?_
  refine z_ci (z_runV (As := [.int x]) (rest := []) hC zv_X0_159 (m_X0_isPit G l co w (nI mn) bm sm lt zn ps (nI dy) gg x (by omega) (zrem [0, 1] _)) hw (hw.perm (z_cut (is := [0, 1]) (cells := [(co, zo 0 (cF w (nI mn) bm sm lt)), (w 2, zo 1 (stF zn co (nI ps) (nI dy) gg))]) rfl rfl)) 0 rfl rfl rfl rfl rfl (Nat.le_of_ble_eq_true rfl) hl.1 ⟨Nat.le_of_ble_eq_true rfl, Nat.le_of_ble_eq_true rfl⟩ ⟨(Nat.le_of_ble_eq_true rfl), (Nat.le_of_ble_eq_true rfl)⟩ dX0_pit_2) hw (fun _ => z_keep (is := [0, 1]) (cs := [(co, zo 0 (cF w (nI mn) bm sm lt)), (w 2, zo 1 (stF zn co (nI ps) (nI dy) gg))]) rfl rfl) (fun r u H locs hp hw => ?_)
  obtain rfl : r = bI (isP ps x) := hp
  refine zb_ne (tgt := 11) hx hb dX0_pit_5 (by decide) (fun c_5 => ?_) (fun c_5 => ?_)
  · skip
    rcases Classical.em (inR y 0 2) with ⟨k, hk1, hk2, rfl⟩ | hy
    · skip
      have hl : lv_has ls 3 [(0, .ref co), (1, .int x), (2, .int (nI k))] := hl
      have hl : lv_has ls 3 [(0, .ref co), (1, .int x), (2, .int (nI k))] := hl
      have hw : zS G ((co, zo 0 (cF w (nI mn) bm sm lt)) :: (w 2, zo 1 (stF zn co (nI ps) (nI dy) gg)) :: (zn 0, zc G 1 (zI 9 (vI pl))) :: (zn 1, zc G 1 (zI 9 (vI nu))) :: (zn 4, zc G 2 (zI 5 (vI kn))) :: rest) s H locs := hw
      obtain ⟨t, ht, rfl⟩ := c_5
      have hl : lv_has ls 3 [(0, .ref co), (1, .int (nI t)), (2, .int (nI k))] := hl
      have hta : t < aV A 0 := by omega
      have ht9 : t < 9 := by omega
      have hRt := hR.1 t hta
      refine lv_iload_n hx hb dX0_pit_11 rfl (lv_at hl 2 rfl) ?_
      refine zj_ne (tgt := 27) hx hb (by omega) dX0_pit_12 (by decide) (fun c_12 => ?_) (fun c_12 => ?_)
      · skip
        refine lv_iload_n hx hb dX0_pit_27 rfl (lv_at hl 2 rfl) ?_
        refine lv_iconst (v := (nI 1)) hx hb dX0_pit_28 zk_1 ?_
        refine zi_ne (tgt := 44) hx hb (by omega) (by decide) dX0_pit_29 (by decide) (fun c_29 => ?_) (fun c_29 => ?_)
        · skip
          refine lv_iload_n hx hb dX0_pit_44 rfl (lv_at hl 2 rfl) ?_
          refine lv_iconst (v := (nI 2)) hx hb dX0_pit_45 zk_2 ?_
          refine zi_ne (tgt := 57) hx hb (by omega) (by decide) dX0_pit_46 (by decide) (fun c_46 => ?_) (fun c_46 => ?_)
          · skip
            refine lv_bipush (v := (-3)) hx hb dX0_pit_57 zb_m3 ?_
            exact hend _ _ _ _ _ _ _ () hw (by exfalso; omega) (Nat.le_of_ble_eq_true rfl) (Nat.le_of_ble_eq_true rfl) dX0_pit_59
          · skip
            refine lv_aload_n hx hb dX0_pit_49 rfl (lv_at hl 0 rfl) ?_
            refine lv_iload_n hx hb dX0_pit_50 rfl (lv_at hl 1 rfl) ?_
            refine z_ci (z_runV (As := [.int (nI t)]) (rest := []) hC zv_X0_163 (m_X0_whoKnows G l co w mn bm sm lt zn (nI ps) (nI dy) gg kn t (by omega) (by omega) (by first | assumption | (have := hkn j; omega)) (zrem [0, 1, 4] _)) hw (hw.perm (z_cut (is := [0, 1, 4]) (cells := [(co, zo 0 (cF w (nI mn) bm sm lt)), (w 2, zo 1 (stF zn co (nI ps) (nI dy) gg)), (zn 4, zc G 2 (zI 5 (vI kn)))]) rfl rfl)) 0 rfl rfl rfl rfl rfl (Nat.le_of_ble_eq_true rfl) hl.1 ⟨Nat.le_of_ble_eq_true rfl, Nat.le_of_ble_eq_true rfl⟩ ⟨(Nat.le_of_ble_eq_true rfl), (Nat.le_of_ble_eq_true rfl)⟩ dX0_pit_51) hw (fun _ => z_keep (is := [0, 1, 4]) (cs := [(co, zo 0 (cF w (nI mn) bm sm lt)), (w 2, zo 1 (stF zn co (nI ps) (nI dy) gg)), (zn 4, zc G 2 (zI 5 (vI kn)))]) rfl rfl) (fun r u H locs hp hw => ?_)
            obtain rfl : r = nI (orB (fun i => (kn i).testBit t) mn) := hp
            refine lv_goto (tgt := 59) hx hb dX0_pit_54 (by decide) ?_
            exact hend _ _ _ _ _ _ _ () hw (by unfold F_pit; rw [ifP_t ⟨t, hta, rfl⟩, ifP_t ⟨k, hk1, hk2, rfl⟩, cl_nI (by omega), cl_nI (by omega)]; rw [if_pos (by omega), hmn, know_c hH hR]) (Nat.le_of_ble_eq_true rfl) (Nat.le_of_ble_eq_true rfl) dX0_pit_59
        · skip
          refine lv_aload_n hx hb dX0_pit_32 rfl (lv_at hl 0 rfl) ?_
          refine z_get (v := .ref (w 2)) hC zf_X0_27_0 hw 0 rfl rfl dX0_pit_33 ?_
          refine z_get (v := .ref (zn 1)) hC zf_X0_90_1 hw 1 rfl rfl dX0_pit_36 ?_
          refine lv_iload_n hx hb dX0_pit_39 rfl (lv_at hl 1 rfl) ?_
          refine z_bald (x := (nI (nu t))) hC hw 3 rfl (by omega) (by decide) rfl dX0_pit_40 ?_
          refine lv_goto (tgt := 59) hx hb dX0_pit_41 (by decide) ?_
          exact hend _ _ _ _ _ _ _ () hw (by unfold F_pit; rw [ifP_t ⟨t, hta, rfl⟩, ifP_t ⟨k, hk1, hk2, rfl⟩, cl_nI (by omega), cl_nI (by omega)]; rw [if_neg (by omega), show k = 1 by omega, hRt.2]) (Nat.le_of_ble_eq_true rfl) (Nat.le_of_ble_eq_true rfl) dX0_pit_59
      · skip
        refine lv_aload_n hx hb dX0_pit_15 rfl (lv_at hl 0 rfl) ?_
        refine z_get (v := .ref (w 2)) hC zf_X0_27_0 hw 0 rfl rfl dX0_pit_16 ?_
        refine z_get (v := .ref (zn 0)) hC zf_X0_86_1 hw 1 rfl rfl dX0_pit_19 ?_
        refine lv_iload_n hx hb dX0_pit_22 rfl (lv_at hl 1 rfl) ?_
        refine z_bald (x := (nI (pl t))) hC hw 2 rfl (by omega) (by decide) rfl dX0_pit_23 ?_
        refine lv_goto (tgt := 59) hx hb dX0_pit_24 (by decide) ?_
        exact hend _ _ _ _ _ _ _ () hw (by unfold F_pit; rw [ifP_t ⟨t, hta, rfl⟩, ifP_t ⟨k, hk1, hk2, rfl⟩, cl_nI (by omega), cl_nI (by omega)]; rw [if_neg (by omega), show k = 0 by omega, hRt.1]; rfl) (Nat.le_of_ble_eq_true rfl) (Nat.le_of_ble_eq_true rfl) dX0_pit_59
    · skip
      have hl : lv_has ls 3 [(0, .ref co), (1, .int x), (2, .int y)] := hl
      obtain ⟨t, ht, rfl⟩ := c_5
      have hl : lv_has ls 3 [(0, .ref co), (1, .int (nI t)), (2, .int y)] := hl
      have hta : t < aV A 0 := by omega
      have ht9 : t < 9 := by omega
      have hRt := hR.1 t hta
      refine lv_iload_n hx hb dX0_pit_11 rfl (lv_at hl 2 rfl) ?_
      refine lv_if_ne (tgt := 27) hx hb dX0_pit_12 (by decide) (fun c_12 => ?_) (fun c_12 => ?_)
      · skip
        refine lv_iload_n hx hb dX0_pit_27 rfl (lv_at hl 2 rfl) ?_
        refine lv_iconst (v := (nI 1)) hx hb dX0_pit_28 zk_1 ?_
        refine lv_icmp_ne (tgt := 44) hx hb dX0_pit_29 (by decide) (fun c_29 => ?_) (fun c_29 => ?_)
        · skip
          refine lv_iload_n hx hb dX0_pit_44 rfl (lv_at hl 2 rfl) ?_
          refine lv_iconst (v := (nI 2)) hx hb dX0_pit_45 zk_2 ?_
          refine lv_icmp_ne (tgt := 57) hx hb dX0_pit_46 (by decide) (fun c_46 => ?_) (fun c_46 => ?_)
          · skip
            refine lv_bipush (v := (-3)) hx hb dX0_pit_57 zb_m3 ?_
            exact hend _ _ _ _ _ _ _ () hw (by exact ((ifP_t ⟨t, hta, rfl⟩).trans (ifP_f hy)).symm) (Nat.le_of_ble_eq_true rfl) (Nat.le_of_ble_eq_true rfl) dX0_pit_59
          · skip
            refine lv_aload_n hx hb dX0_pit_49 rfl (lv_at hl 0 rfl) ?_
            refine lv_iload_n hx hb dX0_pit_50 rfl (lv_at hl 1 rfl) ?_
            refine z_ci (z_runV (As := [.int (nI t)]) (rest := []) hC zv_X0_163 (m_X0_whoKnows G l co w mn bm sm lt zn (nI ps) (nI dy) gg kn t (by omega) (by omega) (by first | assumption | (have := hkn j; omega)) (zrem [0, 1, 4] _)) hw (hw.perm (z_cut (is := [0, 1, 4]) (cells := [(co, zo 0 (cF w (nI mn) bm sm lt)), (w 2, zo 1 (stF zn co (nI ps) (nI dy) gg)), (zn 4, zc G 2 (zI 5 (vI kn)))]) rfl rfl)) 0 rfl rfl rfl rfl rfl (Nat.le_of_ble_eq_true rfl) hl.1 ⟨Nat.le_of_ble_eq_true rfl, Nat.le_of_ble_eq_true rfl⟩ ⟨(Nat.le_of_ble_eq_true rfl), (Nat.le_of_ble_eq_true rfl)⟩ dX0_pit_51) hw (fun _ => z_keep (is := [0, 1, 4]) (cs := [(co, zo 0 (cF w (nI mn) bm sm lt)), (w 2, zo 1 (stF zn co (nI ps) (nI dy) gg)), (zn 4, zc G 2 (zI 5 (vI kn)))]) rfl rfl) (fun r u H locs hp hw => ?_)
            obtain rfl : r = nI (orB (fun i => (kn i).testBit t) mn) := hp
            refine lv_goto (tgt := 59) hx hb dX0_pit_54 (by decide) ?_
            exact hend _ _ _ _ _ _ _ () hw (by exact absurd ⟨2, by decide, by decide, c_46⟩ hy) (Nat.le_of_ble_eq_true rfl) (Nat.le_of_ble_eq_true rfl) dX0_pit_59
        · skip
          refine lv_aload_n hx hb dX0_pit_32 rfl (lv_at hl 0 rfl) ?_
          refine z_get (v := .ref (w 2)) hC zf_X0_27_0 hw 0 rfl rfl dX0_pit_33 ?_
          refine z_get (v := .ref (zn 1)) hC zf_X0_90_1 hw 1 rfl rfl dX0_pit_36 ?_
          refine lv_iload_n hx hb dX0_pit_39 rfl (lv_at hl 1 rfl) ?_
          refine z_bald (x := (nI (nu t))) hC hw 3 rfl (by omega) (by decide) rfl dX0_pit_40 ?_
          refine lv_goto (tgt := 59) hx hb dX0_pit_41 (by decide) ?_
          exact hend _ _ _ _ _ _ _ () hw (by exact absurd ⟨1, by decide, by decide, c_29⟩ hy) (Nat.le_of_ble_eq_true rfl) (Nat.le_of_ble_eq_true rfl) dX0_pit_59
      · skip
        refine lv_aload_n hx hb dX0_pit_15 rfl (lv_at hl 0 rfl) ?_
        refine z_get (v := .ref (w 2)) hC zf_X0_27_0 hw 0 rfl rfl dX0_pit_16 ?_
        refine z_get (v := .ref (zn 0)) hC zf_X0_86_1 hw 1 rfl rfl dX0_pit_19 ?_
        refine lv_iload_n hx hb dX0_pit_22 rfl (lv_at hl 1 rfl) ?_
        refine z_bald (x := (nI (pl t))) hC hw 2 rfl (by omega) (by decide) rfl dX0_pit_23 ?_
        refine lv_goto (tgt := 59) hx hb dX0_pit_24 (by decide) ?_
        exact hend _ _ _ _ _ _ _ () hw (by exact absurd ⟨0, by decide, by decide, c_12⟩ hy) (Nat.le_of_ble_eq_true rfl) (Nat.le_of_ble_eq_true rfl) dX0_pit_59
  · skip
    refine lv_bipush (v := (-2)) hx hb dX0_pit_8 zb_m2 ?_
    exact hend _ _ _ _ _ _ _ () hw (by exact (ifP_f (fun q => c_5 (by rw [hps]; exact q))).symm) (Nat.le_of_ble_eq_true rfl) (Nat.le_of_ble_eq_true rfl) dX0_pit_10
