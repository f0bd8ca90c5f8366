/-! COMPONENT: bits -/
set_option maxRecDepth 100000
def ushI (x y : Int32) : Int32 := (x.toUInt32 >>> (y.toUInt32 &&& Int32.toUInt32 31)).toInt32
def bc1 (y : Int32) : Int32 := y - (ushI y (nI 1) &&& nI 1431655765)
def bc2 (y : Int32) : Int32 := (bc1 y &&& nI 858993459) + (ushI (bc1 y) (nI 2) &&& nI 858993459)
def bc3 (y : Int32) : Int32 := (bc2 y + ushI (bc2 y) (nI 4)) &&& nI 252645135
def bc4 (y : Int32) : Int32 := bc3 y + ushI (bc3 y) (nI 8)
def bc5 (y : Int32) : Int32 := bc4 y + ushI (bc4 y) (nI 16)
theorem bc_ok : ∀ x, x < 512 → bc5 (nI x) &&& nI 63 = nI (onesN x 9) := by decide +kernel
set_option maxHeartbeats 4000000 in
theorem m_J18_bitCount (G : zE) (l : Launch) (y : Int32) (x : Nat) (hx9 : x < 512) (hy : y = nI x) (rest : va_W) : zMi G l yJ18_bitCount cJ18_bitCount 1 (some .int) 0 0 0 [.int y] (rest) (fun (r : Int32) (_ : Unit) => r = nI (onesN x 9)) (fun (_ : Unit) => rest) := by
  refine z_begI (by decide) (Nat.le_of_ble_eq_true rfl) (fun p e s m args below meth c ls Q hC hl hw hend => ?_)
  have hx := hC.hx
  have hb := hC.hb
  have hl : lv_has ls 1 [(0, .int y)] := hl
  refine lv_iload_n hx hb dJ18_bitCount_0 rfl (lv_at hl 0 rfl) ?_
  refine lv_iload_n hx hb dJ18_bitCount_1 rfl (lv_at hl 0 rfl) ?_
  refine lv_iconst (v := (nI 1)) hx hb dJ18_bitCount_2 zk_1 ?_
  refine lv_iushr (v := ushI y (nI 1)) hx hb dJ18_bitCount_3 rfl ?_
  refine lv_ldcw (v := (nI 1431655765)) hx hb hC.hown (hC.hts _ q1056) dJ18_bitCount_4 ?_
  refine lv_iand hx hb dJ18_bitCount_7 ?_
  refine lv_isub hx hb dJ18_bitCount_8 ?_
  refine lv_istore_n (lv' := [(0, .int (y - ((ushI y (nI 1)) &&& (nI 1431655765))))]) hx hb dJ18_bitCount_9 rfl hl (by decide) rfl (fun ls hl => ?_)
  have hl : lv_has ls 1 [(0, .int (bc1 y))] := by exact hl
  refine lv_iload_n hx hb dJ18_bitCount_10 rfl (lv_at hl 0 rfl) ?_
  refine lv_ldcw (v := (nI 858993459)) hx hb hC.hown (hC.hts _ q1057) dJ18_bitCount_11 ?_
  refine lv_iand hx hb dJ18_bitCount_14 ?_
  refine lv_iload_n hx hb dJ18_bitCount_15 rfl (lv_at hl 0 rfl) ?_
  refine lv_iconst (v := (nI 2)) hx hb dJ18_bitCount_16 zk_2 ?_
  refine lv_iushr (v := ushI (bc1 y) (nI 2)) hx hb dJ18_bitCount_17 rfl ?_
  refine lv_ldcw (v := (nI 858993459)) hx hb hC.hown (hC.hts _ q1057) dJ18_bitCount_18 ?_
  refine lv_iand hx hb dJ18_bitCount_21 ?_
  refine lv_iadd hx hb dJ18_bitCount_22 ?_
  refine lv_istore_n (lv' := [(0, .int (((bc1 y) &&& (nI 858993459)) + ((ushI (bc1 y) (nI 2)) &&& (nI 858993459))))]) hx hb dJ18_bitCount_23 rfl hl (by decide) rfl (fun ls hl => ?_)
  have hl : lv_has ls 1 [(0, .int (bc2 y))] := by exact hl
  refine lv_iload_n hx hb dJ18_bitCount_24 rfl (lv_at hl 0 rfl) ?_
  refine lv_iload_n hx hb dJ18_bitCount_25 rfl (lv_at hl 0 rfl) ?_
  refine lv_iconst (v := (nI 4)) hx hb dJ18_bitCount_26 zk_4 ?_
  refine lv_iushr (v := ushI (bc2 y) (nI 4)) hx hb dJ18_bitCount_27 rfl ?_
  refine lv_iadd hx hb dJ18_bitCount_28 ?_
  refine lv_ldcw (v := (nI 252645135)) hx hb hC.hown (hC.hts _ q1058) dJ18_bitCount_29 ?_
  refine lv_iand hx hb dJ18_bitCount_32 ?_
  refine lv_istore_n (lv' := [(0, .int (((bc2 y) + (ushI (bc2 y) (nI 4))) &&& (nI 252645135)))]) hx hb dJ18_bitCount_33 rfl hl (by decide) rfl (fun ls hl => ?_)
  have hl : lv_has ls 1 [(0, .int (bc3 y))] := by exact hl
  refine lv_iload_n hx hb dJ18_bitCount_34 rfl (lv_at hl 0 rfl) ?_
  refine lv_iload_n hx hb dJ18_bitCount_35 rfl (lv_at hl 0 rfl) ?_
  refine lv_bipush (v := (nI 8)) hx hb dJ18_bitCount_36 zb_8 ?_
  refine lv_iushr (v := ushI (bc3 y) (nI 8)) hx hb dJ18_bitCount_38 rfl ?_
  refine lv_iadd hx hb dJ18_bitCount_39 ?_
  refine lv_istore_n (lv' := [(0, .int ((bc3 y) + (ushI (bc3 y) (nI 8))))]) hx hb dJ18_bitCount_40 rfl hl (by decide) rfl (fun ls hl => ?_)
  have hl : lv_has ls 1 [(0, .int (bc4 y))] := by exact hl
  refine lv_iload_n hx hb dJ18_bitCount_41 rfl (lv_at hl 0 rfl) ?_
  refine lv_iload_n hx hb dJ18_bitCount_42 rfl (lv_at hl 0 rfl) ?_
  refine lv_bipush (v := (nI 16)) hx hb dJ18_bitCount_43 zb_16 ?_
  refine lv_iushr (v := ushI (bc4 y) (nI 16)) hx hb dJ18_bitCount_45 rfl ?_
  refine lv_iadd hx hb dJ18_bitCount_46 ?_
  refine lv_istore_n (lv' := [(0, .int ((bc4 y) + (ushI (bc4 y) (nI 16))))]) hx hb dJ18_bitCount_47 rfl hl (by decide) rfl (fun ls hl => ?_)
  have hl : lv_has ls 1 [(0, .int (bc5 y))] := by exact hl
  refine lv_iload_n hx hb dJ18_bitCount_48 rfl (lv_at hl 0 rfl) ?_
  refine lv_bipush (v := (nI 63)) hx hb dJ18_bitCount_49 zb_63 ?_
  refine lv_iand hx hb dJ18_bitCount_51 ?_
  exact hend _ _ _ _ _ _ _ () hw (by rw [hy]; exact bc_ok x hx9) (Nat.le_of_ble_eq_true rfl) (Nat.le_of_ble_eq_true rfl) dJ18_bitCount_52
theorem alive_c {v pl nu ax le kn : Nat → Nat} {mn : Nat} (hH : Hw v) (hR : sRel v pl nu ax le kn) (hmn : mn = v 1) : orB (fun i => decide (¬ le i = 3)) mn = aliveN v := by
  have h1 := hH.2.1
  subst hmn
  exact orB_congr (fun i hi => by rw [(hR.2.2.1 i (by omega)).1])
theorem zv_X0_225 : zVs RX0 225 yX1_alive cX1_alive 3 (some .int) 0 := ⟨lw_V q1049 q1050 q1051 q50 q1052, ⟨by decide +kernel, by decide +kernel⟩, by decide +kernel⟩
theorem zs_X0_228 : zSs RX0 228 yJ18_bitCount cJ18_bitCount 1 (some .int) 1 := ⟨lw_S q1053 q1054 q73 q1055, ⟨by decide +kernel, by decide +kernel⟩, by decide +kernel⟩
set_option maxHeartbeats 4000000 in
theorem m_X0_live (G : zE) (l : Launch) (kA : Nat → Nat) (hG : zG G kA) (co : Nat) (w : Nat → Nat) (zn : Nat → Nat) (A : AS) (ps : Nat) (mn : Nat) (dy : Nat) (bm : Int32) (sm : Int32) (lt : Int32) (gg : Int32) (pl : Nat → Nat) (nu : Nat → Nat) (ax : Nat → Nat) (le : Nat → Nat) (kn : Nat → Nat) (hA : AOk A) (hps : ps = aV A 0) (hmn : mn = aV A 1) (hdy : dy = aV A 2) (hR : sRel (aV A) pl nu ax le kn) (zr : Nat → Nat) (rps : Nat) (rdy : Nat) (rg : Int32) (rpl : Nat → Nat) (rnu : Nat → Nat) (rax : Nat → Nat) (rle : Nat → Nat) (rkn : Nat → Nat) (sf : Nat → Option Nat) (sq : Nat → Nat) (hbd : sBd rpl rnu rax rle rkn) (hsf : ∀ i, i < aV A 1 → sf i = some (sq i)) (x : Int32) (rest : va_W) : zMi G l yX0_live cX0_live 2 (some .int) 7 0 0 [.ref co, .int x] ((co, zo 0 (cF w (nI mn) bm sm lt)) :: (w 2, zo 1 (stF zn co (nI ps) (nI dy) (gg))) :: (zn 0, zc G 1 (zI 9 (vI pl))) :: (zn 1, zc G 1 (zI 9 (vI nu))) :: (zn 2, zc G 1 (zI 5 (vI ax))) :: (zn 3, zc G 1 (zI 5 (vI le))) :: (zn 4, zc G 2 (zI 5 (vI kn))) :: (w 3, zo 1 (stF zr co (nI rps) (nI rdy) (rg))) :: (zr 0, zc G 1 (zI 9 (vI rpl))) :: (zr 1, zc G 1 (zI 9 (vI rnu))) :: (zr 2, zc G 1 (zI 5 (vI rax))) :: (zr 3, zc G 1 (zI 5 (vI rle))) :: (zr 4, zc G 2 (zI 5 (vI rkn))) :: (w 0, zc G 4 (zO 5 sf)) :: (sqW sq (aV A) ++ rest)) (fun (r : Int32) u => r = F_live A x ∧ sBd u.2.2.2.1 u.2.2.2.2.1 u.2.2.2.2.2.1 u.2.2.2.2.2.2.1 u.2.2.2.2.2.2.2) (fun (u : Nat × Nat × Int32 × (Nat → Nat) × (Nat → Nat) × (Nat → Nat) × (Nat → Nat) × (Nat → Nat)) => (co, zo 0 (cF w (nI mn) bm sm lt)) :: (w 2, zo 1 (stF zn co (nI ps) (nI dy) (gg))) :: (zn 0, zc G 1 (zI 9 (vI pl))) :: (zn 1, zc G 1 (zI 9 (vI nu))) :: (zn 2, zc G 1 (zI 5 (vI ax))) :: (zn 3, zc G 1 (zI 5 (vI le))) :: (zn 4, zc G 2 (zI 5 (vI kn))) :: (w 3, zo 1 (stF zr co (nI u.1) (nI u.2.1) (u.2.2.1))) :: (zr 0, zc G 1 (zI 9 (vI u.2.2.2.1))) :: (zr 1, zc G 1 (zI 9 (vI u.2.2.2.2.1))) :: (zr 2, zc G 1 (zI 5 (vI u.2.2.2.2.2.1))) :: (zr 3, zc G 1 (zI 5 (vI u.2.2.2.2.2.2.1))) :: (zr 4, zc G 2 (zI 5 (vI u.2.2.2.2.2.2.2))) :: (w 0, zc G 4 (zO 5 sf)) :: (sqW sq (aV A) ++ rest)) := by
  refine z_begI (by decide) (Nat.le_of_ble_eq_true rfl) (fun p e s m args below meth c ls Q hC hl hw hend => ?_)
  have hx := hC.hx
  have hb := hC.hb
  have hl : lv_has ls 2 [(0, .ref co), (1, .int x)] := hl
  have hw : zS G ((co, zo 0 (cF w (nI mn) bm sm lt)) :: (w 2, zo 1 (stF zn co (nI ps) (nI dy) (gg))) :: (zn 0, zc G 1 (zI 9 (vI pl))) :: (zn 1, zc G 1 (zI 9 (vI nu))) :: (zn 2, zc G 1 (zI 5 (vI ax))) :: (zn 3, zc G 1 (zI 5 (vI le))) :: (zn 4, zc G 2 (zI 5 (vI kn))) :: (w 3, zo 1 (stF zr co (nI rps) (nI rdy) (rg))) :: (zr 0, zc G 1 (zI 9 (vI rpl))) :: (zr 1, zc G 1 (zI 9 (vI rnu))) :: (zr 2, zc G 1 (zI 5 (vI rax))) :: (zr 3, zc G 1 (zI 5 (vI rle))) :: (zr 4, zc G 2 (zI 5 (vI rkn))) :: (w 0, zc G 4 (zO 5 sf)) :: (sqW sq (aV A) ++ rest)) s s.heap [] := hw
  have hz := hG s hC.hZ.1
  have hgv := hA.2.2.1.1
  have hH : Hw (aV A) := hgv.1
  have hpl := fun j => (hR.2.2.2 j).1
  have hnu := fun j => (hR.2.2.2 j).2.1
  have hax := fun j => (hR.2.2.2 j).2.2.1
  have hle := fun j => (hR.2.2.2 j).2.2.2.1
  have hkn := fun j => (hR.2.2.2 j).2.2.2.2
  have hp9 : ps ≤ 9 := by rw [hps]; exact hH.1
  have hm5 : mn ≤ 5 := by rw [hmn]; exact hH.2.1
  have hd999 : dy ≤ 999 := by rw [hdy]; exact hA.2.2.1.2.2
  refine lv_iload_n hx hb dX0_live_0 rfl (lv_at hl 1 rfl) ?_
  refine lv_i2l (v := (iL x)) hx hb dX0_live_1 rfl ?_
  refine lv_lconst (v := lN 0) hx hb dX0_live_2 rfl ?_
  refine lv_ldc2 (v := (lN 60)) hx hb hC.hown (hC.hts _ q1031) dX0_live_3 ?_
  refine z_ci (z_runS (As := [.long (iL x), .long (lN 0), .long (lN 60)]) (rest := []) hC zs_X0_126 (m_X0_in G l x 0 60 (by decide) (by decide) _) hw rfl rfl (Nat.le_of_ble_eq_true rfl) hl.1 ⟨Nat.le_of_ble_eq_true rfl, Nat.le_of_ble_eq_true rfl⟩ ⟨(Nat.le_of_ble_eq_true rfl), (Nat.le_of_ble_eq_true rfl)⟩ dX0_live_6) hw (fun _ => List.Perm.refl _) (fun r u H locs hp hw => ?_)
  obtain rfl : r = bI (inR x 0 60) := hp
  refine zb_eq (tgt := 36) hx hb dX0_live_9 (by decide) (fun c_9 => ?_) (fun c_9 => ?_)
  · skip
    refine lv_bipush (v := (-3)) hx hb dX0_live_36 zb_m3 ?_
    exact hend _ _ _ _ _ _ _ (rps, rdy, rg, rpl, rnu, rax, rle, rkn) hw ⟨by exact (ifP_f c_9).symm, hbd⟩ (Nat.le_of_ble_eq_true rfl) (Nat.le_of_ble_eq_true rfl) dX0_live_38
  · skip
    obtain ⟨k, hk1, hk2, rfl⟩ := c_9
    have hl : lv_has ls 2 [(0, .ref co), (1, .int (nI k))] := hl
    refine lv_aload_n hx hb dX0_live_12 rfl (lv_at hl 0 rfl) ?_
    refine z_get (v := .ref (w 3)) hC zf_X0_109_0 hw 0 rfl rfl dX0_live_13 ?_
    refine lv_aload_n hx hb dX0_live_16 rfl (lv_at hl 0 rfl) ?_
    refine z_get (v := .ref (w 2)) hC zf_X0_27_0 hw 0 rfl rfl dX0_live_17 ?_
    refine z_cq (z_runV (As := [.ref (w 2)]) (rest := []) hC zv_X0_34 (m_X1_set G l (w 3) (w 2) co zr zn rps rdy ps dy rg gg rpl rnu rax rle rkn pl nu ax le kn hpl hnu hax hle hkn (zrem [7, 8, 9, 10, 11, 12, 1, 2, 3, 4, 5, 6] _)) hw (hw.perm (z_cut (is := [7, 8, 9, 10, 11, 12, 1, 2, 3, 4, 5, 6]) (cells := [(w 3, zo 1 (stF zr co (nI rps) (nI rdy) (rg))), (zr 0, zc G 1 (zI 9 (vI rpl))), (zr 1, zc G 1 (zI 9 (vI rnu))), (zr 2, zc G 1 (zI 5 (vI rax))), (zr 3, zc G 1 (zI 5 (vI rle))), (zr 4, zc G 2 (zI 5 (vI rkn))), (w 2, zo 1 (stF zn co (nI ps) (nI dy) (gg))), (zn 0, zc G 1 (zI 9 (vI pl))), (zn 1, zc G 1 (zI 9 (vI nu))), (zn 2, zc G 1 (zI 5 (vI ax))), (zn 3, zc G 1 (zI 5 (vI le))), (zn 4, zc G 2 (zI 5 (vI kn)))]) rfl rfl)) 7 rfl rfl rfl rfl rfl (Nat.le_of_ble_eq_true rfl) hl.1 ⟨Nat.le_of_ble_eq_true rfl, Nat.le_of_ble_eq_true rfl⟩ ⟨(Nat.le_of_ble_eq_true rfl), (Nat.le_of_ble_eq_true rfl)⟩ dX0_live_20) hw (fun _ => z_pput (is := [7, 8, 9, 10, 11, 12, 1, 2, 3, 4, 5, 6]) (cells := [(w 3, zo 1 (stF zr co (nI rps) (nI rdy) (rg))), (zr 0, zc G 1 (zI 9 (vI rpl))), (zr 1, zc G 1 (zI 9 (vI rnu))), (zr 2, zc G 1 (zI 5 (vI rax))), (zr 3, zc G 1 (zI 5 (vI rle))), (zr 4, zc G 2 (zI 5 (vI rkn))), (w 2, zo 1 (stF zn co (nI ps) (nI dy) (gg))), (zn 0, zc G 1 (zI 9 (vI pl))), (zn 1, zc G 1 (zI 9 (vI nu))), (zn 2, zc G 1 (zI 5 (vI ax))), (zn 3, zc G 1 (zI 5 (vI le))), (zn 4, zc G 2 (zI 5 (vI kn)))]) (cells' := [(w 3, zo 1 (stF zr co (nI ps) (nI dy) (rg))), (zr 0, zc G 1 (zI 9 (vI (cpN pl rpl 9)))), (zr 1, zc G 1 (zI 9 (vI (cpN nu rnu 9)))), (zr 2, zc G 1 (zI 5 (vI (cpN ax rax 5)))), (zr 3, zc G 1 (zI 5 (vI (cpN le rle 5)))), (zr 4, zc G 2 (zI 5 (vI (cpN kn rkn 5)))), (w 2, zo 1 (stF zn co (nI ps) (nI dy) (gg))), (zn 0, zc G 1 (zI 9 (vI pl))), (zn 1, zc G 1 (zI 9 (vI nu))), (zn 2, zc G 1 (zI 5 (vI ax))), (zn 3, zc G 1 (zI 5 (vI le))), (zn 4, zc G 2 (zI 5 (vI kn)))]) rfl rfl rfl) (fun r u H locs hp hw => ?_)
    have hw : zS G ((co, zo 0 (cF w (nI mn) bm sm lt)) :: (w 2, zo 1 (stF zn co (nI ps) (nI dy) (gg))) :: (zn 0, zc G 1 (zI 9 (vI pl))) :: (zn 1, zc G 1 (zI 9 (vI nu))) :: (zn 2, zc G 1 (zI 5 (vI ax))) :: (zn 3, zc G 1 (zI 5 (vI le))) :: (zn 4, zc G 2 (zI 5 (vI kn))) :: (w 3, zo 1 (stF zr co (nI ps) (nI dy) (rg))) :: (zr 0, zc G 1 (zI 9 (vI (cpN pl rpl 9)))) :: (zr 1, zc G 1 (zI 9 (vI (cpN nu rnu 9)))) :: (zr 2, zc G 1 (zI 5 (vI (cpN ax rax 5)))) :: (zr 3, zc G 1 (zI 5 (vI (cpN le rle 5)))) :: (zr 4, zc G 2 (zI 5 (vI (cpN kn rkn 5)))) :: (w 0, zc G 4 (zO 5 sf)) :: (sqW sq (aV A) ++ rest)) s H locs := hw
    obtain rfl : r = some (w 3) := hp
    refine lv_iload_n hx hb dX0_live_23 rfl (lv_at hl 1 rfl) ?_
    refine z_cq (z_runV (As := [.int (nI k)]) (rest := []) hC zv_X0_207 (m_X1_pass G l kA (by first | assumption | (omega)) (w 3) co zr w bm sm lt ps dy mn rg (aV A) (cpN pl rpl 9) (cpN nu rnu 9) (cpN ax rax 5) (cpN le rle 5) (cpN kn rkn 5) sf sq hps hmn hdy k (by omega) hgv (sRel_cp hH hR hbd) hsf (aV A) rfl (zrem [7, 8, 9, 10, 11, 12, 0, 13] [(co, zo 0 (cF w (nI mn) bm sm lt)), (w 2, zo 1 (stF zn co (nI ps) (nI dy) (gg))), (zn 0, zc G 1 (zI 9 (vI pl))), (zn 1, zc G 1 (zI 9 (vI nu))), (zn 2, zc G 1 (zI 5 (vI ax))), (zn 3, zc G 1 (zI 5 (vI le))), (zn 4, zc G 2 (zI 5 (vI kn))), (w 3, zo 1 (stF zr co (nI ps) (nI dy) (rg))), (zr 0, zc G 1 (zI 9 (vI (cpN pl rpl 9)))), (zr 1, zc G 1 (zI 9 (vI (cpN nu rnu 9)))), (zr 2, zc G 1 (zI 5 (vI (cpN ax rax 5)))), (zr 3, zc G 1 (zI 5 (vI (cpN le rle 5)))), (zr 4, zc G 2 (zI 5 (vI (cpN kn rkn 5)))), (w 0, zc G 4 (zO 5 sf))] ++ rest)) hw (hw.perm (z_cutP (z_cut (is := [7, 8, 9, 10, 11, 12, 0, 13]) (ws := [(co, zo 0 (cF w (nI mn) bm sm lt)), (w 2, zo 1 (stF zn co (nI ps) (nI dy) (gg))), (zn 0, zc G 1 (zI 9 (vI pl))), (zn 1, zc G 1 (zI 9 (vI nu))), (zn 2, zc G 1 (zI 5 (vI ax))), (zn 3, zc G 1 (zI 5 (vI le))), (zn 4, zc G 2 (zI 5 (vI kn))), (w 3, zo 1 (stF zr co (nI ps) (nI dy) (rg))), (zr 0, zc G 1 (zI 9 (vI (cpN pl rpl 9)))), (zr 1, zc G 1 (zI 9 (vI (cpN nu rnu 9)))), (zr 2, zc G 1 (zI 5 (vI (cpN ax rax 5)))), (zr 3, zc G 1 (zI 5 (vI (cpN le rle 5)))), (zr 4, zc G 2 (zI 5 (vI (cpN kn rkn 5)))), (w 0, zc G 4 (zO 5 sf))]) (cells := [(w 3, zo 1 (stF zr co (nI ps) (nI dy) (rg))), (zr 0, zc G 1 (zI 9 (vI (cpN pl rpl 9)))), (zr 1, zc G 1 (zI 9 (vI (cpN nu rnu 9)))), (zr 2, zc G 1 (zI 5 (vI (cpN ax rax 5)))), (zr 3, zc G 1 (zI 5 (vI (cpN le rle 5)))), (zr 4, zc G 2 (zI 5 (vI (cpN kn rkn 5)))), (co, zo 0 (cF w (nI mn) bm sm lt)), (w 0, zc G 4 (zO 5 sf))]) rfl rfl))) 7 rfl rfl rfl rfl rfl (Nat.le_of_ble_eq_true rfl) hl.1 ⟨Nat.le_of_ble_eq_true rfl, Nat.le_of_ble_eq_true rfl⟩ ⟨(Nat.le_of_ble_eq_true rfl), (Nat.le_of_ble_eq_true rfl)⟩ dX0_live_24) hw (fun u => z_putP (z_pput (is := [7, 8, 9, 10, 11, 12, 0, 13]) (ws := [(co, zo 0 (cF w (nI mn) bm sm lt)), (w 2, zo 1 (stF zn co (nI ps) (nI dy) (gg))), (zn 0, zc G 1 (zI 9 (vI pl))), (zn 1, zc G 1 (zI 9 (vI nu))), (zn 2, zc G 1 (zI 5 (vI ax))), (zn 3, zc G 1 (zI 5 (vI le))), (zn 4, zc G 2 (zI 5 (vI kn))), (w 3, zo 1 (stF zr co (nI ps) (nI dy) (rg))), (zr 0, zc G 1 (zI 9 (vI (cpN pl rpl 9)))), (zr 1, zc G 1 (zI 9 (vI (cpN nu rnu 9)))), (zr 2, zc G 1 (zI 5 (vI (cpN ax rax 5)))), (zr 3, zc G 1 (zI 5 (vI (cpN le rle 5)))), (zr 4, zc G 2 (zI 5 (vI (cpN kn rkn 5)))), (w 0, zc G 4 (zO 5 sf))]) (cells := [(w 3, zo 1 (stF zr co (nI ps) (nI dy) (rg))), (zr 0, zc G 1 (zI 9 (vI (cpN pl rpl 9)))), (zr 1, zc G 1 (zI 9 (vI (cpN nu rnu 9)))), (zr 2, zc G 1 (zI 5 (vI (cpN ax rax 5)))), (zr 3, zc G 1 (zI 5 (vI (cpN le rle 5)))), (zr 4, zc G 2 (zI 5 (vI (cpN kn rkn 5)))), (co, zo 0 (cF w (nI mn) bm sm lt)), (w 0, zc G 4 (zO 5 sf))]) (cells' := [(w 3, zo 1 (stF zr co (nI ps) (nI (dy + k)) (u.2.2.2.2))), (zr 0, zc G 1 (zI 9 (vI (cpN pl rpl 9)))), (zr 1, zc G 1 (zI 9 (vI u.1))), (zr 2, zc G 1 (zI 5 (vI u.2.1))), (zr 3, zc G 1 (zI 5 (vI u.2.2.1))), (zr 4, zc G 2 (zI 5 (vI u.2.2.2.1))), (co, zo 0 (cF w (nI mn) bm sm lt)), (w 0, zc G 4 (zO 5 sf))]) rfl rfl rfl)) (fun r u H locs hp hw => ?_)
    obtain ⟨nu6, ax6, le6, kn6, gg6⟩ := u
    have hw : zS G ((co, zo 0 (cF w (nI mn) bm sm lt)) :: (w 2, zo 1 (stF zn co (nI ps) (nI dy) (gg))) :: (zn 0, zc G 1 (zI 9 (vI pl))) :: (zn 1, zc G 1 (zI 9 (vI nu))) :: (zn 2, zc G 1 (zI 5 (vI ax))) :: (zn 3, zc G 1 (zI 5 (vI le))) :: (zn 4, zc G 2 (zI 5 (vI kn))) :: (w 3, zo 1 (stF zr co (nI ps) (nI (dy + k)) (gg6))) :: (zr 0, zc G 1 (zI 9 (vI (cpN pl rpl 9)))) :: (zr 1, zc G 1 (zI 9 (vI nu6))) :: (zr 2, zc G 1 (zI 5 (vI ax6))) :: (zr 3, zc G 1 (zI 5 (vI le6))) :: (zr 4, zc G 2 (zI 5 (vI kn6))) :: (w 0, zc G 4 (zO 5 sf)) :: (sqW sq (aV A) ++ rest)) s H locs := hw
    obtain ⟨rfl, hdR⟩ := hp
    have hdi := daysN_inv hH k (show aV A 2 + k < 65535 by omega)
    have hd1 : daysN k (aV A) 1 = aV A 1 := hdi.2.2 1 still_1
    have hd0 : daysN k (aV A) 0 = aV A 0 := hdi.2.2 0 still_0
    refine z_ci (z_runV (As := []) (rest := []) hC zv_X0_225 (m_X1_alive G l kA (by first | assumption | (omega)) (w 3) co zr w bm sm lt ps (dy + k) gg6 mn le6 hm5 (fun j => (hdR.2.2.2 j).2.2.2.1) (zrem [7, 11, 0] _)) hw (hw.perm (z_cut (is := [7, 11, 0]) (cells := [(w 3, zo 1 (stF zr co (nI ps) (nI (dy + k)) gg6)), (zr 3, zc G 1 (zI 5 (vI le6))), (co, zo 0 (cF w (nI mn) bm sm lt))]) rfl rfl)) 7 rfl rfl rfl rfl rfl (Nat.le_of_ble_eq_true rfl) hl.1 ⟨Nat.le_of_ble_eq_true rfl, Nat.le_of_ble_eq_true rfl⟩ ⟨(Nat.le_of_ble_eq_true rfl), (Nat.le_of_ble_eq_true rfl)⟩ dX0_live_27) hw (fun _ => z_keep (is := [7, 11, 0]) (cs := [(w 3, zo 1 (stF zr co (nI ps) (nI (dy + k)) gg6)), (zr 3, zc G 1 (zI 5 (vI le6))), (co, zo 0 (cF w (nI mn) bm sm lt))]) rfl rfl) (fun r u H locs hp hw => ?_)
    obtain rfl : r = nI (orB (fun i => decide (¬ le6 i = 3)) mn) := hp
    refine z_ci (z_runS (As := [.int (nI (orB (fun i => decide (¬ le6 i = 3)) mn))]) (rest := []) hC zs_X0_228 (m_J18_bitCount G l (nI (orB (fun i => decide (¬ le6 i = 3)) mn)) (orB (fun i => decide (¬ le6 i = 3)) mn) (orB_512 (by omega)) rfl _) hw rfl rfl (Nat.le_of_ble_eq_true rfl) hl.1 ⟨Nat.le_of_ble_eq_true rfl, Nat.le_of_ble_eq_true rfl⟩ ⟨(Nat.le_of_ble_eq_true rfl), (Nat.le_of_ble_eq_true rfl)⟩ dX0_live_30) hw (fun _ => List.Perm.refl _) (fun r u H locs hp hw => ?_)
    obtain rfl : r = nI (onesN (orB (fun i => decide (¬ le6 i = 3)) mn) 9) := hp
    refine lv_goto (tgt := 38) hx hb dX0_live_33 (by decide) ?_
    exact hend _ _ _ _ _ _ _ (ps, dy + k, gg6, (cpN pl rpl 9), nu6, ax6, le6, kn6) hw ⟨by unfold F_live liveN; rw [ifP_t ⟨k, hk1, hk2, rfl⟩, cl_nI (by omega), alive_c (daysN_Hg hgv k (by omega)).1 hdR (hmn.trans hd1.symm)], hdR.2.2.2⟩ (Nat.le_of_ble_eq_true rfl) (Nat.le_of_ble_eq_true rfl) dX0_live_38
