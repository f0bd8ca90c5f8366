/-! COMPONENT: states -/
set_option maxRecDepth 100000
/-- a state's arrays hold the hedge v -/
def sRel (v pl nu ax le kn : Nat → Nat) : Prop := (∀ t, t < v 0 → pl t = v (3 + 2 * t) ∧ nu t = v (3 + 2 * t + 1)) ∧ (∀ i, i < v 1 → ax i = v (21 + 5 * i + 1)) ∧ (∀ i, i < 5 → le i = v (21 + 5 * i + 3) ∧ kn i = v (21 + 5 * i + 4)) ∧ ∀ j, pl j < 128 ∧ nu j < 128 ∧ ax j < 128 ∧ le j < 128 ∧ kn j < 512
theorem fitB {f : Nat → Nat} (h : ∀ j, f j < 128) (j : Nat) : fits .byte (.int (vI f j)) = true := by
  show fits .byte (.int (nI (f j))) = true
  rw [← nI_inj8 (f j) (h j)]; exact pk_fb _
theorem fitS {f : Nat → Nat} (h : ∀ j, f j < 512) (j : Nat) : fits .short (.int (vI f j)) = true := by
  show fits .short (.int (nI (f j))) = true
  rw [← zi2s (show f j < 32768 by have := h j; omega)]; exact pk_fs _
def cpN (f g : Nat → Nat) (n : Nat) : Nat → Nat := fun j => if j < n then f j else g j
theorem cpN_v (f g : Nat → Nat) (n : Nat) : va_cpy (vI f) (vI g) 0 0 n = vI (cpN f g n) := by
  funext j
  unfold va_cpy vI cpN
  by_cases h : j < n
  · rw [if_pos ⟨by omega, by omega⟩, if_pos h]; congr 2; omega
  · rw [if_neg (by omega), if_neg h]
theorem cpN_lt {f g : Nat → Nat} {n b : Nat} (hf : ∀ j, f j < b) (hg : ∀ j, g j < b) (j : Nat) : cpN f g n j < b := by
  unfold cpN; split
  · exact hf j
  · exact hg j
theorem sRel_cp {v pl nu ax le kn pl' nu' ax' le' kn' : Nat → Nat} (hv : Hw v) (h : sRel v pl nu ax le kn) (h' : ∀ j, pl' j < 128 ∧ nu' j < 128 ∧ ax' j < 128 ∧ le' j < 128 ∧ kn' j < 512) : sRel v (cpN pl pl' 9) (cpN nu nu' 9) (cpN ax ax' 5) (cpN le le' 5) (cpN kn kn' 5) := by
  have h0 := hv.1
  have h1 := hv.2.1
  refine ⟨fun t ht => ?_, fun i hi => ?_, fun i hi => ?_, fun j => ⟨cpN_lt (fun j => (h.2.2.2 j).1) (fun j => (h' j).1) j, cpN_lt (fun j => (h.2.2.2 j).2.1) (fun j => (h' j).2.1) j, cpN_lt (fun j => (h.2.2.2 j).2.2.1) (fun j => (h' j).2.2.1) j, cpN_lt (fun j => (h.2.2.2 j).2.2.2.1) (fun j => (h' j).2.2.2.1) j, cpN_lt (fun j => (h.2.2.2 j).2.2.2.2) (fun j => (h' j).2.2.2.2) j⟩⟩
  · unfold cpN; rw [if_pos (by omega), if_pos (by omega)]; exact h.1 t ht
  · unfold cpN; rw [if_pos (by omega)]; exact h.2.1 i hi
  · unfold cpN; rw [if_pos hi, if_pos hi]; exact h.2.2.1 i hi
/-- where the squirrels lie: the row's places -/
def sqOk (v : Nat → Nat) (sf : Nat → Option Nat) (sq : Nat → Nat) : Prop := ∀ i, i < v 1 → sf i = some (sq i)
theorem zf_X1_25_1 : zFl 1 4 RX1 25 true (.array .byte) := ⟨RX1, TX1, 9, tyX1, rfl, by decide, in_X1, q121, rfl, by decide +kernel, tyX1_ok, nmX1⟩
set_option maxHeartbeats 4000000 in
theorem m_X1_isGone (G : zE) (l : Launch) (st : Nat) (co : Nat) (z : Nat → Nat) (ps : Nat) (dy : Nat) (gg : Int32) (le : Nat → Nat) (i : Nat) (hi : i < 5) (hle : ∀ j, le j < 128) (rest : va_W) : zMi G l yX1_isGone cX1_isGone 2 (some .boolean) 0 0 0 [.ref st, .int (nI i)] ((st, zo 1 (stF z co (nI ps) (nI dy) gg)) :: (z 3, zc G 1 (zI 5 (vI le))) :: rest) (fun (r : Int32) (_ : Unit) => r = bI (le i = 3)) (fun (_ : Unit) => (st, zo 1 (stF z co (nI ps) (nI dy) gg)) :: (z 3, zc G 1 (zI 5 (vI le))) :: rest) := by
  refine z_begZ (by decide) (Nat.le_of_ble_eq_true rfl) (fun p e s m args below meth c ls Q hC hl hw hend => ?_)
  have hx := hC.hx
  have hb := hC.hb
  have hl : lv_has ls 2 [(0, .ref st), (1, .int (nI i))] := hl
  have hw : zS G ((st, zo 1 (stF z co (nI ps) (nI dy) gg)) :: (z 3, zc G 1 (zI 5 (vI le))) :: rest) s s.heap [] := hw
  refine lv_aload_n hx hb dX1_isGone_0 rfl (lv_at hl 0 rfl) ?_
  refine z_get (v := .ref (z 3)) hC zf_X1_25_1 hw 0 rfl rfl dX1_isGone_1 ?_
  refine lv_iload_n hx hb dX1_isGone_4 rfl (lv_at hl 1 rfl) ?_
  refine z_bald (x := (nI (le i))) hC hw 1 rfl (by omega) (by decide) rfl dX1_isGone_5 ?_
  refine lv_iconst (v := (nI 3)) hx hb dX1_isGone_6 zk_3 ?_
  refine zi_ne (tgt := 14) hx hb (by have := hle i; omega) (by decide) dX1_isGone_7 (by decide) (fun c_7 => ?_) (fun c_7 => ?_)
  · skip
    refine lv_iconst (v := (nI 0)) hx hb dX1_isGone_14 zk_0 ?_
    exact hend _ _ _ _ _ _ _ () rfl hw (bI_f (by first | assumption | omega | simp_all)).symm (Nat.le_of_ble_eq_true rfl) (Nat.le_of_ble_eq_true rfl) dX1_isGone_15
  · skip
    refine lv_iconst (v := (nI 1)) hx hb dX1_isGone_10 zk_1 ?_
    refine lv_goto (tgt := 15) hx hb dX1_isGone_11 (by decide) ?_
    exact hend _ _ _ _ _ _ _ () rfl hw (bI_t (by first | assumption | omega | simp_all)).symm (Nat.le_of_ble_eq_true rfl) (Nat.le_of_ble_eq_true rfl) dX1_isGone_15
theorem zf_X1_22_1 : zFl 1 3 RX1 22 true (.array .byte) := ⟨RX1, TX1, 9, tyX1, rfl, by decide, in_X1, q119, rfl, by decide +kernel, tyX1_ok, nmX1⟩
theorem zf_X1_15_1 : zFl 1 0 RX1 15 true (.array .byte) := ⟨RX1, TX1, 9, tyX1, rfl, by decide, in_X1, q112, rfl, by decide +kernel, tyX1_ok, nmX1⟩
theorem zm_abs : Cond.static Lib.Math.abs.name ∈ lw_all ∧ Cond.initialized "java/lang/Math" ∈ lw_all ∧ Cond.code Lib.Math.abs.name Lib.Math.abs.code 1 (some .int) ∈ lw_all := ⟨q957, q60, q958⟩
set_option maxHeartbeats 4000000 in
theorem m_X1_off (G : zE) (l : Launch) (st : Nat) (co : Nat) (z : Nat → Nat) (ps : Nat) (dy : Nat) (gg : Int32) (ax : Nat → Nat) (pl : Nat → Nat) (i : Nat) (t : Nat) (hi : i < 5) (ht : t < 9) (hax : ∀ j, ax j < 128) (hpl : ∀ j, pl j < 128) (rest : va_W) : zMi G l yX1_off cX1_off 3 (some .int) 1 0 0 [.ref st, .int (nI i), .int (nI t)] ((st, zo 1 (stF z co (nI ps) (nI dy) gg)) :: (z 0, zc G 1 (zI 9 (vI pl))) :: (z 2, zc G 1 (zI 5 (vI ax))) :: rest) (fun (r : Int32) (_ : Unit) => r = nI (apartN (ax i) (pl t))) (fun (_ : Unit) => (st, zo 1 (stF z co (nI ps) (nI dy) gg)) :: (z 0, zc G 1 (zI 9 (vI pl))) :: (z 2, zc G 1 (zI 5 (vI ax))) :: rest) := by
  refine z_begI (by decide) (Nat.le_of_ble_eq_true rfl) (fun p e s m args below meth c ls Q hC hl hw hend => ?_)
  have hx := hC.hx
  have hb := hC.hb
  have hl : lv_has ls 3 [(0, .ref st), (1, .int (nI i)), (2, .int (nI t))] := hl
  have hw : zS G ((st, zo 1 (stF z co (nI ps) (nI dy) gg)) :: (z 0, zc G 1 (zI 9 (vI pl))) :: (z 2, zc G 1 (zI 5 (vI ax))) :: rest) s s.heap [] := hw
  refine lv_aload_n hx hb dX1_off_0 rfl (lv_at hl 0 rfl) ?_
  refine z_get (v := .ref (z 2)) hC zf_X1_22_1 hw 0 rfl rfl dX1_off_1 ?_
  refine lv_iload_n hx hb dX1_off_4 rfl (lv_at hl 1 rfl) ?_
  refine z_bald (x := (nI (ax i))) hC hw 2 rfl (by omega) (by decide) rfl dX1_off_5 ?_
  refine lv_aload_n hx hb dX1_off_6 rfl (lv_at hl 0 rfl) ?_
  refine z_get (v := .ref (z 0)) hC zf_X1_15_1 hw 0 rfl rfl dX1_off_7 ?_
  refine lv_iload_n hx hb dX1_off_10 rfl (lv_at hl 2 rfl) ?_
  refine z_bald (x := (nI (pl t))) hC hw 1 rfl (by omega) (by decide) rfl dX1_off_11 ?_
  refine zv_isub (v := (nI (ax i) - nI (pl t))) hx hb rfl dX1_off_12 ?_
  refine z_mabs (v := nI (apartN (ax i) (pl t))) hC hl.1 q956 zm_abs (zm_abs_d (by have := hax i; omega) (by have := hpl t; omega)) (Nat.le_of_ble_eq_true rfl) ⟨Nat.le_of_ble_eq_true rfl, Nat.le_of_ble_eq_true rfl⟩ (Nat.le_of_ble_eq_true rfl) (Nat.le_of_ble_eq_true rfl) dX1_off_13 ?_
  exact hend _ _ _ _ _ _ _ () hw (by first | rfl | simp_all) (Nat.le_of_ble_eq_true rfl) (Nat.le_of_ble_eq_true rfl) dX1_off_16
theorem zf_X0_21_0 : zFl 0 0 RX0 21 true (.array (.object "java/lang/Object")) := ⟨RX0, TX0, 13, tyX0, rfl, by decide, in_X0, q170, rfl, by decide +kernel, tyX0_ok, nmX0⟩
set_option maxHeartbeats 4000000 in
theorem m_X0_squirrel_2 (G : zE) (l : Launch) (kA : Nat → Nat) (hG : zG G kA) (co : Nat) (w : Nat → Nat) (bm : Int32) (sm : Int32) (lt : Int32) (mn : Nat) (sf : Nat → Option Nat) (oq : Nat) (kd : Nat) (nd : Nat) (nm : Int32) (i : Nat) (hi : i < 5) (hkd : kd < 5) (hsf : sf i = some oq) (rest : va_W) : zMq G l yX0_squirrel_2 cX0_squirrel_2 2 (some (.object "NutCaches$Squirrel")) 0 0 0 [.ref co, .int (nI i)] ((co, zo 0 (cF w (nI mn) bm sm lt)) :: (w 0, zc G 4 (zO 5 sf)) :: (oq, zo (5 + kd) (sqF nm (nI nd))) :: rest) (fun (r : Option Nat) (_ : Unit) => r = some oq) (fun (_ : Unit) => (co, zo 0 (cF w (nI mn) bm sm lt)) :: (w 0, zc G 4 (zO 5 sf)) :: (oq, zo (5 + kd) (sqF nm (nI nd))) :: rest) := by
  refine z_begQ (by first | exact Or.inl ⟨_, rfl⟩ | exact Or.inr ⟨_, rfl⟩) (by decide) (Nat.le_of_ble_eq_true rfl) (fun p e s m args below meth c ls Q hC hl hw hend => ?_)
  have hx := hC.hx
  have hb := hC.hb
  have hl : lv_has ls 2 [(0, .ref co), (1, .int (nI i))] := hl
  have hw : zS G ((co, zo 0 (cF w (nI mn) bm sm lt)) :: (w 0, zc G 4 (zO 5 sf)) :: (oq, zo (5 + kd) (sqF nm (nI nd))) :: rest) s s.heap [] := hw
  have hz := hG s hC.hZ.1
  refine lv_aload_n hx hb dX0_squirrel_2_0 rfl (lv_at hl 0 rfl) ?_
  refine z_get (v := .ref (w 0)) hC zf_X0_21_0 hw 0 rfl rfl dX0_squirrel_2_1 ?_
  refine lv_iload_n hx hb dX0_squirrel_2_4 rfl (lv_at hl 1 rfl) ?_
  refine z_aald (x := .ref oq) (t := 4) hC hw 1 rfl (fun _ => rfl) (by omega) (by decide) (congrArg va_rf hsf) dX0_squirrel_2_5 ?_
  refine z_castS hC q836 hz hw 2 rfl (by omega) dX0_squirrel_2_6 ?_
  exact hend _ _ _ _ _ _ (some oq) () hw rfl (Nat.le_of_ble_eq_true rfl) (Nat.le_of_ble_eq_true rfl) dX0_squirrel_2_9
theorem zNat_ok : zNat := ⟨q166, q165, q51⟩
theorem zf_X1_19_1 : zFl 1 1 RX1 19 true (.array .byte) := ⟨RX1, TX1, 9, tyX1, rfl, by decide, in_X1, q114, rfl, by decide +kernel, tyX1_ok, nmX1⟩
theorem zf_X1_38_1 : zFl 1 2 RX1 38 false .int := ⟨RX1, TX1, 9, tyX1, rfl, by decide, in_X1, q117, rfl, by decide +kernel, tyX1_ok, nmX1⟩
theorem zf_X1_28_1 : zFl 1 5 RX1 28 true (.array .short) := ⟨RX1, TX1, 9, tyX1, rfl, by decide, in_X1, q123, rfl, by decide +kernel, tyX1_ok, nmX1⟩
theorem zf_X1_42_1 : zFl 1 6 RX1 42 false .int := ⟨RX1, TX1, 9, tyX1, rfl, by decide, in_X1, q125, rfl, by decide +kernel, tyX1_ok, nmX1⟩
set_option maxHeartbeats 4000000 in
theorem m_X1_set (G : zE) (l : Launch) (st : Nat) (s2 : Nat) (co : Nat) (z : Nat → Nat) (z2 : Nat → Nat) (ps : Nat) (dy : Nat) (ps2 : Nat) (dy2 : Nat) (gg : Int32) (gg2 : Int32) (pl : Nat → Nat) (nu : Nat → Nat) (ax : Nat → Nat) (le : Nat → Nat) (kn : Nat → Nat) (pl2 : Nat → Nat) (nu2 : Nat → Nat) (ax2 : Nat → Nat) (le2 : Nat → Nat) (kn2 : Nat → Nat) (hpl2 : ∀ j, pl2 j < 128) (hnu2 : ∀ j, nu2 j < 128) (hax2 : ∀ j, ax2 j < 128) (hle2 : ∀ j, le2 j < 128) (hkn2 : ∀ j, kn2 j < 512) (rest : va_W) : zMq G l yX1_set cX1_set 2 (some (.object "NutCaches$State")) 1 0 0 [.ref st, .ref s2] ((st, zo 1 (stF z co (nI ps) (nI dy) (gg))) :: (z 0, zc G 1 (zI 9 (vI pl))) :: (z 1, zc G 1 (zI 9 (vI nu))) :: (z 2, zc G 1 (zI 5 (vI ax))) :: (z 3, zc G 1 (zI 5 (vI le))) :: (z 4, zc G 2 (zI 5 (vI kn))) :: (s2, zo 1 (stF z2 co (nI ps2) (nI dy2) (gg2))) :: (z2 0, zc G 1 (zI 9 (vI pl2))) :: (z2 1, zc G 1 (zI 9 (vI nu2))) :: (z2 2, zc G 1 (zI 5 (vI ax2))) :: (z2 3, zc G 1 (zI 5 (vI le2))) :: (z2 4, zc G 2 (zI 5 (vI kn2))) :: rest) (fun (r : Option Nat) (_ : Unit) => r = some st) (fun (_ : Unit) => (st, zo 1 (stF z co (nI ps2) (nI dy2) (gg))) :: (z 0, zc G 1 (zI 9 (vI (cpN pl2 pl 9)))) :: (z 1, zc G 1 (zI 9 (vI (cpN nu2 nu 9)))) :: (z 2, zc G 1 (zI 5 (vI (cpN ax2 ax 5)))) :: (z 3, zc G 1 (zI 5 (vI (cpN le2 le 5)))) :: (z 4, zc G 2 (zI 5 (vI (cpN kn2 kn 5)))) :: (s2, zo 1 (stF z2 co (nI ps2) (nI dy2) (gg2))) :: (z2 0, zc G 1 (zI 9 (vI pl2))) :: (z2 1, zc G 1 (zI 9 (vI nu2))) :: (z2 2, zc G 1 (zI 5 (vI ax2))) :: (z2 3, zc G 1 (zI 5 (vI le2))) :: (z2 4, zc G 2 (zI 5 (vI kn2))) :: rest) := by
  refine z_begQ (by first | exact Or.inl ⟨_, rfl⟩ | exact Or.inr ⟨_, rfl⟩) (by decide) (Nat.le_of_ble_eq_true rfl) (fun p e s m args below meth c ls Q hC hl hw hend => ?_)
  have hx := hC.hx
  have hb := hC.hb
  have hl : lv_has ls 2 [(0, .ref st), (1, .ref s2)] := hl
  have hw : zS G ((st, zo 1 (stF z co (nI ps) (nI dy) (gg))) :: (z 0, zc G 1 (zI 9 (vI pl))) :: (z 1, zc G 1 (zI 9 (vI nu))) :: (z 2, zc G 1 (zI 5 (vI ax))) :: (z 3, zc G 1 (zI 5 (vI le))) :: (z 4, zc G 2 (zI 5 (vI kn))) :: (s2, zo 1 (stF z2 co (nI ps2) (nI dy2) (gg2))) :: (z2 0, zc G 1 (zI 9 (vI pl2))) :: (z2 1, zc G 1 (zI 9 (vI nu2))) :: (z2 2, zc G 1 (zI 5 (vI ax2))) :: (z2 3, zc G 1 (zI 5 (vI le2))) :: (z2 4, zc G 2 (zI 5 (vI kn2))) :: rest) s s.heap [] := hw
  refine lv_aload_n hx hb dX1_set_0 rfl (lv_at hl 1 rfl) ?_
  refine z_get (v := .ref (z2 0)) hC zf_X1_15_1 hw 6 rfl rfl dX1_set_1 ?_
  refine lv_iconst (v := (nI 0)) hx hb dX1_set_4 zk_0 ?_
  refine lv_aload_n hx hb dX1_set_5 rfl (lv_at hl 0 rfl) ?_
  refine z_get (v := .ref (z 0)) hC zf_X1_15_1 hw 0 rfl rfl dX1_set_6 ?_
  refine lv_iconst (v := (nI 0)) hx hb dX1_set_9 zk_0 ?_
  refine lv_bipush (v := (nI 9)) hx hb dX1_set_10 zb_9 ?_
  refine z_copyI (t := 1) (h := vI (cpN pl2 pl 9)) hC hl.1 q164 zNat_ok hw 7 1 rfl rfl (fun _ => rfl) rfl (by omega) (by omega) (by decide) (by decide) (fun i _ => fitB hpl2 _) (cpN_v pl2 pl 9) (Nat.le_of_ble_eq_true rfl) ⟨Nat.le_of_ble_eq_true rfl, Nat.le_of_ble_eq_true rfl⟩ dX1_set_12 (fun H locs hw => ?_)
  have hw : zS G ((st, zo 1 (stF z co (nI ps) (nI dy) (gg))) :: (z 0, zc G 1 (zI 9 (vI (cpN pl2 pl 9)))) :: (z 1, zc G 1 (zI 9 (vI nu))) :: (z 2, zc G 1 (zI 5 (vI ax))) :: (z 3, zc G 1 (zI 5 (vI le))) :: (z 4, zc G 2 (zI 5 (vI kn))) :: (s2, zo 1 (stF z2 co (nI ps2) (nI dy2) (gg2))) :: (z2 0, zc G 1 (zI 9 (vI pl2))) :: (z2 1, zc G 1 (zI 9 (vI nu2))) :: (z2 2, zc G 1 (zI 5 (vI ax2))) :: (z2 3, zc G 1 (zI 5 (vI le2))) :: (z2 4, zc G 2 (zI 5 (vI kn2))) :: rest) s H locs := hw
  refine lv_aload_n hx hb dX1_set_15 rfl (lv_at hl 1 rfl) ?_
  refine z_get (v := .ref (z2 1)) hC zf_X1_19_1 hw 6 rfl rfl dX1_set_16 ?_
  refine lv_iconst (v := (nI 0)) hx hb dX1_set_19 zk_0 ?_
  refine lv_aload_n hx hb dX1_set_20 rfl (lv_at hl 0 rfl) ?_
  refine z_get (v := .ref (z 1)) hC zf_X1_19_1 hw 0 rfl rfl dX1_set_21 ?_
  refine lv_iconst (v := (nI 0)) hx hb dX1_set_24 zk_0 ?_
  refine lv_bipush (v := (nI 9)) hx hb dX1_set_25 zb_9 ?_
  refine z_copyI (t := 1) (h := vI (cpN nu2 nu 9)) hC hl.1 q164 zNat_ok hw 8 2 rfl rfl (fun _ => rfl) rfl (by omega) (by omega) (by decide) (by decide) (fun i _ => fitB hnu2 _) (cpN_v nu2 nu 9) (Nat.le_of_ble_eq_true rfl) ⟨Nat.le_of_ble_eq_true rfl, Nat.le_of_ble_eq_true rfl⟩ dX1_set_27 (fun H locs hw => ?_)
  have hw : zS G ((st, zo 1 (stF z co (nI ps) (nI dy) (gg))) :: (z 0, zc G 1 (zI 9 (vI (cpN pl2 pl 9)))) :: (z 1, zc G 1 (zI 9 (vI (cpN nu2 nu 9)))) :: (z 2, zc G 1 (zI 5 (vI ax))) :: (z 3, zc G 1 (zI 5 (vI le))) :: (z 4, zc G 2 (zI 5 (vI kn))) :: (s2, zo 1 (stF z2 co (nI ps2) (nI dy2) (gg2))) :: (z2 0, zc G 1 (zI 9 (vI pl2))) :: (z2 1, zc G 1 (zI 9 (vI nu2))) :: (z2 2, zc G 1 (zI 5 (vI ax2))) :: (z2 3, zc G 1 (zI 5 (vI le2))) :: (z2 4, zc G 2 (zI 5 (vI kn2))) :: rest) s H locs := hw
  refine lv_aload_n hx hb dX1_set_30 rfl (lv_at hl 0 rfl) ?_
  refine lv_aload_n hx hb dX1_set_31 rfl (lv_at hl 1 rfl) ?_
  refine z_get (v := .int (nI ps2)) hC zf_X1_38_1 hw 6 rfl rfl dX1_set_32 ?_
  refine z_puti hC zf_X1_38_1 hw 0 rfl (Nat.le_of_ble_eq_true rfl) dX1_set_35 (fun H locs hw => ?_)
  have hw : zS G ((st, zo 1 (stF z co (nI ps2) (nI dy) gg)) :: (z 0, zc G 1 (zI 9 (vI (cpN pl2 pl 9)))) :: (z 1, zc G 1 (zI 9 (vI (cpN nu2 nu 9)))) :: (z 2, zc G 1 (zI 5 (vI ax))) :: (z 3, zc G 1 (zI 5 (vI le))) :: (z 4, zc G 2 (zI 5 (vI kn))) :: (s2, zo 1 (stF z2 co (nI ps2) (nI dy2) (gg2))) :: (z2 0, zc G 1 (zI 9 (vI pl2))) :: (z2 1, zc G 1 (zI 9 (vI nu2))) :: (z2 2, zc G 1 (zI 5 (vI ax2))) :: (z2 3, zc G 1 (zI 5 (vI le2))) :: (z2 4, zc G 2 (zI 5 (vI kn2))) :: rest) s H locs := hw
  refine lv_aload_n hx hb dX1_set_38 rfl (lv_at hl 1 rfl) ?_
  refine z_get (v := .ref (z2 2)) hC zf_X1_22_1 hw 6 rfl rfl dX1_set_39 ?_
  refine lv_iconst (v := (nI 0)) hx hb dX1_set_42 zk_0 ?_
  refine lv_aload_n hx hb dX1_set_43 rfl (lv_at hl 0 rfl) ?_
  refine z_get (v := .ref (z 2)) hC zf_X1_22_1 hw 0 rfl rfl dX1_set_44 ?_
  refine lv_iconst (v := (nI 0)) hx hb dX1_set_47 zk_0 ?_
  refine lv_iconst (v := (nI 5)) hx hb dX1_set_48 zk_5 ?_
  refine z_copyI (t := 1) (h := vI (cpN ax2 ax 5)) hC hl.1 q164 zNat_ok hw 9 3 rfl rfl (fun _ => rfl) rfl (by omega) (by omega) (by decide) (by decide) (fun i _ => fitB hax2 _) (cpN_v ax2 ax 5) (Nat.le_of_ble_eq_true rfl) ⟨Nat.le_of_ble_eq_true rfl, Nat.le_of_ble_eq_true rfl⟩ dX1_set_49 (fun H locs hw => ?_)
  have hw : zS G ((st, zo 1 (stF z co (nI ps2) (nI dy) gg)) :: (z 0, zc G 1 (zI 9 (vI (cpN pl2 pl 9)))) :: (z 1, zc G 1 (zI 9 (vI (cpN nu2 nu 9)))) :: (z 2, zc G 1 (zI 5 (vI (cpN ax2 ax 5)))) :: (z 3, zc G 1 (zI 5 (vI le))) :: (z 4, zc G 2 (zI 5 (vI kn))) :: (s2, zo 1 (stF z2 co (nI ps2) (nI dy2) (gg2))) :: (z2 0, zc G 1 (zI 9 (vI pl2))) :: (z2 1, zc G 1 (zI 9 (vI nu2))) :: (z2 2, zc G 1 (zI 5 (vI ax2))) :: (z2 3, zc G 1 (zI 5 (vI le2))) :: (z2 4, zc G 2 (zI 5 (vI kn2))) :: rest) s H locs := hw
  refine lv_aload_n hx hb dX1_set_52 rfl (lv_at hl 1 rfl) ?_
  refine z_get (v := .ref (z2 3)) hC zf_X1_25_1 hw 6 rfl rfl dX1_set_53 ?_
  refine lv_iconst (v := (nI 0)) hx hb dX1_set_56 zk_0 ?_
  refine lv_aload_n hx hb dX1_set_57 rfl (lv_at hl 0 rfl) ?_
  refine z_get (v := .ref (z 3)) hC zf_X1_25_1 hw 0 rfl rfl dX1_set_58 ?_
  refine lv_iconst (v := (nI 0)) hx hb dX1_set_61 zk_0 ?_
  refine lv_iconst (v := (nI 5)) hx hb dX1_set_62 zk_5 ?_
  refine z_copyI (t := 1) (h := vI (cpN le2 le 5)) hC hl.1 q164 zNat_ok hw 10 4 rfl rfl (fun _ => rfl) rfl (by omega) (by omega) (by decide) (by decide) (fun i _ => fitB hle2 _) (cpN_v le2 le 5) (Nat.le_of_ble_eq_true rfl) ⟨Nat.le_of_ble_eq_true rfl, Nat.le_of_ble_eq_true rfl⟩ dX1_set_63 (fun H locs hw => ?_)
  have hw : zS G ((st, zo 1 (stF z co (nI ps2) (nI dy) gg)) :: (z 0, zc G 1 (zI 9 (vI (cpN pl2 pl 9)))) :: (z 1, zc G 1 (zI 9 (vI (cpN nu2 nu 9)))) :: (z 2, zc G 1 (zI 5 (vI (cpN ax2 ax 5)))) :: (z 3, zc G 1 (zI 5 (vI (cpN le2 le 5)))) :: (z 4, zc G 2 (zI 5 (vI kn))) :: (s2, zo 1 (stF z2 co (nI ps2) (nI dy2) (gg2))) :: (z2 0, zc G 1 (zI 9 (vI pl2))) :: (z2 1, zc G 1 (zI 9 (vI nu2))) :: (z2 2, zc G 1 (zI 5 (vI ax2))) :: (z2 3, zc G 1 (zI 5 (vI le2))) :: (z2 4, zc G 2 (zI 5 (vI kn2))) :: rest) s H locs := hw
  refine lv_aload_n hx hb dX1_set_66 rfl (lv_at hl 1 rfl) ?_
  refine z_get (v := .ref (z2 4)) hC zf_X1_28_1 hw 6 rfl rfl dX1_set_67 ?_
  refine lv_iconst (v := (nI 0)) hx hb dX1_set_70 zk_0 ?_
  refine lv_aload_n hx hb dX1_set_71 rfl (lv_at hl 0 rfl) ?_
  refine z_get (v := .ref (z 4)) hC zf_X1_28_1 hw 0 rfl rfl dX1_set_72 ?_
  refine lv_iconst (v := (nI 0)) hx hb dX1_set_75 zk_0 ?_
  refine lv_iconst (v := (nI 5)) hx hb dX1_set_76 zk_5 ?_
  refine z_copyI (t := 2) (h := vI (cpN kn2 kn 5)) hC hl.1 q164 zNat_ok hw 11 5 rfl rfl (fun _ => rfl) rfl (by omega) (by omega) (by decide) (by decide) (fun i _ => fitS hkn2 _) (cpN_v kn2 kn 5) (Nat.le_of_ble_eq_true rfl) ⟨Nat.le_of_ble_eq_true rfl, Nat.le_of_ble_eq_true rfl⟩ dX1_set_77 (fun H locs hw => ?_)
  have hw : zS G ((st, zo 1 (stF z co (nI ps2) (nI dy) gg)) :: (z 0, zc G 1 (zI 9 (vI (cpN pl2 pl 9)))) :: (z 1, zc G 1 (zI 9 (vI (cpN nu2 nu 9)))) :: (z 2, zc G 1 (zI 5 (vI (cpN ax2 ax 5)))) :: (z 3, zc G 1 (zI 5 (vI (cpN le2 le 5)))) :: (z 4, zc G 2 (zI 5 (vI (cpN kn2 kn 5)))) :: (s2, zo 1 (stF z2 co (nI ps2) (nI dy2) (gg2))) :: (z2 0, zc G 1 (zI 9 (vI pl2))) :: (z2 1, zc G 1 (zI 9 (vI nu2))) :: (z2 2, zc G 1 (zI 5 (vI ax2))) :: (z2 3, zc G 1 (zI 5 (vI le2))) :: (z2 4, zc G 2 (zI 5 (vI kn2))) :: rest) s H locs := hw
  refine lv_aload_n hx hb dX1_set_80 rfl (lv_at hl 0 rfl) ?_
  refine lv_aload_n hx hb dX1_set_81 rfl (lv_at hl 1 rfl) ?_
  refine z_get (v := .int (nI dy2)) hC zf_X1_42_1 hw 6 rfl rfl dX1_set_82 ?_
  refine z_puti hC zf_X1_42_1 hw 0 rfl (Nat.le_of_ble_eq_true rfl) dX1_set_85 (fun H locs hw => ?_)
  have hw : zS G ((st, zo 1 (stF z co (nI ps2) (nI dy2) gg)) :: (z 0, zc G 1 (zI 9 (vI (cpN pl2 pl 9)))) :: (z 1, zc G 1 (zI 9 (vI (cpN nu2 nu 9)))) :: (z 2, zc G 1 (zI 5 (vI (cpN ax2 ax 5)))) :: (z 3, zc G 1 (zI 5 (vI (cpN le2 le 5)))) :: (z 4, zc G 2 (zI 5 (vI (cpN kn2 kn 5)))) :: (s2, zo 1 (stF z2 co (nI ps2) (nI dy2) (gg2))) :: (z2 0, zc G 1 (zI 9 (vI pl2))) :: (z2 1, zc G 1 (zI 9 (vI nu2))) :: (z2 2, zc G 1 (zI 5 (vI ax2))) :: (z2 3, zc G 1 (zI 5 (vI le2))) :: (z2 4, zc G 2 (zI 5 (vI kn2))) :: rest) s H locs := hw
  refine lv_aload_n hx hb dX1_set_88 rfl (lv_at hl 0 rfl) ?_
  exact hend _ _ _ _ _ _ (some st) () hw rfl (Nat.le_of_ble_eq_true rfl) (Nat.le_of_ble_eq_true rfl) dX1_set_89
set_option maxHeartbeats 4000000 in
theorem m_X1_stored (G : zE) (l : Launch) (st : Nat) (co : Nat) (z : Nat → Nat) (ps : Nat) (dy : Nat) (gg : Int32) (nu : Nat → Nat) (hps : ps ≤ 9) (hnu : ∀ j, nu j < 128) (rest : va_W) : zMi G l yX1_stored cX1_stored 3 (some .int) 0 0 0 [.ref st] ((st, zo 1 (stF z co (nI ps) (nI dy) gg)) :: (z 1, zc G 1 (zI 9 (vI nu))) :: rest) (fun (r : Int32) (_ : Unit) => r = nI (orB (fun p => decide (0 < nu p)) ps)) (fun (_ : Unit) => (st, zo 1 (stF z co (nI ps) (nI dy) gg)) :: (z 1, zc G 1 (zI 9 (vI nu))) :: rest) := by
  refine z_begI (by decide) (Nat.le_of_ble_eq_true rfl) (fun p e s m args below meth c ls Q hC hl hw hend => ?_)
  have hx := hC.hx
  have hb := hC.hb
  have hl : lv_has ls 3 [(0, .ref st)] := hl
  have hw : zS G ((st, zo 1 (stF z co (nI ps) (nI dy) gg)) :: (z 1, zc G 1 (zI 9 (vI nu))) :: rest) s s.heap [] := hw
  refine lv_iconst (v := (nI 0)) hx hb dX1_stored_0 zk_0 ?_
  refine lv_istore_n (lv' := [(1, .int (nI 0)), (0, .ref st)]) hx hb dX1_stored_1 rfl hl (by decide) rfl (fun ls hl => ?_)
  refine lv_iconst (v := (nI 0)) hx hb dX1_stored_2 zk_0 ?_
  refine lv_istore_n (lv' := [(2, .int (nI 0)), (1, .int (nI 0)), (0, .ref st)]) hx hb dX1_stored_3 rfl hl (by decide) rfl (fun ls hl => ?_)
  have loop_4 : ∀ (fuel : Nat) (k : Nat), (k ≤ ps) → (ps - k) < fuel → ∀ (H : Heap) (locs : List Loc) (ls : Array Slot), zS G ((st, zo 1 (stF z co (nI ps) (nI dy) gg)) :: (z 1, zc G 1 (zI 9 (vI nu))) :: rest) s H locs → lv_has ls 3 [(0, .ref st), (1, .int (nI (orB (fun p => decide (0 < nu p)) k))), (2, .int (nI k))] → W p l e (zR 0 0 0) s m args below meth c H locs 0 0 Q (F0 m 4 ls []) := by
    intro fuel
    induction fuel with
    | zero => intro k hk hfuel; exact absurd hfuel (Nat.not_lt_zero _)
    | succ fuel_4 ih_4 =>
      intro k hk hfuel_4 H locs ls hw hl
      refine lv_iload_n hx hb dX1_stored_4 rfl (lv_at hl 2 rfl) ?_
      refine lv_aload_n hx hb dX1_stored_5 rfl (lv_at hl 0 rfl) ?_
      refine z_get (v := .int (nI ps)) hC zf_X1_38_1 hw 0 rfl rfl dX1_stored_6 ?_
      refine zi_ge (tgt := 37) hx hb (by omega) (by omega) dX1_stored_9 (by decide) (fun c_9 => ?_) (fun c_9 => ?_)
      · skip
        refine lv_iload_n hx hb dX1_stored_37 rfl (lv_at hl 1 rfl) ?_
        exact hend _ _ _ _ _ _ _ () hw (by rw [show k = ps by omega]) (Nat.le_of_ble_eq_true rfl) (Nat.le_of_ble_eq_true rfl) dX1_stored_38
      · skip
        have join_29 : ∀ (x : Nat), (x = if decide (0 < nu k) = true then 2 ^ k else 0) → ∀ (H : Heap) (locs : List Loc) (ls : Array Slot), zS G ((st, zo 1 (stF z co (nI ps) (nI dy) gg)) :: (z 1, zc G 1 (zI 9 (vI nu))) :: rest) s H locs → lv_has ls 3 [(0, .ref st), (1, .int (nI (orB (fun p => decide (0 < nu p)) k))), (2, .int (nI k))] → W p l e (zR 0 0 0) s m args below meth c H locs 0 0 Q (F0 m 29 ls [.int (nI x), .int (nI (orB (fun p => decide (0 < nu p)) k))]) := by
          intro x hj H locs ls hw hl
          subst hj
          refine zv_ior (v := (nI ((orB (fun p => decide (0 < nu p)) k) ||| (if decide (0 < nu k) = true then 2 ^ k else 0)))) hx hb (nI_or _ _) dX1_stored_29 ?_
          refine lv_istore_n (lv' := [(1, .int (nI ((orB (fun p => decide (0 < nu p)) k) ||| (if decide (0 < nu k) = true then 2 ^ k else 0)))), (0, .ref st), (2, .int (nI k))]) hx hb dX1_stored_30 rfl hl (by decide) rfl (fun ls hl => ?_)
          refine lv_iinc (v := (nI (k + 1))) (lv' := [(2, .int (nI (k + 1))), (1, .int (nI ((orB (fun p => decide (0 < nu p)) k) ||| (if decide (0 < nu k) = true then 2 ^ k else 0)))), (0, .ref st)]) hx hb dX1_stored_31 hl (k := 2) rfl (zincn _ 1) (by decide) rfl (fun ls hl => ?_)
          refine lv_goto (tgt := 4) hx hb dX1_stored_34 (by decide) ?_
          exact ih_4 (k + 1) (by omega) (by omega) H locs ls hw (lv_sub hl [2, 1, 0] rfl)
        refine lv_iload_n hx hb dX1_stored_12 rfl (lv_at hl 1 rfl) ?_
        refine lv_aload_n hx hb dX1_stored_13 rfl (lv_at hl 0 rfl) ?_
        refine z_get (v := .ref (z 1)) hC zf_X1_19_1 hw 0 rfl rfl dX1_stored_14 ?_
        refine lv_iload_n hx hb dX1_stored_17 rfl (lv_at hl 2 rfl) ?_
        refine z_bald (x := (nI (nu k))) hC hw 1 rfl (by omega) (by decide) rfl dX1_stored_18 ?_
        refine zj_le (tgt := 28) hx hb (by have := hnu k; omega) dX1_stored_19 (by decide) (fun c_19 => ?_) (fun c_19 => ?_)
        · skip
          refine lv_iconst (v := (nI 0)) hx hb dX1_stored_28 zk_0 ?_
          exact join_29 0 (by first | exact (if_pos (decide_eq_true (by omega))).symm | exact (if_neg (by simp; omega)).symm) H locs ls hw (lv_sub hl [0, 1, 2] rfl)
        · skip
          refine lv_iconst (v := (nI 1)) hx hb dX1_stored_22 zk_1 ?_
          refine lv_iload_n hx hb dX1_stored_23 rfl (lv_at hl 2 rfl) ?_
          refine zv_ishl (v := (nI (2 ^ k))) hx hb (nI_shl1 (by omega)) dX1_stored_24 ?_
          refine lv_goto (tgt := 29) hx hb dX1_stored_25 (by decide) ?_
          exact join_29 (2 ^ k) (by first | exact (if_pos (decide_eq_true (by omega))).symm | exact (if_neg (by simp; omega)).symm) H locs ls hw (lv_sub hl [0, 1, 2] rfl)
  exact loop_4 ((ps - 0) + 1) 0 (by omega) (Nat.lt_succ_self _) s.heap [] ls hw (lv_sub hl [2, 1, 0] rfl)
theorem zf_X1_3_1 : zFl 1 8 RX1 3 true (.object "NutCaches") := ⟨RX1, TX1, 9, tyX1, rfl, by decide, in_X1, q129, rfl, by decide +kernel, tyX1_ok, nmX1⟩
theorem zv_X1_86 : zVs RX1 86 yX1_isGone cX1_isGone 2 (some .boolean) 1 := ⟨lw_V q932 q933 q934 q50 q935, ⟨by decide +kernel, by decide +kernel⟩, by decide +kernel⟩
set_option maxHeartbeats 4000000 in
theorem m_X1_alive (G : zE) (l : Launch) (kA : Nat → Nat) (hG : zG G kA) (st : Nat) (co : Nat) (z : Nat → Nat) (w : Nat → Nat) (bm : Int32) (sm : Int32) (lt : Int32) (ps : Nat) (dy : Nat) (gg : Int32) (mn : Nat) (le : Nat → Nat) (hmn : mn ≤ 5) (hle : ∀ j, le j < 128) (rest : va_W) : zMi G l yX1_alive cX1_alive 3 (some .int) 1 0 0 [.ref st] ((st, zo 1 (stF z co (nI ps) (nI dy) gg)) :: (z 3, zc G 1 (zI 5 (vI le))) :: (co, zo 0 (cF w (nI mn) bm sm lt)) :: rest) (fun (r : Int32) (_ : Unit) => r = nI (orB (fun i => decide (¬ le i = 3)) mn)) (fun (_ : Unit) => (st, zo 1 (stF z co (nI ps) (nI dy) gg)) :: (z 3, zc G 1 (zI 5 (vI le))) :: (co, zo 0 (cF w (nI mn) bm sm lt)) :: rest) := by
  refine z_begI (by decide) (Nat.le_of_ble_eq_true rfl) (fun p e s m args below meth c ls Q hC hl hw hend => ?_)
  have hx := hC.hx
  have hb := hC.hb
  have hl : lv_has ls 3 [(0, .ref st)] := hl
  have hw : zS G ((st, zo 1 (stF z co (nI ps) (nI dy) gg)) :: (z 3, zc G 1 (zI 5 (vI le))) :: (co, zo 0 (cF w (nI mn) bm sm lt)) :: rest) s s.heap [] := hw
  have hz := hG s hC.hZ.1
  refine lv_iconst (v := (nI 0)) hx hb dX1_alive_0 zk_0 ?_
  refine lv_istore_n (lv' := [(1, .int (nI 0)), (0, .ref st)]) hx hb dX1_alive_1 rfl hl (by decide) rfl (fun ls hl => ?_)
  refine lv_iconst (v := (nI 0)) hx hb dX1_alive_2 zk_0 ?_
  refine lv_istore_n (lv' := [(2, .int (nI 0)), (1, .int (nI 0)), (0, .ref st)]) hx hb dX1_alive_3 rfl hl (by decide) rfl (fun ls hl => ?_)
  have loop_4 : ∀ (fuel : Nat) (k : Nat), (k ≤ mn) → (mn - k) < fuel → ∀ (H : Heap) (locs : List Loc) (ls : Array Slot), zS G ((st, zo 1 (stF z co (nI ps) (nI dy) gg)) :: (z 3, zc G 1 (zI 5 (vI le))) :: (co, zo 0 (cF w (nI mn) bm sm lt)) :: rest) s H locs → lv_has ls 3 [(0, .ref st), (1, .int (nI (orB (fun i => decide (¬ le i = 3)) k))), (2, .int (nI k))] → W p l e (zR 1 0 0) s m args below meth c H locs 0 0 Q (F0 m 4 ls []) := by
    intro fuel
    induction fuel with
    | zero => intro k hk hfuel; exact absurd hfuel (Nat.not_lt_zero _)
    | succ fuel_4 ih_4 =>
      intro k hk hfuel_4 H locs ls hw hl
      refine lv_iload_n hx hb dX1_alive_4 rfl (lv_at hl 2 rfl) ?_
      refine lv_aload_n hx hb dX1_alive_5 rfl (lv_at hl 0 rfl) ?_
      refine z_get (v := .ref co) hC zf_X1_3_1 hw 0 rfl rfl dX1_alive_6 ?_
      refine z_getN (v := .int (nI mn)) (k := 1) hC (show zcl[0]? = some (RX0, TX0, 13) from rfl) in_X0 (by decide) rfl rfl rfl (hz.1 _ (cw_t q172 rfl)) hw 2 rfl rfl dX1_alive_9 ?_
      refine zi_ge (tgt := 39) hx hb (by omega) (by omega) dX1_alive_12 (by decide) (fun c_12 => ?_) (fun c_12 => ?_)
      · skip
        refine lv_iload_n hx hb dX1_alive_39 rfl (lv_at hl 1 rfl) ?_
        exact hend _ _ _ _ _ _ _ () hw (by rw [show k = mn by omega]) (Nat.le_of_ble_eq_true rfl) (Nat.le_of_ble_eq_true rfl) dX1_alive_40
      · skip
        have join_31 : ∀ (x : Nat), (x = if decide (¬ le k = 3) = true then 2 ^ k else 0) → ∀ (H : Heap) (locs : List Loc) (ls : Array Slot), zS G ((st, zo 1 (stF z co (nI ps) (nI dy) gg)) :: (z 3, zc G 1 (zI 5 (vI le))) :: (co, zo 0 (cF w (nI mn) bm sm lt)) :: rest) s H locs → lv_has ls 3 [(0, .ref st), (1, .int (nI (orB (fun i => decide (¬ le i = 3)) k))), (2, .int (nI k))] → W p l e (zR 1 0 0) s m args below meth c H locs 0 0 Q (F0 m 31 ls [.int (nI x), .int (nI (orB (fun i => decide (¬ le i = 3)) k))]) := by
          intro x hj H locs ls hw hl
          subst hj
          refine zv_ior (v := (nI ((orB (fun i => decide (¬ le i = 3)) k) ||| (if decide (¬ le k = 3) = true then 2 ^ k else 0)))) hx hb (nI_or _ _) dX1_alive_31 ?_
          refine lv_istore_n (lv' := [(1, .int (nI ((orB (fun i => decide (¬ le i = 3)) k) ||| (if decide (¬ le k = 3) = true then 2 ^ k else 0)))), (0, .ref st), (2, .int (nI k))]) hx hb dX1_alive_32 rfl hl (by decide) rfl (fun ls hl => ?_)
          refine lv_iinc (v := (nI (k + 1))) (lv' := [(2, .int (nI (k + 1))), (1, .int (nI ((orB (fun i => decide (¬ le i = 3)) k) ||| (if decide (¬ le k = 3) = true then 2 ^ k else 0)))), (0, .ref st)]) hx hb dX1_alive_33 hl (k := 2) rfl (zincn _ 1) (by decide) rfl (fun ls hl => ?_)
          refine lv_goto (tgt := 4) hx hb dX1_alive_36 (by decide) ?_
          exact ih_4 (k + 1) (by omega) (by omega) H locs ls hw (lv_sub hl [2, 1, 0] rfl)
        refine lv_iload_n hx hb dX1_alive_15 rfl (lv_at hl 1 rfl) ?_
        refine lv_aload_n hx hb dX1_alive_16 rfl (lv_at hl 0 rfl) ?_
        refine lv_iload_n hx hb dX1_alive_17 rfl (lv_at hl 2 rfl) ?_
        refine z_ci (z_runV (As := [.int (nI k)]) (rest := [.int (nI (orB (fun i => decide (¬ le i = 3)) k))]) hC zv_X1_86 (m_X1_isGone G l st co z ps dy gg le k (by omega) (by first | assumption | (have := hle j; omega)) (zrem [0, 1] _)) hw (hw.perm (z_cut (is := [0, 1]) (cells := [(st, zo 1 (stF z co (nI ps) (nI dy) gg)), (z 3, zc G 1 (zI 5 (vI le)))]) rfl rfl)) 0 rfl rfl rfl rfl rfl (Nat.le_of_ble_eq_true rfl) hl.1 ⟨Nat.le_of_ble_eq_true rfl, Nat.le_of_ble_eq_true rfl⟩ ⟨(Nat.le_of_ble_eq_true rfl), (Nat.le_of_ble_eq_true rfl)⟩ dX1_alive_18) hw (fun _ => z_keep (is := [0, 1]) (cs := [(st, zo 1 (stF z co (nI ps) (nI dy) gg)), (z 3, zc G 1 (zI 5 (vI le)))]) rfl rfl) (fun r u H locs hp hw => ?_)
        obtain rfl : r = bI (le k = 3) := hp
        refine zb_eq (tgt := 28) hx hb dX1_alive_21 (by decide) (fun c_21 => ?_) (fun c_21 => ?_)
        · skip
          refine lv_iconst (v := (nI 1)) hx hb dX1_alive_28 zk_1 ?_
          refine lv_iload_n hx hb dX1_alive_29 rfl (lv_at hl 2 rfl) ?_
          refine zv_ishl (v := (nI (2 ^ k))) hx hb (nI_shl1 (by omega)) dX1_alive_30 ?_
          exact join_31 (2 ^ k) (by first | exact (if_pos (decide_eq_true c_21)).symm | exact (if_neg (by simp; exact c_21)).symm) H locs ls hw (lv_sub hl [0, 1, 2] rfl)
        · skip
          refine lv_iconst (v := (nI 0)) hx hb dX1_alive_24 zk_0 ?_
          refine lv_goto (tgt := 31) hx hb dX1_alive_25 (by decide) ?_
          exact join_31 0 (by first | exact (if_pos (decide_eq_true c_21)).symm | exact (if_neg (by simp; exact c_21)).symm) H locs ls hw (lv_sub hl [0, 1, 2] rfl)
  exact loop_4 ((mn - 0) + 1) 0 (by omega) (Nat.lt_succ_self _) s.heap [] ls hw (lv_sub hl [2, 1, 0] rfl)
