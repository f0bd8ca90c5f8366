/-! MODEL: reading -/
set_option maxRecDepth 100000
theorem cR_e {n : Nat} {X Y : Nat ⊕ ((Nat → Nat) × Nat)} {u : CU} (e : X = Y) (h : cR n Y u) : cR n X u := by rw [e]; exact h
theorem cR_ok {n : Nat} {X : Nat ⊕ ((Nat → Nat) × Nat)} {p : Nat} {v : Nat → Nat} {a : Int32} (hn : n ≤ 200) (h : cR n X (p, v, -1, a)) : X = .inr (v, p) := by
  cases X with
  | inl w => exact absurd h.2.1.symm (nI_nm1 (by have := h.2.2; omega))
  | inr x => exact congrArg Sum.inr (Prod.ext h.2.2.1.symm h.2.2.2.symm)
theorem cR_bad {n : Nat} {X : Nat ⊕ ((Nat → Nat) × Nat)} {p : Nat} {v : Nat → Nat} {w a : Int32} (h : cR n X (p, v, w, a)) (hw : ¬ w = -1) : ∃ x, X = .inl x ∧ w = nI x ∧ x ≤ n := by
  cases X with
  | inl x => exact ⟨x, rfl, h.2.1, h.2.2⟩
  | inr x => exact absurd h.2.1 hw
set_option maxHeartbeats 4000000 in
theorem m_X2_fails_1 (G : zE) (l : Launch) (mo : Nat) (q : Nat → Nat) (cl : Int32) (un : Int32) (si : Int32) (n : Nat) (tx : Nat → Nat) (g0 : Nat → Int32) (hn : n ≤ 200) (hg : ∀ j, j < n → g0 j = nI (tx j)) (ht : ∀ j, j < n → tx j < 256) (at1 : Int32) (st : Int32) (tk : Int32) (ln : Int32) (va : Int32) (rest : va_W) : zMv G l yX2_fails cX2_fails 2 0 0 0 [.ref mo, .int (nI 1)] ((mo, zo 2 (mF q (nI n) at1 st tk ln va (-1) cl un si)) :: rest) (fun (_ : Unit) => True) (fun (_ : Unit) => (mo, zo 2 (mF q (nI n) at1 st tk ln va st cl un si)) :: rest) := by
  refine z_begV (by decide) (Nat.le_of_ble_eq_true rfl) (fun p e s m args below meth c ls Q hC hnm hl hw hend => ?_)
  have hx := hC.hx
  have hb := hC.hb
  have hl : lv_has ls 2 [(0, .ref mo), (1, .int (nI 1))] := hl
  have hw : zS G ((mo, zo 2 (mF q (nI n) at1 st tk ln va (-1) cl un si)) :: rest) s s.heap [] := hw
  refine lv_aload_n hx hb dX2_fails_0 rfl (lv_at hl 0 rfl) ?_
  refine lv_aload_n hx hb dX2_fails_1 rfl (lv_at hl 0 rfl) ?_
  refine z_get (v := .int (-1)) hC zf_X2_93_2 hw 0 rfl rfl dX2_fails_2 ?_
  refine lv_iconst (v := -1) hx hb dX2_fails_5 zk_m1 ?_
  refine lv_icmp_ne (tgt := 20) hx hb dX2_fails_6 (by decide) (fun h => absurd h (by decide)) (fun _ => ?_)
  refine lv_iload_n hx hb dX2_fails_9 rfl (lv_at hl 1 rfl) ?_
  refine zj_eq (tgt := 20) hx hb (by decide) dX2_fails_10 (by decide) (fun h => absurd h (by decide)) (fun _ => ?_)
  refine lv_aload_n hx hb dX2_fails_13 rfl (lv_at hl 0 rfl) ?_
  refine z_get (v := .int st) hC zf_X2_74_2 hw 0 rfl rfl dX2_fails_14 ?_
  refine lv_goto (tgt := 24) hx hb dX2_fails_17 (by decide) ?_
  refine z_puti hC zf_X2_93_2 hw 0 rfl (Nat.le_of_ble_eq_true rfl) dX2_fails_24 (fun H locs hw => ?_)
  have hw : zS G ((mo, zo 2 (mF q (nI n) at1 st tk ln va st cl un si)) :: rest) s H locs := hw
  exact hend _ _ _ _ _ _ () hw trivial (Nat.le_of_ble_eq_true rfl) (Nat.le_of_ble_eq_true rfl) dX2_fails_27
theorem zs_X2_114 : zSs RX2 114 yX2_kindOf cX2_kindOf 5 (some .int) 1 := ⟨lw_S q1915 q1916 q53 q1917, ⟨by decide +kernel, by decide +kernel⟩, by decide +kernel⟩
theorem zv_X2_127 : zVs RX2 127 yX2_tellsNothing cX2_tellsNothing 2 none 0 := ⟨lw_V q1944 q1946 qs37 q53 q1947, ⟨by decide +kernel, by decide +kernel⟩, by decide +kernel⟩
theorem zv_X2_124 : zVs RX2 124 yX2_tellsKnown cX2_tellsKnown 3 none 0 := ⟨lw_V q1940 q1942 qs36 q53 q1943, ⟨by decide +kernel, by decide +kernel⟩, by decide +kernel⟩
theorem zv_X2_121 : zVs RX2 121 yX2_tellsPit cX2_tellsPit 4 none 0 := ⟨lw_V q1936 q1938 qs35 q53 q1939, ⟨by decide +kernel, by decide +kernel⟩, by decide +kernel⟩
theorem zv_X2_117 : zVs RX2 117 yX2_tellsSquirrel cX2_tellsSquirrel 5 none 1 := ⟨lw_V q1924 q1926 qs32 q53 q1927, ⟨by decide +kernel, by decide +kernel⟩, by decide +kernel⟩
set_option maxHeartbeats 4000000 in
theorem m_X2_clause (G : zE) (l : Launch) (mo : Nat) (q : Nat → Nat) (cl : Int32) (un : Int32) (si : Int32) (n : Nat) (tx : Nat → Nat) (g0 : Nat → Int32) (hn : n ≤ 200) (hg : ∀ j, j < n → g0 j = nI (tx j)) (ht : ∀ j, j < n → tx j < 256) (po : Nat) (hpo : po ≤ n) (v : Nat → Nat) (hH : Hw v) (rest : va_W) : zMv G l yX2_clause cX2_clause 3 5 0 0 [.ref mo] ((mo, zo 2 (mF q (nI n) (nI (tS tx n po)) (nI (tF tx n po)) (nI (tK tx n po)) (nI (tL tx n po)) (optI (tV tx n po)) (-1) cl un si)) :: (q 0, zc G 0 (zI 200 g0)) :: (q 10, zc G 0 (zI 46 (vI v))) :: rest) (fun u => cR n (clauseN tx n v po) u) (fun (u : CU) => (mo, zo 2 (mF q (nI n) (nI (tS tx n u.1)) (nI (tF tx n u.1)) (nI (tK tx n u.1)) (nI (tL tx n u.1)) u.2.2.2 u.2.2.1 cl un si)) :: (q 0, zc G 0 (zI 200 g0)) :: (q 10, zc G 0 (zI 46 (vI u.2.1))) :: rest) := by
  refine z_begV (by decide) (Nat.le_of_ble_eq_true rfl) (fun p e s m args below meth c ls Q hC hnm hl hw hend => ?_)
  have hx := hC.hx
  have hb := hC.hb
  have hl : lv_has ls 3 [(0, .ref mo)] := hl
  have hw : zS G ((mo, zo 2 (mF q (nI n) (nI (tS tx n po)) (nI (tF tx n po)) (nI (tK tx n po)) (nI (tL tx n po)) (optI (tV tx n po)) (-1) cl un si)) :: (q 0, zc G 0 (zI 200 g0)) :: (q 10, zc G 0 (zI 46 (vI v))) :: rest) s s.heap [] := hw
  refine lv_aload_n hx hb dX2_clause_0 rfl (lv_at hl 0 rfl) ?_
  refine z_get (v := .int (nI (tK tx n po))) hC zf_X2_90_2 hw 0 rfl rfl dX2_clause_1 ?_
  refine lv_iconst (v := (nI 1)) hx hb dX2_clause_4 zk_1 ?_
  refine zi_ne (tgt := 24) hx hb (by have := tK_lt tx n po; omega) (by decide) dX2_clause_5 (by decide) (fun c_5 => ?_) (fun c_5 => ?_)
  · skip
    refine lv_iconst (v := -1) hx hb dX2_clause_24 zk_m1 ?_
    refine lv_istore_n (lv' := [(1, .int (-1)), (0, .ref mo)]) hx hb dX2_clause_25 rfl hl (by decide) rfl (fun ls hl => ?_)
    refine lv_iload_n hx hb dX2_clause_26 rfl (lv_at hl 0 rfl) ?_
    refine lv_if_ge (tgt := 34) hx hb dX2_clause_27 (by decide) (fun h => absurd h (by decide)) (fun _ => ?_)
    refine lv_iconst (v := -1) hx hb dX2_clause_30 zk_m1 ?_
    refine lv_goto (tgt := 38) hx hb dX2_clause_31 (by decide) ?_
    refine lv_istore_n (lv' := [(2, .int (-1)), (1, .int (-1)), (0, .ref mo)]) hx hb dX2_clause_38 rfl hl (by decide) rfl (fun ls hl => ?_)
    refine lv_iload_n hx hb dX2_clause_39 rfl (lv_at hl 0 rfl) ?_
    refine lv_iconst (v := -1) hx hb dX2_clause_40 zk_m1 ?_
    refine lv_icmp_eq (tgt := 52) hx hb dX2_clause_41 (by decide) (fun _ => ?_) (fun h => absurd h (by decide))
    refine lv_iload_n hx hb dX2_clause_52 rfl (lv_at hl 1 rfl) ?_
    refine lv_bipush (v := (nI 112)) hx hb dX2_clause_53 zb_112 ?_
    refine lv_bipush (v := (nI 105)) hx hb dX2_clause_55 zb_105 ?_
    refine lv_bipush (v := (nI 116)) hx hb dX2_clause_57 zb_116 ?_
    refine z_ci (z_runS (As := [.int (nI 112), .int (nI 105), .int (nI 116)]) (rest := [.int (-1)]) hC zs_X2_103 (m_X2_word G l (nI 112) (nI 105) (nI 116) _) hw rfl rfl (Nat.le_of_ble_eq_true rfl) hl.1 ⟨Nat.le_of_ble_eq_true rfl, Nat.le_of_ble_eq_true rfl⟩ ⟨(Nat.le_of_ble_eq_true rfl), (Nat.le_of_ble_eq_true rfl)⟩ dX2_clause_59) hw (fun _ => List.Perm.refl _) (fun r u H locs hp hw => ?_)
    obtain rfl : r = nI 32 * (nI 32 * ((nI 112) - nI 96) + (nI 105) - nI 96) + (nI 116) - nI 96 := hp
    rw [show nI 32 * (nI 32 * (nI 112 - nI 96) + nI 105 - nI 96) + nI 116 - nI 96 = nI 16692 from by decide]
    refine lv_icmp_ne (tgt := 72) hx hb dX2_clause_62 (by decide) (fun _ => ?_) (fun h => absurd h (by decide))
    refine lv_iload_n hx hb dX2_clause_72 rfl (lv_at hl 1 rfl) ?_
    refine lv_bipush (v := (nI 107)) hx hb dX2_clause_73 zb_107 ?_
    refine lv_bipush (v := (nI 110)) hx hb dX2_clause_75 zb_110 ?_
    refine lv_bipush (v := (nI 111)) hx hb dX2_clause_77 zb_111 ?_
    refine z_ci (z_runS (As := [.int (nI 107), .int (nI 110), .int (nI 111)]) (rest := [.int (-1)]) hC zs_X2_103 (m_X2_word G l (nI 107) (nI 110) (nI 111) _) hw rfl rfl (Nat.le_of_ble_eq_true rfl) hl.1 ⟨Nat.le_of_ble_eq_true rfl, Nat.le_of_ble_eq_true rfl⟩ ⟨(Nat.le_of_ble_eq_true rfl), (Nat.le_of_ble_eq_true rfl)⟩ dX2_clause_79) hw (fun _ => List.Perm.refl _) (fun r u H locs hp hw => ?_)
    obtain rfl : r = nI 32 * (nI 32 * ((nI 107) - nI 96) + (nI 110) - nI 96) + (nI 111) - nI 96 := hp
    rw [show nI 32 * (nI 32 * (nI 107 - nI 96) + nI 110 - nI 96) + nI 111 - nI 96 = nI 11727 from by decide]
    refine lv_bipush (v := (nI 119)) hx hb dX2_clause_82 zb_119 ?_
    refine lv_bipush (v := (nI 115)) hx hb dX2_clause_84 zb_115 ?_
    refine z_ci (z_runS (As := [.int (nI 11727), .int (nI 119), .int (nI 115)]) (rest := [.int (-1)]) hC zs_X2_107 (m_X2_longer G l (nI 11727) (nI 119) (nI 115) _) hw rfl rfl (Nat.le_of_ble_eq_true rfl) hl.1 ⟨Nat.le_of_ble_eq_true rfl, Nat.le_of_ble_eq_true rfl⟩ ⟨(Nat.le_of_ble_eq_true rfl), (Nat.le_of_ble_eq_true rfl)⟩ dX2_clause_86) hw (fun _ => List.Perm.refl _) (fun r u H locs hp hw => ?_)
    obtain rfl : r = nI 32 * (nI 32 * (nI 11727) + (nI 119) - nI 96) + (nI 115) - nI 96 := hp
    rw [show nI 32 * (nI 32 * nI 11727 + nI 119 - nI 96) + nI 115 - nI 96 = nI 12009203 from by decide]
    refine lv_icmp_ne (tgt := 99) hx hb dX2_clause_89 (by decide) (fun _ => ?_) (fun h => absurd h (by decide))
    refine lv_iload_n hx hb dX2_clause_99 rfl (lv_at hl 1 rfl) ?_
    refine lv_bipush (v := (nI 104)) hx hb dX2_clause_100 zb_104 ?_
    refine lv_bipush (v := (nI 101)) hx hb dX2_clause_102 zb_101 ?_
    refine lv_bipush (v := (nI 100)) hx hb dX2_clause_104 zb_100 ?_
    refine z_ci (z_runS (As := [.int (nI 104), .int (nI 101), .int (nI 100)]) (rest := [.int (-1)]) hC zs_X2_103 (m_X2_word G l (nI 104) (nI 101) (nI 100) _) hw rfl rfl (Nat.le_of_ble_eq_true rfl) hl.1 ⟨Nat.le_of_ble_eq_true rfl, Nat.le_of_ble_eq_true rfl⟩ ⟨(Nat.le_of_ble_eq_true rfl), (Nat.le_of_ble_eq_true rfl)⟩ dX2_clause_106) hw (fun _ => List.Perm.refl _) (fun r u H locs hp hw => ?_)
    obtain rfl : r = nI 32 * (nI 32 * ((nI 104) - nI 96) + (nI 101) - nI 96) + (nI 100) - nI 96 := hp
    rw [show nI 32 * (nI 32 * (nI 104 - nI 96) + nI 101 - nI 96) + nI 100 - nI 96 = nI 8356 from by decide]
    refine lv_bipush (v := (nI 103)) hx hb dX2_clause_109 zb_103 ?_
    refine lv_bipush (v := (nI 101)) hx hb dX2_clause_111 zb_101 ?_
    refine z_ci (z_runS (As := [.int (nI 8356), .int (nI 103), .int (nI 101)]) (rest := [.int (-1)]) hC zs_X2_107 (m_X2_longer G l (nI 8356) (nI 103) (nI 101) _) hw rfl rfl (Nat.le_of_ble_eq_true rfl) hl.1 ⟨Nat.le_of_ble_eq_true rfl, Nat.le_of_ble_eq_true rfl⟩ ⟨(Nat.le_of_ble_eq_true rfl), (Nat.le_of_ble_eq_true rfl)⟩ dX2_clause_113) hw (fun _ => List.Perm.refl _) (fun r u H locs hp hw => ?_)
    obtain rfl : r = nI 32 * (nI 32 * (nI 8356) + (nI 103) - nI 96) + (nI 101) - nI 96 := hp
    rw [show nI 32 * (nI 32 * nI 8356 + nI 103 - nI 96) + nI 101 - nI 96 = nI 8556773 from by decide]
    refine lv_icmp_ne (tgt := 126) hx hb dX2_clause_116 (by decide) (fun _ => ?_) (fun h => absurd h (by decide))
    refine lv_aload_n hx hb dX2_clause_126 rfl (lv_at hl 2 rfl) ?_
    refine lv_iconst (v := (nI 1)) hx hb dX2_clause_127 zk_1 ?_
    refine z_cv (z_runV (As := [.int (nI 1)]) (rest := []) hC zv_X2_96 (m_X2_fails_1 G l mo q cl un si n tx g0 (by omega) (by first | assumption | (omega)) (by first | assumption | (omega)) (nI (tS tx n po)) (nI (tF tx n po)) (nI (tK tx n po)) (nI (tL tx n po)) (optI (tV tx n po)) (zrem [0] _)) hw (hw.perm (z_cut (is := [0]) (cells := [(mo, zo 2 (mF q (nI n) (nI (tS tx n po)) (nI (tF tx n po)) (nI (tK tx n po)) (nI (tL tx n po)) (optI (tV tx n po)) (-1) cl un si))]) rfl rfl)) 0 rfl rfl rfl rfl rfl (Nat.le_of_ble_eq_true rfl) hl.1 ⟨Nat.le_of_ble_eq_true rfl, Nat.le_of_ble_eq_true rfl⟩ ⟨(Nat.le_of_ble_eq_true rfl), (Nat.le_of_ble_eq_true rfl)⟩ dX2_clause_128) hw (fun _ => z_pput (is := [0]) (cells := [(mo, zo 2 (mF q (nI n) (nI (tS tx n po)) (nI (tF tx n po)) (nI (tK tx n po)) (nI (tL tx n po)) (optI (tV tx n po)) (-1) cl un si))]) (cells' := [(mo, zo 2 (mF q (nI n) (nI (tS tx n po)) (nI (tF tx n po)) (nI (tK tx n po)) (nI (tL tx n po)) (optI (tV tx n po)) (nI (tF tx n po)) cl un si))]) rfl rfl rfl) (fun u H locs hp hw => ?_)
    have hw : zS G ((mo, zo 2 (mF q (nI n) (nI (tS tx n po)) (nI (tF tx n po)) (nI (tK tx n po)) (nI (tL tx n po)) (optI (tV tx n po)) (nI (tF tx n po)) cl un si)) :: (q 0, zc G 0 (zI 200 g0)) :: (q 10, zc G 0 (zI 46 (vI v))) :: rest) s H locs := hw
    exact hend _ _ _ _ _ _ (po, v, (nI (tF tx n po)), (optI (tV tx n po))) hw (by first | exact cR_e (cl_sq hkd5 hks.2.1) hcr | exact cR_e (cl_6 ((head_iff 6 16692 hpo (by decide) (by decide) hk1).mp c_62)) hcr | exact cR_e (cl_7 ((head_iff 7 12009203 hpo (by decide) (by decide) hk1).mp c_89)) hcr | exact cR_e (cl_5 ((head_iff 5 8556773 hpo (by decide) (by decide) hk1).mp c_116)) hcr | exact cR_l hpo hpo (cl_n hns (mt (head_iff 5 8556773 hpo (by decide) (by decide) hk1).mpr c_116) (mt (head_iff 6 16692 hpo (by decide) (by decide) hk1).mpr c_62) (mt (head_iff 7 12009203 hpo (by decide) (by decide) hk1).mpr c_89)) | exact cR_l hpo hpo (cl_no (fun h => absurd h c_5)) | exact cR_l hpo hpo (cl_no (fun _ => by omega))) (Nat.le_of_ble_eq_true rfl) (Nat.le_of_ble_eq_true rfl) dX2_clause_131
  · skip
    refine lv_aload_n hx hb dX2_clause_8 rfl (lv_at hl 0 rfl) ?_
    refine z_get (v := .int (nI (tL tx n po))) hC zf_X2_77_2 hw 0 rfl rfl dX2_clause_9 ?_
    refine lv_bipush (v := (nI 7)) hx hb dX2_clause_12 zb_7 ?_
    refine zi_ge (tgt := 24) hx hb (tL_lt hn hpo) (by decide) dX2_clause_14 (by decide) (fun c_14 => ?_) (fun c_14 => ?_)
    · skip
      refine lv_iconst (v := -1) hx hb dX2_clause_24 zk_m1 ?_
      refine lv_istore_n (lv' := [(1, .int (-1)), (0, .ref mo)]) hx hb dX2_clause_25 rfl hl (by decide) rfl (fun ls hl => ?_)
      refine lv_iload_n hx hb dX2_clause_26 rfl (lv_at hl 0 rfl) ?_
      refine lv_if_ge (tgt := 34) hx hb dX2_clause_27 (by decide) (fun h => absurd h (by decide)) (fun _ => ?_)
      refine lv_iconst (v := -1) hx hb dX2_clause_30 zk_m1 ?_
      refine lv_goto (tgt := 38) hx hb dX2_clause_31 (by decide) ?_
      refine lv_istore_n (lv' := [(2, .int (-1)), (1, .int (-1)), (0, .ref mo)]) hx hb dX2_clause_38 rfl hl (by decide) rfl (fun ls hl => ?_)
      refine lv_iload_n hx hb dX2_clause_39 rfl (lv_at hl 0 rfl) ?_
      refine lv_iconst (v := -1) hx hb dX2_clause_40 zk_m1 ?_
      refine lv_icmp_eq (tgt := 52) hx hb dX2_clause_41 (by decide) (fun _ => ?_) (fun h => absurd h (by decide))
      refine lv_iload_n hx hb dX2_clause_52 rfl (lv_at hl 1 rfl) ?_
      refine lv_bipush (v := (nI 112)) hx hb dX2_clause_53 zb_112 ?_
      refine lv_bipush (v := (nI 105)) hx hb dX2_clause_55 zb_105 ?_
      refine lv_bipush (v := (nI 116)) hx hb dX2_clause_57 zb_116 ?_
      refine z_ci (z_runS (As := [.int (nI 112), .int (nI 105), .int (nI 116)]) (rest := [.int (-1)]) hC zs_X2_103 (m_X2_word G l (nI 112) (nI 105) (nI 116) _) hw rfl rfl (Nat.le_of_ble_eq_true rfl) hl.1 ⟨Nat.le_of_ble_eq_true rfl, Nat.le_of_ble_eq_true rfl⟩ ⟨(Nat.le_of_ble_eq_true rfl), (Nat.le_of_ble_eq_true rfl)⟩ dX2_clause_59) hw (fun _ => List.Perm.refl _) (fun r u H locs hp hw => ?_)
      obtain rfl : r = nI 32 * (nI 32 * ((nI 112) - nI 96) + (nI 105) - nI 96) + (nI 116) - nI 96 := hp
      rw [show nI 32 * (nI 32 * (nI 112 - nI 96) + nI 105 - nI 96) + nI 116 - nI 96 = nI 16692 from by decide]
      refine lv_icmp_ne (tgt := 72) hx hb dX2_clause_62 (by decide) (fun _ => ?_) (fun h => absurd h (by decide))
      refine lv_iload_n hx hb dX2_clause_72 rfl (lv_at hl 1 rfl) ?_
      refine lv_bipush (v := (nI 107)) hx hb dX2_clause_73 zb_107 ?_
      refine lv_bipush (v := (nI 110)) hx hb dX2_clause_75 zb_110 ?_
      refine lv_bipush (v := (nI 111)) hx hb dX2_clause_77 zb_111 ?_
      refine z_ci (z_runS (As := [.int (nI 107), .int (nI 110), .int (nI 111)]) (rest := [.int (-1)]) hC zs_X2_103 (m_X2_word G l (nI 107) (nI 110) (nI 111) _) hw rfl rfl (Nat.le_of_ble_eq_true rfl) hl.1 ⟨Nat.le_of_ble_eq_true rfl, Nat.le_of_ble_eq_true rfl⟩ ⟨(Nat.le_of_ble_eq_true rfl), (Nat.le_of_ble_eq_true rfl)⟩ dX2_clause_79) hw (fun _ => List.Perm.refl _) (fun r u H locs hp hw => ?_)
      obtain rfl : r = nI 32 * (nI 32 * ((nI 107) - nI 96) + (nI 110) - nI 96) + (nI 111) - nI 96 := hp
      rw [show nI 32 * (nI 32 * (nI 107 - nI 96) + nI 110 - nI 96) + nI 111 - nI 96 = nI 11727 from by decide]
      refine lv_bipush (v := (nI 119)) hx hb dX2_clause_82 zb_119 ?_
      refine lv_bipush (v := (nI 115)) hx hb dX2_clause_84 zb_115 ?_
      refine z_ci (z_runS (As := [.int (nI 11727), .int (nI 119), .int (nI 115)]) (rest := [.int (-1)]) hC zs_X2_107 (m_X2_longer G l (nI 11727) (nI 119) (nI 115) _) hw rfl rfl (Nat.le_of_ble_eq_true rfl) hl.1 ⟨Nat.le_of_ble_eq_true rfl, Nat.le_of_ble_eq_true rfl⟩ ⟨(Nat.le_of_ble_eq_true rfl), (Nat.le_of_ble_eq_true rfl)⟩ dX2_clause_86) hw (fun _ => List.Perm.refl _) (fun r u H locs hp hw => ?_)
      obtain rfl : r = nI 32 * (nI 32 * (nI 11727) + (nI 119) - nI 96) + (nI 115) - nI 96 := hp
      rw [show nI 32 * (nI 32 * nI 11727 + nI 119 - nI 96) + nI 115 - nI 96 = nI 12009203 from by decide]
      refine lv_icmp_ne (tgt := 99) hx hb dX2_clause_89 (by decide) (fun _ => ?_) (fun h => absurd h (by decide))
      refine lv_iload_n hx hb dX2_clause_99 rfl (lv_at hl 1 rfl) ?_
      refine lv_bipush (v := (nI 104)) hx hb dX2_clause_100 zb_104 ?_
      refine lv_bipush (v := (nI 101)) hx hb dX2_clause_102 zb_101 ?_
      refine lv_bipush (v := (nI 100)) hx hb dX2_clause_104 zb_100 ?_
      refine z_ci (z_runS (As := [.int (nI 104), .int (nI 101), .int (nI 100)]) (rest := [.int (-1)]) hC zs_X2_103 (m_X2_word G l (nI 104) (nI 101) (nI 100) _) hw rfl rfl (Nat.le_of_ble_eq_true rfl) hl.1 ⟨Nat.le_of_ble_eq_true rfl, Nat.le_of_ble_eq_true rfl⟩ ⟨(Nat.le_of_ble_eq_true rfl), (Nat.le_of_ble_eq_true rfl)⟩ dX2_clause_106) hw (fun _ => List.Perm.refl _) (fun r u H locs hp hw => ?_)
      obtain rfl : r = nI 32 * (nI 32 * ((nI 104) - nI 96) + (nI 101) - nI 96) + (nI 100) - nI 96 := hp
      rw [show nI 32 * (nI 32 * (nI 104 - nI 96) + nI 101 - nI 96) + nI 100 - nI 96 = nI 8356 from by decide]
      refine lv_bipush (v := (nI 103)) hx hb dX2_clause_109 zb_103 ?_
      refine lv_bipush (v := (nI 101)) hx hb dX2_clause_111 zb_101 ?_
      refine z_ci (z_runS (As := [.int (nI 8356), .int (nI 103), .int (nI 101)]) (rest := [.int (-1)]) hC zs_X2_107 (m_X2_longer G l (nI 8356) (nI 103) (nI 101) _) hw rfl rfl (Nat.le_of_ble_eq_true rfl) hl.1 ⟨Nat.le_of_ble_eq_true rfl, Nat.le_of_ble_eq_true rfl⟩ ⟨(Nat.le_of_ble_eq_true rfl), (Nat.le_of_ble_eq_true rfl)⟩ dX2_clause_113) hw (fun _ => List.Perm.refl _) (fun r u H locs hp hw => ?_)
      obtain rfl : r = nI 32 * (nI 32 * (nI 8356) + (nI 103) - nI 96) + (nI 101) - nI 96 := hp
      rw [show nI 32 * (nI 32 * nI 8356 + nI 103 - nI 96) + nI 101 - nI 96 = nI 8556773 from by decide]
      refine lv_icmp_ne (tgt := 126) hx hb dX2_clause_116 (by decide) (fun _ => ?_) (fun h => absurd h (by decide))
      refine lv_aload_n hx hb dX2_clause_126 rfl (lv_at hl 2 rfl) ?_
      refine lv_iconst (v := (nI 1)) hx hb dX2_clause_127 zk_1 ?_
      refine z_cv (z_runV (As := [.int (nI 1)]) (rest := []) hC zv_X2_96 (m_X2_fails_1 G l mo q cl un si n tx g0 (by omega) (by first | assumption | (omega)) (by first | assumption | (omega)) (nI (tS tx n po)) (nI (tF tx n po)) (nI (tK tx n po)) (nI (tL tx n po)) (optI (tV tx n po)) (zrem [0] _)) hw (hw.perm (z_cut (is := [0]) (cells := [(mo, zo 2 (mF q (nI n) (nI (tS tx n po)) (nI (tF tx n po)) (nI (tK tx n po)) (nI (tL tx n po)) (optI (tV tx n po)) (-1) cl un si))]) rfl rfl)) 0 rfl rfl rfl rfl rfl (Nat.le_of_ble_eq_true rfl) hl.1 ⟨Nat.le_of_ble_eq_true rfl, Nat.le_of_ble_eq_true rfl⟩ ⟨(Nat.le_of_ble_eq_true rfl), (Nat.le_of_ble_eq_true rfl)⟩ dX2_clause_128) hw (fun _ => z_pput (is := [0]) (cells := [(mo, zo 2 (mF q (nI n) (nI (tS tx n po)) (nI (tF tx n po)) (nI (tK tx n po)) (nI (tL tx n po)) (optI (tV tx n po)) (-1) cl un si))]) (cells' := [(mo, zo 2 (mF q (nI n) (nI (tS tx n po)) (nI (tF tx n po)) (nI (tK tx n po)) (nI (tL tx n po)) (optI (tV tx n po)) (nI (tF tx n po)) cl un si))]) rfl rfl rfl) (fun u H locs hp hw => ?_)
      have hw : zS G ((mo, zo 2 (mF q (nI n) (nI (tS tx n po)) (nI (tF tx n po)) (nI (tK tx n po)) (nI (tL tx n po)) (optI (tV tx n po)) (nI (tF tx n po)) cl un si)) :: (q 0, zc G 0 (zI 200 g0)) :: (q 10, zc G 0 (zI 46 (vI v))) :: rest) s H locs := hw
      exact hend _ _ _ _ _ _ (po, v, (nI (tF tx n po)), (optI (tV tx n po))) hw (by first | exact cR_e (cl_sq hkd5 hks.2.1) hcr | exact cR_e (cl_6 ((head_iff 6 16692 hpo (by decide) (by decide) hk1).mp c_62)) hcr | exact cR_e (cl_7 ((head_iff 7 12009203 hpo (by decide) (by decide) hk1).mp c_89)) hcr | exact cR_e (cl_5 ((head_iff 5 8556773 hpo (by decide) (by decide) hk1).mp c_116)) hcr | exact cR_l hpo hpo (cl_n hns (mt (head_iff 5 8556773 hpo (by decide) (by decide) hk1).mpr c_116) (mt (head_iff 6 16692 hpo (by decide) (by decide) hk1).mpr c_62) (mt (head_iff 7 12009203 hpo (by decide) (by decide) hk1).mpr c_89)) | exact cR_l hpo hpo (cl_no (fun h => absurd h c_5)) | exact cR_l hpo hpo (cl_no (fun _ => by omega))) (Nat.le_of_ble_eq_true rfl) (Nat.le_of_ble_eq_true rfl) dX2_clause_131
    · skip
      have hL7 : tL tx n po < 7 := by omega
      have hk1 : tK tx n po = 1 := c_5
      have hw : zS G ((mo, zo 2 (mF q (nI n) (nI (tS tx n po)) (nI (tF tx n po)) (nI (tK tx n po)) (nI (tL tx n po)) (nI (valN 1 tx (tF tx n po) (tL tx n po))) (-1) cl un si)) :: (q 0, zc G 0 (zI 200 g0)) :: (q 10, zc G 0 (zI 46 (vI v))) :: rest) s s.heap [] := by rw [tV_w hk1 hL7] at hw; exact hw
      refine lv_aload_n hx hb dX2_clause_17 rfl (lv_at hl 0 rfl) ?_
      refine z_get (v := .int (nI (valN 1 tx (tF tx n po) (tL tx n po)))) hC zf_X2_80_2 hw 0 rfl rfl dX2_clause_18 ?_
      refine lv_goto (tgt := 25) hx hb dX2_clause_21 (by decide) ?_
      refine lv_istore_n (lv' := [(1, .int (nI (valN 1 tx (tF tx n po) (tL tx n po)))), (0, .ref mo)]) hx hb dX2_clause_25 rfl hl (by decide) rfl (fun ls hl => ?_)
      refine lv_iload_n hx hb dX2_clause_26 rfl (lv_at hl 0 rfl) ?_
      refine zj_ge (tgt := 34) hx hb (by have := hd_lt hpo hk1 hL7; omega) dX2_clause_27 (by decide) ?_
      refine lv_iload_n hx hb dX2_clause_34 rfl (lv_at hl 0 rfl) ?_
      refine z_ci (z_runS (As := [.int (nI (valN 1 tx (tF tx n po) (tL tx n po)))]) (rest := []) hC zs_X2_114 (m_X2_kindOf G l (nI (valN 1 tx (tF tx n po) (tL tx n po))) _) hw rfl rfl (Nat.le_of_ble_eq_true rfl) hl.1 ⟨Nat.le_of_ble_eq_true rfl, Nat.le_of_ble_eq_true rfl⟩ ⟨(Nat.le_of_ble_eq_true rfl), (Nat.le_of_ble_eq_true rfl)⟩ dX2_clause_35) hw (fun _ => List.Perm.refl _) (fun r u H locs hp hw => ?_)
      obtain rfl : r = optI (kdO (nI (valN 1 tx (tF tx n po) (tL tx n po)))) := hp
      rcases hkd : kdO (nI (valN 1 tx (tF tx n po) (tL tx n po))) with _ | kd
      · skip
        have hns := kd_no hpo hk1 hL7 hkd
        have hl : lv_has ls 3 [(1, .int (nI (valN 1 tx (tF tx n po) (tL tx n po)))), (0, .ref mo)] := hl
        have hw : zS G ((mo, zo 2 (mF q (nI n) (nI (tS tx n po)) (nI (tF tx n po)) (nI (tK tx n po)) (nI (tL tx n po)) (nI (valN 1 tx (tF tx n po) (tL tx n po))) (-1) cl un si)) :: (q 0, zc G 0 (zI 200 g0)) :: (q 10, zc G 0 (zI 46 (vI v))) :: rest) s H locs := hw
        refine lv_istore_n (lv' := [(2, .int (-1)), (1, .int (nI (valN 1 tx (tF tx n po) (tL tx n po)))), (0, .ref mo)]) hx hb dX2_clause_38 rfl hl (by decide) rfl (fun ls hl => ?_)
        refine lv_iload_n hx hb dX2_clause_39 rfl (lv_at hl 0 rfl) ?_
        refine lv_iconst (v := -1) hx hb dX2_clause_40 zk_m1 ?_
        refine lv_icmp_eq (tgt := 52) hx hb dX2_clause_41 (by decide) (fun _ => ?_) (fun h => absurd h (by decide))
        refine lv_iload_n hx hb dX2_clause_52 rfl (lv_at hl 1 rfl) ?_
        refine lv_bipush (v := (nI 112)) hx hb dX2_clause_53 zb_112 ?_
        refine lv_bipush (v := (nI 105)) hx hb dX2_clause_55 zb_105 ?_
        refine lv_bipush (v := (nI 116)) hx hb dX2_clause_57 zb_116 ?_
        refine z_ci (z_runS (As := [.int (nI 112), .int (nI 105), .int (nI 116)]) (rest := [.int (nI (valN 1 tx (tF tx n po) (tL tx n po)))]) hC zs_X2_103 (m_X2_word G l (nI 112) (nI 105) (nI 116) _) hw rfl rfl (Nat.le_of_ble_eq_true rfl) hl.1 ⟨Nat.le_of_ble_eq_true rfl, Nat.le_of_ble_eq_true rfl⟩ ⟨(Nat.le_of_ble_eq_true rfl), (Nat.le_of_ble_eq_true rfl)⟩ dX2_clause_59) hw (fun _ => List.Perm.refl _) (fun r u H locs hp hw => ?_)
        obtain rfl : r = nI 32 * (nI 32 * ((nI 112) - nI 96) + (nI 105) - nI 96) + (nI 116) - nI 96 := hp
        rw [show nI 32 * (nI 32 * (nI 112 - nI 96) + nI 105 - nI 96) + nI 116 - nI 96 = nI 16692 from by decide]
        refine zi_ne (tgt := 72) hx hb (by have := hd_lt hpo hk1 hL7; omega) (by decide) dX2_clause_62 (by decide) (fun c_62 => ?_) (fun c_62 => ?_)
        · skip
          refine lv_iload_n hx hb dX2_clause_72 rfl (lv_at hl 1 rfl) ?_
          refine lv_bipush (v := (nI 107)) hx hb dX2_clause_73 zb_107 ?_
          refine lv_bipush (v := (nI 110)) hx hb dX2_clause_75 zb_110 ?_
          refine lv_bipush (v := (nI 111)) hx hb dX2_clause_77 zb_111 ?_
          refine z_ci (z_runS (As := [.int (nI 107), .int (nI 110), .int (nI 111)]) (rest := [.int (nI (valN 1 tx (tF tx n po) (tL tx n po)))]) hC zs_X2_103 (m_X2_word G l (nI 107) (nI 110) (nI 111) _) hw rfl rfl (Nat.le_of_ble_eq_true rfl) hl.1 ⟨Nat.le_of_ble_eq_true rfl, Nat.le_of_ble_eq_true rfl⟩ ⟨(Nat.le_of_ble_eq_true rfl), (Nat.le_of_ble_eq_true rfl)⟩ dX2_clause_79) hw (fun _ => List.Perm.refl _) (fun r u H locs hp hw => ?_)
          obtain rfl : r = nI 32 * (nI 32 * ((nI 107) - nI 96) + (nI 110) - nI 96) + (nI 111) - nI 96 := hp
          rw [show nI 32 * (nI 32 * (nI 107 - nI 96) + nI 110 - nI 96) + nI 111 - nI 96 = nI 11727 from by decide]
          refine lv_bipush (v := (nI 119)) hx hb dX2_clause_82 zb_119 ?_
          refine lv_bipush (v := (nI 115)) hx hb dX2_clause_84 zb_115 ?_
          refine z_ci (z_runS (As := [.int (nI 11727), .int (nI 119), .int (nI 115)]) (rest := [.int (nI (valN 1 tx (tF tx n po) (tL tx n po)))]) hC zs_X2_107 (m_X2_longer G l (nI 11727) (nI 119) (nI 115) _) hw rfl rfl (Nat.le_of_ble_eq_true rfl) hl.1 ⟨Nat.le_of_ble_eq_true rfl, Nat.le_of_ble_eq_true rfl⟩ ⟨(Nat.le_of_ble_eq_true rfl), (Nat.le_of_ble_eq_true rfl)⟩ dX2_clause_86) hw (fun _ => List.Perm.refl _) (fun r u H locs hp hw => ?_)
          obtain rfl : r = nI 32 * (nI 32 * (nI 11727) + (nI 119) - nI 96) + (nI 115) - nI 96 := hp
          rw [show nI 32 * (nI 32 * nI 11727 + nI 119 - nI 96) + nI 115 - nI 96 = nI 12009203 from by decide]
          refine zi_ne (tgt := 99) hx hb (by have := hd_lt hpo hk1 hL7; omega) (by decide) dX2_clause_89 (by decide) (fun c_89 => ?_) (fun c_89 => ?_)
          · skip
            refine lv_iload_n hx hb dX2_clause_99 rfl (lv_at hl 1 rfl) ?_
            refine lv_bipush (v := (nI 104)) hx hb dX2_clause_100 zb_104 ?_
            refine lv_bipush (v := (nI 101)) hx hb dX2_clause_102 zb_101 ?_
            refine lv_bipush (v := (nI 100)) hx hb dX2_clause_104 zb_100 ?_
            refine z_ci (z_runS (As := [.int (nI 104), .int (nI 101), .int (nI 100)]) (rest := [.int (nI (valN 1 tx (tF tx n po) (tL tx n po)))]) hC zs_X2_103 (m_X2_word G l (nI 104) (nI 101) (nI 100) _) hw rfl rfl (Nat.le_of_ble_eq_true rfl) hl.1 ⟨Nat.le_of_ble_eq_true rfl, Nat.le_of_ble_eq_true rfl⟩ ⟨(Nat.le_of_ble_eq_true rfl), (Nat.le_of_ble_eq_true rfl)⟩ dX2_clause_106) hw (fun _ => List.Perm.refl _) (fun r u H locs hp hw => ?_)
            obtain rfl : r = nI 32 * (nI 32 * ((nI 104) - nI 96) + (nI 101) - nI 96) + (nI 100) - nI 96 := hp
            rw [show nI 32 * (nI 32 * (nI 104 - nI 96) + nI 101 - nI 96) + nI 100 - nI 96 = nI 8356 from by decide]
            refine lv_bipush (v := (nI 103)) hx hb dX2_clause_109 zb_103 ?_
            refine lv_bipush (v := (nI 101)) hx hb dX2_clause_111 zb_101 ?_
            refine z_ci (z_runS (As := [.int (nI 8356), .int (nI 103), .int (nI 101)]) (rest := [.int (nI (valN 1 tx (tF tx n po) (tL tx n po)))]) hC zs_X2_107 (m_X2_longer G l (nI 8356) (nI 103) (nI 101) _) hw rfl rfl (Nat.le_of_ble_eq_true rfl) hl.1 ⟨Nat.le_of_ble_eq_true rfl, Nat.le_of_ble_eq_true rfl⟩ ⟨(Nat.le_of_ble_eq_true rfl), (Nat.le_of_ble_eq_true rfl)⟩ dX2_clause_113) hw (fun _ => List.Perm.refl _) (fun r u H locs hp hw => ?_)
            obtain rfl : r = nI 32 * (nI 32 * (nI 8356) + (nI 103) - nI 96) + (nI 101) - nI 96 := hp
            rw [show nI 32 * (nI 32 * nI 8356 + nI 103 - nI 96) + nI 101 - nI 96 = nI 8556773 from by decide]
            refine zi_ne (tgt := 126) hx hb (by have := hd_lt hpo hk1 hL7; omega) (by decide) dX2_clause_116 (by decide) (fun c_116 => ?_) (fun c_116 => ?_)
            · skip
              refine lv_aload_n hx hb dX2_clause_126 rfl (lv_at hl 2 rfl) ?_
              refine lv_iconst (v := (nI 1)) hx hb dX2_clause_127 zk_1 ?_
              refine z_cv (z_runV (As := [.int (nI 1)]) (rest := []) hC zv_X2_96 (m_X2_fails_1 G l mo q cl un si n tx g0 (by omega) (by first | assumption | (omega)) (by first | assumption | (omega)) (nI (tS tx n po)) (nI (tF tx n po)) (nI (tK tx n po)) (nI (tL tx n po)) (nI (valN 1 tx (tF tx n po) (tL tx n po))) (zrem [0] _)) hw (hw.perm (z_cut (is := [0]) (cells := [(mo, zo 2 (mF q (nI n) (nI (tS tx n po)) (nI (tF tx n po)) (nI (tK tx n po)) (nI (tL tx n po)) (nI (valN 1 tx (tF tx n po) (tL tx n po))) (-1) cl un si))]) rfl rfl)) 0 rfl rfl rfl rfl rfl (Nat.le_of_ble_eq_true rfl) hl.1 ⟨Nat.le_of_ble_eq_true rfl, Nat.le_of_ble_eq_true rfl⟩ ⟨(Nat.le_of_ble_eq_true rfl), (Nat.le_of_ble_eq_true rfl)⟩ dX2_clause_128) hw (fun _ => z_pput (is := [0]) (cells := [(mo, zo 2 (mF q (nI n) (nI (tS tx n po)) (nI (tF tx n po)) (nI (tK tx n po)) (nI (tL tx n po)) (nI (valN 1 tx (tF tx n po) (tL tx n po))) (-1) cl un si))]) (cells' := [(mo, zo 2 (mF q (nI n) (nI (tS tx n po)) (nI (tF tx n po)) (nI (tK tx n po)) (nI (tL tx n po)) (nI (valN 1 tx (tF tx n po) (tL tx n po))) (nI (tF tx n po)) cl un si))]) rfl rfl rfl) (fun u H locs hp hw => ?_)
              have hw : zS G ((mo, zo 2 (mF q (nI n) (nI (tS tx n po)) (nI (tF tx n po)) (nI (tK tx n po)) (nI (tL tx n po)) (nI (valN 1 tx (tF tx n po) (tL tx n po))) (nI (tF tx n po)) cl un si)) :: (q 0, zc G 0 (zI 200 g0)) :: (q 10, zc G 0 (zI 46 (vI v))) :: rest) s H locs := hw
              exact hend _ _ _ _ _ _ (po, v, (nI (tF tx n po)), (nI (valN 1 tx (tF tx n po) (tL tx n po)))) hw (by first | exact cR_e (cl_sq hkd5 hks.2.1) hcr | exact cR_e (cl_6 ((head_iff 6 16692 hpo (by decide) (by decide) hk1).mp c_62)) hcr | exact cR_e (cl_7 ((head_iff 7 12009203 hpo (by decide) (by decide) hk1).mp c_89)) hcr | exact cR_e (cl_5 ((head_iff 5 8556773 hpo (by decide) (by decide) hk1).mp c_116)) hcr | exact cR_l hpo hpo (cl_n hns (mt (head_iff 5 8556773 hpo (by decide) (by decide) hk1).mpr c_116) (mt (head_iff 6 16692 hpo (by decide) (by decide) hk1).mpr c_62) (mt (head_iff 7 12009203 hpo (by decide) (by decide) hk1).mpr c_89)) | exact cR_l hpo hpo (cl_no (fun h => absurd h c_5)) | exact cR_l hpo hpo (cl_no (fun _ => by omega))) (Nat.le_of_ble_eq_true rfl) (Nat.le_of_ble_eq_true rfl) dX2_clause_131
            · skip
              refine lv_aload_n hx hb dX2_clause_119 rfl (lv_at hl 2 rfl) ?_
              refine z_cv (z_runV (As := []) (rest := []) hC zv_X2_127 (m_X2_tellsNothing G l mo q cl un si n tx g0 (by omega) (by first | assumption | (omega)) (by first | assumption | (omega)) po (by omega) (nI (tK tx n po)) (nI (tL tx n po)) (nI (valN 1 tx (tF tx n po) (tL tx n po))) v (by first | assumption | (omega)) (zrem [0, 1, 2] _)) hw (hw.perm (z_cut (is := [0, 1, 2]) (cells := [(mo, zo 2 (mF q (nI n) (nI (tS tx n po)) (nI (tF tx n po)) (nI (tK tx n po)) (nI (tL tx n po)) (nI (valN 1 tx (tF tx n po) (tL tx n po))) (-1) cl un si)), (q 0, zc G 0 (zI 200 g0)), (q 10, zc G 0 (zI 46 (vI v)))]) rfl rfl)) 0 rfl rfl rfl rfl rfl (Nat.le_of_ble_eq_true rfl) hl.1 ⟨Nat.le_of_ble_eq_true rfl, Nat.le_of_ble_eq_true rfl⟩ ⟨(Nat.le_of_ble_eq_true rfl), (Nat.le_of_ble_eq_true rfl)⟩ dX2_clause_120) hw (fun u => z_pput (is := [0, 1, 2]) (cells := [(mo, zo 2 (mF q (nI n) (nI (tS tx n po)) (nI (tF tx n po)) (nI (tK tx n po)) (nI (tL tx n po)) (nI (valN 1 tx (tF tx n po) (tL tx n po))) (-1) cl un si)), (q 0, zc G 0 (zI 200 g0)), (q 10, zc G 0 (zI 46 (vI v)))]) (cells' := [(mo, zo 2 (mF q (nI n) (nI (tS tx n u.1)) (nI (tF tx n u.1)) (nI (tK tx n u.1)) (nI (tL tx n u.1)) u.2.2.2 u.2.2.1 cl un si)), (q 0, zc G 0 (zI 200 g0)), (q 10, zc G 0 (zI 46 (vI u.2.1)))]) rfl rfl rfl) (fun u H locs hp hw => ?_)
              obtain ⟨p9_1, v9_1, w9_1, a9_1⟩ := u
              have hw : zS G ((mo, zo 2 (mF q (nI n) (nI (tS tx n p9_1)) (nI (tF tx n p9_1)) (nI (tK tx n p9_1)) (nI (tL tx n p9_1)) a9_1 w9_1 cl un si)) :: (q 0, zc G 0 (zI 200 g0)) :: (q 10, zc G 0 (zI 46 (vI v9_1))) :: rest) s H locs := hw
              have hcr := hp
              refine lv_goto (tgt := 131) hx hb dX2_clause_123 (by decide) ?_
              exact hend _ _ _ _ _ _ (p9_1, v9_1, w9_1, a9_1) hw (by first | exact cR_e (cl_sq hkd5 hks.2.1) hcr | exact cR_e (cl_6 ((head_iff 6 16692 hpo (by decide) (by decide) hk1).mp c_62)) hcr | exact cR_e (cl_7 ((head_iff 7 12009203 hpo (by decide) (by decide) hk1).mp c_89)) hcr | exact cR_e (cl_5 ((head_iff 5 8556773 hpo (by decide) (by decide) hk1).mp c_116)) hcr | exact cR_l hpo hpo (cl_n hns (mt (head_iff 5 8556773 hpo (by decide) (by decide) hk1).mpr c_116) (mt (head_iff 6 16692 hpo (by decide) (by decide) hk1).mpr c_62) (mt (head_iff 7 12009203 hpo (by decide) (by decide) hk1).mpr c_89)) | exact cR_l hpo hpo (cl_no (fun h => absurd h c_5)) | exact cR_l hpo hpo (cl_no (fun _ => by omega))) (Nat.le_of_ble_eq_true rfl) (Nat.le_of_ble_eq_true rfl) dX2_clause_131
          · skip
            refine lv_aload_n hx hb dX2_clause_92 rfl (lv_at hl 2 rfl) ?_
            refine z_cv (z_runV (As := []) (rest := []) hC zv_X2_124 (m_X2_tellsKnown G l mo q cl un si n tx g0 (by omega) (by first | assumption | (omega)) (by first | assumption | (omega)) po (by omega) (nI (tK tx n po)) (nI (tL tx n po)) (nI (valN 1 tx (tF tx n po) (tL tx n po))) v (by first | assumption | (omega)) (zrem [0, 1, 2] _)) hw (hw.perm (z_cut (is := [0, 1, 2]) (cells := [(mo, zo 2 (mF q (nI n) (nI (tS tx n po)) (nI (tF tx n po)) (nI (tK tx n po)) (nI (tL tx n po)) (nI (valN 1 tx (tF tx n po) (tL tx n po))) (-1) cl un si)), (q 0, zc G 0 (zI 200 g0)), (q 10, zc G 0 (zI 46 (vI v)))]) rfl rfl)) 0 rfl rfl rfl rfl rfl (Nat.le_of_ble_eq_true rfl) hl.1 ⟨Nat.le_of_ble_eq_true rfl, Nat.le_of_ble_eq_true rfl⟩ ⟨(Nat.le_of_ble_eq_true rfl), (Nat.le_of_ble_eq_true rfl)⟩ dX2_clause_93) hw (fun u => z_pput (is := [0, 1, 2]) (cells := [(mo, zo 2 (mF q (nI n) (nI (tS tx n po)) (nI (tF tx n po)) (nI (tK tx n po)) (nI (tL tx n po)) (nI (valN 1 tx (tF tx n po) (tL tx n po))) (-1) cl un si)), (q 0, zc G 0 (zI 200 g0)), (q 10, zc G 0 (zI 46 (vI v)))]) (cells' := [(mo, zo 2 (mF q (nI n) (nI (tS tx n u.1)) (nI (tF tx n u.1)) (nI (tK tx n u.1)) (nI (tL tx n u.1)) u.2.2.2 u.2.2.1 cl un si)), (q 0, zc G 0 (zI 200 g0)), (q 10, zc G 0 (zI 46 (vI u.2.1)))]) rfl rfl rfl) (fun u H locs hp hw => ?_)
            obtain ⟨p9_2, v9_2, w9_2, a9_2⟩ := u
            have hw : zS G ((mo, zo 2 (mF q (nI n) (nI (tS tx n p9_2)) (nI (tF tx n p9_2)) (nI (tK tx n p9_2)) (nI (tL tx n p9_2)) a9_2 w9_2 cl un si)) :: (q 0, zc G 0 (zI 200 g0)) :: (q 10, zc G 0 (zI 46 (vI v9_2))) :: rest) s H locs := hw
            have hcr := hp
            refine lv_goto (tgt := 131) hx hb dX2_clause_96 (by decide) ?_
            exact hend _ _ _ _ _ _ (p9_2, v9_2, w9_2, a9_2) hw (by first | exact cR_e (cl_sq hkd5 hks.2.1) hcr | exact cR_e (cl_6 ((head_iff 6 16692 hpo (by decide) (by decide) hk1).mp c_62)) hcr | exact cR_e (cl_7 ((head_iff 7 12009203 hpo (by decide) (by decide) hk1).mp c_89)) hcr | exact cR_e (cl_5 ((head_iff 5 8556773 hpo (by decide) (by decide) hk1).mp c_116)) hcr | exact cR_l hpo hpo (cl_n hns (mt (head_iff 5 8556773 hpo (by decide) (by decide) hk1).mpr c_116) (mt (head_iff 6 16692 hpo (by decide) (by decide) hk1).mpr c_62) (mt (head_iff 7 12009203 hpo (by decide) (by decide) hk1).mpr c_89)) | exact cR_l hpo hpo (cl_no (fun h => absurd h c_5)) | exact cR_l hpo hpo (cl_no (fun _ => by omega))) (Nat.le_of_ble_eq_true rfl) (Nat.le_of_ble_eq_true rfl) dX2_clause_131
        · skip
          refine lv_aload_n hx hb dX2_clause_65 rfl (lv_at hl 2 rfl) ?_
          refine z_cv (z_runV (As := []) (rest := []) hC zv_X2_121 (m_X2_tellsPit G l mo q cl un si n tx g0 (by omega) (by first | assumption | (omega)) (by first | assumption | (omega)) po (by omega) (nI (tK tx n po)) (nI (tL tx n po)) (nI (valN 1 tx (tF tx n po) (tL tx n po))) v (by first | assumption | (omega)) (zrem [0, 1, 2] _)) hw (hw.perm (z_cut (is := [0, 1, 2]) (cells := [(mo, zo 2 (mF q (nI n) (nI (tS tx n po)) (nI (tF tx n po)) (nI (tK tx n po)) (nI (tL tx n po)) (nI (valN 1 tx (tF tx n po) (tL tx n po))) (-1) cl un si)), (q 0, zc G 0 (zI 200 g0)), (q 10, zc G 0 (zI 46 (vI v)))]) rfl rfl)) 0 rfl rfl rfl rfl rfl (Nat.le_of_ble_eq_true rfl) hl.1 ⟨Nat.le_of_ble_eq_true rfl, Nat.le_of_ble_eq_true rfl⟩ ⟨(Nat.le_of_ble_eq_true rfl), (Nat.le_of_ble_eq_true rfl)⟩ dX2_clause_66) hw (fun u => z_pput (is := [0, 1, 2]) (cells := [(mo, zo 2 (mF q (nI n) (nI (tS tx n po)) (nI (tF tx n po)) (nI (tK tx n po)) (nI (tL tx n po)) (nI (valN 1 tx (tF tx n po) (tL tx n po))) (-1) cl un si)), (q 0, zc G 0 (zI 200 g0)), (q 10, zc G 0 (zI 46 (vI v)))]) (cells' := [(mo, zo 2 (mF q (nI n) (nI (tS tx n u.1)) (nI (tF tx n u.1)) (nI (tK tx n u.1)) (nI (tL tx n u.1)) u.2.2.2 u.2.2.1 cl un si)), (q 0, zc G 0 (zI 200 g0)), (q 10, zc G 0 (zI 46 (vI u.2.1)))]) rfl rfl rfl) (fun u H locs hp hw => ?_)
          obtain ⟨p9_3, v9_3, w9_3, a9_3⟩ := u
          have hw : zS G ((mo, zo 2 (mF q (nI n) (nI (tS tx n p9_3)) (nI (tF tx n p9_3)) (nI (tK tx n p9_3)) (nI (tL tx n p9_3)) a9_3 w9_3 cl un si)) :: (q 0, zc G 0 (zI 200 g0)) :: (q 10, zc G 0 (zI 46 (vI v9_3))) :: rest) s H locs := hw
          have hcr := hp
          refine lv_goto (tgt := 131) hx hb dX2_clause_69 (by decide) ?_
          exact hend _ _ _ _ _ _ (p9_3, v9_3, w9_3, a9_3) hw (by first | exact cR_e (cl_sq hkd5 hks.2.1) hcr | exact cR_e (cl_6 ((head_iff 6 16692 hpo (by decide) (by decide) hk1).mp c_62)) hcr | exact cR_e (cl_7 ((head_iff 7 12009203 hpo (by decide) (by decide) hk1).mp c_89)) hcr | exact cR_e (cl_5 ((head_iff 5 8556773 hpo (by decide) (by decide) hk1).mp c_116)) hcr | exact cR_l hpo hpo (cl_n hns (mt (head_iff 5 8556773 hpo (by decide) (by decide) hk1).mpr c_116) (mt (head_iff 6 16692 hpo (by decide) (by decide) hk1).mpr c_62) (mt (head_iff 7 12009203 hpo (by decide) (by decide) hk1).mpr c_89)) | exact cR_l hpo hpo (cl_no (fun h => absurd h c_5)) | exact cR_l hpo hpo (cl_no (fun _ => by omega))) (Nat.le_of_ble_eq_true rfl) (Nat.le_of_ble_eq_true rfl) dX2_clause_131
      · skip
        have hks := kd_sp hpo hk1 hL7 hkd
        have hkd5 := hks.1
        have hl : lv_has ls 3 [(1, .int (nI (valN 1 tx (tF tx n po) (tL tx n po)))), (0, .ref mo)] := hl
        have hw : zS G ((mo, zo 2 (mF q (nI n) (nI (tS tx n po)) (nI (tF tx n po)) (nI (tK tx n po)) (nI (tL tx n po)) (nI (valN 1 tx (tF tx n po) (tL tx n po))) (-1) cl un si)) :: (q 0, zc G 0 (zI 200 g0)) :: (q 10, zc G 0 (zI 46 (vI v))) :: rest) s H locs := hw
        refine lv_istore_n (lv' := [(2, .int (nI kd)), (1, .int (nI (valN 1 tx (tF tx n po) (tL tx n po)))), (0, .ref mo)]) hx hb dX2_clause_38 rfl hl (by decide) rfl (fun ls hl => ?_)
        refine lv_iload_n hx hb dX2_clause_39 rfl (lv_at hl 0 rfl) ?_
        refine lv_iconst (v := -1) hx hb dX2_clause_40 zk_m1 ?_
        refine lv_icmp_eq (tgt := 52) hx hb dX2_clause_41 (by decide) (fun h => absurd h (nI_nm1 (by omega))) (fun _ => ?_)
        refine lv_aload_n hx hb dX2_clause_44 rfl (lv_at hl 2 rfl) ?_
        refine lv_iload_n hx hb dX2_clause_45 rfl (lv_at hl 0 rfl) ?_
        refine z_cv (z_runV (As := [.int (nI kd)]) (rest := []) hC zv_X2_117 (m_X2_tellsSquirrel G l mo q cl un si n tx g0 (by omega) (by first | assumption | (omega)) (by first | assumption | (omega)) po (by omega) (nI (tK tx n po)) (nI (tL tx n po)) (nI (valN 1 tx (tF tx n po) (tL tx n po))) v (by first | assumption | (omega)) kd (zrem [0, 1, 2] _)) hw (hw.perm (z_cut (is := [0, 1, 2]) (cells := [(mo, zo 2 (mF q (nI n) (nI (tS tx n po)) (nI (tF tx n po)) (nI (tK tx n po)) (nI (tL tx n po)) (nI (valN 1 tx (tF tx n po) (tL tx n po))) (-1) cl un si)), (q 0, zc G 0 (zI 200 g0)), (q 10, zc G 0 (zI 46 (vI v)))]) rfl rfl)) 0 rfl rfl rfl rfl rfl (Nat.le_of_ble_eq_true rfl) hl.1 ⟨Nat.le_of_ble_eq_true rfl, Nat.le_of_ble_eq_true rfl⟩ ⟨(Nat.le_of_ble_eq_true rfl), (Nat.le_of_ble_eq_true rfl)⟩ dX2_clause_46) hw (fun u => z_pput (is := [0, 1, 2]) (cells := [(mo, zo 2 (mF q (nI n) (nI (tS tx n po)) (nI (tF tx n po)) (nI (tK tx n po)) (nI (tL tx n po)) (nI (valN 1 tx (tF tx n po) (tL tx n po))) (-1) cl un si)), (q 0, zc G 0 (zI 200 g0)), (q 10, zc G 0 (zI 46 (vI v)))]) (cells' := [(mo, zo 2 (mF q (nI n) (nI (tS tx n u.1)) (nI (tF tx n u.1)) (nI (tK tx n u.1)) (nI (tL tx n u.1)) u.2.2.2 u.2.2.1 cl un si)), (q 0, zc G 0 (zI 200 g0)), (q 10, zc G 0 (zI 46 (vI u.2.1)))]) rfl rfl rfl) (fun u H locs hp hw => ?_)
        obtain ⟨p9_4, v9_4, w9_4, a9_4⟩ := u
        have hw : zS G ((mo, zo 2 (mF q (nI n) (nI (tS tx n p9_4)) (nI (tF tx n p9_4)) (nI (tK tx n p9_4)) (nI (tL tx n p9_4)) a9_4 w9_4 cl un si)) :: (q 0, zc G 0 (zI 200 g0)) :: (q 10, zc G 0 (zI 46 (vI v9_4))) :: rest) s H locs := hw
        have hcr := hp
        refine lv_goto (tgt := 131) hx hb dX2_clause_49 (by decide) ?_
        exact hend _ _ _ _ _ _ (p9_4, v9_4, w9_4, a9_4) hw (by first | exact cR_e (cl_sq hkd5 hks.2.1) hcr | exact cR_e (cl_6 ((head_iff 6 16692 hpo (by decide) (by decide) hk1).mp c_62)) hcr | exact cR_e (cl_7 ((head_iff 7 12009203 hpo (by decide) (by decide) hk1).mp c_89)) hcr | exact cR_e (cl_5 ((head_iff 5 8556773 hpo (by decide) (by decide) hk1).mp c_116)) hcr | exact cR_l hpo hpo (cl_n hns (mt (head_iff 5 8556773 hpo (by decide) (by decide) hk1).mpr c_116) (mt (head_iff 6 16692 hpo (by decide) (by decide) hk1).mpr c_62) (mt (head_iff 7 12009203 hpo (by decide) (by decide) hk1).mpr c_89)) | exact cR_l hpo hpo (cl_no (fun h => absurd h c_5)) | exact cR_l hpo hpo (cl_no (fun _ => by omega))) (Nat.le_of_ble_eq_true rfl) (Nat.le_of_ble_eq_true rfl) dX2_clause_131
