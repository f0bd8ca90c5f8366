/-! COMPONENT: squirrels -/
set_option maxRecDepth 100000
/-- a squirrel's fields; a state's; the component's -/
def sqF (nm nd : Int32) : List Value := [.int nm, .int nd]
def stF (z : Nat → Nat) (co : Nat) (ps dy hg : Int32) : List Value := [.ref (z 0), .ref (z 1), .int ps, .ref (z 2), .ref (z 3), .ref (z 4), .int dy, .int hg, .ref co]
def cF (w : Nat → Nat) (mn bm sm le : Int32) : List Value := [.ref (w 0), .int mn, .ref (w 1), .ref (w 2), .ref (w 3), .ref (w 4), .ref (w 5), .int bm, .ref (w 6), .int sm, .ref (w 7), .ref (w 8), .int le]
def rankN (kd off place nuts t : Nat) : Nat := if kd < 2 then (off * 20 + place) * 10 + t else if kd = 2 then nuts * 10000 + ((off * 20 + place) * 10 + t) else t
set_option maxHeartbeats 4000000 in
theorem m_X0_has (G : zE) (l : Launch) (x : Nat) (k : Nat) (hx9 : x < 2147483648) (hk : k < 31) (rest : va_W) : zMi G l yX0_has cX0_has 2 (some .boolean) 0 0 0 [.int (nI x), .int (nI k)] (rest) (fun (r : Int32) (_ : Unit) => r = bI (x.testBit k = true)) (fun (_ : Unit) => rest) := by
  refine z_begZ (by decide) (Nat.le_of_ble_eq_true rfl) (fun p e s m args below meth c ls Q hC hl hw hend => ?_)
  have hx := hC.hx
  have hb := hC.hb
  have hl : lv_has ls 2 [(0, .int (nI x)), (1, .int (nI k))] := hl
  refine lv_iload_n hx hb dX0_has_0 rfl (lv_at hl 0 rfl) ?_
  refine lv_iload_n hx hb dX0_has_1 rfl (lv_at hl 1 rfl) ?_
  refine zv_ishr (v := (nI (x / 2 ^ k))) hx hb (nI_shr (by omega) (by omega)) dX0_has_2 ?_
  refine lv_iconst (v := (nI 1)) hx hb dX0_has_3 zk_1 ?_
  refine zv_iand (v := (nI ((x / 2 ^ k) &&& 1))) hx hb (nI_and _ _) dX0_has_4 ?_
  refine lv_iconst (v := (nI 1)) hx hb dX0_has_5 zk_1 ?_
  refine zi_ne (tgt := 13) hx hb (Nat.lt_of_le_of_lt Nat.and_le_right (by decide)) (by decide) dX0_has_6 (by decide) (fun c_6 => ?_) (fun c_6 => ?_)
  · skip
    refine lv_iconst (v := (nI 0)) hx hb dX0_has_13 zk_0 ?_
    exact hend _ _ _ _ _ _ _ () rfl hw (by first | exact (bI_t ((has_iff _ _).mp c_6)).symm | exact (bI_f ((has_niff _ _).mp c_6)).symm) (Nat.le_of_ble_eq_true rfl) (Nat.le_of_ble_eq_true rfl) dX0_has_14
  · skip
    refine lv_iconst (v := (nI 1)) hx hb dX0_has_9 zk_1 ?_
    refine lv_goto (tgt := 14) hx hb dX0_has_10 (by decide) ?_
    exact hend _ _ _ _ _ _ _ () rfl hw (by first | exact (bI_t ((has_iff _ _).mp c_6)).symm | exact (bI_f ((has_niff _ _).mp c_6)).symm) (Nat.le_of_ble_eq_true rfl) (Nat.le_of_ble_eq_true rfl) dX0_has_14
set_option maxHeartbeats 4000000 in
theorem m_X12_wants (G : zE) (l : Launch) (oq : Nat) (n : Nat) (rest : va_W) : zMi G l yX12_wants cX12_wants 2 (some .int) 0 0 0 [.ref oq, .int (nI n)] (rest) (fun (r : Int32) (_ : Unit) => r = nI n) (fun (_ : Unit) => rest) := by
  refine z_begI (by decide) (Nat.le_of_ble_eq_true rfl) (fun p e s m args below meth c ls Q hC hl hw hend => ?_)
  have hx := hC.hx
  have hb := hC.hb
  have hl : lv_has ls 2 [(0, .ref oq), (1, .int (nI n))] := hl
  refine lv_iload_n hx hb dX12_wants_0 rfl (lv_at hl 1 rfl) ?_
  exact hend _ _ _ _ _ _ _ () hw (by first | rfl | simp_all) (Nat.le_of_ble_eq_true rfl) (Nat.le_of_ble_eq_true rfl) dX12_wants_1
set_option maxHeartbeats 4000000 in
theorem m_X12_wakes (G : zE) (l : Launch) (oq : Nat) (n : Int32) (rest : va_W) : zMi G l yX12_wakes cX12_wakes 2 (some .boolean) 0 0 0 [.ref oq, .int n] (rest) (fun (r : Int32) (_ : Unit) => r = bI True) (fun (_ : Unit) => rest) := by
  refine z_begZ (by decide) (Nat.le_of_ble_eq_true rfl) (fun p e s m args below meth c ls Q hC hl hw hend => ?_)
  have hx := hC.hx
  have hb := hC.hb
  have hl : lv_has ls 2 [(0, .ref oq), (1, .int n)] := hl
  refine lv_iconst (v := (nI 1)) hx hb dX12_wakes_0 zk_1 ?_
  exact hend _ _ _ _ _ _ _ () rfl hw (bI_t trivial).symm (Nat.le_of_ble_eq_true rfl) (Nat.le_of_ble_eq_true rfl) dX12_wakes_1
set_option maxHeartbeats 4000000 in
theorem m_X12_spies (G : zE) (l : Launch) (oq : Nat) (rest : va_W) : zMi G l yX12_spies cX12_spies 1 (some .boolean) 0 0 0 [.ref oq] (rest) (fun (r : Int32) (_ : Unit) => r = bI False) (fun (_ : Unit) => rest) := by
  refine z_begZ (by decide) (Nat.le_of_ble_eq_true rfl) (fun p e s m args below meth c ls Q hC hl hw hend => ?_)
  have hx := hC.hx
  have hb := hC.hb
  have hl : lv_has ls 1 [(0, .ref oq)] := hl
  refine lv_iconst (v := (nI 0)) hx hb dX12_spies_0 zk_0 ?_
  exact hend _ _ _ _ _ _ _ () rfl hw (bI_f id).symm (Nat.le_of_ble_eq_true rfl) (Nat.le_of_ble_eq_true rfl) dX12_spies_1
set_option maxHeartbeats 4000000 in
theorem m_X6_kind (G : zE) (l : Launch) (oq : Nat) (rest : va_W) : zMi G l yX6_kind cX6_kind 1 (some .int) 0 0 0 [.ref oq] (rest) (fun (r : Int32) (_ : Unit) => r = nI 0) (fun (_ : Unit) => rest) := by
  refine z_begI (by decide) (Nat.le_of_ble_eq_true rfl) (fun p e s m args below meth c ls Q hC hl hw hend => ?_)
  have hx := hC.hx
  have hb := hC.hb
  have hl : lv_has ls 1 [(0, .ref oq)] := hl
  refine lv_iconst (v := (nI 0)) hx hb dX6_kind_0 zk_0 ?_
  exact hend _ _ _ _ _ _ _ () hw (by first | rfl | simp_all) (Nat.le_of_ble_eq_true rfl) (Nat.le_of_ble_eq_true rfl) dX6_kind_1
set_option maxHeartbeats 4000000 in
theorem m_X9_kind (G : zE) (l : Launch) (oq : Nat) (rest : va_W) : zMi G l yX9_kind cX9_kind 1 (some .int) 0 0 0 [.ref oq] (rest) (fun (r : Int32) (_ : Unit) => r = nI 3) (fun (_ : Unit) => rest) := by
  refine z_begI (by decide) (Nat.le_of_ble_eq_true rfl) (fun p e s m args below meth c ls Q hC hl hw hend => ?_)
  have hx := hC.hx
  have hb := hC.hb
  have hl : lv_has ls 1 [(0, .ref oq)] := hl
  refine lv_iconst (v := (nI 3)) hx hb dX9_kind_0 zk_3 ?_
  exact hend _ _ _ _ _ _ _ () hw (by first | rfl | simp_all) (Nat.le_of_ble_eq_true rfl) (Nat.le_of_ble_eq_true rfl) dX9_kind_1
theorem zn_X6_kind : zNs yX6_kind cX6_kind 1 (some .int) 0 := ⟨q848, q78, ⟨by decide +kernel, by decide +kernel⟩, by decide +kernel⟩
theorem zu_X7_7 : GoodIn lw_all (va_wsSU RX7 7 yX6_kind (ws_ yX6_kind cX6_kind 1 (some .int))) := by
  refine lw_app ?_ (lw_meth q848)
  intro w hw
  simp only [List.mem_cons, List.not_mem_nil, or_false] at hw
  rcases hw with e | e | e | e | e
  · rw [e]; exact q846
  · rw [e]; exact q2178
  · rw [e]; exact q781
  · rw [e]; exact q847
  · rw [e]; exact q78
set_option maxHeartbeats 4000000 in
theorem m_X7_kind (G : zE) (l : Launch) (kA : Nat → Nat) (hG : zG G kA) (oq : Nat) (nm : Int32) (nd : Int32) (rest : va_W) : zMi G l yX7_kind cX7_kind 1 (some .int) 1 0 0 [.ref oq] ((oq, zo 6 (sqF nm nd)) :: rest) (fun (r : Int32) (_ : Unit) => r = nI 1) (fun (_ : Unit) => (oq, zo 6 (sqF nm nd)) :: rest) := by
  refine z_begI (by decide) (Nat.le_of_ble_eq_true rfl) (fun p e s m args below meth c ls Q hC hl hw hend => ?_)
  have hx := hC.hx
  have hb := hC.hb
  have hl : lv_has ls 1 [(0, .ref oq)] := hl
  have hw : zS G ((oq, zo 6 (sqF nm nd)) :: rest) s s.heap [] := hw
  have hz := hG s hC.hZ.1
  refine lv_iconst (v := (nI 1)) hx hb dX7_kind_0 zk_1 ?_
  refine lv_aload_n hx hb dX7_kind_1 rfl (lv_at hl 0 rfl) ?_
  refine z_ci (z_runSU (n := 0) (As := []) (rest := [.int (nI 1)]) hC ⟨zu_X7_7, by decide +kernel, by decide +kernel⟩ (m_X6_kind G l oq _) hw hw 0 rfl rfl rfl rfl (Nat.le_of_ble_eq_true rfl) hl.1 ⟨Nat.le_of_ble_eq_true rfl, Nat.le_of_ble_eq_true rfl⟩ ⟨(Nat.le_of_ble_eq_true rfl), (Nat.le_of_ble_eq_true rfl)⟩ dX7_kind_2) hw (fun _ => List.Perm.refl _) (fun r u H locs hp hw => ?_)
  obtain rfl : r = nI 0 := hp
  refine zn_iadd hx hb dX7_kind_5 ?_
  exact hend _ _ _ _ _ _ _ () hw (by first | rfl | simp_all) (Nat.le_of_ble_eq_true rfl) (Nat.le_of_ble_eq_true rfl) dX7_kind_6
theorem zu_X8_7 : GoodIn lw_all (va_wsSU RX8 7 yX6_kind (ws_ yX6_kind cX6_kind 1 (some .int))) := by
  refine lw_app ?_ (lw_meth q848)
  intro w hw
  simp only [List.mem_cons, List.not_mem_nil, or_false] at hw
  rcases hw with e | e | e | e | e
  · rw [e]; exact q852
  · rw [e]; exact q2178
  · rw [e]; exact q790
  · rw [e]; exact q847
  · rw [e]; exact q78
set_option maxHeartbeats 4000000 in
theorem m_X8_kind (G : zE) (l : Launch) (kA : Nat → Nat) (hG : zG G kA) (oq : Nat) (nm : Int32) (nd : Int32) (rest : va_W) : zMi G l yX8_kind cX8_kind 1 (some .int) 1 0 0 [.ref oq] ((oq, zo 7 (sqF nm nd)) :: rest) (fun (r : Int32) (_ : Unit) => r = nI 2) (fun (_ : Unit) => (oq, zo 7 (sqF nm nd)) :: rest) := by
  refine z_begI (by decide) (Nat.le_of_ble_eq_true rfl) (fun p e s m args below meth c ls Q hC hl hw hend => ?_)
  have hx := hC.hx
  have hb := hC.hb
  have hl : lv_has ls 1 [(0, .ref oq)] := hl
  have hw : zS G ((oq, zo 7 (sqF nm nd)) :: rest) s s.heap [] := hw
  have hz := hG s hC.hZ.1
  refine lv_iconst (v := (nI 2)) hx hb dX8_kind_0 zk_2 ?_
  refine lv_aload_n hx hb dX8_kind_1 rfl (lv_at hl 0 rfl) ?_
  refine z_ci (z_runSU (n := 0) (As := []) (rest := [.int (nI 2)]) hC ⟨zu_X8_7, by decide +kernel, by decide +kernel⟩ (m_X6_kind G l oq _) hw hw 0 rfl rfl rfl rfl (Nat.le_of_ble_eq_true rfl) hl.1 ⟨Nat.le_of_ble_eq_true rfl, Nat.le_of_ble_eq_true rfl⟩ ⟨(Nat.le_of_ble_eq_true rfl), (Nat.le_of_ble_eq_true rfl)⟩ dX8_kind_2) hw (fun _ => List.Perm.refl _) (fun r u H locs hp hw => ?_)
  obtain rfl : r = nI 0 := hp
  refine zn_iadd hx hb dX8_kind_5 ?_
  exact hend _ _ _ _ _ _ _ () hw (by first | rfl | simp_all) (Nat.le_of_ble_eq_true rfl) (Nat.le_of_ble_eq_true rfl) dX8_kind_6
theorem zn_X9_kind : zNs yX9_kind cX9_kind 1 (some .int) 0 := ⟨q842, q81, ⟨by decide +kernel, by decide +kernel⟩, by decide +kernel⟩
theorem zu_X10_7 : GoodIn lw_all (va_wsSU RX10 7 yX9_kind (ws_ yX9_kind cX9_kind 1 (some .int))) := by
  refine lw_app ?_ (lw_meth q842)
  intro w hw
  simp only [List.mem_cons, List.not_mem_nil, or_false] at hw
  rcases hw with e | e | e | e | e
  · rw [e]; exact q857
  · rw [e]; exact q2179
  · rw [e]; exact q808
  · rw [e]; exact q841
  · rw [e]; exact q81
set_option maxHeartbeats 4000000 in
theorem m_X10_kind (G : zE) (l : Launch) (kA : Nat → Nat) (hG : zG G kA) (oq : Nat) (nm : Int32) (nd : Int32) (rest : va_W) : zMi G l yX10_kind cX10_kind 1 (some .int) 1 0 0 [.ref oq] ((oq, zo 9 (sqF nm nd)) :: rest) (fun (r : Int32) (_ : Unit) => r = nI 4) (fun (_ : Unit) => (oq, zo 9 (sqF nm nd)) :: rest) := by
  refine z_begI (by decide) (Nat.le_of_ble_eq_true rfl) (fun p e s m args below meth c ls Q hC hl hw hend => ?_)
  have hx := hC.hx
  have hb := hC.hb
  have hl : lv_has ls 1 [(0, .ref oq)] := hl
  have hw : zS G ((oq, zo 9 (sqF nm nd)) :: rest) s s.heap [] := hw
  have hz := hG s hC.hZ.1
  refine lv_iconst (v := (nI 1)) hx hb dX10_kind_0 zk_1 ?_
  refine lv_aload_n hx hb dX10_kind_1 rfl (lv_at hl 0 rfl) ?_
  refine z_ci (z_runSU (n := 0) (As := []) (rest := [.int (nI 1)]) hC ⟨zu_X10_7, by decide +kernel, by decide +kernel⟩ (m_X9_kind G l oq _) hw hw 0 rfl rfl rfl rfl (Nat.le_of_ble_eq_true rfl) hl.1 ⟨Nat.le_of_ble_eq_true rfl, Nat.le_of_ble_eq_true rfl⟩ ⟨(Nat.le_of_ble_eq_true rfl), (Nat.le_of_ble_eq_true rfl)⟩ dX10_kind_2) hw (fun _ => List.Perm.refl _) (fun r u H locs hp hw => ?_)
  obtain rfl : r = nI 3 := hp
  refine zn_iadd hx hb dX10_kind_5 ?_
  exact hend _ _ _ _ _ _ _ () hw (by first | rfl | simp_all) (Nat.le_of_ble_eq_true rfl) (Nat.le_of_ble_eq_true rfl) dX10_kind_6
set_option maxHeartbeats 4000000 in
theorem m_X6_rank (G : zE) (l : Launch) (oq : Nat) (o9 : Nat) (pl : Nat) (nu : Nat) (t : Nat) (rest : va_W) : zMi G l yX6_rank cX6_rank 5 (some .int) 0 0 0 [.ref oq, .int (nI o9), .int (nI pl), .int (nI nu), .int (nI t)] (rest) (fun (r : Int32) (_ : Unit) => r = nI ((o9 * 20 + pl) * 10 + t)) (fun (_ : Unit) => rest) := by
  refine z_begI (by decide) (Nat.le_of_ble_eq_true rfl) (fun p e s m args below meth c ls Q hC hl hw hend => ?_)
  have hx := hC.hx
  have hb := hC.hb
  have hl : lv_has ls 5 [(0, .ref oq), (1, .int (nI o9)), (2, .int (nI pl)), (3, .int (nI nu)), (4, .int (nI t))] := hl
  refine lv_iload_n hx hb dX6_rank_0 rfl (lv_at hl 1 rfl) ?_
  refine lv_bipush (v := (nI 20)) hx hb dX6_rank_1 zb_20 ?_
  refine zn_imul hx hb dX6_rank_3 ?_
  refine lv_iload_n hx hb dX6_rank_4 rfl (lv_at hl 2 rfl) ?_
  refine zn_iadd hx hb dX6_rank_5 ?_
  refine lv_bipush (v := (nI 10)) hx hb dX6_rank_6 zb_10 ?_
  refine zn_imul hx hb dX6_rank_8 ?_
  refine lv_iload hx hb dX6_rank_9 (lv_at hl 4 rfl) ?_
  refine zn_iadd hx hb dX6_rank_11 ?_
  exact hend _ _ _ _ _ _ _ () hw (by first | rfl | simp_all) (Nat.le_of_ble_eq_true rfl) (Nat.le_of_ble_eq_true rfl) dX6_rank_12
theorem zn_X6_rank : zNs yX6_rank cX6_rank 5 (some .int) 4 := ⟨q990, q78, ⟨by decide +kernel, by decide +kernel⟩, by decide +kernel⟩
theorem zu_X8_11 : GoodIn lw_all (va_wsSU RX8 11 yX6_rank (ws_ yX6_rank cX6_rank 5 (some .int))) := by
  refine lw_app ?_ (lw_meth q990)
  intro w hw
  simp only [List.mem_cons, List.not_mem_nil, or_false] at hw
  rcases hw with e | e | e | e | e
  · rw [e]; exact q994
  · rw [e]; exact q2181
  · rw [e]; exact q790
  · rw [e]; exact q989
  · rw [e]; exact q78
set_option maxHeartbeats 4000000 in
theorem m_X8_rank (G : zE) (l : Launch) (kA : Nat → Nat) (hG : zG G kA) (oq : Nat) (o9 : Nat) (pl : Nat) (nu : Nat) (t : Nat) (nm : Int32) (nd : Int32) (rest : va_W) : zMi G l yX8_rank cX8_rank 5 (some .int) 1 0 0 [.ref oq, .int (nI o9), .int (nI pl), .int (nI nu), .int (nI t)] ((oq, zo 7 (sqF nm nd)) :: rest) (fun (r : Int32) (_ : Unit) => r = nI (nu * 10000 + ((o9 * 20 + pl) * 10 + t))) (fun (_ : Unit) => (oq, zo 7 (sqF nm nd)) :: rest) := by
  refine z_begI (by decide) (Nat.le_of_ble_eq_true rfl) (fun p e s m args below meth c ls Q hC hl hw hend => ?_)
  have hx := hC.hx
  have hb := hC.hb
  have hl : lv_has ls 5 [(0, .ref oq), (1, .int (nI o9)), (2, .int (nI pl)), (3, .int (nI nu)), (4, .int (nI t))] := hl
  have hw : zS G ((oq, zo 7 (sqF nm nd)) :: rest) s s.heap [] := hw
  have hz := hG s hC.hZ.1
  refine lv_iload_n hx hb dX8_rank_0 rfl (lv_at hl 3 rfl) ?_
  refine lv_sipush (v := (nI 10000)) hx hb dX8_rank_1 zs_10000 ?_
  refine zn_imul hx hb dX8_rank_4 ?_
  refine lv_aload_n hx hb dX8_rank_5 rfl (lv_at hl 0 rfl) ?_
  refine lv_iload_n hx hb dX8_rank_6 rfl (lv_at hl 1 rfl) ?_
  refine lv_iload_n hx hb dX8_rank_7 rfl (lv_at hl 2 rfl) ?_
  refine lv_iload_n hx hb dX8_rank_8 rfl (lv_at hl 3 rfl) ?_
  refine lv_iload hx hb dX8_rank_9 (lv_at hl 4 rfl) ?_
  refine z_ci (z_runSU (n := 4) (As := [.int (nI o9), .int (nI pl), .int (nI nu), .int (nI t)]) (rest := [.int (nI (nu * 10000))]) hC ⟨zu_X8_11, by decide +kernel, by decide +kernel⟩ (m_X6_rank G l oq o9 pl nu t _) hw hw 0 rfl rfl rfl rfl (Nat.le_of_ble_eq_true rfl) hl.1 ⟨Nat.le_of_ble_eq_true rfl, Nat.le_of_ble_eq_true rfl⟩ ⟨(Nat.le_of_ble_eq_true rfl), (Nat.le_of_ble_eq_true rfl)⟩ dX8_rank_11) hw (fun _ => List.Perm.refl _) (fun r u H locs hp hw => ?_)
  obtain rfl : r = nI ((o9 * 20 + pl) * 10 + t) := hp
  refine zn_iadd hx hb dX8_rank_14 ?_
  exact hend _ _ _ _ _ _ _ () hw (by first | rfl | simp_all) (Nat.le_of_ble_eq_true rfl) (Nat.le_of_ble_eq_true rfl) dX8_rank_15
set_option maxHeartbeats 4000000 in
theorem m_X9_rank (G : zE) (l : Launch) (oq : Nat) (o9 : Nat) (pl : Nat) (nu : Nat) (t : Nat) (rest : va_W) : zMi G l yX9_rank cX9_rank 5 (some .int) 0 0 0 [.ref oq, .int (nI o9), .int (nI pl), .int (nI nu), .int (nI t)] (rest) (fun (r : Int32) (_ : Unit) => r = nI t) (fun (_ : Unit) => rest) := by
  refine z_begI (by decide) (Nat.le_of_ble_eq_true rfl) (fun p e s m args below meth c ls Q hC hl hw hend => ?_)
  have hx := hC.hx
  have hb := hC.hb
  have hl : lv_has ls 5 [(0, .ref oq), (1, .int (nI o9)), (2, .int (nI pl)), (3, .int (nI nu)), (4, .int (nI t))] := hl
  refine lv_iload hx hb dX9_rank_0 (lv_at hl 4 rfl) ?_
  exact hend _ _ _ _ _ _ _ () hw (by first | rfl | simp_all) (Nat.le_of_ble_eq_true rfl) (Nat.le_of_ble_eq_true rfl) dX9_rank_2
theorem zn_X12_wants : zNs yX12_wants cX12_wants 2 (some .int) 1 := ⟨q876, q2195, ⟨by decide +kernel, by decide +kernel⟩, by decide +kernel⟩
set_option maxHeartbeats 4000000 in
theorem m_X7_wants (G : zE) (l : Launch) (kA : Nat → Nat) (hG : zG G kA) (oq : Nat) (n : Nat) (nm : Int32) (nd : Int32) (rest : va_W) : zMi G l yX7_wants cX7_wants 2 (some .int) 1 0 0 [.ref oq, .int (nI n)] ((oq, zo 6 (sqF nm nd)) :: rest) (fun (r : Int32) (_ : Unit) => r = nI (2 * n)) (fun (_ : Unit) => (oq, zo 6 (sqF nm nd)) :: rest) := by
  refine z_begI (by decide) (Nat.le_of_ble_eq_true rfl) (fun p e s m args below meth c ls Q hC hl hw hend => ?_)
  have hx := hC.hx
  have hb := hC.hb
  have hl : lv_has ls 2 [(0, .ref oq), (1, .int (nI n))] := hl
  have hw : zS G ((oq, zo 6 (sqF nm nd)) :: rest) s s.heap [] := hw
  have hz := hG s hC.hZ.1
  refine lv_iconst (v := (nI 2)) hx hb dX7_wants_0 zk_2 ?_
  refine lv_aload_n hx hb dX7_wants_1 rfl (lv_at hl 0 rfl) ?_
  refine lv_iload_n hx hb dX7_wants_2 rfl (lv_at hl 1 rfl) ?_
  refine z_ci (z_runSD (x := (⟨"NutCaches$Plain", "wants", "(I)I"⟩ : MethodName)) (owner := "NutCaches$Habit") (n := 1) (As := [.int (nI n)]) (rest := [.int (nI 2)]) hC ⟨zn_X12_wants, q875, q781, rfl, by decide +kernel, by decide +kernel⟩ (hz.1 _ (cw_d 3 rfl rfl)) (hz.1 _ (cw_d 4 rfl rfl)) (hz.2.1 1 _ rfl) (m_X12_wants G l oq n _) hw hw 0 rfl rfl rfl rfl (Nat.le_of_ble_eq_true rfl) hl.1 ⟨Nat.le_of_ble_eq_true rfl, Nat.le_of_ble_eq_true rfl⟩ ⟨(Nat.le_of_ble_eq_true rfl), (Nat.le_of_ble_eq_true rfl)⟩ dX7_wants_3) hw (fun _ => List.Perm.refl _) (fun r u H locs hp hw => ?_)
  obtain rfl : r = nI n := hp
  refine zn_imul hx hb dX7_wants_6 ?_
  exact hend _ _ _ _ _ _ _ () hw (by first | rfl | simp_all) (Nat.le_of_ble_eq_true rfl) (Nat.le_of_ble_eq_true rfl) dX7_wants_7
set_option maxHeartbeats 4000000 in
theorem m_X9_wants_3 (G : zE) (l : Launch) (kA : Nat → Nat) (hG : zG G kA) (oq : Nat) (n : Nat) (nm : Int32) (nd : Int32) (rest : va_W) : zMi G l yX9_wants cX9_wants 2 (some .int) 1 0 0 [.ref oq, .int (nI n)] ((oq, zo 8 (sqF nm nd)) :: rest) (fun (r : Int32) (_ : Unit) => r = nI (1 + n)) (fun (_ : Unit) => (oq, zo 8 (sqF nm nd)) :: rest) := by
  refine z_begI (by decide) (Nat.le_of_ble_eq_true rfl) (fun p e s m args below meth c ls Q hC hl hw hend => ?_)
  have hx := hC.hx
  have hb := hC.hb
  have hl : lv_has ls 2 [(0, .ref oq), (1, .int (nI n))] := hl
  have hw : zS G ((oq, zo 8 (sqF nm nd)) :: rest) s s.heap [] := hw
  have hz := hG s hC.hZ.1
  refine lv_iconst (v := (nI 1)) hx hb dX9_wants_0 zk_1 ?_
  refine lv_aload_n hx hb dX9_wants_1 rfl (lv_at hl 0 rfl) ?_
  refine lv_iload_n hx hb dX9_wants_2 rfl (lv_at hl 1 rfl) ?_
  refine z_ci (z_runSD (x := (⟨"NutCaches$Squirrel", "wants", "(I)I"⟩ : MethodName)) (owner := "NutCaches$Habit") (n := 1) (As := [.int (nI n)]) (rest := [.int (nI 1)]) hC ⟨zn_X12_wants, q875, q799, rfl, by decide +kernel, by decide +kernel⟩ (hz.1 _ (cw_d 2 rfl rfl)) (hz.1 _ (cw_d 1 rfl rfl)) (hz.2.1 0 _ rfl) (m_X12_wants G l oq n _) hw hw 0 rfl rfl rfl rfl (Nat.le_of_ble_eq_true rfl) hl.1 ⟨Nat.le_of_ble_eq_true rfl, Nat.le_of_ble_eq_true rfl⟩ ⟨(Nat.le_of_ble_eq_true rfl), (Nat.le_of_ble_eq_true rfl)⟩ dX9_wants_3) hw (fun _ => List.Perm.refl _) (fun r u H locs hp hw => ?_)
  obtain rfl : r = nI n := hp
  refine zn_iadd hx hb dX9_wants_6 ?_
  exact hend _ _ _ _ _ _ _ () hw (by first | rfl | simp_all) (Nat.le_of_ble_eq_true rfl) (Nat.le_of_ble_eq_true rfl) dX9_wants_7
set_option maxHeartbeats 4000000 in
theorem m_X9_wants_4 (G : zE) (l : Launch) (kA : Nat → Nat) (hG : zG G kA) (oq : Nat) (n : Nat) (nm : Int32) (nd : Int32) (rest : va_W) : zMi G l yX9_wants cX9_wants 2 (some .int) 1 0 0 [.ref oq, .int (nI n)] ((oq, zo 9 (sqF nm nd)) :: rest) (fun (r : Int32) (_ : Unit) => r = nI (1 + n)) (fun (_ : Unit) => (oq, zo 9 (sqF nm nd)) :: rest) := by
  refine z_begI (by decide) (Nat.le_of_ble_eq_true rfl) (fun p e s m args below meth c ls Q hC hl hw hend => ?_)
  have hx := hC.hx
  have hb := hC.hb
  have hl : lv_has ls 2 [(0, .ref oq), (1, .int (nI n))] := hl
  have hw : zS G ((oq, zo 9 (sqF nm nd)) :: rest) s s.heap [] := hw
  have hz := hG s hC.hZ.1
  refine lv_iconst (v := (nI 1)) hx hb dX9_wants_0 zk_1 ?_
  refine lv_aload_n hx hb dX9_wants_1 rfl (lv_at hl 0 rfl) ?_
  refine lv_iload_n hx hb dX9_wants_2 rfl (lv_at hl 1 rfl) ?_
  refine z_ci (z_runSD (x := (⟨"NutCaches$Squirrel", "wants", "(I)I"⟩ : MethodName)) (owner := "NutCaches$Habit") (n := 1) (As := [.int (nI n)]) (rest := [.int (nI 1)]) hC ⟨zn_X12_wants, q875, q799, rfl, by decide +kernel, by decide +kernel⟩ (hz.1 _ (cw_d 2 rfl rfl)) (hz.1 _ (cw_d 1 rfl rfl)) (hz.2.1 0 _ rfl) (m_X12_wants G l oq n _) hw hw 0 rfl rfl rfl rfl (Nat.le_of_ble_eq_true rfl) hl.1 ⟨Nat.le_of_ble_eq_true rfl, Nat.le_of_ble_eq_true rfl⟩ ⟨(Nat.le_of_ble_eq_true rfl), (Nat.le_of_ble_eq_true rfl)⟩ dX9_wants_3) hw (fun _ => List.Perm.refl _) (fun r u H locs hp hw => ?_)
  obtain rfl : r = nI n := hp
  refine zn_iadd hx hb dX9_wants_6 ?_
  exact hend _ _ _ _ _ _ _ () hw (by first | rfl | simp_all) (Nat.le_of_ble_eq_true rfl) (Nat.le_of_ble_eq_true rfl) dX9_wants_7
theorem zn_X12_wakes : zNs yX12_wakes cX12_wakes 2 (some .boolean) 1 := ⟨q964, q2195, ⟨by decide +kernel, by decide +kernel⟩, by decide +kernel⟩
set_option maxHeartbeats 4000000 in
theorem m_X9_wakes_3 (G : zE) (l : Launch) (kA : Nat → Nat) (hG : zG G kA) (oq : Nat) (n : Nat) (nm : Int32) (nd : Int32) (hn : n < 2147483648) (rest : va_W) : zMi G l yX9_wakes cX9_wakes 2 (some .boolean) 1 0 0 [.ref oq, .int (nI n)] ((oq, zo 8 (sqF nm nd)) :: rest) (fun (r : Int32) (_ : Unit) => r = bI (n % 2 = 0)) (fun (_ : Unit) => (oq, zo 8 (sqF nm nd)) :: rest) := by
  refine z_begZ (by decide) (Nat.le_of_ble_eq_true rfl) (fun p e s m args below meth c ls Q hC hl hw hend => ?_)
  have hx := hC.hx
  have hb := hC.hb
  have hl : lv_has ls 2 [(0, .ref oq), (1, .int (nI n))] := hl
  have hw : zS G ((oq, zo 8 (sqF nm nd)) :: rest) s s.heap [] := hw
  have hz := hG s hC.hZ.1
  refine lv_aload_n hx hb dX9_wakes_0 rfl (lv_at hl 0 rfl) ?_
  refine lv_iload_n hx hb dX9_wakes_1 rfl (lv_at hl 1 rfl) ?_
  refine z_ci (z_runSD (x := (⟨"NutCaches$Squirrel", "wakes", "(I)Z"⟩ : MethodName)) (owner := "NutCaches$Habit") (n := 1) (As := [.int (nI n)]) (rest := []) hC ⟨zn_X12_wakes, q963, q799, rfl, by decide +kernel, by decide +kernel⟩ (hz.1 _ (cw_d 11 rfl rfl)) (hz.1 _ (cw_d 10 rfl rfl)) (hz.2.1 9 _ rfl) (m_X12_wakes G l oq (nI n) _) hw hw 0 rfl rfl rfl rfl (Nat.le_of_ble_eq_true rfl) hl.1 ⟨Nat.le_of_ble_eq_true rfl, Nat.le_of_ble_eq_true rfl⟩ ⟨(Nat.le_of_ble_eq_true rfl), (Nat.le_of_ble_eq_true rfl)⟩ dX9_wakes_2) hw (fun _ => List.Perm.refl _) (fun r u H locs hp hw => ?_)
  obtain rfl : r = bI True := hp
  refine zb_eq (tgt := 18) hx hb dX9_wakes_5 (by decide) (fun q => absurd trivial q) (fun _ => ?_)
  refine lv_iload_n hx hb dX9_wakes_8 rfl (lv_at hl 1 rfl) ?_
  refine lv_iconst (v := (nI 2)) hx hb dX9_wakes_9 zk_2 ?_
  refine zn_irem hx hb (by omega) (by decide) (by decide) dX9_wakes_10 ?_
  refine zj_ne (tgt := 18) hx hb (by omega) dX9_wakes_11 (by decide) (fun c_11 => ?_) (fun c_11 => ?_)
  · skip
    refine lv_iconst (v := (nI 0)) hx hb dX9_wakes_18 zk_0 ?_
    exact hend _ _ _ _ _ _ _ () rfl hw (by first | exact (bI_t (by omega)).symm | exact (bI_f (by omega)).symm) (Nat.le_of_ble_eq_true rfl) (Nat.le_of_ble_eq_true rfl) dX9_wakes_19
  · skip
    refine lv_iconst (v := (nI 1)) hx hb dX9_wakes_14 zk_1 ?_
    refine lv_goto (tgt := 19) hx hb dX9_wakes_15 (by decide) ?_
    exact hend _ _ _ _ _ _ _ () rfl hw (by first | exact (bI_t (by omega)).symm | exact (bI_f (by omega)).symm) (Nat.le_of_ble_eq_true rfl) (Nat.le_of_ble_eq_true rfl) dX9_wakes_19
set_option maxHeartbeats 4000000 in
theorem m_X9_wakes_4 (G : zE) (l : Launch) (kA : Nat → Nat) (hG : zG G kA) (oq : Nat) (n : Nat) (nm : Int32) (nd : Int32) (hn : n < 2147483648) (rest : va_W) : zMi G l yX9_wakes cX9_wakes 2 (some .boolean) 1 0 0 [.ref oq, .int (nI n)] ((oq, zo 9 (sqF nm nd)) :: rest) (fun (r : Int32) (_ : Unit) => r = bI (n % 2 = 0)) (fun (_ : Unit) => (oq, zo 9 (sqF nm nd)) :: rest) := by
  refine z_begZ (by decide) (Nat.le_of_ble_eq_true rfl) (fun p e s m args below meth c ls Q hC hl hw hend => ?_)
  have hx := hC.hx
  have hb := hC.hb
  have hl : lv_has ls 2 [(0, .ref oq), (1, .int (nI n))] := hl
  have hw : zS G ((oq, zo 9 (sqF nm nd)) :: rest) s s.heap [] := hw
  have hz := hG s hC.hZ.1
  refine lv_aload_n hx hb dX9_wakes_0 rfl (lv_at hl 0 rfl) ?_
  refine lv_iload_n hx hb dX9_wakes_1 rfl (lv_at hl 1 rfl) ?_
  refine z_ci (z_runSD (x := (⟨"NutCaches$Squirrel", "wakes", "(I)Z"⟩ : MethodName)) (owner := "NutCaches$Habit") (n := 1) (As := [.int (nI n)]) (rest := []) hC ⟨zn_X12_wakes, q963, q799, rfl, by decide +kernel, by decide +kernel⟩ (hz.1 _ (cw_d 11 rfl rfl)) (hz.1 _ (cw_d 10 rfl rfl)) (hz.2.1 9 _ rfl) (m_X12_wakes G l oq (nI n) _) hw hw 0 rfl rfl rfl rfl (Nat.le_of_ble_eq_true rfl) hl.1 ⟨Nat.le_of_ble_eq_true rfl, Nat.le_of_ble_eq_true rfl⟩ ⟨(Nat.le_of_ble_eq_true rfl), (Nat.le_of_ble_eq_true rfl)⟩ dX9_wakes_2) hw (fun _ => List.Perm.refl _) (fun r u H locs hp hw => ?_)
  obtain rfl : r = bI True := hp
  refine zb_eq (tgt := 18) hx hb dX9_wakes_5 (by decide) (fun q => absurd trivial q) (fun _ => ?_)
  refine lv_iload_n hx hb dX9_wakes_8 rfl (lv_at hl 1 rfl) ?_
  refine lv_iconst (v := (nI 2)) hx hb dX9_wakes_9 zk_2 ?_
  refine zn_irem hx hb (by omega) (by decide) (by decide) dX9_wakes_10 ?_
  refine zj_ne (tgt := 18) hx hb (by omega) dX9_wakes_11 (by decide) (fun c_11 => ?_) (fun c_11 => ?_)
  · skip
    refine lv_iconst (v := (nI 0)) hx hb dX9_wakes_18 zk_0 ?_
    exact hend _ _ _ _ _ _ _ () rfl hw (by first | exact (bI_t (by omega)).symm | exact (bI_f (by omega)).symm) (Nat.le_of_ble_eq_true rfl) (Nat.le_of_ble_eq_true rfl) dX9_wakes_19
  · skip
    refine lv_iconst (v := (nI 1)) hx hb dX9_wakes_14 zk_1 ?_
    refine lv_goto (tgt := 19) hx hb dX9_wakes_15 (by decide) ?_
    exact hend _ _ _ _ _ _ _ () rfl hw (by first | exact (bI_t (by omega)).symm | exact (bI_f (by omega)).symm) (Nat.le_of_ble_eq_true rfl) (Nat.le_of_ble_eq_true rfl) dX9_wakes_19
theorem zn_X9_wakes : zNs yX9_wakes cX9_wakes 2 (some .boolean) 1 := ⟨q962, q81, ⟨by decide +kernel, by decide +kernel⟩, by decide +kernel⟩
theorem zu_X10_11 : GoodIn lw_all (va_wsSU RX10 11 yX9_wakes (ws_ yX9_wakes cX9_wakes 2 (some .boolean))) := by
  refine lw_app ?_ (lw_meth q962)
  intro w hw
  simp only [List.mem_cons, List.not_mem_nil, or_false] at hw
  rcases hw with e | e | e | e | e
  · rw [e]; exact q971
  · rw [e]; exact q2180
  · rw [e]; exact q808
  · rw [e]; exact q961
  · rw [e]; exact q81
set_option maxHeartbeats 4000000 in
theorem m_X10_wakes (G : zE) (l : Launch) (kA : Nat → Nat) (hG : zG G kA) (oq : Nat) (n : Nat) (nm : Int32) (nd : Int32) (hn : n < 1073741824) (rest : va_W) : zMi G l yX10_wakes cX10_wakes 2 (some .boolean) 2 0 0 [.ref oq, .int (nI n)] ((oq, zo 9 (sqF nm nd)) :: rest) (fun (r : Int32) (_ : Unit) => r = bI True) (fun (_ : Unit) => (oq, zo 9 (sqF nm nd)) :: rest) := by
  refine z_begZ (by decide) (Nat.le_of_ble_eq_true rfl) (fun p e s m args below meth c ls Q hC hl hw hend => ?_)
  have hx := hC.hx
  have hb := hC.hb
  have hl : lv_has ls 2 [(0, .ref oq), (1, .int (nI n))] := hl
  have hw : zS G ((oq, zo 9 (sqF nm nd)) :: rest) s s.heap [] := hw
  have hz := hG s hC.hZ.1
  refine lv_aload_n hx hb dX10_wakes_0 rfl (lv_at hl 0 rfl) ?_
  refine lv_iconst (v := (nI 2)) hx hb dX10_wakes_1 zk_2 ?_
  refine lv_iload_n hx hb dX10_wakes_2 rfl (lv_at hl 1 rfl) ?_
  refine zn_imul hx hb dX10_wakes_3 ?_
  refine z_ci (z_runSU (n := 1) (As := [.int (nI (2 * n))]) (rest := []) hC ⟨zu_X10_11, by decide +kernel, by decide +kernel⟩ (m_X9_wakes_4 G l kA (by first | assumption | (omega)) oq (2 * n) nm nd (by omega) (zrem [0] _)) hw (hw.perm (z_cut (is := [0]) (cells := [(oq, zo 9 (sqF nm nd))]) rfl rfl)) 0 rfl rfl rfl rfl (Nat.le_of_ble_eq_true rfl) hl.1 ⟨Nat.le_of_ble_eq_true rfl, Nat.le_of_ble_eq_true rfl⟩ ⟨(Nat.le_of_ble_eq_true rfl), (Nat.le_of_ble_eq_true rfl)⟩ dX10_wakes_4) hw (fun _ => z_keep (is := [0]) (cs := [(oq, zo 9 (sqF nm nd))]) rfl rfl) (fun r u H locs hp hw => ?_)
  obtain rfl : r = bI ((2 * n) % 2 = 0) := hp
  exact hend _ _ _ _ _ _ _ () (bI_nar _) hw (by exact bI_iff ⟨fun _ => trivial, fun _ => by omega⟩) (Nat.le_of_ble_eq_true rfl) (Nat.le_of_ble_eq_true rfl) dX10_wakes_7
theorem zn_X12_spies : zNs yX12_spies cX12_spies 1 (some .boolean) 0 := ⟨q946, q2195, ⟨by decide +kernel, by decide +kernel⟩, by decide +kernel⟩
set_option maxHeartbeats 4000000 in
theorem m_X10_spies (G : zE) (l : Launch) (kA : Nat → Nat) (hG : zG G kA) (oq : Nat) (nm : Int32) (nd : Int32) (rest : va_W) : zMi G l yX10_spies cX10_spies 1 (some .boolean) 1 0 0 [.ref oq] ((oq, zo 9 (sqF nm nd)) :: rest) (fun (r : Int32) (_ : Unit) => r = bI True) (fun (_ : Unit) => (oq, zo 9 (sqF nm nd)) :: rest) := by
  refine z_begZ (by decide) (Nat.le_of_ble_eq_true rfl) (fun p e s m args below meth c ls Q hC hl hw hend => ?_)
  have hx := hC.hx
  have hb := hC.hb
  have hl : lv_has ls 1 [(0, .ref oq)] := hl
  have hw : zS G ((oq, zo 9 (sqF nm nd)) :: rest) s s.heap [] := hw
  have hz := hG s hC.hZ.1
  refine lv_aload_n hx hb dX10_spies_0 rfl (lv_at hl 0 rfl) ?_
  refine z_ci (z_runSD (x := (⟨"NutCaches$Dozy", "spies", "()Z"⟩ : MethodName)) (owner := "NutCaches$Habit") (n := 0) (As := []) (rest := []) hC ⟨zn_X12_spies, q945, q808, rfl, by decide +kernel, by decide +kernel⟩ (hz.1 _ (cw_d 7 rfl rfl)) (hz.1 _ (cw_d 8 rfl rfl)) (hz.2.1 8 _ rfl) (m_X12_spies G l oq _) hw hw 0 rfl rfl rfl rfl (Nat.le_of_ble_eq_true rfl) hl.1 ⟨Nat.le_of_ble_eq_true rfl, Nat.le_of_ble_eq_true rfl⟩ ⟨(Nat.le_of_ble_eq_true rfl), (Nat.le_of_ble_eq_true rfl)⟩ dX10_spies_1) hw (fun _ => List.Perm.refl _) (fun r u H locs hp hw => ?_)
  obtain rfl : r = bI False := hp
  refine zb_ne (tgt := 11) hx hb dX10_spies_4 (by decide) (fun q => absurd q id) (fun _ => ?_)
  refine lv_iconst (v := (nI 1)) hx hb dX10_spies_7 zk_1 ?_
  refine lv_goto (tgt := 12) hx hb dX10_spies_8 (by decide) ?_
  exact hend _ _ _ _ _ _ _ () rfl hw (bI_t trivial).symm (Nat.le_of_ble_eq_true rfl) (Nat.le_of_ble_eq_true rfl) dX10_spies_12
theorem zf_X5_13_5 : zFl 5 1 RX5 13 true .int := ⟨RX6, TX6, 2, tyX6, rfl, by decide, in_X6, q765, rfl, by decide +kernel, tyX6_ok, nmX6⟩
set_option maxHeartbeats 4000000 in
theorem m_X5_wants_0 (G : zE) (l : Launch) (kA : Nat → Nat) (hG : zG G kA) (oq : Nat) (nd : Nat) (nm : Int32) (rest : va_W) : zMi G l yX5_wants cX5_wants 1 (some .int) 2 0 0 [.ref oq] ((oq, zo 5 (sqF nm (nI nd))) :: rest) (fun (r : Int32) (_ : Unit) => r = nI nd) (fun (_ : Unit) => (oq, zo 5 (sqF nm (nI nd))) :: rest) := by
  refine z_begI (by decide) (Nat.le_of_ble_eq_true rfl) (fun p e s m args below meth c ls Q hC hl hw hend => ?_)
  have hx := hC.hx
  have hb := hC.hb
  have hl : lv_has ls 1 [(0, .ref oq)] := hl
  have hw : zS G ((oq, zo 5 (sqF nm (nI nd))) :: rest) s s.heap [] := hw
  have hz := hG s hC.hZ.1
  refine lv_aload_n hx hb dX5_wants_0 rfl (lv_at hl 0 rfl) ?_
  refine lv_aload_n hx hb dX5_wants_1 rfl (lv_at hl 0 rfl) ?_
  refine z_get (v := .int (nI nd)) hC zf_X5_13_5 hw 0 rfl rfl dX5_wants_2 ?_
  refine z_ci (z_runD (x := (⟨"NutCaches$Squirrel", "wants", "(I)I"⟩ : MethodName)) (owner := "NutCaches$Habit") (n := 1) (As := [.int (nI nd)]) (rest := []) hC ⟨zn_X12_wants, q875, ⟨by decide +kernel, by decide +kernel⟩, by decide +kernel⟩ (hz.1 _ (cw_d 0 rfl rfl)) (hz.1 _ (cw_d 1 rfl rfl)) (hz.1 _ (cw_t q871 rfl)) (hz.2.1 3 _ rfl) (m_X12_wants G l oq nd _) hw hw 0 rfl rfl rfl rfl (Nat.le_of_ble_eq_true rfl) hl.1 ⟨Nat.le_of_ble_eq_true rfl, Nat.le_of_ble_eq_true rfl⟩ ⟨(Nat.le_of_ble_eq_true rfl), (Nat.le_of_ble_eq_true rfl)⟩ dX5_wants_5) hw (fun _ => List.Perm.refl _) (fun r u H locs hp hw => ?_)
  obtain rfl : r = nI nd := hp
  exact hend _ _ _ _ _ _ _ () hw (by first | rfl | simp_all) (Nat.le_of_ble_eq_true rfl) (Nat.le_of_ble_eq_true rfl) dX5_wants_8
theorem zf_X5_13_6 : zFl 6 1 RX5 13 true .int := ⟨RX7, TX7, 2, tyX7, rfl, by decide, in_X7, q765, rfl, by decide +kernel, tyX7_ok, nmX7⟩
theorem zn_X7_wants : zNs yX7_wants cX7_wants 2 (some .int) 1 := ⟨q879, q79, ⟨by decide +kernel, by decide +kernel⟩, by decide +kernel⟩
set_option maxHeartbeats 4000000 in
theorem m_X5_wants_1 (G : zE) (l : Launch) (kA : Nat → Nat) (hG : zG G kA) (oq : Nat) (nd : Nat) (nm : Int32) (rest : va_W) : zMi G l yX5_wants cX5_wants 1 (some .int) 2 0 0 [.ref oq] ((oq, zo 6 (sqF nm (nI nd))) :: rest) (fun (r : Int32) (_ : Unit) => r = nI (2 * nd)) (fun (_ : Unit) => (oq, zo 6 (sqF nm (nI nd))) :: rest) := by
  refine z_begI (by decide) (Nat.le_of_ble_eq_true rfl) (fun p e s m args below meth c ls Q hC hl hw hend => ?_)
  have hx := hC.hx
  have hb := hC.hb
  have hl : lv_has ls 1 [(0, .ref oq)] := hl
  have hw : zS G ((oq, zo 6 (sqF nm (nI nd))) :: rest) s s.heap [] := hw
  have hz := hG s hC.hZ.1
  refine lv_aload_n hx hb dX5_wants_0 rfl (lv_at hl 0 rfl) ?_
  refine lv_aload_n hx hb dX5_wants_1 rfl (lv_at hl 0 rfl) ?_
  refine z_get (v := .int (nI nd)) hC zf_X5_13_6 hw 0 rfl rfl dX5_wants_2 ?_
  refine z_ci (z_runB (x := (⟨"NutCaches$Squirrel", "wants", "(I)I"⟩ : MethodName)) (owner := "NutCaches$Habit") (C := "NutCaches$Greedy") (n := 1) (As := [.int (nI nd)]) (rest := []) hC ⟨zn_X7_wants, q878, q877, ⟨by decide +kernel, by decide +kernel⟩, by decide +kernel⟩ (va_Nw.use rfl (hz.1 _ (cw_d 0 rfl rfl))) (va_Nw.use rfl (hz.1 _ (cw_d 1 rfl rfl))) (z_declO hC q875 q876) (m_X7_wants G l kA (by first | assumption | (omega)) oq nd nm (nI nd) (zrem [0] _)) hw (hw.perm (z_cut (is := [0]) (cells := [(oq, zo 6 (sqF nm (nI nd)))]) rfl rfl)) 0 rfl rfl rfl rfl rfl (Nat.le_of_ble_eq_true rfl) hl.1 ⟨Nat.le_of_ble_eq_true rfl, Nat.le_of_ble_eq_true rfl⟩ ⟨(Nat.le_of_ble_eq_true rfl), (Nat.le_of_ble_eq_true rfl)⟩ dX5_wants_5) hw (fun _ => z_keep (is := [0]) (cs := [(oq, zo 6 (sqF nm (nI nd)))]) rfl rfl) (fun r u H locs hp hw => ?_)
  obtain rfl : r = nI (2 * nd) := hp
  exact hend _ _ _ _ _ _ _ () hw (by first | rfl | simp_all) (Nat.le_of_ble_eq_true rfl) (Nat.le_of_ble_eq_true rfl) dX5_wants_8
theorem zf_X5_13_7 : zFl 7 1 RX5 13 true .int := ⟨RX8, TX8, 2, tyX8, rfl, by decide, in_X8, q765, rfl, by decide +kernel, tyX8_ok, nmX8⟩
set_option maxHeartbeats 4000000 in
theorem m_X5_wants_2 (G : zE) (l : Launch) (kA : Nat → Nat) (hG : zG G kA) (oq : Nat) (nd : Nat) (nm : Int32) (rest : va_W) : zMi G l yX5_wants cX5_wants 1 (some .int) 2 0 0 [.ref oq] ((oq, zo 7 (sqF nm (nI nd))) :: rest) (fun (r : Int32) (_ : Unit) => r = nI nd) (fun (_ : Unit) => (oq, zo 7 (sqF nm (nI nd))) :: rest) := by
  refine z_begI (by decide) (Nat.le_of_ble_eq_true rfl) (fun p e s m args below meth c ls Q hC hl hw hend => ?_)
  have hx := hC.hx
  have hb := hC.hb
  have hl : lv_has ls 1 [(0, .ref oq)] := hl
  have hw : zS G ((oq, zo 7 (sqF nm (nI nd))) :: rest) s s.heap [] := hw
  have hz := hG s hC.hZ.1
  refine lv_aload_n hx hb dX5_wants_0 rfl (lv_at hl 0 rfl) ?_
  refine lv_aload_n hx hb dX5_wants_1 rfl (lv_at hl 0 rfl) ?_
  refine z_get (v := .int (nI nd)) hC zf_X5_13_7 hw 0 rfl rfl dX5_wants_2 ?_
  refine z_ci (z_runD (x := (⟨"NutCaches$Squirrel", "wants", "(I)I"⟩ : MethodName)) (owner := "NutCaches$Habit") (n := 1) (As := [.int (nI nd)]) (rest := []) hC ⟨zn_X12_wants, q875, ⟨by decide +kernel, by decide +kernel⟩, by decide +kernel⟩ (hz.1 _ (cw_d 0 rfl rfl)) (hz.1 _ (cw_d 1 rfl rfl)) (hz.1 _ (cw_t q871 rfl)) (hz.2.1 2 _ rfl) (m_X12_wants G l oq nd _) hw hw 0 rfl rfl rfl rfl (Nat.le_of_ble_eq_true rfl) hl.1 ⟨Nat.le_of_ble_eq_true rfl, Nat.le_of_ble_eq_true rfl⟩ ⟨(Nat.le_of_ble_eq_true rfl), (Nat.le_of_ble_eq_true rfl)⟩ dX5_wants_5) hw (fun _ => List.Perm.refl _) (fun r u H locs hp hw => ?_)
  obtain rfl : r = nI nd := hp
  exact hend _ _ _ _ _ _ _ () hw (by first | rfl | simp_all) (Nat.le_of_ble_eq_true rfl) (Nat.le_of_ble_eq_true rfl) dX5_wants_8
theorem zf_X5_13_8 : zFl 8 1 RX5 13 true .int := ⟨RX9, TX9, 2, tyX9, rfl, by decide, in_X9, q765, rfl, by decide +kernel, tyX9_ok, nmX9⟩
theorem zn_X9_wants : zNs yX9_wants cX9_wants 2 (some .int) 1 := ⟨q874, q81, ⟨by decide +kernel, by decide +kernel⟩, by decide +kernel⟩
set_option maxHeartbeats 4000000 in
theorem m_X5_wants_3 (G : zE) (l : Launch) (kA : Nat → Nat) (hG : zG G kA) (oq : Nat) (nd : Nat) (nm : Int32) (rest : va_W) : zMi G l yX5_wants cX5_wants 1 (some .int) 2 0 0 [.ref oq] ((oq, zo 8 (sqF nm (nI nd))) :: rest) (fun (r : Int32) (_ : Unit) => r = nI (1 + nd)) (fun (_ : Unit) => (oq, zo 8 (sqF nm (nI nd))) :: rest) := by
  refine z_begI (by decide) (Nat.le_of_ble_eq_true rfl) (fun p e s m args below meth c ls Q hC hl hw hend => ?_)
  have hx := hC.hx
  have hb := hC.hb
  have hl : lv_has ls 1 [(0, .ref oq)] := hl
  have hw : zS G ((oq, zo 8 (sqF nm (nI nd))) :: rest) s s.heap [] := hw
  have hz := hG s hC.hZ.1
  refine lv_aload_n hx hb dX5_wants_0 rfl (lv_at hl 0 rfl) ?_
  refine lv_aload_n hx hb dX5_wants_1 rfl (lv_at hl 0 rfl) ?_
  refine z_get (v := .int (nI nd)) hC zf_X5_13_8 hw 0 rfl rfl dX5_wants_2 ?_
  refine z_ci (z_runB (x := (⟨"NutCaches$Squirrel", "wants", "(I)I"⟩ : MethodName)) (owner := "NutCaches$Habit") (C := "NutCaches$Dozy") (n := 1) (As := [.int (nI nd)]) (rest := []) hC ⟨zn_X9_wants, q873, q872, ⟨by decide +kernel, by decide +kernel⟩, by decide +kernel⟩ (va_Nw.use rfl (hz.1 _ (cw_d 0 rfl rfl))) (va_Nw.use rfl (hz.1 _ (cw_d 1 rfl rfl))) (z_declO hC q875 q876) (m_X9_wants_3 G l kA (by first | assumption | (omega)) oq nd nm (nI nd) (zrem [0] _)) hw (hw.perm (z_cut (is := [0]) (cells := [(oq, zo 8 (sqF nm (nI nd)))]) rfl rfl)) 0 rfl rfl rfl rfl rfl (Nat.le_of_ble_eq_true rfl) hl.1 ⟨Nat.le_of_ble_eq_true rfl, Nat.le_of_ble_eq_true rfl⟩ ⟨(Nat.le_of_ble_eq_true rfl), (Nat.le_of_ble_eq_true rfl)⟩ dX5_wants_5) hw (fun _ => z_keep (is := [0]) (cs := [(oq, zo 8 (sqF nm (nI nd)))]) rfl rfl) (fun r u H locs hp hw => ?_)
  obtain rfl : r = nI (1 + nd) := hp
  exact hend _ _ _ _ _ _ _ () hw (by first | rfl | simp_all) (Nat.le_of_ble_eq_true rfl) (Nat.le_of_ble_eq_true rfl) dX5_wants_8
theorem zf_X5_13_9 : zFl 9 1 RX5 13 true .int := ⟨RX10, TX10, 2, tyX10, rfl, by decide, in_X10, q765, rfl, by decide +kernel, tyX10_ok, nmX10⟩
set_option maxHeartbeats 4000000 in
theorem m_X5_wants_4 (G : zE) (l : Launch) (kA : Nat → Nat) (hG : zG G kA) (oq : Nat) (nd : Nat) (nm : Int32) (rest : va_W) : zMi G l yX5_wants cX5_wants 1 (some .int) 2 0 0 [.ref oq] ((oq, zo 9 (sqF nm (nI nd))) :: rest) (fun (r : Int32) (_ : Unit) => r = nI (1 + nd)) (fun (_ : Unit) => (oq, zo 9 (sqF nm (nI nd))) :: rest) := by
  refine z_begI (by decide) (Nat.le_of_ble_eq_true rfl) (fun p e s m args below meth c ls Q hC hl hw hend => ?_)
  have hx := hC.hx
  have hb := hC.hb
  have hl : lv_has ls 1 [(0, .ref oq)] := hl
  have hw : zS G ((oq, zo 9 (sqF nm (nI nd))) :: rest) s s.heap [] := hw
  have hz := hG s hC.hZ.1
  refine lv_aload_n hx hb dX5_wants_0 rfl (lv_at hl 0 rfl) ?_
  refine lv_aload_n hx hb dX5_wants_1 rfl (lv_at hl 0 rfl) ?_
  refine z_get (v := .int (nI nd)) hC zf_X5_13_9 hw 0 rfl rfl dX5_wants_2 ?_
  refine z_ci (z_runB (x := (⟨"NutCaches$Squirrel", "wants", "(I)I"⟩ : MethodName)) (owner := "NutCaches$Habit") (C := "NutCaches$Spy") (n := 1) (As := [.int (nI nd)]) (rest := []) hC ⟨zn_X9_wants, q873, q882, ⟨by decide +kernel, by decide +kernel⟩, by decide +kernel⟩ (va_Nw.use rfl (hz.1 _ (cw_d 0 rfl rfl))) (va_Nw.use rfl (hz.1 _ (cw_d 1 rfl rfl))) (z_declO hC q875 q876) (m_X9_wants_4 G l kA (by first | assumption | (omega)) oq nd nm (nI nd) (zrem [0] _)) hw (hw.perm (z_cut (is := [0]) (cells := [(oq, zo 9 (sqF nm (nI nd)))]) rfl rfl)) 0 rfl rfl rfl rfl rfl (Nat.le_of_ble_eq_true rfl) hl.1 ⟨Nat.le_of_ble_eq_true rfl, Nat.le_of_ble_eq_true rfl⟩ ⟨(Nat.le_of_ble_eq_true rfl), (Nat.le_of_ble_eq_true rfl)⟩ dX5_wants_5) hw (fun _ => z_keep (is := [0]) (cs := [(oq, zo 9 (sqF nm (nI nd)))]) rfl rfl) (fun r u H locs hp hw => ?_)
  obtain rfl : r = nI (1 + nd) := hp
  exact hend _ _ _ _ _ _ _ () hw (by first | rfl | simp_all) (Nat.le_of_ble_eq_true rfl) (Nat.le_of_ble_eq_true rfl) dX5_wants_8
