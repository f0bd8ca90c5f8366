/-! COMPONENT: kinds -/
set_option maxRecDepth 100000
theorem zf_X5_7_5 : zFl 5 0 RX5 7 true .int := ⟨RX6, TX6, 2, tyX6, rfl, by decide, in_X6, q763, rfl, by decide +kernel, tyX6_ok, nmX6⟩
set_option maxHeartbeats 4000000 in
theorem m_X5_init_0 (G : zE) (l : Launch) (kA : Nat → Nat) (hG : zG G kA) (oq : Nat) (i : Nat) (nd : Nat) (rest : va_W) : zMv G l yX5_init cX5_init 3 1 0 0 [.ref oq, .int (nI i), .int (nI nd)] ((oq, zo 5 [.int 0, .int 0]) :: rest) (fun (_ : Unit) => True) (fun (_ : Unit) => (oq, zo 5 (sqF (nI i) (nI nd))) :: rest) := by
  refine z_begV (by decide) (Nat.le_of_ble_eq_true rfl) (fun p e s m args below meth c ls Q hC hnm hl hw hend => ?_)
  have hx := hC.hx
  have hb := hC.hb
  have hl : lv_has ls 3 [(0, .ref oq), (1, .int (nI i)), (2, .int (nI nd))] := hl
  have hw : zS G ((oq, zo 5 [.int 0, .int 0]) :: rest) s s.heap [] := hw
  have hz := hG s hC.hZ.1
  refine lv_aload_n hx hb dX5_init_0 rfl (lv_at hl 0 rfl) ?_
  refine W.objInit hx hb hC.hown (hC.hts _ q762) (hC.hts _ q102) (hC.hts _ q103) rfl (by rw [hC.hml]; exact hl.1) rfl dX5_init_1 (Nat.le_of_ble_eq_true rfl) (Nat.le_of_ble_eq_true rfl) ?_
  refine W.eq (g2 := F0 m 4 ls []) rfl ?_
  refine lv_aload_n hx hb dX5_init_4 rfl (lv_at hl 0 rfl) ?_
  refine lv_iload_n hx hb dX5_init_5 rfl (lv_at hl 1 rfl) ?_
  refine z_putF hC zf_X5_7_5 ⟨_, rfl, rfl⟩ hnm hw 0 rfl rfl rfl (Nat.le_of_ble_eq_true rfl) dX5_init_6 (fun H locs hw => ?_)
  have hw : zS G ((oq, zo 5 [.int (nI i), .int 0]) :: rest) s H locs := hw
  refine lv_aload_n hx hb dX5_init_9 rfl (lv_at hl 0 rfl) ?_
  refine lv_iload_n hx hb dX5_init_10 rfl (lv_at hl 2 rfl) ?_
  refine z_putF hC zf_X5_13_5 ⟨_, rfl, rfl⟩ hnm hw 0 rfl rfl rfl (Nat.le_of_ble_eq_true rfl) dX5_init_11 (fun H locs hw => ?_)
  have hw : zS G ((oq, zo 5 [.int (nI i), .int (nI nd)]) :: rest) s H locs := hw
  exact hend _ _ _ _ _ _ () hw trivial (Nat.le_of_ble_eq_true rfl) (Nat.le_of_ble_eq_true rfl) dX5_init_14
theorem zf_X5_7_6 : zFl 6 0 RX5 7 true .int := ⟨RX7, TX7, 2, tyX7, rfl, by decide, in_X7, q763, rfl, by decide +kernel, tyX7_ok, nmX7⟩
set_option maxHeartbeats 4000000 in
theorem m_X5_init_1 (G : zE) (l : Launch) (kA : Nat → Nat) (hG : zG G kA) (oq : Nat) (i : Nat) (nd : Nat) (rest : va_W) : zMv G l yX5_init cX5_init 3 1 0 0 [.ref oq, .int (nI i), .int (nI nd)] ((oq, zo 6 [.int 0, .int 0]) :: rest) (fun (_ : Unit) => True) (fun (_ : Unit) => (oq, zo 6 (sqF (nI i) (nI nd))) :: rest) := by
  refine z_begV (by decide) (Nat.le_of_ble_eq_true rfl) (fun p e s m args below meth c ls Q hC hnm hl hw hend => ?_)
  have hx := hC.hx
  have hb := hC.hb
  have hl : lv_has ls 3 [(0, .ref oq), (1, .int (nI i)), (2, .int (nI nd))] := hl
  have hw : zS G ((oq, zo 6 [.int 0, .int 0]) :: rest) s s.heap [] := hw
  have hz := hG s hC.hZ.1
  refine lv_aload_n hx hb dX5_init_0 rfl (lv_at hl 0 rfl) ?_
  refine W.objInit hx hb hC.hown (hC.hts _ q762) (hC.hts _ q102) (hC.hts _ q103) rfl (by rw [hC.hml]; exact hl.1) rfl dX5_init_1 (Nat.le_of_ble_eq_true rfl) (Nat.le_of_ble_eq_true rfl) ?_
  refine W.eq (g2 := F0 m 4 ls []) rfl ?_
  refine lv_aload_n hx hb dX5_init_4 rfl (lv_at hl 0 rfl) ?_
  refine lv_iload_n hx hb dX5_init_5 rfl (lv_at hl 1 rfl) ?_
  refine z_putF hC zf_X5_7_6 ⟨_, rfl, rfl⟩ hnm hw 0 rfl rfl rfl (Nat.le_of_ble_eq_true rfl) dX5_init_6 (fun H locs hw => ?_)
  have hw : zS G ((oq, zo 6 [.int (nI i), .int 0]) :: rest) s H locs := hw
  refine lv_aload_n hx hb dX5_init_9 rfl (lv_at hl 0 rfl) ?_
  refine lv_iload_n hx hb dX5_init_10 rfl (lv_at hl 2 rfl) ?_
  refine z_putF hC zf_X5_13_6 ⟨_, rfl, rfl⟩ hnm hw 0 rfl rfl rfl (Nat.le_of_ble_eq_true rfl) dX5_init_11 (fun H locs hw => ?_)
  have hw : zS G ((oq, zo 6 [.int (nI i), .int (nI nd)]) :: rest) s H locs := hw
  exact hend _ _ _ _ _ _ () hw trivial (Nat.le_of_ble_eq_true rfl) (Nat.le_of_ble_eq_true rfl) dX5_init_14
theorem zf_X5_7_7 : zFl 7 0 RX5 7 true .int := ⟨RX8, TX8, 2, tyX8, rfl, by decide, in_X8, q763, rfl, by decide +kernel, tyX8_ok, nmX8⟩
set_option maxHeartbeats 4000000 in
theorem m_X5_init_2 (G : zE) (l : Launch) (kA : Nat → Nat) (hG : zG G kA) (oq : Nat) (i : Nat) (nd : Nat) (rest : va_W) : zMv G l yX5_init cX5_init 3 1 0 0 [.ref oq, .int (nI i), .int (nI nd)] ((oq, zo 7 [.int 0, .int 0]) :: rest) (fun (_ : Unit) => True) (fun (_ : Unit) => (oq, zo 7 (sqF (nI i) (nI nd))) :: rest) := by
  refine z_begV (by decide) (Nat.le_of_ble_eq_true rfl) (fun p e s m args below meth c ls Q hC hnm hl hw hend => ?_)
  have hx := hC.hx
  have hb := hC.hb
  have hl : lv_has ls 3 [(0, .ref oq), (1, .int (nI i)), (2, .int (nI nd))] := hl
  have hw : zS G ((oq, zo 7 [.int 0, .int 0]) :: rest) s s.heap [] := hw
  have hz := hG s hC.hZ.1
  refine lv_aload_n hx hb dX5_init_0 rfl (lv_at hl 0 rfl) ?_
  refine W.objInit hx hb hC.hown (hC.hts _ q762) (hC.hts _ q102) (hC.hts _ q103) rfl (by rw [hC.hml]; exact hl.1) rfl dX5_init_1 (Nat.le_of_ble_eq_true rfl) (Nat.le_of_ble_eq_true rfl) ?_
  refine W.eq (g2 := F0 m 4 ls []) rfl ?_
  refine lv_aload_n hx hb dX5_init_4 rfl (lv_at hl 0 rfl) ?_
  refine lv_iload_n hx hb dX5_init_5 rfl (lv_at hl 1 rfl) ?_
  refine z_putF hC zf_X5_7_7 ⟨_, rfl, rfl⟩ hnm hw 0 rfl rfl rfl (Nat.le_of_ble_eq_true rfl) dX5_init_6 (fun H locs hw => ?_)
  have hw : zS G ((oq, zo 7 [.int (nI i), .int 0]) :: rest) s H locs := hw
  refine lv_aload_n hx hb dX5_init_9 rfl (lv_at hl 0 rfl) ?_
  refine lv_iload_n hx hb dX5_init_10 rfl (lv_at hl 2 rfl) ?_
  refine z_putF hC zf_X5_13_7 ⟨_, rfl, rfl⟩ hnm hw 0 rfl rfl rfl (Nat.le_of_ble_eq_true rfl) dX5_init_11 (fun H locs hw => ?_)
  have hw : zS G ((oq, zo 7 [.int (nI i), .int (nI nd)]) :: rest) s H locs := hw
  exact hend _ _ _ _ _ _ () hw trivial (Nat.le_of_ble_eq_true rfl) (Nat.le_of_ble_eq_true rfl) dX5_init_14
theorem zf_X5_7_8 : zFl 8 0 RX5 7 true .int := ⟨RX9, TX9, 2, tyX9, rfl, by decide, in_X9, q763, rfl, by decide +kernel, tyX9_ok, nmX9⟩
set_option maxHeartbeats 4000000 in
theorem m_X5_init_3 (G : zE) (l : Launch) (kA : Nat → Nat) (hG : zG G kA) (oq : Nat) (i : Nat) (nd : Nat) (rest : va_W) : zMv G l yX5_init cX5_init 3 1 0 0 [.ref oq, .int (nI i), .int (nI nd)] ((oq, zo 8 [.int 0, .int 0]) :: rest) (fun (_ : Unit) => True) (fun (_ : Unit) => (oq, zo 8 (sqF (nI i) (nI nd))) :: rest) := by
  refine z_begV (by decide) (Nat.le_of_ble_eq_true rfl) (fun p e s m args below meth c ls Q hC hnm hl hw hend => ?_)
  have hx := hC.hx
  have hb := hC.hb
  have hl : lv_has ls 3 [(0, .ref oq), (1, .int (nI i)), (2, .int (nI nd))] := hl
  have hw : zS G ((oq, zo 8 [.int 0, .int 0]) :: rest) s s.heap [] := hw
  have hz := hG s hC.hZ.1
  refine lv_aload_n hx hb dX5_init_0 rfl (lv_at hl 0 rfl) ?_
  refine W.objInit hx hb hC.hown (hC.hts _ q762) (hC.hts _ q102) (hC.hts _ q103) rfl (by rw [hC.hml]; exact hl.1) rfl dX5_init_1 (Nat.le_of_ble_eq_true rfl) (Nat.le_of_ble_eq_true rfl) ?_
  refine W.eq (g2 := F0 m 4 ls []) rfl ?_
  refine lv_aload_n hx hb dX5_init_4 rfl (lv_at hl 0 rfl) ?_
  refine lv_iload_n hx hb dX5_init_5 rfl (lv_at hl 1 rfl) ?_
  refine z_putF hC zf_X5_7_8 ⟨_, rfl, rfl⟩ hnm hw 0 rfl rfl rfl (Nat.le_of_ble_eq_true rfl) dX5_init_6 (fun H locs hw => ?_)
  have hw : zS G ((oq, zo 8 [.int (nI i), .int 0]) :: rest) s H locs := hw
  refine lv_aload_n hx hb dX5_init_9 rfl (lv_at hl 0 rfl) ?_
  refine lv_iload_n hx hb dX5_init_10 rfl (lv_at hl 2 rfl) ?_
  refine z_putF hC zf_X5_13_8 ⟨_, rfl, rfl⟩ hnm hw 0 rfl rfl rfl (Nat.le_of_ble_eq_true rfl) dX5_init_11 (fun H locs hw => ?_)
  have hw : zS G ((oq, zo 8 [.int (nI i), .int (nI nd)]) :: rest) s H locs := hw
  exact hend _ _ _ _ _ _ () hw trivial (Nat.le_of_ble_eq_true rfl) (Nat.le_of_ble_eq_true rfl) dX5_init_14
theorem zf_X5_7_9 : zFl 9 0 RX5 7 true .int := ⟨RX10, TX10, 2, tyX10, rfl, by decide, in_X10, q763, rfl, by decide +kernel, tyX10_ok, nmX10⟩
set_option maxHeartbeats 4000000 in
theorem m_X5_init_4 (G : zE) (l : Launch) (kA : Nat → Nat) (hG : zG G kA) (oq : Nat) (i : Nat) (nd : Nat) (rest : va_W) : zMv G l yX5_init cX5_init 3 1 0 0 [.ref oq, .int (nI i), .int (nI nd)] ((oq, zo 9 [.int 0, .int 0]) :: rest) (fun (_ : Unit) => True) (fun (_ : Unit) => (oq, zo 9 (sqF (nI i) (nI nd))) :: rest) := by
  refine z_begV (by decide) (Nat.le_of_ble_eq_true rfl) (fun p e s m args below meth c ls Q hC hnm hl hw hend => ?_)
  have hx := hC.hx
  have hb := hC.hb
  have hl : lv_has ls 3 [(0, .ref oq), (1, .int (nI i)), (2, .int (nI nd))] := hl
  have hw : zS G ((oq, zo 9 [.int 0, .int 0]) :: rest) s s.heap [] := hw
  have hz := hG s hC.hZ.1
  refine lv_aload_n hx hb dX5_init_0 rfl (lv_at hl 0 rfl) ?_
  refine W.objInit hx hb hC.hown (hC.hts _ q762) (hC.hts _ q102) (hC.hts _ q103) rfl (by rw [hC.hml]; exact hl.1) rfl dX5_init_1 (Nat.le_of_ble_eq_true rfl) (Nat.le_of_ble_eq_true rfl) ?_
  refine W.eq (g2 := F0 m 4 ls []) rfl ?_
  refine lv_aload_n hx hb dX5_init_4 rfl (lv_at hl 0 rfl) ?_
  refine lv_iload_n hx hb dX5_init_5 rfl (lv_at hl 1 rfl) ?_
  refine z_putF hC zf_X5_7_9 ⟨_, rfl, rfl⟩ hnm hw 0 rfl rfl rfl (Nat.le_of_ble_eq_true rfl) dX5_init_6 (fun H locs hw => ?_)
  have hw : zS G ((oq, zo 9 [.int (nI i), .int 0]) :: rest) s H locs := hw
  refine lv_aload_n hx hb dX5_init_9 rfl (lv_at hl 0 rfl) ?_
  refine lv_iload_n hx hb dX5_init_10 rfl (lv_at hl 2 rfl) ?_
  refine z_putF hC zf_X5_13_9 ⟨_, rfl, rfl⟩ hnm hw 0 rfl rfl rfl (Nat.le_of_ble_eq_true rfl) dX5_init_11 (fun H locs hw => ?_)
  have hw : zS G ((oq, zo 9 [.int (nI i), .int (nI nd)]) :: rest) s H locs := hw
  exact hend _ _ _ _ _ _ () hw trivial (Nat.le_of_ble_eq_true rfl) (Nat.le_of_ble_eq_true rfl) dX5_init_14
theorem zx_X6_3 : zIs RX6 3 yX5_init cX5_init 3 2 := ⟨⟨q761, q77, q759, q760, rfl⟩, ⟨by decide +kernel, by decide +kernel⟩, by decide +kernel⟩
set_option maxHeartbeats 4000000 in
theorem m_X6_init_0 (G : zE) (l : Launch) (kA : Nat → Nat) (hG : zG G kA) (oq : Nat) (i : Nat) (nd : Nat) (rest : va_W) : zMv G l yX6_init cX6_init 3 2 0 0 [.ref oq, .int (nI i), .int (nI nd)] ((oq, zo 5 [.int 0, .int 0]) :: rest) (fun (_ : Unit) => True) (fun (_ : Unit) => (oq, zo 5 (sqF (nI i) (nI nd))) :: rest) := by
  refine z_begV (by decide) (Nat.le_of_ble_eq_true rfl) (fun p e s m args below meth c ls Q hC hnm hl hw hend => ?_)
  have hx := hC.hx
  have hb := hC.hb
  have hl : lv_has ls 3 [(0, .ref oq), (1, .int (nI i)), (2, .int (nI nd))] := hl
  have hw : zS G ((oq, zo 5 [.int 0, .int 0]) :: rest) s s.heap [] := hw
  have hz := hG s hC.hZ.1
  refine lv_aload_n hx hb dX6_init_0 rfl (lv_at hl 0 rfl) ?_
  refine lv_iload_n hx hb dX6_init_1 rfl (lv_at hl 1 rfl) ?_
  refine lv_iload_n hx hb dX6_init_2 rfl (lv_at hl 2 rfl) ?_
  refine z_cv (z_runI (As := [.int (nI i), .int (nI nd)]) (rest := []) hC zx_X6_3 (m_X5_init_0 G l kA (by first | assumption | (omega)) oq i nd (zrem [0] _)) (hw.perm (z_cut (is := [0]) (cells := [(oq, zo 5 [.int 0, .int 0])]) rfl rfl)) rfl rfl (Nat.le_of_ble_eq_true rfl) hl.1 ⟨Nat.le_of_ble_eq_true rfl, Nat.le_of_ble_eq_true rfl⟩ ⟨(Nat.le_of_ble_eq_true rfl), (Nat.le_of_ble_eq_true rfl)⟩ dX6_init_3) hw (fun _ => z_pput (is := [0]) (cells := [(oq, zo 5 [.int 0, .int 0])]) (cells' := [(oq, zo 5 (sqF (nI i) (nI nd)))]) rfl rfl rfl) (fun u H locs hp hw => ?_)
  have hw : zS G ((oq, zo 5 (sqF (nI i) (nI nd))) :: rest) s H locs := hw
  exact hend _ _ _ _ _ _ () hw trivial (Nat.le_of_ble_eq_true rfl) (Nat.le_of_ble_eq_true rfl) dX6_init_6
set_option maxHeartbeats 4000000 in
theorem m_X6_init_1 (G : zE) (l : Launch) (kA : Nat → Nat) (hG : zG G kA) (oq : Nat) (i : Nat) (nd : Nat) (rest : va_W) : zMv G l yX6_init cX6_init 3 2 0 0 [.ref oq, .int (nI i), .int (nI nd)] ((oq, zo 6 [.int 0, .int 0]) :: rest) (fun (_ : Unit) => True) (fun (_ : Unit) => (oq, zo 6 (sqF (nI i) (nI nd))) :: rest) := by
  refine z_begV (by decide) (Nat.le_of_ble_eq_true rfl) (fun p e s m args below meth c ls Q hC hnm hl hw hend => ?_)
  have hx := hC.hx
  have hb := hC.hb
  have hl : lv_has ls 3 [(0, .ref oq), (1, .int (nI i)), (2, .int (nI nd))] := hl
  have hw : zS G ((oq, zo 6 [.int 0, .int 0]) :: rest) s s.heap [] := hw
  have hz := hG s hC.hZ.1
  refine lv_aload_n hx hb dX6_init_0 rfl (lv_at hl 0 rfl) ?_
  refine lv_iload_n hx hb dX6_init_1 rfl (lv_at hl 1 rfl) ?_
  refine lv_iload_n hx hb dX6_init_2 rfl (lv_at hl 2 rfl) ?_
  refine z_cv (z_runI (As := [.int (nI i), .int (nI nd)]) (rest := []) hC zx_X6_3 (m_X5_init_1 G l kA (by first | assumption | (omega)) oq i nd (zrem [0] _)) (hw.perm (z_cut (is := [0]) (cells := [(oq, zo 6 [.int 0, .int 0])]) rfl rfl)) rfl rfl (Nat.le_of_ble_eq_true rfl) hl.1 ⟨Nat.le_of_ble_eq_true rfl, Nat.le_of_ble_eq_true rfl⟩ ⟨(Nat.le_of_ble_eq_true rfl), (Nat.le_of_ble_eq_true rfl)⟩ dX6_init_3) hw (fun _ => z_pput (is := [0]) (cells := [(oq, zo 6 [.int 0, .int 0])]) (cells' := [(oq, zo 6 (sqF (nI i) (nI nd)))]) rfl rfl rfl) (fun u H locs hp hw => ?_)
  have hw : zS G ((oq, zo 6 (sqF (nI i) (nI nd))) :: rest) s H locs := hw
  exact hend _ _ _ _ _ _ () hw trivial (Nat.le_of_ble_eq_true rfl) (Nat.le_of_ble_eq_true rfl) dX6_init_6
set_option maxHeartbeats 4000000 in
theorem m_X6_init_2 (G : zE) (l : Launch) (kA : Nat → Nat) (hG : zG G kA) (oq : Nat) (i : Nat) (nd : Nat) (rest : va_W) : zMv G l yX6_init cX6_init 3 2 0 0 [.ref oq, .int (nI i), .int (nI nd)] ((oq, zo 7 [.int 0, .int 0]) :: rest) (fun (_ : Unit) => True) (fun (_ : Unit) => (oq, zo 7 (sqF (nI i) (nI nd))) :: rest) := by
  refine z_begV (by decide) (Nat.le_of_ble_eq_true rfl) (fun p e s m args below meth c ls Q hC hnm hl hw hend => ?_)
  have hx := hC.hx
  have hb := hC.hb
  have hl : lv_has ls 3 [(0, .ref oq), (1, .int (nI i)), (2, .int (nI nd))] := hl
  have hw : zS G ((oq, zo 7 [.int 0, .int 0]) :: rest) s s.heap [] := hw
  have hz := hG s hC.hZ.1
  refine lv_aload_n hx hb dX6_init_0 rfl (lv_at hl 0 rfl) ?_
  refine lv_iload_n hx hb dX6_init_1 rfl (lv_at hl 1 rfl) ?_
  refine lv_iload_n hx hb dX6_init_2 rfl (lv_at hl 2 rfl) ?_
  refine z_cv (z_runI (As := [.int (nI i), .int (nI nd)]) (rest := []) hC zx_X6_3 (m_X5_init_2 G l kA (by first | assumption | (omega)) oq i nd (zrem [0] _)) (hw.perm (z_cut (is := [0]) (cells := [(oq, zo 7 [.int 0, .int 0])]) rfl rfl)) rfl rfl (Nat.le_of_ble_eq_true rfl) hl.1 ⟨Nat.le_of_ble_eq_true rfl, Nat.le_of_ble_eq_true rfl⟩ ⟨(Nat.le_of_ble_eq_true rfl), (Nat.le_of_ble_eq_true rfl)⟩ dX6_init_3) hw (fun _ => z_pput (is := [0]) (cells := [(oq, zo 7 [.int 0, .int 0])]) (cells' := [(oq, zo 7 (sqF (nI i) (nI nd)))]) rfl rfl rfl) (fun u H locs hp hw => ?_)
  have hw : zS G ((oq, zo 7 (sqF (nI i) (nI nd))) :: rest) s H locs := hw
  exact hend _ _ _ _ _ _ () hw trivial (Nat.le_of_ble_eq_true rfl) (Nat.le_of_ble_eq_true rfl) dX6_init_6
theorem zx_X9_1 : zIs RX9 1 yX5_init cX5_init 3 2 := ⟨⟨q761, q77, q796, q760, rfl⟩, ⟨by decide +kernel, by decide +kernel⟩, by decide +kernel⟩
set_option maxHeartbeats 4000000 in
theorem m_X9_init_3 (G : zE) (l : Launch) (kA : Nat → Nat) (hG : zG G kA) (oq : Nat) (i : Nat) (nd : Nat) (rest : va_W) : zMv G l yX9_init cX9_init 3 2 0 0 [.ref oq, .int (nI i), .int (nI nd)] ((oq, zo 8 [.int 0, .int 0]) :: rest) (fun (_ : Unit) => True) (fun (_ : Unit) => (oq, zo 8 (sqF (nI i) (nI nd))) :: rest) := by
  refine z_begV (by decide) (Nat.le_of_ble_eq_true rfl) (fun p e s m args below meth c ls Q hC hnm hl hw hend => ?_)
  have hx := hC.hx
  have hb := hC.hb
  have hl : lv_has ls 3 [(0, .ref oq), (1, .int (nI i)), (2, .int (nI nd))] := hl
  have hw : zS G ((oq, zo 8 [.int 0, .int 0]) :: rest) s s.heap [] := hw
  have hz := hG s hC.hZ.1
  refine lv_aload_n hx hb dX9_init_0 rfl (lv_at hl 0 rfl) ?_
  refine lv_iload_n hx hb dX9_init_1 rfl (lv_at hl 1 rfl) ?_
  refine lv_iload_n hx hb dX9_init_2 rfl (lv_at hl 2 rfl) ?_
  refine z_cv (z_runI (As := [.int (nI i), .int (nI nd)]) (rest := []) hC zx_X9_1 (m_X5_init_3 G l kA (by first | assumption | (omega)) oq i nd (zrem [0] _)) (hw.perm (z_cut (is := [0]) (cells := [(oq, zo 8 [.int 0, .int 0])]) rfl rfl)) rfl rfl (Nat.le_of_ble_eq_true rfl) hl.1 ⟨Nat.le_of_ble_eq_true rfl, Nat.le_of_ble_eq_true rfl⟩ ⟨(Nat.le_of_ble_eq_true rfl), (Nat.le_of_ble_eq_true rfl)⟩ dX9_init_3) hw (fun _ => z_pput (is := [0]) (cells := [(oq, zo 8 [.int 0, .int 0])]) (cells' := [(oq, zo 8 (sqF (nI i) (nI nd)))]) rfl rfl rfl) (fun u H locs hp hw => ?_)
  have hw : zS G ((oq, zo 8 (sqF (nI i) (nI nd))) :: rest) s H locs := hw
  exact hend _ _ _ _ _ _ () hw trivial (Nat.le_of_ble_eq_true rfl) (Nat.le_of_ble_eq_true rfl) dX9_init_6
set_option maxHeartbeats 4000000 in
theorem m_X9_init_4 (G : zE) (l : Launch) (kA : Nat → Nat) (hG : zG G kA) (oq : Nat) (i : Nat) (nd : Nat) (rest : va_W) : zMv G l yX9_init cX9_init 3 2 0 0 [.ref oq, .int (nI i), .int (nI nd)] ((oq, zo 9 [.int 0, .int 0]) :: rest) (fun (_ : Unit) => True) (fun (_ : Unit) => (oq, zo 9 (sqF (nI i) (nI nd))) :: rest) := by
  refine z_begV (by decide) (Nat.le_of_ble_eq_true rfl) (fun p e s m args below meth c ls Q hC hnm hl hw hend => ?_)
  have hx := hC.hx
  have hb := hC.hb
  have hl : lv_has ls 3 [(0, .ref oq), (1, .int (nI i)), (2, .int (nI nd))] := hl
  have hw : zS G ((oq, zo 9 [.int 0, .int 0]) :: rest) s s.heap [] := hw
  have hz := hG s hC.hZ.1
  refine lv_aload_n hx hb dX9_init_0 rfl (lv_at hl 0 rfl) ?_
  refine lv_iload_n hx hb dX9_init_1 rfl (lv_at hl 1 rfl) ?_
  refine lv_iload_n hx hb dX9_init_2 rfl (lv_at hl 2 rfl) ?_
  refine z_cv (z_runI (As := [.int (nI i), .int (nI nd)]) (rest := []) hC zx_X9_1 (m_X5_init_4 G l kA (by first | assumption | (omega)) oq i nd (zrem [0] _)) (hw.perm (z_cut (is := [0]) (cells := [(oq, zo 9 [.int 0, .int 0])]) rfl rfl)) rfl rfl (Nat.le_of_ble_eq_true rfl) hl.1 ⟨Nat.le_of_ble_eq_true rfl, Nat.le_of_ble_eq_true rfl⟩ ⟨(Nat.le_of_ble_eq_true rfl), (Nat.le_of_ble_eq_true rfl)⟩ dX9_init_3) hw (fun _ => z_pput (is := [0]) (cells := [(oq, zo 9 [.int 0, .int 0])]) (cells' := [(oq, zo 9 (sqF (nI i) (nI nd)))]) rfl rfl rfl) (fun u H locs hp hw => ?_)
  have hw : zS G ((oq, zo 9 (sqF (nI i) (nI nd))) :: rest) s H locs := hw
  exact hend _ _ _ _ _ _ () hw trivial (Nat.le_of_ble_eq_true rfl) (Nat.le_of_ble_eq_true rfl) dX9_init_6
theorem zx_X7_1 : zIs RX7 1 yX6_init cX6_init 3 2 := ⟨⟨q758, q78, q778, q757, rfl⟩, ⟨by decide +kernel, by decide +kernel⟩, by decide +kernel⟩
set_option maxHeartbeats 4000000 in
theorem m_X7_init (G : zE) (l : Launch) (kA : Nat → Nat) (hG : zG G kA) (oq : Nat) (i : Nat) (nd : Nat) (rest : va_W) : zMv G l yX7_init cX7_init 3 3 0 0 [.ref oq, .int (nI i), .int (nI nd)] ((oq, zo 6 [.int 0, .int 0]) :: rest) (fun (_ : Unit) => True) (fun (_ : Unit) => (oq, zo 6 (sqF (nI i) (nI nd))) :: rest) := by
  refine z_begV (by decide) (Nat.le_of_ble_eq_true rfl) (fun p e s m args below meth c ls Q hC hnm hl hw hend => ?_)
  have hx := hC.hx
  have hb := hC.hb
  have hl : lv_has ls 3 [(0, .ref oq), (1, .int (nI i)), (2, .int (nI nd))] := hl
  have hw : zS G ((oq, zo 6 [.int 0, .int 0]) :: rest) s s.heap [] := hw
  have hz := hG s hC.hZ.1
  refine lv_aload_n hx hb dX7_init_0 rfl (lv_at hl 0 rfl) ?_
  refine lv_iload_n hx hb dX7_init_1 rfl (lv_at hl 1 rfl) ?_
  refine lv_iload_n hx hb dX7_init_2 rfl (lv_at hl 2 rfl) ?_
  refine z_cv (z_runI (As := [.int (nI i), .int (nI nd)]) (rest := []) hC zx_X7_1 (m_X6_init_1 G l kA (by first | assumption | (omega)) oq i nd (zrem [0] _)) (hw.perm (z_cut (is := [0]) (cells := [(oq, zo 6 [.int 0, .int 0])]) rfl rfl)) rfl rfl (Nat.le_of_ble_eq_true rfl) hl.1 ⟨Nat.le_of_ble_eq_true rfl, Nat.le_of_ble_eq_true rfl⟩ ⟨(Nat.le_of_ble_eq_true rfl), (Nat.le_of_ble_eq_true rfl)⟩ dX7_init_3) hw (fun _ => z_pput (is := [0]) (cells := [(oq, zo 6 [.int 0, .int 0])]) (cells' := [(oq, zo 6 (sqF (nI i) (nI nd)))]) rfl rfl rfl) (fun u H locs hp hw => ?_)
  have hw : zS G ((oq, zo 6 (sqF (nI i) (nI nd))) :: rest) s H locs := hw
  exact hend _ _ _ _ _ _ () hw trivial (Nat.le_of_ble_eq_true rfl) (Nat.le_of_ble_eq_true rfl) dX7_init_6
theorem zx_X8_1 : zIs RX8 1 yX6_init cX6_init 3 2 := ⟨⟨q758, q78, q787, q757, rfl⟩, ⟨by decide +kernel, by decide +kernel⟩, by decide +kernel⟩
set_option maxHeartbeats 4000000 in
theorem m_X8_init (G : zE) (l : Launch) (kA : Nat → Nat) (hG : zG G kA) (oq : Nat) (i : Nat) (nd : Nat) (rest : va_W) : zMv G l yX8_init cX8_init 3 3 0 0 [.ref oq, .int (nI i), .int (nI nd)] ((oq, zo 7 [.int 0, .int 0]) :: rest) (fun (_ : Unit) => True) (fun (_ : Unit) => (oq, zo 7 (sqF (nI i) (nI nd))) :: rest) := by
  refine z_begV (by decide) (Nat.le_of_ble_eq_true rfl) (fun p e s m args below meth c ls Q hC hnm hl hw hend => ?_)
  have hx := hC.hx
  have hb := hC.hb
  have hl : lv_has ls 3 [(0, .ref oq), (1, .int (nI i)), (2, .int (nI nd))] := hl
  have hw : zS G ((oq, zo 7 [.int 0, .int 0]) :: rest) s s.heap [] := hw
  have hz := hG s hC.hZ.1
  refine lv_aload_n hx hb dX8_init_0 rfl (lv_at hl 0 rfl) ?_
  refine lv_iload_n hx hb dX8_init_1 rfl (lv_at hl 1 rfl) ?_
  refine lv_iload_n hx hb dX8_init_2 rfl (lv_at hl 2 rfl) ?_
  refine z_cv (z_runI (As := [.int (nI i), .int (nI nd)]) (rest := []) hC zx_X8_1 (m_X6_init_2 G l kA (by first | assumption | (omega)) oq i nd (zrem [0] _)) (hw.perm (z_cut (is := [0]) (cells := [(oq, zo 7 [.int 0, .int 0])]) rfl rfl)) rfl rfl (Nat.le_of_ble_eq_true rfl) hl.1 ⟨Nat.le_of_ble_eq_true rfl, Nat.le_of_ble_eq_true rfl⟩ ⟨(Nat.le_of_ble_eq_true rfl), (Nat.le_of_ble_eq_true rfl)⟩ dX8_init_3) hw (fun _ => z_pput (is := [0]) (cells := [(oq, zo 7 [.int 0, .int 0])]) (cells' := [(oq, zo 7 (sqF (nI i) (nI nd)))]) rfl rfl rfl) (fun u H locs hp hw => ?_)
  have hw : zS G ((oq, zo 7 (sqF (nI i) (nI nd))) :: rest) s H locs := hw
  exact hend _ _ _ _ _ _ () hw trivial (Nat.le_of_ble_eq_true rfl) (Nat.le_of_ble_eq_true rfl) dX8_init_6
theorem zx_X10_1 : zIs RX10 1 yX9_init cX9_init 3 2 := ⟨⟨q795, q81, q805, q794, rfl⟩, ⟨by decide +kernel, by decide +kernel⟩, by decide +kernel⟩
set_option maxHeartbeats 4000000 in
theorem m_X10_init (G : zE) (l : Launch) (kA : Nat → Nat) (hG : zG G kA) (oq : Nat) (i : Nat) (nd : Nat) (rest : va_W) : zMv G l yX10_init cX10_init 3 3 0 0 [.ref oq, .int (nI i), .int (nI nd)] ((oq, zo 9 [.int 0, .int 0]) :: rest) (fun (_ : Unit) => True) (fun (_ : Unit) => (oq, zo 9 (sqF (nI i) (nI nd))) :: rest) := by
  refine z_begV (by decide) (Nat.le_of_ble_eq_true rfl) (fun p e s m args below meth c ls Q hC hnm hl hw hend => ?_)
  have hx := hC.hx
  have hb := hC.hb
  have hl : lv_has ls 3 [(0, .ref oq), (1, .int (nI i)), (2, .int (nI nd))] := hl
  have hw : zS G ((oq, zo 9 [.int 0, .int 0]) :: rest) s s.heap [] := hw
  have hz := hG s hC.hZ.1
  refine lv_aload_n hx hb dX10_init_0 rfl (lv_at hl 0 rfl) ?_
  refine lv_iload_n hx hb dX10_init_1 rfl (lv_at hl 1 rfl) ?_
  refine lv_iload_n hx hb dX10_init_2 rfl (lv_at hl 2 rfl) ?_
  refine z_cv (z_runI (As := [.int (nI i), .int (nI nd)]) (rest := []) hC zx_X10_1 (m_X9_init_4 G l kA (by first | assumption | (omega)) oq i nd (zrem [0] _)) (hw.perm (z_cut (is := [0]) (cells := [(oq, zo 9 [.int 0, .int 0])]) rfl rfl)) rfl rfl (Nat.le_of_ble_eq_true rfl) hl.1 ⟨Nat.le_of_ble_eq_true rfl, Nat.le_of_ble_eq_true rfl⟩ ⟨(Nat.le_of_ble_eq_true rfl), (Nat.le_of_ble_eq_true rfl)⟩ dX10_init_3) hw (fun _ => z_pput (is := [0]) (cells := [(oq, zo 9 [.int 0, .int 0])]) (cells' := [(oq, zo 9 (sqF (nI i) (nI nd)))]) rfl rfl rfl) (fun u H locs hp hw => ?_)
  have hw : zS G ((oq, zo 9 (sqF (nI i) (nI nd))) :: rest) s H locs := hw
  exact hend _ _ _ _ _ _ () hw trivial (Nat.le_of_ble_eq_true rfl) (Nat.le_of_ble_eq_true rfl) dX10_init_6
theorem zx_X0_3 : zIs RX0 3 yX6_init cX6_init 3 2 := ⟨⟨q758, q78, q756, q757, rfl⟩, ⟨by decide +kernel, by decide +kernel⟩, by decide +kernel⟩
theorem zx_X0_9 : zIs RX0 9 yX7_init cX7_init 3 2 := ⟨⟨q777, q79, q775, q776, rfl⟩, ⟨by decide +kernel, by decide +kernel⟩, by decide +kernel⟩
theorem zx_X0_12 : zIs RX0 12 yX8_init cX8_init 3 2 := ⟨⟨q786, q80, q784, q785, rfl⟩, ⟨by decide +kernel, by decide +kernel⟩, by decide +kernel⟩
theorem zx_X0_15 : zIs RX0 15 yX9_init cX9_init 3 2 := ⟨⟨q795, q81, q793, q794, rfl⟩, ⟨by decide +kernel, by decide +kernel⟩, by decide +kernel⟩
theorem zx_X0_18 : zIs RX0 18 yX10_init cX10_init 3 2 := ⟨⟨q804, q82, q802, q803, rfl⟩, ⟨by decide +kernel, by decide +kernel⟩, by decide +kernel⟩
set_option maxHeartbeats 4000000 in
theorem m_X0_called (G : zE) (l : Launch) (kA : Nat → Nat) (hG : zG G kA) (kd : Nat) (i : Nat) (nd : Nat) (hkd : kd < 5) (rest : va_W) : zMq G l yX0_called cX0_called 3 (some (.object "NutCaches$Squirrel")) 4 1 2 [.int (nI kd), .int (nI i), .int (nI nd)] (rest) (fun (r : Option Nat) u => r = some u) (fun (u : Nat) => (u, zo (5 + kd) (sqF (nI i) (nI nd))) :: rest) := by
  refine z_begQ (by first | exact Or.inl ⟨_, rfl⟩ | exact Or.inr ⟨_, rfl⟩) (by decide) (Nat.le_of_ble_eq_true rfl) (fun p e s m args below meth c ls Q hC hl hw hend => ?_)
  have hx := hC.hx
  have hb := hC.hb
  have hl : lv_has ls 3 [(0, .int (nI kd)), (1, .int (nI i)), (2, .int (nI nd))] := hl
  have hz := hG s hC.hZ.1
  refine lv_iload_n hx hb dX0_called_0 rfl (lv_at hl 0 rfl) ?_
  rcases (show kd = 0 ∨ kd = 1 ∨ kd = 2 ∨ kd = 3 ∨ kd = 4 by omega) with rfl | rfl | rfl | rfl | rfl
  · skip
    have hl : lv_has ls 3 [(0, .int (nI 0)), (1, .int (nI i)), (2, .int (nI nd))] := hl
    refine lv_tableIn (off := 31) (tgt := 32) hx hb dX0_called_1 (by decide) (by decide) (by decide) (by decide) ?_
    refine z_new (ci := 5) (fs := [.int 0, .int 0]) hC rfl in_X6 tyX6_ok q754 q755 q78 hw (fun j hj => by revert hj; revert j; decide) (Nat.le_of_ble_eq_true rfl) (Nat.le_of_ble_eq_true rfl) dX0_called_32 (fun q_32 H hw => ?_)
    have hw : zS G ((q_32, zo 5 [.int 0, .int 0]) :: rest) s H [] := hw
    refine lv_dup hx hb dX0_called_35 rfl ?_
    refine lv_iload_n hx hb dX0_called_36 rfl (lv_at hl 1 rfl) ?_
    refine lv_iload_n hx hb dX0_called_37 rfl (lv_at hl 2 rfl) ?_
    refine z_cv (z_runI (As := [.int (nI i), .int (nI nd)]) (rest := [.ref q_32]) hC zx_X0_3 (m_X6_init_0 G l kA (by first | assumption | (omega)) q_32 i nd (zrem [0] _)) (hw.perm (z_cut (is := [0]) (cells := [(q_32, zo 5 [.int 0, .int 0])]) rfl rfl)) rfl rfl (Nat.le_of_ble_eq_true rfl) hl.1 ⟨Nat.le_of_ble_eq_true rfl, Nat.le_of_ble_eq_true rfl⟩ ⟨(Nat.le_of_ble_eq_true rfl), (Nat.le_of_ble_eq_true rfl)⟩ dX0_called_38) hw (fun _ => z_pput (is := [0]) (cells := [(q_32, zo 5 [.int 0, .int 0])]) (cells' := [(q_32, zo 5 (sqF (nI i) (nI nd)))]) rfl rfl rfl) (fun u H locs hp hw => ?_)
    have hw : zS G ((q_32, zo 5 (sqF (nI i) (nI nd))) :: rest) s H locs := hw
    exact hend _ _ _ _ _ _ (some q_32) q_32 hw rfl (Nat.le_of_ble_eq_true rfl) (Nat.le_of_ble_eq_true rfl) dX0_called_41
  · skip
    have hl : lv_has ls 3 [(0, .int (nI 1)), (1, .int (nI i)), (2, .int (nI nd))] := hl
    refine lv_tableIn (off := 41) (tgt := 42) hx hb dX0_called_1 (by decide) (by decide) (by decide) (by decide) ?_
    refine z_new (ci := 6) (fs := [.int 0, .int 0]) hC rfl in_X7 tyX7_ok q773 q774 q79 hw (fun j hj => by revert hj; revert j; decide) (Nat.le_of_ble_eq_true rfl) (Nat.le_of_ble_eq_true rfl) dX0_called_42 (fun q_42 H hw => ?_)
    have hw : zS G ((q_42, zo 6 [.int 0, .int 0]) :: rest) s H [] := hw
    refine lv_dup hx hb dX0_called_45 rfl ?_
    refine lv_iload_n hx hb dX0_called_46 rfl (lv_at hl 1 rfl) ?_
    refine lv_iload_n hx hb dX0_called_47 rfl (lv_at hl 2 rfl) ?_
    refine z_cv (z_runI (As := [.int (nI i), .int (nI nd)]) (rest := [.ref q_42]) hC zx_X0_9 (m_X7_init G l kA (by first | assumption | (omega)) q_42 i nd (zrem [0] _)) (hw.perm (z_cut (is := [0]) (cells := [(q_42, zo 6 [.int 0, .int 0])]) rfl rfl)) rfl rfl (Nat.le_of_ble_eq_true rfl) hl.1 ⟨Nat.le_of_ble_eq_true rfl, Nat.le_of_ble_eq_true rfl⟩ ⟨(Nat.le_of_ble_eq_true rfl), (Nat.le_of_ble_eq_true rfl)⟩ dX0_called_48) hw (fun _ => z_pput (is := [0]) (cells := [(q_42, zo 6 [.int 0, .int 0])]) (cells' := [(q_42, zo 6 (sqF (nI i) (nI nd)))]) rfl rfl rfl) (fun u H locs hp hw => ?_)
    have hw : zS G ((q_42, zo 6 (sqF (nI i) (nI nd))) :: rest) s H locs := hw
    exact hend _ _ _ _ _ _ (some q_42) q_42 hw rfl (Nat.le_of_ble_eq_true rfl) (Nat.le_of_ble_eq_true rfl) dX0_called_51
  · skip
    have hl : lv_has ls 3 [(0, .int (nI 2)), (1, .int (nI i)), (2, .int (nI nd))] := hl
    refine lv_tableIn (off := 51) (tgt := 52) hx hb dX0_called_1 (by decide) (by decide) (by decide) (by decide) ?_
    refine z_new (ci := 7) (fs := [.int 0, .int 0]) hC rfl in_X8 tyX8_ok q782 q783 q80 hw (fun j hj => by revert hj; revert j; decide) (Nat.le_of_ble_eq_true rfl) (Nat.le_of_ble_eq_true rfl) dX0_called_52 (fun q_52 H hw => ?_)
    have hw : zS G ((q_52, zo 7 [.int 0, .int 0]) :: rest) s H [] := hw
    refine lv_dup hx hb dX0_called_55 rfl ?_
    refine lv_iload_n hx hb dX0_called_56 rfl (lv_at hl 1 rfl) ?_
    refine lv_iload_n hx hb dX0_called_57 rfl (lv_at hl 2 rfl) ?_
    refine z_cv (z_runI (As := [.int (nI i), .int (nI nd)]) (rest := [.ref q_52]) hC zx_X0_12 (m_X8_init G l kA (by first | assumption | (omega)) q_52 i nd (zrem [0] _)) (hw.perm (z_cut (is := [0]) (cells := [(q_52, zo 7 [.int 0, .int 0])]) rfl rfl)) rfl rfl (Nat.le_of_ble_eq_true rfl) hl.1 ⟨Nat.le_of_ble_eq_true rfl, Nat.le_of_ble_eq_true rfl⟩ ⟨(Nat.le_of_ble_eq_true rfl), (Nat.le_of_ble_eq_true rfl)⟩ dX0_called_58) hw (fun _ => z_pput (is := [0]) (cells := [(q_52, zo 7 [.int 0, .int 0])]) (cells' := [(q_52, zo 7 (sqF (nI i) (nI nd)))]) rfl rfl rfl) (fun u H locs hp hw => ?_)
    have hw : zS G ((q_52, zo 7 (sqF (nI i) (nI nd))) :: rest) s H locs := hw
    exact hend _ _ _ _ _ _ (some q_52) q_52 hw rfl (Nat.le_of_ble_eq_true rfl) (Nat.le_of_ble_eq_true rfl) dX0_called_61
  · skip
    have hl : lv_has ls 3 [(0, .int (nI 3)), (1, .int (nI i)), (2, .int (nI nd))] := hl
    refine lv_tableIn (off := 61) (tgt := 62) hx hb dX0_called_1 (by decide) (by decide) (by decide) (by decide) ?_
    refine z_new (ci := 8) (fs := [.int 0, .int 0]) hC rfl in_X9 tyX9_ok q791 q792 q81 hw (fun j hj => by revert hj; revert j; decide) (Nat.le_of_ble_eq_true rfl) (Nat.le_of_ble_eq_true rfl) dX0_called_62 (fun q_62 H hw => ?_)
    have hw : zS G ((q_62, zo 8 [.int 0, .int 0]) :: rest) s H [] := hw
    refine lv_dup hx hb dX0_called_65 rfl ?_
    refine lv_iload_n hx hb dX0_called_66 rfl (lv_at hl 1 rfl) ?_
    refine lv_iload_n hx hb dX0_called_67 rfl (lv_at hl 2 rfl) ?_
    refine z_cv (z_runI (As := [.int (nI i), .int (nI nd)]) (rest := [.ref q_62]) hC zx_X0_15 (m_X9_init_3 G l kA (by first | assumption | (omega)) q_62 i nd (zrem [0] _)) (hw.perm (z_cut (is := [0]) (cells := [(q_62, zo 8 [.int 0, .int 0])]) rfl rfl)) rfl rfl (Nat.le_of_ble_eq_true rfl) hl.1 ⟨Nat.le_of_ble_eq_true rfl, Nat.le_of_ble_eq_true rfl⟩ ⟨(Nat.le_of_ble_eq_true rfl), (Nat.le_of_ble_eq_true rfl)⟩ dX0_called_68) hw (fun _ => z_pput (is := [0]) (cells := [(q_62, zo 8 [.int 0, .int 0])]) (cells' := [(q_62, zo 8 (sqF (nI i) (nI nd)))]) rfl rfl rfl) (fun u H locs hp hw => ?_)
    have hw : zS G ((q_62, zo 8 (sqF (nI i) (nI nd))) :: rest) s H locs := hw
    exact hend _ _ _ _ _ _ (some q_62) q_62 hw rfl (Nat.le_of_ble_eq_true rfl) (Nat.le_of_ble_eq_true rfl) dX0_called_71
  · skip
    have hl : lv_has ls 3 [(0, .int (nI 4)), (1, .int (nI i)), (2, .int (nI nd))] := hl
    refine lv_tableOut (tgt := 72) hx hb dX0_called_1 (by decide) (by decide) ?_
    refine z_new (ci := 9) (fs := [.int 0, .int 0]) hC rfl in_X10 tyX10_ok q800 q801 q82 hw (fun j hj => by revert hj; revert j; decide) (Nat.le_of_ble_eq_true rfl) (Nat.le_of_ble_eq_true rfl) dX0_called_72 (fun q_72 H hw => ?_)
    have hw : zS G ((q_72, zo 9 [.int 0, .int 0]) :: rest) s H [] := hw
    refine lv_dup hx hb dX0_called_75 rfl ?_
    refine lv_iload_n hx hb dX0_called_76 rfl (lv_at hl 1 rfl) ?_
    refine lv_iload_n hx hb dX0_called_77 rfl (lv_at hl 2 rfl) ?_
    refine z_cv (z_runI (As := [.int (nI i), .int (nI nd)]) (rest := [.ref q_72]) hC zx_X0_18 (m_X10_init G l kA (by first | assumption | (omega)) q_72 i nd (zrem [0] _)) (hw.perm (z_cut (is := [0]) (cells := [(q_72, zo 9 [.int 0, .int 0])]) rfl rfl)) rfl rfl (Nat.le_of_ble_eq_true rfl) hl.1 ⟨Nat.le_of_ble_eq_true rfl, Nat.le_of_ble_eq_true rfl⟩ ⟨(Nat.le_of_ble_eq_true rfl), (Nat.le_of_ble_eq_true rfl)⟩ dX0_called_78) hw (fun _ => z_pput (is := [0]) (cells := [(q_72, zo 9 [.int 0, .int 0])]) (cells' := [(q_72, zo 9 (sqF (nI i) (nI nd)))]) rfl rfl rfl) (fun u H locs hp hw => ?_)
    have hw : zS G ((q_72, zo 9 (sqF (nI i) (nI nd))) :: rest) s H locs := hw
    exact hend _ _ _ _ _ _ (some q_72) q_72 hw rfl (Nat.le_of_ble_eq_true rfl) (Nat.le_of_ble_eq_true rfl) dX0_called_81
/-- what one of a kind would eat, and 100 times the pit out of which -/
noncomputable def dN (kd m d : Nat) : Nat := ifP (wakesN kd (d + 1)) (wantsN kd m + 100 * (if kd < 2 then 0 else if kd = 2 then 1 else 2)) 300
theorem dN_sight {kd m d e w : Nat} (hk : kd < 5) (hm : m ≤ 9) (he : e ≤ 19) (hw : w ≤ 3) : dN kd m d = e + 100 * w ↔ sightN kd m d = 4 * e + w := by
  unfold dN sightN
  by_cases h : wakesN kd (d + 1)
  · rw [ifP_t h, ifP_t h]
    have h1 : wantsN kd m ≤ 19 := by unfold wantsN; split <;> (try split) <;> omega
    have h2 : (if kd < 2 then 0 else if kd = 2 then 1 else 2) ≤ 2 := by split <;> (try split) <;> omega
    omega
  · rw [ifP_f h, ifP_f h]; omega
theorem dN_lt {kd m d : Nat} (hm : m ≤ 9) : dN kd m d < 400 := by
  unfold dN
  by_cases h : wakesN kd (d + 1)
  · rw [ifP_t h]
    have h1 : wantsN kd m ≤ 19 := by unfold wantsN; split <;> (try split) <;> omega
    have h2 : (if kd < 2 then 0 else if kd = 2 then 1 else 2) ≤ 2 := by split <;> (try split) <;> omega
    omega
  · rw [ifP_f h]; omega
theorem zs_X0_93 : zSs RX0 93 yX0_called cX0_called 3 (some (.object "NutCaches$Squirrel")) 3 := ⟨lw_S q751 q752 q49 q753, ⟨by decide +kernel, by decide +kernel⟩, by decide +kernel⟩
set_option maxHeartbeats 4000000 in
theorem m_X0_does (G : zE) (l : Launch) (kA : Nat → Nat) (hG : zG G kA) (kd : Nat) (nn : Nat) (dd : Nat) (hkd : kd < 5) (hm : nn ≤ 9) (hd : dd ≤ 19) (rest : va_W) : zMi G l yX0_does cX0_does 8 (some .int) 5 1 2 [.int (nI kd), .int (nI nn), .int (nI dd)] (rest) (fun (r : Int32) (_ : Unit) => r = nI (dN kd nn dd)) (fun (_ : Unit) => rest) := by
  refine z_begI (by decide) (Nat.le_of_ble_eq_true rfl) (fun p e s m args below meth c ls Q hC hl hw hend => ?_)
  have hx := hC.hx
  have hb := hC.hb
  have hl : lv_has ls 8 [(0, .int (nI kd)), (1, .int (nI nn)), (2, .int (nI dd))] := hl
  have hz := hG s hC.hZ.1
  refine lv_iload_n hx hb dX0_does_0 rfl (lv_at hl 0 rfl) ?_
  refine lv_iconst (v := (nI 0)) hx hb dX0_does_1 zk_0 ?_
  refine lv_iload_n hx hb dX0_does_2 rfl (lv_at hl 1 rfl) ?_
  refine z_cq (z_runS (As := [.int (nI kd), .int (nI 0), .int (nI nn)]) (rest := []) hC zs_X0_93 (m_X0_called G l kA (by first | assumption | (omega)) kd 0 nn (by omega) _) hw rfl rfl (Nat.le_of_ble_eq_true rfl) hl.1 ⟨Nat.le_of_ble_eq_true rfl, Nat.le_of_ble_eq_true rfl⟩ ⟨(Nat.le_of_ble_eq_true rfl), (Nat.le_of_ble_eq_true rfl)⟩ dX0_does_3) hw (fun _ => List.Perm.refl _) (fun r u H locs hp hw => ?_)
  obtain ⟨oq, rfl⟩ : ∃ z, z = u := ⟨_, rfl⟩
  have hw : zS G ((oq, zo (5 + kd) (sqF (nI 0) (nI nn))) :: rest) s H locs := hw
  obtain rfl := hp
  refine lv_astore_n (lv' := [(3, .ref oq), (0, .int (nI kd)), (1, .int (nI nn)), (2, .int (nI dd))]) hx hb dX0_does_6 rfl hl (by decide) rfl (fun ls hl => ?_)
  rcases (show kd = 0 ∨ kd = 1 ∨ kd = 2 ∨ kd = 3 ∨ kd = 4 by omega) with rfl | rfl | rfl | rfl | rfl
  · skip
    have hl : lv_has ls 8 [(3, .ref oq), (0, .int (nI 0)), (1, .int (nI nn)), (2, .int (nI dd))] := hl
    have hw : zS G ((oq, zo 5 (sqF (nI 0) (nI nn))) :: rest) s H locs := hw
    refine lv_aload_n hx hb dX0_does_7 rfl (lv_at hl 0 rfl) ?_
    refine lv_iconst (v := (nI 1)) hx hb dX0_does_8 zk_1 ?_
    refine lv_iload_n hx hb dX0_does_9 rfl (lv_at hl 3 rfl) ?_
    refine zn_iadd hx hb dX0_does_10 ?_
    refine z_ci (z_runD (x := (⟨"NutCaches$Squirrel", "wakes", "(I)Z"⟩ : MethodName)) (owner := "NutCaches$Habit") (n := 1) (As := [.int (nI (1 + dd))]) (rest := []) hC ⟨zn_X12_wakes, q963, ⟨by decide +kernel, by decide +kernel⟩, by decide +kernel⟩ (hz.1 _ (cw_d 14 rfl rfl)) (hz.1 _ (cw_d 10 rfl rfl)) (hz.1 _ (cw_t q959 rfl)) (hz.2.1 12 _ rfl) (m_X12_wakes G l oq (nI (1 + dd)) _) hw hw 0 rfl rfl rfl rfl (Nat.le_of_ble_eq_true rfl) hl.1 ⟨Nat.le_of_ble_eq_true rfl, Nat.le_of_ble_eq_true rfl⟩ ⟨(Nat.le_of_ble_eq_true rfl), (Nat.le_of_ble_eq_true rfl)⟩ dX0_does_11) hw (fun _ => List.Perm.refl _) (fun r u H locs hp hw => ?_)
    obtain rfl : r = bI True := hp
    refine zb_ne (tgt := 21) hx hb dX0_does_14 (by decide) (fun c_14 => ?_) (fun c_14 => ?_)
    · skip
      refine lv_aload_n hx hb dX0_does_21 rfl (lv_at hl 0 rfl) ?_
      refine lv_iconst (v := (nI 1)) hx hb dX0_does_22 zk_1 ?_
      refine lv_bipush (v := (nI 9)) hx hb dX0_does_23 zb_9 ?_
      refine lv_bipush (v := (nI 40)) hx hb dX0_does_25 zb_40 ?_
      refine lv_iconst (v := (nI 5)) hx hb dX0_does_27 zk_5 ?_
      refine z_ci (z_runB (x := (⟨"NutCaches$Squirrel", "rank", "(IIII)I"⟩ : MethodName)) (owner := "NutCaches$Habit") (C := "NutCaches$Plain") (n := 4) (As := [.int (nI 1), .int (nI 9), .int (nI 40), .int (nI 5)]) (rest := []) hC ⟨zn_X6_rank, q989, q995, ⟨by decide +kernel, by decide +kernel⟩, by decide +kernel⟩ (va_Nw.use rfl (hz.1 _ (cw_d 17 rfl rfl))) (va_Nw.use rfl (hz.1 _ (cw_d 13 rfl rfl))) (va_Decl.abs (hz.1 _ (cw_t q984 rfl))) (m_X6_rank G l oq 1 9 40 5 _) hw hw 0 rfl rfl rfl rfl rfl (Nat.le_of_ble_eq_true rfl) hl.1 ⟨Nat.le_of_ble_eq_true rfl, Nat.le_of_ble_eq_true rfl⟩ ⟨(Nat.le_of_ble_eq_true rfl), (Nat.le_of_ble_eq_true rfl)⟩ dX0_does_28) hw (fun _ => List.Perm.refl _) (fun r u H locs hp hw => ?_)
      obtain rfl : r = nI ((1 * 20 + 9) * 10 + 5) := hp
      refine lv_istore (lv' := [(4, .int (nI ((1 * 20 + 9) * 10 + 5))), (3, .ref oq), (0, .int (nI 0)), (1, .int (nI nn)), (2, .int (nI dd))]) hx hb dX0_does_31 hl (by decide) rfl (fun ls hl => ?_)
      refine lv_aload_n hx hb dX0_does_33 rfl (lv_at hl 1 rfl) ?_
      refine lv_iconst (v := (nI 3)) hx hb dX0_does_34 zk_3 ?_
      refine lv_bipush (v := (nI 9)) hx hb dX0_does_35 zb_9 ?_
      refine lv_bipush (v := (nI 30)) hx hb dX0_does_37 zb_30 ?_
      refine lv_bipush (v := (nI 6)) hx hb dX0_does_39 zb_6 ?_
      refine z_ci (z_runB (x := (⟨"NutCaches$Squirrel", "rank", "(IIII)I"⟩ : MethodName)) (owner := "NutCaches$Habit") (C := "NutCaches$Plain") (n := 4) (As := [.int (nI 3), .int (nI 9), .int (nI 30), .int (nI 6)]) (rest := []) hC ⟨zn_X6_rank, q989, q995, ⟨by decide +kernel, by decide +kernel⟩, by decide +kernel⟩ (va_Nw.use rfl (hz.1 _ (cw_d 17 rfl rfl))) (va_Nw.use rfl (hz.1 _ (cw_d 13 rfl rfl))) (va_Decl.abs (hz.1 _ (cw_t q984 rfl))) (m_X6_rank G l oq 3 9 30 6 _) hw hw 0 rfl rfl rfl rfl rfl (Nat.le_of_ble_eq_true rfl) hl.1 ⟨Nat.le_of_ble_eq_true rfl, Nat.le_of_ble_eq_true rfl⟩ ⟨(Nat.le_of_ble_eq_true rfl), (Nat.le_of_ble_eq_true rfl)⟩ dX0_does_41) hw (fun _ => List.Perm.refl _) (fun r u H locs hp hw => ?_)
      obtain rfl : r = nI ((3 * 20 + 9) * 10 + 6) := hp
      refine lv_istore (lv' := [(5, .int (nI ((3 * 20 + 9) * 10 + 6))), (4, .int (nI ((1 * 20 + 9) * 10 + 5))), (3, .ref oq), (0, .int (nI 0)), (1, .int (nI nn)), (2, .int (nI dd))]) hx hb dX0_does_44 hl (by decide) rfl (fun ls hl => ?_)
      refine lv_aload_n hx hb dX0_does_46 rfl (lv_at hl 2 rfl) ?_
      refine lv_iconst (v := (nI 2)) hx hb dX0_does_47 zk_2 ?_
      refine lv_bipush (v := (nI 9)) hx hb dX0_does_48 zb_9 ?_
      refine lv_bipush (v := (nI 50)) hx hb dX0_does_50 zb_50 ?_
      refine lv_iconst (v := (nI 4)) hx hb dX0_does_52 zk_4 ?_
      refine z_ci (z_runB (x := (⟨"NutCaches$Squirrel", "rank", "(IIII)I"⟩ : MethodName)) (owner := "NutCaches$Habit") (C := "NutCaches$Plain") (n := 4) (As := [.int (nI 2), .int (nI 9), .int (nI 50), .int (nI 4)]) (rest := []) hC ⟨zn_X6_rank, q989, q995, ⟨by decide +kernel, by decide +kernel⟩, by decide +kernel⟩ (va_Nw.use rfl (hz.1 _ (cw_d 17 rfl rfl))) (va_Nw.use rfl (hz.1 _ (cw_d 13 rfl rfl))) (va_Decl.abs (hz.1 _ (cw_t q984 rfl))) (m_X6_rank G l oq 2 9 50 4 _) hw hw 0 rfl rfl rfl rfl rfl (Nat.le_of_ble_eq_true rfl) hl.1 ⟨Nat.le_of_ble_eq_true rfl, Nat.le_of_ble_eq_true rfl⟩ ⟨(Nat.le_of_ble_eq_true rfl), (Nat.le_of_ble_eq_true rfl)⟩ dX0_does_53) hw (fun _ => List.Perm.refl _) (fun r u H locs hp hw => ?_)
      obtain rfl : r = nI ((2 * 20 + 9) * 10 + 4) := hp
      refine lv_istore (lv' := [(6, .int (nI ((2 * 20 + 9) * 10 + 4))), (5, .int (nI ((3 * 20 + 9) * 10 + 6))), (4, .int (nI ((1 * 20 + 9) * 10 + 5))), (3, .ref oq), (0, .int (nI 0)), (1, .int (nI nn)), (2, .int (nI dd))]) hx hb dX0_does_56 hl (by decide) rfl (fun ls hl => ?_)
      refine lv_iload hx hb dX0_does_58 (lv_at hl 2 rfl) ?_
      refine lv_iload hx hb dX0_does_60 (lv_at hl 1 rfl) ?_
      refine zi_ge (tgt := 76) hx hb (by omega) (by omega) dX0_does_62 (by decide) (fun c_62 => ?_) (fun c_62 => ?_)
      · skip
        refine lv_iload hx hb dX0_does_76 (lv_at hl 1 rfl) ?_
        refine lv_iload hx hb dX0_does_78 (lv_at hl 0 rfl) ?_
        refine zi_ge (tgt := 87) hx hb (by omega) (by omega) dX0_does_80 (by decide) (fun c_80 => ?_) (fun c_80 => ?_)
        · skip
          refine lv_iconst (v := (nI 2)) hx hb dX0_does_87 zk_2 ?_
          refine lv_istore (lv' := [(7, .int (nI 2)), (6, .int (nI ((2 * 20 + 9) * 10 + 4))), (5, .int (nI ((3 * 20 + 9) * 10 + 6))), (4, .int (nI ((1 * 20 + 9) * 10 + 5))), (3, .ref oq), (0, .int (nI 0)), (1, .int (nI nn)), (2, .int (nI dd))]) hx hb dX0_does_88 hl (by decide) rfl (fun ls hl => ?_)
          refine lv_aload_n hx hb dX0_does_90 rfl (lv_at hl 4 rfl) ?_
          refine z_ci (z_runB (x := (⟨"NutCaches$Squirrel", "wants", "()I"⟩ : MethodName)) (owner := "NutCaches$Squirrel") (C := "NutCaches$Plain") (n := 0) (As := []) (rest := []) hC ⟨zn_X5_wants, q862, q867, ⟨by decide +kernel, by decide +kernel⟩, by decide +kernel⟩ (hC.hts _ q861) (hC.hts _ q863) (z_declO hC q862 q869) (m_X5_wants_0 G l kA (by first | assumption | (omega)) oq nn (nI 0) (zrem [0] _)) hw (hw.perm (z_cut (is := [0]) (cells := [(oq, zo 5 (sqF (nI 0) (nI nn)))]) rfl rfl)) 0 rfl rfl rfl rfl rfl (Nat.le_of_ble_eq_true rfl) hl.1 ⟨Nat.le_of_ble_eq_true rfl, Nat.le_of_ble_eq_true rfl⟩ ⟨(Nat.le_of_ble_eq_true rfl), (Nat.le_of_ble_eq_true rfl)⟩ dX0_does_91) hw (fun _ => z_keep (is := [0]) (cs := [(oq, zo 5 (sqF (nI 0) (nI nn)))]) rfl rfl) (fun r u H locs hp hw => ?_)
          obtain rfl : r = nI nn := hp
          refine lv_bipush (v := (nI 100)) hx hb dX0_does_94 zb_100 ?_
          refine lv_iload hx hb dX0_does_96 (lv_at hl 0 rfl) ?_
          refine zn_imul hx hb dX0_does_98 ?_
          refine zn_iadd hx hb dX0_does_99 ?_
          have hw := hw.drop
          exact hend _ _ _ _ _ _ _ () hw (by first | (exfalso; omega) | exact absurd trivial c_14 | (unfold dN; rw [ifP_f (fun q => c_14 (by have := q rfl; omega))]; done) | (unfold dN; rw [ifP_t (by first | (intro q; have := c_14; omega) | (intro q; exact absurd q (by decide)))]; first | rfl | (exact congrArg nI (show 1 + nn + 100 * 2 = nn + 1 + 100 * 2 by omega)))) (Nat.le_of_ble_eq_true rfl) (Nat.le_of_ble_eq_true rfl) dX0_does_100
        · skip
          refine lv_iconst (v := (nI 1)) hx hb dX0_does_83 zk_1 ?_
          refine lv_goto (tgt := 88) hx hb dX0_does_84 (by decide) ?_
          refine lv_istore (lv' := [(7, .int (nI 1)), (6, .int (nI ((2 * 20 + 9) * 10 + 4))), (5, .int (nI ((3 * 20 + 9) * 10 + 6))), (4, .int (nI ((1 * 20 + 9) * 10 + 5))), (3, .ref oq), (0, .int (nI 0)), (1, .int (nI nn)), (2, .int (nI dd))]) hx hb dX0_does_88 hl (by decide) rfl (fun ls hl => ?_)
          refine lv_aload_n hx hb dX0_does_90 rfl (lv_at hl 4 rfl) ?_
          refine z_ci (z_runB (x := (⟨"NutCaches$Squirrel", "wants", "()I"⟩ : MethodName)) (owner := "NutCaches$Squirrel") (C := "NutCaches$Plain") (n := 0) (As := []) (rest := []) hC ⟨zn_X5_wants, q862, q867, ⟨by decide +kernel, by decide +kernel⟩, by decide +kernel⟩ (hC.hts _ q861) (hC.hts _ q863) (z_declO hC q862 q869) (m_X5_wants_0 G l kA (by first | assumption | (omega)) oq nn (nI 0) (zrem [0] _)) hw (hw.perm (z_cut (is := [0]) (cells := [(oq, zo 5 (sqF (nI 0) (nI nn)))]) rfl rfl)) 0 rfl rfl rfl rfl rfl (Nat.le_of_ble_eq_true rfl) hl.1 ⟨Nat.le_of_ble_eq_true rfl, Nat.le_of_ble_eq_true rfl⟩ ⟨(Nat.le_of_ble_eq_true rfl), (Nat.le_of_ble_eq_true rfl)⟩ dX0_does_91) hw (fun _ => z_keep (is := [0]) (cs := [(oq, zo 5 (sqF (nI 0) (nI nn)))]) rfl rfl) (fun r u H locs hp hw => ?_)
          obtain rfl : r = nI nn := hp
          refine lv_bipush (v := (nI 100)) hx hb dX0_does_94 zb_100 ?_
          refine lv_iload hx hb dX0_does_96 (lv_at hl 0 rfl) ?_
          refine zn_imul hx hb dX0_does_98 ?_
          refine zn_iadd hx hb dX0_does_99 ?_
          have hw := hw.drop
          exact hend _ _ _ _ _ _ _ () hw (by first | (exfalso; omega) | exact absurd trivial c_14 | (unfold dN; rw [ifP_f (fun q => c_14 (by have := q rfl; omega))]; done) | (unfold dN; rw [ifP_t (by first | (intro q; have := c_14; omega) | (intro q; exact absurd q (by decide)))]; first | rfl | (exact congrArg nI (show 1 + nn + 100 * 2 = nn + 1 + 100 * 2 by omega)))) (Nat.le_of_ble_eq_true rfl) (Nat.le_of_ble_eq_true rfl) dX0_does_100
      · skip
        refine lv_iload hx hb dX0_does_65 (lv_at hl 2 rfl) ?_
        refine lv_iload hx hb dX0_does_67 (lv_at hl 0 rfl) ?_
        refine zi_ge (tgt := 76) hx hb (by omega) (by omega) dX0_does_69 (by decide) (fun c_69 => ?_) (fun c_69 => ?_)
        · skip
          refine lv_iload hx hb dX0_does_76 (lv_at hl 1 rfl) ?_
          refine lv_iload hx hb dX0_does_78 (lv_at hl 0 rfl) ?_
          refine zi_ge (tgt := 87) hx hb (by omega) (by omega) dX0_does_80 (by decide) (fun c_80 => ?_) (fun c_80 => ?_)
          · skip
            refine lv_iconst (v := (nI 2)) hx hb dX0_does_87 zk_2 ?_
            refine lv_istore (lv' := [(7, .int (nI 2)), (6, .int (nI ((2 * 20 + 9) * 10 + 4))), (5, .int (nI ((3 * 20 + 9) * 10 + 6))), (4, .int (nI ((1 * 20 + 9) * 10 + 5))), (3, .ref oq), (0, .int (nI 0)), (1, .int (nI nn)), (2, .int (nI dd))]) hx hb dX0_does_88 hl (by decide) rfl (fun ls hl => ?_)
            refine lv_aload_n hx hb dX0_does_90 rfl (lv_at hl 4 rfl) ?_
            refine z_ci (z_runB (x := (⟨"NutCaches$Squirrel", "wants", "()I"⟩ : MethodName)) (owner := "NutCaches$Squirrel") (C := "NutCaches$Plain") (n := 0) (As := []) (rest := []) hC ⟨zn_X5_wants, q862, q867, ⟨by decide +kernel, by decide +kernel⟩, by decide +kernel⟩ (hC.hts _ q861) (hC.hts _ q863) (z_declO hC q862 q869) (m_X5_wants_0 G l kA (by first | assumption | (omega)) oq nn (nI 0) (zrem [0] _)) hw (hw.perm (z_cut (is := [0]) (cells := [(oq, zo 5 (sqF (nI 0) (nI nn)))]) rfl rfl)) 0 rfl rfl rfl rfl rfl (Nat.le_of_ble_eq_true rfl) hl.1 ⟨Nat.le_of_ble_eq_true rfl, Nat.le_of_ble_eq_true rfl⟩ ⟨(Nat.le_of_ble_eq_true rfl), (Nat.le_of_ble_eq_true rfl)⟩ dX0_does_91) hw (fun _ => z_keep (is := [0]) (cs := [(oq, zo 5 (sqF (nI 0) (nI nn)))]) rfl rfl) (fun r u H locs hp hw => ?_)
            obtain rfl : r = nI nn := hp
            refine lv_bipush (v := (nI 100)) hx hb dX0_does_94 zb_100 ?_
            refine lv_iload hx hb dX0_does_96 (lv_at hl 0 rfl) ?_
            refine zn_imul hx hb dX0_does_98 ?_
            refine zn_iadd hx hb dX0_does_99 ?_
            have hw := hw.drop
            exact hend _ _ _ _ _ _ _ () hw (by first | (exfalso; omega) | exact absurd trivial c_14 | (unfold dN; rw [ifP_f (fun q => c_14 (by have := q rfl; omega))]; done) | (unfold dN; rw [ifP_t (by first | (intro q; have := c_14; omega) | (intro q; exact absurd q (by decide)))]; first | rfl | (exact congrArg nI (show 1 + nn + 100 * 2 = nn + 1 + 100 * 2 by omega)))) (Nat.le_of_ble_eq_true rfl) (Nat.le_of_ble_eq_true rfl) dX0_does_100
          · skip
            refine lv_iconst (v := (nI 1)) hx hb dX0_does_83 zk_1 ?_
            refine lv_goto (tgt := 88) hx hb dX0_does_84 (by decide) ?_
            refine lv_istore (lv' := [(7, .int (nI 1)), (6, .int (nI ((2 * 20 + 9) * 10 + 4))), (5, .int (nI ((3 * 20 + 9) * 10 + 6))), (4, .int (nI ((1 * 20 + 9) * 10 + 5))), (3, .ref oq), (0, .int (nI 0)), (1, .int (nI nn)), (2, .int (nI dd))]) hx hb dX0_does_88 hl (by decide) rfl (fun ls hl => ?_)
            refine lv_aload_n hx hb dX0_does_90 rfl (lv_at hl 4 rfl) ?_
            refine z_ci (z_runB (x := (⟨"NutCaches$Squirrel", "wants", "()I"⟩ : MethodName)) (owner := "NutCaches$Squirrel") (C := "NutCaches$Plain") (n := 0) (As := []) (rest := []) hC ⟨zn_X5_wants, q862, q867, ⟨by decide +kernel, by decide +kernel⟩, by decide +kernel⟩ (hC.hts _ q861) (hC.hts _ q863) (z_declO hC q862 q869) (m_X5_wants_0 G l kA (by first | assumption | (omega)) oq nn (nI 0) (zrem [0] _)) hw (hw.perm (z_cut (is := [0]) (cells := [(oq, zo 5 (sqF (nI 0) (nI nn)))]) rfl rfl)) 0 rfl rfl rfl rfl rfl (Nat.le_of_ble_eq_true rfl) hl.1 ⟨Nat.le_of_ble_eq_true rfl, Nat.le_of_ble_eq_true rfl⟩ ⟨(Nat.le_of_ble_eq_true rfl), (Nat.le_of_ble_eq_true rfl)⟩ dX0_does_91) hw (fun _ => z_keep (is := [0]) (cs := [(oq, zo 5 (sqF (nI 0) (nI nn)))]) rfl rfl) (fun r u H locs hp hw => ?_)
            obtain rfl : r = nI nn := hp
            refine lv_bipush (v := (nI 100)) hx hb dX0_does_94 zb_100 ?_
            refine lv_iload hx hb dX0_does_96 (lv_at hl 0 rfl) ?_
            refine zn_imul hx hb dX0_does_98 ?_
            refine zn_iadd hx hb dX0_does_99 ?_
            have hw := hw.drop
            exact hend _ _ _ _ _ _ _ () hw (by first | (exfalso; omega) | exact absurd trivial c_14 | (unfold dN; rw [ifP_f (fun q => c_14 (by have := q rfl; omega))]; done) | (unfold dN; rw [ifP_t (by first | (intro q; have := c_14; omega) | (intro q; exact absurd q (by decide)))]; first | rfl | (exact congrArg nI (show 1 + nn + 100 * 2 = nn + 1 + 100 * 2 by omega)))) (Nat.le_of_ble_eq_true rfl) (Nat.le_of_ble_eq_true rfl) dX0_does_100
        · skip
          refine lv_iconst (v := (nI 0)) hx hb dX0_does_72 zk_0 ?_
          refine lv_goto (tgt := 88) hx hb dX0_does_73 (by decide) ?_
          refine lv_istore (lv' := [(7, .int (nI 0)), (6, .int (nI ((2 * 20 + 9) * 10 + 4))), (5, .int (nI ((3 * 20 + 9) * 10 + 6))), (4, .int (nI ((1 * 20 + 9) * 10 + 5))), (3, .ref oq), (0, .int (nI 0)), (1, .int (nI nn)), (2, .int (nI dd))]) hx hb dX0_does_88 hl (by decide) rfl (fun ls hl => ?_)
          refine lv_aload_n hx hb dX0_does_90 rfl (lv_at hl 4 rfl) ?_
          refine z_ci (z_runB (x := (⟨"NutCaches$Squirrel", "wants", "()I"⟩ : MethodName)) (owner := "NutCaches$Squirrel") (C := "NutCaches$Plain") (n := 0) (As := []) (rest := []) hC ⟨zn_X5_wants, q862, q867, ⟨by decide +kernel, by decide +kernel⟩, by decide +kernel⟩ (hC.hts _ q861) (hC.hts _ q863) (z_declO hC q862 q869) (m_X5_wants_0 G l kA (by first | assumption | (omega)) oq nn (nI 0) (zrem [0] _)) hw (hw.perm (z_cut (is := [0]) (cells := [(oq, zo 5 (sqF (nI 0) (nI nn)))]) rfl rfl)) 0 rfl rfl rfl rfl rfl (Nat.le_of_ble_eq_true rfl) hl.1 ⟨Nat.le_of_ble_eq_true rfl, Nat.le_of_ble_eq_true rfl⟩ ⟨(Nat.le_of_ble_eq_true rfl), (Nat.le_of_ble_eq_true rfl)⟩ dX0_does_91) hw (fun _ => z_keep (is := [0]) (cs := [(oq, zo 5 (sqF (nI 0) (nI nn)))]) rfl rfl) (fun r u H locs hp hw => ?_)
          obtain rfl : r = nI nn := hp
          refine lv_bipush (v := (nI 100)) hx hb dX0_does_94 zb_100 ?_
          refine lv_iload hx hb dX0_does_96 (lv_at hl 0 rfl) ?_
          refine zn_imul hx hb dX0_does_98 ?_
          refine zn_iadd hx hb dX0_does_99 ?_
          have hw := hw.drop
          exact hend _ _ _ _ _ _ _ () hw (by first | (exfalso; omega) | exact absurd trivial c_14 | (unfold dN; rw [ifP_f (fun q => c_14 (by have := q rfl; omega))]; done) | (unfold dN; rw [ifP_t (by first | (intro q; have := c_14; omega) | (intro q; exact absurd q (by decide)))]; first | rfl | (exact congrArg nI (show 1 + nn + 100 * 2 = nn + 1 + 100 * 2 by omega)))) (Nat.le_of_ble_eq_true rfl) (Nat.le_of_ble_eq_true rfl) dX0_does_100
    · skip
      refine lv_sipush (v := (nI 300)) hx hb dX0_does_17 zs_300 ?_
      have hw := hw.drop
      exact hend _ _ _ _ _ _ _ () hw (by first | (exfalso; omega) | exact absurd trivial c_14 | (unfold dN; rw [ifP_f (fun q => c_14 (by have := q rfl; omega))]; done) | (unfold dN; rw [ifP_t (by first | (intro q; have := c_14; omega) | (intro q; exact absurd q (by decide)))]; first | rfl | (exact congrArg nI (show 1 + nn + 100 * 2 = nn + 1 + 100 * 2 by omega)))) (Nat.le_of_ble_eq_true rfl) (Nat.le_of_ble_eq_true rfl) dX0_does_20
  · skip
    have hl : lv_has ls 8 [(3, .ref oq), (0, .int (nI 1)), (1, .int (nI nn)), (2, .int (nI dd))] := hl
    have hw : zS G ((oq, zo 6 (sqF (nI 0) (nI nn))) :: rest) s H locs := hw
    refine lv_aload_n hx hb dX0_does_7 rfl (lv_at hl 0 rfl) ?_
    refine lv_iconst (v := (nI 1)) hx hb dX0_does_8 zk_1 ?_
    refine lv_iload_n hx hb dX0_does_9 rfl (lv_at hl 3 rfl) ?_
    refine zn_iadd hx hb dX0_does_10 ?_
    refine z_ci (z_runD (x := (⟨"NutCaches$Squirrel", "wakes", "(I)Z"⟩ : MethodName)) (owner := "NutCaches$Habit") (n := 1) (As := [.int (nI (1 + dd))]) (rest := []) hC ⟨zn_X12_wakes, q963, ⟨by decide +kernel, by decide +kernel⟩, by decide +kernel⟩ (hz.1 _ (cw_d 14 rfl rfl)) (hz.1 _ (cw_d 10 rfl rfl)) (hz.1 _ (cw_t q959 rfl)) (hz.2.1 10 _ rfl) (m_X12_wakes G l oq (nI (1 + dd)) _) hw hw 0 rfl rfl rfl rfl (Nat.le_of_ble_eq_true rfl) hl.1 ⟨Nat.le_of_ble_eq_true rfl, Nat.le_of_ble_eq_true rfl⟩ ⟨(Nat.le_of_ble_eq_true rfl), (Nat.le_of_ble_eq_true rfl)⟩ dX0_does_11) hw (fun _ => List.Perm.refl _) (fun r u H locs hp hw => ?_)
    obtain rfl : r = bI True := hp
    refine zb_ne (tgt := 21) hx hb dX0_does_14 (by decide) (fun c_14 => ?_) (fun c_14 => ?_)
    · skip
      refine lv_aload_n hx hb dX0_does_21 rfl (lv_at hl 0 rfl) ?_
      refine lv_iconst (v := (nI 1)) hx hb dX0_does_22 zk_1 ?_
      refine lv_bipush (v := (nI 9)) hx hb dX0_does_23 zb_9 ?_
      refine lv_bipush (v := (nI 40)) hx hb dX0_does_25 zb_40 ?_
      refine lv_iconst (v := (nI 5)) hx hb dX0_does_27 zk_5 ?_
      refine z_ci (z_runB (x := (⟨"NutCaches$Squirrel", "rank", "(IIII)I"⟩ : MethodName)) (owner := "NutCaches$Habit") (C := "NutCaches$Greedy") (n := 4) (As := [.int (nI 1), .int (nI 9), .int (nI 40), .int (nI 5)]) (rest := []) hC ⟨zn_X6_rank, q989, q988, ⟨by decide +kernel, by decide +kernel⟩, by decide +kernel⟩ (va_Nw.use rfl (hz.1 _ (cw_d 17 rfl rfl))) (va_Nw.use rfl (hz.1 _ (cw_d 13 rfl rfl))) (va_Decl.abs (hz.1 _ (cw_t q984 rfl))) (m_X6_rank G l oq 1 9 40 5 _) hw hw 0 rfl rfl rfl rfl rfl (Nat.le_of_ble_eq_true rfl) hl.1 ⟨Nat.le_of_ble_eq_true rfl, Nat.le_of_ble_eq_true rfl⟩ ⟨(Nat.le_of_ble_eq_true rfl), (Nat.le_of_ble_eq_true rfl)⟩ dX0_does_28) hw (fun _ => List.Perm.refl _) (fun r u H locs hp hw => ?_)
      obtain rfl : r = nI ((1 * 20 + 9) * 10 + 5) := hp
      refine lv_istore (lv' := [(4, .int (nI ((1 * 20 + 9) * 10 + 5))), (3, .ref oq), (0, .int (nI 1)), (1, .int (nI nn)), (2, .int (nI dd))]) hx hb dX0_does_31 hl (by decide) rfl (fun ls hl => ?_)
      refine lv_aload_n hx hb dX0_does_33 rfl (lv_at hl 1 rfl) ?_
      refine lv_iconst (v := (nI 3)) hx hb dX0_does_34 zk_3 ?_
      refine lv_bipush (v := (nI 9)) hx hb dX0_does_35 zb_9 ?_
      refine lv_bipush (v := (nI 30)) hx hb dX0_does_37 zb_30 ?_
      refine lv_bipush (v := (nI 6)) hx hb dX0_does_39 zb_6 ?_
      refine z_ci (z_runB (x := (⟨"NutCaches$Squirrel", "rank", "(IIII)I"⟩ : MethodName)) (owner := "NutCaches$Habit") (C := "NutCaches$Greedy") (n := 4) (As := [.int (nI 3), .int (nI 9), .int (nI 30), .int (nI 6)]) (rest := []) hC ⟨zn_X6_rank, q989, q988, ⟨by decide +kernel, by decide +kernel⟩, by decide +kernel⟩ (va_Nw.use rfl (hz.1 _ (cw_d 17 rfl rfl))) (va_Nw.use rfl (hz.1 _ (cw_d 13 rfl rfl))) (va_Decl.abs (hz.1 _ (cw_t q984 rfl))) (m_X6_rank G l oq 3 9 30 6 _) hw hw 0 rfl rfl rfl rfl rfl (Nat.le_of_ble_eq_true rfl) hl.1 ⟨Nat.le_of_ble_eq_true rfl, Nat.le_of_ble_eq_true rfl⟩ ⟨(Nat.le_of_ble_eq_true rfl), (Nat.le_of_ble_eq_true rfl)⟩ dX0_does_41) hw (fun _ => List.Perm.refl _) (fun r u H locs hp hw => ?_)
      obtain rfl : r = nI ((3 * 20 + 9) * 10 + 6) := hp
      refine lv_istore (lv' := [(5, .int (nI ((3 * 20 + 9) * 10 + 6))), (4, .int (nI ((1 * 20 + 9) * 10 + 5))), (3, .ref oq), (0, .int (nI 1)), (1, .int (nI nn)), (2, .int (nI dd))]) hx hb dX0_does_44 hl (by decide) rfl (fun ls hl => ?_)
      refine lv_aload_n hx hb dX0_does_46 rfl (lv_at hl 2 rfl) ?_
      refine lv_iconst (v := (nI 2)) hx hb dX0_does_47 zk_2 ?_
      refine lv_bipush (v := (nI 9)) hx hb dX0_does_48 zb_9 ?_
      refine lv_bipush (v := (nI 50)) hx hb dX0_does_50 zb_50 ?_
      refine lv_iconst (v := (nI 4)) hx hb dX0_does_52 zk_4 ?_
      refine z_ci (z_runB (x := (⟨"NutCaches$Squirrel", "rank", "(IIII)I"⟩ : MethodName)) (owner := "NutCaches$Habit") (C := "NutCaches$Greedy") (n := 4) (As := [.int (nI 2), .int (nI 9), .int (nI 50), .int (nI 4)]) (rest := []) hC ⟨zn_X6_rank, q989, q988, ⟨by decide +kernel, by decide +kernel⟩, by decide +kernel⟩ (va_Nw.use rfl (hz.1 _ (cw_d 17 rfl rfl))) (va_Nw.use rfl (hz.1 _ (cw_d 13 rfl rfl))) (va_Decl.abs (hz.1 _ (cw_t q984 rfl))) (m_X6_rank G l oq 2 9 50 4 _) hw hw 0 rfl rfl rfl rfl rfl (Nat.le_of_ble_eq_true rfl) hl.1 ⟨Nat.le_of_ble_eq_true rfl, Nat.le_of_ble_eq_true rfl⟩ ⟨(Nat.le_of_ble_eq_true rfl), (Nat.le_of_ble_eq_true rfl)⟩ dX0_does_53) hw (fun _ => List.Perm.refl _) (fun r u H locs hp hw => ?_)
      obtain rfl : r = nI ((2 * 20 + 9) * 10 + 4) := hp
      refine lv_istore (lv' := [(6, .int (nI ((2 * 20 + 9) * 10 + 4))), (5, .int (nI ((3 * 20 + 9) * 10 + 6))), (4, .int (nI ((1 * 20 + 9) * 10 + 5))), (3, .ref oq), (0, .int (nI 1)), (1, .int (nI nn)), (2, .int (nI dd))]) hx hb dX0_does_56 hl (by decide) rfl (fun ls hl => ?_)
      refine lv_iload hx hb dX0_does_58 (lv_at hl 2 rfl) ?_
      refine lv_iload hx hb dX0_does_60 (lv_at hl 1 rfl) ?_
      refine zi_ge (tgt := 76) hx hb (by omega) (by omega) dX0_does_62 (by decide) (fun c_62 => ?_) (fun c_62 => ?_)
      · skip
        refine lv_iload hx hb dX0_does_76 (lv_at hl 1 rfl) ?_
        refine lv_iload hx hb dX0_does_78 (lv_at hl 0 rfl) ?_
        refine zi_ge (tgt := 87) hx hb (by omega) (by omega) dX0_does_80 (by decide) (fun c_80 => ?_) (fun c_80 => ?_)
        · skip
          refine lv_iconst (v := (nI 2)) hx hb dX0_does_87 zk_2 ?_
          refine lv_istore (lv' := [(7, .int (nI 2)), (6, .int (nI ((2 * 20 + 9) * 10 + 4))), (5, .int (nI ((3 * 20 + 9) * 10 + 6))), (4, .int (nI ((1 * 20 + 9) * 10 + 5))), (3, .ref oq), (0, .int (nI 1)), (1, .int (nI nn)), (2, .int (nI dd))]) hx hb dX0_does_88 hl (by decide) rfl (fun ls hl => ?_)
          refine lv_aload_n hx hb dX0_does_90 rfl (lv_at hl 4 rfl) ?_
          refine z_ci (z_runB (x := (⟨"NutCaches$Squirrel", "wants", "()I"⟩ : MethodName)) (owner := "NutCaches$Squirrel") (C := "NutCaches$Greedy") (n := 0) (As := []) (rest := []) hC ⟨zn_X5_wants, q862, q865, ⟨by decide +kernel, by decide +kernel⟩, by decide +kernel⟩ (hC.hts _ q861) (hC.hts _ q863) (z_declO hC q862 q869) (m_X5_wants_1 G l kA (by first | assumption | (omega)) oq nn (nI 0) (zrem [0] _)) hw (hw.perm (z_cut (is := [0]) (cells := [(oq, zo 6 (sqF (nI 0) (nI nn)))]) rfl rfl)) 0 rfl rfl rfl rfl rfl (Nat.le_of_ble_eq_true rfl) hl.1 ⟨Nat.le_of_ble_eq_true rfl, Nat.le_of_ble_eq_true rfl⟩ ⟨(Nat.le_of_ble_eq_true rfl), (Nat.le_of_ble_eq_true rfl)⟩ dX0_does_91) hw (fun _ => z_keep (is := [0]) (cs := [(oq, zo 6 (sqF (nI 0) (nI nn)))]) rfl rfl) (fun r u H locs hp hw => ?_)
          obtain rfl : r = nI (2 * nn) := hp
          refine lv_bipush (v := (nI 100)) hx hb dX0_does_94 zb_100 ?_
          refine lv_iload hx hb dX0_does_96 (lv_at hl 0 rfl) ?_
          refine zn_imul hx hb dX0_does_98 ?_
          refine zn_iadd hx hb dX0_does_99 ?_
          have hw := hw.drop
          exact hend _ _ _ _ _ _ _ () hw (by first | (exfalso; omega) | exact absurd trivial c_14 | (unfold dN; rw [ifP_f (fun q => c_14 (by have := q rfl; omega))]; done) | (unfold dN; rw [ifP_t (by first | (intro q; have := c_14; omega) | (intro q; exact absurd q (by decide)))]; first | rfl | (exact congrArg nI (show 1 + nn + 100 * 2 = nn + 1 + 100 * 2 by omega)))) (Nat.le_of_ble_eq_true rfl) (Nat.le_of_ble_eq_true rfl) dX0_does_100
        · skip
          refine lv_iconst (v := (nI 1)) hx hb dX0_does_83 zk_1 ?_
          refine lv_goto (tgt := 88) hx hb dX0_does_84 (by decide) ?_
          refine lv_istore (lv' := [(7, .int (nI 1)), (6, .int (nI ((2 * 20 + 9) * 10 + 4))), (5, .int (nI ((3 * 20 + 9) * 10 + 6))), (4, .int (nI ((1 * 20 + 9) * 10 + 5))), (3, .ref oq), (0, .int (nI 1)), (1, .int (nI nn)), (2, .int (nI dd))]) hx hb dX0_does_88 hl (by decide) rfl (fun ls hl => ?_)
          refine lv_aload_n hx hb dX0_does_90 rfl (lv_at hl 4 rfl) ?_
          refine z_ci (z_runB (x := (⟨"NutCaches$Squirrel", "wants", "()I"⟩ : MethodName)) (owner := "NutCaches$Squirrel") (C := "NutCaches$Greedy") (n := 0) (As := []) (rest := []) hC ⟨zn_X5_wants, q862, q865, ⟨by decide +kernel, by decide +kernel⟩, by decide +kernel⟩ (hC.hts _ q861) (hC.hts _ q863) (z_declO hC q862 q869) (m_X5_wants_1 G l kA (by first | assumption | (omega)) oq nn (nI 0) (zrem [0] _)) hw (hw.perm (z_cut (is := [0]) (cells := [(oq, zo 6 (sqF (nI 0) (nI nn)))]) rfl rfl)) 0 rfl rfl rfl rfl rfl (Nat.le_of_ble_eq_true rfl) hl.1 ⟨Nat.le_of_ble_eq_true rfl, Nat.le_of_ble_eq_true rfl⟩ ⟨(Nat.le_of_ble_eq_true rfl), (Nat.le_of_ble_eq_true rfl)⟩ dX0_does_91) hw (fun _ => z_keep (is := [0]) (cs := [(oq, zo 6 (sqF (nI 0) (nI nn)))]) rfl rfl) (fun r u H locs hp hw => ?_)
          obtain rfl : r = nI (2 * nn) := hp
          refine lv_bipush (v := (nI 100)) hx hb dX0_does_94 zb_100 ?_
          refine lv_iload hx hb dX0_does_96 (lv_at hl 0 rfl) ?_
          refine zn_imul hx hb dX0_does_98 ?_
          refine zn_iadd hx hb dX0_does_99 ?_
          have hw := hw.drop
          exact hend _ _ _ _ _ _ _ () hw (by first | (exfalso; omega) | exact absurd trivial c_14 | (unfold dN; rw [ifP_f (fun q => c_14 (by have := q rfl; omega))]; done) | (unfold dN; rw [ifP_t (by first | (intro q; have := c_14; omega) | (intro q; exact absurd q (by decide)))]; first | rfl | (exact congrArg nI (show 1 + nn + 100 * 2 = nn + 1 + 100 * 2 by omega)))) (Nat.le_of_ble_eq_true rfl) (Nat.le_of_ble_eq_true rfl) dX0_does_100
      · skip
        refine lv_iload hx hb dX0_does_65 (lv_at hl 2 rfl) ?_
        refine lv_iload hx hb dX0_does_67 (lv_at hl 0 rfl) ?_
        refine zi_ge (tgt := 76) hx hb (by omega) (by omega) dX0_does_69 (by decide) (fun c_69 => ?_) (fun c_69 => ?_)
        · skip
          refine lv_iload hx hb dX0_does_76 (lv_at hl 1 rfl) ?_
          refine lv_iload hx hb dX0_does_78 (lv_at hl 0 rfl) ?_
          refine zi_ge (tgt := 87) hx hb (by omega) (by omega) dX0_does_80 (by decide) (fun c_80 => ?_) (fun c_80 => ?_)
          · skip
            refine lv_iconst (v := (nI 2)) hx hb dX0_does_87 zk_2 ?_
            refine lv_istore (lv' := [(7, .int (nI 2)), (6, .int (nI ((2 * 20 + 9) * 10 + 4))), (5, .int (nI ((3 * 20 + 9) * 10 + 6))), (4, .int (nI ((1 * 20 + 9) * 10 + 5))), (3, .ref oq), (0, .int (nI 1)), (1, .int (nI nn)), (2, .int (nI dd))]) hx hb dX0_does_88 hl (by decide) rfl (fun ls hl => ?_)
            refine lv_aload_n hx hb dX0_does_90 rfl (lv_at hl 4 rfl) ?_
            refine z_ci (z_runB (x := (⟨"NutCaches$Squirrel", "wants", "()I"⟩ : MethodName)) (owner := "NutCaches$Squirrel") (C := "NutCaches$Greedy") (n := 0) (As := []) (rest := []) hC ⟨zn_X5_wants, q862, q865, ⟨by decide +kernel, by decide +kernel⟩, by decide +kernel⟩ (hC.hts _ q861) (hC.hts _ q863) (z_declO hC q862 q869) (m_X5_wants_1 G l kA (by first | assumption | (omega)) oq nn (nI 0) (zrem [0] _)) hw (hw.perm (z_cut (is := [0]) (cells := [(oq, zo 6 (sqF (nI 0) (nI nn)))]) rfl rfl)) 0 rfl rfl rfl rfl rfl (Nat.le_of_ble_eq_true rfl) hl.1 ⟨Nat.le_of_ble_eq_true rfl, Nat.le_of_ble_eq_true rfl⟩ ⟨(Nat.le_of_ble_eq_true rfl), (Nat.le_of_ble_eq_true rfl)⟩ dX0_does_91) hw (fun _ => z_keep (is := [0]) (cs := [(oq, zo 6 (sqF (nI 0) (nI nn)))]) rfl rfl) (fun r u H locs hp hw => ?_)
            obtain rfl : r = nI (2 * nn) := hp
            refine lv_bipush (v := (nI 100)) hx hb dX0_does_94 zb_100 ?_
            refine lv_iload hx hb dX0_does_96 (lv_at hl 0 rfl) ?_
            refine zn_imul hx hb dX0_does_98 ?_
            refine zn_iadd hx hb dX0_does_99 ?_
            have hw := hw.drop
            exact hend _ _ _ _ _ _ _ () hw (by first | (exfalso; omega) | exact absurd trivial c_14 | (unfold dN; rw [ifP_f (fun q => c_14 (by have := q rfl; omega))]; done) | (unfold dN; rw [ifP_t (by first | (intro q; have := c_14; omega) | (intro q; exact absurd q (by decide)))]; first | rfl | (exact congrArg nI (show 1 + nn + 100 * 2 = nn + 1 + 100 * 2 by omega)))) (Nat.le_of_ble_eq_true rfl) (Nat.le_of_ble_eq_true rfl) dX0_does_100
          · skip
            refine lv_iconst (v := (nI 1)) hx hb dX0_does_83 zk_1 ?_
            refine lv_goto (tgt := 88) hx hb dX0_does_84 (by decide) ?_
            refine lv_istore (lv' := [(7, .int (nI 1)), (6, .int (nI ((2 * 20 + 9) * 10 + 4))), (5, .int (nI ((3 * 20 + 9) * 10 + 6))), (4, .int (nI ((1 * 20 + 9) * 10 + 5))), (3, .ref oq), (0, .int (nI 1)), (1, .int (nI nn)), (2, .int (nI dd))]) hx hb dX0_does_88 hl (by decide) rfl (fun ls hl => ?_)
            refine lv_aload_n hx hb dX0_does_90 rfl (lv_at hl 4 rfl) ?_
            refine z_ci (z_runB (x := (⟨"NutCaches$Squirrel", "wants", "()I"⟩ : MethodName)) (owner := "NutCaches$Squirrel") (C := "NutCaches$Greedy") (n := 0) (As := []) (rest := []) hC ⟨zn_X5_wants, q862, q865, ⟨by decide +kernel, by decide +kernel⟩, by decide +kernel⟩ (hC.hts _ q861) (hC.hts _ q863) (z_declO hC q862 q869) (m_X5_wants_1 G l kA (by first | assumption | (omega)) oq nn (nI 0) (zrem [0] _)) hw (hw.perm (z_cut (is := [0]) (cells := [(oq, zo 6 (sqF (nI 0) (nI nn)))]) rfl rfl)) 0 rfl rfl rfl rfl rfl (Nat.le_of_ble_eq_true rfl) hl.1 ⟨Nat.le_of_ble_eq_true rfl, Nat.le_of_ble_eq_true rfl⟩ ⟨(Nat.le_of_ble_eq_true rfl), (Nat.le_of_ble_eq_true rfl)⟩ dX0_does_91) hw (fun _ => z_keep (is := [0]) (cs := [(oq, zo 6 (sqF (nI 0) (nI nn)))]) rfl rfl) (fun r u H locs hp hw => ?_)
            obtain rfl : r = nI (2 * nn) := hp
            refine lv_bipush (v := (nI 100)) hx hb dX0_does_94 zb_100 ?_
            refine lv_iload hx hb dX0_does_96 (lv_at hl 0 rfl) ?_
            refine zn_imul hx hb dX0_does_98 ?_
            refine zn_iadd hx hb dX0_does_99 ?_
            have hw := hw.drop
            exact hend _ _ _ _ _ _ _ () hw (by first | (exfalso; omega) | exact absurd trivial c_14 | (unfold dN; rw [ifP_f (fun q => c_14 (by have := q rfl; omega))]; done) | (unfold dN; rw [ifP_t (by first | (intro q; have := c_14; omega) | (intro q; exact absurd q (by decide)))]; first | rfl | (exact congrArg nI (show 1 + nn + 100 * 2 = nn + 1 + 100 * 2 by omega)))) (Nat.le_of_ble_eq_true rfl) (Nat.le_of_ble_eq_true rfl) dX0_does_100
        · skip
          refine lv_iconst (v := (nI 0)) hx hb dX0_does_72 zk_0 ?_
          refine lv_goto (tgt := 88) hx hb dX0_does_73 (by decide) ?_
          refine lv_istore (lv' := [(7, .int (nI 0)), (6, .int (nI ((2 * 20 + 9) * 10 + 4))), (5, .int (nI ((3 * 20 + 9) * 10 + 6))), (4, .int (nI ((1 * 20 + 9) * 10 + 5))), (3, .ref oq), (0, .int (nI 1)), (1, .int (nI nn)), (2, .int (nI dd))]) hx hb dX0_does_88 hl (by decide) rfl (fun ls hl => ?_)
          refine lv_aload_n hx hb dX0_does_90 rfl (lv_at hl 4 rfl) ?_
          refine z_ci (z_runB (x := (⟨"NutCaches$Squirrel", "wants", "()I"⟩ : MethodName)) (owner := "NutCaches$Squirrel") (C := "NutCaches$Greedy") (n := 0) (As := []) (rest := []) hC ⟨zn_X5_wants, q862, q865, ⟨by decide +kernel, by decide +kernel⟩, by decide +kernel⟩ (hC.hts _ q861) (hC.hts _ q863) (z_declO hC q862 q869) (m_X5_wants_1 G l kA (by first | assumption | (omega)) oq nn (nI 0) (zrem [0] _)) hw (hw.perm (z_cut (is := [0]) (cells := [(oq, zo 6 (sqF (nI 0) (nI nn)))]) rfl rfl)) 0 rfl rfl rfl rfl rfl (Nat.le_of_ble_eq_true rfl) hl.1 ⟨Nat.le_of_ble_eq_true rfl, Nat.le_of_ble_eq_true rfl⟩ ⟨(Nat.le_of_ble_eq_true rfl), (Nat.le_of_ble_eq_true rfl)⟩ dX0_does_91) hw (fun _ => z_keep (is := [0]) (cs := [(oq, zo 6 (sqF (nI 0) (nI nn)))]) rfl rfl) (fun r u H locs hp hw => ?_)
          obtain rfl : r = nI (2 * nn) := hp
          refine lv_bipush (v := (nI 100)) hx hb dX0_does_94 zb_100 ?_
          refine lv_iload hx hb dX0_does_96 (lv_at hl 0 rfl) ?_
          refine zn_imul hx hb dX0_does_98 ?_
          refine zn_iadd hx hb dX0_does_99 ?_
          have hw := hw.drop
          exact hend _ _ _ _ _ _ _ () hw (by first | (exfalso; omega) | exact absurd trivial c_14 | (unfold dN; rw [ifP_f (fun q => c_14 (by have := q rfl; omega))]; done) | (unfold dN; rw [ifP_t (by first | (intro q; have := c_14; omega) | (intro q; exact absurd q (by decide)))]; first | rfl | (exact congrArg nI (show 1 + nn + 100 * 2 = nn + 1 + 100 * 2 by omega)))) (Nat.le_of_ble_eq_true rfl) (Nat.le_of_ble_eq_true rfl) dX0_does_100
    · skip
      refine lv_sipush (v := (nI 300)) hx hb dX0_does_17 zs_300 ?_
      have hw := hw.drop
      exact hend _ _ _ _ _ _ _ () hw (by first | (exfalso; omega) | exact absurd trivial c_14 | (unfold dN; rw [ifP_f (fun q => c_14 (by have := q rfl; omega))]; done) | (unfold dN; rw [ifP_t (by first | (intro q; have := c_14; omega) | (intro q; exact absurd q (by decide)))]; first | rfl | (exact congrArg nI (show 1 + nn + 100 * 2 = nn + 1 + 100 * 2 by omega)))) (Nat.le_of_ble_eq_true rfl) (Nat.le_of_ble_eq_true rfl) dX0_does_20
  · skip
    have hl : lv_has ls 8 [(3, .ref oq), (0, .int (nI 2)), (1, .int (nI nn)), (2, .int (nI dd))] := hl
    have hw : zS G ((oq, zo 7 (sqF (nI 0) (nI nn))) :: rest) s H locs := hw
    refine lv_aload_n hx hb dX0_does_7 rfl (lv_at hl 0 rfl) ?_
    refine lv_iconst (v := (nI 1)) hx hb dX0_does_8 zk_1 ?_
    refine lv_iload_n hx hb dX0_does_9 rfl (lv_at hl 3 rfl) ?_
    refine zn_iadd hx hb dX0_does_10 ?_
    refine z_ci (z_runD (x := (⟨"NutCaches$Squirrel", "wakes", "(I)Z"⟩ : MethodName)) (owner := "NutCaches$Habit") (n := 1) (As := [.int (nI (1 + dd))]) (rest := []) hC ⟨zn_X12_wakes, q963, ⟨by decide +kernel, by decide +kernel⟩, by decide +kernel⟩ (hz.1 _ (cw_d 14 rfl rfl)) (hz.1 _ (cw_d 10 rfl rfl)) (hz.1 _ (cw_t q959 rfl)) (hz.2.1 11 _ rfl) (m_X12_wakes G l oq (nI (1 + dd)) _) hw hw 0 rfl rfl rfl rfl (Nat.le_of_ble_eq_true rfl) hl.1 ⟨Nat.le_of_ble_eq_true rfl, Nat.le_of_ble_eq_true rfl⟩ ⟨(Nat.le_of_ble_eq_true rfl), (Nat.le_of_ble_eq_true rfl)⟩ dX0_does_11) hw (fun _ => List.Perm.refl _) (fun r u H locs hp hw => ?_)
    obtain rfl : r = bI True := hp
    refine zb_ne (tgt := 21) hx hb dX0_does_14 (by decide) (fun c_14 => ?_) (fun c_14 => ?_)
    · skip
      refine lv_aload_n hx hb dX0_does_21 rfl (lv_at hl 0 rfl) ?_
      refine lv_iconst (v := (nI 1)) hx hb dX0_does_22 zk_1 ?_
      refine lv_bipush (v := (nI 9)) hx hb dX0_does_23 zb_9 ?_
      refine lv_bipush (v := (nI 40)) hx hb dX0_does_25 zb_40 ?_
      refine lv_iconst (v := (nI 5)) hx hb dX0_does_27 zk_5 ?_
      refine z_ci (z_runB (x := (⟨"NutCaches$Squirrel", "rank", "(IIII)I"⟩ : MethodName)) (owner := "NutCaches$Habit") (C := "NutCaches$Neat") (n := 4) (As := [.int (nI 1), .int (nI 9), .int (nI 40), .int (nI 5)]) (rest := []) hC ⟨zn_X8_rank, q992, q991, ⟨by decide +kernel, by decide +kernel⟩, by decide +kernel⟩ (va_Nw.use rfl (hz.1 _ (cw_d 17 rfl rfl))) (va_Nw.use rfl (hz.1 _ (cw_d 13 rfl rfl))) (va_Decl.abs (hz.1 _ (cw_t q984 rfl))) (m_X8_rank G l kA (by first | assumption | (omega)) oq 1 9 40 5 (nI 0) (nI nn) (zrem [0] _)) hw (hw.perm (z_cut (is := [0]) (cells := [(oq, zo 7 (sqF (nI 0) (nI nn)))]) rfl rfl)) 0 rfl rfl rfl rfl rfl (Nat.le_of_ble_eq_true rfl) hl.1 ⟨Nat.le_of_ble_eq_true rfl, Nat.le_of_ble_eq_true rfl⟩ ⟨(Nat.le_of_ble_eq_true rfl), (Nat.le_of_ble_eq_true rfl)⟩ dX0_does_28) hw (fun _ => z_keep (is := [0]) (cs := [(oq, zo 7 (sqF (nI 0) (nI nn)))]) rfl rfl) (fun r u H locs hp hw => ?_)
      obtain rfl : r = nI (40 * 10000 + ((1 * 20 + 9) * 10 + 5)) := hp
      refine lv_istore (lv' := [(4, .int (nI (40 * 10000 + ((1 * 20 + 9) * 10 + 5)))), (3, .ref oq), (0, .int (nI 2)), (1, .int (nI nn)), (2, .int (nI dd))]) hx hb dX0_does_31 hl (by decide) rfl (fun ls hl => ?_)
      refine lv_aload_n hx hb dX0_does_33 rfl (lv_at hl 1 rfl) ?_
      refine lv_iconst (v := (nI 3)) hx hb dX0_does_34 zk_3 ?_
      refine lv_bipush (v := (nI 9)) hx hb dX0_does_35 zb_9 ?_
      refine lv_bipush (v := (nI 30)) hx hb dX0_does_37 zb_30 ?_
      refine lv_bipush (v := (nI 6)) hx hb dX0_does_39 zb_6 ?_
      refine z_ci (z_runB (x := (⟨"NutCaches$Squirrel", "rank", "(IIII)I"⟩ : MethodName)) (owner := "NutCaches$Habit") (C := "NutCaches$Neat") (n := 4) (As := [.int (nI 3), .int (nI 9), .int (nI 30), .int (nI 6)]) (rest := []) hC ⟨zn_X8_rank, q992, q991, ⟨by decide +kernel, by decide +kernel⟩, by decide +kernel⟩ (va_Nw.use rfl (hz.1 _ (cw_d 17 rfl rfl))) (va_Nw.use rfl (hz.1 _ (cw_d 13 rfl rfl))) (va_Decl.abs (hz.1 _ (cw_t q984 rfl))) (m_X8_rank G l kA (by first | assumption | (omega)) oq 3 9 30 6 (nI 0) (nI nn) (zrem [0] _)) hw (hw.perm (z_cut (is := [0]) (cells := [(oq, zo 7 (sqF (nI 0) (nI nn)))]) rfl rfl)) 0 rfl rfl rfl rfl rfl (Nat.le_of_ble_eq_true rfl) hl.1 ⟨Nat.le_of_ble_eq_true rfl, Nat.le_of_ble_eq_true rfl⟩ ⟨(Nat.le_of_ble_eq_true rfl), (Nat.le_of_ble_eq_true rfl)⟩ dX0_does_41) hw (fun _ => z_keep (is := [0]) (cs := [(oq, zo 7 (sqF (nI 0) (nI nn)))]) rfl rfl) (fun r u H locs hp hw => ?_)
      obtain rfl : r = nI (30 * 10000 + ((3 * 20 + 9) * 10 + 6)) := hp
      refine lv_istore (lv' := [(5, .int (nI (30 * 10000 + ((3 * 20 + 9) * 10 + 6)))), (4, .int (nI (40 * 10000 + ((1 * 20 + 9) * 10 + 5)))), (3, .ref oq), (0, .int (nI 2)), (1, .int (nI nn)), (2, .int (nI dd))]) hx hb dX0_does_44 hl (by decide) rfl (fun ls hl => ?_)
      refine lv_aload_n hx hb dX0_does_46 rfl (lv_at hl 2 rfl) ?_
      refine lv_iconst (v := (nI 2)) hx hb dX0_does_47 zk_2 ?_
      refine lv_bipush (v := (nI 9)) hx hb dX0_does_48 zb_9 ?_
      refine lv_bipush (v := (nI 50)) hx hb dX0_does_50 zb_50 ?_
      refine lv_iconst (v := (nI 4)) hx hb dX0_does_52 zk_4 ?_
      refine z_ci (z_runB (x := (⟨"NutCaches$Squirrel", "rank", "(IIII)I"⟩ : MethodName)) (owner := "NutCaches$Habit") (C := "NutCaches$Neat") (n := 4) (As := [.int (nI 2), .int (nI 9), .int (nI 50), .int (nI 4)]) (rest := []) hC ⟨zn_X8_rank, q992, q991, ⟨by decide +kernel, by decide +kernel⟩, by decide +kernel⟩ (va_Nw.use rfl (hz.1 _ (cw_d 17 rfl rfl))) (va_Nw.use rfl (hz.1 _ (cw_d 13 rfl rfl))) (va_Decl.abs (hz.1 _ (cw_t q984 rfl))) (m_X8_rank G l kA (by first | assumption | (omega)) oq 2 9 50 4 (nI 0) (nI nn) (zrem [0] _)) hw (hw.perm (z_cut (is := [0]) (cells := [(oq, zo 7 (sqF (nI 0) (nI nn)))]) rfl rfl)) 0 rfl rfl rfl rfl rfl (Nat.le_of_ble_eq_true rfl) hl.1 ⟨Nat.le_of_ble_eq_true rfl, Nat.le_of_ble_eq_true rfl⟩ ⟨(Nat.le_of_ble_eq_true rfl), (Nat.le_of_ble_eq_true rfl)⟩ dX0_does_53) hw (fun _ => z_keep (is := [0]) (cs := [(oq, zo 7 (sqF (nI 0) (nI nn)))]) rfl rfl) (fun r u H locs hp hw => ?_)
      obtain rfl : r = nI (50 * 10000 + ((2 * 20 + 9) * 10 + 4)) := hp
      refine lv_istore (lv' := [(6, .int (nI (50 * 10000 + ((2 * 20 + 9) * 10 + 4)))), (5, .int (nI (30 * 10000 + ((3 * 20 + 9) * 10 + 6)))), (4, .int (nI (40 * 10000 + ((1 * 20 + 9) * 10 + 5)))), (3, .ref oq), (0, .int (nI 2)), (1, .int (nI nn)), (2, .int (nI dd))]) hx hb dX0_does_56 hl (by decide) rfl (fun ls hl => ?_)
      refine lv_iload hx hb dX0_does_58 (lv_at hl 2 rfl) ?_
      refine lv_iload hx hb dX0_does_60 (lv_at hl 1 rfl) ?_
      refine zi_ge (tgt := 76) hx hb (by omega) (by omega) dX0_does_62 (by decide) (fun c_62 => ?_) (fun c_62 => ?_)
      · skip
        refine lv_iload hx hb dX0_does_76 (lv_at hl 1 rfl) ?_
        refine lv_iload hx hb dX0_does_78 (lv_at hl 0 rfl) ?_
        refine zi_ge (tgt := 87) hx hb (by omega) (by omega) dX0_does_80 (by decide) (fun c_80 => ?_) (fun c_80 => ?_)
        · skip
          refine lv_iconst (v := (nI 2)) hx hb dX0_does_87 zk_2 ?_
          refine lv_istore (lv' := [(7, .int (nI 2)), (6, .int (nI (50 * 10000 + ((2 * 20 + 9) * 10 + 4)))), (5, .int (nI (30 * 10000 + ((3 * 20 + 9) * 10 + 6)))), (4, .int (nI (40 * 10000 + ((1 * 20 + 9) * 10 + 5)))), (3, .ref oq), (0, .int (nI 2)), (1, .int (nI nn)), (2, .int (nI dd))]) hx hb dX0_does_88 hl (by decide) rfl (fun ls hl => ?_)
          refine lv_aload_n hx hb dX0_does_90 rfl (lv_at hl 4 rfl) ?_
          refine z_ci (z_runB (x := (⟨"NutCaches$Squirrel", "wants", "()I"⟩ : MethodName)) (owner := "NutCaches$Squirrel") (C := "NutCaches$Neat") (n := 0) (As := []) (rest := []) hC ⟨zn_X5_wants, q862, q866, ⟨by decide +kernel, by decide +kernel⟩, by decide +kernel⟩ (hC.hts _ q861) (hC.hts _ q863) (z_declO hC q862 q869) (m_X5_wants_2 G l kA (by first | assumption | (omega)) oq nn (nI 0) (zrem [0] _)) hw (hw.perm (z_cut (is := [0]) (cells := [(oq, zo 7 (sqF (nI 0) (nI nn)))]) rfl rfl)) 0 rfl rfl rfl rfl rfl (Nat.le_of_ble_eq_true rfl) hl.1 ⟨Nat.le_of_ble_eq_true rfl, Nat.le_of_ble_eq_true rfl⟩ ⟨(Nat.le_of_ble_eq_true rfl), (Nat.le_of_ble_eq_true rfl)⟩ dX0_does_91) hw (fun _ => z_keep (is := [0]) (cs := [(oq, zo 7 (sqF (nI 0) (nI nn)))]) rfl rfl) (fun r u H locs hp hw => ?_)
          obtain rfl : r = nI nn := hp
          refine lv_bipush (v := (nI 100)) hx hb dX0_does_94 zb_100 ?_
          refine lv_iload hx hb dX0_does_96 (lv_at hl 0 rfl) ?_
          refine zn_imul hx hb dX0_does_98 ?_
          refine zn_iadd hx hb dX0_does_99 ?_
          have hw := hw.drop
          exact hend _ _ _ _ _ _ _ () hw (by first | (exfalso; omega) | exact absurd trivial c_14 | (unfold dN; rw [ifP_f (fun q => c_14 (by have := q rfl; omega))]; done) | (unfold dN; rw [ifP_t (by first | (intro q; have := c_14; omega) | (intro q; exact absurd q (by decide)))]; first | rfl | (exact congrArg nI (show 1 + nn + 100 * 2 = nn + 1 + 100 * 2 by omega)))) (Nat.le_of_ble_eq_true rfl) (Nat.le_of_ble_eq_true rfl) dX0_does_100
        · skip
          refine lv_iconst (v := (nI 1)) hx hb dX0_does_83 zk_1 ?_
          refine lv_goto (tgt := 88) hx hb dX0_does_84 (by decide) ?_
          refine lv_istore (lv' := [(7, .int (nI 1)), (6, .int (nI (50 * 10000 + ((2 * 20 + 9) * 10 + 4)))), (5, .int (nI (30 * 10000 + ((3 * 20 + 9) * 10 + 6)))), (4, .int (nI (40 * 10000 + ((1 * 20 + 9) * 10 + 5)))), (3, .ref oq), (0, .int (nI 2)), (1, .int (nI nn)), (2, .int (nI dd))]) hx hb dX0_does_88 hl (by decide) rfl (fun ls hl => ?_)
          refine lv_aload_n hx hb dX0_does_90 rfl (lv_at hl 4 rfl) ?_
          refine z_ci (z_runB (x := (⟨"NutCaches$Squirrel", "wants", "()I"⟩ : MethodName)) (owner := "NutCaches$Squirrel") (C := "NutCaches$Neat") (n := 0) (As := []) (rest := []) hC ⟨zn_X5_wants, q862, q866, ⟨by decide +kernel, by decide +kernel⟩, by decide +kernel⟩ (hC.hts _ q861) (hC.hts _ q863) (z_declO hC q862 q869) (m_X5_wants_2 G l kA (by first | assumption | (omega)) oq nn (nI 0) (zrem [0] _)) hw (hw.perm (z_cut (is := [0]) (cells := [(oq, zo 7 (sqF (nI 0) (nI nn)))]) rfl rfl)) 0 rfl rfl rfl rfl rfl (Nat.le_of_ble_eq_true rfl) hl.1 ⟨Nat.le_of_ble_eq_true rfl, Nat.le_of_ble_eq_true rfl⟩ ⟨(Nat.le_of_ble_eq_true rfl), (Nat.le_of_ble_eq_true rfl)⟩ dX0_does_91) hw (fun _ => z_keep (is := [0]) (cs := [(oq, zo 7 (sqF (nI 0) (nI nn)))]) rfl rfl) (fun r u H locs hp hw => ?_)
          obtain rfl : r = nI nn := hp
          refine lv_bipush (v := (nI 100)) hx hb dX0_does_94 zb_100 ?_
          refine lv_iload hx hb dX0_does_96 (lv_at hl 0 rfl) ?_
          refine zn_imul hx hb dX0_does_98 ?_
          refine zn_iadd hx hb dX0_does_99 ?_
          have hw := hw.drop
          exact hend _ _ _ _ _ _ _ () hw (by first | (exfalso; omega) | exact absurd trivial c_14 | (unfold dN; rw [ifP_f (fun q => c_14 (by have := q rfl; omega))]; done) | (unfold dN; rw [ifP_t (by first | (intro q; have := c_14; omega) | (intro q; exact absurd q (by decide)))]; first | rfl | (exact congrArg nI (show 1 + nn + 100 * 2 = nn + 1 + 100 * 2 by omega)))) (Nat.le_of_ble_eq_true rfl) (Nat.le_of_ble_eq_true rfl) dX0_does_100
      · skip
        refine lv_iload hx hb dX0_does_65 (lv_at hl 2 rfl) ?_
        refine lv_iload hx hb dX0_does_67 (lv_at hl 0 rfl) ?_
        refine zi_ge (tgt := 76) hx hb (by omega) (by omega) dX0_does_69 (by decide) (fun c_69 => ?_) (fun c_69 => ?_)
        · skip
          refine lv_iload hx hb dX0_does_76 (lv_at hl 1 rfl) ?_
          refine lv_iload hx hb dX0_does_78 (lv_at hl 0 rfl) ?_
          refine zi_ge (tgt := 87) hx hb (by omega) (by omega) dX0_does_80 (by decide) (fun c_80 => ?_) (fun c_80 => ?_)
          · skip
            refine lv_iconst (v := (nI 2)) hx hb dX0_does_87 zk_2 ?_
            refine lv_istore (lv' := [(7, .int (nI 2)), (6, .int (nI (50 * 10000 + ((2 * 20 + 9) * 10 + 4)))), (5, .int (nI (30 * 10000 + ((3 * 20 + 9) * 10 + 6)))), (4, .int (nI (40 * 10000 + ((1 * 20 + 9) * 10 + 5)))), (3, .ref oq), (0, .int (nI 2)), (1, .int (nI nn)), (2, .int (nI dd))]) hx hb dX0_does_88 hl (by decide) rfl (fun ls hl => ?_)
            refine lv_aload_n hx hb dX0_does_90 rfl (lv_at hl 4 rfl) ?_
            refine z_ci (z_runB (x := (⟨"NutCaches$Squirrel", "wants", "()I"⟩ : MethodName)) (owner := "NutCaches$Squirrel") (C := "NutCaches$Neat") (n := 0) (As := []) (rest := []) hC ⟨zn_X5_wants, q862, q866, ⟨by decide +kernel, by decide +kernel⟩, by decide +kernel⟩ (hC.hts _ q861) (hC.hts _ q863) (z_declO hC q862 q869) (m_X5_wants_2 G l kA (by first | assumption | (omega)) oq nn (nI 0) (zrem [0] _)) hw (hw.perm (z_cut (is := [0]) (cells := [(oq, zo 7 (sqF (nI 0) (nI nn)))]) rfl rfl)) 0 rfl rfl rfl rfl rfl (Nat.le_of_ble_eq_true rfl) hl.1 ⟨Nat.le_of_ble_eq_true rfl, Nat.le_of_ble_eq_true rfl⟩ ⟨(Nat.le_of_ble_eq_true rfl), (Nat.le_of_ble_eq_true rfl)⟩ dX0_does_91) hw (fun _ => z_keep (is := [0]) (cs := [(oq, zo 7 (sqF (nI 0) (nI nn)))]) rfl rfl) (fun r u H locs hp hw => ?_)
            obtain rfl : r = nI nn := hp
            refine lv_bipush (v := (nI 100)) hx hb dX0_does_94 zb_100 ?_
            refine lv_iload hx hb dX0_does_96 (lv_at hl 0 rfl) ?_
            refine zn_imul hx hb dX0_does_98 ?_
            refine zn_iadd hx hb dX0_does_99 ?_
            have hw := hw.drop
            exact hend _ _ _ _ _ _ _ () hw (by first | (exfalso; omega) | exact absurd trivial c_14 | (unfold dN; rw [ifP_f (fun q => c_14 (by have := q rfl; omega))]; done) | (unfold dN; rw [ifP_t (by first | (intro q; have := c_14; omega) | (intro q; exact absurd q (by decide)))]; first | rfl | (exact congrArg nI (show 1 + nn + 100 * 2 = nn + 1 + 100 * 2 by omega)))) (Nat.le_of_ble_eq_true rfl) (Nat.le_of_ble_eq_true rfl) dX0_does_100
          · skip
            refine lv_iconst (v := (nI 1)) hx hb dX0_does_83 zk_1 ?_
            refine lv_goto (tgt := 88) hx hb dX0_does_84 (by decide) ?_
            refine lv_istore (lv' := [(7, .int (nI 1)), (6, .int (nI (50 * 10000 + ((2 * 20 + 9) * 10 + 4)))), (5, .int (nI (30 * 10000 + ((3 * 20 + 9) * 10 + 6)))), (4, .int (nI (40 * 10000 + ((1 * 20 + 9) * 10 + 5)))), (3, .ref oq), (0, .int (nI 2)), (1, .int (nI nn)), (2, .int (nI dd))]) hx hb dX0_does_88 hl (by decide) rfl (fun ls hl => ?_)
            refine lv_aload_n hx hb dX0_does_90 rfl (lv_at hl 4 rfl) ?_
            refine z_ci (z_runB (x := (⟨"NutCaches$Squirrel", "wants", "()I"⟩ : MethodName)) (owner := "NutCaches$Squirrel") (C := "NutCaches$Neat") (n := 0) (As := []) (rest := []) hC ⟨zn_X5_wants, q862, q866, ⟨by decide +kernel, by decide +kernel⟩, by decide +kernel⟩ (hC.hts _ q861) (hC.hts _ q863) (z_declO hC q862 q869) (m_X5_wants_2 G l kA (by first | assumption | (omega)) oq nn (nI 0) (zrem [0] _)) hw (hw.perm (z_cut (is := [0]) (cells := [(oq, zo 7 (sqF (nI 0) (nI nn)))]) rfl rfl)) 0 rfl rfl rfl rfl rfl (Nat.le_of_ble_eq_true rfl) hl.1 ⟨Nat.le_of_ble_eq_true rfl, Nat.le_of_ble_eq_true rfl⟩ ⟨(Nat.le_of_ble_eq_true rfl), (Nat.le_of_ble_eq_true rfl)⟩ dX0_does_91) hw (fun _ => z_keep (is := [0]) (cs := [(oq, zo 7 (sqF (nI 0) (nI nn)))]) rfl rfl) (fun r u H locs hp hw => ?_)
            obtain rfl : r = nI nn := hp
            refine lv_bipush (v := (nI 100)) hx hb dX0_does_94 zb_100 ?_
            refine lv_iload hx hb dX0_does_96 (lv_at hl 0 rfl) ?_
            refine zn_imul hx hb dX0_does_98 ?_
            refine zn_iadd hx hb dX0_does_99 ?_
            have hw := hw.drop
            exact hend _ _ _ _ _ _ _ () hw (by first | (exfalso; omega) | exact absurd trivial c_14 | (unfold dN; rw [ifP_f (fun q => c_14 (by have := q rfl; omega))]; done) | (unfold dN; rw [ifP_t (by first | (intro q; have := c_14; omega) | (intro q; exact absurd q (by decide)))]; first | rfl | (exact congrArg nI (show 1 + nn + 100 * 2 = nn + 1 + 100 * 2 by omega)))) (Nat.le_of_ble_eq_true rfl) (Nat.le_of_ble_eq_true rfl) dX0_does_100
        · skip
          refine lv_iconst (v := (nI 0)) hx hb dX0_does_72 zk_0 ?_
          refine lv_goto (tgt := 88) hx hb dX0_does_73 (by decide) ?_
          refine lv_istore (lv' := [(7, .int (nI 0)), (6, .int (nI (50 * 10000 + ((2 * 20 + 9) * 10 + 4)))), (5, .int (nI (30 * 10000 + ((3 * 20 + 9) * 10 + 6)))), (4, .int (nI (40 * 10000 + ((1 * 20 + 9) * 10 + 5)))), (3, .ref oq), (0, .int (nI 2)), (1, .int (nI nn)), (2, .int (nI dd))]) hx hb dX0_does_88 hl (by decide) rfl (fun ls hl => ?_)
          refine lv_aload_n hx hb dX0_does_90 rfl (lv_at hl 4 rfl) ?_
          refine z_ci (z_runB (x := (⟨"NutCaches$Squirrel", "wants", "()I"⟩ : MethodName)) (owner := "NutCaches$Squirrel") (C := "NutCaches$Neat") (n := 0) (As := []) (rest := []) hC ⟨zn_X5_wants, q862, q866, ⟨by decide +kernel, by decide +kernel⟩, by decide +kernel⟩ (hC.hts _ q861) (hC.hts _ q863) (z_declO hC q862 q869) (m_X5_wants_2 G l kA (by first | assumption | (omega)) oq nn (nI 0) (zrem [0] _)) hw (hw.perm (z_cut (is := [0]) (cells := [(oq, zo 7 (sqF (nI 0) (nI nn)))]) rfl rfl)) 0 rfl rfl rfl rfl rfl (Nat.le_of_ble_eq_true rfl) hl.1 ⟨Nat.le_of_ble_eq_true rfl, Nat.le_of_ble_eq_true rfl⟩ ⟨(Nat.le_of_ble_eq_true rfl), (Nat.le_of_ble_eq_true rfl)⟩ dX0_does_91) hw (fun _ => z_keep (is := [0]) (cs := [(oq, zo 7 (sqF (nI 0) (nI nn)))]) rfl rfl) (fun r u H locs hp hw => ?_)
          obtain rfl : r = nI nn := hp
          refine lv_bipush (v := (nI 100)) hx hb dX0_does_94 zb_100 ?_
          refine lv_iload hx hb dX0_does_96 (lv_at hl 0 rfl) ?_
          refine zn_imul hx hb dX0_does_98 ?_
          refine zn_iadd hx hb dX0_does_99 ?_
          have hw := hw.drop
          exact hend _ _ _ _ _ _ _ () hw (by first | (exfalso; omega) | exact absurd trivial c_14 | (unfold dN; rw [ifP_f (fun q => c_14 (by have := q rfl; omega))]; done) | (unfold dN; rw [ifP_t (by first | (intro q; have := c_14; omega) | (intro q; exact absurd q (by decide)))]; first | rfl | (exact congrArg nI (show 1 + nn + 100 * 2 = nn + 1 + 100 * 2 by omega)))) (Nat.le_of_ble_eq_true rfl) (Nat.le_of_ble_eq_true rfl) dX0_does_100
    · skip
      refine lv_sipush (v := (nI 300)) hx hb dX0_does_17 zs_300 ?_
      have hw := hw.drop
      exact hend _ _ _ _ _ _ _ () hw (by first | (exfalso; omega) | exact absurd trivial c_14 | (unfold dN; rw [ifP_f (fun q => c_14 (by have := q rfl; omega))]; done) | (unfold dN; rw [ifP_t (by first | (intro q; have := c_14; omega) | (intro q; exact absurd q (by decide)))]; first | rfl | (exact congrArg nI (show 1 + nn + 100 * 2 = nn + 1 + 100 * 2 by omega)))) (Nat.le_of_ble_eq_true rfl) (Nat.le_of_ble_eq_true rfl) dX0_does_20
  · skip
    have hl : lv_has ls 8 [(3, .ref oq), (0, .int (nI 3)), (1, .int (nI nn)), (2, .int (nI dd))] := hl
    have hw : zS G ((oq, zo 8 (sqF (nI 0) (nI nn))) :: rest) s H locs := hw
    refine lv_aload_n hx hb dX0_does_7 rfl (lv_at hl 0 rfl) ?_
    refine lv_iconst (v := (nI 1)) hx hb dX0_does_8 zk_1 ?_
    refine lv_iload_n hx hb dX0_does_9 rfl (lv_at hl 3 rfl) ?_
    refine zn_iadd hx hb dX0_does_10 ?_
    refine z_ci (z_runB (x := (⟨"NutCaches$Squirrel", "wakes", "(I)Z"⟩ : MethodName)) (owner := "NutCaches$Habit") (C := "NutCaches$Dozy") (n := 1) (As := [.int (nI (1 + dd))]) (rest := []) hC ⟨zn_X9_wakes, q961, q960, ⟨by decide +kernel, by decide +kernel⟩, by decide +kernel⟩ (va_Nw.use rfl (hz.1 _ (cw_d 14 rfl rfl))) (va_Nw.use rfl (hz.1 _ (cw_d 10 rfl rfl))) (z_declO hC q963 q964) (m_X9_wakes_3 G l kA (by first | assumption | (omega)) oq (1 + dd) (nI 0) (nI nn) (by omega) (zrem [0] _)) hw (hw.perm (z_cut (is := [0]) (cells := [(oq, zo 8 (sqF (nI 0) (nI nn)))]) rfl rfl)) 0 rfl rfl rfl rfl rfl (Nat.le_of_ble_eq_true rfl) hl.1 ⟨Nat.le_of_ble_eq_true rfl, Nat.le_of_ble_eq_true rfl⟩ ⟨(Nat.le_of_ble_eq_true rfl), (Nat.le_of_ble_eq_true rfl)⟩ dX0_does_11) hw (fun _ => z_keep (is := [0]) (cs := [(oq, zo 8 (sqF (nI 0) (nI nn)))]) rfl rfl) (fun r u H locs hp hw => ?_)
    obtain rfl : r = bI ((1 + dd) % 2 = 0) := hp
    refine zb_ne (tgt := 21) hx hb dX0_does_14 (by decide) (fun c_14 => ?_) (fun c_14 => ?_)
    · skip
      refine lv_aload_n hx hb dX0_does_21 rfl (lv_at hl 0 rfl) ?_
      refine lv_iconst (v := (nI 1)) hx hb dX0_does_22 zk_1 ?_
      refine lv_bipush (v := (nI 9)) hx hb dX0_does_23 zb_9 ?_
      refine lv_bipush (v := (nI 40)) hx hb dX0_does_25 zb_40 ?_
      refine lv_iconst (v := (nI 5)) hx hb dX0_does_27 zk_5 ?_
      refine z_ci (z_runB (x := (⟨"NutCaches$Squirrel", "rank", "(IIII)I"⟩ : MethodName)) (owner := "NutCaches$Habit") (C := "NutCaches$Dozy") (n := 4) (As := [.int (nI 1), .int (nI 9), .int (nI 40), .int (nI 5)]) (rest := []) hC ⟨zn_X9_rank, q986, q985, ⟨by decide +kernel, by decide +kernel⟩, by decide +kernel⟩ (va_Nw.use rfl (hz.1 _ (cw_d 17 rfl rfl))) (va_Nw.use rfl (hz.1 _ (cw_d 13 rfl rfl))) (va_Decl.abs (hz.1 _ (cw_t q984 rfl))) (m_X9_rank G l oq 1 9 40 5 _) hw hw 0 rfl rfl rfl rfl rfl (Nat.le_of_ble_eq_true rfl) hl.1 ⟨Nat.le_of_ble_eq_true rfl, Nat.le_of_ble_eq_true rfl⟩ ⟨(Nat.le_of_ble_eq_true rfl), (Nat.le_of_ble_eq_true rfl)⟩ dX0_does_28) hw (fun _ => List.Perm.refl _) (fun r u H locs hp hw => ?_)
      obtain rfl : r = nI 5 := hp
      refine lv_istore (lv' := [(4, .int (nI 5)), (3, .ref oq), (0, .int (nI 3)), (1, .int (nI nn)), (2, .int (nI dd))]) hx hb dX0_does_31 hl (by decide) rfl (fun ls hl => ?_)
      refine lv_aload_n hx hb dX0_does_33 rfl (lv_at hl 1 rfl) ?_
      refine lv_iconst (v := (nI 3)) hx hb dX0_does_34 zk_3 ?_
      refine lv_bipush (v := (nI 9)) hx hb dX0_does_35 zb_9 ?_
      refine lv_bipush (v := (nI 30)) hx hb dX0_does_37 zb_30 ?_
      refine lv_bipush (v := (nI 6)) hx hb dX0_does_39 zb_6 ?_
      refine z_ci (z_runB (x := (⟨"NutCaches$Squirrel", "rank", "(IIII)I"⟩ : MethodName)) (owner := "NutCaches$Habit") (C := "NutCaches$Dozy") (n := 4) (As := [.int (nI 3), .int (nI 9), .int (nI 30), .int (nI 6)]) (rest := []) hC ⟨zn_X9_rank, q986, q985, ⟨by decide +kernel, by decide +kernel⟩, by decide +kernel⟩ (va_Nw.use rfl (hz.1 _ (cw_d 17 rfl rfl))) (va_Nw.use rfl (hz.1 _ (cw_d 13 rfl rfl))) (va_Decl.abs (hz.1 _ (cw_t q984 rfl))) (m_X9_rank G l oq 3 9 30 6 _) hw hw 0 rfl rfl rfl rfl rfl (Nat.le_of_ble_eq_true rfl) hl.1 ⟨Nat.le_of_ble_eq_true rfl, Nat.le_of_ble_eq_true rfl⟩ ⟨(Nat.le_of_ble_eq_true rfl), (Nat.le_of_ble_eq_true rfl)⟩ dX0_does_41) hw (fun _ => List.Perm.refl _) (fun r u H locs hp hw => ?_)
      obtain rfl : r = nI 6 := hp
      refine lv_istore (lv' := [(5, .int (nI 6)), (4, .int (nI 5)), (3, .ref oq), (0, .int (nI 3)), (1, .int (nI nn)), (2, .int (nI dd))]) hx hb dX0_does_44 hl (by decide) rfl (fun ls hl => ?_)
      refine lv_aload_n hx hb dX0_does_46 rfl (lv_at hl 2 rfl) ?_
      refine lv_iconst (v := (nI 2)) hx hb dX0_does_47 zk_2 ?_
      refine lv_bipush (v := (nI 9)) hx hb dX0_does_48 zb_9 ?_
      refine lv_bipush (v := (nI 50)) hx hb dX0_does_50 zb_50 ?_
      refine lv_iconst (v := (nI 4)) hx hb dX0_does_52 zk_4 ?_
      refine z_ci (z_runB (x := (⟨"NutCaches$Squirrel", "rank", "(IIII)I"⟩ : MethodName)) (owner := "NutCaches$Habit") (C := "NutCaches$Dozy") (n := 4) (As := [.int (nI 2), .int (nI 9), .int (nI 50), .int (nI 4)]) (rest := []) hC ⟨zn_X9_rank, q986, q985, ⟨by decide +kernel, by decide +kernel⟩, by decide +kernel⟩ (va_Nw.use rfl (hz.1 _ (cw_d 17 rfl rfl))) (va_Nw.use rfl (hz.1 _ (cw_d 13 rfl rfl))) (va_Decl.abs (hz.1 _ (cw_t q984 rfl))) (m_X9_rank G l oq 2 9 50 4 _) hw hw 0 rfl rfl rfl rfl rfl (Nat.le_of_ble_eq_true rfl) hl.1 ⟨Nat.le_of_ble_eq_true rfl, Nat.le_of_ble_eq_true rfl⟩ ⟨(Nat.le_of_ble_eq_true rfl), (Nat.le_of_ble_eq_true rfl)⟩ dX0_does_53) hw (fun _ => List.Perm.refl _) (fun r u H locs hp hw => ?_)
      obtain rfl : r = nI 4 := hp
      refine lv_istore (lv' := [(6, .int (nI 4)), (5, .int (nI 6)), (4, .int (nI 5)), (3, .ref oq), (0, .int (nI 3)), (1, .int (nI nn)), (2, .int (nI dd))]) hx hb dX0_does_56 hl (by decide) rfl (fun ls hl => ?_)
      refine lv_iload hx hb dX0_does_58 (lv_at hl 2 rfl) ?_
      refine lv_iload hx hb dX0_does_60 (lv_at hl 1 rfl) ?_
      refine zi_ge (tgt := 76) hx hb (by decide) (by decide) dX0_does_62 (by decide) (fun h => absurd h (by decide)) (fun _ => ?_)
      refine lv_iload hx hb dX0_does_65 (lv_at hl 2 rfl) ?_
      refine lv_iload hx hb dX0_does_67 (lv_at hl 0 rfl) ?_
      refine zi_ge (tgt := 76) hx hb (by decide) (by decide) dX0_does_69 (by decide) (fun _ => ?_) (fun h => absurd h (by decide))
      refine lv_iload hx hb dX0_does_76 (lv_at hl 1 rfl) ?_
      refine lv_iload hx hb dX0_does_78 (lv_at hl 0 rfl) ?_
      refine zi_ge (tgt := 87) hx hb (by decide) (by decide) dX0_does_80 (by decide) (fun _ => ?_) (fun h => absurd h (by decide))
      refine lv_iconst (v := (nI 2)) hx hb dX0_does_87 zk_2 ?_
      refine lv_istore (lv' := [(7, .int (nI 2)), (6, .int (nI 4)), (5, .int (nI 6)), (4, .int (nI 5)), (3, .ref oq), (0, .int (nI 3)), (1, .int (nI nn)), (2, .int (nI dd))]) hx hb dX0_does_88 hl (by decide) rfl (fun ls hl => ?_)
      refine lv_aload_n hx hb dX0_does_90 rfl (lv_at hl 4 rfl) ?_
      refine z_ci (z_runB (x := (⟨"NutCaches$Squirrel", "wants", "()I"⟩ : MethodName)) (owner := "NutCaches$Squirrel") (C := "NutCaches$Dozy") (n := 0) (As := []) (rest := []) hC ⟨zn_X5_wants, q862, q864, ⟨by decide +kernel, by decide +kernel⟩, by decide +kernel⟩ (hC.hts _ q861) (hC.hts _ q863) (z_declO hC q862 q869) (m_X5_wants_3 G l kA (by first | assumption | (omega)) oq nn (nI 0) (zrem [0] _)) hw (hw.perm (z_cut (is := [0]) (cells := [(oq, zo 8 (sqF (nI 0) (nI nn)))]) rfl rfl)) 0 rfl rfl rfl rfl rfl (Nat.le_of_ble_eq_true rfl) hl.1 ⟨Nat.le_of_ble_eq_true rfl, Nat.le_of_ble_eq_true rfl⟩ ⟨(Nat.le_of_ble_eq_true rfl), (Nat.le_of_ble_eq_true rfl)⟩ dX0_does_91) hw (fun _ => z_keep (is := [0]) (cs := [(oq, zo 8 (sqF (nI 0) (nI nn)))]) rfl rfl) (fun r u H locs hp hw => ?_)
      obtain rfl : r = nI (1 + nn) := hp
      refine lv_bipush (v := (nI 100)) hx hb dX0_does_94 zb_100 ?_
      refine lv_iload hx hb dX0_does_96 (lv_at hl 0 rfl) ?_
      refine zn_imul hx hb dX0_does_98 ?_
      refine zn_iadd hx hb dX0_does_99 ?_
      have hw := hw.drop
      exact hend _ _ _ _ _ _ _ () hw (by first | (exfalso; omega) | exact absurd trivial c_14 | (unfold dN; rw [ifP_f (fun q => c_14 (by have := q rfl; omega))]; done) | (unfold dN; rw [ifP_t (by first | (intro q; have := c_14; omega) | (intro q; exact absurd q (by decide)))]; first | rfl | (exact congrArg nI (show 1 + nn + 100 * 2 = nn + 1 + 100 * 2 by omega)))) (Nat.le_of_ble_eq_true rfl) (Nat.le_of_ble_eq_true rfl) dX0_does_100
    · skip
      refine lv_sipush (v := (nI 300)) hx hb dX0_does_17 zs_300 ?_
      have hw := hw.drop
      exact hend _ _ _ _ _ _ _ () hw (by first | (exfalso; omega) | exact absurd trivial c_14 | (unfold dN; rw [ifP_f (fun q => c_14 (by have := q rfl; omega))]; done) | (unfold dN; rw [ifP_t (by first | (intro q; have := c_14; omega) | (intro q; exact absurd q (by decide)))]; first | rfl | (exact congrArg nI (show 1 + nn + 100 * 2 = nn + 1 + 100 * 2 by omega)))) (Nat.le_of_ble_eq_true rfl) (Nat.le_of_ble_eq_true rfl) dX0_does_20
  · skip
    have hl : lv_has ls 8 [(3, .ref oq), (0, .int (nI 4)), (1, .int (nI nn)), (2, .int (nI dd))] := hl
    have hw : zS G ((oq, zo 9 (sqF (nI 0) (nI nn))) :: rest) s H locs := hw
    refine lv_aload_n hx hb dX0_does_7 rfl (lv_at hl 0 rfl) ?_
    refine lv_iconst (v := (nI 1)) hx hb dX0_does_8 zk_1 ?_
    refine lv_iload_n hx hb dX0_does_9 rfl (lv_at hl 3 rfl) ?_
    refine zn_iadd hx hb dX0_does_10 ?_
    refine z_ci (z_runB (x := (⟨"NutCaches$Squirrel", "wakes", "(I)Z"⟩ : MethodName)) (owner := "NutCaches$Habit") (C := "NutCaches$Spy") (n := 1) (As := [.int (nI (1 + dd))]) (rest := []) hC ⟨zn_X10_wakes, q969, q968, ⟨by decide +kernel, by decide +kernel⟩, by decide +kernel⟩ (va_Nw.use rfl (hz.1 _ (cw_d 14 rfl rfl))) (va_Nw.use rfl (hz.1 _ (cw_d 10 rfl rfl))) (z_declO hC q963 q964) (m_X10_wakes G l kA (by first | assumption | (omega)) oq (1 + dd) (nI 0) (nI nn) (by omega) (zrem [0] _)) hw (hw.perm (z_cut (is := [0]) (cells := [(oq, zo 9 (sqF (nI 0) (nI nn)))]) rfl rfl)) 0 rfl rfl rfl rfl rfl (Nat.le_of_ble_eq_true rfl) hl.1 ⟨Nat.le_of_ble_eq_true rfl, Nat.le_of_ble_eq_true rfl⟩ ⟨(Nat.le_of_ble_eq_true rfl), (Nat.le_of_ble_eq_true rfl)⟩ dX0_does_11) hw (fun _ => z_keep (is := [0]) (cs := [(oq, zo 9 (sqF (nI 0) (nI nn)))]) rfl rfl) (fun r u H locs hp hw => ?_)
    obtain rfl : r = bI True := hp
    refine zb_ne (tgt := 21) hx hb dX0_does_14 (by decide) (fun c_14 => ?_) (fun c_14 => ?_)
    · skip
      refine lv_aload_n hx hb dX0_does_21 rfl (lv_at hl 0 rfl) ?_
      refine lv_iconst (v := (nI 1)) hx hb dX0_does_22 zk_1 ?_
      refine lv_bipush (v := (nI 9)) hx hb dX0_does_23 zb_9 ?_
      refine lv_bipush (v := (nI 40)) hx hb dX0_does_25 zb_40 ?_
      refine lv_iconst (v := (nI 5)) hx hb dX0_does_27 zk_5 ?_
      refine z_ci (z_runB (x := (⟨"NutCaches$Squirrel", "rank", "(IIII)I"⟩ : MethodName)) (owner := "NutCaches$Habit") (C := "NutCaches$Spy") (n := 4) (As := [.int (nI 1), .int (nI 9), .int (nI 40), .int (nI 5)]) (rest := []) hC ⟨zn_X9_rank, q986, q996, ⟨by decide +kernel, by decide +kernel⟩, by decide +kernel⟩ (va_Nw.use rfl (hz.1 _ (cw_d 17 rfl rfl))) (va_Nw.use rfl (hz.1 _ (cw_d 13 rfl rfl))) (va_Decl.abs (hz.1 _ (cw_t q984 rfl))) (m_X9_rank G l oq 1 9 40 5 _) hw hw 0 rfl rfl rfl rfl rfl (Nat.le_of_ble_eq_true rfl) hl.1 ⟨Nat.le_of_ble_eq_true rfl, Nat.le_of_ble_eq_true rfl⟩ ⟨(Nat.le_of_ble_eq_true rfl), (Nat.le_of_ble_eq_true rfl)⟩ dX0_does_28) hw (fun _ => List.Perm.refl _) (fun r u H locs hp hw => ?_)
      obtain rfl : r = nI 5 := hp
      refine lv_istore (lv' := [(4, .int (nI 5)), (3, .ref oq), (0, .int (nI 4)), (1, .int (nI nn)), (2, .int (nI dd))]) hx hb dX0_does_31 hl (by decide) rfl (fun ls hl => ?_)
      refine lv_aload_n hx hb dX0_does_33 rfl (lv_at hl 1 rfl) ?_
      refine lv_iconst (v := (nI 3)) hx hb dX0_does_34 zk_3 ?_
      refine lv_bipush (v := (nI 9)) hx hb dX0_does_35 zb_9 ?_
      refine lv_bipush (v := (nI 30)) hx hb dX0_does_37 zb_30 ?_
      refine lv_bipush (v := (nI 6)) hx hb dX0_does_39 zb_6 ?_
      refine z_ci (z_runB (x := (⟨"NutCaches$Squirrel", "rank", "(IIII)I"⟩ : MethodName)) (owner := "NutCaches$Habit") (C := "NutCaches$Spy") (n := 4) (As := [.int (nI 3), .int (nI 9), .int (nI 30), .int (nI 6)]) (rest := []) hC ⟨zn_X9_rank, q986, q996, ⟨by decide +kernel, by decide +kernel⟩, by decide +kernel⟩ (va_Nw.use rfl (hz.1 _ (cw_d 17 rfl rfl))) (va_Nw.use rfl (hz.1 _ (cw_d 13 rfl rfl))) (va_Decl.abs (hz.1 _ (cw_t q984 rfl))) (m_X9_rank G l oq 3 9 30 6 _) hw hw 0 rfl rfl rfl rfl rfl (Nat.le_of_ble_eq_true rfl) hl.1 ⟨Nat.le_of_ble_eq_true rfl, Nat.le_of_ble_eq_true rfl⟩ ⟨(Nat.le_of_ble_eq_true rfl), (Nat.le_of_ble_eq_true rfl)⟩ dX0_does_41) hw (fun _ => List.Perm.refl _) (fun r u H locs hp hw => ?_)
      obtain rfl : r = nI 6 := hp
      refine lv_istore (lv' := [(5, .int (nI 6)), (4, .int (nI 5)), (3, .ref oq), (0, .int (nI 4)), (1, .int (nI nn)), (2, .int (nI dd))]) hx hb dX0_does_44 hl (by decide) rfl (fun ls hl => ?_)
      refine lv_aload_n hx hb dX0_does_46 rfl (lv_at hl 2 rfl) ?_
      refine lv_iconst (v := (nI 2)) hx hb dX0_does_47 zk_2 ?_
      refine lv_bipush (v := (nI 9)) hx hb dX0_does_48 zb_9 ?_
      refine lv_bipush (v := (nI 50)) hx hb dX0_does_50 zb_50 ?_
      refine lv_iconst (v := (nI 4)) hx hb dX0_does_52 zk_4 ?_
      refine z_ci (z_runB (x := (⟨"NutCaches$Squirrel", "rank", "(IIII)I"⟩ : MethodName)) (owner := "NutCaches$Habit") (C := "NutCaches$Spy") (n := 4) (As := [.int (nI 2), .int (nI 9), .int (nI 50), .int (nI 4)]) (rest := []) hC ⟨zn_X9_rank, q986, q996, ⟨by decide +kernel, by decide +kernel⟩, by decide +kernel⟩ (va_Nw.use rfl (hz.1 _ (cw_d 17 rfl rfl))) (va_Nw.use rfl (hz.1 _ (cw_d 13 rfl rfl))) (va_Decl.abs (hz.1 _ (cw_t q984 rfl))) (m_X9_rank G l oq 2 9 50 4 _) hw hw 0 rfl rfl rfl rfl rfl (Nat.le_of_ble_eq_true rfl) hl.1 ⟨Nat.le_of_ble_eq_true rfl, Nat.le_of_ble_eq_true rfl⟩ ⟨(Nat.le_of_ble_eq_true rfl), (Nat.le_of_ble_eq_true rfl)⟩ dX0_does_53) hw (fun _ => List.Perm.refl _) (fun r u H locs hp hw => ?_)
      obtain rfl : r = nI 4 := hp
      refine lv_istore (lv' := [(6, .int (nI 4)), (5, .int (nI 6)), (4, .int (nI 5)), (3, .ref oq), (0, .int (nI 4)), (1, .int (nI nn)), (2, .int (nI dd))]) hx hb dX0_does_56 hl (by decide) rfl (fun ls hl => ?_)
      refine lv_iload hx hb dX0_does_58 (lv_at hl 2 rfl) ?_
      refine lv_iload hx hb dX0_does_60 (lv_at hl 1 rfl) ?_
      refine zi_ge (tgt := 76) hx hb (by decide) (by decide) dX0_does_62 (by decide) (fun h => absurd h (by decide)) (fun _ => ?_)
      refine lv_iload hx hb dX0_does_65 (lv_at hl 2 rfl) ?_
      refine lv_iload hx hb dX0_does_67 (lv_at hl 0 rfl) ?_
      refine zi_ge (tgt := 76) hx hb (by decide) (by decide) dX0_does_69 (by decide) (fun _ => ?_) (fun h => absurd h (by decide))
      refine lv_iload hx hb dX0_does_76 (lv_at hl 1 rfl) ?_
      refine lv_iload hx hb dX0_does_78 (lv_at hl 0 rfl) ?_
      refine zi_ge (tgt := 87) hx hb (by decide) (by decide) dX0_does_80 (by decide) (fun _ => ?_) (fun h => absurd h (by decide))
      refine lv_iconst (v := (nI 2)) hx hb dX0_does_87 zk_2 ?_
      refine lv_istore (lv' := [(7, .int (nI 2)), (6, .int (nI 4)), (5, .int (nI 6)), (4, .int (nI 5)), (3, .ref oq), (0, .int (nI 4)), (1, .int (nI nn)), (2, .int (nI dd))]) hx hb dX0_does_88 hl (by decide) rfl (fun ls hl => ?_)
      refine lv_aload_n hx hb dX0_does_90 rfl (lv_at hl 4 rfl) ?_
      refine z_ci (z_runB (x := (⟨"NutCaches$Squirrel", "wants", "()I"⟩ : MethodName)) (owner := "NutCaches$Squirrel") (C := "NutCaches$Spy") (n := 0) (As := []) (rest := []) hC ⟨zn_X5_wants, q862, q868, ⟨by decide +kernel, by decide +kernel⟩, by decide +kernel⟩ (hC.hts _ q861) (hC.hts _ q863) (z_declO hC q862 q869) (m_X5_wants_4 G l kA (by first | assumption | (omega)) oq nn (nI 0) (zrem [0] _)) hw (hw.perm (z_cut (is := [0]) (cells := [(oq, zo 9 (sqF (nI 0) (nI nn)))]) rfl rfl)) 0 rfl rfl rfl rfl rfl (Nat.le_of_ble_eq_true rfl) hl.1 ⟨Nat.le_of_ble_eq_true rfl, Nat.le_of_ble_eq_true rfl⟩ ⟨(Nat.le_of_ble_eq_true rfl), (Nat.le_of_ble_eq_true rfl)⟩ dX0_does_91) hw (fun _ => z_keep (is := [0]) (cs := [(oq, zo 9 (sqF (nI 0) (nI nn)))]) rfl rfl) (fun r u H locs hp hw => ?_)
      obtain rfl : r = nI (1 + nn) := hp
      refine lv_bipush (v := (nI 100)) hx hb dX0_does_94 zb_100 ?_
      refine lv_iload hx hb dX0_does_96 (lv_at hl 0 rfl) ?_
      refine zn_imul hx hb dX0_does_98 ?_
      refine zn_iadd hx hb dX0_does_99 ?_
      have hw := hw.drop
      exact hend _ _ _ _ _ _ _ () hw (by first | (exfalso; omega) | exact absurd trivial c_14 | (unfold dN; rw [ifP_f (fun q => c_14 (by have := q rfl; omega))]; done) | (unfold dN; rw [ifP_t (by first | (intro q; have := c_14; omega) | (intro q; exact absurd q (by decide)))]; first | rfl | (exact congrArg nI (show 1 + nn + 100 * 2 = nn + 1 + 100 * 2 by omega)))) (Nat.le_of_ble_eq_true rfl) (Nat.le_of_ble_eq_true rfl) dX0_does_100
    · skip
      refine lv_sipush (v := (nI 300)) hx hb dX0_does_17 zs_300 ?_
      have hw := hw.drop
      exact hend _ _ _ _ _ _ _ () hw (by first | (exfalso; omega) | exact absurd trivial c_14 | (unfold dN; rw [ifP_f (fun q => c_14 (by have := q rfl; omega))]; done) | (unfold dN; rw [ifP_t (by first | (intro q; have := c_14; omega) | (intro q; exact absurd q (by decide)))]; first | rfl | (exact congrArg nI (show 1 + nn + 100 * 2 = nn + 1 + 100 * 2 by omega)))) (Nat.le_of_ble_eq_true rfl) (Nat.le_of_ble_eq_true rfl) dX0_does_20
set_option maxHeartbeats 4000000 in
theorem m_X0_nutsOfAll (G : zE) (l : Launch) (co : Nat) (w : Nat → Nat) (zn : Nat → Nat) (v : Nat → Nat) (pl : Nat → Nat) (nu : Nat → Nat) (ax : Nat → Nat) (le : Nat → Nat) (kn : Nat → Nat) (mn : Int32) (bm : Int32) (sm : Int32) (lt : Int32) (dy : Int32) (gg : Int32) (ps : Nat) (hH : Hw v) (hps : ps = v 0) (hR : sRel v pl nu ax le kn) (rest : va_W) : zMi G l yX0_nutsOfAll cX0_nutsOfAll 3 (some .int) 0 0 0 [.ref co] ((co, zo 0 (cF w mn bm sm lt)) :: (w 2, zo 1 (stF zn co (nI ps) dy gg)) :: (zn 1, zc G 1 (zI 9 (vI nu))) :: rest) (fun (r : Int32) (_ : Unit) => r = nI (nutsTo v (v 0))) (fun (_ : Unit) => (co, zo 0 (cF w mn bm sm lt)) :: (w 2, zo 1 (stF zn co (nI ps) dy gg)) :: (zn 1, zc G 1 (zI 9 (vI nu))) :: rest) := by
  refine z_begI (by decide) (Nat.le_of_ble_eq_true rfl) (fun p e s m args below meth c ls Q hC hl hw hend => ?_)
  have hx := hC.hx
  have hb := hC.hb
  have hl : lv_has ls 3 [(0, .ref co)] := hl
  have hw : zS G ((co, zo 0 (cF w mn bm sm lt)) :: (w 2, zo 1 (stF zn co (nI ps) dy gg)) :: (zn 1, zc G 1 (zI 9 (vI nu))) :: rest) s s.heap [] := hw
  have h9 := hH.1
  have hnu := fun j => (hR.2.2.2 j).2.1
  refine lv_iconst (v := (nI 0)) hx hb dX0_nutsOfAll_0 zk_0 ?_
  refine lv_istore_n (lv' := [(1, .int (nI 0)), (0, .ref co)]) hx hb dX0_nutsOfAll_1 rfl hl (by decide) rfl (fun ls hl => ?_)
  refine lv_iconst (v := (nI 0)) hx hb dX0_nutsOfAll_2 zk_0 ?_
  refine lv_istore_n (lv' := [(2, .int (nI 0)), (1, .int (nI 0)), (0, .ref co)]) hx hb dX0_nutsOfAll_3 rfl hl (by decide) rfl (fun ls hl => ?_)
  have loop_4 : ∀ (fuel : Nat) (t : Nat), (t ≤ ps) → (ps - t) < fuel → ∀ (H : Heap) (locs : List Loc) (ls : Array Slot), zS G ((co, zo 0 (cF w mn bm sm lt)) :: (w 2, zo 1 (stF zn co (nI ps) dy gg)) :: (zn 1, zc G 1 (zI 9 (vI nu))) :: rest) s H locs → lv_has ls 3 [(0, .ref co), (1, .int (nI (nutsTo v t))), (2, .int (nI t))] → W p l e (zR 0 0 0) s m args below meth c H locs 0 0 Q (F0 m 4 ls []) := by
    intro fuel
    induction fuel with
    | zero => intro t ht hfuel; exact absurd hfuel (Nat.not_lt_zero _)
    | succ fuel_4 ih_4 =>
      intro t ht hfuel_4 H locs ls hw hl
      refine lv_iload_n hx hb dX0_nutsOfAll_4 rfl (lv_at hl 2 rfl) ?_
      refine lv_aload_n hx hb dX0_nutsOfAll_5 rfl (lv_at hl 0 rfl) ?_
      refine z_get (v := .ref (w 2)) hC zf_X0_27_0 hw 0 rfl rfl dX0_nutsOfAll_6 ?_
      refine z_get (v := .int (nI ps)) hC zf_X0_76_1 hw 1 rfl rfl dX0_nutsOfAll_9 ?_
      refine zi_ge (tgt := 33) hx hb (by omega) (by omega) dX0_nutsOfAll_12 (by decide) (fun c_12 => ?_) (fun c_12 => ?_)
      · skip
        refine lv_iload_n hx hb dX0_nutsOfAll_33 rfl (lv_at hl 1 rfl) ?_
        exact hend _ _ _ _ _ _ _ () hw (by rw [show t = v 0 by omega]) (Nat.le_of_ble_eq_true rfl) (Nat.le_of_ble_eq_true rfl) dX0_nutsOfAll_34
      · skip
        refine lv_iload_n hx hb dX0_nutsOfAll_15 rfl (lv_at hl 1 rfl) ?_
        refine lv_aload_n hx hb dX0_nutsOfAll_16 rfl (lv_at hl 0 rfl) ?_
        refine z_get (v := .ref (w 2)) hC zf_X0_27_0 hw 0 rfl rfl dX0_nutsOfAll_17 ?_
        refine z_get (v := .ref (zn 1)) hC zf_X0_90_1 hw 1 rfl rfl dX0_nutsOfAll_20 ?_
        refine lv_iload_n hx hb dX0_nutsOfAll_23 rfl (lv_at hl 2 rfl) ?_
        refine z_bald (x := (nI (nu t))) hC hw 2 rfl (by omega) (by decide) rfl dX0_nutsOfAll_24 ?_
        refine zv_iadd (v := (nI (nutsTo v (t + 1)))) hx hb (by rw [nI_add, (hR.1 t (by omega)).2]; rfl) dX0_nutsOfAll_25 ?_
        refine lv_istore_n (lv' := [(1, .int (nI (nutsTo v (t + 1)))), (0, .ref co), (2, .int (nI t))]) hx hb dX0_nutsOfAll_26 rfl hl (by decide) rfl (fun ls hl => ?_)
        refine lv_iinc (v := (nI (t + 1))) (lv' := [(2, .int (nI (t + 1))), (1, .int (nI (nutsTo v (t + 1)))), (0, .ref co)]) hx hb dX0_nutsOfAll_27 hl (k := 2) rfl (zincn _ 1) (by decide) rfl (fun ls hl => ?_)
        refine lv_goto (tgt := 4) hx hb dX0_nutsOfAll_30 (by decide) ?_
        exact ih_4 (t + 1) (by omega) (by omega) H locs ls hw (lv_sub hl [2, 1, 0] rfl)
  exact loop_4 ((ps - 0) + 1) 0 (by omega) (Nat.lt_succ_self _) s.heap [] ls hw (lv_sub hl [2, 1, 0] rfl)
