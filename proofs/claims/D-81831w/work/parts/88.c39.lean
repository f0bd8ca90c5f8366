/-! STRINGS: the heads; numbers -/
set_option maxRecDepth 100000
section ZBK
variable {p : Program} {l : Launch} {e : Env} {R : Room} {s : State} {m : MethodId} {args : Array Value} {below : List Frame} {meth : Method} {c : Code} {H : Heap} {locs : List Loc} {cells slots : Nat} {Q : State → Prop}
variable {cc : ByteArray} {pc : Nat} {ls : Array Slot} {rest st0 : List Value} {G : zE} {ws wc : va_W} {own : String} {nL : Nat} {x y : MethodName} {bytes : ByteArray} {maxL : Nat} {ret : Option FieldType} {index b n : Nat} {As : List Value} {k mc ms : Nat} {Qc : Array Value → State → Outcome → State → Prop}
theorem z_runBK {owner C : String} (hC : zCx G own cc nL p s m args meth c) (hv : zNs y bytes maxL ret n ∧ Cond.instanceMethod y ∈ lw_all ∧ Cond.selects C ⟨owner, x.name, x.desc⟩ y ∈ lw_all ∧ (owner ≠ "java/lang/invoke/MethodHandle" ∧ owner ≠ "java/lang/invoke/VarHandle") ∧ (parseMethodDescriptor x.desc).map (fun d => d.parameters.length) = some n)
    (h1 : (Cond.methodLink own index x).before args s = true) (h2 : (Cond.sameMethod x.cls owner x.name x.desc).before args s = true) (hd : va_Decl s ⟨owner, x.name, x.desc⟩) (hM : Met l y (ws_ y bytes maxL ret) (zR k mc ms) (va_Pc (.ref b :: As) (zU G wc)) Qc mc ms (zA G)) (hr : ∃ cell : Cell, H[b]? = some cell ∧ cell.vm.isStatics = false ∧ s.vm.findClass C = some cell.cls) (hwc : zS G wc s H locs) (hlen : As.length = n) (hst : st0 = As.reverse ++ .ref b :: rest) (hcat : (rest.map fun v => v.category).sum ≤ 8) (hls : ls.size = nL)
    (hR : k + 1 ≤ R.frames ∧ 8 + (maxL + 11) + 40 * k ≤ R.locals) (hf : cells + mc ≤ R.cells ∧ slots + ms ≤ R.slots) (hdg : decode cc pc = .ok (.invokevirtual index, 3)) :
    va_Run p l e R s m args below meth c H locs cells slots mc ms (F0 m pc ls st0) rest (Qc (Value.ref b :: As).toArray) (zA G) := by
  subst hst
  obtain ⟨⟨c1, c2, c3, c4⟩, c5, c6, c7, c8⟩ := hv
  exact va_runU (C := C) (owner := owner) (x := x) (As := As) (rest := rest) hC.fix hM ⟨⟨rfl, rfl, hR.1, hR.2, pay_in hC.hts (lw_meth c1), List.mem_cons_self⟩, hC.hts _ c1, hC.hts _ c2, c7, fun sig h => hlen ▸ z_len c8 hlen sig h, h1, h2, hd, sel_up h2 c7 (hC.hts _ c6), hC.hts _ c5⟩ ⟨zU_blind, hr, fun U hU hW => ⟨rfl, zU_of hwc hC.hK hC.hN hU hW⟩⟩ rfl hlen hls rfl (lv_room hcat) hdg hf
theorem zv_idiv {x9 y9 v : Int32} (hx : p.tables.exec = Jvm.exec) (hb : c.code = cc) (hv : ¬ y9 = 0 ∧ x9 / y9 = v) (hdg : decode cc pc = .ok (.idiv, 1)) (kk : W p l e R s m args below meth c H locs cells slots Q (F0 m (pc + 1) ls (.int v :: rest))) : W p l e R s m args below meth c H locs cells slots Q (F0 m pc ls (.int y9 :: .int x9 :: rest)) :=
  lv_idiv hx hb hdg hv.1 (by rw [hv.2]; exact kk)
end ZBK
theorem ush8 : ∀ j, j < 10 → ushI (nI (48 + j)) (nI 8) = 0 := by decide +kernel
theorem pi_mul {a : Nat} (h : a < 10) : ¬ (nI 0 - nI a < -214748364) := by
  have k : ∀ a : Fin 10, ¬ (nI 0 - nI a.1 < -214748364) := by decide +kernel
  exact k ⟨a, h⟩
theorem pi_lim {a : Nat} (h : a < 10) : ¬ (nI 0 < -2147483647 + nI a) := by
  have k : ∀ a : Fin 10, ¬ (nI 0 < -2147483647 + nI a.1) := by decide +kernel
  exact k ⟨a, h⟩
theorem pi_lim2 {a b : Nat} (h : a < 10) (h2 : b < 10) : ¬ ((nI 0 - nI a) * nI 10 < -2147483647 + nI b) := by
  have k : ∀ a b : Fin 10, ¬ ((nI 0 - nI a.1) * nI 10 < -2147483647 + nI b.1) := by decide +kernel
  exact k ⟨a, h⟩ ⟨b, h2⟩
theorem pi_neg {a : Nat} (h : a < 10) : -(nI 0 - nI a) = nI a := by
  have k : ∀ a : Fin 10, -(nI 0 - nI a.1) = nI a.1 := by decide +kernel
  exact k ⟨a, h⟩
theorem pi_neg2 {a b : Nat} (h : a < 10) (h2 : b < 10) : -((nI 0 - nI a) * nI 10 - nI b) = nI (10 * a + b) := by
  have k : ∀ a b : Fin 10, -((nI 0 - nI a.1) * nI 10 - nI b.1) = nI (10 * a.1 + b.1) := by decide +kernel
  exact k ⟨a, h⟩ ⟨b, h2⟩
set_option maxHeartbeats 4000000 in
theorem m_J12_requireNonNull (G : zE) (l : Launch) (a9 : Nat) (rest : va_W) : zMq G l yJ12_requireNonNull cJ12_requireNonNull 1 (some (.object "java/lang/Object")) 0 0 0 [.ref a9] (rest) (fun (r : Option Nat) (_ : Unit) => r = some a9) (fun (_ : Unit) => rest) := by
  refine z_begQ (by first | exact Or.inl ⟨_, rfl⟩ | exact Or.inr ⟨_, rfl⟩) (by decide) (Nat.le_of_ble_eq_true rfl) (fun p e s m args below meth c ls Q hC hl hw hend => ?_)
  have hx := hC.hx
  have hb := hC.hb
  have hl : lv_has ls 1 [(0, .ref a9)] := hl
  refine lv_aload_n hx hb dJ12_requireNonNull_0 rfl (lv_at hl 0 rfl) ?_
  refine lv_ifnonnull (tgt := 12) hx hb dJ12_requireNonNull_1 (by decide) ?_
  refine lv_aload_n hx hb dJ12_requireNonNull_12 rfl (lv_at hl 0 rfl) ?_
  exact hend _ _ _ _ _ _ (some a9) () hw rfl (Nat.le_of_ble_eq_true rfl) (Nat.le_of_ble_eq_true rfl) dJ12_requireNonNull_13
theorem zf_J10_7_16 : zFl 16 0 RJ10 7 false .int := ⟨RJ11, TJ11, 2, tyJ11, rfl, by decide, in_J11, q579, rfl, by decide +kernel, tyJ11_ok, nmJ11⟩
set_option maxHeartbeats 4000000 in
theorem m_J10_init_16 (G : zE) (l : Launch) (lst : Nat) (mq : Int32) (rest : va_W) : zMv G l yJ10_init cJ10_init 1 2 0 0 [.ref lst] ((lst, zo 16 [.int mq, .null]) :: rest) (fun (_ : Unit) => True) (fun (_ : Unit) => (lst, zo 16 [.int 0, .null]) :: rest) := by
  refine z_begV (by decide) (Nat.le_of_ble_eq_true rfl) (fun p e s m args below meth c ls Q hC hnm hl hw hend => ?_)
  have hx := hC.hx
  have hb := hC.hb
  have hl : lv_has ls 1 [(0, .ref lst)] := hl
  have hw : zS G ((lst, zo 16 [.int mq, .null]) :: rest) s s.heap [] := hw
  refine lv_aload_n hx hb dJ10_init_0 rfl (lv_at hl 0 rfl) ?_
  refine z_cv (z_runI (As := []) (rest := []) hC zx_J10_1 (m_J9_init G l lst _) hw rfl rfl (Nat.le_of_ble_eq_true rfl) hl.1 ⟨Nat.le_of_ble_eq_true rfl, Nat.le_of_ble_eq_true rfl⟩ ⟨(Nat.le_of_ble_eq_true rfl), (Nat.le_of_ble_eq_true rfl)⟩ dJ10_init_1) hw (fun _ => List.Perm.refl _) (fun u H locs hp hw => ?_)
  refine lv_aload_n hx hb dJ10_init_4 rfl (lv_at hl 0 rfl) ?_
  refine lv_iconst (v := (nI 0)) hx hb dJ10_init_5 zk_0 ?_
  refine z_puti hC zf_J10_7_16 hw 0 rfl (Nat.le_of_ble_eq_true rfl) dJ10_init_6 (fun H locs hw => ?_)
  have hw : zS G ((lst, zo 16 [.int (nI 0), .null]) :: rest) s H locs := hw
  exact hend _ _ _ _ _ _ () hw trivial (Nat.le_of_ble_eq_true rfl) (Nat.le_of_ble_eq_true rfl) dJ10_init_9
theorem zx_J11_1 : zIs RJ11 1 yJ10_init cJ10_init 1 0 := ⟨⟨q485, q64, q483, q484, rfl⟩, ⟨by decide +kernel, by decide +kernel⟩, by decide +kernel⟩
theorem zs_J11_7 : zSs RJ11 7 yJ12_requireNonNull cJ12_requireNonNull 1 (some (.object "java/lang/Object")) 1 := ⟨lw_S q490 q491 q66 q492, ⟨by decide +kernel, by decide +kernel⟩, by decide +kernel⟩
theorem zf_J11_15_16 : zFl 16 1 RJ11 15 true (.array (.object "java/lang/Object")) := ⟨RJ11, TJ11, 2, tyJ11, rfl, by decide, in_J11, q578, rfl, by decide +kernel, tyJ11_ok, nmJ11⟩
set_option maxHeartbeats 4000000 in
theorem m_J11_init (G : zE) (l : Launch) (kA : Nat → Nat) (hG : zG G kA) (hS : zS9 G kA) (al : Nat) (rest : va_W) : zMv G l yJ11_init cJ11_init 2 3 0 0 [.ref al, .ref (kA 0)] ((al, zo 16 [.int 0, .null]) :: rest) (fun (_ : Unit) => True) (fun (_ : Unit) => (al, zo 16 [.int 0, .ref (kA 0)]) :: rest) := by
  refine z_begV (by decide) (Nat.le_of_ble_eq_true rfl) (fun p e s m args below meth c ls Q hC hnm hl hw hend => ?_)
  have hx := hC.hx
  have hb := hC.hb
  have hl : lv_has ls 2 [(0, .ref al), (1, .ref (kA 0))] := hl
  have hw : zS G ((al, zo 16 [.int 0, .null]) :: rest) s s.heap [] := hw
  have hz := hG s hC.hZ.1
  have hzs := hS s hC.hZ.1
  refine lv_aload_n hx hb dJ11_init_0 rfl (lv_at hl 0 rfl) ?_
  refine z_cv (z_runI (As := []) (rest := []) hC zx_J11_1 (m_J10_init_16 G l al 0 (zrem [0] _)) (hw.perm (z_cut (is := [0]) (cells := [(al, zo 16 [.int 0, .null])]) rfl rfl)) rfl rfl (Nat.le_of_ble_eq_true rfl) hl.1 ⟨Nat.le_of_ble_eq_true rfl, Nat.le_of_ble_eq_true rfl⟩ ⟨(Nat.le_of_ble_eq_true rfl), (Nat.le_of_ble_eq_true rfl)⟩ dJ11_init_1) hw (fun _ => z_pput (is := [0]) (cells := [(al, zo 16 [.int 0, .null])]) (cells' := [(al, zo 16 [.int 0, .null])]) rfl rfl rfl) (fun u H locs hp hw => ?_)
  have hw : zS G ((al, zo 16 [.int 0, .null]) :: rest) s H locs := hw
  refine lv_aload_n hx hb dJ11_init_4 rfl (lv_at hl 0 rfl) ?_
  refine lv_aload_n hx hb dJ11_init_5 rfl (lv_at hl 1 rfl) ?_
  refine z_cq (z_runS (As := [.ref (kA 0)]) (rest := [.ref al]) hC zs_J11_7 (m_J12_requireNonNull G l (kA 0) _) hw rfl rfl (Nat.le_of_ble_eq_true rfl) hl.1 ⟨Nat.le_of_ble_eq_true rfl, Nat.le_of_ble_eq_true rfl⟩ ⟨(Nat.le_of_ble_eq_true rfl), (Nat.le_of_ble_eq_true rfl)⟩ dJ11_init_6) hw (fun _ => List.Perm.refl _) (fun r u H locs hp hw => ?_)
  obtain rfl : r = some (kA 0) := hp
  refine z_castY hC q577 (k_asA hC hz.1) (z_hrK hzs.1.2.2 hw) dJ11_init_9 ?_
  refine z_putF hC zf_J11_15_16 ⟨_, rfl, rfl⟩ hnm hw 0 rfl rfl rfl (Nat.le_of_ble_eq_true rfl) dJ11_init_12 (fun H locs hw => ?_)
  have hw : zS G ((al, zo 16 [.int 0, .ref (kA 0)]) :: rest) s H locs := hw
  exact hend _ _ _ _ _ _ () hw trivial (Nat.le_of_ble_eq_true rfl) (Nat.le_of_ble_eq_true rfl) dJ11_init_15
theorem zx_J0_377 : zIs RJ0 377 yJ11_init cJ11_init 2 1 := ⟨⟨q482, q65, q480, q481, rfl⟩, ⟨by decide +kernel, by decide +kernel⟩, by decide +kernel⟩
set_option maxHeartbeats 4000000 in
theorem m_J0_asList (G : zE) (l : Launch) (kA : Nat → Nat) (hG : zG G kA) (hS : zS9 G kA) (rest : va_W) : zMq G l yJ0_asList cJ0_asList 1 (some (.object "java/util/List")) 4 1 2 [.ref (kA 0)] (rest) (fun (r : Option Nat) u => r = some u) (fun (u : Nat) => (u, zo 16 [.int 0, .ref (kA 0)]) :: rest) := by
  refine z_begQ (by first | exact Or.inl ⟨_, rfl⟩ | exact Or.inr ⟨_, rfl⟩) (by decide) (Nat.le_of_ble_eq_true rfl) (fun p e s m args below meth c ls Q hC hl hw hend => ?_)
  have hx := hC.hx
  have hb := hC.hb
  have hl : lv_has ls 1 [(0, .ref (kA 0))] := hl
  have hz := hG s hC.hZ.1
  have hzs := hS s hC.hZ.1
  refine z_new (ci := 16) (fs := [.int 0, .null]) hC rfl in_J11 tyJ11_ok q478 q479 q65 hw (fun j hj => by revert hj; revert j; decide) (Nat.le_of_ble_eq_true rfl) (Nat.le_of_ble_eq_true rfl) dJ0_asList_0 (fun q_0 H hw => ?_)
  have hw : zS G ((q_0, zo 16 [.int 0, .null]) :: rest) s H [] := hw
  refine lv_dup hx hb dJ0_asList_3 rfl ?_
  refine lv_aload_n hx hb dJ0_asList_4 rfl (lv_at hl 0 rfl) ?_
  refine z_cv (z_runI (As := [.ref (kA 0)]) (rest := [.ref q_0]) hC zx_J0_377 (m_J11_init G l kA (by first | assumption | (omega)) (by first | assumption | (omega)) q_0 (zrem [0] _)) (hw.perm (z_cut (is := [0]) (cells := [(q_0, zo 16 [.int 0, .null])]) rfl rfl)) rfl rfl (Nat.le_of_ble_eq_true rfl) hl.1 ⟨Nat.le_of_ble_eq_true rfl, Nat.le_of_ble_eq_true rfl⟩ ⟨(Nat.le_of_ble_eq_true rfl), (Nat.le_of_ble_eq_true rfl)⟩ dJ0_asList_5) hw (fun _ => z_pput (is := [0]) (cells := [(q_0, zo 16 [.int 0, .null])]) (cells' := [(q_0, zo 16 [.int 0, .ref (kA 0)])]) rfl rfl rfl) (fun u H locs hp hw => ?_)
  have hw : zS G ((q_0, zo 16 [.int 0, .ref (kA 0)]) :: rest) s H locs := hw
  exact hend _ _ _ _ _ _ (some q_0) q_0 hw rfl (Nat.le_of_ble_eq_true rfl) (Nat.le_of_ble_eq_true rfl) dJ0_asList_8
theorem zn_J3_equals : zNs yJ3_equals cJ3_equals 3 (some .boolean) 1 := ⟨q634, q57, ⟨by decide +kernel, by decide +kernel⟩, by decide +kernel⟩
set_option maxHeartbeats 4000000 in
theorem m_J11_indexOf_y (G : zE) (l : Launch) (kA : Nat → Nat) (hG : zG G kA) (hS : zS9 G kA) (al : Nat) (sr : Nat) (sv : Nat) (n : Nat) (g : Nat → Int32) (hn : n ≤ 1000) (ix : Nat) (hh8 : ix < 8) (hy : (n = (hdB.getD ix []).length ∧ ∀ i, i < n → g i = nI ((hdB.getD ix []).getD i 0))) (hno : ∀ j, j < ix → ¬ (n = (hdB.getD j []).length ∧ ∀ i, i < n → g i = nI ((hdB.getD j []).getD i 0))) (rest : va_W) : zMi G l yJ11_indexOf cJ11_indexOf 4 (some .int) 3 0 0 [.ref al, .ref sr] ((al, zo 16 [.int 0, .ref (kA 0)]) :: (sr, zo 12 [.ref sv, .int (nI 0), .int 0, .int 0]) :: (sv, zc G 1 (zI n g)) :: rest) (fun (r : Int32) (_ : Unit) => r = nI ix) (fun (_ : Unit) => (al, zo 16 [.int 0, .ref (kA 0)]) :: (sr, zo 12 [.ref sv, .int (nI 0), .int 0, .int 0]) :: (sv, zc G 1 (zI n g)) :: rest) := by
  refine z_begI (by decide) (Nat.le_of_ble_eq_true rfl) (fun p e s m args below meth c ls Q hC hl hw hend => ?_)
  have hx := hC.hx
  have hb := hC.hb
  have hl : lv_has ls 4 [(0, .ref al), (1, .ref sr)] := hl
  have hw : zS G ((al, zo 16 [.int 0, .ref (kA 0)]) :: (sr, zo 12 [.ref sv, .int (nI 0), .int 0, .int 0]) :: (sv, zc G 1 (zI n g)) :: rest) s s.heap [] := hw
  have hz := hG s hC.hZ.1
  have hzs := hS s hC.hZ.1
  refine lv_aload_n hx hb dJ11_indexOf_0 rfl (lv_at hl 0 rfl) ?_
  refine z_get (v := .ref (kA 0)) hC zf_J11_15_16 hw 0 rfl rfl dJ11_indexOf_1 ?_
  refine lv_astore_n (lv' := [(2, .ref (kA 0)), (0, .ref al), (1, .ref sr)]) hx hb dJ11_indexOf_4 rfl hl (by decide) rfl (fun ls hl => ?_)
  refine lv_aload_n hx hb dJ11_indexOf_5 rfl (lv_at hl 2 rfl) ?_
  refine lv_ifnonnull (tgt := 34) hx hb dJ11_indexOf_6 (by decide) ?_
  refine lv_iconst (v := (nI 0)) hx hb dJ11_indexOf_34 zk_0 ?_
  refine lv_istore_n (lv' := [(3, .int (nI 0)), (2, .ref (kA 0)), (0, .ref al), (1, .ref sr)]) hx hb dJ11_indexOf_35 rfl hl (by decide) rfl (fun ls hl => ?_)
  have loop_36 : ∀ (fuel : Nat) (k : Nat), (k ≤ ix) → (8 - k) < fuel → ∀ (H : Heap) (locs : List Loc) (ls : Array Slot), zS G ((al, zo 16 [.int 0, .ref (kA 0)]) :: (sr, zo 12 [.ref sv, .int (nI 0), .int 0, .int 0]) :: (sv, zc G 1 (zI n g)) :: rest) s H locs → lv_has ls 4 [(0, .ref al), (1, .ref sr), (2, .ref (kA 0)), (3, .int (nI k))] → W p l e (zR 3 0 0) s m args below meth c H locs 0 0 Q (F0 m 36 ls []) := by
    intro fuel
    induction fuel with
    | zero => intro k hk hfuel; exact absurd hfuel (Nat.not_lt_zero _)
    | succ fuel_36 ih_36 =>
      intro k hk hfuel_36 H locs ls hw hl
      refine lv_iload_n hx hb dJ11_indexOf_36 rfl (lv_at hl 3 rfl) ?_
      refine lv_aload_n hx hb dJ11_indexOf_37 rfl (lv_at hl 2 rfl) ?_
      refine z_alenK hC hzs.1.2.1 hw dJ11_indexOf_38 ?_
      refine zi_ge (tgt := 60) hx hb (by omega) (by decide) dJ11_indexOf_39 (by decide) (fun c_39 => ?_) (fun c_39 => ?_)
      · skip
        refine lv_iconst (v := -1) hx hb dJ11_indexOf_60 zk_m1 ?_
        exact hend _ _ _ _ _ _ _ () hw (by first | (exfalso; omega) | exact congrArg nI (Nat.le_antisymm hk (Nat.le_of_not_lt (fun q => hno k q c_49)))) (Nat.le_of_ble_eq_true rfl) (Nat.le_of_ble_eq_true rfl) dJ11_indexOf_61
      · skip
        refine lv_aload_n hx hb dJ11_indexOf_42 rfl (lv_at hl 1 rfl) ?_
        refine lv_aload_n hx hb dJ11_indexOf_43 rfl (lv_at hl 2 rfl) ?_
        refine lv_iload_n hx hb dJ11_indexOf_44 rfl (lv_at hl 3 rfl) ?_
        refine z_aaldK (x := .ref (kA (10 + k))) hC hzs.1.2.1 hw (by omega) (by decide) rfl dJ11_indexOf_45 ?_
        refine z_ci (z_runB (x := (⟨"java/lang/Object", "equals", "(Ljava/lang/Object;)Z"⟩ : MethodName)) (owner := "java/lang/Object") (C := "java/lang/String") (n := 1) (As := [.ref (kA (10 + k))]) (rest := []) hC ⟨zn_J3_equals, q633, q632, ⟨by decide +kernel, by decide +kernel⟩, by decide +kernel⟩ (hC.hts _ q647) (hC.hts _ q608) (z_declO hC q607 q640) (m_J3_equals G l kA (by first | assumption | (omega)) (by first | assumption | (omega)) sr sv n g k (by omega) (by omega) (zrem [1, 2] _)) hw (hw.perm (z_cut (is := [1, 2]) (cells := [(sr, zo 12 [.ref sv, .int (nI 0), .int 0, .int 0]), (sv, zc G 1 (zI n g))]) rfl rfl)) 1 rfl rfl rfl rfl rfl (Nat.le_of_ble_eq_true rfl) hl.1 ⟨Nat.le_of_ble_eq_true rfl, Nat.le_of_ble_eq_true rfl⟩ ⟨(Nat.le_of_ble_eq_true rfl), (Nat.le_of_ble_eq_true rfl)⟩ dJ11_indexOf_46) hw (fun _ => z_keep (is := [1, 2]) (cs := [(sr, zo 12 [.ref sv, .int (nI 0), .int 0, .int 0]), (sv, zc G 1 (zI n g))]) rfl rfl) (fun r u H locs hp hw => ?_)
        obtain rfl : r = bI (n = (hdB.getD k []).length ∧ ∀ i, i < n → g i = nI ((hdB.getD k []).getD i 0)) := hp
        refine zb_eq (tgt := 54) hx hb dJ11_indexOf_49 (by decide) (fun c_49 => ?_) (fun c_49 => ?_)
        · skip
          refine lv_iinc (v := (nI (k + 1))) (lv' := [(3, .int (nI (k + 1))), (0, .ref al), (1, .ref sr), (2, .ref (kA 0))]) hx hb dJ11_indexOf_54 hl (k := 3) rfl (zincn _ 1) (by decide) rfl (fun ls hl => ?_)
          refine lv_goto (tgt := 36) hx hb dJ11_indexOf_57 (by decide) ?_
          exact ih_36 (k + 1) (by have : k ≠ ix := fun q => c_49 (q ▸ hy); omega) (by omega) H locs ls hw (lv_sub hl [1, 2, 3, 0] rfl)
        · skip
          refine lv_iload_n hx hb dJ11_indexOf_52 rfl (lv_at hl 3 rfl) ?_
          exact hend _ _ _ _ _ _ _ () hw (by first | (exfalso; omega) | exact congrArg nI (Nat.le_antisymm hk (Nat.le_of_not_lt (fun q => hno k q c_49)))) (Nat.le_of_ble_eq_true rfl) (Nat.le_of_ble_eq_true rfl) dJ11_indexOf_53
  exact loop_36 ((8 - 0) + 1) 0 (by omega) (Nat.lt_succ_self _) s.heap [] ls hw (lv_sub hl [2, 3, 1, 0] rfl)
set_option maxHeartbeats 4000000 in
theorem m_J11_indexOf_n (G : zE) (l : Launch) (kA : Nat → Nat) (hG : zG G kA) (hS : zS9 G kA) (al : Nat) (sr : Nat) (sv : Nat) (n : Nat) (g : Nat → Int32) (hn : n ≤ 1000) (hno : ∀ j, j < 8 → ¬ (n = (hdB.getD j []).length ∧ ∀ i, i < n → g i = nI ((hdB.getD j []).getD i 0))) (rest : va_W) : zMi G l yJ11_indexOf cJ11_indexOf 4 (some .int) 3 0 0 [.ref al, .ref sr] ((al, zo 16 [.int 0, .ref (kA 0)]) :: (sr, zo 12 [.ref sv, .int (nI 0), .int 0, .int 0]) :: (sv, zc G 1 (zI n g)) :: rest) (fun (r : Int32) (_ : Unit) => r = -1) (fun (_ : Unit) => (al, zo 16 [.int 0, .ref (kA 0)]) :: (sr, zo 12 [.ref sv, .int (nI 0), .int 0, .int 0]) :: (sv, zc G 1 (zI n g)) :: rest) := by
  refine z_begI (by decide) (Nat.le_of_ble_eq_true rfl) (fun p e s m args below meth c ls Q hC hl hw hend => ?_)
  have hx := hC.hx
  have hb := hC.hb
  have hl : lv_has ls 4 [(0, .ref al), (1, .ref sr)] := hl
  have hw : zS G ((al, zo 16 [.int 0, .ref (kA 0)]) :: (sr, zo 12 [.ref sv, .int (nI 0), .int 0, .int 0]) :: (sv, zc G 1 (zI n g)) :: rest) s s.heap [] := hw
  have hz := hG s hC.hZ.1
  have hzs := hS s hC.hZ.1
  refine lv_aload_n hx hb dJ11_indexOf_0 rfl (lv_at hl 0 rfl) ?_
  refine z_get (v := .ref (kA 0)) hC zf_J11_15_16 hw 0 rfl rfl dJ11_indexOf_1 ?_
  refine lv_astore_n (lv' := [(2, .ref (kA 0)), (0, .ref al), (1, .ref sr)]) hx hb dJ11_indexOf_4 rfl hl (by decide) rfl (fun ls hl => ?_)
  refine lv_aload_n hx hb dJ11_indexOf_5 rfl (lv_at hl 2 rfl) ?_
  refine lv_ifnonnull (tgt := 34) hx hb dJ11_indexOf_6 (by decide) ?_
  refine lv_iconst (v := (nI 0)) hx hb dJ11_indexOf_34 zk_0 ?_
  refine lv_istore_n (lv' := [(3, .int (nI 0)), (2, .ref (kA 0)), (0, .ref al), (1, .ref sr)]) hx hb dJ11_indexOf_35 rfl hl (by decide) rfl (fun ls hl => ?_)
  have loop_36 : ∀ (fuel : Nat) (k : Nat), (k ≤ 8) → (8 - k) < fuel → ∀ (H : Heap) (locs : List Loc) (ls : Array Slot), zS G ((al, zo 16 [.int 0, .ref (kA 0)]) :: (sr, zo 12 [.ref sv, .int (nI 0), .int 0, .int 0]) :: (sv, zc G 1 (zI n g)) :: rest) s H locs → lv_has ls 4 [(0, .ref al), (1, .ref sr), (2, .ref (kA 0)), (3, .int (nI k))] → W p l e (zR 3 0 0) s m args below meth c H locs 0 0 Q (F0 m 36 ls []) := by
    intro fuel
    induction fuel with
    | zero => intro k hk hfuel; exact absurd hfuel (Nat.not_lt_zero _)
    | succ fuel_36 ih_36 =>
      intro k hk hfuel_36 H locs ls hw hl
      refine lv_iload_n hx hb dJ11_indexOf_36 rfl (lv_at hl 3 rfl) ?_
      refine lv_aload_n hx hb dJ11_indexOf_37 rfl (lv_at hl 2 rfl) ?_
      refine z_alenK hC hzs.1.2.1 hw dJ11_indexOf_38 ?_
      refine zi_ge (tgt := 60) hx hb (by omega) (by decide) dJ11_indexOf_39 (by decide) (fun c_39 => ?_) (fun c_39 => ?_)
      · skip
        refine lv_iconst (v := -1) hx hb dJ11_indexOf_60 zk_m1 ?_
        exact hend _ _ _ _ _ _ _ () hw (by first | rfl | exact absurd c_49 (hno k c_39)) (Nat.le_of_ble_eq_true rfl) (Nat.le_of_ble_eq_true rfl) dJ11_indexOf_61
      · skip
        refine lv_aload_n hx hb dJ11_indexOf_42 rfl (lv_at hl 1 rfl) ?_
        refine lv_aload_n hx hb dJ11_indexOf_43 rfl (lv_at hl 2 rfl) ?_
        refine lv_iload_n hx hb dJ11_indexOf_44 rfl (lv_at hl 3 rfl) ?_
        refine z_aaldK (x := .ref (kA (10 + k))) hC hzs.1.2.1 hw (by omega) (by decide) rfl dJ11_indexOf_45 ?_
        refine z_ci (z_runB (x := (⟨"java/lang/Object", "equals", "(Ljava/lang/Object;)Z"⟩ : MethodName)) (owner := "java/lang/Object") (C := "java/lang/String") (n := 1) (As := [.ref (kA (10 + k))]) (rest := []) hC ⟨zn_J3_equals, q633, q632, ⟨by decide +kernel, by decide +kernel⟩, by decide +kernel⟩ (hC.hts _ q647) (hC.hts _ q608) (z_declO hC q607 q640) (m_J3_equals G l kA (by first | assumption | (omega)) (by first | assumption | (omega)) sr sv n g k (by omega) (by omega) (zrem [1, 2] _)) hw (hw.perm (z_cut (is := [1, 2]) (cells := [(sr, zo 12 [.ref sv, .int (nI 0), .int 0, .int 0]), (sv, zc G 1 (zI n g))]) rfl rfl)) 1 rfl rfl rfl rfl rfl (Nat.le_of_ble_eq_true rfl) hl.1 ⟨Nat.le_of_ble_eq_true rfl, Nat.le_of_ble_eq_true rfl⟩ ⟨(Nat.le_of_ble_eq_true rfl), (Nat.le_of_ble_eq_true rfl)⟩ dJ11_indexOf_46) hw (fun _ => z_keep (is := [1, 2]) (cs := [(sr, zo 12 [.ref sv, .int (nI 0), .int 0, .int 0]), (sv, zc G 1 (zI n g))]) rfl rfl) (fun r u H locs hp hw => ?_)
        obtain rfl : r = bI (n = (hdB.getD k []).length ∧ ∀ i, i < n → g i = nI ((hdB.getD k []).getD i 0)) := hp
        refine zb_eq (tgt := 54) hx hb dJ11_indexOf_49 (by decide) (fun c_49 => ?_) (fun c_49 => ?_)
        · skip
          refine lv_iinc (v := (nI (k + 1))) (lv' := [(3, .int (nI (k + 1))), (0, .ref al), (1, .ref sr), (2, .ref (kA 0))]) hx hb dJ11_indexOf_54 hl (k := 3) rfl (zincn _ 1) (by decide) rfl (fun ls hl => ?_)
          refine lv_goto (tgt := 36) hx hb dJ11_indexOf_57 (by decide) ?_
          exact ih_36 (k + 1) (by omega) (by omega) H locs ls hw (lv_sub hl [1, 2, 3, 0] rfl)
        · skip
          refine lv_iload_n hx hb dJ11_indexOf_52 rfl (lv_at hl 3 rfl) ?_
          exact hend _ _ _ _ _ _ _ () hw (by first | rfl | exact absurd c_49 (hno k c_39)) (Nat.le_of_ble_eq_true rfl) (Nat.le_of_ble_eq_true rfl) dJ11_indexOf_53
  exact loop_36 ((8 - 0) + 1) 0 (by decide) (Nat.lt_succ_self _) s.heap [] ls hw (lv_sub hl [2, 3, 1, 0] rfl)
set_option maxHeartbeats 4000000 in
theorem m_J20_of (G : zE) (l : Launch) (kA : Nat → Nat) (hG : zG G kA) (hS : zS9 G kA) (j : Nat) (hj : j < 10) (rest : va_W) : zMq G l yJ20_of cJ20_of 1 (some (.object "java/lang/CharacterData")) 0 0 0 [.int (nI (48 + j))] (rest) (fun (r : Option Nat) (_ : Unit) => r = some (kA 3)) (fun (_ : Unit) => rest) := by
  refine z_begQ (by first | exact Or.inl ⟨_, rfl⟩ | exact Or.inr ⟨_, rfl⟩) (by decide) (Nat.le_of_ble_eq_true rfl) (fun p e s m args below meth c ls Q hC hl hw hend => ?_)
  have hx := hC.hx
  have hb := hC.hb
  have hl : lv_has ls 1 [(0, .int (nI (48 + j)))] := hl
  have hz := hG s hC.hZ.1
  have hzs := hS s hC.hZ.1
  refine lv_iload_n hx hb dJ20_of_0 rfl (lv_at hl 0 rfl) ?_
  refine lv_bipush (v := (nI 8)) hx hb dJ20_of_1 zb_8 ?_
  refine lv_iushr (v := ushI (nI (48 + j)) (nI 8)) hx hb dJ20_of_3 rfl ?_
  refine lv_if_ne (tgt := 11) hx hb dJ20_of_4 (by decide) (fun h => absurd (ush8 j hj) h) (fun _ => ?_)
  refine z_gets (v := .ref (kA 3)) hC hzs.2.2.2.1.1 hw q723 dJ20_of_7 ?_
  exact hend _ _ _ _ _ _ (some (kA 3)) () hw rfl (Nat.le_of_ble_eq_true rfl) (Nat.le_of_ble_eq_true rfl) dJ20_of_10
set_option maxHeartbeats 4000000 in
theorem m_J21_digit (G : zE) (l : Launch) (kA : Nat → Nat) (hG : zG G kA) (hS : zS9 G kA) (j : Nat) (hj : j < 10) (rest : va_W) : zMi G l yJ21_digit cJ21_digit 4 (some .int) 0 0 0 [.ref (kA 3), .int (nI (48 + j)), .int (nI 10)] (rest) (fun (r : Int32) (_ : Unit) => r = nI j) (fun (_ : Unit) => rest) := by
  refine z_begI (by decide) (Nat.le_of_ble_eq_true rfl) (fun p e s m args below meth c ls Q hC hl hw hend => ?_)
  have hx := hC.hx
  have hb := hC.hb
  have hl : lv_has ls 4 [(0, .ref (kA 3)), (1, .int (nI (48 + j))), (2, .int (nI 10))] := hl
  have hz := hG s hC.hZ.1
  have hzs := hS s hC.hZ.1
  obtain ⟨dg, hdg1, hdg2⟩ := hzs.2.2.2.2.1.2
  refine z_gets (v := .ref (kA 4)) hC hzs.2.2.2.2.1.1 hw q731 dJ21_digit_0 ?_
  refine lv_iload_n hx hb dJ21_digit_3 rfl (lv_at hl 1 rfl) ?_
  refine z_baldK (x := .int (nI j)) hC hdg1 hw (by omega) (by decide) (congrArg Value.int (hdg2 j hj)) dJ21_digit_4 ?_
  refine lv_istore_n (lv' := [(3, .int (nI j)), (0, .ref (kA 3)), (1, .int (nI (48 + j))), (2, .int (nI 10))]) hx hb dJ21_digit_5 rfl hl (by decide) rfl (fun ls hl => ?_)
  refine lv_iload_n hx hb dJ21_digit_6 rfl (lv_at hl 0 rfl) ?_
  refine zj_lt (tgt := 30) hx hb (by omega) dJ21_digit_7 (by decide) ?_
  refine lv_iload_n hx hb dJ21_digit_10 rfl (lv_at hl 0 rfl) ?_
  refine lv_iload_n hx hb dJ21_digit_11 rfl (lv_at hl 3 rfl) ?_
  refine zi_ge (tgt := 30) hx hb (by omega) (by decide) dJ21_digit_12 (by decide) (fun h => absurd h (by omega)) (fun _ => ?_)
  refine lv_iload_n hx hb dJ21_digit_15 rfl (lv_at hl 3 rfl) ?_
  refine lv_iconst (v := (nI 2)) hx hb dJ21_digit_16 zk_2 ?_
  refine zi_lt (tgt := 30) hx hb (by decide) (by decide) dJ21_digit_17 (by decide) (fun h => absurd h (by decide)) (fun _ => ?_)
  refine lv_iload_n hx hb dJ21_digit_20 rfl (lv_at hl 3 rfl) ?_
  refine lv_bipush (v := (nI 36)) hx hb dJ21_digit_21 zb_36 ?_
  refine zi_gt (tgt := 30) hx hb (by decide) (by decide) dJ21_digit_23 (by decide) (fun h => absurd h (by decide)) (fun _ => ?_)
  refine lv_iload_n hx hb dJ21_digit_26 rfl (lv_at hl 0 rfl) ?_
  refine lv_goto (tgt := 31) hx hb dJ21_digit_27 (by decide) ?_
  exact hend _ _ _ _ _ _ _ () hw (by first | rfl | simp_all) (Nat.le_of_ble_eq_true rfl) (Nat.le_of_ble_eq_true rfl) dJ21_digit_31
theorem zs_J19_158 : zSs RJ19 158 yJ20_of cJ20_of 1 (some (.object "java/lang/CharacterData")) 1 := ⟨lw_S q720 q721 q75 q722, ⟨by decide +kernel, by decide +kernel⟩, by decide +kernel⟩
theorem zn_J21_digit : zNs yJ21_digit cJ21_digit 4 (some .int) 2 := ⟨q730, q76, ⟨by decide +kernel, by decide +kernel⟩, by decide +kernel⟩
set_option maxHeartbeats 4000000 in
theorem m_J19_digit_2 (G : zE) (l : Launch) (kA : Nat → Nat) (hG : zG G kA) (hS : zS9 G kA) (j : Nat) (hj : j < 10) (rest : va_W) : zMi G l yJ19_digit_2 cJ19_digit_2 2 (some .int) 1 0 0 [.int (nI (48 + j)), .int (nI 10)] (rest) (fun (r : Int32) (_ : Unit) => r = nI j) (fun (_ : Unit) => rest) := by
  refine z_begI (by decide) (Nat.le_of_ble_eq_true rfl) (fun p e s m args below meth c ls Q hC hl hw hend => ?_)
  have hx := hC.hx
  have hb := hC.hb
  have hl : lv_has ls 2 [(0, .int (nI (48 + j))), (1, .int (nI 10))] := hl
  have hz := hG s hC.hZ.1
  have hzs := hS s hC.hZ.1
  refine lv_iload_n hx hb dJ19_digit_2_0 rfl (lv_at hl 0 rfl) ?_
  refine z_cq (z_runS (As := [.int (nI (48 + j))]) (rest := []) hC zs_J19_158 (m_J20_of G l kA (by first | assumption | (omega)) (by first | assumption | (omega)) j (by omega) _) hw rfl rfl (Nat.le_of_ble_eq_true rfl) hl.1 ⟨Nat.le_of_ble_eq_true rfl, Nat.le_of_ble_eq_true rfl⟩ ⟨(Nat.le_of_ble_eq_true rfl), (Nat.le_of_ble_eq_true rfl)⟩ dJ19_digit_2_1) hw (fun _ => List.Perm.refl _) (fun r u H locs hp hw => ?_)
  obtain rfl : r = some (kA 3) := hp
  refine lv_iload_n hx hb dJ19_digit_2_4 rfl (lv_at hl 0 rfl) ?_
  refine lv_iload_n hx hb dJ19_digit_2_5 rfl (lv_at hl 1 rfl) ?_
  refine z_ci (z_runBK (x := (⟨"java/lang/CharacterData", "digit", "(II)I"⟩ : MethodName)) (owner := "java/lang/CharacterData") (C := "java/lang/CharacterDataLatin1") (n := 2) (As := [.int (nI (48 + j)), .int (nI 10)]) (rest := []) hC ⟨zn_J21_digit, q729, q728, ⟨by decide +kernel, by decide +kernel⟩, by decide +kernel⟩ (hC.hts _ q725) (hC.hts _ q727) (va_Decl.abs (hz.1 _ (cw_t q726 rfl))) (m_J21_digit G l kA (by first | assumption | (omega)) (by first | assumption | (omega)) j (by omega) _) (z_hrK hzs.2.2.2.1.2 hw) hw rfl rfl (Nat.le_of_ble_eq_true rfl) hl.1 ⟨Nat.le_of_ble_eq_true rfl, Nat.le_of_ble_eq_true rfl⟩ ⟨(Nat.le_of_ble_eq_true rfl), (Nat.le_of_ble_eq_true rfl)⟩ dJ19_digit_2_6) hw (fun _ => List.Perm.refl _) (fun r u H locs hp hw => ?_)
  obtain rfl : r = nI j := hp
  exact hend _ _ _ _ _ _ _ () hw (by first | rfl | simp_all) (Nat.le_of_ble_eq_true rfl) (Nat.le_of_ble_eq_true rfl) dJ19_digit_2_9
theorem zs_J19_248 : zSs RJ19 248 yJ19_digit_2 cJ19_digit_2 2 (some .int) 2 := ⟨lw_S q717 q718 q74 q719, ⟨by decide +kernel, by decide +kernel⟩, by decide +kernel⟩
set_option maxHeartbeats 4000000 in
theorem m_J19_digit (G : zE) (l : Launch) (kA : Nat → Nat) (hG : zG G kA) (hS : zS9 G kA) (j : Nat) (hj : j < 10) (rest : va_W) : zMi G l yJ19_digit cJ19_digit 2 (some .int) 2 0 0 [.int (nI (48 + j)), .int (nI 10)] (rest) (fun (r : Int32) (_ : Unit) => r = nI j) (fun (_ : Unit) => rest) := by
  refine z_begI (by decide) (Nat.le_of_ble_eq_true rfl) (fun p e s m args below meth c ls Q hC hl hw hend => ?_)
  have hx := hC.hx
  have hb := hC.hb
  have hl : lv_has ls 2 [(0, .int (nI (48 + j))), (1, .int (nI 10))] := hl
  have hz := hG s hC.hZ.1
  have hzs := hS s hC.hZ.1
  refine lv_iload_n hx hb dJ19_digit_0 rfl (lv_at hl 0 rfl) ?_
  refine lv_iload_n hx hb dJ19_digit_1 rfl (lv_at hl 1 rfl) ?_
  refine z_ci (z_runS (As := [.int (nI (48 + j)), .int (nI 10)]) (rest := []) hC zs_J19_248 (m_J19_digit_2 G l kA (by first | assumption | (omega)) (by first | assumption | (omega)) j (by omega) _) hw rfl rfl (Nat.le_of_ble_eq_true rfl) hl.1 ⟨Nat.le_of_ble_eq_true rfl, Nat.le_of_ble_eq_true rfl⟩ ⟨(Nat.le_of_ble_eq_true rfl), (Nat.le_of_ble_eq_true rfl)⟩ dJ19_digit_2) hw (fun _ => List.Perm.refl _) (fun r u H locs hp hw => ?_)
  obtain rfl : r = nI j := hp
  exact hend _ _ _ _ _ _ _ () hw (by first | rfl | simp_all) (Nat.le_of_ble_eq_true rfl) (Nat.le_of_ble_eq_true rfl) dJ19_digit_5
theorem zv_J18_118 : zVs RJ18 118 yJ3_length cJ3_length 1 (some .int) 0 := ⟨lw_V q710 q681 q682 q57 q683, ⟨by decide +kernel, by decide +kernel⟩, by decide +kernel⟩
theorem zv_J18_123 : zVs RJ18 123 yJ3_charAt cJ3_charAt 2 (some .char) 1 := ⟨lw_V q712 q690 q691 q57 q692, ⟨by decide +kernel, by decide +kernel⟩, by decide +kernel⟩
theorem zs_J18_132 : zSs RJ18 132 yJ19_digit cJ19_digit 2 (some .int) 2 := ⟨lw_S q714 q715 q74 q716, ⟨by decide +kernel, by decide +kernel⟩, by decide +kernel⟩
set_option maxHeartbeats 4000000 in
theorem m_J18_parseInt_2_1 (G : zE) (l : Launch) (kA : Nat → Nat) (hG : zG G kA) (hS : zS9 G kA) (sr : Nat) (sv : Nat) (a : Nat) (g : Nat → Int32) (ha : a < 10) (hg0 : g 0 = btL (48 + a)) (rest : va_W) : zMi G l yJ18_parseInt_2 cJ18_parseInt_2 10 (some .int) 4 0 0 [.ref sr, .int (nI 10)] ((sr, zo 12 [.ref sv, .int (nI 0), .int 0, .int 0]) :: (sv, zc G 1 (zI 1 g)) :: rest) (fun (r : Int32) (_ : Unit) => r = nI a) (fun (_ : Unit) => (sr, zo 12 [.ref sv, .int (nI 0), .int 0, .int 0]) :: (sv, zc G 1 (zI 1 g)) :: rest) := by
  refine z_begI (by decide) (Nat.le_of_ble_eq_true rfl) (fun p e s m args below meth c ls Q hC hl hw hend => ?_)
  have hx := hC.hx
  have hb := hC.hb
  have hl : lv_has ls 10 [(0, .ref sr), (1, .int (nI 10))] := hl
  have hw : zS G ((sr, zo 12 [.ref sv, .int (nI 0), .int 0, .int 0]) :: (sv, zc G 1 (zI 1 g)) :: rest) s s.heap [] := hw
  have hz := hG s hC.hZ.1
  have hzs := hS s hC.hZ.1
  refine lv_aload_n hx hb dJ18_parseInt_2_0 rfl (lv_at hl 0 rfl) ?_
  refine lv_ifnonnull (tgt := 14) hx hb dJ18_parseInt_2_1 (by decide) ?_
  refine lv_iload_n hx hb dJ18_parseInt_2_14 rfl (lv_at hl 1 rfl) ?_
  refine lv_iconst (v := (nI 2)) hx hb dJ18_parseInt_2_15 zk_2 ?_
  refine zi_ge (tgt := 51) hx hb (by decide) (by decide) dJ18_parseInt_2_16 (by decide) (fun _ => ?_) (fun h => absurd h (by decide))
  refine lv_iload_n hx hb dJ18_parseInt_2_51 rfl (lv_at hl 1 rfl) ?_
  refine lv_bipush (v := (nI 36)) hx hb dJ18_parseInt_2_52 zb_36 ?_
  refine zi_le (tgt := 89) hx hb (by decide) (by decide) dJ18_parseInt_2_54 (by decide) (fun _ => ?_) (fun h => absurd h (by decide))
  refine lv_iconst (v := (nI 0)) hx hb dJ18_parseInt_2_89 zk_0 ?_
  refine lv_istore_n (lv' := [(2, .int (nI 0)), (0, .ref sr), (1, .int (nI 10))]) hx hb dJ18_parseInt_2_90 rfl hl (by decide) rfl (fun ls hl => ?_)
  refine lv_iconst (v := (nI 0)) hx hb dJ18_parseInt_2_91 zk_0 ?_
  refine lv_istore_n (lv' := [(3, .int (nI 0)), (2, .int (nI 0)), (0, .ref sr), (1, .int (nI 10))]) hx hb dJ18_parseInt_2_92 rfl hl (by decide) rfl (fun ls hl => ?_)
  refine lv_aload_n hx hb dJ18_parseInt_2_93 rfl (lv_at hl 2 rfl) ?_
  refine z_ci (z_runV (As := []) (rest := []) hC zv_J18_118 (m_J3_length G l kA (by first | assumption | (omega)) sr sv 1 g (by decide) (zrem [0, 1] _)) hw (hw.perm (z_cut (is := [0, 1]) (cells := [(sr, zo 12 [.ref sv, .int (nI 0), .int 0, .int 0]), (sv, zc G 1 (zI 1 g))]) rfl rfl)) 0 rfl rfl rfl rfl rfl (Nat.le_of_ble_eq_true rfl) hl.1 ⟨Nat.le_of_ble_eq_true rfl, Nat.le_of_ble_eq_true rfl⟩ ⟨(Nat.le_of_ble_eq_true rfl), (Nat.le_of_ble_eq_true rfl)⟩ dJ18_parseInt_2_94) hw (fun _ => z_keep (is := [0, 1]) (cs := [(sr, zo 12 [.ref sv, .int (nI 0), .int 0, .int 0]), (sv, zc G 1 (zI 1 g))]) rfl rfl) (fun r u H locs hp hw => ?_)
  obtain rfl : r = nI 1 := hp
  refine lv_istore (lv' := [(4, .int (nI 1)), (3, .int (nI 0)), (2, .int (nI 0)), (0, .ref sr), (1, .int (nI 10))]) hx hb dJ18_parseInt_2_97 hl (by decide) rfl (fun ls hl => ?_)
  refine lv_ldc (v := (-2147483647)) hx hb hC.hown (hC.hts _ q711) dJ18_parseInt_2_99 ?_
  refine lv_istore (lv' := [(5, .int (-2147483647)), (4, .int (nI 1)), (3, .int (nI 0)), (2, .int (nI 0)), (0, .ref sr), (1, .int (nI 10))]) hx hb dJ18_parseInt_2_101 hl (by decide) rfl (fun ls hl => ?_)
  refine lv_iload hx hb dJ18_parseInt_2_103 (lv_at hl 1 rfl) ?_
  refine zj_le (tgt := 258) hx hb (by decide) dJ18_parseInt_2_105 (by decide) (fun h => absurd h (by decide)) (fun _ => ?_)
  refine lv_aload_n hx hb dJ18_parseInt_2_108 rfl (lv_at hl 4 rfl) ?_
  refine lv_iconst (v := (nI 0)) hx hb dJ18_parseInt_2_109 zk_0 ?_
  refine z_ci (z_runV (As := [.int (nI 0)]) (rest := []) hC zv_J18_123 (m_J3_charAt G l kA (by first | assumption | (omega)) (by first | assumption | (omega)) sr sv 1 g 0 (48 + a) (by decide) (by decide) (by omega) hg0 (zrem [0, 1] _)) hw (hw.perm (z_cut (is := [0, 1]) (cells := [(sr, zo 12 [.ref sv, .int (nI 0), .int 0, .int 0]), (sv, zc G 1 (zI 1 g))]) rfl rfl)) 0 rfl rfl rfl rfl rfl (Nat.le_of_ble_eq_true rfl) hl.1 ⟨Nat.le_of_ble_eq_true rfl, Nat.le_of_ble_eq_true rfl⟩ ⟨(Nat.le_of_ble_eq_true rfl), (Nat.le_of_ble_eq_true rfl)⟩ dJ18_parseInt_2_110) hw (fun _ => z_keep (is := [0, 1]) (cs := [(sr, zo 12 [.ref sv, .int (nI 0), .int 0, .int 0]), (sv, zc G 1 (zI 1 g))]) rfl rfl) (fun r u H locs hp hw => ?_)
  obtain rfl : r = nI (48 + a) := hp
  refine lv_istore (lv' := [(6, .int (nI (48 + a))), (5, .int (-2147483647)), (4, .int (nI 1)), (3, .int (nI 0)), (2, .int (nI 0)), (0, .ref sr), (1, .int (nI 10))]) hx hb dJ18_parseInt_2_113 hl (by decide) rfl (fun ls hl => ?_)
  refine lv_iload hx hb dJ18_parseInt_2_115 (lv_at hl 0 rfl) ?_
  refine lv_bipush (v := (nI 48)) hx hb dJ18_parseInt_2_117 zb_48 ?_
  refine zi_ge (tgt := 166) hx hb (by omega) (by decide) dJ18_parseInt_2_119 (by decide) (fun _ => ?_) (fun h => absurd h (by omega))
  refine lv_iload hx hb dJ18_parseInt_2_166 (lv_at hl 1 rfl) ?_
  refine lv_iload_n hx hb dJ18_parseInt_2_168 rfl (lv_at hl 6 rfl) ?_
  refine zv_idiv (v := (-214748364)) hx hb ⟨by decide, by decide⟩ dJ18_parseInt_2_169 ?_
  refine lv_istore (lv' := [(7, .int (-214748364)), (6, .int (nI (48 + a))), (5, .int (-2147483647)), (4, .int (nI 1)), (3, .int (nI 0)), (2, .int (nI 0)), (0, .ref sr), (1, .int (nI 10))]) hx hb dJ18_parseInt_2_170 hl (by decide) rfl (fun ls hl => ?_)
  refine lv_iconst (v := (nI 0)) hx hb dJ18_parseInt_2_172 zk_0 ?_
  refine lv_istore (lv' := [(8, .int (nI 0)), (7, .int (-214748364)), (6, .int (nI (48 + a))), (5, .int (-2147483647)), (4, .int (nI 1)), (3, .int (nI 0)), (2, .int (nI 0)), (0, .ref sr), (1, .int (nI 10))]) hx hb dJ18_parseInt_2_173 hl (by decide) rfl (fun ls hl => ?_)
  refine lv_iload_n hx hb dJ18_parseInt_2_175 rfl (lv_at hl 5 rfl) ?_
  refine lv_iload hx hb dJ18_parseInt_2_176 (lv_at hl 4 rfl) ?_
  refine zi_ge (tgt := 245) hx hb (by decide) (by decide) dJ18_parseInt_2_178 (by decide) (fun h => absurd h (by decide)) (fun _ => ?_)
  refine lv_aload_n hx hb dJ18_parseInt_2_181 rfl (lv_at hl 7 rfl) ?_
  refine lv_iload_n hx hb dJ18_parseInt_2_182 rfl (lv_at hl 5 rfl) ?_
  refine lv_iinc (v := (nI 1)) (lv' := [(3, .int (nI 1)), (8, .int (nI 0)), (7, .int (-214748364)), (6, .int (nI (48 + a))), (5, .int (-2147483647)), (4, .int (nI 1)), (2, .int (nI 0)), (0, .ref sr), (1, .int (nI 10))]) hx hb dJ18_parseInt_2_183 hl (k := 5) rfl (zincn _ 1) (by decide) rfl (fun ls hl => ?_)
  refine z_ci (z_runV (As := [.int (nI 0)]) (rest := []) hC zv_J18_123 (m_J3_charAt G l kA (by first | assumption | (omega)) (by first | assumption | (omega)) sr sv 1 g 0 (48 + a) (by decide) (by decide) (by omega) hg0 (zrem [0, 1] _)) hw (hw.perm (z_cut (is := [0, 1]) (cells := [(sr, zo 12 [.ref sv, .int (nI 0), .int 0, .int 0]), (sv, zc G 1 (zI 1 g))]) rfl rfl)) 0 rfl rfl rfl rfl rfl (Nat.le_of_ble_eq_true rfl) hl.1 ⟨Nat.le_of_ble_eq_true rfl, Nat.le_of_ble_eq_true rfl⟩ ⟨(Nat.le_of_ble_eq_true rfl), (Nat.le_of_ble_eq_true rfl)⟩ dJ18_parseInt_2_186) hw (fun _ => z_keep (is := [0, 1]) (cs := [(sr, zo 12 [.ref sv, .int (nI 0), .int 0, .int 0]), (sv, zc G 1 (zI 1 g))]) rfl rfl) (fun r u H locs hp hw => ?_)
  obtain rfl : r = nI (48 + a) := hp
  refine lv_iload_n hx hb dJ18_parseInt_2_189 rfl (lv_at hl 8 rfl) ?_
  refine z_ci (z_runS (As := [.int (nI (48 + a)), .int (nI 10)]) (rest := []) hC zs_J18_132 (m_J19_digit G l kA (by first | assumption | (omega)) (by first | assumption | (omega)) a (by omega) _) hw rfl rfl (Nat.le_of_ble_eq_true rfl) hl.1 ⟨Nat.le_of_ble_eq_true rfl, Nat.le_of_ble_eq_true rfl⟩ ⟨(Nat.le_of_ble_eq_true rfl), (Nat.le_of_ble_eq_true rfl)⟩ dJ18_parseInt_2_190) hw (fun _ => List.Perm.refl _) (fun r u H locs hp hw => ?_)
  obtain rfl : r = nI a := hp
  refine lv_istore (lv' := [(9, .int (nI a)), (3, .int (nI 1)), (8, .int (nI 0)), (7, .int (-214748364)), (6, .int (nI (48 + a))), (5, .int (-2147483647)), (4, .int (nI 1)), (2, .int (nI 0)), (0, .ref sr), (1, .int (nI 10))]) hx hb dJ18_parseInt_2_193 hl (by decide) rfl (fun ls hl => ?_)
  refine lv_iload hx hb dJ18_parseInt_2_195 (lv_at hl 0 rfl) ?_
  refine zj_lt (tgt := 207) hx hb (by omega) dJ18_parseInt_2_197 (by decide) ?_
  refine lv_iload hx hb dJ18_parseInt_2_200 (lv_at hl 2 rfl) ?_
  refine lv_iload hx hb dJ18_parseInt_2_202 (lv_at hl 3 rfl) ?_
  refine lv_icmp_ge (tgt := 213) hx hb dJ18_parseInt_2_204 (by decide) (fun _ => ?_) (fun h => absurd (by decide : ¬ (nI 0 < -214748364)) (fun q => h (Int32.not_lt.mp q)))
  refine lv_iload hx hb dJ18_parseInt_2_213 (lv_at hl 2 rfl) ?_
  refine lv_iload_n hx hb dJ18_parseInt_2_215 rfl (lv_at hl 9 rfl) ?_
  refine zn_imul hx hb dJ18_parseInt_2_216 ?_
  refine lv_istore (lv' := [(8, .int (nI 0)), (9, .int (nI a)), (3, .int (nI 1)), (7, .int (-214748364)), (6, .int (nI (48 + a))), (5, .int (-2147483647)), (4, .int (nI 1)), (2, .int (nI 0)), (0, .ref sr), (1, .int (nI 10))]) hx hb dJ18_parseInt_2_217 hl (by decide) rfl (fun ls hl => ?_)
  refine lv_iload hx hb dJ18_parseInt_2_219 (lv_at hl 0 rfl) ?_
  refine lv_iload hx hb dJ18_parseInt_2_221 (lv_at hl 5 rfl) ?_
  refine lv_iload hx hb dJ18_parseInt_2_223 (lv_at hl 1 rfl) ?_
  refine lv_iadd hx hb dJ18_parseInt_2_225 ?_
  refine lv_icmp_ge (tgt := 235) hx hb dJ18_parseInt_2_226 (by decide) (fun _ => ?_) (fun h => absurd (Int32.not_lt.mp (pi_lim ha)) h)
  refine lv_iload hx hb dJ18_parseInt_2_235 (lv_at hl 0 rfl) ?_
  refine lv_iload hx hb dJ18_parseInt_2_237 (lv_at hl 1 rfl) ?_
  refine zv_isub (v := (nI 0 - nI a)) hx hb rfl dJ18_parseInt_2_239 ?_
  refine lv_istore (lv' := [(8, .int (nI 0 - nI a)), (9, .int (nI a)), (3, .int (nI 1)), (7, .int (-214748364)), (6, .int (nI (48 + a))), (5, .int (-2147483647)), (4, .int (nI 1)), (2, .int (nI 0)), (0, .ref sr), (1, .int (nI 10))]) hx hb dJ18_parseInt_2_240 hl (by decide) rfl (fun ls hl => ?_)
  refine lv_goto (tgt := 175) hx hb dJ18_parseInt_2_242 (by decide) ?_
  refine lv_iload_n hx hb dJ18_parseInt_2_175 rfl (lv_at hl 2 rfl) ?_
  refine lv_iload hx hb dJ18_parseInt_2_176 (lv_at hl 6 rfl) ?_
  refine zi_ge (tgt := 245) hx hb (by decide) (by decide) dJ18_parseInt_2_178 (by decide) (fun _ => ?_) (fun h => absurd h (by decide))
  refine lv_iload_n hx hb dJ18_parseInt_2_245 rfl (lv_at hl 7 rfl) ?_
  refine zj_eq (tgt := 254) hx hb (by decide) dJ18_parseInt_2_246 (by decide) (fun _ => ?_) (fun h => absurd h (by decide))
  refine lv_iload hx hb dJ18_parseInt_2_254 (lv_at hl 0 rfl) ?_
  refine zn_ineg (v := (nI a)) hx hb (pi_neg ha) dJ18_parseInt_2_256 ?_
  exact hend _ _ _ _ _ _ _ () hw rfl (Nat.le_of_ble_eq_true rfl) (Nat.le_of_ble_eq_true rfl) dJ18_parseInt_2_257
theorem zs_J18_156 : zSs RJ18 156 yJ18_parseInt_2 cJ18_parseInt_2 10 (some .int) 2 := ⟨lw_S q707 q708 q73 q709, ⟨by decide +kernel, by decide +kernel⟩, by decide +kernel⟩
set_option maxHeartbeats 4000000 in
theorem m_J18_parseInt_1 (G : zE) (l : Launch) (kA : Nat → Nat) (hG : zG G kA) (hS : zS9 G kA) (sr : Nat) (sv : Nat) (a : Nat) (g : Nat → Int32) (ha : a < 10) (hg0 : g 0 = btL (48 + a)) (rest : va_W) : zMi G l yJ18_parseInt cJ18_parseInt 1 (some .int) 5 0 0 [.ref sr] ((sr, zo 12 [.ref sv, .int (nI 0), .int 0, .int 0]) :: (sv, zc G 1 (zI 1 g)) :: rest) (fun (r : Int32) (_ : Unit) => r = nI a) (fun (_ : Unit) => (sr, zo 12 [.ref sv, .int (nI 0), .int 0, .int 0]) :: (sv, zc G 1 (zI 1 g)) :: rest) := by
  refine z_begI (by decide) (Nat.le_of_ble_eq_true rfl) (fun p e s m args below meth c ls Q hC hl hw hend => ?_)
  have hx := hC.hx
  have hb := hC.hb
  have hl : lv_has ls 1 [(0, .ref sr)] := hl
  have hw : zS G ((sr, zo 12 [.ref sv, .int (nI 0), .int 0, .int 0]) :: (sv, zc G 1 (zI 1 g)) :: rest) s s.heap [] := hw
  have hz := hG s hC.hZ.1
  have hzs := hS s hC.hZ.1
  refine lv_aload_n hx hb dJ18_parseInt_0 rfl (lv_at hl 0 rfl) ?_
  refine lv_bipush (v := (nI 10)) hx hb dJ18_parseInt_1 zb_10 ?_
  refine z_ci (z_runS (As := [.ref sr, .int (nI 10)]) (rest := []) hC zs_J18_156 (m_J18_parseInt_2_1 G l kA (by first | assumption | (omega)) (by first | assumption | (omega)) sr sv a g (by omega) (by omega) (zrem [0, 1] _)) (hw.perm (z_cut (is := [0, 1]) (cells := [(sr, zo 12 [.ref sv, .int (nI 0), .int 0, .int 0]), (sv, zc G 1 (zI 1 g))]) rfl rfl)) rfl rfl (Nat.le_of_ble_eq_true rfl) hl.1 ⟨Nat.le_of_ble_eq_true rfl, Nat.le_of_ble_eq_true rfl⟩ ⟨(Nat.le_of_ble_eq_true rfl), (Nat.le_of_ble_eq_true rfl)⟩ dJ18_parseInt_3) hw (fun _ => z_keep (is := [0, 1]) (cs := [(sr, zo 12 [.ref sv, .int (nI 0), .int 0, .int 0]), (sv, zc G 1 (zI 1 g))]) rfl rfl) (fun r u H locs hp hw => ?_)
  obtain rfl : r = nI a := hp
  exact hend _ _ _ _ _ _ _ () hw (by first | rfl | simp_all) (Nat.le_of_ble_eq_true rfl) (Nat.le_of_ble_eq_true rfl) dJ18_parseInt_6
set_option maxHeartbeats 4000000 in
theorem m_J18_parseInt_2_2 (G : zE) (l : Launch) (kA : Nat → Nat) (hG : zG G kA) (hS : zS9 G kA) (sr : Nat) (sv : Nat) (a : Nat) (b : Nat) (g : Nat → Int32) (ha : a < 10) (hg0 : g 0 = btL (48 + a)) (hb9 : b < 10) (hg1 : g 1 = btL (48 + b)) (rest : va_W) : zMi G l yJ18_parseInt_2 cJ18_parseInt_2 10 (some .int) 4 0 0 [.ref sr, .int (nI 10)] ((sr, zo 12 [.ref sv, .int (nI 0), .int 0, .int 0]) :: (sv, zc G 1 (zI 2 g)) :: rest) (fun (r : Int32) (_ : Unit) => r = nI (10 * a + b)) (fun (_ : Unit) => (sr, zo 12 [.ref sv, .int (nI 0), .int 0, .int 0]) :: (sv, zc G 1 (zI 2 g)) :: rest) := by
  refine z_begI (by decide) (Nat.le_of_ble_eq_true rfl) (fun p e s m args below meth c ls Q hC hl hw hend => ?_)
  have hx := hC.hx
  have hb := hC.hb
  have hl : lv_has ls 10 [(0, .ref sr), (1, .int (nI 10))] := hl
  have hw : zS G ((sr, zo 12 [.ref sv, .int (nI 0), .int 0, .int 0]) :: (sv, zc G 1 (zI 2 g)) :: rest) s s.heap [] := hw
  have hz := hG s hC.hZ.1
  have hzs := hS s hC.hZ.1
  refine lv_aload_n hx hb dJ18_parseInt_2_0 rfl (lv_at hl 0 rfl) ?_
  refine lv_ifnonnull (tgt := 14) hx hb dJ18_parseInt_2_1 (by decide) ?_
  refine lv_iload_n hx hb dJ18_parseInt_2_14 rfl (lv_at hl 1 rfl) ?_
  refine lv_iconst (v := (nI 2)) hx hb dJ18_parseInt_2_15 zk_2 ?_
  refine zi_ge (tgt := 51) hx hb (by decide) (by decide) dJ18_parseInt_2_16 (by decide) (fun _ => ?_) (fun h => absurd h (by decide))
  refine lv_iload_n hx hb dJ18_parseInt_2_51 rfl (lv_at hl 1 rfl) ?_
  refine lv_bipush (v := (nI 36)) hx hb dJ18_parseInt_2_52 zb_36 ?_
  refine zi_le (tgt := 89) hx hb (by decide) (by decide) dJ18_parseInt_2_54 (by decide) (fun _ => ?_) (fun h => absurd h (by decide))
  refine lv_iconst (v := (nI 0)) hx hb dJ18_parseInt_2_89 zk_0 ?_
  refine lv_istore_n (lv' := [(2, .int (nI 0)), (0, .ref sr), (1, .int (nI 10))]) hx hb dJ18_parseInt_2_90 rfl hl (by decide) rfl (fun ls hl => ?_)
  refine lv_iconst (v := (nI 0)) hx hb dJ18_parseInt_2_91 zk_0 ?_
  refine lv_istore_n (lv' := [(3, .int (nI 0)), (2, .int (nI 0)), (0, .ref sr), (1, .int (nI 10))]) hx hb dJ18_parseInt_2_92 rfl hl (by decide) rfl (fun ls hl => ?_)
  refine lv_aload_n hx hb dJ18_parseInt_2_93 rfl (lv_at hl 2 rfl) ?_
  refine z_ci (z_runV (As := []) (rest := []) hC zv_J18_118 (m_J3_length G l kA (by first | assumption | (omega)) sr sv 2 g (by decide) (zrem [0, 1] _)) hw (hw.perm (z_cut (is := [0, 1]) (cells := [(sr, zo 12 [.ref sv, .int (nI 0), .int 0, .int 0]), (sv, zc G 1 (zI 2 g))]) rfl rfl)) 0 rfl rfl rfl rfl rfl (Nat.le_of_ble_eq_true rfl) hl.1 ⟨Nat.le_of_ble_eq_true rfl, Nat.le_of_ble_eq_true rfl⟩ ⟨(Nat.le_of_ble_eq_true rfl), (Nat.le_of_ble_eq_true rfl)⟩ dJ18_parseInt_2_94) hw (fun _ => z_keep (is := [0, 1]) (cs := [(sr, zo 12 [.ref sv, .int (nI 0), .int 0, .int 0]), (sv, zc G 1 (zI 2 g))]) rfl rfl) (fun r u H locs hp hw => ?_)
  obtain rfl : r = nI 2 := hp
  refine lv_istore (lv' := [(4, .int (nI 2)), (3, .int (nI 0)), (2, .int (nI 0)), (0, .ref sr), (1, .int (nI 10))]) hx hb dJ18_parseInt_2_97 hl (by decide) rfl (fun ls hl => ?_)
  refine lv_ldc (v := (-2147483647)) hx hb hC.hown (hC.hts _ q711) dJ18_parseInt_2_99 ?_
  refine lv_istore (lv' := [(5, .int (-2147483647)), (4, .int (nI 2)), (3, .int (nI 0)), (2, .int (nI 0)), (0, .ref sr), (1, .int (nI 10))]) hx hb dJ18_parseInt_2_101 hl (by decide) rfl (fun ls hl => ?_)
  refine lv_iload hx hb dJ18_parseInt_2_103 (lv_at hl 1 rfl) ?_
  refine zj_le (tgt := 258) hx hb (by decide) dJ18_parseInt_2_105 (by decide) (fun h => absurd h (by decide)) (fun _ => ?_)
  refine lv_aload_n hx hb dJ18_parseInt_2_108 rfl (lv_at hl 4 rfl) ?_
  refine lv_iconst (v := (nI 0)) hx hb dJ18_parseInt_2_109 zk_0 ?_
  refine z_ci (z_runV (As := [.int (nI 0)]) (rest := []) hC zv_J18_123 (m_J3_charAt G l kA (by first | assumption | (omega)) (by first | assumption | (omega)) sr sv 2 g 0 (48 + a) (by decide) (by decide) (by omega) hg0 (zrem [0, 1] _)) hw (hw.perm (z_cut (is := [0, 1]) (cells := [(sr, zo 12 [.ref sv, .int (nI 0), .int 0, .int 0]), (sv, zc G 1 (zI 2 g))]) rfl rfl)) 0 rfl rfl rfl rfl rfl (Nat.le_of_ble_eq_true rfl) hl.1 ⟨Nat.le_of_ble_eq_true rfl, Nat.le_of_ble_eq_true rfl⟩ ⟨(Nat.le_of_ble_eq_true rfl), (Nat.le_of_ble_eq_true rfl)⟩ dJ18_parseInt_2_110) hw (fun _ => z_keep (is := [0, 1]) (cs := [(sr, zo 12 [.ref sv, .int (nI 0), .int 0, .int 0]), (sv, zc G 1 (zI 2 g))]) rfl rfl) (fun r u H locs hp hw => ?_)
  obtain rfl : r = nI (48 + a) := hp
  refine lv_istore (lv' := [(6, .int (nI (48 + a))), (5, .int (-2147483647)), (4, .int (nI 2)), (3, .int (nI 0)), (2, .int (nI 0)), (0, .ref sr), (1, .int (nI 10))]) hx hb dJ18_parseInt_2_113 hl (by decide) rfl (fun ls hl => ?_)
  refine lv_iload hx hb dJ18_parseInt_2_115 (lv_at hl 0 rfl) ?_
  refine lv_bipush (v := (nI 48)) hx hb dJ18_parseInt_2_117 zb_48 ?_
  refine zi_ge (tgt := 166) hx hb (by omega) (by decide) dJ18_parseInt_2_119 (by decide) (fun _ => ?_) (fun h => absurd h (by omega))
  refine lv_iload hx hb dJ18_parseInt_2_166 (lv_at hl 1 rfl) ?_
  refine lv_iload_n hx hb dJ18_parseInt_2_168 rfl (lv_at hl 6 rfl) ?_
  refine zv_idiv (v := (-214748364)) hx hb ⟨by decide, by decide⟩ dJ18_parseInt_2_169 ?_
  refine lv_istore (lv' := [(7, .int (-214748364)), (6, .int (nI (48 + a))), (5, .int (-2147483647)), (4, .int (nI 2)), (3, .int (nI 0)), (2, .int (nI 0)), (0, .ref sr), (1, .int (nI 10))]) hx hb dJ18_parseInt_2_170 hl (by decide) rfl (fun ls hl => ?_)
  refine lv_iconst (v := (nI 0)) hx hb dJ18_parseInt_2_172 zk_0 ?_
  refine lv_istore (lv' := [(8, .int (nI 0)), (7, .int (-214748364)), (6, .int (nI (48 + a))), (5, .int (-2147483647)), (4, .int (nI 2)), (3, .int (nI 0)), (2, .int (nI 0)), (0, .ref sr), (1, .int (nI 10))]) hx hb dJ18_parseInt_2_173 hl (by decide) rfl (fun ls hl => ?_)
  refine lv_iload_n hx hb dJ18_parseInt_2_175 rfl (lv_at hl 5 rfl) ?_
  refine lv_iload hx hb dJ18_parseInt_2_176 (lv_at hl 4 rfl) ?_
  refine zi_ge (tgt := 245) hx hb (by decide) (by decide) dJ18_parseInt_2_178 (by decide) (fun h => absurd h (by decide)) (fun _ => ?_)
  refine lv_aload_n hx hb dJ18_parseInt_2_181 rfl (lv_at hl 7 rfl) ?_
  refine lv_iload_n hx hb dJ18_parseInt_2_182 rfl (lv_at hl 5 rfl) ?_
  refine lv_iinc (v := (nI 1)) (lv' := [(3, .int (nI 1)), (8, .int (nI 0)), (7, .int (-214748364)), (6, .int (nI (48 + a))), (5, .int (-2147483647)), (4, .int (nI 2)), (2, .int (nI 0)), (0, .ref sr), (1, .int (nI 10))]) hx hb dJ18_parseInt_2_183 hl (k := 5) rfl (zincn _ 1) (by decide) rfl (fun ls hl => ?_)
  refine z_ci (z_runV (As := [.int (nI 0)]) (rest := []) hC zv_J18_123 (m_J3_charAt G l kA (by first | assumption | (omega)) (by first | assumption | (omega)) sr sv 2 g 0 (48 + a) (by decide) (by decide) (by omega) hg0 (zrem [0, 1] _)) hw (hw.perm (z_cut (is := [0, 1]) (cells := [(sr, zo 12 [.ref sv, .int (nI 0), .int 0, .int 0]), (sv, zc G 1 (zI 2 g))]) rfl rfl)) 0 rfl rfl rfl rfl rfl (Nat.le_of_ble_eq_true rfl) hl.1 ⟨Nat.le_of_ble_eq_true rfl, Nat.le_of_ble_eq_true rfl⟩ ⟨(Nat.le_of_ble_eq_true rfl), (Nat.le_of_ble_eq_true rfl)⟩ dJ18_parseInt_2_186) hw (fun _ => z_keep (is := [0, 1]) (cs := [(sr, zo 12 [.ref sv, .int (nI 0), .int 0, .int 0]), (sv, zc G 1 (zI 2 g))]) rfl rfl) (fun r u H locs hp hw => ?_)
  obtain rfl : r = nI (48 + a) := hp
  refine lv_iload_n hx hb dJ18_parseInt_2_189 rfl (lv_at hl 8 rfl) ?_
  refine z_ci (z_runS (As := [.int (nI (48 + a)), .int (nI 10)]) (rest := []) hC zs_J18_132 (m_J19_digit G l kA (by first | assumption | (omega)) (by first | assumption | (omega)) a (by omega) _) hw rfl rfl (Nat.le_of_ble_eq_true rfl) hl.1 ⟨Nat.le_of_ble_eq_true rfl, Nat.le_of_ble_eq_true rfl⟩ ⟨(Nat.le_of_ble_eq_true rfl), (Nat.le_of_ble_eq_true rfl)⟩ dJ18_parseInt_2_190) hw (fun _ => List.Perm.refl _) (fun r u H locs hp hw => ?_)
  obtain rfl : r = nI a := hp
  refine lv_istore (lv' := [(9, .int (nI a)), (3, .int (nI 1)), (8, .int (nI 0)), (7, .int (-214748364)), (6, .int (nI (48 + a))), (5, .int (-2147483647)), (4, .int (nI 2)), (2, .int (nI 0)), (0, .ref sr), (1, .int (nI 10))]) hx hb dJ18_parseInt_2_193 hl (by decide) rfl (fun ls hl => ?_)
  refine lv_iload hx hb dJ18_parseInt_2_195 (lv_at hl 0 rfl) ?_
  refine zj_lt (tgt := 207) hx hb (by omega) dJ18_parseInt_2_197 (by decide) ?_
  refine lv_iload hx hb dJ18_parseInt_2_200 (lv_at hl 2 rfl) ?_
  refine lv_iload hx hb dJ18_parseInt_2_202 (lv_at hl 3 rfl) ?_
  refine lv_icmp_ge (tgt := 213) hx hb dJ18_parseInt_2_204 (by decide) (fun _ => ?_) (fun h => absurd (by decide : ¬ (nI 0 < -214748364)) (fun q => h (Int32.not_lt.mp q)))
  refine lv_iload hx hb dJ18_parseInt_2_213 (lv_at hl 2 rfl) ?_
  refine lv_iload_n hx hb dJ18_parseInt_2_215 rfl (lv_at hl 9 rfl) ?_
  refine zn_imul hx hb dJ18_parseInt_2_216 ?_
  refine lv_istore (lv' := [(8, .int (nI 0)), (9, .int (nI a)), (3, .int (nI 1)), (7, .int (-214748364)), (6, .int (nI (48 + a))), (5, .int (-2147483647)), (4, .int (nI 2)), (2, .int (nI 0)), (0, .ref sr), (1, .int (nI 10))]) hx hb dJ18_parseInt_2_217 hl (by decide) rfl (fun ls hl => ?_)
  refine lv_iload hx hb dJ18_parseInt_2_219 (lv_at hl 0 rfl) ?_
  refine lv_iload hx hb dJ18_parseInt_2_221 (lv_at hl 5 rfl) ?_
  refine lv_iload hx hb dJ18_parseInt_2_223 (lv_at hl 1 rfl) ?_
  refine lv_iadd hx hb dJ18_parseInt_2_225 ?_
  refine lv_icmp_ge (tgt := 235) hx hb dJ18_parseInt_2_226 (by decide) (fun _ => ?_) (fun h => absurd (Int32.not_lt.mp (pi_lim ha)) h)
  refine lv_iload hx hb dJ18_parseInt_2_235 (lv_at hl 0 rfl) ?_
  refine lv_iload hx hb dJ18_parseInt_2_237 (lv_at hl 1 rfl) ?_
  refine zv_isub (v := (nI 0 - nI a)) hx hb rfl dJ18_parseInt_2_239 ?_
  refine lv_istore (lv' := [(8, .int (nI 0 - nI a)), (9, .int (nI a)), (3, .int (nI 1)), (7, .int (-214748364)), (6, .int (nI (48 + a))), (5, .int (-2147483647)), (4, .int (nI 2)), (2, .int (nI 0)), (0, .ref sr), (1, .int (nI 10))]) hx hb dJ18_parseInt_2_240 hl (by decide) rfl (fun ls hl => ?_)
  refine lv_goto (tgt := 175) hx hb dJ18_parseInt_2_242 (by decide) ?_
  refine lv_iload_n hx hb dJ18_parseInt_2_175 rfl (lv_at hl 2 rfl) ?_
  refine lv_iload hx hb dJ18_parseInt_2_176 (lv_at hl 6 rfl) ?_
  refine zi_ge (tgt := 245) hx hb (by decide) (by decide) dJ18_parseInt_2_178 (by decide) (fun h => absurd h (by decide)) (fun _ => ?_)
  refine lv_aload_n hx hb dJ18_parseInt_2_181 rfl (lv_at hl 8 rfl) ?_
  refine lv_iload_n hx hb dJ18_parseInt_2_182 rfl (lv_at hl 2 rfl) ?_
  refine lv_iinc (v := (nI 2)) (lv' := [(3, .int (nI 2)), (8, .int (nI 0 - nI a)), (9, .int (nI a)), (7, .int (-214748364)), (6, .int (nI (48 + a))), (5, .int (-2147483647)), (4, .int (nI 2)), (2, .int (nI 0)), (0, .ref sr), (1, .int (nI 10))]) hx hb dJ18_parseInt_2_183 hl (k := 2) rfl (zincn _ 1) (by decide) rfl (fun ls hl => ?_)
  refine z_ci (z_runV (As := [.int (nI 1)]) (rest := []) hC zv_J18_123 (m_J3_charAt G l kA (by first | assumption | (omega)) (by first | assumption | (omega)) sr sv 2 g 1 (48 + b) (by decide) (by decide) (by omega) hg1 (zrem [0, 1] _)) hw (hw.perm (z_cut (is := [0, 1]) (cells := [(sr, zo 12 [.ref sv, .int (nI 0), .int 0, .int 0]), (sv, zc G 1 (zI 2 g))]) rfl rfl)) 0 rfl rfl rfl rfl rfl (Nat.le_of_ble_eq_true rfl) hl.1 ⟨Nat.le_of_ble_eq_true rfl, Nat.le_of_ble_eq_true rfl⟩ ⟨(Nat.le_of_ble_eq_true rfl), (Nat.le_of_ble_eq_true rfl)⟩ dJ18_parseInt_2_186) hw (fun _ => z_keep (is := [0, 1]) (cs := [(sr, zo 12 [.ref sv, .int (nI 0), .int 0, .int 0]), (sv, zc G 1 (zI 2 g))]) rfl rfl) (fun r u H locs hp hw => ?_)
  obtain rfl : r = nI (48 + b) := hp
  refine lv_iload_n hx hb dJ18_parseInt_2_189 rfl (lv_at hl 9 rfl) ?_
  refine z_ci (z_runS (As := [.int (nI (48 + b)), .int (nI 10)]) (rest := []) hC zs_J18_132 (m_J19_digit G l kA (by first | assumption | (omega)) (by first | assumption | (omega)) b (by omega) _) hw rfl rfl (Nat.le_of_ble_eq_true rfl) hl.1 ⟨Nat.le_of_ble_eq_true rfl, Nat.le_of_ble_eq_true rfl⟩ ⟨(Nat.le_of_ble_eq_true rfl), (Nat.le_of_ble_eq_true rfl)⟩ dJ18_parseInt_2_190) hw (fun _ => List.Perm.refl _) (fun r u H locs hp hw => ?_)
  obtain rfl : r = nI b := hp
  refine lv_istore (lv' := [(9, .int (nI b)), (3, .int (nI 2)), (8, .int (nI 0 - nI a)), (7, .int (-214748364)), (6, .int (nI (48 + a))), (5, .int (-2147483647)), (4, .int (nI 2)), (2, .int (nI 0)), (0, .ref sr), (1, .int (nI 10))]) hx hb dJ18_parseInt_2_193 hl (by decide) rfl (fun ls hl => ?_)
  refine lv_iload hx hb dJ18_parseInt_2_195 (lv_at hl 0 rfl) ?_
  refine zj_lt (tgt := 207) hx hb (by omega) dJ18_parseInt_2_197 (by decide) ?_
  refine lv_iload hx hb dJ18_parseInt_2_200 (lv_at hl 2 rfl) ?_
  refine lv_iload hx hb dJ18_parseInt_2_202 (lv_at hl 3 rfl) ?_
  refine lv_icmp_ge (tgt := 213) hx hb dJ18_parseInt_2_204 (by decide) (fun _ => ?_) (fun h => absurd (Int32.not_lt.mp (pi_mul ha)) h)
  refine lv_iload hx hb dJ18_parseInt_2_213 (lv_at hl 2 rfl) ?_
  refine lv_iload_n hx hb dJ18_parseInt_2_215 rfl (lv_at hl 9 rfl) ?_
  refine lv_imul hx hb dJ18_parseInt_2_216 ?_
  refine lv_istore (lv' := [(8, .int ((nI 0 - nI a) * (nI 10))), (9, .int (nI b)), (3, .int (nI 2)), (7, .int (-214748364)), (6, .int (nI (48 + a))), (5, .int (-2147483647)), (4, .int (nI 2)), (2, .int (nI 0)), (0, .ref sr), (1, .int (nI 10))]) hx hb dJ18_parseInt_2_217 hl (by decide) rfl (fun ls hl => ?_)
  refine lv_iload hx hb dJ18_parseInt_2_219 (lv_at hl 0 rfl) ?_
  refine lv_iload hx hb dJ18_parseInt_2_221 (lv_at hl 5 rfl) ?_
  refine lv_iload hx hb dJ18_parseInt_2_223 (lv_at hl 1 rfl) ?_
  refine lv_iadd hx hb dJ18_parseInt_2_225 ?_
  refine lv_icmp_ge (tgt := 235) hx hb dJ18_parseInt_2_226 (by decide) (fun _ => ?_) (fun h => absurd (Int32.not_lt.mp (pi_lim2 ha hb9)) h)
  refine lv_iload hx hb dJ18_parseInt_2_235 (lv_at hl 0 rfl) ?_
  refine lv_iload hx hb dJ18_parseInt_2_237 (lv_at hl 1 rfl) ?_
  refine zv_isub (v := ((nI 0 - nI a) * nI 10 - nI b)) hx hb rfl dJ18_parseInt_2_239 ?_
  refine lv_istore (lv' := [(8, .int ((nI 0 - nI a) * nI 10 - nI b)), (9, .int (nI b)), (3, .int (nI 2)), (7, .int (-214748364)), (6, .int (nI (48 + a))), (5, .int (-2147483647)), (4, .int (nI 2)), (2, .int (nI 0)), (0, .ref sr), (1, .int (nI 10))]) hx hb dJ18_parseInt_2_240 hl (by decide) rfl (fun ls hl => ?_)
  refine lv_goto (tgt := 175) hx hb dJ18_parseInt_2_242 (by decide) ?_
  refine lv_iload_n hx hb dJ18_parseInt_2_175 rfl (lv_at hl 2 rfl) ?_
  refine lv_iload hx hb dJ18_parseInt_2_176 (lv_at hl 6 rfl) ?_
  refine zi_ge (tgt := 245) hx hb (by decide) (by decide) dJ18_parseInt_2_178 (by decide) (fun _ => ?_) (fun h => absurd h (by decide))
  refine lv_iload_n hx hb dJ18_parseInt_2_245 rfl (lv_at hl 7 rfl) ?_
  refine zj_eq (tgt := 254) hx hb (by decide) dJ18_parseInt_2_246 (by decide) (fun _ => ?_) (fun h => absurd h (by decide))
  refine lv_iload hx hb dJ18_parseInt_2_254 (lv_at hl 0 rfl) ?_
  refine zn_ineg (v := (nI (10 * a + b))) hx hb (pi_neg2 ha hb9) dJ18_parseInt_2_256 ?_
  exact hend _ _ _ _ _ _ _ () hw rfl (Nat.le_of_ble_eq_true rfl) (Nat.le_of_ble_eq_true rfl) dJ18_parseInt_2_257
set_option maxHeartbeats 4000000 in
theorem m_J18_parseInt_2 (G : zE) (l : Launch) (kA : Nat → Nat) (hG : zG G kA) (hS : zS9 G kA) (sr : Nat) (sv : Nat) (a : Nat) (b : Nat) (g : Nat → Int32) (ha : a < 10) (hg0 : g 0 = btL (48 + a)) (hb9 : b < 10) (hg1 : g 1 = btL (48 + b)) (rest : va_W) : zMi G l yJ18_parseInt cJ18_parseInt 1 (some .int) 5 0 0 [.ref sr] ((sr, zo 12 [.ref sv, .int (nI 0), .int 0, .int 0]) :: (sv, zc G 1 (zI 2 g)) :: rest) (fun (r : Int32) (_ : Unit) => r = nI (10 * a + b)) (fun (_ : Unit) => (sr, zo 12 [.ref sv, .int (nI 0), .int 0, .int 0]) :: (sv, zc G 1 (zI 2 g)) :: rest) := by
  refine z_begI (by decide) (Nat.le_of_ble_eq_true rfl) (fun p e s m args below meth c ls Q hC hl hw hend => ?_)
  have hx := hC.hx
  have hb := hC.hb
  have hl : lv_has ls 1 [(0, .ref sr)] := hl
  have hw : zS G ((sr, zo 12 [.ref sv, .int (nI 0), .int 0, .int 0]) :: (sv, zc G 1 (zI 2 g)) :: rest) s s.heap [] := hw
  have hz := hG s hC.hZ.1
  have hzs := hS s hC.hZ.1
  refine lv_aload_n hx hb dJ18_parseInt_0 rfl (lv_at hl 0 rfl) ?_
  refine lv_bipush (v := (nI 10)) hx hb dJ18_parseInt_1 zb_10 ?_
  refine z_ci (z_runS (As := [.ref sr, .int (nI 10)]) (rest := []) hC zs_J18_156 (m_J18_parseInt_2_2 G l kA (by first | assumption | (omega)) (by first | assumption | (omega)) sr sv a b g (by omega) (by omega) (by omega) (by omega) (zrem [0, 1] _)) (hw.perm (z_cut (is := [0, 1]) (cells := [(sr, zo 12 [.ref sv, .int (nI 0), .int 0, .int 0]), (sv, zc G 1 (zI 2 g))]) rfl rfl)) rfl rfl (Nat.le_of_ble_eq_true rfl) hl.1 ⟨Nat.le_of_ble_eq_true rfl, Nat.le_of_ble_eq_true rfl⟩ ⟨(Nat.le_of_ble_eq_true rfl), (Nat.le_of_ble_eq_true rfl)⟩ dJ18_parseInt_3) hw (fun _ => z_keep (is := [0, 1]) (cs := [(sr, zo 12 [.ref sv, .int (nI 0), .int 0, .int 0]), (sv, zc G 1 (zI 2 g))]) rfl rfl) (fun r u H locs hp hw => ?_)
  obtain rfl : r = nI (10 * a + b) := hp
  exact hend _ _ _ _ _ _ _ () hw (by first | rfl | simp_all) (Nat.le_of_ble_eq_true rfl) (Nat.le_of_ble_eq_true rfl) dJ18_parseInt_6
