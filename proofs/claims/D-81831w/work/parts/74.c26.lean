/-! TRAILS: cut -/
set_option maxRecDepth 100000
theorem cutL_len {α : Type} {l : List α} {p : Nat} (hp : p < l.length) : (cutL l p).length = l.length - 1 := by
  unfold cutL; rw [List.length_append, List.length_take, List.length_drop]; omega
theorem cutL_at {α : Type} {l : List α} {d : α} {p k : Nat} (hp : p < l.length) : (cutL l p).getD k d = if k < p then l.getD k d else l.getD (k + 1) d := by
  unfold cutL
  simp only [List.getD_eq_getElem?_getD]
  by_cases e : k < p
  · rw [if_pos e, List.getElem?_append_left (by rw [List.length_take]; omega), List.getElem?_take_of_lt e]
  · rw [if_neg e, List.getElem?_append_right (by rw [List.length_take]; omega), List.length_take, Nat.min_eq_left (by omega), List.getElem?_drop]
    congr 2; omega
/-- the things of a trail: objects and rows -/
def elsR (kA sq : Nat → Nat) (l : List (Nat × Int32)) (ef : Nat → Option Nat) (els : List (Nat × va_W)) : Prop := els.length = l.length ∧ ∀ k, k < l.length → isEl kA sq (l.getD k (0, 0)) (els.getD k (0, [])).1 (els.getD k (0, [])).2 ∧ ef k = some (els.getD k (0, [])).1
theorem elsR_cut {kA sq : Nat → Nat} {l : List (Nat × Int32)} {ef ef7 : Nat → Option Nat} {els : List (Nat × va_W)} {p : Nat} (hp : p < l.length) (h : elsR kA sq l ef els) (hd : ∀ j, j < l.length - 1 → ef7 j = delF ef p j) : elsR kA sq (cutL l p) ef7 (cutL els p) := by
  obtain ⟨h1, h2⟩ := h
  refine ⟨by rw [cutL_len hp, cutL_len (by omega), h1], fun k hk => ?_⟩
  rw [cutL_len hp] at hk
  rw [cutL_at hp, cutL_at (by omega), hd k hk]
  unfold delF
  by_cases e : k < p
  · rw [if_pos e, if_pos e, if_pos e]; exact h2 k (by omega)
  · rw [if_neg e, if_neg e, if_neg e]; exact h2 (k + 1) (by omega)
theorem slT_of {G : zE} {kA sq : Nat → Nat} {a lst it ed cap cu n : Nat} {l : List (Nat × Int32)} {c : Option Nat} {ef : Nat → Option Nat} {els : List (Nat × va_W)} {mq bk : Int32} {lr : Int32} (h : elsR kA sq l ef els) (hn : n = l.length) (h1 : l.length ≤ cap) (h2 : cap = 10 ∨ cap = 15) (h3 : ∀ p, c = some p → (bk = nI 1 ∧ p = cu) ∨ (bk = nI 0 ∧ p + 1 = cu)) (h4 : bk = nI 0 ∨ bk = nI 1) (h5 : lr = optI c) : slT G kA sq (some a) (some (l, cu, c)) ([(a, zo 10 [.ref lst, .ref it, .int bk]), (lst, zo 14 [.int mq, .ref ed, .int (nI n)]), (it, zo 15 [.int (nI cu), .int lr, .int mq, .ref lst, .ref lst]), (ed, zc G 4 (zO cap ef))] ++ elW els) := by
  subst hn; subst h5
  exact ⟨lst, it, ed, cap, ef, els, mq, bk, [(ed, zc G 4 (zO cap ef))], h.1, h.2, Or.inr ⟨rfl, h1, h2⟩, h3, h4, rfl⟩
theorem el_mem {els : List (Nat × va_W)} {k : Nat} (hk : k < els.length) : ∀ c ∈ (els.getD k (0, [])).2, c ∈ elW els := by
  intro c hc
  refine List.mem_flatMap.mpr ⟨_, ?_, hc⟩
  rw [List.getD_eq_getElem?_getD, List.getElem?_eq_getElem hk, Option.getD_some]
  exact List.getElem_mem hk
theorem ok_at {m : Nat} {l : List (Nat × Int32)} {k : Nat} (h : ∀ x ∈ l, okItem m x) (hk : k < l.length) : okItem m (l.getD k (0, 0)) := by
  rw [List.getD_eq_getElem?_getD, List.getElem?_eq_getElem hk, Option.getD_some]
  exact h _ (List.getElem_mem hk)
theorem els_ok {kA sq v : Nat → Nat} {l : List (Nat × Int32)} {ef : Nat → Option Nat} {els : List (Nat × va_W)} (h : elsR kA sq l ef els) (hok : ∀ x ∈ l, okItem (v 1) x) (hv5 : v 1 ≤ 5) (h5 : ∀ i, i < v 1 → v (21 + 5 * i) < 5) : ∀ j, j < l.length → ∀ y, ef j = some y → elOk kA (elW els ++ sqW sq v) y := by
  intro j hj y hy
  have h1 := h.2 j hj
  rw [h1.2] at hy
  cases hy
  exact el_ok h1.1 (ok_at hok hj) rfl hv5 h5 (el_mem (h.1 ▸ hj))
theorem bk_cut {cu p : Nat} {bk : Int32} (h : (bk = nI 1 ∧ p = cu) ∨ (bk = nI 0 ∧ p + 1 = cu)) : (if p < cu then cu - 1 else cu) = p := by
  rcases h with ⟨-, h⟩ | ⟨-, h⟩
  · rw [if_neg (by omega)]; exact h.symm
  · rw [if_pos (by omega)]; omega
theorem sT_id {A : AS} {t : Nat} {o : Option TR} (h : aTr A t = o) : sT A t o = A := by
  subst h
  show mkA (aT A) (aL A) (aV0 A) (aV A) (aU A) (aUs A) (aK A) (aS A) (aSg A) (va_up (aTr A) t (aTr A t)) = A
  rw [va_up_id]; rfl
theorem zv_X0_332 : zVs RX0 332 yX11_cut cX11_cut 1 (some .int) 0 := ⟨lw_V q1724 q1725 q1726 q84 q1727, ⟨by decide +kernel, by decide +kernel⟩, by decide +kernel⟩
set_option maxHeartbeats 4000000 in
theorem m_X0_cut (G : zE) (l : Launch) (kA : Nat → Nat) (hG : zG G kA) (hV : zV G kA) (hY : zY G) (hlt : l.stackTraces = false) (co : Nat) (w : Nat → Nat) (mn : Int32) (bm : Int32) (sm : Int32) (lt : Int32) (A : AS) (tf : Nat → Option Nat) (ts : Nat → va_W) (sq : Nat → Nat) (hA : AOk A) (hT : trR G kA A sq tf ts) (vq : Nat → Nat) (hvq : sqW sq vq = sqW sq (aV A)) (x : Int32) (rest : va_W) : zWi G l yX0_cut cX0_cut 3 (some .int) [(10, 19, 20, 216), (10, 19, 20, 273)] 263 1 8 [.ref co, .int x] ((co, zo 0 (cF w mn bm sm lt)) :: (w 7, zc G 6 (zO 3 tf)) :: (pw 3 ts ++ (sqW sq vq ++ rest))) (fun (r : Int32) u => r = (F_cut A x).1 ∧ trR G kA (F_cut A x).2 sq u.1 u.2) (fun (u : (Nat → Option Nat) × (Nat → va_W)) => (co, zo 0 (cF w mn bm sm lt)) :: (w 7, zc G 6 (zO 3 u.1)) :: (pw 3 u.2 ++ (sqW sq vq ++ rest))) := by
  refine z_begIW (by decide) (Nat.le_of_ble_eq_true rfl) (fun p e s m args below meth c ls Q hC htb hl hw hend => ?_)
  have hx := hC.hx
  have hb := hC.hb
  have hl : lv_has ls 3 [(0, .ref co), (1, .int x)] := hl
  have hw : zS G ((co, zo 0 (cF w mn bm sm lt)) :: (w 7, zc G 6 (zO 3 tf)) :: (pw 3 ts ++ (sqW sq vq ++ rest))) s s.heap [] := hw
  have hz := hG s hC.hZ.1
  have hzv := hV s hC.hZ.1
  have hzy := hY s hC.hZ.1
  refine lv_iload_n hx hb dX0_cut_0 rfl (lv_at hl 1 rfl) ?_
  refine z_ci (z_runS (As := [.int x]) (rest := []) hC zs_X0_275 (m_X0_isTrail G l x _) hw rfl rfl (Nat.le_of_ble_eq_true rfl) hl.1 ⟨Nat.le_of_ble_eq_true rfl, Nat.le_of_ble_eq_true rfl⟩ ⟨(Nat.le_of_ble_eq_true rfl), (Nat.le_of_ble_eq_true rfl)⟩ dX0_cut_1) hw (fun _ => List.Perm.refl _) (fun r u H locs hp hw => ?_)
  obtain rfl : r = bI (inR x 0 2) := hp
  refine zb_ne (tgt := 10) hx hb dX0_cut_4 (by decide) (fun c_4 => ?_) (fun c_4 => ?_)
  · skip
    obtain ⟨t, ht0, ht2, rfl⟩ := c_4
    have hl : lv_has ls 3 [(0, .ref co), (1, .int (nI t))] := hl
    have ht3 : t < 3 := by omega
    refine lv_aload_n hx hb dX0_cut_10 rfl (lv_at hl 0 rfl) ?_
    refine z_get (v := .ref (w 7)) hC zf_X0_57_0 hw 0 rfl rfl dX0_cut_11 ?_
    refine lv_iload_n hx hb dX0_cut_14 rfl (lv_at hl 1 rfl) ?_
    refine z_aald (x := va_rf (tf t)) (t := 6) hC hw 1 rfl (fun _ => rfl) (by omega) (by decide) rfl dX0_cut_15 ?_
    rcases tr_cases (hT t ht3) (hA.2.2.2.2.2.2 t ht3) with ⟨htf, hat, hxb⟩ | ⟨a, lst, it, mq, bk, htf, hat, hbk, hxb⟩ | ⟨a, l9, cu, (_ | p9), lst, it, ed, cap, ef, els, mq, bk, htf, hat, hle, hla, hcap, hcp2, hlc, hbk, hl12, hcl, hcp, hok, hxb⟩
    · skip
      rw [htf]
      show W p l e (zR 263 1 8) s m args below meth c H locs 0 0 Q (F0 m 16 ls [.null])
      have hl : lv_has ls 3 [(0, .ref co), (1, .int (nI t))] := hl
      have hw : zS G ((co, zo 0 (cF w mn bm sm lt)) :: (w 7, zc G 6 (zO 3 tf)) :: (pw 3 ts ++ (sqW sq vq ++ rest))) s H locs := hw
      refine z_invN (As := []) (rest := []) hC hlt hzy zv_X0_332 hw rfl rfl hl.1 (Nat.le_of_ble_eq_true rfl) ⟨Nat.le_of_ble_eq_true rfl, Nat.le_of_ble_eq_true rfl⟩ (Nat.le_of_ble_eq_true rfl) (Nat.le_of_ble_eq_true rfl) dX0_cut_16 (fun q9 H ce9 hex => ?_)
      obtain ⟨hw, hx9⟩ := hex
      have hw : zS G ((co, zo 0 (cF w mn bm sm lt)) :: (w 7, zc G 6 (zO 3 tf)) :: (pw 3 ts ++ (sqW sq vq ++ rest))) s H locs := hw
      refine z_catch (ce := ce9) (hh := [(10, 19, 20, 216), (10, 19, 20, 273)]) (E := "java/lang/NullPointerException") hC htb (tableOf []) ⟨10, 19, 20, 216⟩ (tableOf [(10, 19, 20, 273)]) rfl (fun z hz => nomatch hz) (by decide) (by decide) q1025 (hz.1 _ (cw_t q495 rfl)) ⟨hw, hx9⟩ ?_
      show W p l e (zR 263 1 8) s m args below meth c H locs 1 8 Q (F0 m 20 ls [.ref q9])
      refine lv_astore_n (lv' := [(2, .ref q9), (0, .ref co), (1, .int (nI t))]) hx hb dX0_cut_20 rfl hl (by decide) rfl (fun ls hl => ?_)
      refine lv_aload_n hx hb dX0_cut_21 rfl (lv_at hl 0 rfl) ?_
      refine z_ci (z_runSE (As := [.ref q9]) (rest := []) hC zs_X0_304 (m_X0_found_NPE G l kA (by first | assumption | (omega)) (by first | assumption | (omega)) (by omega) q9 _) hw hx9 rfl rfl (Nat.le_of_ble_eq_true rfl) hl.1 ⟨Nat.le_of_ble_eq_true rfl, Nat.le_of_ble_eq_true rfl⟩ ⟨(Nat.le_of_ble_eq_true rfl), (Nat.le_of_ble_eq_true rfl)⟩ dX0_cut_22) hw (fun _ => List.Perm.refl _) (fun r u H locs hp hw => ?_)
      obtain rfl : r = -11 := hp
      have hF : F_cut A (nI t) = (-11, A) := by unfold F_cut; rw [ifP_t ⟨t, ht0, ht2, rfl⟩, cl_nI (by omega), hat]
      exact hend _ _ _ _ _ _ _ (tf, ts) hw (by rw [hF]; exact ⟨rfl, hT⟩) (Nat.le_of_ble_eq_true rfl) (Nat.le_of_ble_eq_true rfl) dX0_cut_25
    · skip
      rw [htf]
      show W p l e (zR 263 1 8) s m args below meth c H locs 0 0 Q (F0 m 16 ls [.ref a])
      have hw : zS G ((a, zo 10 [.ref lst, .ref it, .int bk]) :: (lst, zo 14 [.int mq, .ref (kA 5), .int (nI 0)]) :: (it, zo 15 [.int (nI 0), .int (-1), .int mq, .ref lst, .ref lst]) :: (co, zo 0 (cF w mn bm sm lt)) :: (w 7, zc G 6 (zO 3 tf)) :: (pwX 3 ts t ++ (sqW sq vq ++ rest))) s H locs := hw.perm (sl_open (E := [(co, zo 0 (cF w mn bm sm lt)), (w 7, zc G 6 (zO 3 tf))]) (C := [(a, zo 10 [.ref lst, .ref it, .int bk]), (lst, zo 14 [.int mq, .ref (kA 5), .int (nI 0)]), (it, zo 15 [.int (nI 0), .int (-1), .int mq, .ref lst, .ref lst])]) (P := []) ht3 (hxb.trans (List.append_nil _).symm))
      have hl : lv_has ls 3 [(0, .ref co), (1, .int (nI t))] := hl
      have hw : zS G ((a, zo 10 [.ref lst, .ref it, .int bk]) :: (lst, zo 14 [.int mq, .ref (kA 5), .int (nI 0)]) :: (it, zo 15 [.int (nI 0), .int (-1), .int mq, .ref lst, .ref lst]) :: (co, zo 0 (cF w mn bm sm lt)) :: (w 7, zc G 6 (zO 3 tf)) :: (pwX 3 ts t ++ (sqW sq vq ++ rest))) s H locs := hw
      refine z_ct (z_runVT (As := []) (rest := []) hC zv_X0_332 (m_X11_cut_x G l kA (by first | assumption | (omega)) (by first | assumption | (omega)) (by first | assumption | (omega)) (by omega) a lst it 0 bk mq (zrem [0, 2] _)) hw (hw.perm (z_cut (is := [0, 2]) (cells := [(a, zo 10 [.ref lst, .ref it, .int bk]), (it, zo 15 [.int (nI 0), .int (-1), .int mq, .ref lst, .ref lst])]) rfl rfl)) 0 rfl rfl rfl rfl rfl (Nat.le_of_ble_eq_true rfl) hl.1 ⟨Nat.le_of_ble_eq_true rfl, Nat.le_of_ble_eq_true rfl⟩ ⟨(Nat.le_of_ble_eq_true rfl), (Nat.le_of_ble_eq_true rfl)⟩ dX0_cut_16) hw (fun q9 => z_keep (is := [0, 2]) (cs := [(a, zo 10 [.ref lst, .ref it, .int bk]), (it, zo 15 [.int (nI 0), .int (-1), .int mq, .ref lst, .ref lst])]) rfl rfl) (fun q9 H locs ce9 hex => ?_)
      obtain ⟨hw, hx9⟩ := hex
      have hw : zS G ((a, zo 10 [.ref lst, .ref it, .int bk]) :: (lst, zo 14 [.int mq, .ref (kA 5), .int (nI 0)]) :: (it, zo 15 [.int (nI 0), .int (-1), .int mq, .ref lst, .ref lst]) :: (co, zo 0 (cF w mn bm sm lt)) :: (w 7, zc G 6 (zO 3 tf)) :: (pwX 3 ts t ++ (sqW sq vq ++ rest))) s H locs := hw
      refine z_catch (ce := ce9) (hh := [(10, 19, 20, 216), (10, 19, 20, 273)]) (E := "java/lang/IllegalStateException") hC htb (tableOf [(10, 19, 20, 216)]) ⟨10, 19, 20, 273⟩ (tableOf []) rfl (by intro z hz; simp only [tableOf, List.map, List.mem_cons, List.not_mem_nil, or_false] at hz; rcases hz with rfl; (exact Or.inr ⟨by decide, "java/lang/NullPointerException", q1025, hzy.2.2.2.1 ("java/lang/IllegalStateException", "java/lang/NullPointerException") (by decide)⟩)) (by decide) (by decide) q1552 (hz.1 _ (cw_t q1689 rfl)) ⟨hw, hx9⟩ ?_
      show W p l e (zR 263 1 8) s m args below meth c H locs 1 6 Q (F0 m 20 ls [.ref q9])
      refine lv_astore_n (lv' := [(2, .ref q9), (0, .ref co), (1, .int (nI t))]) hx hb dX0_cut_20 rfl hl (by decide) rfl (fun ls hl => ?_)
      refine lv_aload_n hx hb dX0_cut_21 rfl (lv_at hl 0 rfl) ?_
      refine z_ci (z_runSE (As := [.ref q9]) (rest := []) hC zs_X0_304 (m_X0_found_ISE G l kA (by first | assumption | (omega)) (by first | assumption | (omega)) (by omega) q9 _) hw hx9 rfl rfl (Nat.le_of_ble_eq_true rfl) hl.1 ⟨Nat.le_of_ble_eq_true rfl, Nat.le_of_ble_eq_true rfl⟩ ⟨(Nat.le_of_ble_eq_true rfl), (Nat.le_of_ble_eq_true rfl)⟩ dX0_cut_22) hw (fun _ => List.Perm.refl _) (fun r u H locs hp hw => ?_)
      obtain rfl : r = -13 := hp
      have hw : zS G ((co, zo 0 (cF w mn bm sm lt)) :: (w 7, zc G 6 (zO 3 tf)) :: (pw 3 (va_up ts t ([(a, zo 10 [.ref lst, .ref it, .int bk]), (lst, zo 14 [.int mq, .ref (kA 5), .int (nI 0)]), (it, zo 15 [.int (nI 0), .int (-1), .int mq, .ref lst, .ref lst])] ++ [])) ++ (sqW sq vq ++ rest))) s H locs := hw.perm (sl_close (E := [(co, zo 0 (cF w mn bm sm lt)), (w 7, zc G 6 (zO 3 tf))]) (C := [(a, zo 10 [.ref lst, .ref it, .int bk]), (lst, zo 14 [.int mq, .ref (kA 5), .int (nI 0)]), (it, zo 15 [.int (nI 0), .int (-1), .int mq, .ref lst, .ref lst])]) (P := []) (sl := ts) ht3)
      have hF : F_cut A (nI t) = (-13, A) := by unfold F_cut; rw [ifP_t ⟨t, ht0, ht2, rfl⟩, cl_nI (by omega), hat]
      exact hend _ _ _ _ _ _ _ (tf, (va_up ts t ([(a, zo 10 [.ref lst, .ref it, .int bk]), (lst, zo 14 [.int mq, .ref (kA 5), .int (nI 0)]), (it, zo 15 [.int (nI 0), .int (-1), .int mq, .ref lst, .ref lst])] ++ []))) hw (by rw [hF]; exact ⟨rfl, (sT_id hat ▸ (trR_up2 hT htf ⟨lst, it, kA 5, 0, fun _ => none, [], mq, bk, [], rfl, fun k hk => absurd hk (Nat.not_lt_zero _), Or.inl ⟨rfl, rfl, rfl⟩, fun p hp => (nomatch hp), hbk, rfl⟩))⟩) (Nat.le_of_ble_eq_true rfl) (Nat.le_of_ble_eq_true rfl) dX0_cut_25
    · skip
      rw [htf]
      show W p l e (zR 263 1 8) s m args below meth c H locs 0 0 Q (F0 m 16 ls [.ref a])
      have hw : zS G ((a, zo 10 [.ref lst, .ref it, .int bk]) :: (lst, zo 14 [.int mq, .ref ed, .int (nI l9.length)]) :: (it, zo 15 [.int (nI cu), .int (optI none), .int mq, .ref lst, .ref lst]) :: (ed, zc G 4 (zO cap ef)) :: (co, zo 0 (cF w mn bm sm lt)) :: (w 7, zc G 6 (zO 3 tf)) :: (elW els ++ (pwX 3 ts t ++ (sqW sq vq ++ rest)))) s H locs := hw.perm (sl_open (E := [(co, zo 0 (cF w mn bm sm lt)), (w 7, zc G 6 (zO 3 tf))]) (C := [(a, zo 10 [.ref lst, .ref it, .int bk]), (lst, zo 14 [.int mq, .ref ed, .int (nI l9.length)]), (it, zo 15 [.int (nI cu), .int (optI none), .int mq, .ref lst, .ref lst]), (ed, zc G 4 (zO cap ef))]) (P := elW els) ht3 hxb)
      have hp9 := trivial
      have hl : lv_has ls 3 [(0, .ref co), (1, .int (nI t))] := hl
      have hw : zS G ((a, zo 10 [.ref lst, .ref it, .int bk]) :: (lst, zo 14 [.int mq, .ref ed, .int (nI l9.length)]) :: (it, zo 15 [.int (nI cu), .int (-1), .int mq, .ref lst, .ref lst]) :: (ed, zc G 4 (zO cap ef)) :: (co, zo 0 (cF w mn bm sm lt)) :: (w 7, zc G 6 (zO 3 tf)) :: (elW els ++ (pwX 3 ts t ++ (sqW sq vq ++ rest)))) s H locs := hw
      refine z_ct (z_runVT (As := []) (rest := []) hC zv_X0_332 (m_X11_cut_x G l kA (by first | assumption | (omega)) (by first | assumption | (omega)) (by first | assumption | (omega)) (by omega) a lst it cu bk mq (zrem [0, 2] _)) hw (hw.perm (z_cut (is := [0, 2]) (cells := [(a, zo 10 [.ref lst, .ref it, .int bk]), (it, zo 15 [.int (nI cu), .int (-1), .int mq, .ref lst, .ref lst])]) rfl rfl)) 0 rfl rfl rfl rfl rfl (Nat.le_of_ble_eq_true rfl) hl.1 ⟨Nat.le_of_ble_eq_true rfl, Nat.le_of_ble_eq_true rfl⟩ ⟨(Nat.le_of_ble_eq_true rfl), (Nat.le_of_ble_eq_true rfl)⟩ dX0_cut_16) hw (fun q9 => z_keep (is := [0, 2]) (cs := [(a, zo 10 [.ref lst, .ref it, .int bk]), (it, zo 15 [.int (nI cu), .int (-1), .int mq, .ref lst, .ref lst])]) rfl rfl) (fun q9 H locs ce9 hex => ?_)
      obtain ⟨hw, hx9⟩ := hex
      have hw : zS G ((a, zo 10 [.ref lst, .ref it, .int bk]) :: (lst, zo 14 [.int mq, .ref ed, .int (nI l9.length)]) :: (it, zo 15 [.int (nI cu), .int (-1), .int mq, .ref lst, .ref lst]) :: (ed, zc G 4 (zO cap ef)) :: (co, zo 0 (cF w mn bm sm lt)) :: (w 7, zc G 6 (zO 3 tf)) :: (elW els ++ (pwX 3 ts t ++ (sqW sq vq ++ rest)))) s H locs := hw
      refine z_catch (ce := ce9) (hh := [(10, 19, 20, 216), (10, 19, 20, 273)]) (E := "java/lang/IllegalStateException") hC htb (tableOf [(10, 19, 20, 216)]) ⟨10, 19, 20, 273⟩ (tableOf []) rfl (by intro z hz; simp only [tableOf, List.map, List.mem_cons, List.not_mem_nil, or_false] at hz; rcases hz with rfl; (exact Or.inr ⟨by decide, "java/lang/NullPointerException", q1025, hzy.2.2.2.1 ("java/lang/IllegalStateException", "java/lang/NullPointerException") (by decide)⟩)) (by decide) (by decide) q1552 (hz.1 _ (cw_t q1689 rfl)) ⟨hw, hx9⟩ ?_
      show W p l e (zR 263 1 8) s m args below meth c H locs 1 6 Q (F0 m 20 ls [.ref q9])
      refine lv_astore_n (lv' := [(2, .ref q9), (0, .ref co), (1, .int (nI t))]) hx hb dX0_cut_20 rfl hl (by decide) rfl (fun ls hl => ?_)
      refine lv_aload_n hx hb dX0_cut_21 rfl (lv_at hl 0 rfl) ?_
      refine z_ci (z_runSE (As := [.ref q9]) (rest := []) hC zs_X0_304 (m_X0_found_ISE G l kA (by first | assumption | (omega)) (by first | assumption | (omega)) (by omega) q9 _) hw hx9 rfl rfl (Nat.le_of_ble_eq_true rfl) hl.1 ⟨Nat.le_of_ble_eq_true rfl, Nat.le_of_ble_eq_true rfl⟩ ⟨(Nat.le_of_ble_eq_true rfl), (Nat.le_of_ble_eq_true rfl)⟩ dX0_cut_22) hw (fun _ => List.Perm.refl _) (fun r u H locs hp hw => ?_)
      obtain rfl : r = -13 := hp
      have hw : zS G ((a, zo 10 [.ref lst, .ref it, .int bk]) :: (lst, zo 14 [.int mq, .ref ed, .int (nI l9.length)]) :: (it, zo 15 [.int (nI cu), .int (-1), .int mq, .ref lst, .ref lst]) :: (ed, zc G 4 (zO cap ef)) :: (co, zo 0 (cF w mn bm sm lt)) :: (w 7, zc G 6 (zO 3 tf)) :: (pwX 3 ts t ++ (elW els ++ (sqW sq vq ++ rest)))) s H locs := hw.perm (((z_mv1 (elW els) (pwX 3 ts t) (sqW sq vq ++ rest))).append_left [(a, zo 10 [.ref lst, .ref it, .int bk]), (lst, zo 14 [.int mq, .ref ed, .int (nI l9.length)]), (it, zo 15 [.int (nI cu), .int (-1), .int mq, .ref lst, .ref lst]), (ed, zc G 4 (zO cap ef)), (co, zo 0 (cF w mn bm sm lt)), (w 7, zc G 6 (zO 3 tf))])
      have hw : zS G ((a, zo 10 [.ref lst, .ref it, .int bk]) :: (lst, zo 14 [.int mq, .ref ed, .int (nI l9.length)]) :: (it, zo 15 [.int (nI cu), .int (-1), .int mq, .ref lst, .ref lst]) :: (ed, zc G 4 (zO cap ef)) :: (co, zo 0 (cF w mn bm sm lt)) :: (w 7, zc G 6 (zO 3 tf)) :: (elW els ++ (pwX 3 ts t ++ (sqW sq vq ++ rest)))) s H locs := hw.perm (((z_mv1 (pwX 3 ts t) (elW els) (sqW sq vq ++ rest))).append_left [(a, zo 10 [.ref lst, .ref it, .int bk]), (lst, zo 14 [.int mq, .ref ed, .int (nI l9.length)]), (it, zo 15 [.int (nI cu), .int (-1), .int mq, .ref lst, .ref lst]), (ed, zc G 4 (zO cap ef)), (co, zo 0 (cF w mn bm sm lt)), (w 7, zc G 6 (zO 3 tf))])
      have hw : zS G ((co, zo 0 (cF w mn bm sm lt)) :: (w 7, zc G 6 (zO 3 tf)) :: (pw 3 (va_up ts t ([(a, zo 10 [.ref lst, .ref it, .int bk]), (lst, zo 14 [.int mq, .ref ed, .int (nI l9.length)]), (it, zo 15 [.int (nI cu), .int (-1), .int mq, .ref lst, .ref lst]), (ed, zc G 4 (zO cap ef))] ++ elW els)) ++ (sqW sq vq ++ rest))) s H locs := hw.perm (sl_close (E := [(co, zo 0 (cF w mn bm sm lt)), (w 7, zc G 6 (zO 3 tf))]) (C := [(a, zo 10 [.ref lst, .ref it, .int bk]), (lst, zo 14 [.int mq, .ref ed, .int (nI l9.length)]), (it, zo 15 [.int (nI cu), .int (-1), .int mq, .ref lst, .ref lst]), (ed, zc G 4 (zO cap ef))]) (P := elW els) (sl := ts) ht3)
      have hF : F_cut A (nI t) = (-13, A) := by unfold F_cut; rw [ifP_t ⟨t, ht0, ht2, rfl⟩, cl_nI (by omega), hat]
      exact hend _ _ _ _ _ _ _ (tf, (va_up ts t ([(a, zo 10 [.ref lst, .ref it, .int bk]), (lst, zo 14 [.int mq, .ref ed, .int (nI l9.length)]), (it, zo 15 [.int (nI cu), .int (-1), .int mq, .ref lst, .ref lst]), (ed, zc G 4 (zO cap ef))] ++ elW els))) hw (by rw [hF]; exact ⟨rfl, (sT_id hat ▸ trR_up2 hT htf (slT_of ⟨hle, hla⟩ rfl hcap hcp2 hlc hbk rfl))⟩) (Nat.le_of_ble_eq_true rfl) (Nat.le_of_ble_eq_true rfl) dX0_cut_25
    · skip
      rw [htf]
      show W p l e (zR 263 1 8) s m args below meth c H locs 0 0 Q (F0 m 16 ls [.ref a])
      have hw : zS G ((a, zo 10 [.ref lst, .ref it, .int bk]) :: (lst, zo 14 [.int mq, .ref ed, .int (nI l9.length)]) :: (it, zo 15 [.int (nI cu), .int (optI (some p9)), .int mq, .ref lst, .ref lst]) :: (ed, zc G 4 (zO cap ef)) :: (co, zo 0 (cF w mn bm sm lt)) :: (w 7, zc G 6 (zO 3 tf)) :: (elW els ++ (pwX 3 ts t ++ (sqW sq vq ++ rest)))) s H locs := hw.perm (sl_open (E := [(co, zo 0 (cF w mn bm sm lt)), (w 7, zc G 6 (zO 3 tf))]) (C := [(a, zo 10 [.ref lst, .ref it, .int bk]), (lst, zo 14 [.int mq, .ref ed, .int (nI l9.length)]), (it, zo 15 [.int (nI cu), .int (optI (some p9)), .int mq, .ref lst, .ref lst]), (ed, zc G 4 (zO cap ef))]) (P := elW els) ht3 hxb)
      have hel := els_ok (v := aV A) ⟨hle, hla⟩ hok hA.2.2.1.1.1.2.1 (fun i hi => (hA.2.2.1.1.2.2 i hi).1)
      have hp9 := hcp p9 rfl
      rw [hvq] at hw
      have hw : zS G ((a, zo 10 [.ref lst, .ref it, .int bk]) :: (lst, zo 14 [.int mq, .ref ed, .int (nI l9.length)]) :: (it, zo 15 [.int (nI cu), .int (nI p9), .int mq, .ref lst, .ref lst]) :: (ed, zc G 4 (zO cap ef)) :: (co, zo 0 (cF w mn bm sm lt)) :: (w 7, zc G 6 (zO 3 tf)) :: (elW els ++ (pwX 3 ts t ++ (sqW sq (aV A) ++ rest)))) s H locs := hw
      have hw : zS G ((a, zo 10 [.ref lst, .ref it, .int bk]) :: (lst, zo 14 [.int mq, .ref ed, .int (nI l9.length)]) :: (it, zo 15 [.int (nI cu), .int (nI p9), .int mq, .ref lst, .ref lst]) :: (ed, zc G 4 (zO cap ef)) :: (co, zo 0 (cF w mn bm sm lt)) :: (w 7, zc G 6 (zO 3 tf)) :: (elW els ++ (sqW sq (aV A) ++ (pwX 3 ts t ++ rest)))) s H locs := hw.perm ((((z_mv2 (elW els) (pwX 3 ts t) (sqW sq (aV A)) rest).trans (z_mv1 (sqW sq (aV A)) (elW els) (pwX 3 ts t ++ rest)))).append_left [(a, zo 10 [.ref lst, .ref it, .int bk]), (lst, zo 14 [.int mq, .ref ed, .int (nI l9.length)]), (it, zo 15 [.int (nI cu), .int (nI p9), .int mq, .ref lst, .ref lst]), (ed, zc G 4 (zO cap ef)), (co, zo 0 (cF w mn bm sm lt)), (w 7, zc G 6 (zO 3 tf))])
      have hl : lv_has ls 3 [(0, .ref co), (1, .int (nI t))] := hl
      have hw : zS G ((a, zo 10 [.ref lst, .ref it, .int bk]) :: (lst, zo 14 [.int mq, .ref ed, .int (nI l9.length)]) :: (it, zo 15 [.int (nI cu), .int (nI p9), .int mq, .ref lst, .ref lst]) :: (ed, zc G 4 (zO cap ef)) :: (co, zo 0 (cF w mn bm sm lt)) :: (w 7, zc G 6 (zO 3 tf)) :: (elW els ++ (sqW sq (aV A) ++ (pwX 3 ts t ++ rest)))) s H locs := hw
      refine z_ci (z_runV (As := []) (rest := []) hC zv_X0_332 (m_X11_cut_o G l kA (by first | assumption | (omega)) (by first | assumption | (omega)) lst ed l9.length mq cap ef a bk it cu p9 (elW els) (sqW sq (aV A)) (by first | assumption | (omega)) (by omega) (by omega) (by omega) (zrem [0, 1, 2, 3] [(a, zo 10 [.ref lst, .ref it, .int bk]), (lst, zo 14 [.int mq, .ref ed, .int (nI l9.length)]), (it, zo 15 [.int (nI cu), .int (nI p9), .int mq, .ref lst, .ref lst]), (ed, zc G 4 (zO cap ef)), (co, zo 0 (cF w mn bm sm lt)), (w 7, zc G 6 (zO 3 tf))] ++ (pwX 3 ts t ++ rest))) hw (hw.perm (((((z_mv1 (elW els) (sqW sq (aV A)) (pwX 3 ts t ++ rest)).trans (z_mv1 (sqW sq (aV A)) (elW els) (pwX 3 ts t ++ rest)))).append_left [(a, zo 10 [.ref lst, .ref it, .int bk]), (lst, zo 14 [.int mq, .ref ed, .int (nI l9.length)]), (it, zo 15 [.int (nI cu), .int (nI p9), .int mq, .ref lst, .ref lst]), (ed, zc G 4 (zO cap ef)), (co, zo 0 (cF w mn bm sm lt)), (w 7, zc G 6 (zO 3 tf))]).trans (z_cutP2 (z_cut (is := [0, 1, 2, 3]) (ws := [(a, zo 10 [.ref lst, .ref it, .int bk]), (lst, zo 14 [.int mq, .ref ed, .int (nI l9.length)]), (it, zo 15 [.int (nI cu), .int (nI p9), .int mq, .ref lst, .ref lst]), (ed, zc G 4 (zO cap ef)), (co, zo 0 (cF w mn bm sm lt)), (w 7, zc G 6 (zO 3 tf))]) (cells := [(a, zo 10 [.ref lst, .ref it, .int bk]), (lst, zo 14 [.int mq, .ref ed, .int (nI l9.length)]), (it, zo 15 [.int (nI cu), .int (nI p9), .int mq, .ref lst, .ref lst]), (ed, zc G 4 (zO cap ef))]) rfl rfl)))) 0 rfl rfl rfl rfl rfl (Nat.le_of_ble_eq_true rfl) hl.1 ⟨Nat.le_of_ble_eq_true rfl, Nat.le_of_ble_eq_true rfl⟩ ⟨(Nat.le_of_ble_eq_true rfl), (Nat.le_of_ble_eq_true rfl)⟩ dX0_cut_16) hw (fun u => (z_putP2 (z_pput (is := [0, 1, 2, 3]) (ws := [(a, zo 10 [.ref lst, .ref it, .int bk]), (lst, zo 14 [.int mq, .ref ed, .int (nI l9.length)]), (it, zo 15 [.int (nI cu), .int (nI p9), .int mq, .ref lst, .ref lst]), (ed, zc G 4 (zO cap ef)), (co, zo 0 (cF w mn bm sm lt)), (w 7, zc G 6 (zO 3 tf))]) (cells := [(a, zo 10 [.ref lst, .ref it, .int bk]), (lst, zo 14 [.int mq, .ref ed, .int (nI l9.length)]), (it, zo 15 [.int (nI cu), .int (nI p9), .int mq, .ref lst, .ref lst]), (ed, zc G 4 (zO cap ef))]) (cells' := [(a, zo 10 [.ref lst, .ref it, .int bk]), (lst, zo 14 [.int (mq + (nI 1)), .ref ed, .int (nI (l9.length - 1))]), (it, zo 15 [.int (nI p9), .int (-1), .int (mq + (nI 1)), .ref lst, .ref lst]), (ed, zc G 4 (zO cap u))]) rfl rfl rfl)).trans ((((z_mv1 (elW els) (sqW sq (aV A)) (pwX 3 ts t ++ rest)).trans (z_mv1 (sqW sq (aV A)) (elW els) (pwX 3 ts t ++ rest)))).symm.append_left [(a, zo 10 [.ref lst, .ref it, .int bk]), (lst, zo 14 [.int (mq + (nI 1)), .ref ed, .int (nI (l9.length - 1))]), (it, zo 15 [.int (nI p9), .int (-1), .int (mq + (nI 1)), .ref lst, .ref lst]), (ed, zc G 4 (zO cap u)), (co, zo 0 (cF w mn bm sm lt)), (w 7, zc G 6 (zO 3 tf))])) (fun r u H locs hp hw => ?_)
      obtain ⟨ef7, rfl⟩ : ∃ z, z = u := ⟨_, rfl⟩
      have hw : zS G ((a, zo 10 [.ref lst, .ref it, .int bk]) :: (lst, zo 14 [.int (mq + (nI 1)), .ref ed, .int (nI (l9.length - 1))]) :: (it, zo 15 [.int (nI p9), .int (-1), .int (mq + (nI 1)), .ref lst, .ref lst]) :: (ed, zc G 4 (zO cap ef7)) :: (co, zo 0 (cF w mn bm sm lt)) :: (w 7, zc G 6 (zO 3 tf)) :: ((elW els) ++ ((sqW sq (aV A)) ++ (pwX 3 ts t ++ rest)))) s H locs := hw
      obtain ⟨rfl, hdE⟩ := hp
      have hp9 : p9 < els.length := by have := hcp p9 rfl; omega
      have hw : zS G ((a, zo 10 [.ref lst, .ref it, .int bk]) :: (lst, zo 14 [.int (mq + (nI 1)), .ref ed, .int (nI (l9.length - 1))]) :: (it, zo 15 [.int (nI p9), .int (-1), .int (mq + (nI 1)), .ref lst, .ref lst]) :: (ed, zc G 4 (zO cap ef7)) :: (co, zo 0 (cF w mn bm sm lt)) :: (w 7, zc G 6 (zO 3 tf)) :: (elW (cutL els p9) ++ ((sqW sq (aV A)) ++ (pwX 3 ts t ++ rest)))) s H locs := zS.cutE (E := [(a, zo 10 [.ref lst, .ref it, .int bk]), (lst, zo 14 [.int (mq + (nI 1)), .ref ed, .int (nI (l9.length - 1))]), (it, zo 15 [.int (nI p9), .int (-1), .int (mq + (nI 1)), .ref lst, .ref lst]), (ed, zc G 4 (zO cap ef7)), (co, zo 0 (cF w mn bm sm lt)), (w 7, zc G 6 (zO 3 tf))]) hp9 hw
      have hw : zS G ((a, zo 10 [.ref lst, .ref it, .int bk]) :: (lst, zo 14 [.int (mq + (nI 1)), .ref ed, .int (nI (l9.length - 1))]) :: (it, zo 15 [.int (nI p9), .int (-1), .int (mq + (nI 1)), .ref lst, .ref lst]) :: (ed, zc G 4 (zO cap ef7)) :: (co, zo 0 (cF w mn bm sm lt)) :: (w 7, zc G 6 (zO 3 tf)) :: (pwX 3 ts t ++ (elW (cutL els p9) ++ ((sqW sq (aV A)) ++ rest)))) s H locs := hw.perm (((z_mv2 (elW (cutL els p9)) (sqW sq (aV A)) (pwX 3 ts t) rest)).append_left [(a, zo 10 [.ref lst, .ref it, .int bk]), (lst, zo 14 [.int (mq + (nI 1)), .ref ed, .int (nI (l9.length - 1))]), (it, zo 15 [.int (nI p9), .int (-1), .int (mq + (nI 1)), .ref lst, .ref lst]), (ed, zc G 4 (zO cap ef7)), (co, zo 0 (cF w mn bm sm lt)), (w 7, zc G 6 (zO 3 tf))])
      have hw : zS G ((a, zo 10 [.ref lst, .ref it, .int bk]) :: (lst, zo 14 [.int (mq + (nI 1)), .ref ed, .int (nI (l9.length - 1))]) :: (it, zo 15 [.int (nI p9), .int (-1), .int (mq + (nI 1)), .ref lst, .ref lst]) :: (ed, zc G 4 (zO cap ef7)) :: (co, zo 0 (cF w mn bm sm lt)) :: (w 7, zc G 6 (zO 3 tf)) :: (elW (cutL els p9) ++ (pwX 3 ts t ++ ((sqW sq (aV A)) ++ rest)))) s H locs := hw.perm (((z_mv1 (pwX 3 ts t) (elW (cutL els p9)) ((sqW sq (aV A)) ++ rest))).append_left [(a, zo 10 [.ref lst, .ref it, .int bk]), (lst, zo 14 [.int (mq + (nI 1)), .ref ed, .int (nI (l9.length - 1))]), (it, zo 15 [.int (nI p9), .int (-1), .int (mq + (nI 1)), .ref lst, .ref lst]), (ed, zc G 4 (zO cap ef7)), (co, zo 0 (cF w mn bm sm lt)), (w 7, zc G 6 (zO 3 tf))])
      have hw : zS G ((co, zo 0 (cF w mn bm sm lt)) :: (w 7, zc G 6 (zO 3 tf)) :: (pw 3 (va_up ts t ([(a, zo 10 [.ref lst, .ref it, .int bk]), (lst, zo 14 [.int (mq + (nI 1)), .ref ed, .int (nI (l9.length - 1))]), (it, zo 15 [.int (nI p9), .int (-1), .int (mq + (nI 1)), .ref lst, .ref lst]), (ed, zc G 4 (zO cap ef7))] ++ elW (cutL els p9))) ++ ((sqW sq (aV A)) ++ rest))) s H locs := hw.perm (sl_close (E := [(co, zo 0 (cF w mn bm sm lt)), (w 7, zc G 6 (zO 3 tf))]) (C := [(a, zo 10 [.ref lst, .ref it, .int bk]), (lst, zo 14 [.int (mq + (nI 1)), .ref ed, .int (nI (l9.length - 1))]), (it, zo 15 [.int (nI p9), .int (-1), .int (mq + (nI 1)), .ref lst, .ref lst]), (ed, zc G 4 (zO cap ef7))]) (P := elW (cutL els p9)) (sl := ts) ht3)
      have hF : F_cut A (nI t) = (nI (l9.length - 1), sT A t (some (cutL l9 p9, p9, none))) := by unfold F_cut; rw [ifP_t ⟨t, ht0, ht2, rfl⟩, cl_nI (by omega), hat]; show (_, sT A t (some (_, (if p9 < cu then cu - 1 else cu), none))) = _; rw [bk_cut (hlc p9 rfl)]; rfl
      rw [← hvq] at hw
      have hw : zS G ((co, zo 0 (cF w mn bm sm lt)) :: (w 7, zc G 6 (zO 3 tf)) :: (pw 3 (va_up ts t ([(a, zo 10 [.ref lst, .ref it, .int bk]), (lst, zo 14 [.int (mq + (nI 1)), .ref ed, .int (nI (l9.length - 1))]), (it, zo 15 [.int (nI p9), .int (-1), .int (mq + (nI 1)), .ref lst, .ref lst]), (ed, zc G 4 (zO cap ef7))] ++ elW (cutL els p9))) ++ ((sqW sq vq) ++ rest))) s H locs := hw
      exact hend _ _ _ _ _ _ _ (tf, (va_up ts t ([(a, zo 10 [.ref lst, .ref it, .int bk]), (lst, zo 14 [.int (mq + (nI 1)), .ref ed, .int (nI (l9.length - 1))]), (it, zo 15 [.int (nI p9), .int (-1), .int (mq + (nI 1)), .ref lst, .ref lst]), (ed, zc G 4 (zO cap ef7))] ++ elW (cutL els p9)))) hw (by rw [hF]; exact ⟨rfl, (trR_up2 hT htf (slT_of (elsR_cut (hcp p9 rfl) ⟨hle, hla⟩ hdE) (cutL_len (hcp p9 rfl)).symm (by rw [cutL_len (hcp p9 rfl)]; omega) hcp2 (fun p hp => (nomatch hp)) hbk rfl))⟩) (Nat.le_of_ble_eq_true rfl) (Nat.le_of_ble_eq_true rfl) dX0_cut_19
  · skip
    refine lv_bipush (v := (-2)) hx hb dX0_cut_7 zb_m2 ?_
    have hF : F_cut A x = (-2, A) := by exact ifP_f c_4
    exact hend _ _ _ _ _ _ _ (tf, ts) hw (by rw [hF]; exact ⟨rfl, hT⟩) (Nat.le_of_ble_eq_true rfl) (Nat.le_of_ble_eq_true rfl) dX0_cut_9
