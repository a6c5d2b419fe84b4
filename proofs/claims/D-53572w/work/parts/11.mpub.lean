set_option maxHeartbeats 4000000 in
theorem mr_isLoose (l : Launch) (D : va_G) (dA : Nat → ClassId) (h0 hr : Nat) (fs : List Value) (row : Nat → Int32) {n cu q : Nat} (w : MWf row n cu q) (kc pl : Nat) (ab : Int32) (hkc : kc < q) (hp : pl < 128) : RO l yX3_isLoose cX3_isLoose 4 (some .boolean) 3 120 [.ref h0, .int (nI kc), .int (nI pl), .int ab] (KA D dA) (MRo D dA h0 hr fs row) (some (.int (bI (mLoose row n cu kc pl ab)))) := by
  refine ro_of (by decide) (Nat.le_of_ble_eq_true rfl) ?_
  intro p e s m below meth c S hrt hlk K hP ls hl
  obtain ⟨hx, hb, hml, hown, hts⟩ := id S
  obtain ⟨e0, hn, e1, hcu, e3, hq, hray⟩ := id w
  have hl : lv_has ls 4 [(0, .ref h0), (1, .int (nI kc)), (2, .int (nI pl)), (3, .int ab)] := hl
  refine lv_aload_n hx hb dX3_isLoose_0 rfl (lv_at hl 0 rfl) ?_
  refine lv_iload_n hx hb dX3_isLoose_1 rfl (lv_at hl 1 rfl) ?_
  refine x_ret (va_runV (As := [.int (nI kc)]) (rest := []) S (mr_isRay l D dA h0 hr fs row w kc (by omega)) (cwV 1 hts (lw_V q1211 q1213 qs36 q69 q1214) rfl rfl rfl hdX3_isRay ⟨Nat.le_of_ble_eq_true rfl, Nat.le_of_ble_eq_true rfl⟩) ⟨bb_blind ka_bl _, va_recv K hP (ci := 3) (q0 := 0) rfl rfl, ka_pre K hP _⟩ rfl rfl hl.1 rfl (lv_room (Nat.le_of_ble_eq_true rfl)) dX3_isLoose_2 ⟨Nat.le_refl _, Nat.le_refl _⟩) ?_
  refine x_ifb_eq (tgt := 26) hx hb dX3_isLoose_5 (by decide) (fun h_1 => ?_) (fun h_1 => ?_)
  · refine lv_aload_n hx hb dX3_isLoose_26 rfl (lv_at hl 0 rfl) ?_
    refine lv_iload_n hx hb dX3_isLoose_27 rfl (lv_at hl 1 rfl) ?_
    refine lv_iload_n hx hb dX3_isLoose_28 rfl (lv_at hl 2 rfl) ?_
    refine x_ret (va_runV (As := [.int (nI kc), .int (nI pl)]) (rest := []) S (mr_valueOf l D dA h0 hr fs row w kc pl (by omega) (by omega)) (cwV 2 hts (lw_V q1227 q1229 qs40 q69 q1230) rfl rfl rfl hdX3_valueOf ⟨Nat.le_of_ble_eq_true rfl, Nat.le_of_ble_eq_true rfl⟩) ⟨bb_blind ka_bl _, va_recv K hP (ci := 3) (q0 := 0) rfl rfl, ka_pre K hP _⟩ rfl rfl hl.1 rfl (lv_room (Nat.le_of_ble_eq_true rfl)) dX3_isLoose_29 ⟨Nat.le_refl _, Nat.le_refl _⟩) ?_
    refine lv_iload_n hx hb dX3_isLoose_32 rfl (lv_at hl 3 rfl) ?_
    refine lv_icmp_ge (tgt := 40) hx hb dX3_isLoose_33 (by decide) (fun h_2 => ?_) (fun h_2 => ?_)
    · refine lv_iconst (v := nI 0) hx hb dX3_isLoose_40 (by decide) ?_
      exact x_zret hx hb hrt hlk (by simp [mLoose, h_1, h_2]; rfl) dX3_isLoose_41
    · refine lv_iconst (v := nI 1) hx hb dX3_isLoose_36 (by decide) ?_
      refine lv_goto (tgt := 41) hx hb dX3_isLoose_37 (by decide) ?_
      exact x_zret hx hb hrt hlk (by simp [mLoose, h_1, h_2]; rfl) dX3_isLoose_41
  · refine lv_aload_n hx hb dX3_isLoose_8 rfl (lv_at hl 0 rfl) ?_
    refine lv_iload_n hx hb dX3_isLoose_9 rfl (lv_at hl 1 rfl) ?_
    refine lv_iload_n hx hb dX3_isLoose_10 rfl (lv_at hl 2 rfl) ?_
    refine x_ret (va_runV (As := [.int (nI kc), .int (nI pl)]) (rest := []) S (mr_asked l D dA h0 hr fs row w kc pl (by omega) (by omega) (ray_of w hkc h_1)) (cwV 2 hts (lw_V q1215 q1217 qs37 q69 q1218) rfl rfl rfl hdX3_asked ⟨Nat.le_of_ble_eq_true rfl, Nat.le_of_ble_eq_true rfl⟩) ⟨bb_blind ka_bl _, va_recv K hP (ci := 3) (q0 := 0) rfl rfl, ka_pre K hP _⟩ rfl rfl hl.1 rfl (lv_room (Nat.le_of_ble_eq_true rfl)) dX3_isLoose_11 ⟨Nat.le_refl _, Nat.le_refl _⟩) ?_
    refine lv_iconst (v := nI 1) hx hb dX3_isLoose_14 (by decide) ?_
    refine lv_icmp_le (tgt := 22) hx hb dX3_isLoose_15 (by decide) (fun h_3 => ?_) (fun h_3 => ?_)
    · refine lv_iconst (v := nI 0) hx hb dX3_isLoose_22 (by decide) ?_
      refine lv_goto (tgt := 41) hx hb dX3_isLoose_23 (by decide) ?_
      exact x_zret hx hb hrt hlk (by simp [mLoose, h_1, h_3]; rfl) dX3_isLoose_41
    · refine lv_iconst (v := nI 1) hx hb dX3_isLoose_18 (by decide) ?_
      refine lv_goto (tgt := 41) hx hb dX3_isLoose_19 (by decide) ?_
      exact x_zret hx hb hrt hlk (by simp [mLoose, h_1, h_3]; rfl) dX3_isLoose_41

set_option maxHeartbeats 4000000 in
theorem mr_rays (l : Launch) (D : va_G) (dA : Nat → ClassId) (h0 hr : Nat) (fs : List Value) (row : Nat → Int32) {n cu q : Nat} (w : MWf row n cu q)  : RO l yX3_rays cX3_rays 3 (some .int) 1 40 [.ref h0] (KA D dA) (MRo D dA h0 hr fs row) (some (.int (nI (mRays row q)))) := by
  refine ro_of (by decide) (Nat.le_of_ble_eq_true rfl) ?_
  intro p e s m below meth c S hrt hlk K hP ls hl
  obtain ⟨hx, hb, hml, hown, hts⟩ := id S
  obtain ⟨e0, hn, e1, hcu, e3, hq, hray⟩ := id w
  have hl : lv_has ls 3 [(0, .ref h0)] := hl
  refine lv_iconst (v := nI 0) hx hb dX3_rays_0 (by decide) ?_
  refine lv_istore_n (lv' := [(1, .int (nI 0)), (0, .ref h0)]) hx hb dX3_rays_1 rfl hl (by decide) rfl (fun ls hl => ?_)
  refine lv_iconst (v := nI 0) hx hb dX3_rays_2 (by decide) ?_
  refine lv_istore_n (lv' := [(2, .int (nI 0)), (1, .int (nI 0)), (0, .ref h0)]) hx hb dX3_rays_3 rfl hl (by decide) rfl (fun ls hl => ?_)
  refine lpI (mRyS row) 0 q (fun k a ls => lv_has ls 3 [(0, .ref h0), (1, .int (nI a)), (2, .int (nI k))]) (fun ls => W p l e (rmR 1 40) s m ([.ref h0]).toArray below meth c s.heap [] 0 0 (MQ below (QRet (some (.int (nI (mRays row q))))) ([.ref h0]).toArray s 0 0 (fun _ => False)) (F0 m 4 ls [])) ?_ ?_ ls (lv_sub hl [2, 1, 0] rfl)
  · intro k ls hk_1 hl ih
    generalize iter (mRyS row) k 0 0 = a at *
    have hl : lv_has ls 3 [(0, .ref h0), (1, .int (nI a)), (2, .int (nI k))] := hl
    show W p l e (rmR 1 40) s m ([.ref h0]).toArray below meth c s.heap [] 0 0 (MQ below (QRet (some (.int (nI (mRays row q))))) ([.ref h0]).toArray s 0 0 (fun _ => False)) (F0 m 4 ls [])
    refine lv_iload_n hx hb dX3_rays_4 rfl (lv_at hl 2 rfl) ?_
    refine lv_aload_n hx hb dX3_rays_5 rfl (lv_at hl 0 rfl) ?_
    refine va_get (D := D) (ci := 3) (C := RX3) (T := TX3) (N := 10) hx hb hts in_X3 hown K hP 0 rfl rfl 0 (by decide) (hts _ q1075) (fun _ h9 => h9) rfl dX3_rays_6 ?_
    refine lv_iconst (v := nI 3) hx hb dX3_rays_9 (by decide) ?_
    refine x_iald hx hb K hP 1 0 rfl rfl 3 rfl (by omega) (by decide) e3 dX3_rays_10 ?_
    refine lv_icmp_ge (tgt := 36) hx hb dX3_rays_11 (by decide) (fun h => absurd h (nI_ge hk_1 (by omega))) (fun _ => ?_)
    refine lv_iload_n hx hb dX3_rays_14 rfl (lv_at hl 1 rfl) ?_
    refine lv_aload_n hx hb dX3_rays_15 rfl (lv_at hl 0 rfl) ?_
    refine lv_iload_n hx hb dX3_rays_16 rfl (lv_at hl 2 rfl) ?_
    refine x_ret (va_runV (As := [.int (nI k)]) (rest := [.int (nI a)]) S (mr_isRay l D dA h0 hr fs row w k (by omega)) (cwV 1 hts (lw_V q1211 q1213 qs36 q69 q1214) rfl rfl rfl hdX3_isRay ⟨Nat.le_of_ble_eq_true rfl, Nat.le_of_ble_eq_true rfl⟩) ⟨bb_blind ka_bl _, va_recv K hP (ci := 3) (q0 := 0) rfl rfl, ka_pre K hP _⟩ rfl rfl hl.1 rfl (lv_room (Nat.le_of_ble_eq_true rfl)) dX3_rays_17 ⟨Nat.le_refl _, Nat.le_refl _⟩) ?_
    refine x_ifb_eq (tgt := 27) hx hb dX3_rays_20 (by decide) (fun h_3 => ?_) (fun h_3 => ?_)
    · refine lv_iconst (v := nI 0) hx hb dX3_rays_27 (by decide) ?_
      refine x_addN hx hb dX3_rays_28 ?_
      refine lv_istore_n (lv' := [(1, .int (nI (a + 0))), (0, .ref h0), (2, .int (nI k))]) hx hb dX3_rays_29 rfl hl (by decide) rfl (fun ls hl => ?_)
      refine lv_iinc (v := nI (k + 1)) (lv' := [(2, .int (nI (k + 1))), (1, .int (nI (a + 0))), (0, .ref h0)]) hx hb dX3_rays_30 hl (k := 2) rfl (nI_1 k) (by decide) rfl (fun ls hl => ?_)
      refine lv_goto (tgt := 4) hx hb dX3_rays_33 (by decide) ?_
      refine ih ls ?_
      show lv_has ls 3 [(0, .ref h0), (1, .int (nI ((mRyS row) k a))), (2, .int (nI (k + 1)))]
      rw [show nI ((mRyS row) k a) = nI (a + 0) from (by simp [mRyS, h_3])]
      exact lv_sub hl [2, 1, 0] rfl
    · refine lv_iconst (v := nI 1) hx hb dX3_rays_23 (by decide) ?_
      refine lv_goto (tgt := 28) hx hb dX3_rays_24 (by decide) ?_
      refine x_addN hx hb dX3_rays_28 ?_
      refine lv_istore_n (lv' := [(1, .int (nI (a + 1))), (0, .ref h0), (2, .int (nI k))]) hx hb dX3_rays_29 rfl hl (by decide) rfl (fun ls hl => ?_)
      refine lv_iinc (v := nI (k + 1)) (lv' := [(2, .int (nI (k + 1))), (1, .int (nI (a + 1))), (0, .ref h0)]) hx hb dX3_rays_30 hl (k := 2) rfl (nI_1 k) (by decide) rfl (fun ls hl => ?_)
      refine lv_goto (tgt := 4) hx hb dX3_rays_33 (by decide) ?_
      refine ih ls ?_
      show lv_has ls 3 [(0, .ref h0), (1, .int (nI ((mRyS row) k a))), (2, .int (nI (k + 1)))]
      rw [show nI ((mRyS row) k a) = nI (a + 1) from (by simp [mRyS, h_3])]
      exact lv_sub hl [2, 1, 0] rfl
  · intro ls hl
    have hl : lv_has ls 3 [(0, .ref h0), (1, .int (nI (mRays row q))), (2, .int (nI q))] := hl
    show W p l e (rmR 1 40) s m ([.ref h0]).toArray below meth c s.heap [] 0 0 (MQ below (QRet (some (.int (nI (mRays row q))))) ([.ref h0]).toArray s 0 0 (fun _ => False)) (F0 m 4 ls [])
    refine lv_iload_n hx hb dX3_rays_4 rfl (lv_at hl 2 rfl) ?_
    refine lv_aload_n hx hb dX3_rays_5 rfl (lv_at hl 0 rfl) ?_
    refine va_get (D := D) (ci := 3) (C := RX3) (T := TX3) (N := 10) hx hb hts in_X3 hown K hP 0 rfl rfl 0 (by decide) (hts _ q1075) (fun _ h9 => h9) rfl dX3_rays_6 ?_
    refine lv_iconst (v := nI 3) hx hb dX3_rays_9 (by decide) ?_
    refine x_iald hx hb K hP 1 0 rfl rfl 3 rfl (by omega) (by decide) e3 dX3_rays_10 ?_
    refine lv_icmp_ge (tgt := 36) hx hb dX3_rays_11 (by decide) (fun _ => ?_) (fun h => absurd (nI_le (by omega) (by omega)) h)
    refine lv_iload_n hx hb dX3_rays_36 rfl (lv_at hl 1 rfl) ?_
    exact x_iret hx hb hrt hlk rfl dX3_rays_37

set_option maxHeartbeats 4000000 in
theorem mr_pairs (l : Launch) (D : va_G) (dA : Nat → ClassId) (h0 hr : Nat) (fs : List Value) (row : Nat → Int32) {n cu q : Nat} (w : MWf row n cu q) (hex : ∀ s, s < 7 → ∃ x, x < 128 ∧ row (77 + s) = nI x) : RO l yX3_pairs cX3_pairs 3 (some .int) 1 40 [.ref h0] (KA D dA) (MRo D dA h0 hr fs row) (some (.int (nI (mPairs row n)))) := by
  refine ro_of (by decide) (Nat.le_of_ble_eq_true rfl) ?_
  intro p e s m below meth c S hrt hlk K hP ls hl
  obtain ⟨hx, hb, hml, hown, hts⟩ := id S
  obtain ⟨e0, hn, e1, hcu, e3, hq, hray⟩ := id w
  have hle : iter (mPaS row) n 0 0 ≤ n * 7 := iter_le 7 (fun k a => Nat.add_le_add_left (mMany_7 _) a) n
  have hl : lv_has ls 3 [(0, .ref h0)] := hl
  refine lv_iconst (v := nI 0) hx hb dX3_pairs_0 (by decide) ?_
  refine lv_istore_n (lv' := [(1, .int (nI 0)), (0, .ref h0)]) hx hb dX3_pairs_1 rfl hl (by decide) rfl (fun ls hl => ?_)
  refine lv_iconst (v := nI 0) hx hb dX3_pairs_2 (by decide) ?_
  refine lv_istore_n (lv' := [(2, .int (nI 0)), (1, .int (nI 0)), (0, .ref h0)]) hx hb dX3_pairs_3 rfl hl (by decide) rfl (fun ls hl => ?_)
  refine lpI (mPaS row) 0 n (fun k a ls => lv_has ls 3 [(0, .ref h0), (1, .int (nI a)), (2, .int (nI k))]) (fun ls => W p l e (rmR 1 40) s m ([.ref h0]).toArray below meth c s.heap [] 0 0 (MQ below (QRet (some (.int (nI (mPairs row n))))) ([.ref h0]).toArray s 0 0 (fun _ => False)) (F0 m 4 ls [])) ?_ ?_ ls (lv_sub hl [2, 1, 0] rfl)
  · intro k ls hk_1 hl ih
    obtain ⟨x0, hx0, ex0⟩ := hex k (by omega)
    generalize iter (mPaS row) k 0 0 = a at *
    have hl : lv_has ls 3 [(0, .ref h0), (1, .int (nI a)), (2, .int (nI k))] := hl
    show W p l e (rmR 1 40) s m ([.ref h0]).toArray below meth c s.heap [] 0 0 (MQ below (QRet (some (.int (nI (mPairs row n))))) ([.ref h0]).toArray s 0 0 (fun _ => False)) (F0 m 4 ls [])
    refine lv_iload_n hx hb dX3_pairs_4 rfl (lv_at hl 2 rfl) ?_
    refine lv_aload_n hx hb dX3_pairs_5 rfl (lv_at hl 0 rfl) ?_
    refine va_get (D := D) (ci := 3) (C := RX3) (T := TX3) (N := 10) hx hb hts in_X3 hown K hP 0 rfl rfl 0 (by decide) (hts _ q1075) (fun _ h9 => h9) rfl dX3_pairs_6 ?_
    refine lv_iconst (v := nI 0) hx hb dX3_pairs_9 (by decide) ?_
    refine x_iald hx hb K hP 1 0 rfl rfl 0 rfl (by omega) (by decide) e0 dX3_pairs_10 ?_
    refine lv_icmp_ge (tgt := 35) hx hb dX3_pairs_11 (by decide) (fun h => absurd h (nI_ge hk_1 (by omega))) (fun _ => ?_)
    refine lv_iload_n hx hb dX3_pairs_14 rfl (lv_at hl 1 rfl) ?_
    refine lv_aload_n hx hb dX3_pairs_15 rfl (lv_at hl 0 rfl) ?_
    refine va_get (D := D) (ci := 3) (C := RX3) (T := TX3) (N := 10) hx hb hts in_X3 hown K hP 0 rfl rfl 0 (by decide) (hts _ q1075) (fun _ h9 => h9) rfl dX3_pairs_16 ?_
    refine lv_bipush (v := nI 77) hx hb dX3_pairs_19 (by decide) ?_
    refine lv_iload_n hx hb dX3_pairs_21 rfl (lv_at hl 2 rfl) ?_
    refine x_addN hx hb dX3_pairs_22 ?_
    refine x_iald hx hb K hP 1 0 rfl rfl (77 + k) rfl (by omega) (by decide) ex0 dX3_pairs_23 ?_
    refine x_ret (va_runS (As := [.int (nI x0)]) (rest := [.int (nI a)]) S (mr_many l x0 (by omega)) (va_cwS 1 hts (lw_S q1184 q1185 q69 q1186) rfl rfl rfl hdX3_many ⟨Nat.le_of_ble_eq_true rfl, Nat.le_of_ble_eq_true rfl⟩) ⟨bb_blind tt_bl _, tt_pre _⟩ rfl rfl hl.1 rfl (lv_room (Nat.le_of_ble_eq_true rfl)) dX3_pairs_24 ⟨Nat.le_refl _, Nat.le_refl _⟩) ?_
    refine x_addN hx hb dX3_pairs_27 ?_
    refine lv_istore_n (lv' := [(1, .int (nI (a + (mMany x0)))), (0, .ref h0), (2, .int (nI k))]) hx hb dX3_pairs_28 rfl hl (by decide) rfl (fun ls hl => ?_)
    refine lv_iinc (v := nI (k + 1)) (lv' := [(2, .int (nI (k + 1))), (1, .int (nI (a + (mMany x0)))), (0, .ref h0)]) hx hb dX3_pairs_29 hl (k := 2) rfl (nI_1 k) (by decide) rfl (fun ls hl => ?_)
    refine lv_goto (tgt := 4) hx hb dX3_pairs_32 (by decide) ?_
    refine ih ls ?_
    show lv_has ls 3 [(0, .ref h0), (1, .int (nI ((mPaS row) k a))), (2, .int (nI (k + 1)))]
    rw [show nI ((mPaS row) k a) = nI (a + (mMany x0)) from (by rw [mPaS, ex0]; exact congrArg (fun z => nI (a + mMany z)) (nI_clamp (by omega)))]
    exact lv_sub hl [2, 1, 0] rfl
  · intro ls hl
    have hl : lv_has ls 3 [(0, .ref h0), (1, .int (nI (iter (mPaS row) n 0 0))), (2, .int (nI n))] := hl
    show W p l e (rmR 1 40) s m ([.ref h0]).toArray below meth c s.heap [] 0 0 (MQ below (QRet (some (.int (nI (mPairs row n))))) ([.ref h0]).toArray s 0 0 (fun _ => False)) (F0 m 4 ls [])
    refine lv_iload_n hx hb dX3_pairs_4 rfl (lv_at hl 2 rfl) ?_
    refine lv_aload_n hx hb dX3_pairs_5 rfl (lv_at hl 0 rfl) ?_
    refine va_get (D := D) (ci := 3) (C := RX3) (T := TX3) (N := 10) hx hb hts in_X3 hown K hP 0 rfl rfl 0 (by decide) (hts _ q1075) (fun _ h9 => h9) rfl dX3_pairs_6 ?_
    refine lv_iconst (v := nI 0) hx hb dX3_pairs_9 (by decide) ?_
    refine x_iald hx hb K hP 1 0 rfl rfl 0 rfl (by omega) (by decide) e0 dX3_pairs_10 ?_
    refine lv_icmp_ge (tgt := 35) hx hb dX3_pairs_11 (by decide) (fun _ => ?_) (fun h => absurd (nI_le (by omega) (by omega)) h)
    refine lv_iload_n hx hb dX3_pairs_35 rfl (lv_at hl 1 rfl) ?_
    refine lv_iconst (v := nI 2) hx hb dX3_pairs_36 (by decide) ?_
    refine lv_idiv hx hb dX3_pairs_37 (by decide) ?_
    refine x_top (y := nI (iter (mPaS row) n 0 0 / 2)) (pk_div (by omega) (by decide) (by decide)) ?_
    exact x_iret hx hb hrt hlk rfl dX3_pairs_38

set_option maxHeartbeats 4000000 in
theorem mr_allRoutes (l : Launch) (D : va_G) (dA : Nat → ClassId) (h0 hr : Nat) (fs : List Value) (row : Nat → Int32) {n cu q : Nat} (w : MWf row n cu q)  : RO l yX3_allRoutes cX3_allRoutes 3 (some .int) 0 0 [.ref h0] (KA D dA) (MRo D dA h0 hr fs row) (some (.int (nI (mAllR row)))) := by
  refine ro_of (by decide) (Nat.le_of_ble_eq_true rfl) ?_
  intro p e s m below meth c S hrt hlk K hP ls hl
  obtain ⟨hx, hb, hml, hown, hts⟩ := id S
  obtain ⟨e0, hn, e1, hcu, e3, hq, hray⟩ := id w
  have hl : lv_has ls 3 [(0, .ref h0)] := hl
  refine lv_iconst (v := nI 0) hx hb dX3_allRoutes_0 (by decide) ?_
  refine lv_istore_n (lv' := [(1, .int (nI 0)), (0, .ref h0)]) hx hb dX3_allRoutes_1 rfl hl (by decide) rfl (fun ls hl => ?_)
  refine lv_iconst (v := nI 0) hx hb dX3_allRoutes_2 (by decide) ?_
  refine lv_istore_n (lv' := [(2, .int (nI 0)), (1, .int (nI 0)), (0, .ref h0)]) hx hb dX3_allRoutes_3 rfl hl (by decide) rfl (fun ls hl => ?_)
  refine lpI (mArS row) 0 56 (fun k a ls => lv_has ls 3 [(0, .ref h0), (1, .int (nI a)), (2, .int (nI k))]) (fun ls => W p l e (rmR 0 0) s m ([.ref h0]).toArray below meth c s.heap [] 0 0 (MQ below (QRet (some (.int (nI (mAllR row))))) ([.ref h0]).toArray s 0 0 (fun _ => False)) (F0 m 4 ls [])) ?_ ?_ ls (lv_sub hl [2, 1, 0] rfl)
  · intro k ls hk_1 hl ih
    generalize iter (mArS row) k 0 0 = a at *
    have hl : lv_has ls 3 [(0, .ref h0), (1, .int (nI a)), (2, .int (nI k))] := hl
    show W p l e (rmR 0 0) s m ([.ref h0]).toArray below meth c s.heap [] 0 0 (MQ below (QRet (some (.int (nI (mAllR row))))) ([.ref h0]).toArray s 0 0 (fun _ => False)) (F0 m 4 ls [])
    refine lv_iload_n hx hb dX3_allRoutes_4 rfl (lv_at hl 2 rfl) ?_
    refine lv_bipush (v := nI 56) hx hb dX3_allRoutes_5 (by decide) ?_
    refine lv_icmp_ge (tgt := 38) hx hb dX3_allRoutes_7 (by decide) (fun h => absurd h (nI_ge hk_1 (by omega))) (fun _ => ?_)
    refine lv_iload_n hx hb dX3_allRoutes_10 rfl (lv_at hl 1 rfl) ?_
    refine lv_aload_n hx hb dX3_allRoutes_11 rfl (lv_at hl 0 rfl) ?_
    refine va_get (D := D) (ci := 3) (C := RX3) (T := TX3) (N := 10) hx hb hts in_X3 hown K hP 0 rfl rfl 0 (by decide) (hts _ q1075) (fun _ h9 => h9) rfl dX3_allRoutes_12 ?_
    refine lv_bipush (v := nI 21) hx hb dX3_allRoutes_15 (by decide) ?_
    refine lv_iload_n hx hb dX3_allRoutes_17 rfl (lv_at hl 2 rfl) ?_
    refine x_addN hx hb dX3_allRoutes_18 ?_
    refine x_iald hx hb K hP 1 0 rfl rfl (21 + k) rfl (by omega) (by decide) rfl dX3_allRoutes_19 ?_
    refine lv_bipush (v := nI 100) hx hb dX3_allRoutes_20 (by decide) ?_
    refine lv_icmp_ge (tgt := 29) hx hb dX3_allRoutes_22 (by decide) (fun h_3 => ?_) (fun h_3 => ?_)
    · refine lv_iconst (v := nI 0) hx hb dX3_allRoutes_29 (by decide) ?_
      refine x_addN hx hb dX3_allRoutes_30 ?_
      refine lv_istore_n (lv' := [(1, .int (nI (a + 0))), (0, .ref h0), (2, .int (nI k))]) hx hb dX3_allRoutes_31 rfl hl (by decide) rfl (fun ls hl => ?_)
      refine lv_iinc (v := nI (k + 1)) (lv' := [(2, .int (nI (k + 1))), (1, .int (nI (a + 0))), (0, .ref h0)]) hx hb dX3_allRoutes_32 hl (k := 2) rfl (nI_1 k) (by decide) rfl (fun ls hl => ?_)
      refine lv_goto (tgt := 4) hx hb dX3_allRoutes_35 (by decide) ?_
      refine ih ls ?_
      show lv_has ls 3 [(0, .ref h0), (1, .int (nI ((mArS row) k a))), (2, .int (nI (k + 1)))]
      rw [show nI ((mArS row) k a) = nI (a + 0) from (by simp [mArS, h_3])]
      exact lv_sub hl [2, 1, 0] rfl
    · refine lv_iconst (v := nI 1) hx hb dX3_allRoutes_25 (by decide) ?_
      refine lv_goto (tgt := 30) hx hb dX3_allRoutes_26 (by decide) ?_
      refine x_addN hx hb dX3_allRoutes_30 ?_
      refine lv_istore_n (lv' := [(1, .int (nI (a + 1))), (0, .ref h0), (2, .int (nI k))]) hx hb dX3_allRoutes_31 rfl hl (by decide) rfl (fun ls hl => ?_)
      refine lv_iinc (v := nI (k + 1)) (lv' := [(2, .int (nI (k + 1))), (1, .int (nI (a + 1))), (0, .ref h0)]) hx hb dX3_allRoutes_32 hl (k := 2) rfl (nI_1 k) (by decide) rfl (fun ls hl => ?_)
      refine lv_goto (tgt := 4) hx hb dX3_allRoutes_35 (by decide) ?_
      refine ih ls ?_
      show lv_has ls 3 [(0, .ref h0), (1, .int (nI ((mArS row) k a))), (2, .int (nI (k + 1)))]
      rw [show nI ((mArS row) k a) = nI (a + 1) from (by simp [mArS, h_3])]
      exact lv_sub hl [2, 1, 0] rfl
  · intro ls hl
    have hl : lv_has ls 3 [(0, .ref h0), (1, .int (nI (mAllR row))), (2, .int (nI 56))] := hl
    show W p l e (rmR 0 0) s m ([.ref h0]).toArray below meth c s.heap [] 0 0 (MQ below (QRet (some (.int (nI (mAllR row))))) ([.ref h0]).toArray s 0 0 (fun _ => False)) (F0 m 4 ls [])
    refine lv_iload_n hx hb dX3_allRoutes_4 rfl (lv_at hl 2 rfl) ?_
    refine lv_bipush (v := nI 56) hx hb dX3_allRoutes_5 (by decide) ?_
    refine lv_icmp_ge (tgt := 38) hx hb dX3_allRoutes_7 (by decide) (fun _ => ?_) (fun h => absurd (by decide) h)
    refine lv_iload_n hx hb dX3_allRoutes_38 rfl (lv_at hl 1 rfl) ?_
    exact x_iret hx hb hrt hlk rfl dX3_allRoutes_39

set_option maxHeartbeats 4000000 in
theorem mr_plansBy (l : Launch) (D : va_G) (dA : Nat → ClassId) (h0 hr : Nat) (fs : List Value) (row : Nat → Int32) {n cu q : Nat} (w : MWf row n cu q) (kc : Nat) (t : Bool) (hkc : kc < q) : RO l yX3_plansBy cX3_plansBy 7 (some .int) 4 160 [.ref h0, .int (nI kc), .int (bI t)] (KA D dA) (MRo D dA h0 hr fs row) (some (.int (nI (mPlansBy row n cu kc t)))) := by
  refine ro_of (by decide) (Nat.le_of_ble_eq_true rfl) ?_
  intro p e s m below meth c S hrt hlk K hP ls hl
  obtain ⟨hx, hb, hml, hown, hts⟩ := id S
  obtain ⟨e0, hn, e1, hcu, e3, hq, hray⟩ := id w
  have h2n := pow7 hn
  have hl : lv_has ls 7 [(0, .ref h0), (1, .int (nI kc)), (2, .int (bI t))] := hl
  refine lv_iconst (v := nI 0) hx hb dX3_plansBy_0 (by decide) ?_
  refine lv_istore_n (lv' := [(3, .int (nI 0)), (0, .ref h0), (1, .int (nI kc)), (2, .int (bI t))]) hx hb dX3_plansBy_1 rfl hl (by decide) rfl (fun ls hl => ?_)
  refine lv_iconst (v := nI 0) hx hb dX3_plansBy_2 (by decide) ?_
  refine lv_istore (lv' := [(4, .int (nI 0)), (3, .int (nI 0)), (0, .ref h0), (1, .int (nI kc)), (2, .int (bI t))]) hx hb dX3_plansBy_3 hl (by decide) rfl (fun ls hl => ?_)
  refine lpI (mPbS row n cu kc t) 0 (2 ^ n) (fun k a ls => lv_has ls 7 [(0, .ref h0), (1, .int (nI kc)), (2, .int (bI t)), (3, .int (nI a)), (4, .int (nI k))]) (fun ls => W p l e (rmR 4 160) s m ([.ref h0, .int (nI kc), .int (bI t)]).toArray below meth c s.heap [] 0 0 (MQ below (QRet (some (.int (nI (mPlansBy row n cu kc t))))) ([.ref h0, .int (nI kc), .int (bI t)]).toArray s 0 0 (fun _ => False)) (F0 m 5 ls [])) ?_ ?_ ls (lv_sub hl [2, 3, 4, 1, 0] rfl)
  · intro k ls hk_1 hl ih
    generalize iter (mPbS row n cu kc t) k 0 0 = a at *
    have hl : lv_has ls 7 [(0, .ref h0), (1, .int (nI kc)), (2, .int (bI t)), (3, .int (nI a)), (4, .int (nI k))] := hl
    show W p l e (rmR 4 160) s m ([.ref h0, .int (nI kc), .int (bI t)]).toArray below meth c s.heap [] 0 0 (MQ below (QRet (some (.int (nI (mPlansBy row n cu kc t))))) ([.ref h0, .int (nI kc), .int (bI t)]).toArray s 0 0 (fun _ => False)) (F0 m 5 ls [])
    refine lv_iload hx hb dX3_plansBy_5 (lv_at hl 4 rfl) ?_
    refine lv_iconst (v := nI 1) hx hb dX3_plansBy_7 (by decide) ?_
    refine lv_aload_n hx hb dX3_plansBy_8 rfl (lv_at hl 0 rfl) ?_
    refine va_get (D := D) (ci := 3) (C := RX3) (T := TX3) (N := 10) hx hb hts in_X3 hown K hP 0 rfl rfl 0 (by decide) (hts _ q1075) (fun _ h9 => h9) rfl dX3_plansBy_9 ?_
    refine lv_iconst (v := nI 0) hx hb dX3_plansBy_12 (by decide) ?_
    refine x_iald hx hb K hP 1 0 rfl rfl 0 rfl (by omega) (by decide) e0 dX3_plansBy_13 ?_
    refine lv_ishl hx hb dX3_plansBy_14 ?_
    refine x_top (y := nI (2 ^ n)) (nx_shl (by omega)) ?_
    refine lv_icmp_ge (tgt := 139) hx hb dX3_plansBy_15 (by decide) (fun h => absurd h (nI_ge hk_1 (by omega))) (fun _ => ?_)
    refine lv_aload_n hx hb dX3_plansBy_18 rfl (lv_at hl 0 rfl) ?_
    refine lv_iload hx hb dX3_plansBy_19 (lv_at hl 4 rfl) ?_
    refine x_ret (va_runV (As := [.int (nI k)]) (rest := []) S (mr_isFeasible l D dA h0 hr fs row w k (by omega)) (cwV 1 hts (lw_V q1323 q1325 qs54 q69 q1326) rfl rfl rfl hdX3_isFeasible ⟨Nat.le_of_ble_eq_true rfl, Nat.le_of_ble_eq_true rfl⟩) ⟨bb_blind ka_bl _, va_recv K hP (ci := 3) (q0 := 0) rfl rfl, ka_pre K hP _⟩ rfl rfl hl.1 rfl (lv_room (Nat.le_of_ble_eq_true rfl)) dX3_plansBy_21 ⟨Nat.le_refl _, Nat.le_refl _⟩) ?_
    refine x_ifb_eq (tgt := 133) hx hb dX3_plansBy_24 (by decide) (fun h_3 => ?_) (fun h_3 => ?_)
    · refine lv_iinc (v := nI (k + 1)) (lv' := [(4, .int (nI (k + 1))), (0, .ref h0), (1, .int (nI kc)), (2, .int (bI t)), (3, .int (nI a))]) hx hb dX3_plansBy_133 hl (k := 4) rfl (nI_1 k) (by decide) rfl (fun ls hl => ?_)
      refine lv_goto (tgt := 5) hx hb dX3_plansBy_136 (by decide) ?_
      refine ih ls ?_
      show lv_has ls 7 [(0, .ref h0), (1, .int (nI kc)), (2, .int (bI t)), (3, .int (nI ((mPbS row n cu kc t) k a))), (4, .int (nI (k + 1)))]
      rw [show nI ((mPbS row n cu kc t) k a) = nI a from (by simp [mPbS, mPbV, h_3])]
      exact lv_sub hl [1, 2, 3, 4, 0] rfl
    · have hms := feas_miss h_3
      refine lv_aload_n hx hb dX3_plansBy_27 rfl (lv_at hl 0 rfl) ?_
      refine lv_iload_n hx hb dX3_plansBy_28 rfl (lv_at hl 1 rfl) ?_
      refine x_ret (va_runV (As := [.int (nI kc)]) (rest := []) S (mr_isRay l D dA h0 hr fs row w kc (by omega)) (cwV 1 hts (lw_V q1211 q1213 qs36 q69 q1214) rfl rfl rfl hdX3_isRay ⟨Nat.le_of_ble_eq_true rfl, Nat.le_of_ble_eq_true rfl⟩) ⟨bb_blind ka_bl _, va_recv K hP (ci := 3) (q0 := 0) rfl rfl, ka_pre K hP _⟩ rfl rfl hl.1 rfl (lv_room (Nat.le_of_ble_eq_true rfl)) dX3_plansBy_29 ⟨Nat.le_refl _, Nat.le_refl _⟩) ?_
      refine x_ifb_eq (tgt := 45) hx hb dX3_plansBy_32 (by decide) (fun h_4 => ?_) (fun h_4 => ?_)
      · refine lv_aload_n hx hb dX3_plansBy_45 rfl (lv_at hl 0 rfl) ?_
        refine lv_iload_n hx hb dX3_plansBy_46 rfl (lv_at hl 1 rfl) ?_
        refine lv_iload hx hb dX3_plansBy_47 (lv_at hl 4 rfl) ?_
        refine x_ret (va_runV (As := [.int (nI kc), .int (nI k)]) (rest := []) S (mr_valueOf l D dA h0 hr fs row w kc k (by omega) (by omega)) (cwV 2 hts (lw_V q1227 q1229 qs40 q69 q1230) rfl rfl rfl hdX3_valueOf ⟨Nat.le_of_ble_eq_true rfl, Nat.le_of_ble_eq_true rfl⟩) ⟨bb_blind ka_bl _, va_recv K hP (ci := 3) (q0 := 0) rfl rfl, ka_pre K hP _⟩ rfl rfl hl.1 rfl (lv_room (Nat.le_of_ble_eq_true rfl)) dX3_plansBy_49 ⟨Nat.le_refl _, Nat.le_refl _⟩) ?_
        refine lv_aload_n hx hb dX3_plansBy_52 rfl (lv_at hl 0 rfl) ?_
        refine lv_iload hx hb dX3_plansBy_53 (lv_at hl 4 rfl) ?_
        refine x_ret (va_runV (As := [.int (nI k)]) (rest := [.int (mValue row n cu kc k)]) S (mr_routes l D dA h0 hr fs row w k (by omega) (miss_none hms)) (cwV 1 hts (lw_V q1243 q1245 qs44 q69 q1246) rfl rfl rfl hdX3_routes ⟨Nat.le_of_ble_eq_true rfl, Nat.le_of_ble_eq_true rfl⟩) ⟨bb_blind ka_bl _, va_recv K hP (ci := 3) (q0 := 0) rfl rfl, ka_pre K hP _⟩ rfl rfl hl.1 rfl (lv_room (Nat.le_of_ble_eq_true rfl)) dX3_plansBy_55 ⟨Nat.le_refl _, Nat.le_refl _⟩) ?_
        refine lv_isub hx hb dX3_plansBy_58 ?_
        refine lv_istore (lv' := [(5, .int ((mValue row n cu kc k) - (mRoutes row n cu k))), (0, .ref h0), (1, .int (nI kc)), (2, .int (bI t)), (3, .int (nI a)), (4, .int (nI k))]) hx hb dX3_plansBy_59 hl (by decide) rfl (fun ls hl => ?_)
        refine lv_aload_n hx hb dX3_plansBy_61 rfl (lv_at hl 1 rfl) ?_
        refine lv_iload_n hx hb dX3_plansBy_62 rfl (lv_at hl 2 rfl) ?_
        refine x_ret (va_runV (As := [.int (nI kc)]) (rest := []) S (mr_isRay l D dA h0 hr fs row w kc (by omega)) (cwV 1 hts (lw_V q1211 q1213 qs36 q69 q1214) rfl rfl rfl hdX3_isRay ⟨Nat.le_of_ble_eq_true rfl, Nat.le_of_ble_eq_true rfl⟩) ⟨bb_blind ka_bl _, va_recv K hP (ci := 3) (q0 := 0) rfl rfl, ka_pre K hP _⟩ rfl rfl hl.1 rfl (lv_room (Nat.le_of_ble_eq_true rfl)) dX3_plansBy_63 ⟨Nat.le_refl _, Nat.le_refl _⟩) ?_
        refine x_ifb_eq (tgt := 91) hx hb dX3_plansBy_66 (by decide) (fun _ => ?_) (fun h => absurd (h.symm.trans h_4) (by decide))
        refine lv_iload_n hx hb dX3_plansBy_91 rfl (lv_at hl 3 rfl) ?_
        refine x_ifb_eq (tgt := 108) hx hb dX3_plansBy_92 (by decide) (fun h_6 => ?_) (fun h_6 => ?_)
        · refine lv_iload hx hb dX3_plansBy_108 (lv_at hl 0 rfl) ?_
          refine lv_if_le (tgt := 117) hx hb dX3_plansBy_110 (by decide) (fun h_7 => ?_) (fun h_7 => ?_)
          · refine lv_iconst (v := nI 0) hx hb dX3_plansBy_117 (by decide) ?_
            refine lv_istore (lv' := [(6, .int (nI 0)), (5, .int ((mValue row n cu kc k) - (mRoutes row n cu k))), (0, .ref h0), (1, .int (nI kc)), (2, .int (bI t)), (3, .int (nI a)), (4, .int (nI k))]) hx hb dX3_plansBy_118 hl (by decide) rfl (fun ls hl => ?_)
            refine lv_iload_n hx hb dX3_plansBy_120 rfl (lv_at hl 5 rfl) ?_
            refine lv_iload hx hb dX3_plansBy_121 (lv_at hl 0 rfl) ?_
            refine lv_if_eq (tgt := 130) hx hb dX3_plansBy_123 (by decide) (fun _ => ?_) (fun h => absurd (by decide) h)
            refine lv_iconst (v := nI 0) hx hb dX3_plansBy_130 (by decide) ?_
            refine x_addN hx hb dX3_plansBy_131 ?_
            refine lv_istore_n (lv' := [(3, .int (nI (a + 0))), (6, .int (nI 0)), (5, .int ((mValue row n cu kc k) - (mRoutes row n cu k))), (0, .ref h0), (1, .int (nI kc)), (2, .int (bI t)), (4, .int (nI k))]) hx hb dX3_plansBy_132 rfl hl (by decide) rfl (fun ls hl => ?_)
            refine lv_iinc (v := nI (k + 1)) (lv' := [(4, .int (nI (k + 1))), (3, .int (nI (a + 0))), (6, .int (nI 0)), (5, .int ((mValue row n cu kc k) - (mRoutes row n cu k))), (0, .ref h0), (1, .int (nI kc)), (2, .int (bI t))]) hx hb dX3_plansBy_133 hl (k := 6) rfl (nI_1 k) (by decide) rfl (fun ls hl => ?_)
            refine lv_goto (tgt := 5) hx hb dX3_plansBy_136 (by decide) ?_
            refine ih ls ?_
            show lv_has ls 7 [(0, .ref h0), (1, .int (nI kc)), (2, .int (bI t)), (3, .int (nI ((mPbS row n cu kc t) k a))), (4, .int (nI (k + 1)))]
            rw [show nI ((mPbS row n cu kc t) k a) = nI (a + 0) from (by simp [mPbS, mPbV, h_3, h_4, h_6, h_7])]
            exact lv_sub hl [4, 5, 6, 1, 0] rfl
          · refine lv_iconst (v := nI 1) hx hb dX3_plansBy_113 (by decide) ?_
            refine lv_goto (tgt := 118) hx hb dX3_plansBy_114 (by decide) ?_
            refine lv_istore (lv' := [(6, .int (nI 1)), (5, .int ((mValue row n cu kc k) - (mRoutes row n cu k))), (0, .ref h0), (1, .int (nI kc)), (2, .int (bI t)), (3, .int (nI a)), (4, .int (nI k))]) hx hb dX3_plansBy_118 hl (by decide) rfl (fun ls hl => ?_)
            refine lv_iload_n hx hb dX3_plansBy_120 rfl (lv_at hl 5 rfl) ?_
            refine lv_iload hx hb dX3_plansBy_121 (lv_at hl 0 rfl) ?_
            refine lv_if_eq (tgt := 130) hx hb dX3_plansBy_123 (by decide) (fun h => absurd h (by decide)) (fun _ => ?_)
            refine lv_iconst (v := nI 1) hx hb dX3_plansBy_126 (by decide) ?_
            refine lv_goto (tgt := 131) hx hb dX3_plansBy_127 (by decide) ?_
            refine x_addN hx hb dX3_plansBy_131 ?_
            refine lv_istore_n (lv' := [(3, .int (nI (a + 1))), (6, .int (nI 1)), (5, .int ((mValue row n cu kc k) - (mRoutes row n cu k))), (0, .ref h0), (1, .int (nI kc)), (2, .int (bI t)), (4, .int (nI k))]) hx hb dX3_plansBy_132 rfl hl (by decide) rfl (fun ls hl => ?_)
            refine lv_iinc (v := nI (k + 1)) (lv' := [(4, .int (nI (k + 1))), (3, .int (nI (a + 1))), (6, .int (nI 1)), (5, .int ((mValue row n cu kc k) - (mRoutes row n cu k))), (0, .ref h0), (1, .int (nI kc)), (2, .int (bI t))]) hx hb dX3_plansBy_133 hl (k := 6) rfl (nI_1 k) (by decide) rfl (fun ls hl => ?_)
            refine lv_goto (tgt := 5) hx hb dX3_plansBy_136 (by decide) ?_
            refine ih ls ?_
            show lv_has ls 7 [(0, .ref h0), (1, .int (nI kc)), (2, .int (bI t)), (3, .int (nI ((mPbS row n cu kc t) k a))), (4, .int (nI (k + 1)))]
            rw [show nI ((mPbS row n cu kc t) k a) = nI (a + 1) from (by simp [mPbS, mPbV, h_3, h_4, h_6, h_7])]
            exact lv_sub hl [4, 5, 6, 1, 0] rfl
        · refine lv_iload hx hb dX3_plansBy_95 (lv_at hl 0 rfl) ?_
          refine lv_if_ne (tgt := 104) hx hb dX3_plansBy_97 (by decide) (fun h_10 => ?_) (fun h_10 => ?_)
          · refine lv_iconst (v := nI 0) hx hb dX3_plansBy_104 (by decide) ?_
            refine lv_goto (tgt := 118) hx hb dX3_plansBy_105 (by decide) ?_
            refine lv_istore (lv' := [(6, .int (nI 0)), (5, .int ((mValue row n cu kc k) - (mRoutes row n cu k))), (0, .ref h0), (1, .int (nI kc)), (2, .int (bI t)), (3, .int (nI a)), (4, .int (nI k))]) hx hb dX3_plansBy_118 hl (by decide) rfl (fun ls hl => ?_)
            refine lv_iload_n hx hb dX3_plansBy_120 rfl (lv_at hl 5 rfl) ?_
            refine lv_iload hx hb dX3_plansBy_121 (lv_at hl 0 rfl) ?_
            refine lv_if_eq (tgt := 130) hx hb dX3_plansBy_123 (by decide) (fun _ => ?_) (fun h => absurd (by decide) h)
            refine lv_iconst (v := nI 0) hx hb dX3_plansBy_130 (by decide) ?_
            refine x_addN hx hb dX3_plansBy_131 ?_
            refine lv_istore_n (lv' := [(3, .int (nI (a + 0))), (6, .int (nI 0)), (5, .int ((mValue row n cu kc k) - (mRoutes row n cu k))), (0, .ref h0), (1, .int (nI kc)), (2, .int (bI t)), (4, .int (nI k))]) hx hb dX3_plansBy_132 rfl hl (by decide) rfl (fun ls hl => ?_)
            refine lv_iinc (v := nI (k + 1)) (lv' := [(4, .int (nI (k + 1))), (3, .int (nI (a + 0))), (6, .int (nI 0)), (5, .int ((mValue row n cu kc k) - (mRoutes row n cu k))), (0, .ref h0), (1, .int (nI kc)), (2, .int (bI t))]) hx hb dX3_plansBy_133 hl (k := 6) rfl (nI_1 k) (by decide) rfl (fun ls hl => ?_)
            refine lv_goto (tgt := 5) hx hb dX3_plansBy_136 (by decide) ?_
            refine ih ls ?_
            show lv_has ls 7 [(0, .ref h0), (1, .int (nI kc)), (2, .int (bI t)), (3, .int (nI ((mPbS row n cu kc t) k a))), (4, .int (nI (k + 1)))]
            rw [show nI ((mPbS row n cu kc t) k a) = nI (a + 0) from (by simp [mPbS, mPbV, h_3, h_4, h_6, h_10])]
            exact lv_sub hl [4, 5, 6, 1, 0] rfl
          · refine lv_iconst (v := nI 1) hx hb dX3_plansBy_100 (by decide) ?_
            refine lv_goto (tgt := 118) hx hb dX3_plansBy_101 (by decide) ?_
            refine lv_istore (lv' := [(6, .int (nI 1)), (5, .int ((mValue row n cu kc k) - (mRoutes row n cu k))), (0, .ref h0), (1, .int (nI kc)), (2, .int (bI t)), (3, .int (nI a)), (4, .int (nI k))]) hx hb dX3_plansBy_118 hl (by decide) rfl (fun ls hl => ?_)
            refine lv_iload_n hx hb dX3_plansBy_120 rfl (lv_at hl 5 rfl) ?_
            refine lv_iload hx hb dX3_plansBy_121 (lv_at hl 0 rfl) ?_
            refine lv_if_eq (tgt := 130) hx hb dX3_plansBy_123 (by decide) (fun h => absurd h (by decide)) (fun _ => ?_)
            refine lv_iconst (v := nI 1) hx hb dX3_plansBy_126 (by decide) ?_
            refine lv_goto (tgt := 131) hx hb dX3_plansBy_127 (by decide) ?_
            refine x_addN hx hb dX3_plansBy_131 ?_
            refine lv_istore_n (lv' := [(3, .int (nI (a + 1))), (6, .int (nI 1)), (5, .int ((mValue row n cu kc k) - (mRoutes row n cu k))), (0, .ref h0), (1, .int (nI kc)), (2, .int (bI t)), (4, .int (nI k))]) hx hb dX3_plansBy_132 rfl hl (by decide) rfl (fun ls hl => ?_)
            refine lv_iinc (v := nI (k + 1)) (lv' := [(4, .int (nI (k + 1))), (3, .int (nI (a + 1))), (6, .int (nI 1)), (5, .int ((mValue row n cu kc k) - (mRoutes row n cu k))), (0, .ref h0), (1, .int (nI kc)), (2, .int (bI t))]) hx hb dX3_plansBy_133 hl (k := 6) rfl (nI_1 k) (by decide) rfl (fun ls hl => ?_)
            refine lv_goto (tgt := 5) hx hb dX3_plansBy_136 (by decide) ?_
            refine ih ls ?_
            show lv_has ls 7 [(0, .ref h0), (1, .int (nI kc)), (2, .int (bI t)), (3, .int (nI ((mPbS row n cu kc t) k a))), (4, .int (nI (k + 1)))]
            rw [show nI ((mPbS row n cu kc t) k a) = nI (a + 1) from (by simp [mPbS, mPbV, h_3, h_4, h_6, h_10])]
            exact lv_sub hl [4, 5, 6, 1, 0] rfl
      · refine lv_aload_n hx hb dX3_plansBy_35 rfl (lv_at hl 0 rfl) ?_
        refine lv_iload_n hx hb dX3_plansBy_36 rfl (lv_at hl 1 rfl) ?_
        refine lv_iload hx hb dX3_plansBy_37 (lv_at hl 4 rfl) ?_
        refine x_ret (va_runV (As := [.int (nI kc), .int (nI k)]) (rest := []) S (mr_asked l D dA h0 hr fs row w kc k (by omega) (by omega) (ray_of w hkc h_4)) (cwV 2 hts (lw_V q1215 q1217 qs37 q69 q1218) rfl rfl rfl hdX3_asked ⟨Nat.le_of_ble_eq_true rfl, Nat.le_of_ble_eq_true rfl⟩) ⟨bb_blind ka_bl _, va_recv K hP (ci := 3) (q0 := 0) rfl rfl, ka_pre K hP _⟩ rfl rfl hl.1 rfl (lv_room (Nat.le_of_ble_eq_true rfl)) dX3_plansBy_39 ⟨Nat.le_refl _, Nat.le_refl _⟩) ?_
        refine lv_goto (tgt := 59) hx hb dX3_plansBy_42 (by decide) ?_
        refine lv_istore (lv' := [(5, .int (nI (mAsked row n kc k))), (0, .ref h0), (1, .int (nI kc)), (2, .int (bI t)), (3, .int (nI a)), (4, .int (nI k))]) hx hb dX3_plansBy_59 hl (by decide) rfl (fun ls hl => ?_)
        refine lv_aload_n hx hb dX3_plansBy_61 rfl (lv_at hl 1 rfl) ?_
        refine lv_iload_n hx hb dX3_plansBy_62 rfl (lv_at hl 2 rfl) ?_
        refine x_ret (va_runV (As := [.int (nI kc)]) (rest := []) S (mr_isRay l D dA h0 hr fs row w kc (by omega)) (cwV 1 hts (lw_V q1211 q1213 qs36 q69 q1214) rfl rfl rfl hdX3_isRay ⟨Nat.le_of_ble_eq_true rfl, Nat.le_of_ble_eq_true rfl⟩) ⟨bb_blind ka_bl _, va_recv K hP (ci := 3) (q0 := 0) rfl rfl, ka_pre K hP _⟩ rfl rfl hl.1 rfl (lv_room (Nat.le_of_ble_eq_true rfl)) dX3_plansBy_63 ⟨Nat.le_refl _, Nat.le_refl _⟩) ?_
        refine x_ifb_eq (tgt := 91) hx hb dX3_plansBy_66 (by decide) (fun h => absurd (h.symm.trans h_4) (by decide)) (fun _ => ?_)
        refine lv_iload hx hb dX3_plansBy_69 (lv_at hl 0 rfl) ?_
        refine lv_iload_n hx hb dX3_plansBy_71 rfl (lv_at hl 3 rfl) ?_
        refine x_ifb_eq (tgt := 79) hx hb dX3_plansBy_72 (by decide) (fun h_14 => ?_) (fun h_14 => ?_)
        · refine lv_iconst (v := nI 0) hx hb dX3_plansBy_79 (by decide) ?_
          refine lv_icmp_ne (tgt := 87) hx hb dX3_plansBy_80 (by decide) (fun h_15 => ?_) (fun h_15 => ?_)
          · refine lv_iconst (v := nI 0) hx hb dX3_plansBy_87 (by decide) ?_
            refine lv_goto (tgt := 118) hx hb dX3_plansBy_88 (by decide) ?_
            refine lv_istore (lv' := [(6, .int (nI 0)), (5, .int (nI (mAsked row n kc k))), (0, .ref h0), (1, .int (nI kc)), (2, .int (bI t)), (3, .int (nI a)), (4, .int (nI k))]) hx hb dX3_plansBy_118 hl (by decide) rfl (fun ls hl => ?_)
            refine lv_iload_n hx hb dX3_plansBy_120 rfl (lv_at hl 5 rfl) ?_
            refine lv_iload hx hb dX3_plansBy_121 (lv_at hl 0 rfl) ?_
            refine lv_if_eq (tgt := 130) hx hb dX3_plansBy_123 (by decide) (fun _ => ?_) (fun h => absurd (by decide) h)
            refine lv_iconst (v := nI 0) hx hb dX3_plansBy_130 (by decide) ?_
            refine x_addN hx hb dX3_plansBy_131 ?_
            refine lv_istore_n (lv' := [(3, .int (nI (a + 0))), (6, .int (nI 0)), (5, .int (nI (mAsked row n kc k))), (0, .ref h0), (1, .int (nI kc)), (2, .int (bI t)), (4, .int (nI k))]) hx hb dX3_plansBy_132 rfl hl (by decide) rfl (fun ls hl => ?_)
            refine lv_iinc (v := nI (k + 1)) (lv' := [(4, .int (nI (k + 1))), (3, .int (nI (a + 0))), (6, .int (nI 0)), (5, .int (nI (mAsked row n kc k))), (0, .ref h0), (1, .int (nI kc)), (2, .int (bI t))]) hx hb dX3_plansBy_133 hl (k := 6) rfl (nI_1 k) (by decide) rfl (fun ls hl => ?_)
            refine lv_goto (tgt := 5) hx hb dX3_plansBy_136 (by decide) ?_
            refine ih ls ?_
            show lv_has ls 7 [(0, .ref h0), (1, .int (nI kc)), (2, .int (bI t)), (3, .int (nI ((mPbS row n cu kc t) k a))), (4, .int (nI (k + 1)))]
            rw [show nI ((mPbS row n cu kc t) k a) = nI (a + 0) from (by simp [mPbS, mPbV, h_3, h_4, h_14, h_15])]
            exact lv_sub hl [4, 5, 6, 1, 0] rfl
          · refine lv_iconst (v := nI 1) hx hb dX3_plansBy_83 (by decide) ?_
            refine lv_goto (tgt := 118) hx hb dX3_plansBy_84 (by decide) ?_
            refine lv_istore (lv' := [(6, .int (nI 1)), (5, .int (nI (mAsked row n kc k))), (0, .ref h0), (1, .int (nI kc)), (2, .int (bI t)), (3, .int (nI a)), (4, .int (nI k))]) hx hb dX3_plansBy_118 hl (by decide) rfl (fun ls hl => ?_)
            refine lv_iload_n hx hb dX3_plansBy_120 rfl (lv_at hl 5 rfl) ?_
            refine lv_iload hx hb dX3_plansBy_121 (lv_at hl 0 rfl) ?_
            refine lv_if_eq (tgt := 130) hx hb dX3_plansBy_123 (by decide) (fun h => absurd h (by decide)) (fun _ => ?_)
            refine lv_iconst (v := nI 1) hx hb dX3_plansBy_126 (by decide) ?_
            refine lv_goto (tgt := 131) hx hb dX3_plansBy_127 (by decide) ?_
            refine x_addN hx hb dX3_plansBy_131 ?_
            refine lv_istore_n (lv' := [(3, .int (nI (a + 1))), (6, .int (nI 1)), (5, .int (nI (mAsked row n kc k))), (0, .ref h0), (1, .int (nI kc)), (2, .int (bI t)), (4, .int (nI k))]) hx hb dX3_plansBy_132 rfl hl (by decide) rfl (fun ls hl => ?_)
            refine lv_iinc (v := nI (k + 1)) (lv' := [(4, .int (nI (k + 1))), (3, .int (nI (a + 1))), (6, .int (nI 1)), (5, .int (nI (mAsked row n kc k))), (0, .ref h0), (1, .int (nI kc)), (2, .int (bI t))]) hx hb dX3_plansBy_133 hl (k := 6) rfl (nI_1 k) (by decide) rfl (fun ls hl => ?_)
            refine lv_goto (tgt := 5) hx hb dX3_plansBy_136 (by decide) ?_
            refine ih ls ?_
            show lv_has ls 7 [(0, .ref h0), (1, .int (nI kc)), (2, .int (bI t)), (3, .int (nI ((mPbS row n cu kc t) k a))), (4, .int (nI (k + 1)))]
            rw [show nI ((mPbS row n cu kc t) k a) = nI (a + 1) from (by simp [mPbS, mPbV, h_3, h_4, h_14, h_15])]
            exact lv_sub hl [4, 5, 6, 1, 0] rfl
        · refine lv_iconst (v := nI 1) hx hb dX3_plansBy_75 (by decide) ?_
          refine lv_goto (tgt := 80) hx hb dX3_plansBy_76 (by decide) ?_
          refine lv_icmp_ne (tgt := 87) hx hb dX3_plansBy_80 (by decide) (fun h_18 => ?_) (fun h_18 => ?_)
          · refine lv_iconst (v := nI 0) hx hb dX3_plansBy_87 (by decide) ?_
            refine lv_goto (tgt := 118) hx hb dX3_plansBy_88 (by decide) ?_
            refine lv_istore (lv' := [(6, .int (nI 0)), (5, .int (nI (mAsked row n kc k))), (0, .ref h0), (1, .int (nI kc)), (2, .int (bI t)), (3, .int (nI a)), (4, .int (nI k))]) hx hb dX3_plansBy_118 hl (by decide) rfl (fun ls hl => ?_)
            refine lv_iload_n hx hb dX3_plansBy_120 rfl (lv_at hl 5 rfl) ?_
            refine lv_iload hx hb dX3_plansBy_121 (lv_at hl 0 rfl) ?_
            refine lv_if_eq (tgt := 130) hx hb dX3_plansBy_123 (by decide) (fun _ => ?_) (fun h => absurd (by decide) h)
            refine lv_iconst (v := nI 0) hx hb dX3_plansBy_130 (by decide) ?_
            refine x_addN hx hb dX3_plansBy_131 ?_
            refine lv_istore_n (lv' := [(3, .int (nI (a + 0))), (6, .int (nI 0)), (5, .int (nI (mAsked row n kc k))), (0, .ref h0), (1, .int (nI kc)), (2, .int (bI t)), (4, .int (nI k))]) hx hb dX3_plansBy_132 rfl hl (by decide) rfl (fun ls hl => ?_)
            refine lv_iinc (v := nI (k + 1)) (lv' := [(4, .int (nI (k + 1))), (3, .int (nI (a + 0))), (6, .int (nI 0)), (5, .int (nI (mAsked row n kc k))), (0, .ref h0), (1, .int (nI kc)), (2, .int (bI t))]) hx hb dX3_plansBy_133 hl (k := 6) rfl (nI_1 k) (by decide) rfl (fun ls hl => ?_)
            refine lv_goto (tgt := 5) hx hb dX3_plansBy_136 (by decide) ?_
            refine ih ls ?_
            show lv_has ls 7 [(0, .ref h0), (1, .int (nI kc)), (2, .int (bI t)), (3, .int (nI ((mPbS row n cu kc t) k a))), (4, .int (nI (k + 1)))]
            rw [show nI ((mPbS row n cu kc t) k a) = nI (a + 0) from (by simp [mPbS, mPbV, h_3, h_4, h_14, h_18])]
            exact lv_sub hl [4, 5, 6, 1, 0] rfl
          · refine lv_iconst (v := nI 1) hx hb dX3_plansBy_83 (by decide) ?_
            refine lv_goto (tgt := 118) hx hb dX3_plansBy_84 (by decide) ?_
            refine lv_istore (lv' := [(6, .int (nI 1)), (5, .int (nI (mAsked row n kc k))), (0, .ref h0), (1, .int (nI kc)), (2, .int (bI t)), (3, .int (nI a)), (4, .int (nI k))]) hx hb dX3_plansBy_118 hl (by decide) rfl (fun ls hl => ?_)
            refine lv_iload_n hx hb dX3_plansBy_120 rfl (lv_at hl 5 rfl) ?_
            refine lv_iload hx hb dX3_plansBy_121 (lv_at hl 0 rfl) ?_
            refine lv_if_eq (tgt := 130) hx hb dX3_plansBy_123 (by decide) (fun h => absurd h (by decide)) (fun _ => ?_)
            refine lv_iconst (v := nI 1) hx hb dX3_plansBy_126 (by decide) ?_
            refine lv_goto (tgt := 131) hx hb dX3_plansBy_127 (by decide) ?_
            refine x_addN hx hb dX3_plansBy_131 ?_
            refine lv_istore_n (lv' := [(3, .int (nI (a + 1))), (6, .int (nI 1)), (5, .int (nI (mAsked row n kc k))), (0, .ref h0), (1, .int (nI kc)), (2, .int (bI t)), (4, .int (nI k))]) hx hb dX3_plansBy_132 rfl hl (by decide) rfl (fun ls hl => ?_)
            refine lv_iinc (v := nI (k + 1)) (lv' := [(4, .int (nI (k + 1))), (3, .int (nI (a + 1))), (6, .int (nI 1)), (5, .int (nI (mAsked row n kc k))), (0, .ref h0), (1, .int (nI kc)), (2, .int (bI t))]) hx hb dX3_plansBy_133 hl (k := 6) rfl (nI_1 k) (by decide) rfl (fun ls hl => ?_)
            refine lv_goto (tgt := 5) hx hb dX3_plansBy_136 (by decide) ?_
            refine ih ls ?_
            show lv_has ls 7 [(0, .ref h0), (1, .int (nI kc)), (2, .int (bI t)), (3, .int (nI ((mPbS row n cu kc t) k a))), (4, .int (nI (k + 1)))]
            rw [show nI ((mPbS row n cu kc t) k a) = nI (a + 1) from (by simp [mPbS, mPbV, h_3, h_4, h_14, h_18])]
            exact lv_sub hl [4, 5, 6, 1, 0] rfl
  · intro ls hl
    have hl : lv_has ls 7 [(0, .ref h0), (1, .int (nI kc)), (2, .int (bI t)), (3, .int (nI (mPlansBy row n cu kc t))), (4, .int (nI (2 ^ n)))] := hl
    show W p l e (rmR 4 160) s m ([.ref h0, .int (nI kc), .int (bI t)]).toArray below meth c s.heap [] 0 0 (MQ below (QRet (some (.int (nI (mPlansBy row n cu kc t))))) ([.ref h0, .int (nI kc), .int (bI t)]).toArray s 0 0 (fun _ => False)) (F0 m 5 ls [])
    refine lv_iload hx hb dX3_plansBy_5 (lv_at hl 4 rfl) ?_
    refine lv_iconst (v := nI 1) hx hb dX3_plansBy_7 (by decide) ?_
    refine lv_aload_n hx hb dX3_plansBy_8 rfl (lv_at hl 0 rfl) ?_
    refine va_get (D := D) (ci := 3) (C := RX3) (T := TX3) (N := 10) hx hb hts in_X3 hown K hP 0 rfl rfl 0 (by decide) (hts _ q1075) (fun _ h9 => h9) rfl dX3_plansBy_9 ?_
    refine lv_iconst (v := nI 0) hx hb dX3_plansBy_12 (by decide) ?_
    refine x_iald hx hb K hP 1 0 rfl rfl 0 rfl (by omega) (by decide) e0 dX3_plansBy_13 ?_
    refine lv_ishl hx hb dX3_plansBy_14 ?_
    refine x_top (y := nI (2 ^ n)) (nx_shl (by omega)) ?_
    refine lv_icmp_ge (tgt := 139) hx hb dX3_plansBy_15 (by decide) (fun _ => ?_) (fun h => absurd (nI_le (by omega) (by omega)) h)
    refine lv_iload_n hx hb dX3_plansBy_139 rfl (lv_at hl 3 rfl) ?_
    exact x_iret hx hb hrt hlk rfl dX3_plansBy_140

set_option maxHeartbeats 4000000 in
theorem mr_judge (l : Launch) (D : va_G) (dA : Nat → ClassId) (h0 hr : Nat) (fs : List Value) (row : Nat → Int32) {n cu q : Nat} (w : MWf row n cu q) (x : Int32) : RO l yX3_judge cX3_judge 2 (some .int) 3 120 [.ref h0, .int x] (KA D dA) (MRo D dA h0 hr fs row) (some (.int (rJudge row n cu x))) := by
  refine ro_of (by decide) (Nat.le_of_ble_eq_true rfl) ?_
  intro p e s m below meth c S hrt hlk K hP ls hl
  obtain ⟨hx, hb, hml, hown, hts⟩ := id S
  obtain ⟨e0, hn, e1, hcu, e3, hq, hray⟩ := id w
  have h2n := pow7 hn
  have hl : lv_has ls 2 [(0, .ref h0), (1, .int x)] := hl
  refine lv_aload_n hx hb dX3_judge_0 rfl (lv_at hl 0 rfl) ?_
  refine lv_iload_n hx hb dX3_judge_1 rfl (lv_at hl 1 rfl) ?_
  refine x_ret (va_runV (As := [.int x]) (rest := []) S (mr_noPlan l D dA h0 hr fs row w x) (cwV 1 hts (lw_V q1303 q1305 qs52 q69 q1306) rfl rfl rfl hdX3_noPlan ⟨Nat.le_of_ble_eq_true rfl, Nat.le_of_ble_eq_true rfl⟩) ⟨bb_blind ka_bl _, va_recv K hP (ci := 3) (q0 := 0) rfl rfl, ka_pre K hP _⟩ rfl rfl hl.1 rfl (lv_room (Nat.le_of_ble_eq_true rfl)) dX3_judge_2 ⟨Nat.le_refl _, Nat.le_refl _⟩) ?_
  refine x_ifb_eq (tgt := 11) hx hb dX3_judge_5 (by decide) (fun h_1 => ?_) (fun h_1 => ?_)
  · obtain ⟨pl, hpl, rfl⟩ := mNo_f (by omega) h_1
    have cpl : (nI pl).toNatClampNeg = pl := nI_clamp (by omega)
    refine lv_iload_n hx hb dX3_judge_11 rfl (lv_at hl 1 rfl) ?_
    refine x_ret (va_runS (As := [.int (nI pl)]) (rest := []) S (mr_many l pl (by omega)) (va_cwS 1 hts (lw_S q1184 q1185 q69 q1186) rfl rfl rfl hdX3_many ⟨Nat.le_of_ble_eq_true rfl, Nat.le_of_ble_eq_true rfl⟩) ⟨bb_blind tt_bl _, tt_pre _⟩ rfl rfl hl.1 rfl (lv_room (Nat.le_of_ble_eq_true rfl)) dX3_judge_12 ⟨Nat.le_refl _, Nat.le_refl _⟩) ?_
    refine lv_aload_n hx hb dX3_judge_15 rfl (lv_at hl 0 rfl) ?_
    refine va_get (D := D) (ci := 3) (C := RX3) (T := TX3) (N := 10) hx hb hts in_X3 hown K hP 0 rfl rfl 0 (by decide) (hts _ q1075) (fun _ h9 => h9) rfl dX3_judge_16 ?_
    refine lv_iconst (v := nI 2) hx hb dX3_judge_19 (by decide) ?_
    refine x_iald hx hb K hP 1 0 rfl rfl 2 rfl (by omega) (by decide) rfl dX3_judge_20 ?_
    refine lv_icmp_le (tgt := 28) hx hb dX3_judge_21 (by decide) (fun h_2 => ?_) (fun h_2 => ?_)
    · refine lv_aload_n hx hb dX3_judge_28 rfl (lv_at hl 0 rfl) ?_
      refine lv_iload_n hx hb dX3_judge_29 rfl (lv_at hl 1 rfl) ?_
      refine x_ret (va_runV (As := [.int (nI pl)]) (rest := []) S (mr_excludes l D dA h0 hr fs row w pl (by omega)) (cwV 1 hts (lw_V q1203 q1205 qs34 q69 q1206) rfl rfl rfl hdX3_excludes ⟨Nat.le_of_ble_eq_true rfl, Nat.le_of_ble_eq_true rfl⟩) ⟨bb_blind ka_bl _, va_recv K hP (ci := 3) (q0 := 0) rfl rfl, ka_pre K hP _⟩ rfl rfl hl.1 rfl (lv_room (Nat.le_of_ble_eq_true rfl)) dX3_judge_30 ⟨Nat.le_refl _, Nat.le_refl _⟩) ?_
      refine x_ifb_eq (tgt := 40) hx hb dX3_judge_33 (by decide) (fun h_3 => ?_) (fun h_3 => ?_)
      · refine lv_aload_n hx hb dX3_judge_40 rfl (lv_at hl 0 rfl) ?_
        refine lv_iload_n hx hb dX3_judge_41 rfl (lv_at hl 1 rfl) ?_
        refine x_ret (va_runV (As := [.int (nI pl)]) (rest := []) S (mr_missed l D dA h0 hr fs row w pl (by omega)) (cwV 1 hts (lw_V q1239 q1241 qs43 q69 q1242) rfl rfl rfl hdX3_missed ⟨Nat.le_of_ble_eq_true rfl, Nat.le_of_ble_eq_true rfl⟩) ⟨bb_blind ka_bl _, va_recv K hP (ci := 3) (q0 := 0) rfl rfl, ka_pre K hP _⟩ rfl rfl hl.1 rfl (lv_room (Nat.le_of_ble_eq_true rfl)) dX3_judge_42 ⟨Nat.le_refl _, Nat.le_refl _⟩) ?_
        refine x_ifo_lt (tgt := 52) hx hb dX3_judge_45 (by decide) (fun b hb => by have := mMissed_lt hb; omega) (fun h_4 => ?_) (fun v_5 h_4 => ?_)
        · refine lv_iconst (v := nI 0) hx hb dX3_judge_52 (by decide) ?_
          exact x_iret hx hb hrt hlk (by simp [rJudge, h_1, cpl, h_2, h_3, h_4]) dX3_judge_53
        · refine lv_iconst (v := nI 3) hx hb dX3_judge_48 (by decide) ?_
          refine lv_goto (tgt := 53) hx hb dX3_judge_49 (by decide) ?_
          exact x_iret hx hb hrt hlk (by simp [rJudge, h_1, cpl, h_2, h_3, h_4]) dX3_judge_53
      · refine lv_iconst (v := nI 2) hx hb dX3_judge_36 (by decide) ?_
        refine lv_goto (tgt := 53) hx hb dX3_judge_37 (by decide) ?_
        exact x_iret hx hb hrt hlk (by simp [rJudge, h_1, cpl, h_2, h_3]) dX3_judge_53
    · refine lv_iconst (v := nI 1) hx hb dX3_judge_24 (by decide) ?_
      refine lv_goto (tgt := 53) hx hb dX3_judge_25 (by decide) ?_
      exact x_iret hx hb hrt hlk (by simp [rJudge, h_1, cpl, h_2]) dX3_judge_53
  · refine lv_bipush (v := -2) hx hb dX3_judge_8 (by decide) ?_
    exact x_iret hx hb hrt hlk (by simp [rJudge, h_1]) dX3_judge_10

set_option maxHeartbeats 4000000 in
theorem mr_plan (l : Launch) (D : va_G) (dA : Nat → ClassId) (h0 hr : Nat) (fs : List Value) (row : Nat → Int32) {n cu q : Nat} (w : MWf row n cu q) (x y : Int32) : RO l yX3_plan cX3_plan 3 (some .int) 4 160 [.ref h0, .int x, .int y] (KA D dA) (MRo D dA h0 hr fs row) (some (.int (rPlan row n cu q x y))) := by
  refine ro_of (by decide) (Nat.le_of_ble_eq_true rfl) ?_
  intro p e s m below meth c S hrt hlk K hP ls hl
  obtain ⟨hx, hb, hml, hown, hts⟩ := id S
  obtain ⟨e0, hn, e1, hcu, e3, hq, hray⟩ := id w
  have h2n := pow7 hn
  have hl : lv_has ls 3 [(0, .ref h0), (1, .int x), (2, .int y)] := hl
  refine lv_aload_n hx hb dX3_plan_0 rfl (lv_at hl 0 rfl) ?_
  refine lv_iload_n hx hb dX3_plan_1 rfl (lv_at hl 1 rfl) ?_
  refine x_ret (va_runV (As := [.int x]) (rest := []) S (mr_noPlan l D dA h0 hr fs row w x) (cwV 1 hts (lw_V q1303 q1305 qs52 q69 q1306) rfl rfl rfl hdX3_noPlan ⟨Nat.le_of_ble_eq_true rfl, Nat.le_of_ble_eq_true rfl⟩) ⟨bb_blind ka_bl _, va_recv K hP (ci := 3) (q0 := 0) rfl rfl, ka_pre K hP _⟩ rfl rfl hl.1 rfl (lv_room (Nat.le_of_ble_eq_true rfl)) dX3_plan_2 ⟨Nat.le_refl _, Nat.le_refl _⟩) ?_
  refine x_ifb_ne (tgt := 17) hx hb dX3_plan_5 (by decide) (fun h_1 => ?_) (fun h_1 => ?_)
  · refine lv_bipush (v := -2) hx hb dX3_plan_17 (by decide) ?_
    exact x_iret hx hb hrt hlk (by simp (decide := true) [rPlan, mCost, h_1]) dX3_plan_19
  · obtain ⟨pl, hpl, rfl⟩ := mNo_f (by omega) h_1
    have cpl : (nI pl).toNatClampNeg = pl := nI_clamp (by omega)
    refine lv_iload_n hx hb dX3_plan_8 rfl (lv_at hl 2 rfl) ?_
    refine lv_iconst (v := nI 0) hx hb dX3_plan_9 (by decide) ?_
    refine lv_iconst (v := nI 4) hx hb dX3_plan_10 (by decide) ?_
    refine x_ret (va_runS (As := [.int y, .int (nI 0), .int (nI 4)]) (rest := []) S (mr_in l y (nI 0) (nI 4)) (va_cwS 3 hts (lw_S q1135 q1136 q69 q1137) rfl rfl rfl hdX3_in ⟨Nat.le_of_ble_eq_true rfl, Nat.le_of_ble_eq_true rfl⟩) ⟨bb_blind tt_bl _, tt_pre _⟩ rfl rfl hl.1 rfl (lv_room (Nat.le_of_ble_eq_true rfl)) dX3_plan_11 ⟨Nat.le_refl _, Nat.le_refl _⟩) ?_
    refine x_ifb_ne (tgt := 20) hx hb dX3_plan_14 (by decide) (fun h_2 => ?_) (fun h_2 => ?_)
    · rcases in5 h_2 with rfl | rfl | rfl | rfl | rfl
      · refine lv_iload_n hx hb dX3_plan_20 rfl (lv_at hl 2 rfl) ?_
        refine lv_if_eq (tgt := 29) hx hb dX3_plan_21 (by decide) (fun _ => ?_) (fun h => absurd (by decide) h)
        refine lv_aload_n hx hb dX3_plan_29 rfl (lv_at hl 0 rfl) ?_
        refine lv_iload_n hx hb dX3_plan_30 rfl (lv_at hl 1 rfl) ?_
        refine x_ret (va_runV (As := [.int (nI pl)]) (rest := []) S (mr_missed l D dA h0 hr fs row w pl (by omega)) (cwV 1 hts (lw_V q1239 q1241 qs43 q69 q1242) rfl rfl rfl hdX3_missed ⟨Nat.le_of_ble_eq_true rfl, Nat.le_of_ble_eq_true rfl⟩) ⟨bb_blind ka_bl _, va_recv K hP (ci := 3) (q0 := 0) rfl rfl, ka_pre K hP _⟩ rfl rfl hl.1 rfl (lv_room (Nat.le_of_ble_eq_true rfl)) dX3_plan_31 ⟨Nat.le_refl _, Nat.le_refl _⟩) ?_
        refine x_ifo_lt (tgt := 40) hx hb dX3_plan_34 (by decide) (fun b hb => by have := mMissed_lt hb; omega) (fun h_4 => ?_) (fun v_5 h_4 => ?_)
        · have hms := h_4
          refine lv_iload_n hx hb dX3_plan_40 rfl (lv_at hl 2 rfl) ?_
          refine lv_tableIn (tgt := 72) hx hb dX3_plan_41 (by decide) (by decide) rfl (by decide) ?_
          refine lv_aload_n hx hb dX3_plan_72 rfl (lv_at hl 0 rfl) ?_
          refine lv_iload_n hx hb dX3_plan_73 rfl (lv_at hl 1 rfl) ?_
          refine x_ret (va_runV (As := [.int (nI pl)]) (rest := []) S (mr_prices l D dA h0 hr fs row w pl (by omega)) (cwV 1 hts (lw_V q1235 q1237 qs42 q69 q1238) rfl rfl rfl hdX3_prices ⟨Nat.le_of_ble_eq_true rfl, Nat.le_of_ble_eq_true rfl⟩) ⟨bb_blind ka_bl _, va_recv K hP (ci := 3) (q0 := 0) rfl rfl, ka_pre K hP _⟩ rfl rfl hl.1 rfl (lv_room (Nat.le_of_ble_eq_true rfl)) dX3_plan_74 ⟨Nat.le_refl _, Nat.le_refl _⟩) ?_
          refine lv_aload_n hx hb dX3_plan_77 rfl (lv_at hl 0 rfl) ?_
          refine lv_iload_n hx hb dX3_plan_78 rfl (lv_at hl 1 rfl) ?_
          refine x_ret (va_runV (As := [.int (nI pl)]) (rest := [.int (mPrices row n pl)]) S (mr_routes l D dA h0 hr fs row w pl (by omega) (miss_none hms)) (cwV 1 hts (lw_V q1243 q1245 qs44 q69 q1246) rfl rfl rfl hdX3_routes ⟨Nat.le_of_ble_eq_true rfl, Nat.le_of_ble_eq_true rfl⟩) ⟨bb_blind ka_bl _, va_recv K hP (ci := 3) (q0 := 0) rfl rfl, ka_pre K hP _⟩ rfl rfl hl.1 rfl (lv_room (Nat.le_of_ble_eq_true rfl)) dX3_plan_79 ⟨Nat.le_refl _, Nat.le_refl _⟩) ?_
          refine lv_iadd hx hb dX3_plan_82 ?_
          exact x_iret hx hb hrt hlk (by simp (decide := true) [rPlan, mCost, h_1, cpl, h_2, h_4]) dX3_plan_83
        · refine lv_bipush (v := -4) hx hb dX3_plan_37 (by decide) ?_
          exact x_iret hx hb hrt hlk (by simp (decide := true) [rPlan, mCost, h_1, cpl, h_2, h_4]) dX3_plan_39
      · refine lv_iload_n hx hb dX3_plan_20 rfl (lv_at hl 2 rfl) ?_
        refine lv_if_eq (tgt := 29) hx hb dX3_plan_21 (by decide) (fun h => absurd h (by decide)) (fun _ => ?_)
        refine lv_iload_n hx hb dX3_plan_24 rfl (lv_at hl 2 rfl) ?_
        refine lv_iconst (v := nI 2) hx hb dX3_plan_25 (by decide) ?_
        refine lv_icmp_ne (tgt := 40) hx hb dX3_plan_26 (by decide) (fun _ => ?_) (fun h => absurd h (by decide))
        refine lv_iload_n hx hb dX3_plan_40 rfl (lv_at hl 2 rfl) ?_
        refine lv_tableIn (tgt := 84) hx hb dX3_plan_41 (by decide) (by decide) rfl (by decide) ?_
        refine lv_aload_n hx hb dX3_plan_84 rfl (lv_at hl 0 rfl) ?_
        refine lv_iload_n hx hb dX3_plan_85 rfl (lv_at hl 1 rfl) ?_
        refine x_ret (va_runV (As := [.int (nI pl)]) (rest := []) S (mr_prices l D dA h0 hr fs row w pl (by omega)) (cwV 1 hts (lw_V q1235 q1237 qs42 q69 q1238) rfl rfl rfl hdX3_prices ⟨Nat.le_of_ble_eq_true rfl, Nat.le_of_ble_eq_true rfl⟩) ⟨bb_blind ka_bl _, va_recv K hP (ci := 3) (q0 := 0) rfl rfl, ka_pre K hP _⟩ rfl rfl hl.1 rfl (lv_room (Nat.le_of_ble_eq_true rfl)) dX3_plan_86 ⟨Nat.le_refl _, Nat.le_refl _⟩) ?_
        exact x_iret hx hb hrt hlk (by simp (decide := true) [rPlan, mCost, h_1, cpl, h_2]) dX3_plan_89
      · refine lv_iload_n hx hb dX3_plan_20 rfl (lv_at hl 2 rfl) ?_
        refine lv_if_eq (tgt := 29) hx hb dX3_plan_21 (by decide) (fun h => absurd h (by decide)) (fun _ => ?_)
        refine lv_iload_n hx hb dX3_plan_24 rfl (lv_at hl 2 rfl) ?_
        refine lv_iconst (v := nI 2) hx hb dX3_plan_25 (by decide) ?_
        refine lv_icmp_ne (tgt := 40) hx hb dX3_plan_26 (by decide) (fun h => absurd h (by decide)) (fun _ => ?_)
        refine lv_aload_n hx hb dX3_plan_29 rfl (lv_at hl 0 rfl) ?_
        refine lv_iload_n hx hb dX3_plan_30 rfl (lv_at hl 1 rfl) ?_
        refine x_ret (va_runV (As := [.int (nI pl)]) (rest := []) S (mr_missed l D dA h0 hr fs row w pl (by omega)) (cwV 1 hts (lw_V q1239 q1241 qs43 q69 q1242) rfl rfl rfl hdX3_missed ⟨Nat.le_of_ble_eq_true rfl, Nat.le_of_ble_eq_true rfl⟩) ⟨bb_blind ka_bl _, va_recv K hP (ci := 3) (q0 := 0) rfl rfl, ka_pre K hP _⟩ rfl rfl hl.1 rfl (lv_room (Nat.le_of_ble_eq_true rfl)) dX3_plan_31 ⟨Nat.le_refl _, Nat.le_refl _⟩) ?_
        refine x_ifo_lt (tgt := 40) hx hb dX3_plan_34 (by decide) (fun b hb => by have := mMissed_lt hb; omega) (fun h_10 => ?_) (fun v_11 h_10 => ?_)
        · have hms := h_10
          refine lv_iload_n hx hb dX3_plan_40 rfl (lv_at hl 2 rfl) ?_
          refine lv_tableIn (tgt := 90) hx hb dX3_plan_41 (by decide) (by decide) rfl (by decide) ?_
          refine lv_aload_n hx hb dX3_plan_90 rfl (lv_at hl 0 rfl) ?_
          refine lv_iload_n hx hb dX3_plan_91 rfl (lv_at hl 1 rfl) ?_
          refine x_ret (va_runV (As := [.int (nI pl)]) (rest := []) S (mr_routes l D dA h0 hr fs row w pl (by omega) (miss_none hms)) (cwV 1 hts (lw_V q1243 q1245 qs44 q69 q1246) rfl rfl rfl hdX3_routes ⟨Nat.le_of_ble_eq_true rfl, Nat.le_of_ble_eq_true rfl⟩) ⟨bb_blind ka_bl _, va_recv K hP (ci := 3) (q0 := 0) rfl rfl, ka_pre K hP _⟩ rfl rfl hl.1 rfl (lv_room (Nat.le_of_ble_eq_true rfl)) dX3_plan_92 ⟨Nat.le_refl _, Nat.le_refl _⟩) ?_
          exact x_iret hx hb hrt hlk (by simp (decide := true) [rPlan, mCost, h_1, cpl, h_2, h_10]) dX3_plan_95
        · refine lv_bipush (v := -4) hx hb dX3_plan_37 (by decide) ?_
          exact x_iret hx hb hrt hlk (by simp (decide := true) [rPlan, mCost, h_1, cpl, h_2, h_10]) dX3_plan_39
      · refine lv_iload_n hx hb dX3_plan_20 rfl (lv_at hl 2 rfl) ?_
        refine lv_if_eq (tgt := 29) hx hb dX3_plan_21 (by decide) (fun h => absurd h (by decide)) (fun _ => ?_)
        refine lv_iload_n hx hb dX3_plan_24 rfl (lv_at hl 2 rfl) ?_
        refine lv_iconst (v := nI 2) hx hb dX3_plan_25 (by decide) ?_
        refine lv_icmp_ne (tgt := 40) hx hb dX3_plan_26 (by decide) (fun _ => ?_) (fun h => absurd h (by decide))
        refine lv_iload_n hx hb dX3_plan_40 rfl (lv_at hl 2 rfl) ?_
        refine lv_tableIn (tgt := 96) hx hb dX3_plan_41 (by decide) (by decide) rfl (by decide) ?_
        refine lv_aload_n hx hb dX3_plan_96 rfl (lv_at hl 0 rfl) ?_
        refine lv_iload_n hx hb dX3_plan_97 rfl (lv_at hl 1 rfl) ?_
        refine x_ret (va_runV (As := [.int (nI pl)]) (rest := []) S (mr_guess l D dA h0 hr fs row w pl (by omega)) (cwV 1 hts (lw_V q1223 q1225 qs39 q69 q1226) rfl rfl rfl hdX3_guess ⟨Nat.le_of_ble_eq_true rfl, Nat.le_of_ble_eq_true rfl⟩) ⟨bb_blind ka_bl _, va_recv K hP (ci := 3) (q0 := 0) rfl rfl, ka_pre K hP _⟩ rfl rfl hl.1 rfl (lv_room (Nat.le_of_ble_eq_true rfl)) dX3_plan_98 ⟨Nat.le_refl _, Nat.le_refl _⟩) ?_
        exact x_iret hx hb hrt hlk (by simp (decide := true) [rPlan, mCost, h_1, cpl, h_2]) dX3_plan_101
      · refine lv_iload_n hx hb dX3_plan_20 rfl (lv_at hl 2 rfl) ?_
        refine lv_if_eq (tgt := 29) hx hb dX3_plan_21 (by decide) (fun h => absurd h (by decide)) (fun _ => ?_)
        refine lv_iload_n hx hb dX3_plan_24 rfl (lv_at hl 2 rfl) ?_
        refine lv_iconst (v := nI 2) hx hb dX3_plan_25 (by decide) ?_
        refine lv_icmp_ne (tgt := 40) hx hb dX3_plan_26 (by decide) (fun _ => ?_) (fun h => absurd h (by decide))
        refine lv_iload_n hx hb dX3_plan_40 rfl (lv_at hl 2 rfl) ?_
        refine lv_tableOut (tgt := 102) hx hb dX3_plan_41 (by decide) (by decide) ?_
        refine lv_aload_n hx hb dX3_plan_102 rfl (lv_at hl 0 rfl) ?_
        refine lv_iload_n hx hb dX3_plan_103 rfl (lv_at hl 1 rfl) ?_
        refine x_ret (va_runV (As := [.int (nI pl)]) (rest := []) S (mr_raysMissed l D dA h0 hr fs row w pl (by omega)) (cwV 1 hts (lw_V q1207 q1209 qs35 q69 q1210) rfl rfl rfl hdX3_raysMissed ⟨Nat.le_of_ble_eq_true rfl, Nat.le_of_ble_eq_true rfl⟩) ⟨bb_blind ka_bl _, va_recv K hP (ci := 3) (q0 := 0) rfl rfl, ka_pre K hP _⟩ rfl rfl hl.1 rfl (lv_room (Nat.le_of_ble_eq_true rfl)) dX3_plan_104 ⟨Nat.le_refl _, Nat.le_refl _⟩) ?_
        exact x_iret hx hb hrt hlk (by simp (decide := true) [rPlan, mCost, h_1, cpl, h_2]) dX3_plan_107
    · refine lv_bipush (v := -2) hx hb dX3_plan_17 (by decide) ?_
      exact x_iret hx hb hrt hlk (by simp (decide := true) [rPlan, mCost, h_1, cpl, h_2]) dX3_plan_19

set_option maxHeartbeats 4000000 in
theorem mr_serves (l : Launch) (D : va_G) (dA : Nat → ClassId) (h0 hr : Nat) (fs : List Value) (row : Nat → Int32) {n cu q : Nat} (w : MWf row n cu q) (x y : Int32) : RO l yX3_serves cX3_serves 3 (some .int) 2 80 [.ref h0, .int x, .int y] (KA D dA) (MRo D dA h0 hr fs row) (some (.int (rServes row n cu x y))) := by
  refine ro_of (by decide) (Nat.le_of_ble_eq_true rfl) ?_
  intro p e s m below meth c S hrt hlk K hP ls hl
  obtain ⟨hx, hb, hml, hown, hts⟩ := id S
  obtain ⟨e0, hn, e1, hcu, e3, hq, hray⟩ := id w
  have h2n := pow7 hn
  have hl : lv_has ls 3 [(0, .ref h0), (1, .int x), (2, .int y)] := hl
  refine lv_aload_n hx hb dX3_serves_0 rfl (lv_at hl 0 rfl) ?_
  refine lv_iload_n hx hb dX3_serves_1 rfl (lv_at hl 1 rfl) ?_
  refine x_ret (va_runV (As := [.int x]) (rest := []) S (mr_noPlan l D dA h0 hr fs row w x) (cwV 1 hts (lw_V q1303 q1305 qs52 q69 q1306) rfl rfl rfl hdX3_noPlan ⟨Nat.le_of_ble_eq_true rfl, Nat.le_of_ble_eq_true rfl⟩) ⟨bb_blind ka_bl _, va_recv K hP (ci := 3) (q0 := 0) rfl rfl, ka_pre K hP _⟩ rfl rfl hl.1 rfl (lv_room (Nat.le_of_ble_eq_true rfl)) dX3_serves_2 ⟨Nat.le_refl _, Nat.le_refl _⟩) ?_
  refine x_ifb_eq (tgt := 11) hx hb dX3_serves_5 (by decide) (fun h_1 => ?_) (fun h_1 => ?_)
  · obtain ⟨pl, hpl, rfl⟩ := mNo_f (by omega) h_1
    have cpl : (nI pl).toNatClampNeg = pl := nI_clamp (by omega)
    refine lv_aload_n hx hb dX3_serves_11 rfl (lv_at hl 0 rfl) ?_
    refine lv_iload_n hx hb dX3_serves_12 rfl (lv_at hl 2 rfl) ?_
    refine x_ret (va_runV (As := [.int y]) (rest := []) S (mr_noCustomer l D dA h0 hr fs row w y) (cwV 1 hts (lw_V q1162 q1164 qs30 q69 q1165) rfl rfl rfl hdX3_noCustomer ⟨Nat.le_of_ble_eq_true rfl, Nat.le_of_ble_eq_true rfl⟩) ⟨bb_blind ka_bl _, va_recv K hP (ci := 3) (q0 := 0) rfl rfl, ka_pre K hP _⟩ rfl rfl hl.1 rfl (lv_room (Nat.le_of_ble_eq_true rfl)) dX3_serves_13 ⟨Nat.le_refl _, Nat.le_refl _⟩) ?_
    refine x_ifb_eq (tgt := 23) hx hb dX3_serves_16 (by decide) (fun h_2 => ?_) (fun h_2 => ?_)
    · obtain ⟨j, hj, rfl⟩ := mNo_f (by omega) h_2
      have cj : (nI j).toNatClampNeg = j := nI_clamp (by omega)
      refine lv_aload_n hx hb dX3_serves_23 rfl (lv_at hl 0 rfl) ?_
      refine lv_iload_n hx hb dX3_serves_24 rfl (lv_at hl 1 rfl) ?_
      refine lv_iload_n hx hb dX3_serves_25 rfl (lv_at hl 2 rfl) ?_
      refine x_ret (va_runV (As := [.int (nI pl), .int (nI j)]) (rest := []) S (mr_server l D dA h0 hr fs row w pl j (by omega) (by omega)) (cwV 2 hts (lw_V q1247 q1249 qs45 q69 q1250) rfl rfl rfl hdX3_server ⟨Nat.le_of_ble_eq_true rfl, Nat.le_of_ble_eq_true rfl⟩) ⟨bb_blind ka_bl _, va_recv K hP (ci := 3) (q0 := 0) rfl rfl, ka_pre K hP _⟩ rfl rfl hl.1 rfl (lv_room (Nat.le_of_ble_eq_true rfl)) dX3_serves_26 ⟨Nat.le_refl _, Nat.le_refl _⟩) ?_
      exact x_iret hx hb hrt hlk (by simp [rServes, h_1, cpl, h_2, cj]) dX3_serves_29
    · refine lv_iconst (v := -1) hx hb dX3_serves_19 (by decide) ?_
      refine lv_goto (tgt := 29) hx hb dX3_serves_20 (by decide) ?_
      exact x_iret hx hb hrt hlk (by simp [rServes, h_1, cpl, h_2]) dX3_serves_29
  · refine lv_bipush (v := -2) hx hb dX3_serves_8 (by decide) ?_
    exact x_iret hx hb hrt hlk (by simp [rServes, h_1]) dX3_serves_10

set_option maxHeartbeats 4000000 in
theorem mr_cut (l : Launch) (D : va_G) (dA : Nat → ClassId) (h0 hr : Nat) (fs : List Value) (row : Nat → Int32) {n cu q : Nat} (w : MWf row n cu q) (x y : Int32) : RO l yX3_cut cX3_cut 3 (some .int) 5 200 [.ref h0, .int x, .int y] (KA D dA) (MRo D dA h0 hr fs row) (some (.int (rCut row n cu q x y))) := by
  refine ro_of (by decide) (Nat.le_of_ble_eq_true rfl) ?_
  intro p e s m below meth c S hrt hlk K hP ls hl
  obtain ⟨hx, hb, hml, hown, hts⟩ := id S
  obtain ⟨e0, hn, e1, hcu, e3, hq, hray⟩ := id w
  have h2n := pow7 hn
  have hl : lv_has ls 3 [(0, .ref h0), (1, .int x), (2, .int y)] := hl
  refine lv_aload_n hx hb dX3_cut_0 rfl (lv_at hl 0 rfl) ?_
  refine lv_iload_n hx hb dX3_cut_1 rfl (lv_at hl 1 rfl) ?_
  refine x_ret (va_runV (As := [.int x]) (rest := []) S (mr_noCut l D dA h0 hr fs row w x) (cwV 1 hts (lw_V q1263 q1265 qs47 q69 q1266) rfl rfl rfl hdX3_noCut ⟨Nat.le_of_ble_eq_true rfl, Nat.le_of_ble_eq_true rfl⟩) ⟨bb_blind ka_bl _, va_recv K hP (ci := 3) (q0 := 0) rfl rfl, ka_pre K hP _⟩ rfl rfl hl.1 rfl (lv_room (Nat.le_of_ble_eq_true rfl)) dX3_cut_2 ⟨Nat.le_refl _, Nat.le_refl _⟩) ?_
  refine x_ifb_eq (tgt := 10) hx hb dX3_cut_5 (by decide) (fun h_1 => ?_) (fun h_1 => ?_)
  · obtain ⟨kc, hkc, rfl⟩ := mNo_f (by omega) h_1
    have ckc : (nI kc).toNatClampNeg = kc := nI_clamp (by omega)
    refine lv_iload_n hx hb dX3_cut_10 rfl (lv_at hl 2 rfl) ?_
    rcases sw5 y with h_2 | rfl | rfl | rfl | rfl | rfl
    · refine lv_tableOut (tgt := 117) hx hb dX3_cut_11 (sw_out (N := 5) rfl h_2) (by decide) ?_
      refine lv_bipush (v := -2) hx hb dX3_cut_117 (by decide) ?_
      exact x_iret hx hb hrt hlk (by simp (decide := true) [rCut, h_1, ckc, h_2, h_2]) dX3_cut_119
    · refine lv_tableIn (tgt := 44) hx hb dX3_cut_11 (by decide) (by decide) rfl (by decide) ?_
      refine lv_aload_n hx hb dX3_cut_44 rfl (lv_at hl 0 rfl) ?_
      refine lv_iload_n hx hb dX3_cut_45 rfl (lv_at hl 1 rfl) ?_
      refine x_ret (va_runV (As := [.int (nI kc)]) (rest := []) S (mr_isRay l D dA h0 hr fs row w kc (by omega)) (cwV 1 hts (lw_V q1211 q1213 qs36 q69 q1214) rfl rfl rfl hdX3_isRay ⟨Nat.le_of_ble_eq_true rfl, Nat.le_of_ble_eq_true rfl⟩) ⟨bb_blind ka_bl _, va_recv K hP (ci := 3) (q0 := 0) rfl rfl, ka_pre K hP _⟩ rfl rfl hl.1 rfl (lv_room (Nat.le_of_ble_eq_true rfl)) dX3_cut_46 ⟨Nat.le_refl _, Nat.le_refl _⟩) ?_
      refine x_ifb_eq (tgt := 56) hx hb dX3_cut_49 (by decide) (fun h_3 => ?_) (fun h_3 => ?_)
      · refine lv_iconst (v := nI 1) hx hb dX3_cut_56 (by decide) ?_
        exact x_iret hx hb hrt hlk (by simp (decide := true) [rCut, h_1, ckc, h_3]) dX3_cut_57
      · refine lv_iconst (v := nI 0) hx hb dX3_cut_52 (by decide) ?_
        refine lv_goto (tgt := 57) hx hb dX3_cut_53 (by decide) ?_
        exact x_iret hx hb hrt hlk (by simp (decide := true) [rCut, h_1, ckc, h_3]) dX3_cut_57
    · refine lv_tableIn (tgt := 58) hx hb dX3_cut_11 (by decide) (by decide) rfl (by decide) ?_
      refine lv_aload_n hx hb dX3_cut_58 rfl (lv_at hl 0 rfl) ?_
      refine lv_iload_n hx hb dX3_cut_59 rfl (lv_at hl 1 rfl) ?_
      refine x_ret (va_runV (As := [.int (nI kc)]) (rest := []) S (mr_isRay l D dA h0 hr fs row w kc (by omega)) (cwV 1 hts (lw_V q1211 q1213 qs36 q69 q1214) rfl rfl rfl hdX3_isRay ⟨Nat.le_of_ble_eq_true rfl, Nat.le_of_ble_eq_true rfl⟩) ⟨bb_blind ka_bl _, va_recv K hP (ci := 3) (q0 := 0) rfl rfl, ka_pre K hP _⟩ rfl rfl hl.1 rfl (lv_room (Nat.le_of_ble_eq_true rfl)) dX3_cut_60 ⟨Nat.le_refl _, Nat.le_refl _⟩) ?_
      refine x_ifb_eq (tgt := 81) hx hb dX3_cut_63 (by decide) (fun h_4 => ?_) (fun h_4 => ?_)
      · refine lv_bipush (v := -5) hx hb dX3_cut_81 (by decide) ?_
        exact x_iret hx hb hrt hlk (by simp (decide := true) [rCut, h_1, ckc, h_4]) dX3_cut_83
      · refine lv_aload_n hx hb dX3_cut_66 rfl (lv_at hl 0 rfl) ?_
        refine va_get (D := D) (ci := 3) (C := RX3) (T := TX3) (N := 10) hx hb hts in_X3 hown K hP 0 rfl rfl 0 (by decide) (hts _ q1075) (fun _ h9 => h9) rfl dX3_cut_67 ?_
        refine lv_bipush (v := nI 84) hx hb dX3_cut_70 (by decide) ?_
        refine lv_bipush (v := nI 9) hx hb dX3_cut_72 (by decide) ?_
        refine lv_iload_n hx hb dX3_cut_74 rfl (lv_at hl 1 rfl) ?_
        refine x_mulN hx hb dX3_cut_75 ?_
        refine x_addN hx hb dX3_cut_76 ?_
        refine x_iald hx hb K hP 1 0 rfl rfl (84 + (9 * kc)) rfl (by omega) (by decide) rfl dX3_cut_77 ?_
        refine lv_goto (tgt := 83) hx hb dX3_cut_78 (by decide) ?_
        exact x_iret hx hb hrt hlk (by simp (decide := true) [rCut, h_1, ckc, h_4]) dX3_cut_83
    · refine lv_tableIn (tgt := 84) hx hb dX3_cut_11 (by decide) (by decide) rfl (by decide) ?_
      refine lv_aload_n hx hb dX3_cut_84 rfl (lv_at hl 0 rfl) ?_
      refine lv_iload_n hx hb dX3_cut_85 rfl (lv_at hl 1 rfl) ?_
      refine x_ret (va_runV (As := [.int (nI kc)]) (rest := []) S (mr_isRay l D dA h0 hr fs row w kc (by omega)) (cwV 1 hts (lw_V q1211 q1213 qs36 q69 q1214) rfl rfl rfl hdX3_isRay ⟨Nat.le_of_ble_eq_true rfl, Nat.le_of_ble_eq_true rfl⟩) ⟨bb_blind ka_bl _, va_recv K hP (ci := 3) (q0 := 0) rfl rfl, ka_pre K hP _⟩ rfl rfl hl.1 rfl (lv_room (Nat.le_of_ble_eq_true rfl)) dX3_cut_86 ⟨Nat.le_refl _, Nat.le_refl _⟩) ?_
      refine x_ifb_eq (tgt := 96) hx hb dX3_cut_89 (by decide) (fun h_5 => ?_) (fun h_5 => ?_)
      · refine lv_aload_n hx hb dX3_cut_96 rfl (lv_at hl 0 rfl) ?_
        refine lv_iload_n hx hb dX3_cut_97 rfl (lv_at hl 1 rfl) ?_
        refine lv_iconst (v := nI 0) hx hb dX3_cut_98 (by decide) ?_
        refine x_ret (va_runV (As := [.int (nI kc), .int (nI 0)]) (rest := []) S (mr_valueOf l D dA h0 hr fs row w kc 0 (by omega) (by omega)) (cwV 2 hts (lw_V q1227 q1229 qs40 q69 q1230) rfl rfl rfl hdX3_valueOf ⟨Nat.le_of_ble_eq_true rfl, Nat.le_of_ble_eq_true rfl⟩) ⟨bb_blind ka_bl _, va_recv K hP (ci := 3) (q0 := 0) rfl rfl, ka_pre K hP _⟩ rfl rfl hl.1 rfl (lv_room (Nat.le_of_ble_eq_true rfl)) dX3_cut_99 ⟨Nat.le_refl _, Nat.le_refl _⟩) ?_
        exact x_iret hx hb hrt hlk (by simp (decide := true) [rCut, h_1, ckc, h_5]) dX3_cut_102
      · refine lv_iconst (v := nI 1) hx hb dX3_cut_92 (by decide) ?_
        refine lv_goto (tgt := 102) hx hb dX3_cut_93 (by decide) ?_
        exact x_iret hx hb hrt hlk (by simp (decide := true) [rCut, h_1, ckc, h_5]) dX3_cut_102
    · refine lv_tableIn (tgt := 103) hx hb dX3_cut_11 (by decide) (by decide) rfl (by decide) ?_
      refine lv_aload_n hx hb dX3_cut_103 rfl (lv_at hl 0 rfl) ?_
      refine lv_iload_n hx hb dX3_cut_104 rfl (lv_at hl 1 rfl) ?_
      refine lv_iconst (v := nI 0) hx hb dX3_cut_105 (by decide) ?_
      refine x_ret (va_runV (As := [.int (nI kc), .int (nI 0)]) (rest := []) S (mr_plansBy l D dA h0 hr fs row w kc false (by omega)) (cwV 2 hts (lw_V q1319 q1321 qs53 q69 q1322) rfl rfl rfl hdX3_plansBy ⟨Nat.le_of_ble_eq_true rfl, Nat.le_of_ble_eq_true rfl⟩) ⟨bb_blind ka_bl _, va_recv K hP (ci := 3) (q0 := 0) rfl rfl, ka_pre K hP _⟩ rfl rfl hl.1 rfl (lv_room (Nat.le_of_ble_eq_true rfl)) dX3_cut_106 ⟨Nat.le_refl _, Nat.le_refl _⟩) ?_
      exact x_iret hx hb hrt hlk (by simp (decide := true) [rCut, h_1, ckc]) dX3_cut_109
    · refine lv_tableIn (tgt := 110) hx hb dX3_cut_11 (by decide) (by decide) rfl (by decide) ?_
      refine lv_aload_n hx hb dX3_cut_110 rfl (lv_at hl 0 rfl) ?_
      refine lv_iload_n hx hb dX3_cut_111 rfl (lv_at hl 1 rfl) ?_
      refine lv_iconst (v := nI 1) hx hb dX3_cut_112 (by decide) ?_
      refine x_ret (va_runV (As := [.int (nI kc), .int (nI 1)]) (rest := []) S (mr_plansBy l D dA h0 hr fs row w kc true (by omega)) (cwV 2 hts (lw_V q1319 q1321 qs53 q69 q1322) rfl rfl rfl hdX3_plansBy ⟨Nat.le_of_ble_eq_true rfl, Nat.le_of_ble_eq_true rfl⟩) ⟨bb_blind ka_bl _, va_recv K hP (ci := 3) (q0 := 0) rfl rfl, ka_pre K hP _⟩ rfl rfl hl.1 rfl (lv_room (Nat.le_of_ble_eq_true rfl)) dX3_cut_113 ⟨Nat.le_refl _, Nat.le_refl _⟩) ?_
      exact x_iret hx hb hrt hlk (by simp (decide := true) [rCut, h_1, ckc]) dX3_cut_116
  · refine lv_iconst (v := -1) hx hb dX3_cut_8 (by decide) ?_
    exact x_iret hx hb hrt hlk (by simp (decide := true) [rCut, h_1]) dX3_cut_9

set_option maxHeartbeats 4000000 in
theorem mr_weight (l : Launch) (D : va_G) (dA : Nat → ClassId) (h0 hr : Nat) (fs : List Value) (row : Nat → Int32) {n cu q : Nat} (w : MWf row n cu q) (x y : Int32) : RO l yX3_weight cX3_weight 3 (some .int) 3 120 [.ref h0, .int x, .int y] (KA D dA) (MRo D dA h0 hr fs row) (some (.int (rWeight row n cu q x y))) := by
  refine ro_of (by decide) (Nat.le_of_ble_eq_true rfl) ?_
  intro p e s m below meth c S hrt hlk K hP ls hl
  obtain ⟨hx, hb, hml, hown, hts⟩ := id S
  obtain ⟨e0, hn, e1, hcu, e3, hq, hray⟩ := id w
  have h2n := pow7 hn
  have hl : lv_has ls 3 [(0, .ref h0), (1, .int x), (2, .int y)] := hl
  refine lv_aload_n hx hb dX3_weight_0 rfl (lv_at hl 0 rfl) ?_
  refine lv_iload_n hx hb dX3_weight_1 rfl (lv_at hl 1 rfl) ?_
  refine x_ret (va_runV (As := [.int x]) (rest := []) S (mr_noCut l D dA h0 hr fs row w x) (cwV 1 hts (lw_V q1263 q1265 qs47 q69 q1266) rfl rfl rfl hdX3_noCut ⟨Nat.le_of_ble_eq_true rfl, Nat.le_of_ble_eq_true rfl⟩) ⟨bb_blind ka_bl _, va_recv K hP (ci := 3) (q0 := 0) rfl rfl, ka_pre K hP _⟩ rfl rfl hl.1 rfl (lv_room (Nat.le_of_ble_eq_true rfl)) dX3_weight_2 ⟨Nat.le_refl _, Nat.le_refl _⟩) ?_
  refine x_ifb_ne (tgt := 16) hx hb dX3_weight_5 (by decide) (fun h_1 => ?_) (fun h_1 => ?_)
  · refine lv_iconst (v := -1) hx hb dX3_weight_16 (by decide) ?_
    exact x_iret hx hb hrt hlk (by simp [rWeight, h_1]) dX3_weight_17
  · obtain ⟨kc, hkc, rfl⟩ := mNo_f (by omega) h_1
    have ckc : (nI kc).toNatClampNeg = kc := nI_clamp (by omega)
    refine lv_aload_n hx hb dX3_weight_8 rfl (lv_at hl 0 rfl) ?_
    refine lv_iload_n hx hb dX3_weight_9 rfl (lv_at hl 2 rfl) ?_
    refine x_ret (va_runV (As := [.int y]) (rest := []) S (mr_noSite l D dA h0 hr fs row w y) (cwV 1 hts (lw_V q1150 q1152 qs28 q69 q1153) rfl rfl rfl hdX3_noSite ⟨Nat.le_of_ble_eq_true rfl, Nat.le_of_ble_eq_true rfl⟩) ⟨bb_blind ka_bl _, va_recv K hP (ci := 3) (q0 := 0) rfl rfl, ka_pre K hP _⟩ rfl rfl hl.1 rfl (lv_room (Nat.le_of_ble_eq_true rfl)) dX3_weight_10 ⟨Nat.le_refl _, Nat.le_refl _⟩) ?_
    refine x_ifb_eq (tgt := 18) hx hb dX3_weight_13 (by decide) (fun h_2 => ?_) (fun h_2 => ?_)
    · obtain ⟨j, hj, rfl⟩ := mNo_f (by omega) h_2
      have cj : (nI j).toNatClampNeg = j := nI_clamp (by omega)
      have hpw := pow6 (show j ≤ 6 by omega)
      refine lv_aload_n hx hb dX3_weight_18 rfl (lv_at hl 0 rfl) ?_
      refine lv_iload_n hx hb dX3_weight_19 rfl (lv_at hl 1 rfl) ?_
      refine x_ret (va_runV (As := [.int (nI kc)]) (rest := []) S (mr_isRay l D dA h0 hr fs row w kc (by omega)) (cwV 1 hts (lw_V q1211 q1213 qs36 q69 q1214) rfl rfl rfl hdX3_isRay ⟨Nat.le_of_ble_eq_true rfl, Nat.le_of_ble_eq_true rfl⟩) ⟨bb_blind ka_bl _, va_recv K hP (ci := 3) (q0 := 0) rfl rfl, ka_pre K hP _⟩ rfl rfl hl.1 rfl (lv_room (Nat.le_of_ble_eq_true rfl)) dX3_weight_20 ⟨Nat.le_refl _, Nat.le_refl _⟩) ?_
      refine x_ifb_eq (tgt := 37) hx hb dX3_weight_23 (by decide) (fun h_3 => ?_) (fun h_3 => ?_)
      · refine lv_aload_n hx hb dX3_weight_37 rfl (lv_at hl 0 rfl) ?_
        refine lv_iload_n hx hb dX3_weight_38 rfl (lv_at hl 1 rfl) ?_
        refine lv_iload_n hx hb dX3_weight_39 rfl (lv_at hl 2 rfl) ?_
        refine x_ret (va_runV (As := [.int (nI kc), .int (nI j)]) (rest := []) S (mr_weightOf l D dA h0 hr fs row w kc j (by omega) (by omega)) (cwV 2 hts (lw_V q1231 q1233 qs41 q69 q1234) rfl rfl rfl hdX3_weightOf ⟨Nat.le_of_ble_eq_true rfl, Nat.le_of_ble_eq_true rfl⟩) ⟨bb_blind ka_bl _, va_recv K hP (ci := 3) (q0 := 0) rfl rfl, ka_pre K hP _⟩ rfl rfl hl.1 rfl (lv_room (Nat.le_of_ble_eq_true rfl)) dX3_weight_40 ⟨Nat.le_refl _, Nat.le_refl _⟩) ?_
        exact x_iret hx hb hrt hlk (by simp [rWeight, h_1, ckc, h_2, cj, h_3]) dX3_weight_43
      · refine lv_aload_n hx hb dX3_weight_26 rfl (lv_at hl 0 rfl) ?_
        refine lv_iload_n hx hb dX3_weight_27 rfl (lv_at hl 1 rfl) ?_
        refine lv_iconst (v := nI 1) hx hb dX3_weight_28 (by decide) ?_
        refine lv_iload_n hx hb dX3_weight_29 rfl (lv_at hl 2 rfl) ?_
        refine lv_ishl hx hb dX3_weight_30 ?_
        refine x_top (y := nI (2 ^ j)) (nx_shl (by omega)) ?_
        refine x_ret (va_runV (As := [.int (nI kc), .int (nI (2 ^ j))]) (rest := []) S (mr_asked l D dA h0 hr fs row w kc (2 ^ j) (by omega) (by omega) (ray_of w hkc h_3)) (cwV 2 hts (lw_V q1215 q1217 qs37 q69 q1218) rfl rfl rfl hdX3_asked ⟨Nat.le_of_ble_eq_true rfl, Nat.le_of_ble_eq_true rfl⟩) ⟨bb_blind ka_bl _, va_recv K hP (ci := 3) (q0 := 0) rfl rfl, ka_pre K hP _⟩ rfl rfl hl.1 rfl (lv_room (Nat.le_of_ble_eq_true rfl)) dX3_weight_31 ⟨Nat.le_refl _, Nat.le_refl _⟩) ?_
        refine lv_goto (tgt := 43) hx hb dX3_weight_34 (by decide) ?_
        exact x_iret hx hb hrt hlk (by simp [rWeight, h_1, ckc, h_2, cj, h_3]) dX3_weight_43
    · refine lv_iconst (v := -1) hx hb dX3_weight_16 (by decide) ?_
      exact x_iret hx hb hrt hlk (by simp [rWeight, h_1, ckc, h_2]) dX3_weight_17

set_option maxHeartbeats 4000000 in
theorem mr_value (l : Launch) (D : va_G) (dA : Nat → ClassId) (h0 hr : Nat) (fs : List Value) (row : Nat → Int32) {n cu q : Nat} (w : MWf row n cu q) (x y : Int32) : RO l yX3_value cX3_value 3 (some .int) 3 120 [.ref h0, .int x, .int y] (KA D dA) (MRo D dA h0 hr fs row) (some (.int (rValue row n cu q x y))) := by
  refine ro_of (by decide) (Nat.le_of_ble_eq_true rfl) ?_
  intro p e s m below meth c S hrt hlk K hP ls hl
  obtain ⟨hx, hb, hml, hown, hts⟩ := id S
  obtain ⟨e0, hn, e1, hcu, e3, hq, hray⟩ := id w
  have h2n := pow7 hn
  have hl : lv_has ls 3 [(0, .ref h0), (1, .int x), (2, .int y)] := hl
  refine lv_aload_n hx hb dX3_value_0 rfl (lv_at hl 0 rfl) ?_
  refine lv_iload_n hx hb dX3_value_1 rfl (lv_at hl 1 rfl) ?_
  refine x_ret (va_runV (As := [.int x]) (rest := []) S (mr_noCut l D dA h0 hr fs row w x) (cwV 1 hts (lw_V q1263 q1265 qs47 q69 q1266) rfl rfl rfl hdX3_noCut ⟨Nat.le_of_ble_eq_true rfl, Nat.le_of_ble_eq_true rfl⟩) ⟨bb_blind ka_bl _, va_recv K hP (ci := 3) (q0 := 0) rfl rfl, ka_pre K hP _⟩ rfl rfl hl.1 rfl (lv_room (Nat.le_of_ble_eq_true rfl)) dX3_value_2 ⟨Nat.le_refl _, Nat.le_refl _⟩) ?_
  refine x_ifb_eq (tgt := 10) hx hb dX3_value_5 (by decide) (fun h_1 => ?_) (fun h_1 => ?_)
  · obtain ⟨kc, hkc, rfl⟩ := mNo_f (by omega) h_1
    have ckc : (nI kc).toNatClampNeg = kc := nI_clamp (by omega)
    refine lv_aload_n hx hb dX3_value_10 rfl (lv_at hl 0 rfl) ?_
    refine lv_iload_n hx hb dX3_value_11 rfl (lv_at hl 2 rfl) ?_
    refine x_ret (va_runV (As := [.int y]) (rest := []) S (mr_noPlan l D dA h0 hr fs row w y) (cwV 1 hts (lw_V q1303 q1305 qs52 q69 q1306) rfl rfl rfl hdX3_noPlan ⟨Nat.le_of_ble_eq_true rfl, Nat.le_of_ble_eq_true rfl⟩) ⟨bb_blind ka_bl _, va_recv K hP (ci := 3) (q0 := 0) rfl rfl, ka_pre K hP _⟩ rfl rfl hl.1 rfl (lv_room (Nat.le_of_ble_eq_true rfl)) dX3_value_12 ⟨Nat.le_refl _, Nat.le_refl _⟩) ?_
    refine x_ifb_eq (tgt := 21) hx hb dX3_value_15 (by decide) (fun h_2 => ?_) (fun h_2 => ?_)
    · obtain ⟨pl, hpl, rfl⟩ := mNo_f (by omega) h_2
      have cpl : (nI pl).toNatClampNeg = pl := nI_clamp (by omega)
      refine lv_aload_n hx hb dX3_value_21 rfl (lv_at hl 0 rfl) ?_
      refine lv_iload_n hx hb dX3_value_22 rfl (lv_at hl 1 rfl) ?_
      refine x_ret (va_runV (As := [.int (nI kc)]) (rest := []) S (mr_isRay l D dA h0 hr fs row w kc (by omega)) (cwV 1 hts (lw_V q1211 q1213 qs36 q69 q1214) rfl rfl rfl hdX3_isRay ⟨Nat.le_of_ble_eq_true rfl, Nat.le_of_ble_eq_true rfl⟩) ⟨bb_blind ka_bl _, va_recv K hP (ci := 3) (q0 := 0) rfl rfl, ka_pre K hP _⟩ rfl rfl hl.1 rfl (lv_room (Nat.le_of_ble_eq_true rfl)) dX3_value_23 ⟨Nat.le_refl _, Nat.le_refl _⟩) ?_
      refine x_ifb_eq (tgt := 38) hx hb dX3_value_26 (by decide) (fun h_3 => ?_) (fun h_3 => ?_)
      · refine lv_ldc (v := 1000000) hx hb hown (hts _ q1335) dX3_value_38 ?_
        refine lv_aload_n hx hb dX3_value_40 rfl (lv_at hl 0 rfl) ?_
        refine lv_iload_n hx hb dX3_value_41 rfl (lv_at hl 1 rfl) ?_
        refine lv_iload_n hx hb dX3_value_42 rfl (lv_at hl 2 rfl) ?_
        refine x_ret (va_runV (As := [.int (nI kc), .int (nI pl)]) (rest := [.int 1000000]) S (mr_valueOf l D dA h0 hr fs row w kc pl (by omega) (by omega)) (cwV 2 hts (lw_V q1227 q1229 qs40 q69 q1230) rfl rfl rfl hdX3_valueOf ⟨Nat.le_of_ble_eq_true rfl, Nat.le_of_ble_eq_true rfl⟩) ⟨bb_blind ka_bl _, va_recv K hP (ci := 3) (q0 := 0) rfl rfl, ka_pre K hP _⟩ rfl rfl hl.1 rfl (lv_room (Nat.le_of_ble_eq_true rfl)) dX3_value_43 ⟨Nat.le_refl _, Nat.le_refl _⟩) ?_
        refine lv_iadd hx hb dX3_value_46 ?_
        exact x_iret hx hb hrt hlk (by simp [rValue, h_1, ckc, h_2, cpl, h_3]) dX3_value_47
      · refine lv_aload_n hx hb dX3_value_29 rfl (lv_at hl 0 rfl) ?_
        refine lv_iload_n hx hb dX3_value_30 rfl (lv_at hl 1 rfl) ?_
        refine lv_iload_n hx hb dX3_value_31 rfl (lv_at hl 2 rfl) ?_
        refine x_ret (va_runV (As := [.int (nI kc), .int (nI pl)]) (rest := []) S (mr_asked l D dA h0 hr fs row w kc pl (by omega) (by omega) (ray_of w hkc h_3)) (cwV 2 hts (lw_V q1215 q1217 qs37 q69 q1218) rfl rfl rfl hdX3_asked ⟨Nat.le_of_ble_eq_true rfl, Nat.le_of_ble_eq_true rfl⟩) ⟨bb_blind ka_bl _, va_recv K hP (ci := 3) (q0 := 0) rfl rfl, ka_pre K hP _⟩ rfl rfl hl.1 rfl (lv_room (Nat.le_of_ble_eq_true rfl)) dX3_value_32 ⟨Nat.le_refl _, Nat.le_refl _⟩) ?_
        refine lv_goto (tgt := 47) hx hb dX3_value_35 (by decide) ?_
        exact x_iret hx hb hrt hlk (by simp [rValue, h_1, ckc, h_2, cpl, h_3]) dX3_value_47
    · refine lv_bipush (v := -2) hx hb dX3_value_18 (by decide) ?_
      exact x_iret hx hb hrt hlk (by simp [rValue, h_1, ckc, h_2]) dX3_value_20
  · refine lv_iconst (v := -1) hx hb dX3_value_8 (by decide) ?_
    exact x_iret hx hb hrt hlk (by simp [rValue, h_1]) dX3_value_9

set_option maxHeartbeats 4000000 in
theorem mr_master (l : Launch) (D : va_G) (dA : Nat → ClassId) (h0 hr : Nat) (fs : List Value) (row : Nat → Int32) {n cu q : Nat} (w : MWf row n cu q) (bst : Option Nat) (e4 : row 4 = oI bst) (hbst : ∀ b, bst = some b → b < 2 ^ n ∧ mMissed row n cu b = none) (x : Int32) : RO l yX3_master cX3_master 6 (some .int) 5 200 [.ref h0, .int x] (KA D dA) (MRo D dA h0 hr fs row) (some (.int (rMaster row n cu q bst x))) := by
  refine ro_of (by decide) (Nat.le_of_ble_eq_true rfl) ?_
  intro p e s m below meth c S hrt hlk K hP ls hl
  obtain ⟨hx, hb, hml, hown, hts⟩ := id S
  obtain ⟨e0, hn, e1, hcu, e3, hq, hray⟩ := id w
  have h2n := pow7 hn
  have hl : lv_has ls 6 [(0, .ref h0), (1, .int x)] := hl
  refine lv_iload_n hx hb dX3_master_0 rfl (lv_at hl 1 rfl) ?_
  refine lv_iconst (v := nI 0) hx hb dX3_master_1 (by decide) ?_
  refine lv_iconst (v := nI 4) hx hb dX3_master_2 (by decide) ?_
  refine x_ret (va_runS (As := [.int x, .int (nI 0), .int (nI 4)]) (rest := []) S (mr_in l x (nI 0) (nI 4)) (va_cwS 3 hts (lw_S q1135 q1136 q69 q1137) rfl rfl rfl hdX3_in ⟨Nat.le_of_ble_eq_true rfl, Nat.le_of_ble_eq_true rfl⟩) ⟨bb_blind tt_bl _, tt_pre _⟩ rfl rfl hl.1 rfl (lv_room (Nat.le_of_ble_eq_true rfl)) dX3_master_3 ⟨Nat.le_refl _, Nat.le_refl _⟩) ?_
  refine x_ifb_ne (tgt := 12) hx hb dX3_master_6 (by decide) (fun h_1 => ?_) (fun h_1 => ?_)
  · rcases in5 h_1 with rfl | rfl | rfl | rfl | rfl
    · refine lv_iload_n hx hb dX3_master_12 rfl (lv_at hl 1 rfl) ?_
      refine lv_iconst (v := nI 2) hx hb dX3_master_13 (by decide) ?_
      refine lv_icmp_eq (tgt := 22) hx hb dX3_master_14 (by decide) (fun h => absurd h (by decide)) (fun _ => ?_)
      refine lv_iload_n hx hb dX3_master_17 rfl (lv_at hl 1 rfl) ?_
      refine lv_iconst (v := nI 3) hx hb dX3_master_18 (by decide) ?_
      refine lv_icmp_ne (tgt := 26) hx hb dX3_master_19 (by decide) (fun _ => ?_) (fun h => absurd h (by decide))
      refine lv_aload_n hx hb dX3_master_26 rfl (lv_at hl 0 rfl) ?_
      refine x_ret (va_runV (As := []) (rest := []) S (mr_masterPlan l D dA h0 hr fs row w) (cwV 0 hts (lw_V q1195 q1197 qs32 q69 q1198) rfl rfl rfl hdX3_masterPlan ⟨Nat.le_of_ble_eq_true rfl, Nat.le_of_ble_eq_true rfl⟩) ⟨bb_blind ka_bl _, va_recv K hP (ci := 3) (q0 := 0) rfl rfl, ka_pre K hP _⟩ rfl rfl hl.1 rfl (lv_room (Nat.le_of_ble_eq_true rfl)) dX3_master_27 ⟨Nat.le_refl _, Nat.le_refl _⟩) ?_
      refine lv_istore_n (lv' := [(2, .int (oI (mMaster row n cu q))), (0, .ref h0), (1, .int (nI 0))]) hx hb dX3_master_30 rfl hl (by decide) rfl (fun ls hl => ?_)
      refine lv_aload_n hx hb dX3_master_31 rfl (lv_at hl 1 rfl) ?_
      refine va_get (D := D) (ci := 3) (C := RX3) (T := TX3) (N := 10) hx hb hts in_X3 hown K hP 0 rfl rfl 0 (by decide) (hts _ q1075) (fun _ h9 => h9) rfl dX3_master_32 ?_
      refine lv_iconst (v := nI 4) hx hb dX3_master_35 (by decide) ?_
      refine x_iald hx hb K hP 1 0 rfl rfl 4 rfl (by omega) (by decide) e4 dX3_master_36 ?_
      refine lv_istore_n (lv' := [(3, .int (oI bst)), (2, .int (oI (mMaster row n cu q))), (0, .ref h0), (1, .int (nI 0))]) hx hb dX3_master_37 rfl hl (by decide) rfl (fun ls hl => ?_)
      refine lv_iload_n hx hb dX3_master_38 rfl (lv_at hl 1 rfl) ?_
      refine x_ifo_lt (tgt := 51) hx hb dX3_master_39 (by decide) (fun b hb => by have := mMaster_lt hb; omega) (fun h_4 => ?_) (fun v_5 h_4 => ?_)
      · refine lv_bipush (v := -5) hx hb dX3_master_51 (by decide) ?_
        exact x_iret hx hb hrt hlk (by simp (decide := true) [rMaster, mCost, oI_s, oI_n, h_1, h_4]) dX3_master_53
      · have hml2 := mMaster_lt h_4
        refine lv_iload_n hx hb dX3_master_42 rfl (lv_at hl 3 rfl) ?_
        refine lv_iconst (v := nI 1) hx hb dX3_master_43 (by decide) ?_
        refine lv_icmp_le (tgt := 54) hx hb dX3_master_44 (by decide) (fun _ => ?_) (fun h => absurd (by decide) h)
        refine lv_aload_n hx hb dX3_master_54 rfl (lv_at hl 2 rfl) ?_
        refine lv_iload_n hx hb dX3_master_55 rfl (lv_at hl 1 rfl) ?_
        refine x_top (y := nI v_5) (by rw [h_4]; rfl) ?_
        refine x_ret (va_runV (As := [.int (nI v_5)]) (rest := []) S (mr_guess l D dA h0 hr fs row w v_5 (by omega)) (cwV 1 hts (lw_V q1223 q1225 qs39 q69 q1226) rfl rfl rfl hdX3_guess ⟨Nat.le_of_ble_eq_true rfl, Nat.le_of_ble_eq_true rfl⟩) ⟨bb_blind ka_bl _, va_recv K hP (ci := 3) (q0 := 0) rfl rfl, ka_pre K hP _⟩ rfl rfl hl.1 rfl (lv_room (Nat.le_of_ble_eq_true rfl)) dX3_master_56 ⟨Nat.le_refl _, Nat.le_refl _⟩) ?_
        refine lv_istore (lv' := [(4, .int (mGuess row n cu q v_5)), (3, .int (oI bst)), (2, .int (oI (mMaster row n cu q))), (0, .ref h0), (1, .int (nI 0))]) hx hb dX3_master_59 hl (by decide) rfl (fun ls hl => ?_)
        refine lv_iload_n hx hb dX3_master_61 rfl (lv_at hl 4 rfl) ?_
        refine lv_iconst (v := nI 1) hx hb dX3_master_62 (by decide) ?_
        refine lv_icmp_le (tgt := 80) hx hb dX3_master_63 (by decide) (fun _ => ?_) (fun h => absurd (by decide) h)
        refine lv_iconst (v := nI 0) hx hb dX3_master_80 (by decide) ?_
        refine lv_istore (lv' := [(5, .int (nI 0)), (4, .int (mGuess row n cu q v_5)), (3, .int (oI bst)), (2, .int (oI (mMaster row n cu q))), (0, .ref h0), (1, .int (nI 0))]) hx hb dX3_master_81 hl (by decide) rfl (fun ls hl => ?_)
        refine lv_iload_n hx hb dX3_master_83 rfl (lv_at hl 5 rfl) ?_
        refine lv_if_ne (tgt := 91) hx hb dX3_master_84 (by decide) (fun h => absurd h (by decide)) (fun _ => ?_)
        refine lv_iload_n hx hb dX3_master_87 rfl (lv_at hl 3 rfl) ?_
        refine x_top (y := nI v_5) (by rw [h_4]; rfl) ?_
        refine lv_goto (tgt := 125) hx hb dX3_master_88 (by decide) ?_
        exact x_iret hx hb hrt hlk (by simp (decide := true) [rMaster, mCost, oI_s, oI_n, h_1, h_4]) dX3_master_125
    · refine lv_iload_n hx hb dX3_master_12 rfl (lv_at hl 1 rfl) ?_
      refine lv_iconst (v := nI 2) hx hb dX3_master_13 (by decide) ?_
      refine lv_icmp_eq (tgt := 22) hx hb dX3_master_14 (by decide) (fun h => absurd h (by decide)) (fun _ => ?_)
      refine lv_iload_n hx hb dX3_master_17 rfl (lv_at hl 1 rfl) ?_
      refine lv_iconst (v := nI 3) hx hb dX3_master_18 (by decide) ?_
      refine lv_icmp_ne (tgt := 26) hx hb dX3_master_19 (by decide) (fun _ => ?_) (fun h => absurd h (by decide))
      refine lv_aload_n hx hb dX3_master_26 rfl (lv_at hl 0 rfl) ?_
      refine x_ret (va_runV (As := []) (rest := []) S (mr_masterPlan l D dA h0 hr fs row w) (cwV 0 hts (lw_V q1195 q1197 qs32 q69 q1198) rfl rfl rfl hdX3_masterPlan ⟨Nat.le_of_ble_eq_true rfl, Nat.le_of_ble_eq_true rfl⟩) ⟨bb_blind ka_bl _, va_recv K hP (ci := 3) (q0 := 0) rfl rfl, ka_pre K hP _⟩ rfl rfl hl.1 rfl (lv_room (Nat.le_of_ble_eq_true rfl)) dX3_master_27 ⟨Nat.le_refl _, Nat.le_refl _⟩) ?_
      refine lv_istore_n (lv' := [(2, .int (oI (mMaster row n cu q))), (0, .ref h0), (1, .int (nI 1))]) hx hb dX3_master_30 rfl hl (by decide) rfl (fun ls hl => ?_)
      refine lv_aload_n hx hb dX3_master_31 rfl (lv_at hl 1 rfl) ?_
      refine va_get (D := D) (ci := 3) (C := RX3) (T := TX3) (N := 10) hx hb hts in_X3 hown K hP 0 rfl rfl 0 (by decide) (hts _ q1075) (fun _ h9 => h9) rfl dX3_master_32 ?_
      refine lv_iconst (v := nI 4) hx hb dX3_master_35 (by decide) ?_
      refine x_iald hx hb K hP 1 0 rfl rfl 4 rfl (by omega) (by decide) e4 dX3_master_36 ?_
      refine lv_istore_n (lv' := [(3, .int (oI bst)), (2, .int (oI (mMaster row n cu q))), (0, .ref h0), (1, .int (nI 1))]) hx hb dX3_master_37 rfl hl (by decide) rfl (fun ls hl => ?_)
      refine lv_iload_n hx hb dX3_master_38 rfl (lv_at hl 1 rfl) ?_
      refine x_ifo_lt (tgt := 51) hx hb dX3_master_39 (by decide) (fun b hb => by have := mMaster_lt hb; omega) (fun h_11 => ?_) (fun v_12 h_11 => ?_)
      · refine lv_bipush (v := -5) hx hb dX3_master_51 (by decide) ?_
        exact x_iret hx hb hrt hlk (by simp (decide := true) [rMaster, mCost, oI_s, oI_n, h_1, h_11]) dX3_master_53
      · have hml2 := mMaster_lt h_11
        refine lv_iload_n hx hb dX3_master_42 rfl (lv_at hl 3 rfl) ?_
        refine lv_iconst (v := nI 1) hx hb dX3_master_43 (by decide) ?_
        refine lv_icmp_le (tgt := 54) hx hb dX3_master_44 (by decide) (fun _ => ?_) (fun h => absurd (by decide) h)
        refine lv_aload_n hx hb dX3_master_54 rfl (lv_at hl 2 rfl) ?_
        refine lv_iload_n hx hb dX3_master_55 rfl (lv_at hl 1 rfl) ?_
        refine x_top (y := nI v_12) (by rw [h_11]; rfl) ?_
        refine x_ret (va_runV (As := [.int (nI v_12)]) (rest := []) S (mr_guess l D dA h0 hr fs row w v_12 (by omega)) (cwV 1 hts (lw_V q1223 q1225 qs39 q69 q1226) rfl rfl rfl hdX3_guess ⟨Nat.le_of_ble_eq_true rfl, Nat.le_of_ble_eq_true rfl⟩) ⟨bb_blind ka_bl _, va_recv K hP (ci := 3) (q0 := 0) rfl rfl, ka_pre K hP _⟩ rfl rfl hl.1 rfl (lv_room (Nat.le_of_ble_eq_true rfl)) dX3_master_56 ⟨Nat.le_refl _, Nat.le_refl _⟩) ?_
        refine lv_istore (lv' := [(4, .int (mGuess row n cu q v_12)), (3, .int (oI bst)), (2, .int (oI (mMaster row n cu q))), (0, .ref h0), (1, .int (nI 1))]) hx hb dX3_master_59 hl (by decide) rfl (fun ls hl => ?_)
        refine lv_iload_n hx hb dX3_master_61 rfl (lv_at hl 4 rfl) ?_
        refine lv_iconst (v := nI 1) hx hb dX3_master_62 (by decide) ?_
        refine lv_icmp_le (tgt := 80) hx hb dX3_master_63 (by decide) (fun _ => ?_) (fun h => absurd (by decide) h)
        refine lv_iconst (v := nI 0) hx hb dX3_master_80 (by decide) ?_
        refine lv_istore (lv' := [(5, .int (nI 0)), (4, .int (mGuess row n cu q v_12)), (3, .int (oI bst)), (2, .int (oI (mMaster row n cu q))), (0, .ref h0), (1, .int (nI 1))]) hx hb dX3_master_81 hl (by decide) rfl (fun ls hl => ?_)
        refine lv_iload_n hx hb dX3_master_83 rfl (lv_at hl 5 rfl) ?_
        refine lv_if_ne (tgt := 91) hx hb dX3_master_84 (by decide) (fun _ => ?_) (fun h => absurd h (by decide))
        refine lv_iload_n hx hb dX3_master_91 rfl (lv_at hl 5 rfl) ?_
        refine lv_iconst (v := nI 1) hx hb dX3_master_92 (by decide) ?_
        refine lv_icmp_ne (tgt := 101) hx hb dX3_master_93 (by decide) (fun h => absurd h (by decide)) (fun _ => ?_)
        refine lv_iload hx hb dX3_master_96 (lv_at hl 1 rfl) ?_
        refine lv_goto (tgt := 125) hx hb dX3_master_98 (by decide) ?_
        exact x_iret hx hb hrt hlk (by simp (decide := true) [rMaster, mCost, oI_s, oI_n, h_1, h_11]) dX3_master_125
    · refine lv_iload_n hx hb dX3_master_12 rfl (lv_at hl 1 rfl) ?_
      refine lv_iconst (v := nI 2) hx hb dX3_master_13 (by decide) ?_
      refine lv_icmp_eq (tgt := 22) hx hb dX3_master_14 (by decide) (fun _ => ?_) (fun h => absurd (by decide) h)
      refine lv_iconst (v := nI 0) hx hb dX3_master_22 (by decide) ?_
      refine lv_goto (tgt := 30) hx hb dX3_master_23 (by decide) ?_
      refine lv_istore_n (lv' := [(2, .int (nI 0)), (0, .ref h0), (1, .int (nI 2))]) hx hb dX3_master_30 rfl hl (by decide) rfl (fun ls hl => ?_)
      refine lv_aload_n hx hb dX3_master_31 rfl (lv_at hl 1 rfl) ?_
      refine va_get (D := D) (ci := 3) (C := RX3) (T := TX3) (N := 10) hx hb hts in_X3 hown K hP 0 rfl rfl 0 (by decide) (hts _ q1075) (fun _ h9 => h9) rfl dX3_master_32 ?_
      refine lv_iconst (v := nI 4) hx hb dX3_master_35 (by decide) ?_
      refine x_iald hx hb K hP 1 0 rfl rfl 4 rfl (by omega) (by decide) e4 dX3_master_36 ?_
      refine lv_istore_n (lv' := [(3, .int (oI bst)), (2, .int (nI 0)), (0, .ref h0), (1, .int (nI 2))]) hx hb dX3_master_37 rfl hl (by decide) rfl (fun ls hl => ?_)
      refine lv_iload_n hx hb dX3_master_38 rfl (lv_at hl 1 rfl) ?_
      refine lv_if_lt (tgt := 51) hx hb dX3_master_39 (by decide) (fun h => absurd h (by decide)) (fun _ => ?_)
      refine lv_iload_n hx hb dX3_master_42 rfl (lv_at hl 3 rfl) ?_
      refine lv_iconst (v := nI 1) hx hb dX3_master_43 (by decide) ?_
      refine lv_icmp_le (tgt := 54) hx hb dX3_master_44 (by decide) (fun h => absurd h (by decide)) (fun _ => ?_)
      refine lv_iload_n hx hb dX3_master_47 rfl (lv_at hl 0 rfl) ?_
      refine x_ifo_ge (tgt := 54) hx hb dX3_master_48 (by decide) (fun b hb => by have := (hbst b hb).1; omega) (fun v_21 h_20 => ?_) (fun h_20 => ?_)
      · obtain ⟨hb2, hms⟩ := hbst _ h_20
        refine lv_aload_n hx hb dX3_master_54 rfl (lv_at hl 2 rfl) ?_
        refine lv_iload_n hx hb dX3_master_55 rfl (lv_at hl 1 rfl) ?_
        refine x_ret (va_runV (As := [.int (nI 0)]) (rest := []) S (mr_guess l D dA h0 hr fs row w 0 (by omega)) (cwV 1 hts (lw_V q1223 q1225 qs39 q69 q1226) rfl rfl rfl hdX3_guess ⟨Nat.le_of_ble_eq_true rfl, Nat.le_of_ble_eq_true rfl⟩) ⟨bb_blind ka_bl _, va_recv K hP (ci := 3) (q0 := 0) rfl rfl, ka_pre K hP _⟩ rfl rfl hl.1 rfl (lv_room (Nat.le_of_ble_eq_true rfl)) dX3_master_56 ⟨Nat.le_refl _, Nat.le_refl _⟩) ?_
        refine lv_istore (lv' := [(4, .int (mGuess row n cu q 0)), (3, .int (oI bst)), (2, .int (nI 0)), (0, .ref h0), (1, .int (nI 2))]) hx hb dX3_master_59 hl (by decide) rfl (fun ls hl => ?_)
        refine lv_iload_n hx hb dX3_master_61 rfl (lv_at hl 4 rfl) ?_
        refine lv_iconst (v := nI 1) hx hb dX3_master_62 (by decide) ?_
        refine lv_icmp_le (tgt := 80) hx hb dX3_master_63 (by decide) (fun h => absurd h (by decide)) (fun _ => ?_)
        refine lv_aload_n hx hb dX3_master_66 rfl (lv_at hl 3 rfl) ?_
        refine lv_iload_n hx hb dX3_master_67 rfl (lv_at hl 1 rfl) ?_
        refine x_top (y := nI v_21) (by rw [h_20]; rfl) ?_
        refine x_ret (va_runV (As := [.int (nI v_21)]) (rest := []) S (mr_prices l D dA h0 hr fs row w v_21 (by omega)) (cwV 1 hts (lw_V q1235 q1237 qs42 q69 q1238) rfl rfl rfl hdX3_prices ⟨Nat.le_of_ble_eq_true rfl, Nat.le_of_ble_eq_true rfl⟩) ⟨bb_blind ka_bl _, va_recv K hP (ci := 3) (q0 := 0) rfl rfl, ka_pre K hP _⟩ rfl rfl hl.1 rfl (lv_room (Nat.le_of_ble_eq_true rfl)) dX3_master_68 ⟨Nat.le_refl _, Nat.le_refl _⟩) ?_
        refine lv_aload_n hx hb dX3_master_71 rfl (lv_at hl 3 rfl) ?_
        refine lv_iload_n hx hb dX3_master_72 rfl (lv_at hl 1 rfl) ?_
        refine x_top (y := nI v_21) (by rw [h_20]; rfl) ?_
        refine x_ret (va_runV (As := [.int (nI v_21)]) (rest := [.int (mPrices row n v_21)]) S (mr_routes l D dA h0 hr fs row w v_21 (by omega) (miss_none hms)) (cwV 1 hts (lw_V q1243 q1245 qs44 q69 q1246) rfl rfl rfl hdX3_routes ⟨Nat.le_of_ble_eq_true rfl, Nat.le_of_ble_eq_true rfl⟩) ⟨bb_blind ka_bl _, va_recv K hP (ci := 3) (q0 := 0) rfl rfl, ka_pre K hP _⟩ rfl rfl hl.1 rfl (lv_room (Nat.le_of_ble_eq_true rfl)) dX3_master_73 ⟨Nat.le_refl _, Nat.le_refl _⟩) ?_
        refine lv_iadd hx hb dX3_master_76 ?_
        refine lv_goto (tgt := 81) hx hb dX3_master_77 (by decide) ?_
        refine lv_istore (lv' := [(5, .int ((mPrices row n v_21) + (mRoutes row n cu v_21))), (4, .int (mGuess row n cu q 0)), (3, .int (oI bst)), (2, .int (nI 0)), (0, .ref h0), (1, .int (nI 2))]) hx hb dX3_master_81 hl (by decide) rfl (fun ls hl => ?_)
        refine lv_iload_n hx hb dX3_master_83 rfl (lv_at hl 5 rfl) ?_
        refine lv_if_ne (tgt := 91) hx hb dX3_master_84 (by decide) (fun _ => ?_) (fun h => absurd h (by decide))
        refine lv_iload_n hx hb dX3_master_91 rfl (lv_at hl 5 rfl) ?_
        refine lv_iconst (v := nI 1) hx hb dX3_master_92 (by decide) ?_
        refine lv_icmp_ne (tgt := 101) hx hb dX3_master_93 (by decide) (fun _ => ?_) (fun h => absurd h (by decide))
        refine lv_iload_n hx hb dX3_master_101 rfl (lv_at hl 5 rfl) ?_
        refine lv_iconst (v := nI 2) hx hb dX3_master_102 (by decide) ?_
        refine lv_icmp_ne (tgt := 110) hx hb dX3_master_103 (by decide) (fun h => absurd h (by decide)) (fun _ => ?_)
        refine lv_iload_n hx hb dX3_master_106 rfl (lv_at hl 2 rfl) ?_
        refine x_top (y := nI v_21) (by rw [h_20]; rfl) ?_
        refine lv_goto (tgt := 125) hx hb dX3_master_107 (by decide) ?_
        exact x_iret hx hb hrt hlk (by simp (decide := true) [rMaster, mCost, oI_s, oI_n, h_1, h_20]) dX3_master_125
      · refine lv_bipush (v := -5) hx hb dX3_master_51 (by decide) ?_
        exact x_iret hx hb hrt hlk (by simp (decide := true) [rMaster, mCost, oI_s, oI_n, h_1, h_20]) dX3_master_53
    · refine lv_iload_n hx hb dX3_master_12 rfl (lv_at hl 1 rfl) ?_
      refine lv_iconst (v := nI 2) hx hb dX3_master_13 (by decide) ?_
      refine lv_icmp_eq (tgt := 22) hx hb dX3_master_14 (by decide) (fun h => absurd h (by decide)) (fun _ => ?_)
      refine lv_iload_n hx hb dX3_master_17 rfl (lv_at hl 1 rfl) ?_
      refine lv_iconst (v := nI 3) hx hb dX3_master_18 (by decide) ?_
      refine lv_icmp_ne (tgt := 26) hx hb dX3_master_19 (by decide) (fun h => absurd h (by decide)) (fun _ => ?_)
      refine lv_iconst (v := nI 0) hx hb dX3_master_22 (by decide) ?_
      refine lv_goto (tgt := 30) hx hb dX3_master_23 (by decide) ?_
      refine lv_istore_n (lv' := [(2, .int (nI 0)), (0, .ref h0), (1, .int (nI 3))]) hx hb dX3_master_30 rfl hl (by decide) rfl (fun ls hl => ?_)
      refine lv_aload_n hx hb dX3_master_31 rfl (lv_at hl 1 rfl) ?_
      refine va_get (D := D) (ci := 3) (C := RX3) (T := TX3) (N := 10) hx hb hts in_X3 hown K hP 0 rfl rfl 0 (by decide) (hts _ q1075) (fun _ h9 => h9) rfl dX3_master_32 ?_
      refine lv_iconst (v := nI 4) hx hb dX3_master_35 (by decide) ?_
      refine x_iald hx hb K hP 1 0 rfl rfl 4 rfl (by omega) (by decide) e4 dX3_master_36 ?_
      refine lv_istore_n (lv' := [(3, .int (oI bst)), (2, .int (nI 0)), (0, .ref h0), (1, .int (nI 3))]) hx hb dX3_master_37 rfl hl (by decide) rfl (fun ls hl => ?_)
      refine lv_iload_n hx hb dX3_master_38 rfl (lv_at hl 1 rfl) ?_
      refine lv_if_lt (tgt := 51) hx hb dX3_master_39 (by decide) (fun h => absurd h (by decide)) (fun _ => ?_)
      refine lv_iload_n hx hb dX3_master_42 rfl (lv_at hl 3 rfl) ?_
      refine lv_iconst (v := nI 1) hx hb dX3_master_43 (by decide) ?_
      refine lv_icmp_le (tgt := 54) hx hb dX3_master_44 (by decide) (fun h => absurd h (by decide)) (fun _ => ?_)
      refine lv_iload_n hx hb dX3_master_47 rfl (lv_at hl 0 rfl) ?_
      refine x_ifo_ge (tgt := 54) hx hb dX3_master_48 (by decide) (fun b hb => by have := (hbst b hb).1; omega) (fun v_31 h_30 => ?_) (fun h_30 => ?_)
      · obtain ⟨hb2, hms⟩ := hbst _ h_30
        refine lv_aload_n hx hb dX3_master_54 rfl (lv_at hl 2 rfl) ?_
        refine lv_iload_n hx hb dX3_master_55 rfl (lv_at hl 1 rfl) ?_
        refine x_ret (va_runV (As := [.int (nI 0)]) (rest := []) S (mr_guess l D dA h0 hr fs row w 0 (by omega)) (cwV 1 hts (lw_V q1223 q1225 qs39 q69 q1226) rfl rfl rfl hdX3_guess ⟨Nat.le_of_ble_eq_true rfl, Nat.le_of_ble_eq_true rfl⟩) ⟨bb_blind ka_bl _, va_recv K hP (ci := 3) (q0 := 0) rfl rfl, ka_pre K hP _⟩ rfl rfl hl.1 rfl (lv_room (Nat.le_of_ble_eq_true rfl)) dX3_master_56 ⟨Nat.le_refl _, Nat.le_refl _⟩) ?_
        refine lv_istore (lv' := [(4, .int (mGuess row n cu q 0)), (3, .int (oI bst)), (2, .int (nI 0)), (0, .ref h0), (1, .int (nI 3))]) hx hb dX3_master_59 hl (by decide) rfl (fun ls hl => ?_)
        refine lv_iload_n hx hb dX3_master_61 rfl (lv_at hl 4 rfl) ?_
        refine lv_iconst (v := nI 1) hx hb dX3_master_62 (by decide) ?_
        refine lv_icmp_le (tgt := 80) hx hb dX3_master_63 (by decide) (fun h => absurd h (by decide)) (fun _ => ?_)
        refine lv_aload_n hx hb dX3_master_66 rfl (lv_at hl 3 rfl) ?_
        refine lv_iload_n hx hb dX3_master_67 rfl (lv_at hl 1 rfl) ?_
        refine x_top (y := nI v_31) (by rw [h_30]; rfl) ?_
        refine x_ret (va_runV (As := [.int (nI v_31)]) (rest := []) S (mr_prices l D dA h0 hr fs row w v_31 (by omega)) (cwV 1 hts (lw_V q1235 q1237 qs42 q69 q1238) rfl rfl rfl hdX3_prices ⟨Nat.le_of_ble_eq_true rfl, Nat.le_of_ble_eq_true rfl⟩) ⟨bb_blind ka_bl _, va_recv K hP (ci := 3) (q0 := 0) rfl rfl, ka_pre K hP _⟩ rfl rfl hl.1 rfl (lv_room (Nat.le_of_ble_eq_true rfl)) dX3_master_68 ⟨Nat.le_refl _, Nat.le_refl _⟩) ?_
        refine lv_aload_n hx hb dX3_master_71 rfl (lv_at hl 3 rfl) ?_
        refine lv_iload_n hx hb dX3_master_72 rfl (lv_at hl 1 rfl) ?_
        refine x_top (y := nI v_31) (by rw [h_30]; rfl) ?_
        refine x_ret (va_runV (As := [.int (nI v_31)]) (rest := [.int (mPrices row n v_31)]) S (mr_routes l D dA h0 hr fs row w v_31 (by omega) (miss_none hms)) (cwV 1 hts (lw_V q1243 q1245 qs44 q69 q1246) rfl rfl rfl hdX3_routes ⟨Nat.le_of_ble_eq_true rfl, Nat.le_of_ble_eq_true rfl⟩) ⟨bb_blind ka_bl _, va_recv K hP (ci := 3) (q0 := 0) rfl rfl, ka_pre K hP _⟩ rfl rfl hl.1 rfl (lv_room (Nat.le_of_ble_eq_true rfl)) dX3_master_73 ⟨Nat.le_refl _, Nat.le_refl _⟩) ?_
        refine lv_iadd hx hb dX3_master_76 ?_
        refine lv_goto (tgt := 81) hx hb dX3_master_77 (by decide) ?_
        refine lv_istore (lv' := [(5, .int ((mPrices row n v_31) + (mRoutes row n cu v_31))), (4, .int (mGuess row n cu q 0)), (3, .int (oI bst)), (2, .int (nI 0)), (0, .ref h0), (1, .int (nI 3))]) hx hb dX3_master_81 hl (by decide) rfl (fun ls hl => ?_)
        refine lv_iload_n hx hb dX3_master_83 rfl (lv_at hl 5 rfl) ?_
        refine lv_if_ne (tgt := 91) hx hb dX3_master_84 (by decide) (fun _ => ?_) (fun h => absurd h (by decide))
        refine lv_iload_n hx hb dX3_master_91 rfl (lv_at hl 5 rfl) ?_
        refine lv_iconst (v := nI 1) hx hb dX3_master_92 (by decide) ?_
        refine lv_icmp_ne (tgt := 101) hx hb dX3_master_93 (by decide) (fun _ => ?_) (fun h => absurd h (by decide))
        refine lv_iload_n hx hb dX3_master_101 rfl (lv_at hl 5 rfl) ?_
        refine lv_iconst (v := nI 2) hx hb dX3_master_102 (by decide) ?_
        refine lv_icmp_ne (tgt := 110) hx hb dX3_master_103 (by decide) (fun _ => ?_) (fun h => absurd h (by decide))
        refine lv_iload_n hx hb dX3_master_110 rfl (lv_at hl 5 rfl) ?_
        refine lv_iconst (v := nI 3) hx hb dX3_master_111 (by decide) ?_
        refine lv_icmp_ne (tgt := 120) hx hb dX3_master_112 (by decide) (fun h => absurd h (by decide)) (fun _ => ?_)
        refine lv_iload hx hb dX3_master_115 (lv_at hl 0 rfl) ?_
        refine lv_goto (tgt := 125) hx hb dX3_master_117 (by decide) ?_
        exact x_iret hx hb hrt hlk (by simp (decide := true) [rMaster, mCost, oI_s, oI_n, h_1, h_30]) dX3_master_125
      · refine lv_bipush (v := -5) hx hb dX3_master_51 (by decide) ?_
        exact x_iret hx hb hrt hlk (by simp (decide := true) [rMaster, mCost, oI_s, oI_n, h_1, h_30]) dX3_master_53
    · refine lv_iload_n hx hb dX3_master_12 rfl (lv_at hl 1 rfl) ?_
      refine lv_iconst (v := nI 2) hx hb dX3_master_13 (by decide) ?_
      refine lv_icmp_eq (tgt := 22) hx hb dX3_master_14 (by decide) (fun h => absurd h (by decide)) (fun _ => ?_)
      refine lv_iload_n hx hb dX3_master_17 rfl (lv_at hl 1 rfl) ?_
      refine lv_iconst (v := nI 3) hx hb dX3_master_18 (by decide) ?_
      refine lv_icmp_ne (tgt := 26) hx hb dX3_master_19 (by decide) (fun _ => ?_) (fun h => absurd h (by decide))
      refine lv_aload_n hx hb dX3_master_26 rfl (lv_at hl 0 rfl) ?_
      refine x_ret (va_runV (As := []) (rest := []) S (mr_masterPlan l D dA h0 hr fs row w) (cwV 0 hts (lw_V q1195 q1197 qs32 q69 q1198) rfl rfl rfl hdX3_masterPlan ⟨Nat.le_of_ble_eq_true rfl, Nat.le_of_ble_eq_true rfl⟩) ⟨bb_blind ka_bl _, va_recv K hP (ci := 3) (q0 := 0) rfl rfl, ka_pre K hP _⟩ rfl rfl hl.1 rfl (lv_room (Nat.le_of_ble_eq_true rfl)) dX3_master_27 ⟨Nat.le_refl _, Nat.le_refl _⟩) ?_
      refine lv_istore_n (lv' := [(2, .int (oI (mMaster row n cu q))), (0, .ref h0), (1, .int (nI 4))]) hx hb dX3_master_30 rfl hl (by decide) rfl (fun ls hl => ?_)
      refine lv_aload_n hx hb dX3_master_31 rfl (lv_at hl 1 rfl) ?_
      refine va_get (D := D) (ci := 3) (C := RX3) (T := TX3) (N := 10) hx hb hts in_X3 hown K hP 0 rfl rfl 0 (by decide) (hts _ q1075) (fun _ h9 => h9) rfl dX3_master_32 ?_
      refine lv_iconst (v := nI 4) hx hb dX3_master_35 (by decide) ?_
      refine x_iald hx hb K hP 1 0 rfl rfl 4 rfl (by omega) (by decide) e4 dX3_master_36 ?_
      refine lv_istore_n (lv' := [(3, .int (oI bst)), (2, .int (oI (mMaster row n cu q))), (0, .ref h0), (1, .int (nI 4))]) hx hb dX3_master_37 rfl hl (by decide) rfl (fun ls hl => ?_)
      refine lv_iload_n hx hb dX3_master_38 rfl (lv_at hl 1 rfl) ?_
      refine x_ifo_lt (tgt := 51) hx hb dX3_master_39 (by decide) (fun b hb => by have := mMaster_lt hb; omega) (fun h_39 => ?_) (fun v_40 h_39 => ?_)
      · refine lv_bipush (v := -5) hx hb dX3_master_51 (by decide) ?_
        exact x_iret hx hb hrt hlk (by simp (decide := true) [rMaster, mCost, oI_s, oI_n, h_1, h_39]) dX3_master_53
      · have hml2 := mMaster_lt h_39
        refine lv_iload_n hx hb dX3_master_42 rfl (lv_at hl 3 rfl) ?_
        refine lv_iconst (v := nI 1) hx hb dX3_master_43 (by decide) ?_
        refine lv_icmp_le (tgt := 54) hx hb dX3_master_44 (by decide) (fun h => absurd h (by decide)) (fun _ => ?_)
        refine lv_iload_n hx hb dX3_master_47 rfl (lv_at hl 0 rfl) ?_
        refine x_ifo_ge (tgt := 54) hx hb dX3_master_48 (by decide) (fun b hb => by have := (hbst b hb).1; omega) (fun v_43 h_42 => ?_) (fun h_42 => ?_)
        · obtain ⟨hb2, hms⟩ := hbst _ h_42
          refine lv_aload_n hx hb dX3_master_54 rfl (lv_at hl 2 rfl) ?_
          refine lv_iload_n hx hb dX3_master_55 rfl (lv_at hl 1 rfl) ?_
          refine x_top (y := nI v_40) (by rw [h_39]; rfl) ?_
          refine x_ret (va_runV (As := [.int (nI v_40)]) (rest := []) S (mr_guess l D dA h0 hr fs row w v_40 (by omega)) (cwV 1 hts (lw_V q1223 q1225 qs39 q69 q1226) rfl rfl rfl hdX3_guess ⟨Nat.le_of_ble_eq_true rfl, Nat.le_of_ble_eq_true rfl⟩) ⟨bb_blind ka_bl _, va_recv K hP (ci := 3) (q0 := 0) rfl rfl, ka_pre K hP _⟩ rfl rfl hl.1 rfl (lv_room (Nat.le_of_ble_eq_true rfl)) dX3_master_56 ⟨Nat.le_refl _, Nat.le_refl _⟩) ?_
          refine lv_istore (lv' := [(4, .int (mGuess row n cu q v_40)), (3, .int (oI bst)), (2, .int (oI (mMaster row n cu q))), (0, .ref h0), (1, .int (nI 4))]) hx hb dX3_master_59 hl (by decide) rfl (fun ls hl => ?_)
          refine lv_iload_n hx hb dX3_master_61 rfl (lv_at hl 4 rfl) ?_
          refine lv_iconst (v := nI 1) hx hb dX3_master_62 (by decide) ?_
          refine lv_icmp_le (tgt := 80) hx hb dX3_master_63 (by decide) (fun h => absurd h (by decide)) (fun _ => ?_)
          refine lv_aload_n hx hb dX3_master_66 rfl (lv_at hl 3 rfl) ?_
          refine lv_iload_n hx hb dX3_master_67 rfl (lv_at hl 1 rfl) ?_
          refine x_top (y := nI v_43) (by rw [h_42]; rfl) ?_
          refine x_ret (va_runV (As := [.int (nI v_43)]) (rest := []) S (mr_prices l D dA h0 hr fs row w v_43 (by omega)) (cwV 1 hts (lw_V q1235 q1237 qs42 q69 q1238) rfl rfl rfl hdX3_prices ⟨Nat.le_of_ble_eq_true rfl, Nat.le_of_ble_eq_true rfl⟩) ⟨bb_blind ka_bl _, va_recv K hP (ci := 3) (q0 := 0) rfl rfl, ka_pre K hP _⟩ rfl rfl hl.1 rfl (lv_room (Nat.le_of_ble_eq_true rfl)) dX3_master_68 ⟨Nat.le_refl _, Nat.le_refl _⟩) ?_
          refine lv_aload_n hx hb dX3_master_71 rfl (lv_at hl 3 rfl) ?_
          refine lv_iload_n hx hb dX3_master_72 rfl (lv_at hl 1 rfl) ?_
          refine x_top (y := nI v_43) (by rw [h_42]; rfl) ?_
          refine x_ret (va_runV (As := [.int (nI v_43)]) (rest := [.int (mPrices row n v_43)]) S (mr_routes l D dA h0 hr fs row w v_43 (by omega) (miss_none hms)) (cwV 1 hts (lw_V q1243 q1245 qs44 q69 q1246) rfl rfl rfl hdX3_routes ⟨Nat.le_of_ble_eq_true rfl, Nat.le_of_ble_eq_true rfl⟩) ⟨bb_blind ka_bl _, va_recv K hP (ci := 3) (q0 := 0) rfl rfl, ka_pre K hP _⟩ rfl rfl hl.1 rfl (lv_room (Nat.le_of_ble_eq_true rfl)) dX3_master_73 ⟨Nat.le_refl _, Nat.le_refl _⟩) ?_
          refine lv_iadd hx hb dX3_master_76 ?_
          refine lv_goto (tgt := 81) hx hb dX3_master_77 (by decide) ?_
          refine lv_istore (lv' := [(5, .int ((mPrices row n v_43) + (mRoutes row n cu v_43))), (4, .int (mGuess row n cu q v_40)), (3, .int (oI bst)), (2, .int (oI (mMaster row n cu q))), (0, .ref h0), (1, .int (nI 4))]) hx hb dX3_master_81 hl (by decide) rfl (fun ls hl => ?_)
          refine lv_iload_n hx hb dX3_master_83 rfl (lv_at hl 5 rfl) ?_
          refine lv_if_ne (tgt := 91) hx hb dX3_master_84 (by decide) (fun _ => ?_) (fun h => absurd h (by decide))
          refine lv_iload_n hx hb dX3_master_91 rfl (lv_at hl 5 rfl) ?_
          refine lv_iconst (v := nI 1) hx hb dX3_master_92 (by decide) ?_
          refine lv_icmp_ne (tgt := 101) hx hb dX3_master_93 (by decide) (fun _ => ?_) (fun h => absurd h (by decide))
          refine lv_iload_n hx hb dX3_master_101 rfl (lv_at hl 5 rfl) ?_
          refine lv_iconst (v := nI 2) hx hb dX3_master_102 (by decide) ?_
          refine lv_icmp_ne (tgt := 110) hx hb dX3_master_103 (by decide) (fun _ => ?_) (fun h => absurd h (by decide))
          refine lv_iload_n hx hb dX3_master_110 rfl (lv_at hl 5 rfl) ?_
          refine lv_iconst (v := nI 3) hx hb dX3_master_111 (by decide) ?_
          refine lv_icmp_ne (tgt := 120) hx hb dX3_master_112 (by decide) (fun _ => ?_) (fun h => absurd h (by decide))
          refine lv_iload hx hb dX3_master_120 (lv_at hl 0 rfl) ?_
          refine lv_iload hx hb dX3_master_122 (lv_at hl 1 rfl) ?_
          refine lv_isub hx hb dX3_master_124 ?_
          exact x_iret hx hb hrt hlk (by simp (decide := true) [rMaster, mCost, oI_s, oI_n, h_1, h_39, h_42]) dX3_master_125
        · refine lv_bipush (v := -5) hx hb dX3_master_51 (by decide) ?_
          exact x_iret hx hb hrt hlk (by simp (decide := true) [rMaster, mCost, oI_s, oI_n, h_1, h_39, h_42]) dX3_master_53
  · refine lv_bipush (v := -2) hx hb dX3_master_9 (by decide) ?_
    exact x_iret hx hb hrt hlk (by simp (decide := true) [rMaster, mCost, oI_s, oI_n, h_1]) dX3_master_11

set_option maxHeartbeats 4000000 in
theorem mr_byAll (l : Launch) (D : va_G) (dA : Nat → ClassId) (h0 hr : Nat) (fs : List Value) (row : Nat → Int32) {n cu q : Nat} (w : MWf row n cu q) (x : Int32) : RO l yX3_byAll cX3_byAll 7 (some .int) 4 160 [.ref h0, .int x] (KA D dA) (MRo D dA h0 hr fs row) (some (.int (rByAll row n cu x))) := by
  refine ro_of (by decide) (Nat.le_of_ble_eq_true rfl) ?_
  intro p e s m below meth c S hrt hlk K hP ls hl
  obtain ⟨hx, hb, hml, hown, hts⟩ := id S
  obtain ⟨e0, hn, e1, hcu, e3, hq, hray⟩ := id w
  have h2n := pow7 hn
  have hl : lv_has ls 7 [(0, .ref h0), (1, .int x)] := hl
  refine lv_iload_n hx hb dX3_byAll_0 rfl (lv_at hl 1 rfl) ?_
  refine lv_iconst (v := nI 0) hx hb dX3_byAll_1 (by decide) ?_
  refine lv_iconst (v := nI 2) hx hb dX3_byAll_2 (by decide) ?_
  refine x_ret (va_runS (As := [.int x, .int (nI 0), .int (nI 2)]) (rest := []) S (mr_in l x (nI 0) (nI 2)) (va_cwS 3 hts (lw_S q1135 q1136 q69 q1137) rfl rfl rfl hdX3_in ⟨Nat.le_of_ble_eq_true rfl, Nat.le_of_ble_eq_true rfl⟩) ⟨bb_blind tt_bl _, tt_pre _⟩ rfl rfl hl.1 rfl (lv_room (Nat.le_of_ble_eq_true rfl)) dX3_byAll_3 ⟨Nat.le_refl _, Nat.le_refl _⟩) ?_
  refine x_ifb_ne (tgt := 12) hx hb dX3_byAll_6 (by decide) (fun h_1 => ?_) (fun h_1 => ?_)
  · refine lv_bipush (v := -5) hx hb dX3_byAll_12 (by decide) ?_
    refine lv_istore_n (lv' := [(2, .int (-5)), (0, .ref h0), (1, .int x)]) hx hb dX3_byAll_14 rfl hl (by decide) rfl (fun ls hl => ?_)
    refine lv_iconst (v := nI 0) hx hb dX3_byAll_15 (by decide) ?_
    refine lv_istore_n (lv' := [(3, .int (nI 0)), (2, .int (-5)), (0, .ref h0), (1, .int x)]) hx hb dX3_byAll_16 rfl hl (by decide) rfl (fun ls hl => ?_)
    refine lv_iconst (v := nI 0) hx hb dX3_byAll_17 (by decide) ?_
    refine lv_istore (lv' := [(4, .int (nI 0)), (3, .int (nI 0)), (2, .int (-5)), (0, .ref h0), (1, .int x)]) hx hb dX3_byAll_18 hl (by decide) rfl (fun ls hl => ?_)
    refine lv_iconst (v := nI 0) hx hb dX3_byAll_20 (by decide) ?_
    refine lv_istore (lv' := [(5, .int (nI 0)), (4, .int (nI 0)), (3, .int (nI 0)), (2, .int (-5)), (0, .ref h0), (1, .int x)]) hx hb dX3_byAll_21 hl (by decide) rfl (fun ls hl => ?_)
    refine lpI (mBaS row n cu) (none, nI 0, 0) (2 ^ n) (fun k a ls => lv_has ls 7 [(0, .ref h0), (1, .int x), (2, .int (oI ((a).1))), (3, .int ((a).2.1)), (4, .int (nI ((a).2.2))), (5, .int (nI k))]) (fun ls => W p l e (rmR 4 160) s m ([.ref h0, .int x]).toArray below meth c s.heap [] 0 0 (MQ below (QRet (some (.int (rByAll row n cu x)))) ([.ref h0, .int x]).toArray s 0 0 (fun _ => False)) (F0 m 23 ls [])) ?_ ?_ ls (lv_sub hl [4, 5, 3, 2, 1, 0] rfl)
    · intro k ls hk_2 hl ih
      have hbd := mBa_lt row n cu k
      generalize iter (mBaS row n cu) k 0 (none, nI 0, 0) = a at *
      have hl : lv_has ls 7 [(0, .ref h0), (1, .int x), (2, .int (oI ((a).1))), (3, .int ((a).2.1)), (4, .int (nI ((a).2.2))), (5, .int (nI k))] := hl
      show W p l e (rmR 4 160) s m ([.ref h0, .int x]).toArray below meth c s.heap [] 0 0 (MQ below (QRet (some (.int (rByAll row n cu x)))) ([.ref h0, .int x]).toArray s 0 0 (fun _ => False)) (F0 m 23 ls [])
      refine lv_iload hx hb dX3_byAll_23 (lv_at hl 5 rfl) ?_
      refine lv_iconst (v := nI 1) hx hb dX3_byAll_25 (by decide) ?_
      refine lv_aload_n hx hb dX3_byAll_26 rfl (lv_at hl 0 rfl) ?_
      refine va_get (D := D) (ci := 3) (C := RX3) (T := TX3) (N := 10) hx hb hts in_X3 hown K hP 0 rfl rfl 0 (by decide) (hts _ q1075) (fun _ h9 => h9) rfl dX3_byAll_27 ?_
      refine lv_iconst (v := nI 0) hx hb dX3_byAll_30 (by decide) ?_
      refine x_iald hx hb K hP 1 0 rfl rfl 0 rfl (by omega) (by decide) e0 dX3_byAll_31 ?_
      refine lv_ishl hx hb dX3_byAll_32 ?_
      refine x_top (y := nI (2 ^ n)) (nx_shl (by omega)) ?_
      refine lv_icmp_ge (tgt := 85) hx hb dX3_byAll_33 (by decide) (fun h => absurd h (nI_ge hk_2 (by omega))) (fun _ => ?_)
      refine lv_aload_n hx hb dX3_byAll_36 rfl (lv_at hl 0 rfl) ?_
      refine lv_iload hx hb dX3_byAll_37 (lv_at hl 5 rfl) ?_
      refine x_ret (va_runV (As := [.int (nI k)]) (rest := []) S (mr_isFeasible l D dA h0 hr fs row w k (by omega)) (cwV 1 hts (lw_V q1323 q1325 qs54 q69 q1326) rfl rfl rfl hdX3_isFeasible ⟨Nat.le_of_ble_eq_true rfl, Nat.le_of_ble_eq_true rfl⟩) ⟨bb_blind ka_bl _, va_recv K hP (ci := 3) (q0 := 0) rfl rfl, ka_pre K hP _⟩ rfl rfl hl.1 rfl (lv_room (Nat.le_of_ble_eq_true rfl)) dX3_byAll_39 ⟨Nat.le_refl _, Nat.le_refl _⟩) ?_
      refine x_ifb_eq (tgt := 79) hx hb dX3_byAll_42 (by decide) (fun h_4 => ?_) (fun h_4 => ?_)
      · refine lv_iinc (v := nI (k + 1)) (lv' := [(5, .int (nI (k + 1))), (0, .ref h0), (1, .int x), (2, .int (oI ((a).1))), (3, .int ((a).2.1)), (4, .int (nI ((a).2.2)))]) hx hb dX3_byAll_79 hl (k := 5) rfl (nI_1 k) (by decide) rfl (fun ls hl => ?_)
        refine lv_goto (tgt := 23) hx hb dX3_byAll_82 (by decide) ?_
        refine ih ls ?_
        show lv_has ls 7 [(0, .ref h0), (1, .int x), (2, .int (oI (((mBaS row n cu) k a).1))), (3, .int (((mBaS row n cu) k a).2.1)), (4, .int (nI (((mBaS row n cu) k a).2.2))), (5, .int (nI (k + 1)))]
        rw [show oI (((mBaS row n cu) k a).1) = oI ((a).1) from (by simp [mBaS, mCost, oI_s, oI_n, h_1, h_4])]
        rw [show ((mBaS row n cu) k a).2.1 = (a).2.1 from (by simp [mBaS, mCost, oI_s, oI_n, h_1, h_4])]
        rw [show nI (((mBaS row n cu) k a).2.2) = nI ((a).2.2) from (by simp [mBaS, mCost, oI_s, oI_n, h_1, h_4])]
        exact lv_sub hl [1, 2, 3, 4, 5, 0] rfl
      · have hms := feas_miss h_4
        refine lv_aload_n hx hb dX3_byAll_45 rfl (lv_at hl 0 rfl) ?_
        refine lv_iload hx hb dX3_byAll_46 (lv_at hl 5 rfl) ?_
        refine x_ret (va_runV (As := [.int (nI k)]) (rest := []) S (mr_prices l D dA h0 hr fs row w k (by omega)) (cwV 1 hts (lw_V q1235 q1237 qs42 q69 q1238) rfl rfl rfl hdX3_prices ⟨Nat.le_of_ble_eq_true rfl, Nat.le_of_ble_eq_true rfl⟩) ⟨bb_blind ka_bl _, va_recv K hP (ci := 3) (q0 := 0) rfl rfl, ka_pre K hP _⟩ rfl rfl hl.1 rfl (lv_room (Nat.le_of_ble_eq_true rfl)) dX3_byAll_48 ⟨Nat.le_refl _, Nat.le_refl _⟩) ?_
        refine lv_aload_n hx hb dX3_byAll_51 rfl (lv_at hl 0 rfl) ?_
        refine lv_iload hx hb dX3_byAll_52 (lv_at hl 5 rfl) ?_
        refine x_ret (va_runV (As := [.int (nI k)]) (rest := [.int (mPrices row n k)]) S (mr_routes l D dA h0 hr fs row w k (by omega) (miss_none hms)) (cwV 1 hts (lw_V q1243 q1245 qs44 q69 q1246) rfl rfl rfl hdX3_routes ⟨Nat.le_of_ble_eq_true rfl, Nat.le_of_ble_eq_true rfl⟩) ⟨bb_blind ka_bl _, va_recv K hP (ci := 3) (q0 := 0) rfl rfl, ka_pre K hP _⟩ rfl rfl hl.1 rfl (lv_room (Nat.le_of_ble_eq_true rfl)) dX3_byAll_54 ⟨Nat.le_refl _, Nat.le_refl _⟩) ?_
        refine lv_iadd hx hb dX3_byAll_57 ?_
        refine lv_istore (lv' := [(6, .int ((mPrices row n k) + (mRoutes row n cu k))), (0, .ref h0), (1, .int x), (2, .int (oI ((a).1))), (3, .int ((a).2.1)), (4, .int (nI ((a).2.2))), (5, .int (nI k))]) hx hb dX3_byAll_58 hl (by decide) rfl (fun ls hl => ?_)
        refine lv_iload_n hx hb dX3_byAll_60 rfl (lv_at hl 3 rfl) ?_
        refine x_ifo_lt (tgt := 70) hx hb dX3_byAll_61 (by decide) (fun b hb => by have := (hbd.1 b hb).1; omega) (fun h_5 => ?_) (fun v_6 h_5 => ?_)
        · refine lv_iload hx hb dX3_byAll_70 (lv_at hl 6 rfl) ?_
          refine lv_istore_n (lv' := [(2, .int (nI k)), (6, .int ((mPrices row n k) + (mRoutes row n cu k))), (0, .ref h0), (1, .int x), (3, .int ((a).2.1)), (4, .int (nI ((a).2.2))), (5, .int (nI k))]) hx hb dX3_byAll_72 rfl hl (by decide) rfl (fun ls hl => ?_)
          refine lv_iload hx hb dX3_byAll_73 (lv_at hl 1 rfl) ?_
          refine lv_istore_n (lv' := [(3, .int ((mPrices row n k) + (mRoutes row n cu k))), (2, .int (nI k)), (6, .int ((mPrices row n k) + (mRoutes row n cu k))), (0, .ref h0), (1, .int x), (4, .int (nI ((a).2.2))), (5, .int (nI k))]) hx hb dX3_byAll_75 rfl hl (by decide) rfl (fun ls hl => ?_)
          refine lv_iinc (v := nI (((a).2.2) + 1)) (lv' := [(4, .int (nI (((a).2.2) + 1))), (3, .int ((mPrices row n k) + (mRoutes row n cu k))), (2, .int (nI k)), (6, .int ((mPrices row n k) + (mRoutes row n cu k))), (0, .ref h0), (1, .int x), (5, .int (nI k))]) hx hb dX3_byAll_76 hl (k := 5) rfl (nI_1 ((a).2.2)) (by decide) rfl (fun ls hl => ?_)
          refine lv_iinc (v := nI (k + 1)) (lv' := [(5, .int (nI (k + 1))), (4, .int (nI (((a).2.2) + 1))), (3, .int ((mPrices row n k) + (mRoutes row n cu k))), (2, .int (nI k)), (6, .int ((mPrices row n k) + (mRoutes row n cu k))), (0, .ref h0), (1, .int x)]) hx hb dX3_byAll_79 hl (k := 6) rfl (nI_1 k) (by decide) rfl (fun ls hl => ?_)
          refine lv_goto (tgt := 23) hx hb dX3_byAll_82 (by decide) ?_
          refine ih ls ?_
          show lv_has ls 7 [(0, .ref h0), (1, .int x), (2, .int (oI (((mBaS row n cu) k a).1))), (3, .int (((mBaS row n cu) k a).2.1)), (4, .int (nI (((mBaS row n cu) k a).2.2))), (5, .int (nI (k + 1)))]
          rw [show oI (((mBaS row n cu) k a).1) = nI k from (by simp [mBaS, mCost, oI_s, oI_n, h_1, h_4, h_5])]
          rw [show ((mBaS row n cu) k a).2.1 = (mPrices row n k) + (mRoutes row n cu k) from (by simp [mBaS, mCost, oI_s, oI_n, h_1, h_4, h_5])]
          rw [show nI (((mBaS row n cu) k a).2.2) = nI (((a).2.2) + 1) from (by simp [mBaS, mCost, oI_s, oI_n, h_1, h_4, h_5])]
          exact lv_sub hl [5, 6, 3, 2, 1, 0] rfl
        · refine lv_iload hx hb dX3_byAll_64 (lv_at hl 0 rfl) ?_
          refine lv_iload_n hx hb dX3_byAll_66 rfl (lv_at hl 4 rfl) ?_
          refine lv_icmp_ge (tgt := 76) hx hb dX3_byAll_67 (by decide) (fun h_7 => ?_) (fun h_7 => ?_)
          · refine lv_iinc (v := nI (((a).2.2) + 1)) (lv' := [(4, .int (nI (((a).2.2) + 1))), (6, .int ((mPrices row n k) + (mRoutes row n cu k))), (0, .ref h0), (1, .int x), (2, .int (oI ((a).1))), (3, .int ((a).2.1)), (5, .int (nI k))]) hx hb dX3_byAll_76 hl (k := 5) rfl (nI_1 ((a).2.2)) (by decide) rfl (fun ls hl => ?_)
            refine lv_iinc (v := nI (k + 1)) (lv' := [(5, .int (nI (k + 1))), (4, .int (nI (((a).2.2) + 1))), (6, .int ((mPrices row n k) + (mRoutes row n cu k))), (0, .ref h0), (1, .int x), (2, .int (oI ((a).1))), (3, .int ((a).2.1))]) hx hb dX3_byAll_79 hl (k := 6) rfl (nI_1 k) (by decide) rfl (fun ls hl => ?_)
            refine lv_goto (tgt := 23) hx hb dX3_byAll_82 (by decide) ?_
            refine ih ls ?_
            show lv_has ls 7 [(0, .ref h0), (1, .int x), (2, .int (oI (((mBaS row n cu) k a).1))), (3, .int (((mBaS row n cu) k a).2.1)), (4, .int (nI (((mBaS row n cu) k a).2.2))), (5, .int (nI (k + 1)))]
            rw [show oI (((mBaS row n cu) k a).1) = oI ((a).1) from (by simp [mBaS, mCost, oI_s, oI_n, h_1, h_4, h_5, h_7])]
            rw [show ((mBaS row n cu) k a).2.1 = (a).2.1 from (by simp [mBaS, mCost, oI_s, oI_n, h_1, h_4, h_5, h_7])]
            rw [show nI (((mBaS row n cu) k a).2.2) = nI (((a).2.2) + 1) from (by simp [mBaS, mCost, oI_s, oI_n, h_1, h_4, h_5, h_7])]
            exact lv_sub hl [3, 4, 5, 6, 1, 0] rfl
          · refine lv_iload hx hb dX3_byAll_70 (lv_at hl 6 rfl) ?_
            refine lv_istore_n (lv' := [(2, .int (nI k)), (6, .int ((mPrices row n k) + (mRoutes row n cu k))), (0, .ref h0), (1, .int x), (3, .int ((a).2.1)), (4, .int (nI ((a).2.2))), (5, .int (nI k))]) hx hb dX3_byAll_72 rfl hl (by decide) rfl (fun ls hl => ?_)
            refine lv_iload hx hb dX3_byAll_73 (lv_at hl 1 rfl) ?_
            refine lv_istore_n (lv' := [(3, .int ((mPrices row n k) + (mRoutes row n cu k))), (2, .int (nI k)), (6, .int ((mPrices row n k) + (mRoutes row n cu k))), (0, .ref h0), (1, .int x), (4, .int (nI ((a).2.2))), (5, .int (nI k))]) hx hb dX3_byAll_75 rfl hl (by decide) rfl (fun ls hl => ?_)
            refine lv_iinc (v := nI (((a).2.2) + 1)) (lv' := [(4, .int (nI (((a).2.2) + 1))), (3, .int ((mPrices row n k) + (mRoutes row n cu k))), (2, .int (nI k)), (6, .int ((mPrices row n k) + (mRoutes row n cu k))), (0, .ref h0), (1, .int x), (5, .int (nI k))]) hx hb dX3_byAll_76 hl (k := 5) rfl (nI_1 ((a).2.2)) (by decide) rfl (fun ls hl => ?_)
            refine lv_iinc (v := nI (k + 1)) (lv' := [(5, .int (nI (k + 1))), (4, .int (nI (((a).2.2) + 1))), (3, .int ((mPrices row n k) + (mRoutes row n cu k))), (2, .int (nI k)), (6, .int ((mPrices row n k) + (mRoutes row n cu k))), (0, .ref h0), (1, .int x)]) hx hb dX3_byAll_79 hl (k := 6) rfl (nI_1 k) (by decide) rfl (fun ls hl => ?_)
            refine lv_goto (tgt := 23) hx hb dX3_byAll_82 (by decide) ?_
            refine ih ls ?_
            show lv_has ls 7 [(0, .ref h0), (1, .int x), (2, .int (oI (((mBaS row n cu) k a).1))), (3, .int (((mBaS row n cu) k a).2.1)), (4, .int (nI (((mBaS row n cu) k a).2.2))), (5, .int (nI (k + 1)))]
            rw [show oI (((mBaS row n cu) k a).1) = nI k from (by simp [mBaS, mCost, oI_s, oI_n, h_1, h_4, h_5, h_7])]
            rw [show ((mBaS row n cu) k a).2.1 = (mPrices row n k) + (mRoutes row n cu k) from (by simp [mBaS, mCost, oI_s, oI_n, h_1, h_4, h_5, h_7])]
            rw [show nI (((mBaS row n cu) k a).2.2) = nI (((a).2.2) + 1) from (by simp [mBaS, mCost, oI_s, oI_n, h_1, h_4, h_5, h_7])]
            exact lv_sub hl [5, 6, 3, 2, 1, 0] rfl
    · intro ls hl
      have hl : lv_has ls 7 [(0, .ref h0), (1, .int x), (2, .int (oI ((mBa row n cu).1))), (3, .int ((mBa row n cu).2.1)), (4, .int (nI ((mBa row n cu).2.2))), (5, .int (nI (2 ^ n)))] := hl
      show W p l e (rmR 4 160) s m ([.ref h0, .int x]).toArray below meth c s.heap [] 0 0 (MQ below (QRet (some (.int (rByAll row n cu x)))) ([.ref h0, .int x]).toArray s 0 0 (fun _ => False)) (F0 m 23 ls [])
      refine lv_iload hx hb dX3_byAll_23 (lv_at hl 5 rfl) ?_
      refine lv_iconst (v := nI 1) hx hb dX3_byAll_25 (by decide) ?_
      refine lv_aload_n hx hb dX3_byAll_26 rfl (lv_at hl 0 rfl) ?_
      refine va_get (D := D) (ci := 3) (C := RX3) (T := TX3) (N := 10) hx hb hts in_X3 hown K hP 0 rfl rfl 0 (by decide) (hts _ q1075) (fun _ h9 => h9) rfl dX3_byAll_27 ?_
      refine lv_iconst (v := nI 0) hx hb dX3_byAll_30 (by decide) ?_
      refine x_iald hx hb K hP 1 0 rfl rfl 0 rfl (by omega) (by decide) e0 dX3_byAll_31 ?_
      refine lv_ishl hx hb dX3_byAll_32 ?_
      refine x_top (y := nI (2 ^ n)) (nx_shl (by omega)) ?_
      refine lv_icmp_ge (tgt := 85) hx hb dX3_byAll_33 (by decide) (fun _ => ?_) (fun h => absurd (nI_le (by omega) (by omega)) h)
      refine lv_iload_n hx hb dX3_byAll_85 rfl (lv_at hl 1 rfl) ?_
      refine lv_iconst (v := nI 2) hx hb dX3_byAll_86 (by decide) ?_
      refine lv_icmp_ne (tgt := 95) hx hb dX3_byAll_87 (by decide) (fun h_9 => ?_) (fun h_9 => ?_)
      · refine lv_iload_n hx hb dX3_byAll_95 rfl (lv_at hl 2 rfl) ?_
        refine x_ifo_ge (tgt := 104) hx hb dX3_byAll_96 (by decide) (fun b hb => by have := ((mBa_lt row n cu (2 ^ n)).1 b hb).1; omega) (fun v_11 h_10 => ?_) (fun h_10 => ?_)
        · refine lv_iload_n hx hb dX3_byAll_104 rfl (lv_at hl 1 rfl) ?_
          refine lv_if_ne (tgt := 112) hx hb dX3_byAll_105 (by decide) (fun h_12 => ?_) (fun h_12 => ?_)
          · refine lv_iload_n hx hb dX3_byAll_112 rfl (lv_at hl 3 rfl) ?_
            exact x_iret hx hb hrt hlk (by simp (decide := true) [rByAll, oI_s, oI_n, h_1, h_9, h_10, h_12]) dX3_byAll_113
          · refine lv_iload_n hx hb dX3_byAll_108 rfl (lv_at hl 2 rfl) ?_
            refine x_top (y := nI v_11) (by rw [h_10]; rfl) ?_
            refine lv_goto (tgt := 113) hx hb dX3_byAll_109 (by decide) ?_
            exact x_iret hx hb hrt hlk (by simp (decide := true) [rByAll, oI_s, oI_n, h_1, h_9, h_10, h_12]) dX3_byAll_113
        · refine lv_bipush (v := -5) hx hb dX3_byAll_99 (by decide) ?_
          refine lv_goto (tgt := 113) hx hb dX3_byAll_101 (by decide) ?_
          exact x_iret hx hb hrt hlk (by simp (decide := true) [rByAll, oI_s, oI_n, h_1, h_9, h_10]) dX3_byAll_113
      · refine lv_iload hx hb dX3_byAll_90 (lv_at hl 4 rfl) ?_
        refine lv_goto (tgt := 113) hx hb dX3_byAll_92 (by decide) ?_
        exact x_iret hx hb hrt hlk (by simp (decide := true) [rByAll, oI_s, oI_n, h_1, h_9]) dX3_byAll_113
  · refine lv_bipush (v := -2) hx hb dX3_byAll_9 (by decide) ?_
    exact x_iret hx hb hrt hlk (by simp [rByAll, h_1]) dX3_byAll_11

