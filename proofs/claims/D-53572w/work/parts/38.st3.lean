theorem guS_val {row : Nat → Int32} {n cu pl k : Nat} {a : Int32} (h : row (84 + 9 * k) = -5) : mGuS row n cu pl k a = xMax a (mValue row n cu k pl) := by
  have hr : mRay row k = false := by unfold mRay; rw [h]; rfl
  unfold mGuS mGuV xMax
  rw [if_pos hr]
  by_cases hv : mValue row n cu k pl ≤ a
  · rw [if_pos hv, if_neg (Int32.not_lt.mpr hv)]
  · rw [if_neg hv, if_pos (Int32.not_le.mp hv)]
theorem guS_ray {row : Nat → Int32} {n cu pl k j : Nat} {a : Int32} (h : row (84 + 9 * k) = nI j) (hj : j < 8) (ha : nI 0 ≤ a) : mGuS row n cu pl k a = a := by
  have hr : ¬ mRay row k = false := by unfold mRay; rw [h, if_neg (nI_pos (by omega))]; decide
  unfold mGuS mGuV
  rw [if_neg hr, if_pos ha]
theorem above_ge (row : Nat → Int32) (n cu pl : Nat) : ∀ k, nI 0 ≤ iter (mGuS row n cu pl) k 0 (nI 0) := by
  intro k
  induction k with
  | zero => rw [iter_0]; decide
  | succ k ih =>
    rw [iter_s, Nat.zero_add]
    unfold mGuS
    split
    · exact ih
    · rename_i h
      exact Int32.le_of_lt (Int32.lt_of_le_of_lt ih (Int32.not_le.mp h))
theorem rmS_val {row : Nat → Int32} {n pl k a : Nat} (h : row (84 + 9 * k) = -5) : mRmS row n pl k a = a + 0 := by
  have hr : mRay row k = false := by unfold mRay; rw [h]; rfl
  unfold mRmS
  rw [if_pos hr]
theorem asked_ray {row : Nat → Int32} {n pl k j : Nat} (hn : n ≤ 7) (h : row (84 + 9 * k) = nI j) (hj : j < 8) : nI (mAsked row n k pl) = xSumR row n j pl := by
  unfold mAsked
  rw [h, nI_clamp (by omega), sumR_eq row hn]
theorem rmS_1 {row : Nat → Int32} {n pl k a j : Nat} (hn : n ≤ 7) (h : row (84 + 9 * k) = nI j) (hj : j < 8) (hb : (if nI 1 ≤ xSumR row n j pl then false else true) = true) : mRmS row n pl k a = a + 1 := by
  have hr : ¬ mRay row k = false := by unfold mRay; rw [h, if_neg (nI_pos (by omega))]; decide
  rw [← asked_ray hn h hj] at hb
  unfold mRmS
  rw [if_neg hr]
  by_cases h0 : mAsked row n k pl = 0
  · rw [if_pos h0]
  · have h7 : mAsked row n k pl ≤ 7 := mMany_le _ 7
    rw [if_pos (nI_le (a := 1) (b := mAsked row n k pl) (by omega) (by omega))] at hb
    cases hb
theorem rmS_0 {row : Nat → Int32} {n pl k a j : Nat} (hn : n ≤ 7) (h : row (84 + 9 * k) = nI j) (hj : j < 8) (hb : (if nI 1 ≤ xSumR row n j pl then false else true) = false) : mRmS row n pl k a = a + 0 := by
  have hr : ¬ mRay row k = false := by unfold mRay; rw [h, if_neg (nI_pos (by omega))]; decide
  rw [← asked_ray hn h hj] at hb
  unfold mRmS
  rw [if_neg hr]
  by_cases h0 : mAsked row n k pl = 0
  · rw [h0, if_neg (by decide)] at hb
    cases hb
  · rw [if_neg h0]

set_option maxHeartbeats 4000000 in
theorem xs_above (l : Launch) (D : va_G) (dA : Nat → ClassId) (E : Nat) (ad : Nat → Nat) (sz0 mi : Nat) (sa la lp lx ld lr lq : Nat) (row : Nat → Int32) {n cu : Nat} (hn : n ≤ 7) (hcu : cu ≤ 8) (bs sp md : Int32) (d2 q2 p2 : Nat) (f2 : Nat → Option Nat) (FZ : va_W) (hq : q2 ≤ p2 ∧ p2 ≤ 64) (hco : CutsOk dA FZ row cu q2 f2) (pl : Nat) (hp : pl < 128) : RO l yX1_guessAbove cX1_guessAbove 4 (some .int) 6 240 [.ref sa, .int (nI pl)] (G1 D dA E ad sz0 mi) (fun H => va_P D vwCl (stR dA sa la lp lx ld lr lq row n cu bs sp md d2 q2 p2 f2) H ∧ va_P D vwCl FZ H) (some (.int (mAbove row n cu q2 pl))) := by
  refine ro_of (by decide) (Nat.le_of_ble_eq_true rfl) ?_
  intro p e s m below meth c S hrt hlk G hP ls hl
  obtain ⟨hx, hb, hml, hown, hts⟩ := id S
  obtain ⟨hP, hF⟩ := hP
  have hP : va_P D vwCl [(sa, .inr (1, [.ref la, .ref lq, .int bs, .int sp])), (la, .inr (2, [.ref lp, .ref lx, .ref ld, .ref lr, .int (nI n), .int (nI cu), .int (row 2)])), (lp, .inl (dA 0, 7, .inl (fun k => row (6 + k)))), (lx, .inl (dA 0, 7, .inl (fun k => row (77 + k)))), (ld, .inl (dA 0, 8, .inl (fun k => row (13 + k)))), (lr, .inl (dA 0, 56, .inl (fun k => row (21 + k)))), (lq, .inr (4, [.int md, .ref d2, .int (nI q2)])), (d2, .inl (dA 1, p2, .inr (.inr (.inr (.inr f2)))))] s.heap := hP
  have K := G.1.1
  have hl : lv_has ls 4 [(0, .ref sa), (1, .int (nI pl))] := hl
  refine lv_iconst (v := nI 0) hx hb dX1_guessAbove_0 (by decide) ?_
  refine lv_istore_n (lv' := [(2, .int (nI 0)), (0, .ref sa), (1, .int (nI pl))]) hx hb dX1_guessAbove_1 rfl hl (by decide) rfl (fun ls hl => ?_)
  refine lv_iconst (v := nI 0) hx hb dX1_guessAbove_2 (by decide) ?_
  refine lv_istore_n (lv' := [(3, .int (nI 0)), (2, .int (nI 0)), (0, .ref sa), (1, .int (nI pl))]) hx hb dX1_guessAbove_3 rfl hl (by decide) rfl (fun ls hl => ?_)
  refine lpI (mGuS row n cu pl) (nI 0) q2 (fun k a ls => lv_has ls 4 [(0, .ref sa), (1, .int (nI pl)), (2, .int a), (3, .int (nI k))]) (fun ls => W p l e (rmR 6 240) s m ([.ref sa, .int (nI pl)]).toArray below meth c s.heap [] 0 0 (MQ below (QRet (some (.int (mAbove row n cu q2 pl)))) ([.ref sa, .int (nI pl)]).toArray s 0 0 (fun _ => False)) (F0 m 4 ls [])) ?_ ?_ ls (lv_sub hl [2, 3, 1, 0] rfl)
  · intro k ls hk_1 hl ih
    have hge := above_ge row n cu pl k
    obtain ⟨ka, hka, hck⟩ := hco k hk_1
    generalize iter (mGuS row n cu pl) k 0 (nI 0) = a at *
    have hl : lv_has ls 4 [(0, .ref sa), (1, .int (nI pl)), (2, .int a), (3, .int (nI k))] := hl
    show W p l e (rmR 6 240) s m ([.ref sa, .int (nI pl)]).toArray below meth c s.heap [] 0 0 (MQ below (QRet (some (.int (mAbove row n cu q2 pl)))) ([.ref sa, .int (nI pl)]).toArray s 0 0 (fun _ => False)) (F0 m 4 ls [])
    rcases hck with ⟨j, hj, hrj, hmem⟩ | ⟨_, kn, nums, rfl | rfl, hrj, hnum, hmem⟩
    · have hPk : va_P D vwCl (kR ka j ++ lW dA la lp lx ld lr row n cu) s.heap := vP_app.mpr ⟨vP_sub hF hmem, hP.sub [1, 2, 3, 4, 5] rfl⟩
      refine lv_iload_n hx hb dX1_guessAbove_4 rfl (lv_at hl 3 rfl) ?_
      refine lv_aload_n hx hb dX1_guessAbove_5 rfl (lv_at hl 0 rfl) ?_
      refine va_get (D := D) (ci := 1) (C := RX1) (T := TX1) (N := 4) hx hb hts in_X1 hown K hP 0 rfl rfl 1 (by decide) (hts _ q173) (fun _ h9 => h9) rfl dX1_guessAbove_6 ?_
      refine x_ret5 (va_runF ((K.1 4 _ rfl).2) (As := []) (rest := [.int (nI k)]) S (xl_size l D dA E ad sz0 mi lq md (.ref d2) q2) (va_cwF 0 hts (lw_F (x := ⟨"java/util/List", "size", "()I"⟩) (y := yJ2_size) q492 q351 q353 q64 q355) rfl rfl rfl (fwk_0 G.1.2.2.1) (by decide +kernel) ⟨Nat.le_of_ble_eq_true rfl, Nat.le_of_ble_eq_true rfl⟩) ⟨bb_blind g1_bl _, va_recv K hP (ci := 4) (q0 := 6) rfl rfl, bb_pre (g1_mv G (fun _ _ => rfl) (Nat.le_refl _)) (hP.sub [6] rfl) _⟩ rfl rfl hl.1 rfl (lv_room (Nat.le_of_ble_eq_true rfl)) dX1_guessAbove_9 ⟨Nat.le_refl _, Nat.le_refl _⟩) ?_
      refine lv_icmp_ge (tgt := 68) hx hb dX1_guessAbove_14 (by decide) (fun h => absurd h (nI_ge hk_1 (by omega))) (fun _ => ?_)
      refine lv_aload_n hx hb dX1_guessAbove_17 rfl (lv_at hl 0 rfl) ?_
      refine va_get (D := D) (ci := 1) (C := RX1) (T := TX1) (N := 4) hx hb hts in_X1 hown K hP 0 rfl rfl 1 (by decide) (hts _ q173) (fun _ h9 => h9) rfl dX1_guessAbove_18 ?_
      refine lv_iload_n hx hb dX1_guessAbove_21 rfl (lv_at hl 3 rfl) ?_
      refine x_ret5 (va_runF ((K.1 4 _ rfl).2) (As := [.int (nI k)]) (rest := []) S (xl_get l D dA E ad sz0 mi lq md d2 q2 p2 f2 (by omega) k ka (by omega) hq.1 hka) (va_cwF 1 hts (lw_F (x := ⟨"java/util/List", "get", "(I)Ljava/lang/Object;"⟩) (y := yJ2_get) q494 q497 q499 q64 q501) rfl rfl rfl (fwk_3 G.1.2.2.1) (by decide +kernel) ⟨Nat.le_of_ble_eq_true rfl, Nat.le_of_ble_eq_true rfl⟩) ⟨bb_blind g1_bl _, va_recv K hP (ci := 4) (q0 := 6) rfl rfl, bb_pre (g1_mv G (fun _ _ => rfl) (Nat.le_refl _)) (hP.sub [6, 7] rfl) _⟩ rfl rfl hl.1 rfl (lv_room (Nat.le_of_ble_eq_true rfl)) dX1_guessAbove_22 ⟨Nat.le_refl _, Nat.le_refl _⟩) ?_
      refine va_castY hx hb hown (hts _ q506) (G.1.2.1 _ q1382 rfl) (va_recv K hPk (ci := 6) (q0 := 0) rfl rfl) dX1_guessAbove_27 ?_
      refine x_ret (va_runU (As := []) (rest := []) S (xk_isRay_R l D dA E ad sz0 la lp lx ld lr row hn hcu ka j hj ) (va_cwU 0 hts (lw_U (x := ⟨"SiteCuts$Cut", "isRay", "()Z"⟩) (owner := "SiteCuts$Cut") q507 q509 q511 q508 q79 q513) rfl rfl rfl rfl (by decide +kernel) ⟨Nat.le_of_ble_eq_true rfl, Nat.le_of_ble_eq_true rfl⟩) ⟨bb_blind g0_bl _, va_recv K hPk (ci := 6) (q0 := 0) rfl rfl, bb_pre (g0_mv G.1 (fun _ _ => rfl) (Nat.le_refl _)) hPk _⟩ rfl rfl hl.1 rfl (lv_room (Nat.le_of_ble_eq_true rfl)) dX1_guessAbove_30 ⟨Nat.le_refl _, Nat.le_refl _⟩) ?_
      refine x_ifb_ne (tgt := 62) hx hb dX1_guessAbove_33 (by decide) (fun _ => ?_) (fun h => by cases h)
      refine lv_iinc (v := nI (k + 1)) (lv' := [(3, .int (nI (k + 1))), (0, .ref sa), (1, .int (nI pl)), (2, .int a)]) hx hb dX1_guessAbove_62 hl (k := 3) rfl (nI_1 k) (by decide) rfl (fun ls hl => ?_)
      refine lv_goto (tgt := 4) hx hb dX1_guessAbove_65 (by decide) ?_
      refine ih ls ?_
      show lv_has ls 4 [(0, .ref sa), (1, .int (nI pl)), (2, .int ((mGuS row n cu pl) k a)), (3, .int (nI (k + 1)))]
      rw [show (mGuS row n cu pl) k a = a from (guS_ray hrj hj hge)]
      exact lv_sub hl [1, 2, 3, 0] rfl
    · have hPk : va_P D vwCl (kP dA 5 ka kn nums ++ lW dA la lp lx ld lr row n cu) s.heap := vP_app.mpr ⟨vP_sub hF hmem, hP.sub [1, 2, 3, 4, 5] rfl⟩
      refine lv_iload_n hx hb dX1_guessAbove_4 rfl (lv_at hl 3 rfl) ?_
      refine lv_aload_n hx hb dX1_guessAbove_5 rfl (lv_at hl 0 rfl) ?_
      refine va_get (D := D) (ci := 1) (C := RX1) (T := TX1) (N := 4) hx hb hts in_X1 hown K hP 0 rfl rfl 1 (by decide) (hts _ q173) (fun _ h9 => h9) rfl dX1_guessAbove_6 ?_
      refine x_ret5 (va_runF ((K.1 4 _ rfl).2) (As := []) (rest := [.int (nI k)]) S (xl_size l D dA E ad sz0 mi lq md (.ref d2) q2) (va_cwF 0 hts (lw_F (x := ⟨"java/util/List", "size", "()I"⟩) (y := yJ2_size) q492 q351 q353 q64 q355) rfl rfl rfl (fwk_0 G.1.2.2.1) (by decide +kernel) ⟨Nat.le_of_ble_eq_true rfl, Nat.le_of_ble_eq_true rfl⟩) ⟨bb_blind g1_bl _, va_recv K hP (ci := 4) (q0 := 6) rfl rfl, bb_pre (g1_mv G (fun _ _ => rfl) (Nat.le_refl _)) (hP.sub [6] rfl) _⟩ rfl rfl hl.1 rfl (lv_room (Nat.le_of_ble_eq_true rfl)) dX1_guessAbove_9 ⟨Nat.le_refl _, Nat.le_refl _⟩) ?_
      refine lv_icmp_ge (tgt := 68) hx hb dX1_guessAbove_14 (by decide) (fun h => absurd h (nI_ge hk_1 (by omega))) (fun _ => ?_)
      refine lv_aload_n hx hb dX1_guessAbove_17 rfl (lv_at hl 0 rfl) ?_
      refine va_get (D := D) (ci := 1) (C := RX1) (T := TX1) (N := 4) hx hb hts in_X1 hown K hP 0 rfl rfl 1 (by decide) (hts _ q173) (fun _ h9 => h9) rfl dX1_guessAbove_18 ?_
      refine lv_iload_n hx hb dX1_guessAbove_21 rfl (lv_at hl 3 rfl) ?_
      refine x_ret5 (va_runF ((K.1 4 _ rfl).2) (As := [.int (nI k)]) (rest := []) S (xl_get l D dA E ad sz0 mi lq md d2 q2 p2 f2 (by omega) k ka (by omega) hq.1 hka) (va_cwF 1 hts (lw_F (x := ⟨"java/util/List", "get", "(I)Ljava/lang/Object;"⟩) (y := yJ2_get) q494 q497 q499 q64 q501) rfl rfl rfl (fwk_3 G.1.2.2.1) (by decide +kernel) ⟨Nat.le_of_ble_eq_true rfl, Nat.le_of_ble_eq_true rfl⟩) ⟨bb_blind g1_bl _, va_recv K hP (ci := 4) (q0 := 6) rfl rfl, bb_pre (g1_mv G (fun _ _ => rfl) (Nat.le_refl _)) (hP.sub [6, 7] rfl) _⟩ rfl rfl hl.1 rfl (lv_room (Nat.le_of_ble_eq_true rfl)) dX1_guessAbove_22 ⟨Nat.le_refl _, Nat.le_refl _⟩) ?_
      refine va_castY hx hb hown (hts _ q506) (G.1.2.1 _ q1381 rfl) (va_recv K hPk (ci := 5) (q0 := 0) rfl rfl) dX1_guessAbove_27 ?_
      refine x_ret (va_runU (As := []) (rest := []) S (xk_isRay_P l D dA E ad sz0 la lp lx ld lr row hn hcu ka kn nums k hnum ) (va_cwU 0 hts (lw_U (x := ⟨"SiteCuts$Cut", "isRay", "()Z"⟩) (owner := "SiteCuts$Cut") q507 q509 q510 q508 q79 q513) rfl rfl rfl rfl (by decide +kernel) ⟨Nat.le_of_ble_eq_true rfl, Nat.le_of_ble_eq_true rfl⟩) ⟨bb_blind g0_bl _, va_recv K hPk (ci := 5) (q0 := 0) rfl rfl, bb_pre (g0_mv G.1 (fun _ _ => rfl) (Nat.le_refl _)) hPk _⟩ rfl rfl hl.1 rfl (lv_room (Nat.le_of_ble_eq_true rfl)) dX1_guessAbove_30 ⟨Nat.le_refl _, Nat.le_refl _⟩) ?_
      refine x_ifb_ne (tgt := 62) hx hb dX1_guessAbove_33 (by decide) (fun h => by cases h) (fun _ => ?_)
      refine lv_iload_n hx hb dX1_guessAbove_36 rfl (lv_at hl 2 rfl) ?_
      refine lv_aload_n hx hb dX1_guessAbove_37 rfl (lv_at hl 0 rfl) ?_
      refine va_get (D := D) (ci := 1) (C := RX1) (T := TX1) (N := 4) hx hb hts in_X1 hown K hP 0 rfl rfl 1 (by decide) (hts _ q173) (fun _ h9 => h9) rfl dX1_guessAbove_38 ?_
      refine lv_iload_n hx hb dX1_guessAbove_41 rfl (lv_at hl 3 rfl) ?_
      refine x_ret5 (va_runF ((K.1 4 _ rfl).2) (As := [.int (nI k)]) (rest := [.int a]) S (xl_get l D dA E ad sz0 mi lq md d2 q2 p2 f2 (by omega) k ka (by omega) hq.1 hka) (va_cwF 1 hts (lw_F (x := ⟨"java/util/List", "get", "(I)Ljava/lang/Object;"⟩) (y := yJ2_get) q494 q497 q499 q64 q501) rfl rfl rfl (fwk_3 G.1.2.2.1) (by decide +kernel) ⟨Nat.le_of_ble_eq_true rfl, Nat.le_of_ble_eq_true rfl⟩) ⟨bb_blind g1_bl _, va_recv K hP (ci := 4) (q0 := 6) rfl rfl, bb_pre (g1_mv G (fun _ _ => rfl) (Nat.le_refl _)) (hP.sub [6, 7] rfl) _⟩ rfl rfl hl.1 rfl (lv_room (Nat.le_of_ble_eq_true rfl)) dX1_guessAbove_42 ⟨Nat.le_refl _, Nat.le_refl _⟩) ?_
      refine va_castY hx hb hown (hts _ q506) (G.1.2.1 _ q1381 rfl) (va_recv K hPk (ci := 5) (q0 := 0) rfl rfl) dX1_guessAbove_47 ?_
      refine lv_aload_n hx hb dX1_guessAbove_50 rfl (lv_at hl 0 rfl) ?_
      refine va_get (D := D) (ci := 1) (C := RX1) (T := TX1) (N := 4) hx hb hts in_X1 hown K hP 0 rfl rfl 0 (by decide) (hts _ q171) (fun _ h9 => h9) rfl dX1_guessAbove_51 ?_
      refine lv_iload_n hx hb dX1_guessAbove_54 rfl (lv_at hl 1 rfl) ?_
      refine x_ret (va_runU (As := [.ref la, .int (nI pl)]) (rest := [.int a]) S (xk_value_P l D dA E ad sz0 la lp lx ld lr row hn hcu ka kn nums k hnum pl (by omega)) (va_cwO 2 hts (lw_O (x := ⟨"SiteCuts$Cut", "value", "(LSiteCuts$Land;I)I"⟩) (owner := "SiteCuts$Cut") q583 q1363 q557 q1368 q521 q80 q554) rfl rfl rfl q558 (by decide +kernel) ⟨Nat.le_of_ble_eq_true rfl, Nat.le_of_ble_eq_true rfl⟩) ⟨bb_blind g0_bl _, va_recv K hPk (ci := 5) (q0 := 0) rfl rfl, bb_pre (g0_mv G.1 (fun _ _ => rfl) (Nat.le_refl _)) hPk _⟩ rfl rfl hl.1 rfl (lv_room (Nat.le_of_ble_eq_true rfl)) dX1_guessAbove_55 ⟨Nat.le_refl _, Nat.le_refl _⟩) ?_
      refine va_mmax hx hb (hml.trans hl.1.symm) hown (hts _ q584) (hts _ q321) (hts _ q72) (hts _ q322) (Nat.le_of_ble_eq_true rfl) (Nat.le_of_ble_eq_true rfl) (Nat.le_refl _) (Nat.le_refl _) dX1_guessAbove_58 ?_
      refine x_top (y := xMax a (mValue row n cu k pl)) rfl ?_
      refine lv_istore_n (lv' := [(2, .int (xMax a (mValue row n cu k pl))), (0, .ref sa), (1, .int (nI pl)), (3, .int (nI k))]) hx hb dX1_guessAbove_61 rfl hl (by decide) rfl (fun ls hl => ?_)
      refine lv_iinc (v := nI (k + 1)) (lv' := [(3, .int (nI (k + 1))), (2, .int (xMax a (mValue row n cu k pl))), (0, .ref sa), (1, .int (nI pl))]) hx hb dX1_guessAbove_62 hl (k := 3) rfl (nI_1 k) (by decide) rfl (fun ls hl => ?_)
      refine lv_goto (tgt := 4) hx hb dX1_guessAbove_65 (by decide) ?_
      refine ih ls ?_
      show lv_has ls 4 [(0, .ref sa), (1, .int (nI pl)), (2, .int ((mGuS row n cu pl) k a)), (3, .int (nI (k + 1)))]
      rw [show (mGuS row n cu pl) k a = xMax a (mValue row n cu k pl) from (guS_val hrj)]
      exact lv_sub hl [2, 3, 1, 0] rfl
    · have hPk : va_P D vwCl (kP dA 9 ka kn nums ++ lW dA la lp lx ld lr row n cu) s.heap := vP_app.mpr ⟨vP_sub hF hmem, hP.sub [1, 2, 3, 4, 5] rfl⟩
      refine lv_iload_n hx hb dX1_guessAbove_4 rfl (lv_at hl 3 rfl) ?_
      refine lv_aload_n hx hb dX1_guessAbove_5 rfl (lv_at hl 0 rfl) ?_
      refine va_get (D := D) (ci := 1) (C := RX1) (T := TX1) (N := 4) hx hb hts in_X1 hown K hP 0 rfl rfl 1 (by decide) (hts _ q173) (fun _ h9 => h9) rfl dX1_guessAbove_6 ?_
      refine x_ret5 (va_runF ((K.1 4 _ rfl).2) (As := []) (rest := [.int (nI k)]) S (xl_size l D dA E ad sz0 mi lq md (.ref d2) q2) (va_cwF 0 hts (lw_F (x := ⟨"java/util/List", "size", "()I"⟩) (y := yJ2_size) q492 q351 q353 q64 q355) rfl rfl rfl (fwk_0 G.1.2.2.1) (by decide +kernel) ⟨Nat.le_of_ble_eq_true rfl, Nat.le_of_ble_eq_true rfl⟩) ⟨bb_blind g1_bl _, va_recv K hP (ci := 4) (q0 := 6) rfl rfl, bb_pre (g1_mv G (fun _ _ => rfl) (Nat.le_refl _)) (hP.sub [6] rfl) _⟩ rfl rfl hl.1 rfl (lv_room (Nat.le_of_ble_eq_true rfl)) dX1_guessAbove_9 ⟨Nat.le_refl _, Nat.le_refl _⟩) ?_
      refine lv_icmp_ge (tgt := 68) hx hb dX1_guessAbove_14 (by decide) (fun h => absurd h (nI_ge hk_1 (by omega))) (fun _ => ?_)
      refine lv_aload_n hx hb dX1_guessAbove_17 rfl (lv_at hl 0 rfl) ?_
      refine va_get (D := D) (ci := 1) (C := RX1) (T := TX1) (N := 4) hx hb hts in_X1 hown K hP 0 rfl rfl 1 (by decide) (hts _ q173) (fun _ h9 => h9) rfl dX1_guessAbove_18 ?_
      refine lv_iload_n hx hb dX1_guessAbove_21 rfl (lv_at hl 3 rfl) ?_
      refine x_ret5 (va_runF ((K.1 4 _ rfl).2) (As := [.int (nI k)]) (rest := []) S (xl_get l D dA E ad sz0 mi lq md d2 q2 p2 f2 (by omega) k ka (by omega) hq.1 hka) (va_cwF 1 hts (lw_F (x := ⟨"java/util/List", "get", "(I)Ljava/lang/Object;"⟩) (y := yJ2_get) q494 q497 q499 q64 q501) rfl rfl rfl (fwk_3 G.1.2.2.1) (by decide +kernel) ⟨Nat.le_of_ble_eq_true rfl, Nat.le_of_ble_eq_true rfl⟩) ⟨bb_blind g1_bl _, va_recv K hP (ci := 4) (q0 := 6) rfl rfl, bb_pre (g1_mv G (fun _ _ => rfl) (Nat.le_refl _)) (hP.sub [6, 7] rfl) _⟩ rfl rfl hl.1 rfl (lv_room (Nat.le_of_ble_eq_true rfl)) dX1_guessAbove_22 ⟨Nat.le_refl _, Nat.le_refl _⟩) ?_
      refine va_castY hx hb hown (hts _ q506) (G.1.2.1 _ q1383 rfl) (va_recv K hPk (ci := 9) (q0 := 0) rfl rfl) dX1_guessAbove_27 ?_
      refine x_ret (va_runU (As := []) (rest := []) S (xk_isRay_T l D dA E ad sz0 la lp lx ld lr row hn hcu ka kn nums k hnum ) (va_cwU 0 hts (lw_U (x := ⟨"SiteCuts$Cut", "isRay", "()Z"⟩) (owner := "SiteCuts$Cut") q507 q509 q512 q508 q79 q513) rfl rfl rfl rfl (by decide +kernel) ⟨Nat.le_of_ble_eq_true rfl, Nat.le_of_ble_eq_true rfl⟩) ⟨bb_blind g0_bl _, va_recv K hPk (ci := 9) (q0 := 0) rfl rfl, bb_pre (g0_mv G.1 (fun _ _ => rfl) (Nat.le_refl _)) hPk _⟩ rfl rfl hl.1 rfl (lv_room (Nat.le_of_ble_eq_true rfl)) dX1_guessAbove_30 ⟨Nat.le_refl _, Nat.le_refl _⟩) ?_
      refine x_ifb_ne (tgt := 62) hx hb dX1_guessAbove_33 (by decide) (fun h => by cases h) (fun _ => ?_)
      refine lv_iload_n hx hb dX1_guessAbove_36 rfl (lv_at hl 2 rfl) ?_
      refine lv_aload_n hx hb dX1_guessAbove_37 rfl (lv_at hl 0 rfl) ?_
      refine va_get (D := D) (ci := 1) (C := RX1) (T := TX1) (N := 4) hx hb hts in_X1 hown K hP 0 rfl rfl 1 (by decide) (hts _ q173) (fun _ h9 => h9) rfl dX1_guessAbove_38 ?_
      refine lv_iload_n hx hb dX1_guessAbove_41 rfl (lv_at hl 3 rfl) ?_
      refine x_ret5 (va_runF ((K.1 4 _ rfl).2) (As := [.int (nI k)]) (rest := [.int a]) S (xl_get l D dA E ad sz0 mi lq md d2 q2 p2 f2 (by omega) k ka (by omega) hq.1 hka) (va_cwF 1 hts (lw_F (x := ⟨"java/util/List", "get", "(I)Ljava/lang/Object;"⟩) (y := yJ2_get) q494 q497 q499 q64 q501) rfl rfl rfl (fwk_3 G.1.2.2.1) (by decide +kernel) ⟨Nat.le_of_ble_eq_true rfl, Nat.le_of_ble_eq_true rfl⟩) ⟨bb_blind g1_bl _, va_recv K hP (ci := 4) (q0 := 6) rfl rfl, bb_pre (g1_mv G (fun _ _ => rfl) (Nat.le_refl _)) (hP.sub [6, 7] rfl) _⟩ rfl rfl hl.1 rfl (lv_room (Nat.le_of_ble_eq_true rfl)) dX1_guessAbove_42 ⟨Nat.le_refl _, Nat.le_refl _⟩) ?_
      refine va_castY hx hb hown (hts _ q506) (G.1.2.1 _ q1383 rfl) (va_recv K hPk (ci := 9) (q0 := 0) rfl rfl) dX1_guessAbove_47 ?_
      refine lv_aload_n hx hb dX1_guessAbove_50 rfl (lv_at hl 0 rfl) ?_
      refine va_get (D := D) (ci := 1) (C := RX1) (T := TX1) (N := 4) hx hb hts in_X1 hown K hP 0 rfl rfl 0 (by decide) (hts _ q171) (fun _ h9 => h9) rfl dX1_guessAbove_51 ?_
      refine lv_iload_n hx hb dX1_guessAbove_54 rfl (lv_at hl 1 rfl) ?_
      refine x_ret (va_runU (As := [.ref la, .int (nI pl)]) (rest := [.int a]) S (xk_value_T l D dA E ad sz0 la lp lx ld lr row hn hcu ka kn nums k hnum pl (by omega)) (va_cwO 2 hts (lw_O (x := ⟨"SiteCuts$Cut", "value", "(LSiteCuts$Land;I)I"⟩) (owner := "SiteCuts$Cut") q583 q1363 q557 q1370 q525 q86 q526) rfl rfl rfl q558 (by decide +kernel) ⟨Nat.le_of_ble_eq_true rfl, Nat.le_of_ble_eq_true rfl⟩) ⟨bb_blind g0_bl _, va_recv K hPk (ci := 9) (q0 := 0) rfl rfl, bb_pre (g0_mv G.1 (fun _ _ => rfl) (Nat.le_refl _)) hPk _⟩ rfl rfl hl.1 rfl (lv_room (Nat.le_of_ble_eq_true rfl)) dX1_guessAbove_55 ⟨Nat.le_refl _, Nat.le_refl _⟩) ?_
      refine va_mmax hx hb (hml.trans hl.1.symm) hown (hts _ q584) (hts _ q321) (hts _ q72) (hts _ q322) (Nat.le_of_ble_eq_true rfl) (Nat.le_of_ble_eq_true rfl) (Nat.le_refl _) (Nat.le_refl _) dX1_guessAbove_58 ?_
      refine x_top (y := xMax a (mValue row n cu k pl)) rfl ?_
      refine lv_istore_n (lv' := [(2, .int (xMax a (mValue row n cu k pl))), (0, .ref sa), (1, .int (nI pl)), (3, .int (nI k))]) hx hb dX1_guessAbove_61 rfl hl (by decide) rfl (fun ls hl => ?_)
      refine lv_iinc (v := nI (k + 1)) (lv' := [(3, .int (nI (k + 1))), (2, .int (xMax a (mValue row n cu k pl))), (0, .ref sa), (1, .int (nI pl))]) hx hb dX1_guessAbove_62 hl (k := 3) rfl (nI_1 k) (by decide) rfl (fun ls hl => ?_)
      refine lv_goto (tgt := 4) hx hb dX1_guessAbove_65 (by decide) ?_
      refine ih ls ?_
      show lv_has ls 4 [(0, .ref sa), (1, .int (nI pl)), (2, .int ((mGuS row n cu pl) k a)), (3, .int (nI (k + 1)))]
      rw [show (mGuS row n cu pl) k a = xMax a (mValue row n cu k pl) from (guS_val hrj)]
      exact lv_sub hl [2, 3, 1, 0] rfl
  · intro ls hl
    have hl : lv_has ls 4 [(0, .ref sa), (1, .int (nI pl)), (2, .int (mAbove row n cu q2 pl)), (3, .int (nI q2))] := hl
    show W p l e (rmR 6 240) s m ([.ref sa, .int (nI pl)]).toArray below meth c s.heap [] 0 0 (MQ below (QRet (some (.int (mAbove row n cu q2 pl)))) ([.ref sa, .int (nI pl)]).toArray s 0 0 (fun _ => False)) (F0 m 4 ls [])
    refine lv_iload_n hx hb dX1_guessAbove_4 rfl (lv_at hl 3 rfl) ?_
    refine lv_aload_n hx hb dX1_guessAbove_5 rfl (lv_at hl 0 rfl) ?_
    refine va_get (D := D) (ci := 1) (C := RX1) (T := TX1) (N := 4) hx hb hts in_X1 hown K hP 0 rfl rfl 1 (by decide) (hts _ q173) (fun _ h9 => h9) rfl dX1_guessAbove_6 ?_
    refine x_ret5 (va_runF ((K.1 4 _ rfl).2) (As := []) (rest := [.int (nI q2)]) S (xl_size l D dA E ad sz0 mi lq md (.ref d2) q2) (va_cwF 0 hts (lw_F (x := ⟨"java/util/List", "size", "()I"⟩) (y := yJ2_size) q492 q351 q353 q64 q355) rfl rfl rfl (fwk_0 G.1.2.2.1) (by decide +kernel) ⟨Nat.le_of_ble_eq_true rfl, Nat.le_of_ble_eq_true rfl⟩) ⟨bb_blind g1_bl _, va_recv K hP (ci := 4) (q0 := 6) rfl rfl, bb_pre (g1_mv G (fun _ _ => rfl) (Nat.le_refl _)) (hP.sub [6] rfl) _⟩ rfl rfl hl.1 rfl (lv_room (Nat.le_of_ble_eq_true rfl)) dX1_guessAbove_9 ⟨Nat.le_refl _, Nat.le_refl _⟩) ?_
    refine lv_icmp_ge (tgt := 68) hx hb dX1_guessAbove_14 (by decide) (fun _ => ?_) (fun h => absurd (nI_le (by omega) (by omega)) h)
    refine lv_iload_n hx hb dX1_guessAbove_68 rfl (lv_at hl 2 rfl) ?_
    exact x_iret hx hb hrt hlk rfl dX1_guessAbove_69

set_option maxHeartbeats 4000000 in
theorem xs_broken (l : Launch) (D : va_G) (dA : Nat → ClassId) (E : Nat) (ad : Nat → Nat) (sz0 mi : Nat) (sa la lp lx ld lr lq : Nat) (row : Nat → Int32) {n cu : Nat} (hn : n ≤ 7) (hcu : cu ≤ 8) (bs sp md : Int32) (d2 q2 p2 : Nat) (f2 : Nat → Option Nat) (FZ : va_W) (hq : q2 ≤ p2 ∧ p2 ≤ 64) (hco : CutsOk dA FZ row cu q2 f2) (pl : Nat) (hp : pl < 128) : RO l yX1_broken cX1_broken 4 (some .int) 6 240 [.ref sa, .int (nI pl)] (G1 D dA E ad sz0 mi) (fun H => va_P D vwCl (stR dA sa la lp lx ld lr lq row n cu bs sp md d2 q2 p2 f2) H ∧ va_P D vwCl FZ H) (some (.int (nI (mRaysM row n q2 pl)))) := by
  refine ro_of (by decide) (Nat.le_of_ble_eq_true rfl) ?_
  intro p e s m below meth c S hrt hlk G hP ls hl
  obtain ⟨hx, hb, hml, hown, hts⟩ := id S
  obtain ⟨hP, hF⟩ := hP
  have hP : va_P D vwCl [(sa, .inr (1, [.ref la, .ref lq, .int bs, .int sp])), (la, .inr (2, [.ref lp, .ref lx, .ref ld, .ref lr, .int (nI n), .int (nI cu), .int (row 2)])), (lp, .inl (dA 0, 7, .inl (fun k => row (6 + k)))), (lx, .inl (dA 0, 7, .inl (fun k => row (77 + k)))), (ld, .inl (dA 0, 8, .inl (fun k => row (13 + k)))), (lr, .inl (dA 0, 56, .inl (fun k => row (21 + k)))), (lq, .inr (4, [.int md, .ref d2, .int (nI q2)])), (d2, .inl (dA 1, p2, .inr (.inr (.inr (.inr f2)))))] s.heap := hP
  have K := G.1.1
  have hl : lv_has ls 4 [(0, .ref sa), (1, .int (nI pl))] := hl
  refine lv_iconst (v := nI 0) hx hb dX1_broken_0 (by decide) ?_
  refine lv_istore_n (lv' := [(2, .int (nI 0)), (0, .ref sa), (1, .int (nI pl))]) hx hb dX1_broken_1 rfl hl (by decide) rfl (fun ls hl => ?_)
  refine lv_iconst (v := nI 0) hx hb dX1_broken_2 (by decide) ?_
  refine lv_istore_n (lv' := [(3, .int (nI 0)), (2, .int (nI 0)), (0, .ref sa), (1, .int (nI pl))]) hx hb dX1_broken_3 rfl hl (by decide) rfl (fun ls hl => ?_)
  refine lpI (mRmS row n pl) 0 q2 (fun k a ls => lv_has ls 4 [(0, .ref sa), (1, .int (nI pl)), (2, .int (nI a)), (3, .int (nI k))]) (fun ls => W p l e (rmR 6 240) s m ([.ref sa, .int (nI pl)]).toArray below meth c s.heap [] 0 0 (MQ below (QRet (some (.int (nI (mRaysM row n q2 pl))))) ([.ref sa, .int (nI pl)]).toArray s 0 0 (fun _ => False)) (F0 m 4 ls [])) ?_ ?_ ls (lv_sub hl [2, 3, 1, 0] rfl)
  · intro k ls hk_1 hl ih
    obtain ⟨ka, hka, hck⟩ := hco k hk_1
    generalize iter (mRmS row n pl) k 0 0 = a at *
    have hl : lv_has ls 4 [(0, .ref sa), (1, .int (nI pl)), (2, .int (nI a)), (3, .int (nI k))] := hl
    show W p l e (rmR 6 240) s m ([.ref sa, .int (nI pl)]).toArray below meth c s.heap [] 0 0 (MQ below (QRet (some (.int (nI (mRaysM row n q2 pl))))) ([.ref sa, .int (nI pl)]).toArray s 0 0 (fun _ => False)) (F0 m 4 ls [])
    rcases hck with ⟨j, hj, hrj, hmem⟩ | ⟨_, kn, nums, rfl | rfl, hrj, hnum, hmem⟩
    · have hPk : va_P D vwCl (kR ka j ++ lW dA la lp lx ld lr row n cu) s.heap := vP_app.mpr ⟨vP_sub hF hmem, hP.sub [1, 2, 3, 4, 5] rfl⟩
      refine lv_iload_n hx hb dX1_broken_4 rfl (lv_at hl 3 rfl) ?_
      refine lv_aload_n hx hb dX1_broken_5 rfl (lv_at hl 0 rfl) ?_
      refine va_get (D := D) (ci := 1) (C := RX1) (T := TX1) (N := 4) hx hb hts in_X1 hown K hP 0 rfl rfl 1 (by decide) (hts _ q173) (fun _ h9 => h9) rfl dX1_broken_6 ?_
      refine x_ret5 (va_runF ((K.1 4 _ rfl).2) (As := []) (rest := [.int (nI k)]) S (xl_size l D dA E ad sz0 mi lq md (.ref d2) q2) (va_cwF 0 hts (lw_F (x := ⟨"java/util/List", "size", "()I"⟩) (y := yJ2_size) q492 q351 q353 q64 q355) rfl rfl rfl (fwk_0 G.1.2.2.1) (by decide +kernel) ⟨Nat.le_of_ble_eq_true rfl, Nat.le_of_ble_eq_true rfl⟩) ⟨bb_blind g1_bl _, va_recv K hP (ci := 4) (q0 := 6) rfl rfl, bb_pre (g1_mv G (fun _ _ => rfl) (Nat.le_refl _)) (hP.sub [6] rfl) _⟩ rfl rfl hl.1 rfl (lv_room (Nat.le_of_ble_eq_true rfl)) dX1_broken_9 ⟨Nat.le_refl _, Nat.le_refl _⟩) ?_
      refine lv_icmp_ge (tgt := 74) hx hb dX1_broken_14 (by decide) (fun h => absurd h (nI_ge hk_1 (by omega))) (fun _ => ?_)
      refine lv_iload_n hx hb dX1_broken_17 rfl (lv_at hl 2 rfl) ?_
      refine lv_aload_n hx hb dX1_broken_18 rfl (lv_at hl 0 rfl) ?_
      refine va_get (D := D) (ci := 1) (C := RX1) (T := TX1) (N := 4) hx hb hts in_X1 hown K hP 0 rfl rfl 1 (by decide) (hts _ q173) (fun _ h9 => h9) rfl dX1_broken_19 ?_
      refine lv_iload_n hx hb dX1_broken_22 rfl (lv_at hl 3 rfl) ?_
      refine x_ret5 (va_runF ((K.1 4 _ rfl).2) (As := [.int (nI k)]) (rest := [.int (nI a)]) S (xl_get l D dA E ad sz0 mi lq md d2 q2 p2 f2 (by omega) k ka (by omega) hq.1 hka) (va_cwF 1 hts (lw_F (x := ⟨"java/util/List", "get", "(I)Ljava/lang/Object;"⟩) (y := yJ2_get) q494 q497 q499 q64 q501) rfl rfl rfl (fwk_3 G.1.2.2.1) (by decide +kernel) ⟨Nat.le_of_ble_eq_true rfl, Nat.le_of_ble_eq_true rfl⟩) ⟨bb_blind g1_bl _, va_recv K hP (ci := 4) (q0 := 6) rfl rfl, bb_pre (g1_mv G (fun _ _ => rfl) (Nat.le_refl _)) (hP.sub [6, 7] rfl) _⟩ rfl rfl hl.1 rfl (lv_room (Nat.le_of_ble_eq_true rfl)) dX1_broken_23 ⟨Nat.le_refl _, Nat.le_refl _⟩) ?_
      refine va_castY hx hb hown (hts _ q506) (G.1.2.1 _ q1382 rfl) (va_recv K hPk (ci := 6) (q0 := 0) rfl rfl) dX1_broken_28 ?_
      refine x_ret (va_runU (As := []) (rest := [.int (nI a)]) S (xk_isRay_R l D dA E ad sz0 la lp lx ld lr row hn hcu ka j hj ) (va_cwU 0 hts (lw_U (x := ⟨"SiteCuts$Cut", "isRay", "()Z"⟩) (owner := "SiteCuts$Cut") q507 q509 q511 q508 q79 q513) rfl rfl rfl rfl (by decide +kernel) ⟨Nat.le_of_ble_eq_true rfl, Nat.le_of_ble_eq_true rfl⟩) ⟨bb_blind g0_bl _, va_recv K hPk (ci := 6) (q0 := 0) rfl rfl, bb_pre (g0_mv G.1 (fun _ _ => rfl) (Nat.le_refl _)) hPk _⟩ rfl rfl hl.1 rfl (lv_room (Nat.le_of_ble_eq_true rfl)) dX1_broken_31 ⟨Nat.le_refl _, Nat.le_refl _⟩) ?_
      refine x_ifb_eq (tgt := 65) hx hb dX1_broken_34 (by decide) (fun h => by cases h) (fun _ => ?_)
      refine lv_aload_n hx hb dX1_broken_37 rfl (lv_at hl 0 rfl) ?_
      refine va_get (D := D) (ci := 1) (C := RX1) (T := TX1) (N := 4) hx hb hts in_X1 hown K hP 0 rfl rfl 1 (by decide) (hts _ q173) (fun _ h9 => h9) rfl dX1_broken_38 ?_
      refine lv_iload_n hx hb dX1_broken_41 rfl (lv_at hl 3 rfl) ?_
      refine x_ret5 (va_runF ((K.1 4 _ rfl).2) (As := [.int (nI k)]) (rest := [.int (nI a)]) S (xl_get l D dA E ad sz0 mi lq md d2 q2 p2 f2 (by omega) k ka (by omega) hq.1 hka) (va_cwF 1 hts (lw_F (x := ⟨"java/util/List", "get", "(I)Ljava/lang/Object;"⟩) (y := yJ2_get) q494 q497 q499 q64 q501) rfl rfl rfl (fwk_3 G.1.2.2.1) (by decide +kernel) ⟨Nat.le_of_ble_eq_true rfl, Nat.le_of_ble_eq_true rfl⟩) ⟨bb_blind g1_bl _, va_recv K hP (ci := 4) (q0 := 6) rfl rfl, bb_pre (g1_mv G (fun _ _ => rfl) (Nat.le_refl _)) (hP.sub [6, 7] rfl) _⟩ rfl rfl hl.1 rfl (lv_room (Nat.le_of_ble_eq_true rfl)) dX1_broken_42 ⟨Nat.le_refl _, Nat.le_refl _⟩) ?_
      refine va_castY hx hb hown (hts _ q506) (G.1.2.1 _ q1382 rfl) (va_recv K hPk (ci := 6) (q0 := 0) rfl rfl) dX1_broken_47 ?_
      refine lv_aload_n hx hb dX1_broken_50 rfl (lv_at hl 0 rfl) ?_
      refine va_get (D := D) (ci := 1) (C := RX1) (T := TX1) (N := 4) hx hb hts in_X1 hown K hP 0 rfl rfl 0 (by decide) (hts _ q171) (fun _ h9 => h9) rfl dX1_broken_51 ?_
      refine lv_iload_n hx hb dX1_broken_54 rfl (lv_at hl 1 rfl) ?_
      refine x_ret (va_runU (As := [.ref la, .int (nI pl)]) (rest := [.int (nI a)]) S (xk_isBroken_R l D dA E ad sz0 la lp lx ld lr row hn hcu ka j hj pl (by omega)) (va_cwU 2 hts (lw_U (x := ⟨"SiteCuts$Cut", "isBroken", "(LSiteCuts$Land;I)Z"⟩) (owner := "SiteCuts$Cut") q514 q516 q564 q515 q79 q566) rfl rfl rfl rfl (by decide +kernel) ⟨Nat.le_of_ble_eq_true rfl, Nat.le_of_ble_eq_true rfl⟩) ⟨bb_blind g0_bl _, va_recv K hPk (ci := 6) (q0 := 0) rfl rfl, bb_pre (g0_mv G.1 (fun _ _ => rfl) (Nat.le_refl _)) hPk _⟩ rfl rfl hl.1 rfl (lv_room (Nat.le_of_ble_eq_true rfl)) dX1_broken_55 ⟨Nat.le_refl _, Nat.le_refl _⟩) ?_
      refine x_ifb_eq (tgt := 65) hx hb dX1_broken_58 (by decide) (fun h_3 => ?_) (fun h_3 => ?_)
      · refine lv_iconst (v := nI 0) hx hb dX1_broken_65 (by decide) ?_
        refine x_addN hx hb dX1_broken_66 ?_
        refine lv_istore_n (lv' := [(2, .int (nI (a + 0))), (0, .ref sa), (1, .int (nI pl)), (3, .int (nI k))]) hx hb dX1_broken_67 rfl hl (by decide) rfl (fun ls hl => ?_)
        refine lv_iinc (v := nI (k + 1)) (lv' := [(3, .int (nI (k + 1))), (2, .int (nI (a + 0))), (0, .ref sa), (1, .int (nI pl))]) hx hb dX1_broken_68 hl (k := 3) rfl (nI_1 k) (by decide) rfl (fun ls hl => ?_)
        refine lv_goto (tgt := 4) hx hb dX1_broken_71 (by decide) ?_
        refine ih ls ?_
        show lv_has ls 4 [(0, .ref sa), (1, .int (nI pl)), (2, .int (nI ((mRmS row n pl) k a))), (3, .int (nI (k + 1)))]
        rw [show nI ((mRmS row n pl) k a) = nI (a + 0) from (congrArg nI (rmS_0 hn hrj hj h_3))]
        exact lv_sub hl [2, 3, 1, 0] rfl
      · refine lv_iconst (v := nI 1) hx hb dX1_broken_61 (by decide) ?_
        refine lv_goto (tgt := 66) hx hb dX1_broken_62 (by decide) ?_
        refine x_addN hx hb dX1_broken_66 ?_
        refine lv_istore_n (lv' := [(2, .int (nI (a + 1))), (0, .ref sa), (1, .int (nI pl)), (3, .int (nI k))]) hx hb dX1_broken_67 rfl hl (by decide) rfl (fun ls hl => ?_)
        refine lv_iinc (v := nI (k + 1)) (lv' := [(3, .int (nI (k + 1))), (2, .int (nI (a + 1))), (0, .ref sa), (1, .int (nI pl))]) hx hb dX1_broken_68 hl (k := 3) rfl (nI_1 k) (by decide) rfl (fun ls hl => ?_)
        refine lv_goto (tgt := 4) hx hb dX1_broken_71 (by decide) ?_
        refine ih ls ?_
        show lv_has ls 4 [(0, .ref sa), (1, .int (nI pl)), (2, .int (nI ((mRmS row n pl) k a))), (3, .int (nI (k + 1)))]
        rw [show nI ((mRmS row n pl) k a) = nI (a + 1) from (congrArg nI (rmS_1 hn hrj hj h_3))]
        exact lv_sub hl [2, 3, 1, 0] rfl
    · have hPk : va_P D vwCl (kP dA 5 ka kn nums ++ lW dA la lp lx ld lr row n cu) s.heap := vP_app.mpr ⟨vP_sub hF hmem, hP.sub [1, 2, 3, 4, 5] rfl⟩
      refine lv_iload_n hx hb dX1_broken_4 rfl (lv_at hl 3 rfl) ?_
      refine lv_aload_n hx hb dX1_broken_5 rfl (lv_at hl 0 rfl) ?_
      refine va_get (D := D) (ci := 1) (C := RX1) (T := TX1) (N := 4) hx hb hts in_X1 hown K hP 0 rfl rfl 1 (by decide) (hts _ q173) (fun _ h9 => h9) rfl dX1_broken_6 ?_
      refine x_ret5 (va_runF ((K.1 4 _ rfl).2) (As := []) (rest := [.int (nI k)]) S (xl_size l D dA E ad sz0 mi lq md (.ref d2) q2) (va_cwF 0 hts (lw_F (x := ⟨"java/util/List", "size", "()I"⟩) (y := yJ2_size) q492 q351 q353 q64 q355) rfl rfl rfl (fwk_0 G.1.2.2.1) (by decide +kernel) ⟨Nat.le_of_ble_eq_true rfl, Nat.le_of_ble_eq_true rfl⟩) ⟨bb_blind g1_bl _, va_recv K hP (ci := 4) (q0 := 6) rfl rfl, bb_pre (g1_mv G (fun _ _ => rfl) (Nat.le_refl _)) (hP.sub [6] rfl) _⟩ rfl rfl hl.1 rfl (lv_room (Nat.le_of_ble_eq_true rfl)) dX1_broken_9 ⟨Nat.le_refl _, Nat.le_refl _⟩) ?_
      refine lv_icmp_ge (tgt := 74) hx hb dX1_broken_14 (by decide) (fun h => absurd h (nI_ge hk_1 (by omega))) (fun _ => ?_)
      refine lv_iload_n hx hb dX1_broken_17 rfl (lv_at hl 2 rfl) ?_
      refine lv_aload_n hx hb dX1_broken_18 rfl (lv_at hl 0 rfl) ?_
      refine va_get (D := D) (ci := 1) (C := RX1) (T := TX1) (N := 4) hx hb hts in_X1 hown K hP 0 rfl rfl 1 (by decide) (hts _ q173) (fun _ h9 => h9) rfl dX1_broken_19 ?_
      refine lv_iload_n hx hb dX1_broken_22 rfl (lv_at hl 3 rfl) ?_
      refine x_ret5 (va_runF ((K.1 4 _ rfl).2) (As := [.int (nI k)]) (rest := [.int (nI a)]) S (xl_get l D dA E ad sz0 mi lq md d2 q2 p2 f2 (by omega) k ka (by omega) hq.1 hka) (va_cwF 1 hts (lw_F (x := ⟨"java/util/List", "get", "(I)Ljava/lang/Object;"⟩) (y := yJ2_get) q494 q497 q499 q64 q501) rfl rfl rfl (fwk_3 G.1.2.2.1) (by decide +kernel) ⟨Nat.le_of_ble_eq_true rfl, Nat.le_of_ble_eq_true rfl⟩) ⟨bb_blind g1_bl _, va_recv K hP (ci := 4) (q0 := 6) rfl rfl, bb_pre (g1_mv G (fun _ _ => rfl) (Nat.le_refl _)) (hP.sub [6, 7] rfl) _⟩ rfl rfl hl.1 rfl (lv_room (Nat.le_of_ble_eq_true rfl)) dX1_broken_23 ⟨Nat.le_refl _, Nat.le_refl _⟩) ?_
      refine va_castY hx hb hown (hts _ q506) (G.1.2.1 _ q1381 rfl) (va_recv K hPk (ci := 5) (q0 := 0) rfl rfl) dX1_broken_28 ?_
      refine x_ret (va_runU (As := []) (rest := [.int (nI a)]) S (xk_isRay_P l D dA E ad sz0 la lp lx ld lr row hn hcu ka kn nums k hnum ) (va_cwU 0 hts (lw_U (x := ⟨"SiteCuts$Cut", "isRay", "()Z"⟩) (owner := "SiteCuts$Cut") q507 q509 q510 q508 q79 q513) rfl rfl rfl rfl (by decide +kernel) ⟨Nat.le_of_ble_eq_true rfl, Nat.le_of_ble_eq_true rfl⟩) ⟨bb_blind g0_bl _, va_recv K hPk (ci := 5) (q0 := 0) rfl rfl, bb_pre (g0_mv G.1 (fun _ _ => rfl) (Nat.le_refl _)) hPk _⟩ rfl rfl hl.1 rfl (lv_room (Nat.le_of_ble_eq_true rfl)) dX1_broken_31 ⟨Nat.le_refl _, Nat.le_refl _⟩) ?_
      refine x_ifb_eq (tgt := 65) hx hb dX1_broken_34 (by decide) (fun _ => ?_) (fun h => by cases h)
      refine lv_iconst (v := nI 0) hx hb dX1_broken_65 (by decide) ?_
      refine x_addN hx hb dX1_broken_66 ?_
      refine lv_istore_n (lv' := [(2, .int (nI (a + 0))), (0, .ref sa), (1, .int (nI pl)), (3, .int (nI k))]) hx hb dX1_broken_67 rfl hl (by decide) rfl (fun ls hl => ?_)
      refine lv_iinc (v := nI (k + 1)) (lv' := [(3, .int (nI (k + 1))), (2, .int (nI (a + 0))), (0, .ref sa), (1, .int (nI pl))]) hx hb dX1_broken_68 hl (k := 3) rfl (nI_1 k) (by decide) rfl (fun ls hl => ?_)
      refine lv_goto (tgt := 4) hx hb dX1_broken_71 (by decide) ?_
      refine ih ls ?_
      show lv_has ls 4 [(0, .ref sa), (1, .int (nI pl)), (2, .int (nI ((mRmS row n pl) k a))), (3, .int (nI (k + 1)))]
      rw [show nI ((mRmS row n pl) k a) = nI (a + 0) from (congrArg nI (rmS_val hrj))]
      exact lv_sub hl [2, 3, 1, 0] rfl
    · have hPk : va_P D vwCl (kP dA 9 ka kn nums ++ lW dA la lp lx ld lr row n cu) s.heap := vP_app.mpr ⟨vP_sub hF hmem, hP.sub [1, 2, 3, 4, 5] rfl⟩
      refine lv_iload_n hx hb dX1_broken_4 rfl (lv_at hl 3 rfl) ?_
      refine lv_aload_n hx hb dX1_broken_5 rfl (lv_at hl 0 rfl) ?_
      refine va_get (D := D) (ci := 1) (C := RX1) (T := TX1) (N := 4) hx hb hts in_X1 hown K hP 0 rfl rfl 1 (by decide) (hts _ q173) (fun _ h9 => h9) rfl dX1_broken_6 ?_
      refine x_ret5 (va_runF ((K.1 4 _ rfl).2) (As := []) (rest := [.int (nI k)]) S (xl_size l D dA E ad sz0 mi lq md (.ref d2) q2) (va_cwF 0 hts (lw_F (x := ⟨"java/util/List", "size", "()I"⟩) (y := yJ2_size) q492 q351 q353 q64 q355) rfl rfl rfl (fwk_0 G.1.2.2.1) (by decide +kernel) ⟨Nat.le_of_ble_eq_true rfl, Nat.le_of_ble_eq_true rfl⟩) ⟨bb_blind g1_bl _, va_recv K hP (ci := 4) (q0 := 6) rfl rfl, bb_pre (g1_mv G (fun _ _ => rfl) (Nat.le_refl _)) (hP.sub [6] rfl) _⟩ rfl rfl hl.1 rfl (lv_room (Nat.le_of_ble_eq_true rfl)) dX1_broken_9 ⟨Nat.le_refl _, Nat.le_refl _⟩) ?_
      refine lv_icmp_ge (tgt := 74) hx hb dX1_broken_14 (by decide) (fun h => absurd h (nI_ge hk_1 (by omega))) (fun _ => ?_)
      refine lv_iload_n hx hb dX1_broken_17 rfl (lv_at hl 2 rfl) ?_
      refine lv_aload_n hx hb dX1_broken_18 rfl (lv_at hl 0 rfl) ?_
      refine va_get (D := D) (ci := 1) (C := RX1) (T := TX1) (N := 4) hx hb hts in_X1 hown K hP 0 rfl rfl 1 (by decide) (hts _ q173) (fun _ h9 => h9) rfl dX1_broken_19 ?_
      refine lv_iload_n hx hb dX1_broken_22 rfl (lv_at hl 3 rfl) ?_
      refine x_ret5 (va_runF ((K.1 4 _ rfl).2) (As := [.int (nI k)]) (rest := [.int (nI a)]) S (xl_get l D dA E ad sz0 mi lq md d2 q2 p2 f2 (by omega) k ka (by omega) hq.1 hka) (va_cwF 1 hts (lw_F (x := ⟨"java/util/List", "get", "(I)Ljava/lang/Object;"⟩) (y := yJ2_get) q494 q497 q499 q64 q501) rfl rfl rfl (fwk_3 G.1.2.2.1) (by decide +kernel) ⟨Nat.le_of_ble_eq_true rfl, Nat.le_of_ble_eq_true rfl⟩) ⟨bb_blind g1_bl _, va_recv K hP (ci := 4) (q0 := 6) rfl rfl, bb_pre (g1_mv G (fun _ _ => rfl) (Nat.le_refl _)) (hP.sub [6, 7] rfl) _⟩ rfl rfl hl.1 rfl (lv_room (Nat.le_of_ble_eq_true rfl)) dX1_broken_23 ⟨Nat.le_refl _, Nat.le_refl _⟩) ?_
      refine va_castY hx hb hown (hts _ q506) (G.1.2.1 _ q1383 rfl) (va_recv K hPk (ci := 9) (q0 := 0) rfl rfl) dX1_broken_28 ?_
      refine x_ret (va_runU (As := []) (rest := [.int (nI a)]) S (xk_isRay_T l D dA E ad sz0 la lp lx ld lr row hn hcu ka kn nums k hnum ) (va_cwU 0 hts (lw_U (x := ⟨"SiteCuts$Cut", "isRay", "()Z"⟩) (owner := "SiteCuts$Cut") q507 q509 q512 q508 q79 q513) rfl rfl rfl rfl (by decide +kernel) ⟨Nat.le_of_ble_eq_true rfl, Nat.le_of_ble_eq_true rfl⟩) ⟨bb_blind g0_bl _, va_recv K hPk (ci := 9) (q0 := 0) rfl rfl, bb_pre (g0_mv G.1 (fun _ _ => rfl) (Nat.le_refl _)) hPk _⟩ rfl rfl hl.1 rfl (lv_room (Nat.le_of_ble_eq_true rfl)) dX1_broken_31 ⟨Nat.le_refl _, Nat.le_refl _⟩) ?_
      refine x_ifb_eq (tgt := 65) hx hb dX1_broken_34 (by decide) (fun _ => ?_) (fun h => by cases h)
      refine lv_iconst (v := nI 0) hx hb dX1_broken_65 (by decide) ?_
      refine x_addN hx hb dX1_broken_66 ?_
      refine lv_istore_n (lv' := [(2, .int (nI (a + 0))), (0, .ref sa), (1, .int (nI pl)), (3, .int (nI k))]) hx hb dX1_broken_67 rfl hl (by decide) rfl (fun ls hl => ?_)
      refine lv_iinc (v := nI (k + 1)) (lv' := [(3, .int (nI (k + 1))), (2, .int (nI (a + 0))), (0, .ref sa), (1, .int (nI pl))]) hx hb dX1_broken_68 hl (k := 3) rfl (nI_1 k) (by decide) rfl (fun ls hl => ?_)
      refine lv_goto (tgt := 4) hx hb dX1_broken_71 (by decide) ?_
      refine ih ls ?_
      show lv_has ls 4 [(0, .ref sa), (1, .int (nI pl)), (2, .int (nI ((mRmS row n pl) k a))), (3, .int (nI (k + 1)))]
      rw [show nI ((mRmS row n pl) k a) = nI (a + 0) from (congrArg nI (rmS_val hrj))]
      exact lv_sub hl [2, 3, 1, 0] rfl
  · intro ls hl
    have hl : lv_has ls 4 [(0, .ref sa), (1, .int (nI pl)), (2, .int (nI (mRaysM row n q2 pl))), (3, .int (nI q2))] := hl
    show W p l e (rmR 6 240) s m ([.ref sa, .int (nI pl)]).toArray below meth c s.heap [] 0 0 (MQ below (QRet (some (.int (nI (mRaysM row n q2 pl))))) ([.ref sa, .int (nI pl)]).toArray s 0 0 (fun _ => False)) (F0 m 4 ls [])
    refine lv_iload_n hx hb dX1_broken_4 rfl (lv_at hl 3 rfl) ?_
    refine lv_aload_n hx hb dX1_broken_5 rfl (lv_at hl 0 rfl) ?_
    refine va_get (D := D) (ci := 1) (C := RX1) (T := TX1) (N := 4) hx hb hts in_X1 hown K hP 0 rfl rfl 1 (by decide) (hts _ q173) (fun _ h9 => h9) rfl dX1_broken_6 ?_
    refine x_ret5 (va_runF ((K.1 4 _ rfl).2) (As := []) (rest := [.int (nI q2)]) S (xl_size l D dA E ad sz0 mi lq md (.ref d2) q2) (va_cwF 0 hts (lw_F (x := ⟨"java/util/List", "size", "()I"⟩) (y := yJ2_size) q492 q351 q353 q64 q355) rfl rfl rfl (fwk_0 G.1.2.2.1) (by decide +kernel) ⟨Nat.le_of_ble_eq_true rfl, Nat.le_of_ble_eq_true rfl⟩) ⟨bb_blind g1_bl _, va_recv K hP (ci := 4) (q0 := 6) rfl rfl, bb_pre (g1_mv G (fun _ _ => rfl) (Nat.le_refl _)) (hP.sub [6] rfl) _⟩ rfl rfl hl.1 rfl (lv_room (Nat.le_of_ble_eq_true rfl)) dX1_broken_9 ⟨Nat.le_refl _, Nat.le_refl _⟩) ?_
    refine lv_icmp_ge (tgt := 74) hx hb dX1_broken_14 (by decide) (fun _ => ?_) (fun h => absurd (nI_le (by omega) (by omega)) h)
    refine lv_iload_n hx hb dX1_broken_74 rfl (lv_at hl 2 rfl) ?_
    exact x_iret hx hb hrt hlk rfl dX1_broken_75

