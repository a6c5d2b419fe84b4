def lMa (row : Nat → Int32) (n q pl : Nat) : Bool := if mAllowed row n pl = false then false else if mRaysM row n q pl = 0 then true else false
theorem loose_val {row : Nat → Int32} {n cu k pl : Nat} {ab : Int32} (h : row (84 + 9 * k) = -5) : mLoose row n cu k pl ab = (if ab ≤ mValue row n cu k pl then false else true) := by
  have hr : mRay row k = false := by unfold mRay; rw [h]; rfl
  unfold mLoose
  rw [if_pos hr]
theorem loose_ray {row : Nat → Int32} {n cu k pl j : Nat} {ab : Int32} (hn : n ≤ 7) (h : row (84 + 9 * k) = nI j) (hj : j < 8) : mLoose row n cu k pl ab = (if xSumR row n j pl ≤ nI 1 then false else true) := by
  have hr : ¬ mRay row k = false := by unfold mRay; rw [h, if_neg (nI_pos (by omega))]; decide
  unfold mLoose
  rw [if_neg hr, asked_ray hn h hj]

set_option maxHeartbeats 4000000 in
theorem xs_isLoose (l : Launch) (D : va_G) (dA : Nat → ClassId) (E : Nat) (ad : Nat → Nat) (sz0 mi : Nat) (sa la lp lx ld lr lq : Nat) (row : Nat → Int32) {n cu : Nat} (hn : n ≤ 7) (hcu : cu ≤ 8) (bs sp md : Int32) (d2 q2 p2 : Nat) (f2 : Nat → Option Nat) (FZ : va_W) (hq : q2 ≤ p2 ∧ p2 ≤ 64) (hco : CutsOk dA FZ row cu q2 f2) (k ka pl : Nat) (hp : pl < 128) (hck : CutOk dA FZ row cu k ka) : RO l yX1_isLoose cX1_isLoose 3 (some .boolean) 7 280 [.ref sa, .ref ka, .int (nI pl)] (G1 D dA E ad sz0 mi) (fun H => va_P D vwCl (stR dA sa la lp lx ld lr lq row n cu bs sp md d2 q2 p2 f2) H ∧ va_P D vwCl FZ H) (some (.int (bI (mLoose row n cu k pl (mAbove row n cu q2 pl))))) := by
  refine ro_of (by decide) (Nat.le_of_ble_eq_true rfl) ?_
  intro p e s m below meth c S hrt hlk G hP ls hl
  obtain ⟨hx, hb, hml, hown, hts⟩ := id S
  obtain ⟨hP, hF⟩ := hP
  have hP : va_P D vwCl [(sa, .inr (1, [.ref la, .ref lq, .int bs, .int sp])), (la, .inr (2, [.ref lp, .ref lx, .ref ld, .ref lr, .int (nI n), .int (nI cu), .int (row 2)])), (lp, .inl (dA 0, 7, .inl (fun k => row (6 + k)))), (lx, .inl (dA 0, 7, .inl (fun k => row (77 + k)))), (ld, .inl (dA 0, 8, .inl (fun k => row (13 + k)))), (lr, .inl (dA 0, 56, .inl (fun k => row (21 + k)))), (lq, .inr (4, [.int md, .ref d2, .int (nI q2)])), (d2, .inl (dA 1, p2, .inr (.inr (.inr (.inr f2)))))] s.heap := hP
  have K := G.1.1
  have hl : lv_has ls 3 [(0, .ref sa), (1, .ref ka), (2, .int (nI pl))] := hl
  rcases hck with ⟨j, hj, hrj, hmem⟩ | ⟨_, kn, nums, rfl | rfl, hrj, hnum, hmem⟩
  · have hPk : va_P D vwCl (kR ka j ++ lW dA la lp lx ld lr row n cu) s.heap := vP_app.mpr ⟨vP_sub hF hmem, hP.sub [1, 2, 3, 4, 5] rfl⟩
    refine lv_aload_n hx hb dX1_isLoose_0 rfl (lv_at hl 1 rfl) ?_
    refine x_ret (va_runU (As := []) (rest := []) S (xk_isRay_R l D dA E ad sz0 la lp lx ld lr row hn hcu ka j hj ) (va_cwU 0 hts (lw_U (x := ⟨"SiteCuts$Cut", "isRay", "()Z"⟩) (owner := "SiteCuts$Cut") q507 q509 q511 q508 q79 q513) rfl rfl rfl rfl (by decide +kernel) ⟨Nat.le_of_ble_eq_true rfl, Nat.le_of_ble_eq_true rfl⟩) ⟨bb_blind g0_bl _, va_recv K hPk (ci := 6) (q0 := 0) rfl rfl, bb_pre (g0_mv G.1 (fun _ _ => rfl) (Nat.le_refl _)) hPk _⟩ rfl rfl hl.1 rfl (lv_room (Nat.le_of_ble_eq_true rfl)) dX1_isLoose_1 ⟨Nat.le_refl _, Nat.le_refl _⟩) ?_
    refine x_ifb_eq (tgt := 28) hx hb dX1_isLoose_4 (by decide) (fun h => by cases h) (fun _ => ?_)
    refine lv_aload_n hx hb dX1_isLoose_7 rfl (lv_at hl 1 rfl) ?_
    refine lv_aload_n hx hb dX1_isLoose_8 rfl (lv_at hl 0 rfl) ?_
    refine va_get (D := D) (ci := 1) (C := RX1) (T := TX1) (N := 4) hx hb hts in_X1 hown K hP 0 rfl rfl 0 (by decide) (hts _ q171) (fun _ h9 => h9) rfl dX1_isLoose_9 ?_
    refine lv_iload_n hx hb dX1_isLoose_12 rfl (lv_at hl 2 rfl) ?_
    refine x_ret (va_runU (As := [.ref la, .int (nI pl)]) (rest := []) S (xk_value_R l D dA E ad sz0 la lp lx ld lr row hn hcu ka j hj pl (by omega)) (va_cwU 2 hts (lw_U (x := ⟨"SiteCuts$Cut", "value", "(LSiteCuts$Land;I)I"⟩) (owner := "SiteCuts$Cut") q583 q1363 q1369 q557 q79 q558) rfl rfl rfl rfl (by decide +kernel) ⟨Nat.le_of_ble_eq_true rfl, Nat.le_of_ble_eq_true rfl⟩) ⟨bb_blind g0_bl _, va_recv K hPk (ci := 6) (q0 := 0) rfl rfl, bb_pre (g0_mv G.1 (fun _ _ => rfl) (Nat.le_refl _)) hPk _⟩ rfl rfl hl.1 rfl (lv_room (Nat.le_of_ble_eq_true rfl)) dX1_isLoose_13 ⟨Nat.le_refl _, Nat.le_refl _⟩) ?_
    refine lv_iconst (v := nI 1) hx hb dX1_isLoose_16 (by decide) ?_
    refine lv_icmp_le (tgt := 24) hx hb dX1_isLoose_17 (by decide) (fun h_1 => ?_) (fun h_1 => ?_)
    · refine lv_iconst (v := nI 0) hx hb dX1_isLoose_24 (by decide) ?_
      refine lv_goto (tgt := 50) hx hb dX1_isLoose_25 (by decide) ?_
      exact x_zret hx hb hrt hlk (by rw [(loose_ray hn hrj hj), if_pos h_1]; rfl) dX1_isLoose_50
    · refine lv_iconst (v := nI 1) hx hb dX1_isLoose_20 (by decide) ?_
      refine lv_goto (tgt := 50) hx hb dX1_isLoose_21 (by decide) ?_
      exact x_zret hx hb hrt hlk (by rw [(loose_ray hn hrj hj), if_neg h_1]; rfl) dX1_isLoose_50
  · have hPk : va_P D vwCl (kP dA 5 ka kn nums ++ lW dA la lp lx ld lr row n cu) s.heap := vP_app.mpr ⟨vP_sub hF hmem, hP.sub [1, 2, 3, 4, 5] rfl⟩
    refine lv_aload_n hx hb dX1_isLoose_0 rfl (lv_at hl 1 rfl) ?_
    refine x_ret (va_runU (As := []) (rest := []) S (xk_isRay_P l D dA E ad sz0 la lp lx ld lr row hn hcu ka kn nums k hnum ) (va_cwU 0 hts (lw_U (x := ⟨"SiteCuts$Cut", "isRay", "()Z"⟩) (owner := "SiteCuts$Cut") q507 q509 q510 q508 q79 q513) rfl rfl rfl rfl (by decide +kernel) ⟨Nat.le_of_ble_eq_true rfl, Nat.le_of_ble_eq_true rfl⟩) ⟨bb_blind g0_bl _, va_recv K hPk (ci := 5) (q0 := 0) rfl rfl, bb_pre (g0_mv G.1 (fun _ _ => rfl) (Nat.le_refl _)) hPk _⟩ rfl rfl hl.1 rfl (lv_room (Nat.le_of_ble_eq_true rfl)) dX1_isLoose_1 ⟨Nat.le_refl _, Nat.le_refl _⟩) ?_
    refine x_ifb_eq (tgt := 28) hx hb dX1_isLoose_4 (by decide) (fun _ => ?_) (fun h => by cases h)
    refine lv_aload_n hx hb dX1_isLoose_28 rfl (lv_at hl 1 rfl) ?_
    refine lv_aload_n hx hb dX1_isLoose_29 rfl (lv_at hl 0 rfl) ?_
    refine va_get (D := D) (ci := 1) (C := RX1) (T := TX1) (N := 4) hx hb hts in_X1 hown K hP 0 rfl rfl 0 (by decide) (hts _ q171) (fun _ h9 => h9) rfl dX1_isLoose_30 ?_
    refine lv_iload_n hx hb dX1_isLoose_33 rfl (lv_at hl 2 rfl) ?_
    refine x_ret (va_runU (As := [.ref la, .int (nI pl)]) (rest := []) S (xk_value_P l D dA E ad sz0 la lp lx ld lr row hn hcu ka kn nums k hnum pl (by omega)) (va_cwO 2 hts (lw_O (x := ⟨"SiteCuts$Cut", "value", "(LSiteCuts$Land;I)I"⟩) (owner := "SiteCuts$Cut") q583 q1363 q557 q1368 q521 q80 q554) rfl rfl rfl q558 (by decide +kernel) ⟨Nat.le_of_ble_eq_true rfl, Nat.le_of_ble_eq_true rfl⟩) ⟨bb_blind g0_bl _, va_recv K hPk (ci := 5) (q0 := 0) rfl rfl, bb_pre (g0_mv G.1 (fun _ _ => rfl) (Nat.le_refl _)) hPk _⟩ rfl rfl hl.1 rfl (lv_room (Nat.le_of_ble_eq_true rfl)) dX1_isLoose_34 ⟨Nat.le_refl _, Nat.le_refl _⟩) ?_
    refine lv_aload_n hx hb dX1_isLoose_37 rfl (lv_at hl 0 rfl) ?_
    refine lv_iload_n hx hb dX1_isLoose_38 rfl (lv_at hl 2 rfl) ?_
    refine x_ret (va_runV (As := [.int (nI pl)]) (rest := [.int (mValue row n cu k pl)]) S (xs_above l D dA E ad sz0 mi sa la lp lx ld lr lq row hn hcu bs sp md d2 q2 p2 f2 FZ hq hco pl (by omega)) (cwV 1 hts (lw_V q579 q580 q581 q60 q582) rfl rfl rfl hdX1_guessAbove ⟨Nat.le_of_ble_eq_true rfl, Nat.le_of_ble_eq_true rfl⟩) ⟨bb_blind g1_bl _, va_recv K hP (ci := 1) (q0 := 0) rfl rfl, bb_pre (g1_mv G (fun _ _ => rfl) (Nat.le_refl _)) ⟨hP, hF⟩ _⟩ rfl rfl hl.1 rfl (lv_room (Nat.le_of_ble_eq_true rfl)) dX1_isLoose_39 ⟨Nat.le_refl _, Nat.le_refl _⟩) ?_
    refine lv_icmp_ge (tgt := 49) hx hb dX1_isLoose_42 (by decide) (fun h_2 => ?_) (fun h_2 => ?_)
    · refine lv_iconst (v := nI 0) hx hb dX1_isLoose_49 (by decide) ?_
      exact x_zret hx hb hrt hlk (by rw [(loose_val hrj), if_pos h_2]; rfl) dX1_isLoose_50
    · refine lv_iconst (v := nI 1) hx hb dX1_isLoose_45 (by decide) ?_
      refine lv_goto (tgt := 50) hx hb dX1_isLoose_46 (by decide) ?_
      exact x_zret hx hb hrt hlk (by rw [(loose_val hrj), if_neg h_2]; rfl) dX1_isLoose_50
  · have hPk : va_P D vwCl (kP dA 9 ka kn nums ++ lW dA la lp lx ld lr row n cu) s.heap := vP_app.mpr ⟨vP_sub hF hmem, hP.sub [1, 2, 3, 4, 5] rfl⟩
    refine lv_aload_n hx hb dX1_isLoose_0 rfl (lv_at hl 1 rfl) ?_
    refine x_ret (va_runU (As := []) (rest := []) S (xk_isRay_T l D dA E ad sz0 la lp lx ld lr row hn hcu ka kn nums k hnum ) (va_cwU 0 hts (lw_U (x := ⟨"SiteCuts$Cut", "isRay", "()Z"⟩) (owner := "SiteCuts$Cut") q507 q509 q512 q508 q79 q513) rfl rfl rfl rfl (by decide +kernel) ⟨Nat.le_of_ble_eq_true rfl, Nat.le_of_ble_eq_true rfl⟩) ⟨bb_blind g0_bl _, va_recv K hPk (ci := 9) (q0 := 0) rfl rfl, bb_pre (g0_mv G.1 (fun _ _ => rfl) (Nat.le_refl _)) hPk _⟩ rfl rfl hl.1 rfl (lv_room (Nat.le_of_ble_eq_true rfl)) dX1_isLoose_1 ⟨Nat.le_refl _, Nat.le_refl _⟩) ?_
    refine x_ifb_eq (tgt := 28) hx hb dX1_isLoose_4 (by decide) (fun _ => ?_) (fun h => by cases h)
    refine lv_aload_n hx hb dX1_isLoose_28 rfl (lv_at hl 1 rfl) ?_
    refine lv_aload_n hx hb dX1_isLoose_29 rfl (lv_at hl 0 rfl) ?_
    refine va_get (D := D) (ci := 1) (C := RX1) (T := TX1) (N := 4) hx hb hts in_X1 hown K hP 0 rfl rfl 0 (by decide) (hts _ q171) (fun _ h9 => h9) rfl dX1_isLoose_30 ?_
    refine lv_iload_n hx hb dX1_isLoose_33 rfl (lv_at hl 2 rfl) ?_
    refine x_ret (va_runU (As := [.ref la, .int (nI pl)]) (rest := []) S (xk_value_T l D dA E ad sz0 la lp lx ld lr row hn hcu ka kn nums k hnum pl (by omega)) (va_cwO 2 hts (lw_O (x := ⟨"SiteCuts$Cut", "value", "(LSiteCuts$Land;I)I"⟩) (owner := "SiteCuts$Cut") q583 q1363 q557 q1370 q525 q86 q526) rfl rfl rfl q558 (by decide +kernel) ⟨Nat.le_of_ble_eq_true rfl, Nat.le_of_ble_eq_true rfl⟩) ⟨bb_blind g0_bl _, va_recv K hPk (ci := 9) (q0 := 0) rfl rfl, bb_pre (g0_mv G.1 (fun _ _ => rfl) (Nat.le_refl _)) hPk _⟩ rfl rfl hl.1 rfl (lv_room (Nat.le_of_ble_eq_true rfl)) dX1_isLoose_34 ⟨Nat.le_refl _, Nat.le_refl _⟩) ?_
    refine lv_aload_n hx hb dX1_isLoose_37 rfl (lv_at hl 0 rfl) ?_
    refine lv_iload_n hx hb dX1_isLoose_38 rfl (lv_at hl 2 rfl) ?_
    refine x_ret (va_runV (As := [.int (nI pl)]) (rest := [.int (mValue row n cu k pl)]) S (xs_above l D dA E ad sz0 mi sa la lp lx ld lr lq row hn hcu bs sp md d2 q2 p2 f2 FZ hq hco pl (by omega)) (cwV 1 hts (lw_V q579 q580 q581 q60 q582) rfl rfl rfl hdX1_guessAbove ⟨Nat.le_of_ble_eq_true rfl, Nat.le_of_ble_eq_true rfl⟩) ⟨bb_blind g1_bl _, va_recv K hP (ci := 1) (q0 := 0) rfl rfl, bb_pre (g1_mv G (fun _ _ => rfl) (Nat.le_refl _)) ⟨hP, hF⟩ _⟩ rfl rfl hl.1 rfl (lv_room (Nat.le_of_ble_eq_true rfl)) dX1_isLoose_39 ⟨Nat.le_refl _, Nat.le_refl _⟩) ?_
    refine lv_icmp_ge (tgt := 49) hx hb dX1_isLoose_42 (by decide) (fun h_3 => ?_) (fun h_3 => ?_)
    · refine lv_iconst (v := nI 0) hx hb dX1_isLoose_49 (by decide) ?_
      exact x_zret hx hb hrt hlk (by rw [(loose_val hrj), if_pos h_3]; rfl) dX1_isLoose_50
    · refine lv_iconst (v := nI 1) hx hb dX1_isLoose_45 (by decide) ?_
      refine lv_goto (tgt := 50) hx hb dX1_isLoose_46 (by decide) ?_
      exact x_zret hx hb hrt hlk (by rw [(loose_val hrj), if_neg h_3]; rfl) dX1_isLoose_50

set_option maxHeartbeats 4000000 in
theorem xs_upper (l : Launch) (D : va_G) (dA : Nat → ClassId) (E : Nat) (ad : Nat → Nat) (sz0 mi : Nat) (sa la lp lx ld lr lq : Nat) (row : Nat → Int32) {n cu : Nat} (hn : n ≤ 7) (hcu : cu ≤ 8) (bs sp md : Int32) (d2 q2 p2 : Nat) (f2 : Nat → Option Nat) (FZ : va_W) (hq : q2 ≤ p2 ∧ p2 ≤ 64) (hco : CutsOk dA FZ row cu q2 f2) (b4 : Nat) (hb4 : bs = nI b4) (hb128 : b4 < 128) (hsv : ∀ c, c < cu → ∃ s, mServer row n b4 c = some s) : RO l yX1_upper cX1_upper 1 (some .int) 4 160 [.ref sa] (G1 D dA E ad sz0 mi) (fun H => va_P D vwCl (stR dA sa la lp lx ld lr lq row n cu bs sp md d2 q2 p2 f2) H ∧ va_P D vwCl FZ H) (some (.int (mCost row n cu b4))) := by
  refine ro_of (by decide) (Nat.le_of_ble_eq_true rfl) ?_
  intro p e s m below meth c S hrt hlk G hP ls hl
  obtain ⟨hx, hb, hml, hown, hts⟩ := id S
  obtain ⟨hP, hF⟩ := hP
  have hP : va_P D vwCl [(sa, .inr (1, [.ref la, .ref lq, .int bs, .int sp])), (la, .inr (2, [.ref lp, .ref lx, .ref ld, .ref lr, .int (nI n), .int (nI cu), .int (row 2)])), (lp, .inl (dA 0, 7, .inl (fun k => row (6 + k)))), (lx, .inl (dA 0, 7, .inl (fun k => row (77 + k)))), (ld, .inl (dA 0, 8, .inl (fun k => row (13 + k)))), (lr, .inl (dA 0, 56, .inl (fun k => row (21 + k)))), (lq, .inr (4, [.int md, .ref d2, .int (nI q2)])), (d2, .inl (dA 1, p2, .inr (.inr (.inr (.inr f2)))))] s.heap := hP
  have K := G.1.1
  have hl : lv_has ls 1 [(0, .ref sa)] := hl
  refine lv_aload_n hx hb dX1_upper_0 rfl (lv_at hl 0 rfl) ?_
  refine va_get (D := D) (ci := 1) (C := RX1) (T := TX1) (N := 4) hx hb hts in_X1 hown K hP 0 rfl rfl 0 (by decide) (hts _ q171) (fun _ h9 => h9) rfl dX1_upper_1 ?_
  refine lv_aload_n hx hb dX1_upper_4 rfl (lv_at hl 0 rfl) ?_
  refine va_get (D := D) (ci := 1) (C := RX1) (T := TX1) (N := 4) hx hb hts in_X1 hown K hP 0 rfl rfl 2 (by decide) (hts _ q175) (fun _ h9 => h9) rfl dX1_upper_5 ?_
  refine x_top (y := nI b4) hb4 ?_
  refine x_ret (va_runV (As := [.int (nI b4)]) (rest := []) S (xr_cost l D dA E ad sz0 la lp lx ld lr row hn hcu b4 (by omega) hsv) (cwV 1 hts (lw_V q602 q603 q604 q61 q605) rfl rfl rfl hdX2_cost ⟨Nat.le_of_ble_eq_true rfl, Nat.le_of_ble_eq_true rfl⟩) ⟨bb_blind g0_bl _, va_recv K hP (ci := 2) (q0 := 1) rfl rfl, bb_pre (g0_mv G.1 (fun _ _ => rfl) (Nat.le_refl _)) (hP.sub [1, 2, 3, 4, 5] rfl) _⟩ rfl rfl hl.1 rfl (lv_room (Nat.le_of_ble_eq_true rfl)) dX1_upper_8 ⟨Nat.le_refl _, Nat.le_refl _⟩) ?_
  exact x_iret hx hb hrt hlk rfl dX1_upper_11

set_option maxHeartbeats 4000000 in
theorem xs_lm0 (l : Launch) (D : va_G) (dA : Nat → ClassId) (E : Nat) (ad : Nat → Nat) (sz0 mi : Nat) (sa la lp lx ld lr lq : Nat) (row : Nat → Int32) {n cu : Nat} (hn : n ≤ 7) (hcu : cu ≤ 8) (bs sp md : Int32) (d2 q2 p2 : Nat) (f2 : Nat → Option Nat) (FZ : va_W) (hq : q2 ≤ p2 ∧ p2 ≤ 64) (hco : CutsOk dA FZ row cu q2 f2) (pl : Nat) (hp : pl < 128) : RO l yX1_lambda_master_0 cX1_lambda_master_0 2 (some .boolean) 8 320 [.ref sa, .int (nI pl)] (G1 D dA E ad sz0 mi) (fun H => va_P D vwCl (stR dA sa la lp lx ld lr lq row n cu bs sp md d2 q2 p2 f2) H ∧ va_P D vwCl FZ H) (some (.int (bI (lMa row n q2 pl)))) := by
  refine ro_of (by decide) (Nat.le_of_ble_eq_true rfl) ?_
  intro p e s m below meth c S hrt hlk G hP ls hl
  obtain ⟨hx, hb, hml, hown, hts⟩ := id S
  obtain ⟨hP, hF⟩ := hP
  have hP : va_P D vwCl [(sa, .inr (1, [.ref la, .ref lq, .int bs, .int sp])), (la, .inr (2, [.ref lp, .ref lx, .ref ld, .ref lr, .int (nI n), .int (nI cu), .int (row 2)])), (lp, .inl (dA 0, 7, .inl (fun k => row (6 + k)))), (lx, .inl (dA 0, 7, .inl (fun k => row (77 + k)))), (ld, .inl (dA 0, 8, .inl (fun k => row (13 + k)))), (lr, .inl (dA 0, 56, .inl (fun k => row (21 + k)))), (lq, .inr (4, [.int md, .ref d2, .int (nI q2)])), (d2, .inl (dA 1, p2, .inr (.inr (.inr (.inr f2)))))] s.heap := hP
  have K := G.1.1
  have hl : lv_has ls 2 [(0, .ref sa), (1, .int (nI pl))] := hl
  refine lv_aload_n hx hb dX1_lambda_master_0_0 rfl (lv_at hl 0 rfl) ?_
  refine va_get (D := D) (ci := 1) (C := RX1) (T := TX1) (N := 4) hx hb hts in_X1 hown K hP 0 rfl rfl 0 (by decide) (hts _ q171) (fun _ h9 => h9) rfl dX1_lambda_master_0_1 ?_
  refine lv_iload_n hx hb dX1_lambda_master_0_4 rfl (lv_at hl 1 rfl) ?_
  refine x_ret (va_runV (As := [.int (nI pl)]) (rest := []) S (xr_isAllowed l D dA E ad sz0 la lp lx ld lr row hn hcu pl (by omega)) (cwV 1 hts (lw_V q452 q453 q454 q61 q455) rfl rfl rfl hdX2_isAllowed ⟨Nat.le_of_ble_eq_true rfl, Nat.le_of_ble_eq_true rfl⟩) ⟨bb_blind g0_bl _, va_recv K hP (ci := 2) (q0 := 1) rfl rfl, bb_pre (g0_mv G.1 (fun _ _ => rfl) (Nat.le_refl _)) (hP.sub [1, 2, 3, 4, 5] rfl) _⟩ rfl rfl hl.1 rfl (lv_room (Nat.le_of_ble_eq_true rfl)) dX1_lambda_master_0_5 ⟨Nat.le_refl _, Nat.le_refl _⟩) ?_
  refine x_ifb_eq (tgt := 23) hx hb dX1_lambda_master_0_8 (by decide) (fun h_1 => ?_) (fun h_1 => ?_)
  · refine lv_iconst (v := nI 0) hx hb dX1_lambda_master_0_23 (by decide) ?_
    exact x_zret hx hb hrt hlk (by simp [lMa, bI_t, bI_f, nI_0, nI_1l, h_1]) dX1_lambda_master_0_24
  · refine lv_aload_n hx hb dX1_lambda_master_0_11 rfl (lv_at hl 0 rfl) ?_
    refine lv_iload_n hx hb dX1_lambda_master_0_12 rfl (lv_at hl 1 rfl) ?_
    refine x_ret (va_runV (As := [.int (nI pl)]) (rest := []) S (xs_broken l D dA E ad sz0 mi sa la lp lx ld lr lq row hn hcu bs sp md d2 q2 p2 f2 FZ hq hco pl (by omega)) (cwV 1 hts (lw_V q487 q488 q489 q60 q490) rfl rfl rfl hdX1_broken ⟨Nat.le_of_ble_eq_true rfl, Nat.le_of_ble_eq_true rfl⟩) ⟨bb_blind g1_bl _, va_recv K hP (ci := 1) (q0 := 0) rfl rfl, bb_pre (g1_mv G (fun _ _ => rfl) (Nat.le_refl _)) ⟨hP, hF⟩ _⟩ rfl rfl hl.1 rfl (lv_room (Nat.le_of_ble_eq_true rfl)) dX1_lambda_master_0_13 ⟨Nat.le_refl _, Nat.le_refl _⟩) ?_
    refine x_ifn_ne (tgt := 23) hx hb dX1_lambda_master_0_16 (by decide) (Nat.lt_of_le_of_lt (mRmS_le row n pl q2) (by omega)) (fun h_2 => ?_) (fun h_2 => ?_)
    · refine lv_iconst (v := nI 0) hx hb dX1_lambda_master_0_23 (by decide) ?_
      exact x_zret hx hb hrt hlk (by simp [lMa, bI_t, bI_f, nI_0, nI_1l, h_1, h_2]) dX1_lambda_master_0_24
    · refine lv_iconst (v := nI 1) hx hb dX1_lambda_master_0_19 (by decide) ?_
      refine lv_goto (tgt := 24) hx hb dX1_lambda_master_0_20 (by decide) ?_
      exact x_zret hx hb hrt hlk (by simp [lMa, bI_t, bI_f, nI_0, nI_1l, h_1, h_2]) dX1_lambda_master_0_24

set_option maxHeartbeats 4000000 in
theorem xs_lm1 (l : Launch) (D : va_G) (dA : Nat → ClassId) (E : Nat) (ad : Nat → Nat) (sz0 mi : Nat) (sa la lp lx ld lr lq : Nat) (row : Nat → Int32) {n cu : Nat} (hn : n ≤ 7) (hcu : cu ≤ 8) (bs sp md : Int32) (d2 q2 p2 : Nat) (f2 : Nat → Option Nat) (FZ : va_W) (hq : q2 ≤ p2 ∧ p2 ≤ 64) (hco : CutsOk dA FZ row cu q2 f2) (pl : Nat) (hp : pl < 128) : RO l yX1_lambda_master_1 cX1_lambda_master_1 2 (some .int) 8 320 [.ref sa, .int (nI pl)] (G1 D dA E ad sz0 mi) (fun H => va_P D vwCl (stR dA sa la lp lx ld lr lq row n cu bs sp md d2 q2 p2 f2) H ∧ va_P D vwCl FZ H) (some (.int (mGuess row n cu q2 pl))) := by
  refine ro_of (by decide) (Nat.le_of_ble_eq_true rfl) ?_
  intro p e s m below meth c S hrt hlk G hP ls hl
  obtain ⟨hx, hb, hml, hown, hts⟩ := id S
  obtain ⟨hP, hF⟩ := hP
  have hP : va_P D vwCl [(sa, .inr (1, [.ref la, .ref lq, .int bs, .int sp])), (la, .inr (2, [.ref lp, .ref lx, .ref ld, .ref lr, .int (nI n), .int (nI cu), .int (row 2)])), (lp, .inl (dA 0, 7, .inl (fun k => row (6 + k)))), (lx, .inl (dA 0, 7, .inl (fun k => row (77 + k)))), (ld, .inl (dA 0, 8, .inl (fun k => row (13 + k)))), (lr, .inl (dA 0, 56, .inl (fun k => row (21 + k)))), (lq, .inr (4, [.int md, .ref d2, .int (nI q2)])), (d2, .inl (dA 1, p2, .inr (.inr (.inr (.inr f2)))))] s.heap := hP
  have K := G.1.1
  have hl : lv_has ls 2 [(0, .ref sa), (1, .int (nI pl))] := hl
  refine lv_aload_n hx hb dX1_lambda_master_1_0 rfl (lv_at hl 0 rfl) ?_
  refine lv_iload_n hx hb dX1_lambda_master_1_1 rfl (lv_at hl 1 rfl) ?_
  refine x_ret (va_runV (As := [.int (nI pl)]) (rest := []) S (xs_guess l D dA E ad sz0 mi sa la lp lx ld lr lq row hn hcu bs sp md d2 q2 p2 f2 FZ hq hco pl (by omega)) (cwV 1 hts (lw_V q571 q572 q573 q60 q574) rfl rfl rfl hdX1_guess ⟨Nat.le_of_ble_eq_true rfl, Nat.le_of_ble_eq_true rfl⟩) ⟨bb_blind g1_bl _, va_recv K hP (ci := 1) (q0 := 0) rfl rfl, bb_pre (g1_mv G (fun _ _ => rfl) (Nat.le_refl _)) ⟨hP, hF⟩ _⟩ rfl rfl hl.1 rfl (lv_room (Nat.le_of_ble_eq_true rfl)) dX1_lambda_master_1_2 ⟨Nat.le_refl _, Nat.le_refl _⟩) ?_
  exact x_iret hx hb hrt hlk rfl dX1_lambda_master_1_5

set_option maxHeartbeats 4000000 in
theorem xs_lb2 (l : Launch) (D : va_G) (dA : Nat → ClassId) (E : Nat) (ad : Nat → Nat) (sz0 mi : Nat) (sa la lp lx ld lr lq : Nat) (row : Nat → Int32) {n cu : Nat} (hn : n ≤ 7) (hcu : cu ≤ 8) (bs sp md : Int32) (d2 q2 p2 : Nat) (f2 : Nat → Option Nat) (FZ : va_W) (hq : q2 ≤ p2 ∧ p2 ≤ 64) (hco : CutsOk dA FZ row cu q2 f2) (pl : Nat) (hp : pl < 128) : RO l yX1_lambda_bestOfAll_2 cX1_lambda_bestOfAll_2 2 (some .boolean) 8 320 [.ref sa, .int (nI pl)] (G1 D dA E ad sz0 mi) (fun H => va_P D vwCl (stR dA sa la lp lx ld lr lq row n cu bs sp md d2 q2 p2 f2) H ∧ va_P D vwCl FZ H) (some (.int (bI (mFeas row n cu pl)))) := by
  refine ro_of (by decide) (Nat.le_of_ble_eq_true rfl) ?_
  intro p e s m below meth c S hrt hlk G hP ls hl
  obtain ⟨hx, hb, hml, hown, hts⟩ := id S
  obtain ⟨hP, hF⟩ := hP
  have hP : va_P D vwCl [(sa, .inr (1, [.ref la, .ref lq, .int bs, .int sp])), (la, .inr (2, [.ref lp, .ref lx, .ref ld, .ref lr, .int (nI n), .int (nI cu), .int (row 2)])), (lp, .inl (dA 0, 7, .inl (fun k => row (6 + k)))), (lx, .inl (dA 0, 7, .inl (fun k => row (77 + k)))), (ld, .inl (dA 0, 8, .inl (fun k => row (13 + k)))), (lr, .inl (dA 0, 56, .inl (fun k => row (21 + k)))), (lq, .inr (4, [.int md, .ref d2, .int (nI q2)])), (d2, .inl (dA 1, p2, .inr (.inr (.inr (.inr f2)))))] s.heap := hP
  have K := G.1.1
  have hl : lv_has ls 2 [(0, .ref sa), (1, .int (nI pl))] := hl
  refine lv_aload_n hx hb dX1_lambda_bestOfAll_2_0 rfl (lv_at hl 0 rfl) ?_
  refine va_get (D := D) (ci := 1) (C := RX1) (T := TX1) (N := 4) hx hb hts in_X1 hown K hP 0 rfl rfl 0 (by decide) (hts _ q171) (fun _ h9 => h9) rfl dX1_lambda_bestOfAll_2_1 ?_
  refine lv_iload_n hx hb dX1_lambda_bestOfAll_2_4 rfl (lv_at hl 1 rfl) ?_
  refine x_ret (va_runV (As := [.int (nI pl)]) (rest := []) S (xr_isFeasible l D dA E ad sz0 la lp lx ld lr row hn hcu pl (by omega)) (cwV 1 hts (lw_V q1049 q996 q997 q61 q998) rfl rfl rfl hdX2_isFeasible ⟨Nat.le_of_ble_eq_true rfl, Nat.le_of_ble_eq_true rfl⟩) ⟨bb_blind g0_bl _, va_recv K hP (ci := 2) (q0 := 1) rfl rfl, bb_pre (g0_mv G.1 (fun _ _ => rfl) (Nat.le_refl _)) (hP.sub [1, 2, 3, 4, 5] rfl) _⟩ rfl rfl hl.1 rfl (lv_room (Nat.le_of_ble_eq_true rfl)) dX1_lambda_bestOfAll_2_5 ⟨Nat.le_refl _, Nat.le_refl _⟩) ?_
  exact x_zret hx hb hrt hlk rfl dX1_lambda_bestOfAll_2_8

set_option maxHeartbeats 4000000 in
theorem xs_lb3 (l : Launch) (D : va_G) (dA : Nat → ClassId) (E : Nat) (ad : Nat → Nat) (sz0 mi : Nat) (sa la lp lx ld lr lq : Nat) (row : Nat → Int32) {n cu : Nat} (hn : n ≤ 7) (hcu : cu ≤ 8) (bs sp md : Int32) (d2 q2 p2 : Nat) (f2 : Nat → Option Nat) (FZ : va_W) (hq : q2 ≤ p2 ∧ p2 ≤ 64) (hco : CutsOk dA FZ row cu q2 f2) (pl : Nat) (hp : pl < 128) (hsv : ∀ c, c < cu → ∃ s, mServer row n pl c = some s) : RO l yX1_lambda_bestOfAll_3 cX1_lambda_bestOfAll_3 2 (some .int) 8 320 [.ref sa, .int (nI pl)] (G1 D dA E ad sz0 mi) (fun H => va_P D vwCl (stR dA sa la lp lx ld lr lq row n cu bs sp md d2 q2 p2 f2) H ∧ va_P D vwCl FZ H) (some (.int (mCost row n cu pl))) := by
  refine ro_of (by decide) (Nat.le_of_ble_eq_true rfl) ?_
  intro p e s m below meth c S hrt hlk G hP ls hl
  obtain ⟨hx, hb, hml, hown, hts⟩ := id S
  obtain ⟨hP, hF⟩ := hP
  have hP : va_P D vwCl [(sa, .inr (1, [.ref la, .ref lq, .int bs, .int sp])), (la, .inr (2, [.ref lp, .ref lx, .ref ld, .ref lr, .int (nI n), .int (nI cu), .int (row 2)])), (lp, .inl (dA 0, 7, .inl (fun k => row (6 + k)))), (lx, .inl (dA 0, 7, .inl (fun k => row (77 + k)))), (ld, .inl (dA 0, 8, .inl (fun k => row (13 + k)))), (lr, .inl (dA 0, 56, .inl (fun k => row (21 + k)))), (lq, .inr (4, [.int md, .ref d2, .int (nI q2)])), (d2, .inl (dA 1, p2, .inr (.inr (.inr (.inr f2)))))] s.heap := hP
  have K := G.1.1
  have hl : lv_has ls 2 [(0, .ref sa), (1, .int (nI pl))] := hl
  refine lv_aload_n hx hb dX1_lambda_bestOfAll_3_0 rfl (lv_at hl 0 rfl) ?_
  refine va_get (D := D) (ci := 1) (C := RX1) (T := TX1) (N := 4) hx hb hts in_X1 hown K hP 0 rfl rfl 0 (by decide) (hts _ q171) (fun _ h9 => h9) rfl dX1_lambda_bestOfAll_3_1 ?_
  refine lv_iload_n hx hb dX1_lambda_bestOfAll_3_4 rfl (lv_at hl 1 rfl) ?_
  refine x_ret (va_runV (As := [.int (nI pl)]) (rest := []) S (xr_cost l D dA E ad sz0 la lp lx ld lr row hn hcu pl (by omega) hsv) (cwV 1 hts (lw_V q602 q603 q604 q61 q605) rfl rfl rfl hdX2_cost ⟨Nat.le_of_ble_eq_true rfl, Nat.le_of_ble_eq_true rfl⟩) ⟨bb_blind g0_bl _, va_recv K hP (ci := 2) (q0 := 1) rfl rfl, bb_pre (g0_mv G.1 (fun _ _ => rfl) (Nat.le_refl _)) (hP.sub [1, 2, 3, 4, 5] rfl) _⟩ rfl rfl hl.1 rfl (lv_room (Nat.le_of_ble_eq_true rfl)) dX1_lambda_bestOfAll_3_5 ⟨Nat.le_refl _, Nat.le_refl _⟩) ?_
  exact x_iret hx hb hrt hlk rfl dX1_lambda_bestOfAll_3_8

