set_option maxHeartbeats 4000000 in
theorem xk_value_T (l : Launch) (D : va_G) (dA : Nat → ClassId) (E : Nat) (ad : Nat → Nat) (sz0 : Nat) (la lp lx ld lr : Nat) (row : Nat → Int32) {n cu : Nat} (hn : n ≤ 7) (hcu : cu ≤ 8) (ka kn : Nat) (nums : Nat → Int32) (kc : Nat) (hnum : ∀ c, c < cu → nums c = row (84 + 9 * kc + 1 + c)) (pl : Nat) (hp : pl < 128) : RO l yX9_value cX9_value 3 (some .int) 4 160 [.ref ka, .ref la, .int (nI pl)] (G0 D dA E ad sz0) (fun H => va_P D vwCl (kP dA 9 ka kn nums ++ lW dA la lp lx ld lr row n cu) H) (some (.int (mValue row n cu kc pl))) := by
  refine ro_of (by decide) (Nat.le_of_ble_eq_true rfl) ?_
  intro p e s m below meth c S hrt hlk G hP ls hl
  obtain ⟨hx, hb, hml, hown, hts⟩ := id S
  have K := G.1
  have hP : va_P D vwCl [(ka, .inr (9, [.int (nI 1), .ref kn])), (kn, .inl (dA 0, 8, .inl nums)), (la, .inr (2, [.ref lp, .ref lx, .ref ld, .ref lr, .int (nI n), .int (nI cu), .int (row 2)])), (lp, .inl (dA 0, 7, .inl (fun k => row (6 + k)))), (lx, .inl (dA 0, 7, .inl (fun k => row (77 + k)))), (ld, .inl (dA 0, 8, .inl (fun k => row (13 + k)))), (lr, .inl (dA 0, 56, .inl (fun k => row (21 + k))))] s.heap := hP
  have hl : lv_has ls 3 [(0, .ref ka), (1, .ref la), (2, .int (nI pl))] := hl
  refine lv_aload_n hx hb dX9_value_0 rfl (lv_at hl 0 rfl) ?_
  refine lv_aload_n hx hb dX9_value_1 rfl (lv_at hl 1 rfl) ?_
  refine x_ret (va_runU (As := [.ref la]) (rest := []) S (xk_constant_T l D dA E ad sz0 la lp lx ld lr row hn hcu ka kn nums kc hnum  ) (va_cwU 1 hts (lw_U (x := ⟨"SiteCuts$TypedCut", "constant", "(LSiteCuts$Land;)I"⟩) (owner := "SiteCuts$PriceCut") q527 q528 q530 q531 q80 q532) rfl rfl rfl rfl (by decide +kernel) ⟨Nat.le_of_ble_eq_true rfl, Nat.le_of_ble_eq_true rfl⟩) ⟨bb_blind g0_bl _, va_recv K hP (ci := 9) (q0 := 0) rfl rfl, bb_pre (g0_mv G (fun _ _ => rfl) (Nat.le_refl _)) hP _⟩ rfl rfl hl.1 rfl (lv_room (Nat.le_of_ble_eq_true rfl)) dX9_value_2 ⟨Nat.le_refl _, Nat.le_refl _⟩) ?_
  refine lv_aload_n hx hb dX9_value_5 rfl (lv_at hl 0 rfl) ?_
  refine lv_aload_n hx hb dX9_value_6 rfl (lv_at hl 1 rfl) ?_
  refine lv_iload_n hx hb dX9_value_7 rfl (lv_at hl 2 rfl) ?_
  refine x_ret (x_runSU2 (x := ⟨"SiteCuts$PriceCut", "sum", "(LSiteCuts$Land;I)I"⟩) (n := 2) (As := [.ref la, .int (nI pl)]) (rest := [.int (mConst row cu kc)]) ((K.1 9 _ rfl).2) S (xk_sum_T l D dA E ad sz0 la lp lx ld lr row hn hcu ka kn nums kc hnum pl (by omega)) rfl rfl (Nat.le_of_ble_eq_true rfl) (Nat.le_of_ble_eq_true rfl) q533 q534 ⟨rfl, rfl⟩ q536 q537 q538 q79 q539 (by decide) (by decide +kernel) ⟨bb_blind g0_bl _, va_recv K hP (ci := 9) (q0 := 0) rfl rfl, bb_pre (g0_mv G (fun _ _ => rfl) (Nat.le_refl _)) hP _⟩ rfl rfl hl.1 rfl (lv_room (Nat.le_of_ble_eq_true rfl)) dX9_value_8 ⟨Nat.le_refl _, Nat.le_refl _⟩) ?_
  refine lv_isub hx hb dX9_value_11 ?_
  exact x_iret hx hb hrt hlk (pval_eq _ _ _ _ _) dX9_value_12

set_option maxHeartbeats 4000000 in
theorem xk_isBroken_T (l : Launch) (D : va_G) (dA : Nat → ClassId) (E : Nat) (ad : Nat → Nat) (sz0 : Nat) (la lp lx ld lr : Nat) (row : Nat → Int32) {n cu : Nat} (hn : n ≤ 7) (hcu : cu ≤ 8) (ka kn : Nat) (nums : Nat → Int32) (kc : Nat) (hnum : ∀ c, c < cu → nums c = row (84 + 9 * kc + 1 + c)) (pl : Nat) (hp : pl < 128) (hsv : ∀ c, c < cu → ∃ s, mServer row n pl c = some s) : RO l yX5_isBroken cX5_isBroken 3 (some .boolean) 5 200 [.ref ka, .ref la, .int (nI pl)] (G0 D dA E ad sz0) (fun H => va_P D vwCl (kP dA 9 ka kn nums ++ lW dA la lp lx ld lr row n cu) H) (some (.int (bI (if mValue row n cu kc pl ≤ mRoutes row n cu pl then false else true)))) := by
  refine ro_of (by decide) (Nat.le_of_ble_eq_true rfl) ?_
  intro p e s m below meth c S hrt hlk G hP ls hl
  obtain ⟨hx, hb, hml, hown, hts⟩ := id S
  have K := G.1
  have hP : va_P D vwCl [(ka, .inr (9, [.int (nI 1), .ref kn])), (kn, .inl (dA 0, 8, .inl nums)), (la, .inr (2, [.ref lp, .ref lx, .ref ld, .ref lr, .int (nI n), .int (nI cu), .int (row 2)])), (lp, .inl (dA 0, 7, .inl (fun k => row (6 + k)))), (lx, .inl (dA 0, 7, .inl (fun k => row (77 + k)))), (ld, .inl (dA 0, 8, .inl (fun k => row (13 + k)))), (lr, .inl (dA 0, 56, .inl (fun k => row (21 + k))))] s.heap := hP
  have hl : lv_has ls 3 [(0, .ref ka), (1, .ref la), (2, .int (nI pl))] := hl
  refine lv_aload_n hx hb dX5_isBroken_0 rfl (lv_at hl 0 rfl) ?_
  refine lv_aload_n hx hb dX5_isBroken_1 rfl (lv_at hl 1 rfl) ?_
  refine lv_iload_n hx hb dX5_isBroken_2 rfl (lv_at hl 2 rfl) ?_
  refine x_ret (va_runU (As := [.ref la, .int (nI pl)]) (rest := []) S (xk_value_T l D dA E ad sz0 la lp lx ld lr row hn hcu ka kn nums kc hnum pl (by omega)) (va_cwO 2 hts (lw_O (x := ⟨"SiteCuts$PriceCut", "value", "(LSiteCuts$Land;I)I"⟩) (owner := "SiteCuts$PriceCut") q520 q523 q521 q524 q525 q86 q526) rfl rfl rfl q554 (by decide +kernel) ⟨Nat.le_of_ble_eq_true rfl, Nat.le_of_ble_eq_true rfl⟩) ⟨bb_blind g0_bl _, va_recv K hP (ci := 9) (q0 := 0) rfl rfl, bb_pre (g0_mv G (fun _ _ => rfl) (Nat.le_refl _)) hP _⟩ rfl rfl hl.1 rfl (lv_room (Nat.le_of_ble_eq_true rfl)) dX5_isBroken_3 ⟨Nat.le_refl _, Nat.le_refl _⟩) ?_
  refine lv_aload_n hx hb dX5_isBroken_6 rfl (lv_at hl 1 rfl) ?_
  refine lv_iload_n hx hb dX5_isBroken_7 rfl (lv_at hl 2 rfl) ?_
  refine x_ret (va_runV (As := [.int (nI pl)]) (rest := [.int (mValue row n cu kc pl)]) S (xr_routesOf l D dA E ad sz0 la lp lx ld lr row hn hcu pl (by omega) hsv) (cwV 1 hts (lw_V q560 q561 q562 q61 q563) rfl rfl rfl hdX2_routesOf ⟨Nat.le_of_ble_eq_true rfl, Nat.le_of_ble_eq_true rfl⟩) ⟨bb_blind g0_bl _, va_recv K hP (ci := 2) (q0 := 2) rfl rfl, bb_pre (g0_mv G (fun _ _ => rfl) (Nat.le_refl _)) (hP.sub [2, 3, 4, 5, 6] rfl) _⟩ rfl rfl hl.1 rfl (lv_room (Nat.le_of_ble_eq_true rfl)) dX5_isBroken_8 ⟨Nat.le_refl _, Nat.le_refl _⟩) ?_
  refine lv_icmp_le (tgt := 18) hx hb dX5_isBroken_11 (by decide) (fun h_1 => ?_) (fun h_1 => ?_)
  · refine lv_iconst (v := nI 0) hx hb dX5_isBroken_18 (by decide) ?_
    exact x_zret hx hb hrt hlk (by rw [if_pos h_1]; rfl) dX5_isBroken_19
  · refine lv_iconst (v := nI 1) hx hb dX5_isBroken_14 (by decide) ?_
    refine lv_goto (tgt := 19) hx hb dX5_isBroken_15 (by decide) ?_
    exact x_zret hx hb hrt hlk (by rw [if_neg h_1]; rfl) dX5_isBroken_19

set_option maxHeartbeats 4000000 in
theorem xk_isTight_T (l : Launch) (D : va_G) (dA : Nat → ClassId) (E : Nat) (ad : Nat → Nat) (sz0 : Nat) (la lp lx ld lr : Nat) (row : Nat → Int32) {n cu : Nat} (hn : n ≤ 7) (hcu : cu ≤ 8) (ka kn : Nat) (nums : Nat → Int32) (kc : Nat) (hnum : ∀ c, c < cu → nums c = row (84 + 9 * kc + 1 + c)) (pl : Nat) (hp : pl < 128) (hsv : ∀ c, c < cu → ∃ s, mServer row n pl c = some s) : RO l yX5_isTight cX5_isTight 3 (some .boolean) 5 200 [.ref ka, .ref la, .int (nI pl)] (G0 D dA E ad sz0) (fun H => va_P D vwCl (kP dA 9 ka kn nums ++ lW dA la lp lx ld lr row n cu) H) (some (.int (bI (if mValue row n cu kc pl = mRoutes row n cu pl then true else false)))) := by
  refine ro_of (by decide) (Nat.le_of_ble_eq_true rfl) ?_
  intro p e s m below meth c S hrt hlk G hP ls hl
  obtain ⟨hx, hb, hml, hown, hts⟩ := id S
  have K := G.1
  have hP : va_P D vwCl [(ka, .inr (9, [.int (nI 1), .ref kn])), (kn, .inl (dA 0, 8, .inl nums)), (la, .inr (2, [.ref lp, .ref lx, .ref ld, .ref lr, .int (nI n), .int (nI cu), .int (row 2)])), (lp, .inl (dA 0, 7, .inl (fun k => row (6 + k)))), (lx, .inl (dA 0, 7, .inl (fun k => row (77 + k)))), (ld, .inl (dA 0, 8, .inl (fun k => row (13 + k)))), (lr, .inl (dA 0, 56, .inl (fun k => row (21 + k))))] s.heap := hP
  have hl : lv_has ls 3 [(0, .ref ka), (1, .ref la), (2, .int (nI pl))] := hl
  refine lv_aload_n hx hb dX5_isTight_0 rfl (lv_at hl 0 rfl) ?_
  refine lv_aload_n hx hb dX5_isTight_1 rfl (lv_at hl 1 rfl) ?_
  refine lv_iload_n hx hb dX5_isTight_2 rfl (lv_at hl 2 rfl) ?_
  refine x_ret (va_runU (As := [.ref la, .int (nI pl)]) (rest := []) S (xk_value_T l D dA E ad sz0 la lp lx ld lr row hn hcu ka kn nums kc hnum pl (by omega)) (va_cwO 2 hts (lw_O (x := ⟨"SiteCuts$PriceCut", "value", "(LSiteCuts$Land;I)I"⟩) (owner := "SiteCuts$PriceCut") q520 q523 q521 q524 q525 q86 q526) rfl rfl rfl q554 (by decide +kernel) ⟨Nat.le_of_ble_eq_true rfl, Nat.le_of_ble_eq_true rfl⟩) ⟨bb_blind g0_bl _, va_recv K hP (ci := 9) (q0 := 0) rfl rfl, bb_pre (g0_mv G (fun _ _ => rfl) (Nat.le_refl _)) hP _⟩ rfl rfl hl.1 rfl (lv_room (Nat.le_of_ble_eq_true rfl)) dX5_isTight_3 ⟨Nat.le_refl _, Nat.le_refl _⟩) ?_
  refine lv_aload_n hx hb dX5_isTight_6 rfl (lv_at hl 1 rfl) ?_
  refine lv_iload_n hx hb dX5_isTight_7 rfl (lv_at hl 2 rfl) ?_
  refine x_ret (va_runV (As := [.int (nI pl)]) (rest := [.int (mValue row n cu kc pl)]) S (xr_routesOf l D dA E ad sz0 la lp lx ld lr row hn hcu pl (by omega) hsv) (cwV 1 hts (lw_V q560 q561 q562 q61 q563) rfl rfl rfl hdX2_routesOf ⟨Nat.le_of_ble_eq_true rfl, Nat.le_of_ble_eq_true rfl⟩) ⟨bb_blind g0_bl _, va_recv K hP (ci := 2) (q0 := 2) rfl rfl, bb_pre (g0_mv G (fun _ _ => rfl) (Nat.le_refl _)) (hP.sub [2, 3, 4, 5, 6] rfl) _⟩ rfl rfl hl.1 rfl (lv_room (Nat.le_of_ble_eq_true rfl)) dX5_isTight_8 ⟨Nat.le_refl _, Nat.le_refl _⟩) ?_
  refine lv_icmp_ne (tgt := 18) hx hb dX5_isTight_11 (by decide) (fun h_1 => ?_) (fun h_1 => ?_)
  · refine lv_iconst (v := nI 0) hx hb dX5_isTight_18 (by decide) ?_
    exact x_zret hx hb hrt hlk (by rw [if_neg h_1]; rfl) dX5_isTight_19
  · refine lv_iconst (v := nI 1) hx hb dX5_isTight_14 (by decide) ?_
    refine lv_goto (tgt := 19) hx hb dX5_isTight_15 (by decide) ?_
    exact x_zret hx hb hrt hlk (by rw [if_pos h_1]; rfl) dX5_isTight_19

