set_option maxHeartbeats 4000000 in
theorem xs_guess (l : Launch) (D : va_G) (dA : Nat → ClassId) (E : Nat) (ad : Nat → Nat) (sz0 mi : Nat) (sa la lp lx ld lr lq : Nat) (row : Nat → Int32) {n cu : Nat} (hn : n ≤ 7) (hcu : cu ≤ 8) (bs sp md : Int32) (d2 q2 p2 : Nat) (f2 : Nat → Option Nat) (FZ : va_W) (hq : q2 ≤ p2 ∧ p2 ≤ 64) (hco : CutsOk dA FZ row cu q2 f2) (pl : Nat) (hp : pl < 128) : RO l yX1_guess cX1_guess 2 (some .int) 7 280 [.ref sa, .int (nI pl)] (G1 D dA E ad sz0 mi) (fun H => va_P D vwCl (stR dA sa la lp lx ld lr lq row n cu bs sp md d2 q2 p2 f2) H ∧ va_P D vwCl FZ H) (some (.int (mGuess row n cu q2 pl))) := by
  refine ro_of (by decide) (Nat.le_of_ble_eq_true rfl) ?_
  intro p e s m below meth c S hrt hlk G hP ls hl
  obtain ⟨hx, hb, hml, hown, hts⟩ := id S
  obtain ⟨hP, hF⟩ := hP
  have hP : va_P D vwCl [(sa, .inr (1, [.ref la, .ref lq, .int bs, .int sp])), (la, .inr (2, [.ref lp, .ref lx, .ref ld, .ref lr, .int (nI n), .int (nI cu), .int (row 2)])), (lp, .inl (dA 0, 7, .inl (fun k => row (6 + k)))), (lx, .inl (dA 0, 7, .inl (fun k => row (77 + k)))), (ld, .inl (dA 0, 8, .inl (fun k => row (13 + k)))), (lr, .inl (dA 0, 56, .inl (fun k => row (21 + k)))), (lq, .inr (4, [.int md, .ref d2, .int (nI q2)])), (d2, .inl (dA 1, p2, .inr (.inr (.inr (.inr f2)))))] s.heap := hP
  have K := G.1.1
  have hl : lv_has ls 2 [(0, .ref sa), (1, .int (nI pl))] := hl
  refine lv_aload_n hx hb dX1_guess_0 rfl (lv_at hl 0 rfl) ?_
  refine va_get (D := D) (ci := 1) (C := RX1) (T := TX1) (N := 4) hx hb hts in_X1 hown K hP 0 rfl rfl 0 (by decide) (hts _ q171) (fun _ h9 => h9) rfl dX1_guess_1 ?_
  refine lv_iload_n hx hb dX1_guess_4 rfl (lv_at hl 1 rfl) ?_
  refine x_ret (va_runV (As := [.int (nI pl)]) (rest := []) S (xr_pricesOf l D dA E ad sz0 la lp lx ld lr row hn hcu pl (by omega)) (cwV 1 hts (lw_V q575 q576 q577 q61 q578) rfl rfl rfl hdX2_pricesOf ⟨Nat.le_of_ble_eq_true rfl, Nat.le_of_ble_eq_true rfl⟩) ⟨bb_blind g0_bl _, va_recv K hP (ci := 2) (q0 := 1) rfl rfl, bb_pre (g0_mv G.1 (fun _ _ => rfl) (Nat.le_refl _)) (hP.sub [1, 2, 3, 4, 5] rfl) _⟩ rfl rfl hl.1 rfl (lv_room (Nat.le_of_ble_eq_true rfl)) dX1_guess_5 ⟨Nat.le_refl _, Nat.le_refl _⟩) ?_
  refine lv_aload_n hx hb dX1_guess_8 rfl (lv_at hl 0 rfl) ?_
  refine lv_iload_n hx hb dX1_guess_9 rfl (lv_at hl 1 rfl) ?_
  refine x_ret (va_runV (As := [.int (nI pl)]) (rest := [.int (mPrices row n pl)]) S (xs_above l D dA E ad sz0 mi sa la lp lx ld lr lq row hn hcu bs sp md d2 q2 p2 f2 FZ hq hco pl (by omega)) (cwV 1 hts (lw_V q579 q580 q581 q60 q582) rfl rfl rfl hdX1_guessAbove ⟨Nat.le_of_ble_eq_true rfl, Nat.le_of_ble_eq_true rfl⟩) ⟨bb_blind g1_bl _, va_recv K hP (ci := 1) (q0 := 0) rfl rfl, bb_pre (g1_mv G (fun _ _ => rfl) (Nat.le_refl _)) ⟨hP, hF⟩ _⟩ rfl rfl hl.1 rfl (lv_room (Nat.le_of_ble_eq_true rfl)) dX1_guess_10 ⟨Nat.le_refl _, Nat.le_refl _⟩) ?_
  refine lv_iadd hx hb dX1_guess_13 ?_
  exact x_iret hx hb hrt hlk rfl dX1_guess_14

