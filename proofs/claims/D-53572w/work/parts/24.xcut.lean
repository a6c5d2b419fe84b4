/-! cuts: a ray (customer j), a price cut or a typed one (numbers) -/
abbrev kR (ka j : Nat) : va_W := [(ka, .inr (6, [.int (nI 0), .int (nI j)]))]
abbrev kP (dA : Nat → ClassId) (ci ka kn : Nat) (nums : Nat → Int32) : va_W := [(ka, .inr (ci, [.int (nI 1), .ref kn])), (kn, .inl (dA 0, 8, .inl nums))]
def xRw (row : Nat → Int32) (j s : Nat) : Int32 := if nI 100 ≤ row (21 + 8 * s + j) then nI 0 else nI 1
def xSuR (row : Nat → Int32) (j pl s : Nat) (a : Int32) : Int32 := a + (if pl.testBit s = false then nI 0 else xRw row j s)
def xSumR (row : Nat → Int32) (n j pl : Nat) : Int32 := iter (xSuR row j pl) n 0 (nI 0)
def xSuP (row : Nat → Int32) (cu kc pl s : Nat) (a : Int32) : Int32 := a + (if pl.testBit s = false then nI 0 else mWeight row cu kc s)
def xSumP (row : Nat → Int32) (n cu kc pl : Nat) : Int32 := iter (xSuP row cu kc pl) n 0 (nI 0)
theorem wt_step (row : Nat → Int32) (k s c : Nat) (a : Int32) : mWtS row k s c a = a + row (13 + c) * xMax (nI 0) (row (84 + 9 * k + 1 + c) - row (21 + 8 * s + c)) := by
  unfold mWtS xMax
  by_cases h : row (84 + 9 * k + 1 + c) - row (21 + 8 * s + c) ≤ 0
  · rw [if_pos h, if_neg (by rw [nI_0]; exact Int32.not_lt.mpr h), nI_0, Int32.mul_zero]
  · rw [if_neg h, if_pos (by rw [nI_0]; exact Int32.not_le.mp h)]
theorem pval_eq (row : Nat → Int32) (n cu kc pl : Nat) : mConst row cu kc - xSumP row n cu kc pl = mValue row n cu kc pl := by
  unfold mValue xSumP
  have key : ∀ N, iter (mVlS row cu kc pl) N 0 (mConst row cu kc) = mConst row cu kc - iter (xSuP row cu kc pl) N 0 (nI 0) := by
    intro N
    induction N with
    | zero => rw [iter_0, iter_0, nI_0, Int32.sub_zero]
    | succ N ih =>
      rw [iter_s, iter_s, ih, Nat.zero_add]
      unfold mVlS xSuP
      rw [Int32.sub_sub]
  exact (key n).symm

set_option maxHeartbeats 4000000 in
theorem xk_weight_R (l : Launch) (D : va_G) (dA : Nat → ClassId) (E : Nat) (ad : Nat → Nat) (sz0 : Nat) (la lp lx ld lr : Nat) (row : Nat → Int32) {n cu : Nat} (hn : n ≤ 7) (hcu : cu ≤ 8) (ka j : Nat) (hj : j < 8) (s0 : Nat) (hs0 : s0 < 7) : RO l yX6_weight cX6_weight 3 (some .int) 1 40 [.ref ka, .ref la, .int (nI s0)] (G0 D dA E ad sz0) (fun H => va_P D vwCl (kR ka j ++ lW dA la lp lx ld lr row n cu) H) (some (.int (xRw row j s0))) := by
  refine ro_of (by decide) (Nat.le_of_ble_eq_true rfl) ?_
  intro p e s m below meth c S hrt hlk G hP ls hl
  obtain ⟨hx, hb, hml, hown, hts⟩ := id S
  have K := G.1
  have hP : va_P D vwCl [(ka, .inr (6, [.int (nI 0), .int (nI j)])), (la, .inr (2, [.ref lp, .ref lx, .ref ld, .ref lr, .int (nI n), .int (nI cu), .int (row 2)])), (lp, .inl (dA 0, 7, .inl (fun k => row (6 + k)))), (lx, .inl (dA 0, 7, .inl (fun k => row (77 + k)))), (ld, .inl (dA 0, 8, .inl (fun k => row (13 + k)))), (lr, .inl (dA 0, 56, .inl (fun k => row (21 + k))))] s.heap := hP
  have hl : lv_has ls 3 [(0, .ref ka), (1, .ref la), (2, .int (nI s0))] := hl
  refine lv_aload_n hx hb dX6_weight_0 rfl (lv_at hl 1 rfl) ?_
  refine lv_iload_n hx hb dX6_weight_1 rfl (lv_at hl 2 rfl) ?_
  refine lv_aload_n hx hb dX6_weight_2 rfl (lv_at hl 0 rfl) ?_
  refine va_get (D := D) (ci := 6) (C := RX6) (T := TX6) (N := 2) hx hb hts in_X6 hown K hP 0 rfl rfl 1 (by decide) (hts _ q639) (fun _ h9 => h9) rfl dX6_weight_3 ?_
  refine x_ret (va_runV (As := [.int (nI s0), .int (nI j)]) (rest := []) S (xr_route l D dA E ad sz0 la lp lx ld lr row hn hcu s0 j (by omega) (by omega)) (cwV 2 hts (lw_V q552 q417 q418 q61 q419) rfl rfl rfl hdX2_route ⟨Nat.le_of_ble_eq_true rfl, Nat.le_of_ble_eq_true rfl⟩) ⟨bb_blind g0_bl _, va_recv K hP (ci := 2) (q0 := 1) rfl rfl, bb_pre (g0_mv G (fun _ _ => rfl) (Nat.le_refl _)) (hP.sub [1, 2, 3, 4, 5] rfl) _⟩ rfl rfl hl.1 rfl (lv_room (Nat.le_of_ble_eq_true rfl)) dX6_weight_6 ⟨Nat.le_refl _, Nat.le_refl _⟩) ?_
  refine lv_bipush (v := nI 100) hx hb dX6_weight_9 (by decide) ?_
  refine lv_icmp_ge (tgt := 18) hx hb dX6_weight_11 (by decide) (fun h_1 => ?_) (fun h_1 => ?_)
  · refine lv_iconst (v := nI 0) hx hb dX6_weight_18 (by decide) ?_
    exact x_iret hx hb hrt hlk (by simp [xRw, h_1]) dX6_weight_19
  · refine lv_iconst (v := nI 1) hx hb dX6_weight_14 (by decide) ?_
    refine lv_goto (tgt := 19) hx hb dX6_weight_15 (by decide) ?_
    exact x_iret hx hb hrt hlk (by simp [xRw, h_1]) dX6_weight_19

set_option maxHeartbeats 4000000 in
theorem xk_customer_R (l : Launch) (D : va_G) (dA : Nat → ClassId) (E : Nat) (ad : Nat → Nat) (sz0 : Nat) (la lp lx ld lr : Nat) (row : Nat → Int32) {n cu : Nat} (hn : n ≤ 7) (hcu : cu ≤ 8) (ka j : Nat) (hj : j < 8)  : RO l yX6_customer cX6_customer 1 (some .int) 0 0 [.ref ka] (G0 D dA E ad sz0) (fun H => va_P D vwCl (kR ka j ++ lW dA la lp lx ld lr row n cu) H) (some (.int (nI j))) := by
  refine ro_of (by decide) (Nat.le_of_ble_eq_true rfl) ?_
  intro p e s m below meth c S hrt hlk G hP ls hl
  obtain ⟨hx, hb, hml, hown, hts⟩ := id S
  have K := G.1
  have hP : va_P D vwCl [(ka, .inr (6, [.int (nI 0), .int (nI j)])), (la, .inr (2, [.ref lp, .ref lx, .ref ld, .ref lr, .int (nI n), .int (nI cu), .int (row 2)])), (lp, .inl (dA 0, 7, .inl (fun k => row (6 + k)))), (lx, .inl (dA 0, 7, .inl (fun k => row (77 + k)))), (ld, .inl (dA 0, 8, .inl (fun k => row (13 + k)))), (lr, .inl (dA 0, 56, .inl (fun k => row (21 + k))))] s.heap := hP
  have hl : lv_has ls 1 [(0, .ref ka)] := hl
  refine lv_aload_n hx hb dX6_customer_0 rfl (lv_at hl 0 rfl) ?_
  refine va_get (D := D) (ci := 6) (C := RX6) (T := TX6) (N := 2) hx hb hts in_X6 hown K hP 0 rfl rfl 1 (by decide) (hts _ q639) (fun _ h9 => h9) rfl dX6_customer_1 ?_
  exact x_iret hx hb hrt hlk rfl dX6_customer_4

set_option maxHeartbeats 4000000 in
theorem xk_constant_R (l : Launch) (D : va_G) (dA : Nat → ClassId) (E : Nat) (ad : Nat → Nat) (sz0 : Nat) (la lp lx ld lr : Nat) (row : Nat → Int32) {n cu : Nat} (hn : n ≤ 7) (hcu : cu ≤ 8) (ka j : Nat) (hj : j < 8)  : RO l yX6_constant cX6_constant 2 (some .int) 0 0 [.ref ka, .ref la] (G0 D dA E ad sz0) (fun H => va_P D vwCl (kR ka j ++ lW dA la lp lx ld lr row n cu) H) (some (.int (nI 1))) := by
  refine ro_of (by decide) (Nat.le_of_ble_eq_true rfl) ?_
  intro p e s m below meth c S hrt hlk G hP ls hl
  obtain ⟨hx, hb, hml, hown, hts⟩ := id S
  have K := G.1
  have hP : va_P D vwCl [(ka, .inr (6, [.int (nI 0), .int (nI j)])), (la, .inr (2, [.ref lp, .ref lx, .ref ld, .ref lr, .int (nI n), .int (nI cu), .int (row 2)])), (lp, .inl (dA 0, 7, .inl (fun k => row (6 + k)))), (lx, .inl (dA 0, 7, .inl (fun k => row (77 + k)))), (ld, .inl (dA 0, 8, .inl (fun k => row (13 + k)))), (lr, .inl (dA 0, 56, .inl (fun k => row (21 + k))))] s.heap := hP
  have hl : lv_has ls 2 [(0, .ref ka), (1, .ref la)] := hl
  refine lv_iconst (v := nI 1) hx hb dX6_constant_0 (by decide) ?_
  exact x_iret hx hb hrt hlk rfl dX6_constant_1

set_option maxHeartbeats 4000000 in
theorem xk_sum_R (l : Launch) (D : va_G) (dA : Nat → ClassId) (E : Nat) (ad : Nat → Nat) (sz0 : Nat) (la lp lx ld lr : Nat) (row : Nat → Int32) {n cu : Nat} (hn : n ≤ 7) (hcu : cu ≤ 8) (ka j : Nat) (hj : j < 8) (pl : Nat) (hp : pl < 128) : RO l yX4_sum cX4_sum 5 (some .int) 2 80 [.ref ka, .ref la, .int (nI pl)] (G0 D dA E ad sz0) (fun H => va_P D vwCl (kR ka j ++ lW dA la lp lx ld lr row n cu) H) (some (.int (xSumR row n j pl))) := by
  refine ro_of (by decide) (Nat.le_of_ble_eq_true rfl) ?_
  intro p e s m below meth c S hrt hlk G hP ls hl
  obtain ⟨hx, hb, hml, hown, hts⟩ := id S
  have K := G.1
  have hP : va_P D vwCl [(ka, .inr (6, [.int (nI 0), .int (nI j)])), (la, .inr (2, [.ref lp, .ref lx, .ref ld, .ref lr, .int (nI n), .int (nI cu), .int (row 2)])), (lp, .inl (dA 0, 7, .inl (fun k => row (6 + k)))), (lx, .inl (dA 0, 7, .inl (fun k => row (77 + k)))), (ld, .inl (dA 0, 8, .inl (fun k => row (13 + k)))), (lr, .inl (dA 0, 56, .inl (fun k => row (21 + k))))] s.heap := hP
  have hl : lv_has ls 5 [(0, .ref ka), (1, .ref la), (2, .int (nI pl))] := hl
  refine lv_iconst (v := nI 0) hx hb dX4_sum_0 (by decide) ?_
  refine lv_istore_n (lv' := [(3, .int (nI 0)), (0, .ref ka), (1, .ref la), (2, .int (nI pl))]) hx hb dX4_sum_1 rfl hl (by decide) rfl (fun ls hl => ?_)
  refine lv_iconst (v := nI 0) hx hb dX4_sum_2 (by decide) ?_
  refine lv_istore (lv' := [(4, .int (nI 0)), (3, .int (nI 0)), (0, .ref ka), (1, .ref la), (2, .int (nI pl))]) hx hb dX4_sum_3 hl (by decide) rfl (fun ls hl => ?_)
  refine lpI (xSuR row j pl) (nI 0) n (fun k a ls => lv_has ls 5 [(0, .ref ka), (1, .ref la), (2, .int (nI pl)), (3, .int a), (4, .int (nI k))]) (fun ls => W p l e (rmR 2 80) s m ([.ref ka, .ref la, .int (nI pl)]).toArray below meth c s.heap [] 0 0 (MQ below (QRet (some (.int (xSumR row n j pl)))) ([.ref ka, .ref la, .int (nI pl)]).toArray s 0 0 (fun _ => False)) (F0 m 5 ls [])) ?_ ?_ ls (lv_sub hl [2, 3, 4, 1, 0] rfl)
  · intro k ls hk_1 hl ih
    generalize iter (xSuR row j pl) k 0 (nI 0) = a at *
    have hl : lv_has ls 5 [(0, .ref ka), (1, .ref la), (2, .int (nI pl)), (3, .int a), (4, .int (nI k))] := hl
    show W p l e (rmR 2 80) s m ([.ref ka, .ref la, .int (nI pl)]).toArray below meth c s.heap [] 0 0 (MQ below (QRet (some (.int (xSumR row n j pl)))) ([.ref ka, .ref la, .int (nI pl)]).toArray s 0 0 (fun _ => False)) (F0 m 5 ls [])
    refine lv_iload hx hb dX4_sum_5 (lv_at hl 4 rfl) ?_
    refine lv_aload_n hx hb dX4_sum_7 rfl (lv_at hl 1 rfl) ?_
    refine va_getN (D := D) (ci := 2) (C := RX2) (T := TX2) (N := 7) hx hb hts in_X2 hown K hP 1 rfl rfl 4 (by decide) (va_Nw.use rfl (G.2.1 _ q121 rfl)) (fun _ h9 => h9) rfl dX4_sum_8 ?_
    refine lv_icmp_ge (tgt := 43) hx hb dX4_sum_11 (by decide) (fun h => absurd h (nI_ge hk_1 (by omega))) (fun _ => ?_)
    refine lv_iload_n hx hb dX4_sum_14 rfl (lv_at hl 3 rfl) ?_
    refine lv_iload_n hx hb dX4_sum_15 rfl (lv_at hl 2 rfl) ?_
    refine lv_iload hx hb dX4_sum_16 (lv_at hl 4 rfl) ?_
    refine x_ret (va_runSN (As := [.int (nI pl), .int (nI k)]) (rest := [.int a]) S (xr_has l pl k (by omega) (by omega)) ⟨va_cnB 2 hts (lw_meth q430) rfl rfl rfl (G.2.1 _ q540 rfl) (hts _ q59) hdX0_has ⟨Nat.le_of_ble_eq_true rfl, Nat.le_of_ble_eq_true rfl⟩, hts _ q429, trivial⟩ ⟨bb_blind tt_bl _, tt_pre _⟩ rfl rfl hl.1 rfl (lv_room (Nat.le_of_ble_eq_true rfl)) dX4_sum_18 ⟨Nat.le_refl _, Nat.le_refl _⟩) ?_
    refine x_ifb_eq (tgt := 34) hx hb dX4_sum_21 (by decide) (fun h_3 => ?_) (fun h_3 => ?_)
    · refine lv_iconst (v := nI 0) hx hb dX4_sum_34 (by decide) ?_
      refine lv_iadd hx hb dX4_sum_35 ?_
      refine lv_istore_n (lv' := [(3, .int (a + (nI 0))), (0, .ref ka), (1, .ref la), (2, .int (nI pl)), (4, .int (nI k))]) hx hb dX4_sum_36 rfl hl (by decide) rfl (fun ls hl => ?_)
      refine lv_iinc (v := nI (k + 1)) (lv' := [(4, .int (nI (k + 1))), (3, .int (a + (nI 0))), (0, .ref ka), (1, .ref la), (2, .int (nI pl))]) hx hb dX4_sum_37 hl (k := 4) rfl (nI_1 k) (by decide) rfl (fun ls hl => ?_)
      refine lv_goto (tgt := 5) hx hb dX4_sum_40 (by decide) ?_
      refine ih ls ?_
      show lv_has ls 5 [(0, .ref ka), (1, .ref la), (2, .int (nI pl)), (3, .int ((xSuR row j pl) k a)), (4, .int (nI (k + 1)))]
      rw [show (xSuR row j pl) k a = a + (nI 0) from (by simp [xSuR, xSuP, h_3])]
      exact lv_sub hl [2, 3, 4, 1, 0] rfl
    · refine lv_aload_n hx hb dX4_sum_24 rfl (lv_at hl 0 rfl) ?_
      refine lv_aload_n hx hb dX4_sum_25 rfl (lv_at hl 1 rfl) ?_
      refine lv_iload hx hb dX4_sum_26 (lv_at hl 4 rfl) ?_
      refine x_ret (va_runU (As := [.ref la, .int (nI k)]) (rest := [.int a]) S (xk_weight_R l D dA E ad sz0 la lp lx ld lr row hn hcu ka j hj k (by omega)) (va_cwA 2 hts (lw_U (x := ⟨"SiteCuts$Cut", "weight", "(LSiteCuts$Land;I)I"⟩) (owner := "SiteCuts$Cut") q541 q543 q549 q550 q81 q551) rfl rfl rfl (G.2.1 _ q542 rfl) (by decide +kernel) ⟨Nat.le_of_ble_eq_true rfl, Nat.le_of_ble_eq_true rfl⟩) ⟨bb_blind g0_bl _, va_recv K hP (ci := 6) (q0 := 0) rfl rfl, bb_pre (g0_mv G (fun _ _ => rfl) (Nat.le_refl _)) hP _⟩ rfl rfl hl.1 rfl (lv_room (Nat.le_of_ble_eq_true rfl)) dX4_sum_28 ⟨Nat.le_refl _, Nat.le_refl _⟩) ?_
      refine lv_goto (tgt := 35) hx hb dX4_sum_31 (by decide) ?_
      refine lv_iadd hx hb dX4_sum_35 ?_
      refine lv_istore_n (lv' := [(3, .int (a + (xRw row j k))), (0, .ref ka), (1, .ref la), (2, .int (nI pl)), (4, .int (nI k))]) hx hb dX4_sum_36 rfl hl (by decide) rfl (fun ls hl => ?_)
      refine lv_iinc (v := nI (k + 1)) (lv' := [(4, .int (nI (k + 1))), (3, .int (a + (xRw row j k))), (0, .ref ka), (1, .ref la), (2, .int (nI pl))]) hx hb dX4_sum_37 hl (k := 4) rfl (nI_1 k) (by decide) rfl (fun ls hl => ?_)
      refine lv_goto (tgt := 5) hx hb dX4_sum_40 (by decide) ?_
      refine ih ls ?_
      show lv_has ls 5 [(0, .ref ka), (1, .ref la), (2, .int (nI pl)), (3, .int ((xSuR row j pl) k a)), (4, .int (nI (k + 1)))]
      rw [show (xSuR row j pl) k a = a + (xRw row j k) from (by simp [xSuR, xSuP, h_3])]
      exact lv_sub hl [2, 3, 4, 1, 0] rfl
  · intro ls hl
    have hl : lv_has ls 5 [(0, .ref ka), (1, .ref la), (2, .int (nI pl)), (3, .int (xSumR row n j pl)), (4, .int (nI n))] := hl
    show W p l e (rmR 2 80) s m ([.ref ka, .ref la, .int (nI pl)]).toArray below meth c s.heap [] 0 0 (MQ below (QRet (some (.int (xSumR row n j pl)))) ([.ref ka, .ref la, .int (nI pl)]).toArray s 0 0 (fun _ => False)) (F0 m 5 ls [])
    refine lv_iload hx hb dX4_sum_5 (lv_at hl 4 rfl) ?_
    refine lv_aload_n hx hb dX4_sum_7 rfl (lv_at hl 1 rfl) ?_
    refine va_getN (D := D) (ci := 2) (C := RX2) (T := TX2) (N := 7) hx hb hts in_X2 hown K hP 1 rfl rfl 4 (by decide) (va_Nw.use rfl (G.2.1 _ q121 rfl)) (fun _ h9 => h9) rfl dX4_sum_8 ?_
    refine lv_icmp_ge (tgt := 43) hx hb dX4_sum_11 (by decide) (fun _ => ?_) (fun h => absurd (nI_le (by omega) (by omega)) h)
    refine lv_iload_n hx hb dX4_sum_43 rfl (lv_at hl 3 rfl) ?_
    exact x_iret hx hb hrt hlk rfl dX4_sum_44

set_option maxHeartbeats 4000000 in
theorem xk_isRay_R (l : Launch) (D : va_G) (dA : Nat → ClassId) (E : Nat) (ad : Nat → Nat) (sz0 : Nat) (la lp lx ld lr : Nat) (row : Nat → Int32) {n cu : Nat} (hn : n ≤ 7) (hcu : cu ≤ 8) (ka j : Nat) (hj : j < 8)  : RO l yX4_isRay cX4_isRay 1 (some .boolean) 0 0 [.ref ka] (G0 D dA E ad sz0) (fun H => va_P D vwCl (kR ka j ++ lW dA la lp lx ld lr row n cu) H) (some (.int (bI true))) := by
  refine ro_of (by decide) (Nat.le_of_ble_eq_true rfl) ?_
  intro p e s m below meth c S hrt hlk G hP ls hl
  obtain ⟨hx, hb, hml, hown, hts⟩ := id S
  have K := G.1
  have hP : va_P D vwCl [(ka, .inr (6, [.int (nI 0), .int (nI j)])), (la, .inr (2, [.ref lp, .ref lx, .ref ld, .ref lr, .int (nI n), .int (nI cu), .int (row 2)])), (lp, .inl (dA 0, 7, .inl (fun k => row (6 + k)))), (lx, .inl (dA 0, 7, .inl (fun k => row (77 + k)))), (ld, .inl (dA 0, 8, .inl (fun k => row (13 + k)))), (lr, .inl (dA 0, 56, .inl (fun k => row (21 + k))))] s.heap := hP
  have hl : lv_has ls 1 [(0, .ref ka)] := hl
  refine lv_aload_n hx hb dX4_isRay_0 rfl (lv_at hl 0 rfl) ?_
  refine va_get (D := D) (ci := 6) (C := RX6) (T := TX6) (N := 2) hx hb hts in_X6 hown K hP 0 rfl rfl 0 (by decide) (hts _ q628) (fun _ h9 => h9) rfl dX4_isRay_1 ?_
  refine lv_if_ne (tgt := 11) hx hb dX4_isRay_4 (by decide) (fun h => absurd h (by decide)) (fun _ => ?_)
  refine lv_iconst (v := nI 1) hx hb dX4_isRay_7 (by decide) ?_
  refine lv_goto (tgt := 12) hx hb dX4_isRay_8 (by decide) ?_
  exact x_zret hx hb hrt hlk rfl dX4_isRay_12

set_option maxHeartbeats 4000000 in
theorem xk_value_R (l : Launch) (D : va_G) (dA : Nat → ClassId) (E : Nat) (ad : Nat → Nat) (sz0 : Nat) (la lp lx ld lr : Nat) (row : Nat → Int32) {n cu : Nat} (hn : n ≤ 7) (hcu : cu ≤ 8) (ka j : Nat) (hj : j < 8) (pl : Nat) (hp : pl < 128) : RO l yX4_value cX4_value 3 (some .int) 3 120 [.ref ka, .ref la, .int (nI pl)] (G0 D dA E ad sz0) (fun H => va_P D vwCl (kR ka j ++ lW dA la lp lx ld lr row n cu) H) (some (.int (xSumR row n j pl))) := by
  refine ro_of (by decide) (Nat.le_of_ble_eq_true rfl) ?_
  intro p e s m below meth c S hrt hlk G hP ls hl
  obtain ⟨hx, hb, hml, hown, hts⟩ := id S
  have K := G.1
  have hP : va_P D vwCl [(ka, .inr (6, [.int (nI 0), .int (nI j)])), (la, .inr (2, [.ref lp, .ref lx, .ref ld, .ref lr, .int (nI n), .int (nI cu), .int (row 2)])), (lp, .inl (dA 0, 7, .inl (fun k => row (6 + k)))), (lx, .inl (dA 0, 7, .inl (fun k => row (77 + k)))), (ld, .inl (dA 0, 8, .inl (fun k => row (13 + k)))), (lr, .inl (dA 0, 56, .inl (fun k => row (21 + k))))] s.heap := hP
  have hl : lv_has ls 3 [(0, .ref ka), (1, .ref la), (2, .int (nI pl))] := hl
  refine lv_aload_n hx hb dX4_value_0 rfl (lv_at hl 0 rfl) ?_
  refine lv_aload_n hx hb dX4_value_1 rfl (lv_at hl 1 rfl) ?_
  refine lv_iload_n hx hb dX4_value_2 rfl (lv_at hl 2 rfl) ?_
  refine x_ret (va_runU (As := [.ref la, .int (nI pl)]) (rest := []) S (xk_sum_R l D dA E ad sz0 la lp lx ld lr row hn hcu ka j hj pl (by omega)) (va_cwU 2 hts (lw_U (x := ⟨"SiteCuts$Cut", "sum", "(LSiteCuts$Land;I)I"⟩) (owner := "SiteCuts$Cut") q559 q1364 q1366 q538 q79 q539) rfl rfl rfl rfl (by decide +kernel) ⟨Nat.le_of_ble_eq_true rfl, Nat.le_of_ble_eq_true rfl⟩) ⟨bb_blind g0_bl _, va_recv K hP (ci := 6) (q0 := 0) rfl rfl, bb_pre (g0_mv G (fun _ _ => rfl) (Nat.le_refl _)) hP _⟩ rfl rfl hl.1 rfl (lv_room (Nat.le_of_ble_eq_true rfl)) dX4_value_3 ⟨Nat.le_refl _, Nat.le_refl _⟩) ?_
  exact x_iret hx hb hrt hlk rfl dX4_value_6

set_option maxHeartbeats 4000000 in
theorem xk_weight_P (l : Launch) (D : va_G) (dA : Nat → ClassId) (E : Nat) (ad : Nat → Nat) (sz0 : Nat) (la lp lx ld lr : Nat) (row : Nat → Int32) {n cu : Nat} (hn : n ≤ 7) (hcu : cu ≤ 8) (ka kn : Nat) (nums : Nat → Int32) (kc : Nat) (hnum : ∀ c, c < cu → nums c = row (84 + 9 * kc + 1 + c)) (s0 : Nat) (hs0 : s0 < 7) : RO l yX5_weight cX5_weight 5 (some .int) 1 40 [.ref ka, .ref la, .int (nI s0)] (G0 D dA E ad sz0) (fun H => va_P D vwCl (kP dA 5 ka kn nums ++ lW dA la lp lx ld lr row n cu) H) (some (.int (mWeight row cu kc s0))) := by
  refine ro_of (by decide) (Nat.le_of_ble_eq_true rfl) ?_
  intro p e s m below meth c S hrt hlk G hP ls hl
  obtain ⟨hx, hb, hml, hown, hts⟩ := id S
  have K := G.1
  have hP : va_P D vwCl [(ka, .inr (5, [.int (nI 1), .ref kn])), (kn, .inl (dA 0, 8, .inl nums)), (la, .inr (2, [.ref lp, .ref lx, .ref ld, .ref lr, .int (nI n), .int (nI cu), .int (row 2)])), (lp, .inl (dA 0, 7, .inl (fun k => row (6 + k)))), (lx, .inl (dA 0, 7, .inl (fun k => row (77 + k)))), (ld, .inl (dA 0, 8, .inl (fun k => row (13 + k)))), (lr, .inl (dA 0, 56, .inl (fun k => row (21 + k))))] s.heap := hP
  have hl : lv_has ls 5 [(0, .ref ka), (1, .ref la), (2, .int (nI s0))] := hl
  refine lv_iconst (v := nI 0) hx hb dX5_weight_0 (by decide) ?_
  refine lv_istore_n (lv' := [(3, .int (nI 0)), (0, .ref ka), (1, .ref la), (2, .int (nI s0))]) hx hb dX5_weight_1 rfl hl (by decide) rfl (fun ls hl => ?_)
  refine lv_iconst (v := nI 0) hx hb dX5_weight_2 (by decide) ?_
  refine lv_istore (lv' := [(4, .int (nI 0)), (3, .int (nI 0)), (0, .ref ka), (1, .ref la), (2, .int (nI s0))]) hx hb dX5_weight_3 hl (by decide) rfl (fun ls hl => ?_)
  refine lpI (mWtS row kc s0) (nI 0) cu (fun k a ls => lv_has ls 5 [(0, .ref ka), (1, .ref la), (2, .int (nI s0)), (3, .int a), (4, .int (nI k))]) (fun ls => W p l e (rmR 1 40) s m ([.ref ka, .ref la, .int (nI s0)]).toArray below meth c s.heap [] 0 0 (MQ below (QRet (some (.int (mWeight row cu kc s0)))) ([.ref ka, .ref la, .int (nI s0)]).toArray s 0 0 (fun _ => False)) (F0 m 5 ls [])) ?_ ?_ ls (lv_sub hl [2, 3, 4, 1, 0] rfl)
  · intro k ls hk_1 hl ih
    generalize iter (mWtS row kc s0) k 0 (nI 0) = a at *
    have hl : lv_has ls 5 [(0, .ref ka), (1, .ref la), (2, .int (nI s0)), (3, .int a), (4, .int (nI k))] := hl
    show W p l e (rmR 1 40) s m ([.ref ka, .ref la, .int (nI s0)]).toArray below meth c s.heap [] 0 0 (MQ below (QRet (some (.int (mWeight row cu kc s0)))) ([.ref ka, .ref la, .int (nI s0)]).toArray s 0 0 (fun _ => False)) (F0 m 5 ls [])
    refine lv_iload hx hb dX5_weight_5 (lv_at hl 4 rfl) ?_
    refine lv_aload_n hx hb dX5_weight_7 rfl (lv_at hl 1 rfl) ?_
    refine va_getN (D := D) (ci := 2) (C := RX2) (T := TX2) (N := 7) hx hb hts in_X2 hown K hP 2 rfl rfl 5 (by decide) (va_Nw.use rfl (G.2.1 _ q122 rfl)) (fun _ h9 => h9) rfl dX5_weight_8 ?_
    refine lv_icmp_ge (tgt := 50) hx hb dX5_weight_11 (by decide) (fun h => absurd h (nI_ge hk_1 (by omega))) (fun _ => ?_)
    refine lv_iload_n hx hb dX5_weight_14 rfl (lv_at hl 3 rfl) ?_
    refine lv_aload_n hx hb dX5_weight_15 rfl (lv_at hl 1 rfl) ?_
    refine va_getN (D := D) (ci := 2) (C := RX2) (T := TX2) (N := 7) hx hb hts in_X2 hown K hP 2 rfl rfl 2 (by decide) (va_Nw.use rfl (G.2.1 _ q114 rfl)) (fun _ h9 => h9) rfl dX5_weight_16 ?_
    refine lv_iload hx hb dX5_weight_19 (lv_at hl 4 rfl) ?_
    refine x_iald hx hb K hP 5 0 rfl rfl k rfl (by omega) (by decide) rfl dX5_weight_21 ?_
    refine lv_iconst (v := nI 0) hx hb dX5_weight_22 (by decide) ?_
    refine lv_aload_n hx hb dX5_weight_23 rfl (lv_at hl 0 rfl) ?_
    refine va_get (D := D) (ci := 5) (C := RX5) (T := TX5) (N := 2) hx hb hts in_X5 hown K hP 0 rfl rfl 1 (by decide) (hts _ q627) (fun _ h9 => h9) rfl dX5_weight_24 ?_
    refine lv_iload hx hb dX5_weight_27 (lv_at hl 4 rfl) ?_
    refine x_iald (v := row (84 + 9 * kc + 1 + k)) hx hb K hP 1 0 rfl rfl k rfl (by omega) (by decide) (hnum k (by omega)) dX5_weight_29 ?_
    refine lv_aload_n hx hb dX5_weight_30 rfl (lv_at hl 1 rfl) ?_
    refine lv_iload_n hx hb dX5_weight_31 rfl (lv_at hl 2 rfl) ?_
    refine lv_iload hx hb dX5_weight_32 (lv_at hl 4 rfl) ?_
    refine x_ret (va_runV (As := [.int (nI s0), .int (nI k)]) (rest := [.int (row (84 + 9 * kc + 1 + k)), .int (nI 0), .int (row (13 + k)), .int a]) S (xr_route l D dA E ad sz0 la lp lx ld lr row hn hcu s0 k (by omega) (by omega)) (cwV 2 hts (lw_V q547 q417 q418 q61 q419) rfl rfl rfl hdX2_route ⟨Nat.le_of_ble_eq_true rfl, Nat.le_of_ble_eq_true rfl⟩) ⟨bb_blind g0_bl _, va_recv K hP (ci := 2) (q0 := 2) rfl rfl, bb_pre (g0_mv G (fun _ _ => rfl) (Nat.le_refl _)) (hP.sub [2, 3, 4, 5, 6] rfl) _⟩ rfl rfl hl.1 rfl (lv_room (Nat.le_of_ble_eq_true rfl)) dX5_weight_34 ⟨Nat.le_refl _, Nat.le_refl _⟩) ?_
    refine lv_isub hx hb dX5_weight_37 ?_
    refine va_mmax hx hb (hml.trans hl.1.symm) hown (hts _ q548) (hts _ q321) (hts _ q72) (hts _ q322) (Nat.le_of_ble_eq_true rfl) (Nat.le_of_ble_eq_true rfl) (Nat.le_refl _) (Nat.le_refl _) dX5_weight_38 ?_
    refine x_top (y := xMax (nI 0) ((row (84 + 9 * kc + 1 + k)) - (row (21 + 8 * s0 + k)))) rfl ?_
    refine lv_imul hx hb dX5_weight_41 ?_
    refine lv_iadd hx hb dX5_weight_42 ?_
    refine lv_istore_n (lv' := [(3, .int (a + ((row (13 + k)) * (xMax (nI 0) ((row (84 + 9 * kc + 1 + k)) - (row (21 + 8 * s0 + k))))))), (0, .ref ka), (1, .ref la), (2, .int (nI s0)), (4, .int (nI k))]) hx hb dX5_weight_43 rfl hl (by decide) rfl (fun ls hl => ?_)
    refine lv_iinc (v := nI (k + 1)) (lv' := [(4, .int (nI (k + 1))), (3, .int (a + ((row (13 + k)) * (xMax (nI 0) ((row (84 + 9 * kc + 1 + k)) - (row (21 + 8 * s0 + k))))))), (0, .ref ka), (1, .ref la), (2, .int (nI s0))]) hx hb dX5_weight_44 hl (k := 4) rfl (nI_1 k) (by decide) rfl (fun ls hl => ?_)
    refine lv_goto (tgt := 5) hx hb dX5_weight_47 (by decide) ?_
    refine ih ls ?_
    show lv_has ls 5 [(0, .ref ka), (1, .ref la), (2, .int (nI s0)), (3, .int ((mWtS row kc s0) k a)), (4, .int (nI (k + 1)))]
    rw [show (mWtS row kc s0) k a = a + ((row (13 + k)) * (xMax (nI 0) ((row (84 + 9 * kc + 1 + k)) - (row (21 + 8 * s0 + k))))) from (wt_step _ _ _ _ _)]
    exact lv_sub hl [2, 3, 4, 1, 0] rfl
  · intro ls hl
    have hl : lv_has ls 5 [(0, .ref ka), (1, .ref la), (2, .int (nI s0)), (3, .int (mWeight row cu kc s0)), (4, .int (nI cu))] := hl
    show W p l e (rmR 1 40) s m ([.ref ka, .ref la, .int (nI s0)]).toArray below meth c s.heap [] 0 0 (MQ below (QRet (some (.int (mWeight row cu kc s0)))) ([.ref ka, .ref la, .int (nI s0)]).toArray s 0 0 (fun _ => False)) (F0 m 5 ls [])
    refine lv_iload hx hb dX5_weight_5 (lv_at hl 4 rfl) ?_
    refine lv_aload_n hx hb dX5_weight_7 rfl (lv_at hl 1 rfl) ?_
    refine va_getN (D := D) (ci := 2) (C := RX2) (T := TX2) (N := 7) hx hb hts in_X2 hown K hP 2 rfl rfl 5 (by decide) (va_Nw.use rfl (G.2.1 _ q122 rfl)) (fun _ h9 => h9) rfl dX5_weight_8 ?_
    refine lv_icmp_ge (tgt := 50) hx hb dX5_weight_11 (by decide) (fun _ => ?_) (fun h => absurd (nI_le (by omega) (by omega)) h)
    refine lv_iload_n hx hb dX5_weight_50 rfl (lv_at hl 3 rfl) ?_
    exact x_iret hx hb hrt hlk rfl dX5_weight_51

set_option maxHeartbeats 4000000 in
theorem xk_constant_P (l : Launch) (D : va_G) (dA : Nat → ClassId) (E : Nat) (ad : Nat → Nat) (sz0 : Nat) (la lp lx ld lr : Nat) (row : Nat → Int32) {n cu : Nat} (hn : n ≤ 7) (hcu : cu ≤ 8) (ka kn : Nat) (nums : Nat → Int32) (kc : Nat) (hnum : ∀ c, c < cu → nums c = row (84 + 9 * kc + 1 + c))  : RO l yX5_constant cX5_constant 4 (some .int) 0 0 [.ref ka, .ref la] (G0 D dA E ad sz0) (fun H => va_P D vwCl (kP dA 5 ka kn nums ++ lW dA la lp lx ld lr row n cu) H) (some (.int (mConst row cu kc))) := by
  refine ro_of (by decide) (Nat.le_of_ble_eq_true rfl) ?_
  intro p e s m below meth c S hrt hlk G hP ls hl
  obtain ⟨hx, hb, hml, hown, hts⟩ := id S
  have K := G.1
  have hP : va_P D vwCl [(ka, .inr (5, [.int (nI 1), .ref kn])), (kn, .inl (dA 0, 8, .inl nums)), (la, .inr (2, [.ref lp, .ref lx, .ref ld, .ref lr, .int (nI n), .int (nI cu), .int (row 2)])), (lp, .inl (dA 0, 7, .inl (fun k => row (6 + k)))), (lx, .inl (dA 0, 7, .inl (fun k => row (77 + k)))), (ld, .inl (dA 0, 8, .inl (fun k => row (13 + k)))), (lr, .inl (dA 0, 56, .inl (fun k => row (21 + k))))] s.heap := hP
  have hl : lv_has ls 4 [(0, .ref ka), (1, .ref la)] := hl
  refine lv_iconst (v := nI 0) hx hb dX5_constant_0 (by decide) ?_
  refine lv_istore_n (lv' := [(2, .int (nI 0)), (0, .ref ka), (1, .ref la)]) hx hb dX5_constant_1 rfl hl (by decide) rfl (fun ls hl => ?_)
  refine lv_iconst (v := nI 0) hx hb dX5_constant_2 (by decide) ?_
  refine lv_istore_n (lv' := [(3, .int (nI 0)), (2, .int (nI 0)), (0, .ref ka), (1, .ref la)]) hx hb dX5_constant_3 rfl hl (by decide) rfl (fun ls hl => ?_)
  refine lpI (mCoS row kc) (nI 0) cu (fun k a ls => lv_has ls 4 [(0, .ref ka), (1, .ref la), (2, .int a), (3, .int (nI k))]) (fun ls => W p l e (rmR 0 0) s m ([.ref ka, .ref la]).toArray below meth c s.heap [] 0 0 (MQ below (QRet (some (.int (mConst row cu kc)))) ([.ref ka, .ref la]).toArray s 0 0 (fun _ => False)) (F0 m 4 ls [])) ?_ ?_ ls (lv_sub hl [2, 3, 1, 0] rfl)
  · intro k ls hk_1 hl ih
    generalize iter (mCoS row kc) k 0 (nI 0) = a at *
    have hl : lv_has ls 4 [(0, .ref ka), (1, .ref la), (2, .int a), (3, .int (nI k))] := hl
    show W p l e (rmR 0 0) s m ([.ref ka, .ref la]).toArray below meth c s.heap [] 0 0 (MQ below (QRet (some (.int (mConst row cu kc)))) ([.ref ka, .ref la]).toArray s 0 0 (fun _ => False)) (F0 m 4 ls [])
    refine lv_iload_n hx hb dX5_constant_4 rfl (lv_at hl 3 rfl) ?_
    refine lv_aload_n hx hb dX5_constant_5 rfl (lv_at hl 1 rfl) ?_
    refine va_getN (D := D) (ci := 2) (C := RX2) (T := TX2) (N := 7) hx hb hts in_X2 hown K hP 2 rfl rfl 5 (by decide) (va_Nw.use rfl (G.2.1 _ q122 rfl)) (fun _ h9 => h9) rfl dX5_constant_6 ?_
    refine lv_icmp_ge (tgt := 34) hx hb dX5_constant_9 (by decide) (fun h => absurd h (nI_ge hk_1 (by omega))) (fun _ => ?_)
    refine lv_iload_n hx hb dX5_constant_12 rfl (lv_at hl 2 rfl) ?_
    refine lv_aload_n hx hb dX5_constant_13 rfl (lv_at hl 1 rfl) ?_
    refine va_getN (D := D) (ci := 2) (C := RX2) (T := TX2) (N := 7) hx hb hts in_X2 hown K hP 2 rfl rfl 2 (by decide) (va_Nw.use rfl (G.2.1 _ q114 rfl)) (fun _ h9 => h9) rfl dX5_constant_14 ?_
    refine lv_iload_n hx hb dX5_constant_17 rfl (lv_at hl 3 rfl) ?_
    refine x_iald hx hb K hP 5 0 rfl rfl k rfl (by omega) (by decide) rfl dX5_constant_18 ?_
    refine lv_aload_n hx hb dX5_constant_19 rfl (lv_at hl 0 rfl) ?_
    refine va_get (D := D) (ci := 5) (C := RX5) (T := TX5) (N := 2) hx hb hts in_X5 hown K hP 0 rfl rfl 1 (by decide) (hts _ q627) (fun _ h9 => h9) rfl dX5_constant_20 ?_
    refine lv_iload_n hx hb dX5_constant_23 rfl (lv_at hl 3 rfl) ?_
    refine x_iald (v := row (84 + 9 * kc + 1 + k)) hx hb K hP 1 0 rfl rfl k rfl (by omega) (by decide) (hnum k (by omega)) dX5_constant_24 ?_
    refine lv_imul hx hb dX5_constant_25 ?_
    refine lv_iadd hx hb dX5_constant_26 ?_
    refine lv_istore_n (lv' := [(2, .int (a + ((row (13 + k)) * (row (84 + 9 * kc + 1 + k))))), (0, .ref ka), (1, .ref la), (3, .int (nI k))]) hx hb dX5_constant_27 rfl hl (by decide) rfl (fun ls hl => ?_)
    refine lv_iinc (v := nI (k + 1)) (lv' := [(3, .int (nI (k + 1))), (2, .int (a + ((row (13 + k)) * (row (84 + 9 * kc + 1 + k))))), (0, .ref ka), (1, .ref la)]) hx hb dX5_constant_28 hl (k := 3) rfl (nI_1 k) (by decide) rfl (fun ls hl => ?_)
    refine lv_goto (tgt := 4) hx hb dX5_constant_31 (by decide) ?_
    refine ih ls ?_
    show lv_has ls 4 [(0, .ref ka), (1, .ref la), (2, .int ((mCoS row kc) k a)), (3, .int (nI (k + 1)))]
    rw [show (mCoS row kc) k a = a + ((row (13 + k)) * (row (84 + 9 * kc + 1 + k))) from rfl]
    exact lv_sub hl [2, 3, 1, 0] rfl
  · intro ls hl
    have hl : lv_has ls 4 [(0, .ref ka), (1, .ref la), (2, .int (mConst row cu kc)), (3, .int (nI cu))] := hl
    show W p l e (rmR 0 0) s m ([.ref ka, .ref la]).toArray below meth c s.heap [] 0 0 (MQ below (QRet (some (.int (mConst row cu kc)))) ([.ref ka, .ref la]).toArray s 0 0 (fun _ => False)) (F0 m 4 ls [])
    refine lv_iload_n hx hb dX5_constant_4 rfl (lv_at hl 3 rfl) ?_
    refine lv_aload_n hx hb dX5_constant_5 rfl (lv_at hl 1 rfl) ?_
    refine va_getN (D := D) (ci := 2) (C := RX2) (T := TX2) (N := 7) hx hb hts in_X2 hown K hP 2 rfl rfl 5 (by decide) (va_Nw.use rfl (G.2.1 _ q122 rfl)) (fun _ h9 => h9) rfl dX5_constant_6 ?_
    refine lv_icmp_ge (tgt := 34) hx hb dX5_constant_9 (by decide) (fun _ => ?_) (fun h => absurd (nI_le (by omega) (by omega)) h)
    refine lv_iload_n hx hb dX5_constant_34 rfl (lv_at hl 2 rfl) ?_
    exact x_iret hx hb hrt hlk rfl dX5_constant_35

set_option maxHeartbeats 4000000 in
theorem xk_sum_P (l : Launch) (D : va_G) (dA : Nat → ClassId) (E : Nat) (ad : Nat → Nat) (sz0 : Nat) (la lp lx ld lr : Nat) (row : Nat → Int32) {n cu : Nat} (hn : n ≤ 7) (hcu : cu ≤ 8) (ka kn : Nat) (nums : Nat → Int32) (kc : Nat) (hnum : ∀ c, c < cu → nums c = row (84 + 9 * kc + 1 + c)) (pl : Nat) (hp : pl < 128) : RO l yX4_sum cX4_sum 5 (some .int) 2 80 [.ref ka, .ref la, .int (nI pl)] (G0 D dA E ad sz0) (fun H => va_P D vwCl (kP dA 5 ka kn nums ++ lW dA la lp lx ld lr row n cu) H) (some (.int (xSumP row n cu kc pl))) := by
  refine ro_of (by decide) (Nat.le_of_ble_eq_true rfl) ?_
  intro p e s m below meth c S hrt hlk G hP ls hl
  obtain ⟨hx, hb, hml, hown, hts⟩ := id S
  have K := G.1
  have hP : va_P D vwCl [(ka, .inr (5, [.int (nI 1), .ref kn])), (kn, .inl (dA 0, 8, .inl nums)), (la, .inr (2, [.ref lp, .ref lx, .ref ld, .ref lr, .int (nI n), .int (nI cu), .int (row 2)])), (lp, .inl (dA 0, 7, .inl (fun k => row (6 + k)))), (lx, .inl (dA 0, 7, .inl (fun k => row (77 + k)))), (ld, .inl (dA 0, 8, .inl (fun k => row (13 + k)))), (lr, .inl (dA 0, 56, .inl (fun k => row (21 + k))))] s.heap := hP
  have hl : lv_has ls 5 [(0, .ref ka), (1, .ref la), (2, .int (nI pl))] := hl
  refine lv_iconst (v := nI 0) hx hb dX4_sum_0 (by decide) ?_
  refine lv_istore_n (lv' := [(3, .int (nI 0)), (0, .ref ka), (1, .ref la), (2, .int (nI pl))]) hx hb dX4_sum_1 rfl hl (by decide) rfl (fun ls hl => ?_)
  refine lv_iconst (v := nI 0) hx hb dX4_sum_2 (by decide) ?_
  refine lv_istore (lv' := [(4, .int (nI 0)), (3, .int (nI 0)), (0, .ref ka), (1, .ref la), (2, .int (nI pl))]) hx hb dX4_sum_3 hl (by decide) rfl (fun ls hl => ?_)
  refine lpI (xSuP row cu kc pl) (nI 0) n (fun k a ls => lv_has ls 5 [(0, .ref ka), (1, .ref la), (2, .int (nI pl)), (3, .int a), (4, .int (nI k))]) (fun ls => W p l e (rmR 2 80) s m ([.ref ka, .ref la, .int (nI pl)]).toArray below meth c s.heap [] 0 0 (MQ below (QRet (some (.int (xSumP row n cu kc pl)))) ([.ref ka, .ref la, .int (nI pl)]).toArray s 0 0 (fun _ => False)) (F0 m 5 ls [])) ?_ ?_ ls (lv_sub hl [2, 3, 4, 1, 0] rfl)
  · intro k ls hk_1 hl ih
    generalize iter (xSuP row cu kc pl) k 0 (nI 0) = a at *
    have hl : lv_has ls 5 [(0, .ref ka), (1, .ref la), (2, .int (nI pl)), (3, .int a), (4, .int (nI k))] := hl
    show W p l e (rmR 2 80) s m ([.ref ka, .ref la, .int (nI pl)]).toArray below meth c s.heap [] 0 0 (MQ below (QRet (some (.int (xSumP row n cu kc pl)))) ([.ref ka, .ref la, .int (nI pl)]).toArray s 0 0 (fun _ => False)) (F0 m 5 ls [])
    refine lv_iload hx hb dX4_sum_5 (lv_at hl 4 rfl) ?_
    refine lv_aload_n hx hb dX4_sum_7 rfl (lv_at hl 1 rfl) ?_
    refine va_getN (D := D) (ci := 2) (C := RX2) (T := TX2) (N := 7) hx hb hts in_X2 hown K hP 2 rfl rfl 4 (by decide) (va_Nw.use rfl (G.2.1 _ q121 rfl)) (fun _ h9 => h9) rfl dX4_sum_8 ?_
    refine lv_icmp_ge (tgt := 43) hx hb dX4_sum_11 (by decide) (fun h => absurd h (nI_ge hk_1 (by omega))) (fun _ => ?_)
    refine lv_iload_n hx hb dX4_sum_14 rfl (lv_at hl 3 rfl) ?_
    refine lv_iload_n hx hb dX4_sum_15 rfl (lv_at hl 2 rfl) ?_
    refine lv_iload hx hb dX4_sum_16 (lv_at hl 4 rfl) ?_
    refine x_ret (va_runSN (As := [.int (nI pl), .int (nI k)]) (rest := [.int a]) S (xr_has l pl k (by omega) (by omega)) ⟨va_cnB 2 hts (lw_meth q430) rfl rfl rfl (G.2.1 _ q540 rfl) (hts _ q59) hdX0_has ⟨Nat.le_of_ble_eq_true rfl, Nat.le_of_ble_eq_true rfl⟩, hts _ q429, trivial⟩ ⟨bb_blind tt_bl _, tt_pre _⟩ rfl rfl hl.1 rfl (lv_room (Nat.le_of_ble_eq_true rfl)) dX4_sum_18 ⟨Nat.le_refl _, Nat.le_refl _⟩) ?_
    refine x_ifb_eq (tgt := 34) hx hb dX4_sum_21 (by decide) (fun h_3 => ?_) (fun h_3 => ?_)
    · refine lv_iconst (v := nI 0) hx hb dX4_sum_34 (by decide) ?_
      refine lv_iadd hx hb dX4_sum_35 ?_
      refine lv_istore_n (lv' := [(3, .int (a + (nI 0))), (0, .ref ka), (1, .ref la), (2, .int (nI pl)), (4, .int (nI k))]) hx hb dX4_sum_36 rfl hl (by decide) rfl (fun ls hl => ?_)
      refine lv_iinc (v := nI (k + 1)) (lv' := [(4, .int (nI (k + 1))), (3, .int (a + (nI 0))), (0, .ref ka), (1, .ref la), (2, .int (nI pl))]) hx hb dX4_sum_37 hl (k := 4) rfl (nI_1 k) (by decide) rfl (fun ls hl => ?_)
      refine lv_goto (tgt := 5) hx hb dX4_sum_40 (by decide) ?_
      refine ih ls ?_
      show lv_has ls 5 [(0, .ref ka), (1, .ref la), (2, .int (nI pl)), (3, .int ((xSuP row cu kc pl) k a)), (4, .int (nI (k + 1)))]
      rw [show (xSuP row cu kc pl) k a = a + (nI 0) from (by simp [xSuR, xSuP, h_3])]
      exact lv_sub hl [2, 3, 4, 1, 0] rfl
    · refine lv_aload_n hx hb dX4_sum_24 rfl (lv_at hl 0 rfl) ?_
      refine lv_aload_n hx hb dX4_sum_25 rfl (lv_at hl 1 rfl) ?_
      refine lv_iload hx hb dX4_sum_26 (lv_at hl 4 rfl) ?_
      refine x_ret (va_runU (As := [.ref la, .int (nI k)]) (rest := [.int a]) S (xk_weight_P l D dA E ad sz0 la lp lx ld lr row hn hcu ka kn nums kc hnum k (by omega)) (va_cwA 2 hts (lw_U (x := ⟨"SiteCuts$Cut", "weight", "(LSiteCuts$Land;I)I"⟩) (owner := "SiteCuts$Cut") q541 q543 q544 q545 q80 q546) rfl rfl rfl (G.2.1 _ q542 rfl) (by decide +kernel) ⟨Nat.le_of_ble_eq_true rfl, Nat.le_of_ble_eq_true rfl⟩) ⟨bb_blind g0_bl _, va_recv K hP (ci := 5) (q0 := 0) rfl rfl, bb_pre (g0_mv G (fun _ _ => rfl) (Nat.le_refl _)) hP _⟩ rfl rfl hl.1 rfl (lv_room (Nat.le_of_ble_eq_true rfl)) dX4_sum_28 ⟨Nat.le_refl _, Nat.le_refl _⟩) ?_
      refine lv_goto (tgt := 35) hx hb dX4_sum_31 (by decide) ?_
      refine lv_iadd hx hb dX4_sum_35 ?_
      refine lv_istore_n (lv' := [(3, .int (a + (mWeight row cu kc k))), (0, .ref ka), (1, .ref la), (2, .int (nI pl)), (4, .int (nI k))]) hx hb dX4_sum_36 rfl hl (by decide) rfl (fun ls hl => ?_)
      refine lv_iinc (v := nI (k + 1)) (lv' := [(4, .int (nI (k + 1))), (3, .int (a + (mWeight row cu kc k))), (0, .ref ka), (1, .ref la), (2, .int (nI pl))]) hx hb dX4_sum_37 hl (k := 4) rfl (nI_1 k) (by decide) rfl (fun ls hl => ?_)
      refine lv_goto (tgt := 5) hx hb dX4_sum_40 (by decide) ?_
      refine ih ls ?_
      show lv_has ls 5 [(0, .ref ka), (1, .ref la), (2, .int (nI pl)), (3, .int ((xSuP row cu kc pl) k a)), (4, .int (nI (k + 1)))]
      rw [show (xSuP row cu kc pl) k a = a + (mWeight row cu kc k) from (by simp [xSuR, xSuP, h_3])]
      exact lv_sub hl [2, 3, 4, 1, 0] rfl
  · intro ls hl
    have hl : lv_has ls 5 [(0, .ref ka), (1, .ref la), (2, .int (nI pl)), (3, .int (xSumP row n cu kc pl)), (4, .int (nI n))] := hl
    show W p l e (rmR 2 80) s m ([.ref ka, .ref la, .int (nI pl)]).toArray below meth c s.heap [] 0 0 (MQ below (QRet (some (.int (xSumP row n cu kc pl)))) ([.ref ka, .ref la, .int (nI pl)]).toArray s 0 0 (fun _ => False)) (F0 m 5 ls [])
    refine lv_iload hx hb dX4_sum_5 (lv_at hl 4 rfl) ?_
    refine lv_aload_n hx hb dX4_sum_7 rfl (lv_at hl 1 rfl) ?_
    refine va_getN (D := D) (ci := 2) (C := RX2) (T := TX2) (N := 7) hx hb hts in_X2 hown K hP 2 rfl rfl 4 (by decide) (va_Nw.use rfl (G.2.1 _ q121 rfl)) (fun _ h9 => h9) rfl dX4_sum_8 ?_
    refine lv_icmp_ge (tgt := 43) hx hb dX4_sum_11 (by decide) (fun _ => ?_) (fun h => absurd (nI_le (by omega) (by omega)) h)
    refine lv_iload_n hx hb dX4_sum_43 rfl (lv_at hl 3 rfl) ?_
    exact x_iret hx hb hrt hlk rfl dX4_sum_44

set_option maxHeartbeats 4000000 in
theorem xk_isRay_P (l : Launch) (D : va_G) (dA : Nat → ClassId) (E : Nat) (ad : Nat → Nat) (sz0 : Nat) (la lp lx ld lr : Nat) (row : Nat → Int32) {n cu : Nat} (hn : n ≤ 7) (hcu : cu ≤ 8) (ka kn : Nat) (nums : Nat → Int32) (kc : Nat) (hnum : ∀ c, c < cu → nums c = row (84 + 9 * kc + 1 + c))  : RO l yX4_isRay cX4_isRay 1 (some .boolean) 0 0 [.ref ka] (G0 D dA E ad sz0) (fun H => va_P D vwCl (kP dA 5 ka kn nums ++ lW dA la lp lx ld lr row n cu) H) (some (.int (bI false))) := by
  refine ro_of (by decide) (Nat.le_of_ble_eq_true rfl) ?_
  intro p e s m below meth c S hrt hlk G hP ls hl
  obtain ⟨hx, hb, hml, hown, hts⟩ := id S
  have K := G.1
  have hP : va_P D vwCl [(ka, .inr (5, [.int (nI 1), .ref kn])), (kn, .inl (dA 0, 8, .inl nums)), (la, .inr (2, [.ref lp, .ref lx, .ref ld, .ref lr, .int (nI n), .int (nI cu), .int (row 2)])), (lp, .inl (dA 0, 7, .inl (fun k => row (6 + k)))), (lx, .inl (dA 0, 7, .inl (fun k => row (77 + k)))), (ld, .inl (dA 0, 8, .inl (fun k => row (13 + k)))), (lr, .inl (dA 0, 56, .inl (fun k => row (21 + k))))] s.heap := hP
  have hl : lv_has ls 1 [(0, .ref ka)] := hl
  refine lv_aload_n hx hb dX4_isRay_0 rfl (lv_at hl 0 rfl) ?_
  refine va_get (D := D) (ci := 5) (C := RX5) (T := TX5) (N := 2) hx hb hts in_X5 hown K hP 0 rfl rfl 0 (by decide) (hts _ q628) (fun _ h9 => h9) rfl dX4_isRay_1 ?_
  refine lv_if_ne (tgt := 11) hx hb dX4_isRay_4 (by decide) (fun _ => ?_) (fun h => absurd h (by decide))
  refine lv_iconst (v := nI 0) hx hb dX4_isRay_11 (by decide) ?_
  exact x_zret hx hb hrt hlk rfl dX4_isRay_12

set_option maxHeartbeats 4000000 in
theorem xk_cvalue_P (l : Launch) (D : va_G) (dA : Nat → ClassId) (E : Nat) (ad : Nat → Nat) (sz0 : Nat) (la lp lx ld lr : Nat) (row : Nat → Int32) {n cu : Nat} (hn : n ≤ 7) (hcu : cu ≤ 8) (ka kn : Nat) (nums : Nat → Int32) (kc : Nat) (hnum : ∀ c, c < cu → nums c = row (84 + 9 * kc + 1 + c)) (pl : Nat) (hp : pl < 128) : RO l yX4_value cX4_value 3 (some .int) 3 120 [.ref ka, .ref la, .int (nI pl)] (G0 D dA E ad sz0) (fun H => va_P D vwCl (kP dA 5 ka kn nums ++ lW dA la lp lx ld lr row n cu) H) (some (.int (xSumP row n cu kc pl))) := by
  refine ro_of (by decide) (Nat.le_of_ble_eq_true rfl) ?_
  intro p e s m below meth c S hrt hlk G hP ls hl
  obtain ⟨hx, hb, hml, hown, hts⟩ := id S
  have K := G.1
  have hP : va_P D vwCl [(ka, .inr (5, [.int (nI 1), .ref kn])), (kn, .inl (dA 0, 8, .inl nums)), (la, .inr (2, [.ref lp, .ref lx, .ref ld, .ref lr, .int (nI n), .int (nI cu), .int (row 2)])), (lp, .inl (dA 0, 7, .inl (fun k => row (6 + k)))), (lx, .inl (dA 0, 7, .inl (fun k => row (77 + k)))), (ld, .inl (dA 0, 8, .inl (fun k => row (13 + k)))), (lr, .inl (dA 0, 56, .inl (fun k => row (21 + k))))] s.heap := hP
  have hl : lv_has ls 3 [(0, .ref ka), (1, .ref la), (2, .int (nI pl))] := hl
  refine lv_aload_n hx hb dX4_value_0 rfl (lv_at hl 0 rfl) ?_
  refine lv_aload_n hx hb dX4_value_1 rfl (lv_at hl 1 rfl) ?_
  refine lv_iload_n hx hb dX4_value_2 rfl (lv_at hl 2 rfl) ?_
  refine x_ret (va_runU (As := [.ref la, .int (nI pl)]) (rest := []) S (xk_sum_P l D dA E ad sz0 la lp lx ld lr row hn hcu ka kn nums kc hnum pl (by omega)) (va_cwU 2 hts (lw_U (x := ⟨"SiteCuts$Cut", "sum", "(LSiteCuts$Land;I)I"⟩) (owner := "SiteCuts$Cut") q559 q1364 q1365 q538 q79 q539) rfl rfl rfl rfl (by decide +kernel) ⟨Nat.le_of_ble_eq_true rfl, Nat.le_of_ble_eq_true rfl⟩) ⟨bb_blind g0_bl _, va_recv K hP (ci := 5) (q0 := 0) rfl rfl, bb_pre (g0_mv G (fun _ _ => rfl) (Nat.le_refl _)) hP _⟩ rfl rfl hl.1 rfl (lv_room (Nat.le_of_ble_eq_true rfl)) dX4_value_3 ⟨Nat.le_refl _, Nat.le_refl _⟩) ?_
  exact x_iret hx hb hrt hlk rfl dX4_value_6

set_option maxHeartbeats 4000000 in
theorem xk_weight_T (l : Launch) (D : va_G) (dA : Nat → ClassId) (E : Nat) (ad : Nat → Nat) (sz0 : Nat) (la lp lx ld lr : Nat) (row : Nat → Int32) {n cu : Nat} (hn : n ≤ 7) (hcu : cu ≤ 8) (ka kn : Nat) (nums : Nat → Int32) (kc : Nat) (hnum : ∀ c, c < cu → nums c = row (84 + 9 * kc + 1 + c)) (s0 : Nat) (hs0 : s0 < 7) : RO l yX5_weight cX5_weight 5 (some .int) 1 40 [.ref ka, .ref la, .int (nI s0)] (G0 D dA E ad sz0) (fun H => va_P D vwCl (kP dA 9 ka kn nums ++ lW dA la lp lx ld lr row n cu) H) (some (.int (mWeight row cu kc s0))) := by
  refine ro_of (by decide) (Nat.le_of_ble_eq_true rfl) ?_
  intro p e s m below meth c S hrt hlk G hP ls hl
  obtain ⟨hx, hb, hml, hown, hts⟩ := id S
  have K := G.1
  have hP : va_P D vwCl [(ka, .inr (9, [.int (nI 1), .ref kn])), (kn, .inl (dA 0, 8, .inl nums)), (la, .inr (2, [.ref lp, .ref lx, .ref ld, .ref lr, .int (nI n), .int (nI cu), .int (row 2)])), (lp, .inl (dA 0, 7, .inl (fun k => row (6 + k)))), (lx, .inl (dA 0, 7, .inl (fun k => row (77 + k)))), (ld, .inl (dA 0, 8, .inl (fun k => row (13 + k)))), (lr, .inl (dA 0, 56, .inl (fun k => row (21 + k))))] s.heap := hP
  have hl : lv_has ls 5 [(0, .ref ka), (1, .ref la), (2, .int (nI s0))] := hl
  refine lv_iconst (v := nI 0) hx hb dX5_weight_0 (by decide) ?_
  refine lv_istore_n (lv' := [(3, .int (nI 0)), (0, .ref ka), (1, .ref la), (2, .int (nI s0))]) hx hb dX5_weight_1 rfl hl (by decide) rfl (fun ls hl => ?_)
  refine lv_iconst (v := nI 0) hx hb dX5_weight_2 (by decide) ?_
  refine lv_istore (lv' := [(4, .int (nI 0)), (3, .int (nI 0)), (0, .ref ka), (1, .ref la), (2, .int (nI s0))]) hx hb dX5_weight_3 hl (by decide) rfl (fun ls hl => ?_)
  refine lpI (mWtS row kc s0) (nI 0) cu (fun k a ls => lv_has ls 5 [(0, .ref ka), (1, .ref la), (2, .int (nI s0)), (3, .int a), (4, .int (nI k))]) (fun ls => W p l e (rmR 1 40) s m ([.ref ka, .ref la, .int (nI s0)]).toArray below meth c s.heap [] 0 0 (MQ below (QRet (some (.int (mWeight row cu kc s0)))) ([.ref ka, .ref la, .int (nI s0)]).toArray s 0 0 (fun _ => False)) (F0 m 5 ls [])) ?_ ?_ ls (lv_sub hl [2, 3, 4, 1, 0] rfl)
  · intro k ls hk_1 hl ih
    generalize iter (mWtS row kc s0) k 0 (nI 0) = a at *
    have hl : lv_has ls 5 [(0, .ref ka), (1, .ref la), (2, .int (nI s0)), (3, .int a), (4, .int (nI k))] := hl
    show W p l e (rmR 1 40) s m ([.ref ka, .ref la, .int (nI s0)]).toArray below meth c s.heap [] 0 0 (MQ below (QRet (some (.int (mWeight row cu kc s0)))) ([.ref ka, .ref la, .int (nI s0)]).toArray s 0 0 (fun _ => False)) (F0 m 5 ls [])
    refine lv_iload hx hb dX5_weight_5 (lv_at hl 4 rfl) ?_
    refine lv_aload_n hx hb dX5_weight_7 rfl (lv_at hl 1 rfl) ?_
    refine va_getN (D := D) (ci := 2) (C := RX2) (T := TX2) (N := 7) hx hb hts in_X2 hown K hP 2 rfl rfl 5 (by decide) (va_Nw.use rfl (G.2.1 _ q122 rfl)) (fun _ h9 => h9) rfl dX5_weight_8 ?_
    refine lv_icmp_ge (tgt := 50) hx hb dX5_weight_11 (by decide) (fun h => absurd h (nI_ge hk_1 (by omega))) (fun _ => ?_)
    refine lv_iload_n hx hb dX5_weight_14 rfl (lv_at hl 3 rfl) ?_
    refine lv_aload_n hx hb dX5_weight_15 rfl (lv_at hl 1 rfl) ?_
    refine va_getN (D := D) (ci := 2) (C := RX2) (T := TX2) (N := 7) hx hb hts in_X2 hown K hP 2 rfl rfl 2 (by decide) (va_Nw.use rfl (G.2.1 _ q114 rfl)) (fun _ h9 => h9) rfl dX5_weight_16 ?_
    refine lv_iload hx hb dX5_weight_19 (lv_at hl 4 rfl) ?_
    refine x_iald hx hb K hP 5 0 rfl rfl k rfl (by omega) (by decide) rfl dX5_weight_21 ?_
    refine lv_iconst (v := nI 0) hx hb dX5_weight_22 (by decide) ?_
    refine lv_aload_n hx hb dX5_weight_23 rfl (lv_at hl 0 rfl) ?_
    refine va_get (D := D) (ci := 9) (C := RX9) (T := TX9) (N := 2) hx hb hts in_X9 hown K hP 0 rfl rfl 1 (by decide) (hts _ q627) (fun _ h9 => h9) rfl dX5_weight_24 ?_
    refine lv_iload hx hb dX5_weight_27 (lv_at hl 4 rfl) ?_
    refine x_iald (v := row (84 + 9 * kc + 1 + k)) hx hb K hP 1 0 rfl rfl k rfl (by omega) (by decide) (hnum k (by omega)) dX5_weight_29 ?_
    refine lv_aload_n hx hb dX5_weight_30 rfl (lv_at hl 1 rfl) ?_
    refine lv_iload_n hx hb dX5_weight_31 rfl (lv_at hl 2 rfl) ?_
    refine lv_iload hx hb dX5_weight_32 (lv_at hl 4 rfl) ?_
    refine x_ret (va_runV (As := [.int (nI s0), .int (nI k)]) (rest := [.int (row (84 + 9 * kc + 1 + k)), .int (nI 0), .int (row (13 + k)), .int a]) S (xr_route l D dA E ad sz0 la lp lx ld lr row hn hcu s0 k (by omega) (by omega)) (cwV 2 hts (lw_V q547 q417 q418 q61 q419) rfl rfl rfl hdX2_route ⟨Nat.le_of_ble_eq_true rfl, Nat.le_of_ble_eq_true rfl⟩) ⟨bb_blind g0_bl _, va_recv K hP (ci := 2) (q0 := 2) rfl rfl, bb_pre (g0_mv G (fun _ _ => rfl) (Nat.le_refl _)) (hP.sub [2, 3, 4, 5, 6] rfl) _⟩ rfl rfl hl.1 rfl (lv_room (Nat.le_of_ble_eq_true rfl)) dX5_weight_34 ⟨Nat.le_refl _, Nat.le_refl _⟩) ?_
    refine lv_isub hx hb dX5_weight_37 ?_
    refine va_mmax hx hb (hml.trans hl.1.symm) hown (hts _ q548) (hts _ q321) (hts _ q72) (hts _ q322) (Nat.le_of_ble_eq_true rfl) (Nat.le_of_ble_eq_true rfl) (Nat.le_refl _) (Nat.le_refl _) dX5_weight_38 ?_
    refine x_top (y := xMax (nI 0) ((row (84 + 9 * kc + 1 + k)) - (row (21 + 8 * s0 + k)))) rfl ?_
    refine lv_imul hx hb dX5_weight_41 ?_
    refine lv_iadd hx hb dX5_weight_42 ?_
    refine lv_istore_n (lv' := [(3, .int (a + ((row (13 + k)) * (xMax (nI 0) ((row (84 + 9 * kc + 1 + k)) - (row (21 + 8 * s0 + k))))))), (0, .ref ka), (1, .ref la), (2, .int (nI s0)), (4, .int (nI k))]) hx hb dX5_weight_43 rfl hl (by decide) rfl (fun ls hl => ?_)
    refine lv_iinc (v := nI (k + 1)) (lv' := [(4, .int (nI (k + 1))), (3, .int (a + ((row (13 + k)) * (xMax (nI 0) ((row (84 + 9 * kc + 1 + k)) - (row (21 + 8 * s0 + k))))))), (0, .ref ka), (1, .ref la), (2, .int (nI s0))]) hx hb dX5_weight_44 hl (k := 4) rfl (nI_1 k) (by decide) rfl (fun ls hl => ?_)
    refine lv_goto (tgt := 5) hx hb dX5_weight_47 (by decide) ?_
    refine ih ls ?_
    show lv_has ls 5 [(0, .ref ka), (1, .ref la), (2, .int (nI s0)), (3, .int ((mWtS row kc s0) k a)), (4, .int (nI (k + 1)))]
    rw [show (mWtS row kc s0) k a = a + ((row (13 + k)) * (xMax (nI 0) ((row (84 + 9 * kc + 1 + k)) - (row (21 + 8 * s0 + k))))) from (wt_step _ _ _ _ _)]
    exact lv_sub hl [2, 3, 4, 1, 0] rfl
  · intro ls hl
    have hl : lv_has ls 5 [(0, .ref ka), (1, .ref la), (2, .int (nI s0)), (3, .int (mWeight row cu kc s0)), (4, .int (nI cu))] := hl
    show W p l e (rmR 1 40) s m ([.ref ka, .ref la, .int (nI s0)]).toArray below meth c s.heap [] 0 0 (MQ below (QRet (some (.int (mWeight row cu kc s0)))) ([.ref ka, .ref la, .int (nI s0)]).toArray s 0 0 (fun _ => False)) (F0 m 5 ls [])
    refine lv_iload hx hb dX5_weight_5 (lv_at hl 4 rfl) ?_
    refine lv_aload_n hx hb dX5_weight_7 rfl (lv_at hl 1 rfl) ?_
    refine va_getN (D := D) (ci := 2) (C := RX2) (T := TX2) (N := 7) hx hb hts in_X2 hown K hP 2 rfl rfl 5 (by decide) (va_Nw.use rfl (G.2.1 _ q122 rfl)) (fun _ h9 => h9) rfl dX5_weight_8 ?_
    refine lv_icmp_ge (tgt := 50) hx hb dX5_weight_11 (by decide) (fun _ => ?_) (fun h => absurd (nI_le (by omega) (by omega)) h)
    refine lv_iload_n hx hb dX5_weight_50 rfl (lv_at hl 3 rfl) ?_
    exact x_iret hx hb hrt hlk rfl dX5_weight_51

set_option maxHeartbeats 4000000 in
theorem xk_constant_T (l : Launch) (D : va_G) (dA : Nat → ClassId) (E : Nat) (ad : Nat → Nat) (sz0 : Nat) (la lp lx ld lr : Nat) (row : Nat → Int32) {n cu : Nat} (hn : n ≤ 7) (hcu : cu ≤ 8) (ka kn : Nat) (nums : Nat → Int32) (kc : Nat) (hnum : ∀ c, c < cu → nums c = row (84 + 9 * kc + 1 + c))  : RO l yX5_constant cX5_constant 4 (some .int) 0 0 [.ref ka, .ref la] (G0 D dA E ad sz0) (fun H => va_P D vwCl (kP dA 9 ka kn nums ++ lW dA la lp lx ld lr row n cu) H) (some (.int (mConst row cu kc))) := by
  refine ro_of (by decide) (Nat.le_of_ble_eq_true rfl) ?_
  intro p e s m below meth c S hrt hlk G hP ls hl
  obtain ⟨hx, hb, hml, hown, hts⟩ := id S
  have K := G.1
  have hP : va_P D vwCl [(ka, .inr (9, [.int (nI 1), .ref kn])), (kn, .inl (dA 0, 8, .inl nums)), (la, .inr (2, [.ref lp, .ref lx, .ref ld, .ref lr, .int (nI n), .int (nI cu), .int (row 2)])), (lp, .inl (dA 0, 7, .inl (fun k => row (6 + k)))), (lx, .inl (dA 0, 7, .inl (fun k => row (77 + k)))), (ld, .inl (dA 0, 8, .inl (fun k => row (13 + k)))), (lr, .inl (dA 0, 56, .inl (fun k => row (21 + k))))] s.heap := hP
  have hl : lv_has ls 4 [(0, .ref ka), (1, .ref la)] := hl
  refine lv_iconst (v := nI 0) hx hb dX5_constant_0 (by decide) ?_
  refine lv_istore_n (lv' := [(2, .int (nI 0)), (0, .ref ka), (1, .ref la)]) hx hb dX5_constant_1 rfl hl (by decide) rfl (fun ls hl => ?_)
  refine lv_iconst (v := nI 0) hx hb dX5_constant_2 (by decide) ?_
  refine lv_istore_n (lv' := [(3, .int (nI 0)), (2, .int (nI 0)), (0, .ref ka), (1, .ref la)]) hx hb dX5_constant_3 rfl hl (by decide) rfl (fun ls hl => ?_)
  refine lpI (mCoS row kc) (nI 0) cu (fun k a ls => lv_has ls 4 [(0, .ref ka), (1, .ref la), (2, .int a), (3, .int (nI k))]) (fun ls => W p l e (rmR 0 0) s m ([.ref ka, .ref la]).toArray below meth c s.heap [] 0 0 (MQ below (QRet (some (.int (mConst row cu kc)))) ([.ref ka, .ref la]).toArray s 0 0 (fun _ => False)) (F0 m 4 ls [])) ?_ ?_ ls (lv_sub hl [2, 3, 1, 0] rfl)
  · intro k ls hk_1 hl ih
    generalize iter (mCoS row kc) k 0 (nI 0) = a at *
    have hl : lv_has ls 4 [(0, .ref ka), (1, .ref la), (2, .int a), (3, .int (nI k))] := hl
    show W p l e (rmR 0 0) s m ([.ref ka, .ref la]).toArray below meth c s.heap [] 0 0 (MQ below (QRet (some (.int (mConst row cu kc)))) ([.ref ka, .ref la]).toArray s 0 0 (fun _ => False)) (F0 m 4 ls [])
    refine lv_iload_n hx hb dX5_constant_4 rfl (lv_at hl 3 rfl) ?_
    refine lv_aload_n hx hb dX5_constant_5 rfl (lv_at hl 1 rfl) ?_
    refine va_getN (D := D) (ci := 2) (C := RX2) (T := TX2) (N := 7) hx hb hts in_X2 hown K hP 2 rfl rfl 5 (by decide) (va_Nw.use rfl (G.2.1 _ q122 rfl)) (fun _ h9 => h9) rfl dX5_constant_6 ?_
    refine lv_icmp_ge (tgt := 34) hx hb dX5_constant_9 (by decide) (fun h => absurd h (nI_ge hk_1 (by omega))) (fun _ => ?_)
    refine lv_iload_n hx hb dX5_constant_12 rfl (lv_at hl 2 rfl) ?_
    refine lv_aload_n hx hb dX5_constant_13 rfl (lv_at hl 1 rfl) ?_
    refine va_getN (D := D) (ci := 2) (C := RX2) (T := TX2) (N := 7) hx hb hts in_X2 hown K hP 2 rfl rfl 2 (by decide) (va_Nw.use rfl (G.2.1 _ q114 rfl)) (fun _ h9 => h9) rfl dX5_constant_14 ?_
    refine lv_iload_n hx hb dX5_constant_17 rfl (lv_at hl 3 rfl) ?_
    refine x_iald hx hb K hP 5 0 rfl rfl k rfl (by omega) (by decide) rfl dX5_constant_18 ?_
    refine lv_aload_n hx hb dX5_constant_19 rfl (lv_at hl 0 rfl) ?_
    refine va_get (D := D) (ci := 9) (C := RX9) (T := TX9) (N := 2) hx hb hts in_X9 hown K hP 0 rfl rfl 1 (by decide) (hts _ q627) (fun _ h9 => h9) rfl dX5_constant_20 ?_
    refine lv_iload_n hx hb dX5_constant_23 rfl (lv_at hl 3 rfl) ?_
    refine x_iald (v := row (84 + 9 * kc + 1 + k)) hx hb K hP 1 0 rfl rfl k rfl (by omega) (by decide) (hnum k (by omega)) dX5_constant_24 ?_
    refine lv_imul hx hb dX5_constant_25 ?_
    refine lv_iadd hx hb dX5_constant_26 ?_
    refine lv_istore_n (lv' := [(2, .int (a + ((row (13 + k)) * (row (84 + 9 * kc + 1 + k))))), (0, .ref ka), (1, .ref la), (3, .int (nI k))]) hx hb dX5_constant_27 rfl hl (by decide) rfl (fun ls hl => ?_)
    refine lv_iinc (v := nI (k + 1)) (lv' := [(3, .int (nI (k + 1))), (2, .int (a + ((row (13 + k)) * (row (84 + 9 * kc + 1 + k))))), (0, .ref ka), (1, .ref la)]) hx hb dX5_constant_28 hl (k := 3) rfl (nI_1 k) (by decide) rfl (fun ls hl => ?_)
    refine lv_goto (tgt := 4) hx hb dX5_constant_31 (by decide) ?_
    refine ih ls ?_
    show lv_has ls 4 [(0, .ref ka), (1, .ref la), (2, .int ((mCoS row kc) k a)), (3, .int (nI (k + 1)))]
    rw [show (mCoS row kc) k a = a + ((row (13 + k)) * (row (84 + 9 * kc + 1 + k))) from rfl]
    exact lv_sub hl [2, 3, 1, 0] rfl
  · intro ls hl
    have hl : lv_has ls 4 [(0, .ref ka), (1, .ref la), (2, .int (mConst row cu kc)), (3, .int (nI cu))] := hl
    show W p l e (rmR 0 0) s m ([.ref ka, .ref la]).toArray below meth c s.heap [] 0 0 (MQ below (QRet (some (.int (mConst row cu kc)))) ([.ref ka, .ref la]).toArray s 0 0 (fun _ => False)) (F0 m 4 ls [])
    refine lv_iload_n hx hb dX5_constant_4 rfl (lv_at hl 3 rfl) ?_
    refine lv_aload_n hx hb dX5_constant_5 rfl (lv_at hl 1 rfl) ?_
    refine va_getN (D := D) (ci := 2) (C := RX2) (T := TX2) (N := 7) hx hb hts in_X2 hown K hP 2 rfl rfl 5 (by decide) (va_Nw.use rfl (G.2.1 _ q122 rfl)) (fun _ h9 => h9) rfl dX5_constant_6 ?_
    refine lv_icmp_ge (tgt := 34) hx hb dX5_constant_9 (by decide) (fun _ => ?_) (fun h => absurd (nI_le (by omega) (by omega)) h)
    refine lv_iload_n hx hb dX5_constant_34 rfl (lv_at hl 2 rfl) ?_
    exact x_iret hx hb hrt hlk rfl dX5_constant_35

set_option maxHeartbeats 4000000 in
theorem xk_sum_T (l : Launch) (D : va_G) (dA : Nat → ClassId) (E : Nat) (ad : Nat → Nat) (sz0 : Nat) (la lp lx ld lr : Nat) (row : Nat → Int32) {n cu : Nat} (hn : n ≤ 7) (hcu : cu ≤ 8) (ka kn : Nat) (nums : Nat → Int32) (kc : Nat) (hnum : ∀ c, c < cu → nums c = row (84 + 9 * kc + 1 + c)) (pl : Nat) (hp : pl < 128) : RO l yX4_sum cX4_sum 5 (some .int) 2 80 [.ref ka, .ref la, .int (nI pl)] (G0 D dA E ad sz0) (fun H => va_P D vwCl (kP dA 9 ka kn nums ++ lW dA la lp lx ld lr row n cu) H) (some (.int (xSumP row n cu kc pl))) := by
  refine ro_of (by decide) (Nat.le_of_ble_eq_true rfl) ?_
  intro p e s m below meth c S hrt hlk G hP ls hl
  obtain ⟨hx, hb, hml, hown, hts⟩ := id S
  have K := G.1
  have hP : va_P D vwCl [(ka, .inr (9, [.int (nI 1), .ref kn])), (kn, .inl (dA 0, 8, .inl nums)), (la, .inr (2, [.ref lp, .ref lx, .ref ld, .ref lr, .int (nI n), .int (nI cu), .int (row 2)])), (lp, .inl (dA 0, 7, .inl (fun k => row (6 + k)))), (lx, .inl (dA 0, 7, .inl (fun k => row (77 + k)))), (ld, .inl (dA 0, 8, .inl (fun k => row (13 + k)))), (lr, .inl (dA 0, 56, .inl (fun k => row (21 + k))))] s.heap := hP
  have hl : lv_has ls 5 [(0, .ref ka), (1, .ref la), (2, .int (nI pl))] := hl
  refine lv_iconst (v := nI 0) hx hb dX4_sum_0 (by decide) ?_
  refine lv_istore_n (lv' := [(3, .int (nI 0)), (0, .ref ka), (1, .ref la), (2, .int (nI pl))]) hx hb dX4_sum_1 rfl hl (by decide) rfl (fun ls hl => ?_)
  refine lv_iconst (v := nI 0) hx hb dX4_sum_2 (by decide) ?_
  refine lv_istore (lv' := [(4, .int (nI 0)), (3, .int (nI 0)), (0, .ref ka), (1, .ref la), (2, .int (nI pl))]) hx hb dX4_sum_3 hl (by decide) rfl (fun ls hl => ?_)
  refine lpI (xSuP row cu kc pl) (nI 0) n (fun k a ls => lv_has ls 5 [(0, .ref ka), (1, .ref la), (2, .int (nI pl)), (3, .int a), (4, .int (nI k))]) (fun ls => W p l e (rmR 2 80) s m ([.ref ka, .ref la, .int (nI pl)]).toArray below meth c s.heap [] 0 0 (MQ below (QRet (some (.int (xSumP row n cu kc pl)))) ([.ref ka, .ref la, .int (nI pl)]).toArray s 0 0 (fun _ => False)) (F0 m 5 ls [])) ?_ ?_ ls (lv_sub hl [2, 3, 4, 1, 0] rfl)
  · intro k ls hk_1 hl ih
    generalize iter (xSuP row cu kc pl) k 0 (nI 0) = a at *
    have hl : lv_has ls 5 [(0, .ref ka), (1, .ref la), (2, .int (nI pl)), (3, .int a), (4, .int (nI k))] := hl
    show W p l e (rmR 2 80) s m ([.ref ka, .ref la, .int (nI pl)]).toArray below meth c s.heap [] 0 0 (MQ below (QRet (some (.int (xSumP row n cu kc pl)))) ([.ref ka, .ref la, .int (nI pl)]).toArray s 0 0 (fun _ => False)) (F0 m 5 ls [])
    refine lv_iload hx hb dX4_sum_5 (lv_at hl 4 rfl) ?_
    refine lv_aload_n hx hb dX4_sum_7 rfl (lv_at hl 1 rfl) ?_
    refine va_getN (D := D) (ci := 2) (C := RX2) (T := TX2) (N := 7) hx hb hts in_X2 hown K hP 2 rfl rfl 4 (by decide) (va_Nw.use rfl (G.2.1 _ q121 rfl)) (fun _ h9 => h9) rfl dX4_sum_8 ?_
    refine lv_icmp_ge (tgt := 43) hx hb dX4_sum_11 (by decide) (fun h => absurd h (nI_ge hk_1 (by omega))) (fun _ => ?_)
    refine lv_iload_n hx hb dX4_sum_14 rfl (lv_at hl 3 rfl) ?_
    refine lv_iload_n hx hb dX4_sum_15 rfl (lv_at hl 2 rfl) ?_
    refine lv_iload hx hb dX4_sum_16 (lv_at hl 4 rfl) ?_
    refine x_ret (va_runSN (As := [.int (nI pl), .int (nI k)]) (rest := [.int a]) S (xr_has l pl k (by omega) (by omega)) ⟨va_cnB 2 hts (lw_meth q430) rfl rfl rfl (G.2.1 _ q540 rfl) (hts _ q59) hdX0_has ⟨Nat.le_of_ble_eq_true rfl, Nat.le_of_ble_eq_true rfl⟩, hts _ q429, trivial⟩ ⟨bb_blind tt_bl _, tt_pre _⟩ rfl rfl hl.1 rfl (lv_room (Nat.le_of_ble_eq_true rfl)) dX4_sum_18 ⟨Nat.le_refl _, Nat.le_refl _⟩) ?_
    refine x_ifb_eq (tgt := 34) hx hb dX4_sum_21 (by decide) (fun h_3 => ?_) (fun h_3 => ?_)
    · refine lv_iconst (v := nI 0) hx hb dX4_sum_34 (by decide) ?_
      refine lv_iadd hx hb dX4_sum_35 ?_
      refine lv_istore_n (lv' := [(3, .int (a + (nI 0))), (0, .ref ka), (1, .ref la), (2, .int (nI pl)), (4, .int (nI k))]) hx hb dX4_sum_36 rfl hl (by decide) rfl (fun ls hl => ?_)
      refine lv_iinc (v := nI (k + 1)) (lv' := [(4, .int (nI (k + 1))), (3, .int (a + (nI 0))), (0, .ref ka), (1, .ref la), (2, .int (nI pl))]) hx hb dX4_sum_37 hl (k := 4) rfl (nI_1 k) (by decide) rfl (fun ls hl => ?_)
      refine lv_goto (tgt := 5) hx hb dX4_sum_40 (by decide) ?_
      refine ih ls ?_
      show lv_has ls 5 [(0, .ref ka), (1, .ref la), (2, .int (nI pl)), (3, .int ((xSuP row cu kc pl) k a)), (4, .int (nI (k + 1)))]
      rw [show (xSuP row cu kc pl) k a = a + (nI 0) from (by simp [xSuR, xSuP, h_3])]
      exact lv_sub hl [2, 3, 4, 1, 0] rfl
    · refine lv_aload_n hx hb dX4_sum_24 rfl (lv_at hl 0 rfl) ?_
      refine lv_aload_n hx hb dX4_sum_25 rfl (lv_at hl 1 rfl) ?_
      refine lv_iload hx hb dX4_sum_26 (lv_at hl 4 rfl) ?_
      refine x_ret (va_runU (As := [.ref la, .int (nI k)]) (rest := [.int a]) S (xk_weight_T l D dA E ad sz0 la lp lx ld lr row hn hcu ka kn nums kc hnum k (by omega)) (va_cwA 2 hts (lw_U (x := ⟨"SiteCuts$Cut", "weight", "(LSiteCuts$Land;I)I"⟩) (owner := "SiteCuts$Cut") q541 q543 q553 q545 q80 q546) rfl rfl rfl (G.2.1 _ q542 rfl) (by decide +kernel) ⟨Nat.le_of_ble_eq_true rfl, Nat.le_of_ble_eq_true rfl⟩) ⟨bb_blind g0_bl _, va_recv K hP (ci := 9) (q0 := 0) rfl rfl, bb_pre (g0_mv G (fun _ _ => rfl) (Nat.le_refl _)) hP _⟩ rfl rfl hl.1 rfl (lv_room (Nat.le_of_ble_eq_true rfl)) dX4_sum_28 ⟨Nat.le_refl _, Nat.le_refl _⟩) ?_
      refine lv_goto (tgt := 35) hx hb dX4_sum_31 (by decide) ?_
      refine lv_iadd hx hb dX4_sum_35 ?_
      refine lv_istore_n (lv' := [(3, .int (a + (mWeight row cu kc k))), (0, .ref ka), (1, .ref la), (2, .int (nI pl)), (4, .int (nI k))]) hx hb dX4_sum_36 rfl hl (by decide) rfl (fun ls hl => ?_)
      refine lv_iinc (v := nI (k + 1)) (lv' := [(4, .int (nI (k + 1))), (3, .int (a + (mWeight row cu kc k))), (0, .ref ka), (1, .ref la), (2, .int (nI pl))]) hx hb dX4_sum_37 hl (k := 4) rfl (nI_1 k) (by decide) rfl (fun ls hl => ?_)
      refine lv_goto (tgt := 5) hx hb dX4_sum_40 (by decide) ?_
      refine ih ls ?_
      show lv_has ls 5 [(0, .ref ka), (1, .ref la), (2, .int (nI pl)), (3, .int ((xSuP row cu kc pl) k a)), (4, .int (nI (k + 1)))]
      rw [show (xSuP row cu kc pl) k a = a + (mWeight row cu kc k) from (by simp [xSuR, xSuP, h_3])]
      exact lv_sub hl [2, 3, 4, 1, 0] rfl
  · intro ls hl
    have hl : lv_has ls 5 [(0, .ref ka), (1, .ref la), (2, .int (nI pl)), (3, .int (xSumP row n cu kc pl)), (4, .int (nI n))] := hl
    show W p l e (rmR 2 80) s m ([.ref ka, .ref la, .int (nI pl)]).toArray below meth c s.heap [] 0 0 (MQ below (QRet (some (.int (xSumP row n cu kc pl)))) ([.ref ka, .ref la, .int (nI pl)]).toArray s 0 0 (fun _ => False)) (F0 m 5 ls [])
    refine lv_iload hx hb dX4_sum_5 (lv_at hl 4 rfl) ?_
    refine lv_aload_n hx hb dX4_sum_7 rfl (lv_at hl 1 rfl) ?_
    refine va_getN (D := D) (ci := 2) (C := RX2) (T := TX2) (N := 7) hx hb hts in_X2 hown K hP 2 rfl rfl 4 (by decide) (va_Nw.use rfl (G.2.1 _ q121 rfl)) (fun _ h9 => h9) rfl dX4_sum_8 ?_
    refine lv_icmp_ge (tgt := 43) hx hb dX4_sum_11 (by decide) (fun _ => ?_) (fun h => absurd (nI_le (by omega) (by omega)) h)
    refine lv_iload_n hx hb dX4_sum_43 rfl (lv_at hl 3 rfl) ?_
    exact x_iret hx hb hrt hlk rfl dX4_sum_44

set_option maxHeartbeats 4000000 in
theorem xk_isRay_T (l : Launch) (D : va_G) (dA : Nat → ClassId) (E : Nat) (ad : Nat → Nat) (sz0 : Nat) (la lp lx ld lr : Nat) (row : Nat → Int32) {n cu : Nat} (hn : n ≤ 7) (hcu : cu ≤ 8) (ka kn : Nat) (nums : Nat → Int32) (kc : Nat) (hnum : ∀ c, c < cu → nums c = row (84 + 9 * kc + 1 + c))  : RO l yX4_isRay cX4_isRay 1 (some .boolean) 0 0 [.ref ka] (G0 D dA E ad sz0) (fun H => va_P D vwCl (kP dA 9 ka kn nums ++ lW dA la lp lx ld lr row n cu) H) (some (.int (bI false))) := by
  refine ro_of (by decide) (Nat.le_of_ble_eq_true rfl) ?_
  intro p e s m below meth c S hrt hlk G hP ls hl
  obtain ⟨hx, hb, hml, hown, hts⟩ := id S
  have K := G.1
  have hP : va_P D vwCl [(ka, .inr (9, [.int (nI 1), .ref kn])), (kn, .inl (dA 0, 8, .inl nums)), (la, .inr (2, [.ref lp, .ref lx, .ref ld, .ref lr, .int (nI n), .int (nI cu), .int (row 2)])), (lp, .inl (dA 0, 7, .inl (fun k => row (6 + k)))), (lx, .inl (dA 0, 7, .inl (fun k => row (77 + k)))), (ld, .inl (dA 0, 8, .inl (fun k => row (13 + k)))), (lr, .inl (dA 0, 56, .inl (fun k => row (21 + k))))] s.heap := hP
  have hl : lv_has ls 1 [(0, .ref ka)] := hl
  refine lv_aload_n hx hb dX4_isRay_0 rfl (lv_at hl 0 rfl) ?_
  refine va_get (D := D) (ci := 9) (C := RX9) (T := TX9) (N := 2) hx hb hts in_X9 hown K hP 0 rfl rfl 0 (by decide) (hts _ q628) (fun _ h9 => h9) rfl dX4_isRay_1 ?_
  refine lv_if_ne (tgt := 11) hx hb dX4_isRay_4 (by decide) (fun _ => ?_) (fun h => absurd h (by decide))
  refine lv_iconst (v := nI 0) hx hb dX4_isRay_11 (by decide) ?_
  exact x_zret hx hb hrt hlk rfl dX4_isRay_12

set_option maxHeartbeats 4000000 in
theorem xk_customer_P (l : Launch) (D : va_G) (dA : Nat → ClassId) (E : Nat) (ad : Nat → Nat) (sz0 : Nat) (la lp lx ld lr : Nat) (row : Nat → Int32) {n cu : Nat} (hn : n ≤ 7) (hcu : cu ≤ 8) (ka kn : Nat) (nums : Nat → Int32) (kc : Nat) (hnum : ∀ c, c < cu → nums c = row (84 + 9 * kc + 1 + c))  : RO l yX4_customer cX4_customer 1 (some .int) 0 0 [.ref ka] (G0 D dA E ad sz0) (fun H => va_P D vwCl (kP dA 5 ka kn nums ++ lW dA la lp lx ld lr row n cu) H) (some (.int (-5))) := by
  refine ro_of (by decide) (Nat.le_of_ble_eq_true rfl) ?_
  intro p e s m below meth c S hrt hlk G hP ls hl
  obtain ⟨hx, hb, hml, hown, hts⟩ := id S
  have K := G.1
  have hP : va_P D vwCl [(ka, .inr (5, [.int (nI 1), .ref kn])), (kn, .inl (dA 0, 8, .inl nums)), (la, .inr (2, [.ref lp, .ref lx, .ref ld, .ref lr, .int (nI n), .int (nI cu), .int (row 2)])), (lp, .inl (dA 0, 7, .inl (fun k => row (6 + k)))), (lx, .inl (dA 0, 7, .inl (fun k => row (77 + k)))), (ld, .inl (dA 0, 8, .inl (fun k => row (13 + k)))), (lr, .inl (dA 0, 56, .inl (fun k => row (21 + k))))] s.heap := hP
  have hl : lv_has ls 1 [(0, .ref ka)] := hl
  refine lv_bipush (v := -5) hx hb dX4_customer_0 (by decide) ?_
  exact x_iret hx hb hrt hlk rfl dX4_customer_2

set_option maxHeartbeats 4000000 in
theorem xk_customer_T (l : Launch) (D : va_G) (dA : Nat → ClassId) (E : Nat) (ad : Nat → Nat) (sz0 : Nat) (la lp lx ld lr : Nat) (row : Nat → Int32) {n cu : Nat} (hn : n ≤ 7) (hcu : cu ≤ 8) (ka kn : Nat) (nums : Nat → Int32) (kc : Nat) (hnum : ∀ c, c < cu → nums c = row (84 + 9 * kc + 1 + c))  : RO l yX4_customer cX4_customer 1 (some .int) 0 0 [.ref ka] (G0 D dA E ad sz0) (fun H => va_P D vwCl (kP dA 9 ka kn nums ++ lW dA la lp lx ld lr row n cu) H) (some (.int (-5))) := by
  refine ro_of (by decide) (Nat.le_of_ble_eq_true rfl) ?_
  intro p e s m below meth c S hrt hlk G hP ls hl
  obtain ⟨hx, hb, hml, hown, hts⟩ := id S
  have K := G.1
  have hP : va_P D vwCl [(ka, .inr (9, [.int (nI 1), .ref kn])), (kn, .inl (dA 0, 8, .inl nums)), (la, .inr (2, [.ref lp, .ref lx, .ref ld, .ref lr, .int (nI n), .int (nI cu), .int (row 2)])), (lp, .inl (dA 0, 7, .inl (fun k => row (6 + k)))), (lx, .inl (dA 0, 7, .inl (fun k => row (77 + k)))), (ld, .inl (dA 0, 8, .inl (fun k => row (13 + k)))), (lr, .inl (dA 0, 56, .inl (fun k => row (21 + k))))] s.heap := hP
  have hl : lv_has ls 1 [(0, .ref ka)] := hl
  refine lv_bipush (v := -5) hx hb dX4_customer_0 (by decide) ?_
  exact x_iret hx hb hrt hlk rfl dX4_customer_2

set_option maxHeartbeats 4000000 in
theorem xk_isBroken_R (l : Launch) (D : va_G) (dA : Nat → ClassId) (E : Nat) (ad : Nat → Nat) (sz0 : Nat) (la lp lx ld lr : Nat) (row : Nat → Int32) {n cu : Nat} (hn : n ≤ 7) (hcu : cu ≤ 8) (ka j : Nat) (hj : j < 8) (pl : Nat) (hp : pl < 128) : RO l yX4_isBroken cX4_isBroken 3 (some .boolean) 4 160 [.ref ka, .ref la, .int (nI pl)] (G0 D dA E ad sz0) (fun H => va_P D vwCl (kR ka j ++ lW dA la lp lx ld lr row n cu) H) (some (.int (bI (if nI 1 ≤ xSumR row n j pl then false else true)))) := by
  refine ro_of (by decide) (Nat.le_of_ble_eq_true rfl) ?_
  intro p e s m below meth c S hrt hlk G hP ls hl
  obtain ⟨hx, hb, hml, hown, hts⟩ := id S
  have K := G.1
  have hP : va_P D vwCl [(ka, .inr (6, [.int (nI 0), .int (nI j)])), (la, .inr (2, [.ref lp, .ref lx, .ref ld, .ref lr, .int (nI n), .int (nI cu), .int (row 2)])), (lp, .inl (dA 0, 7, .inl (fun k => row (6 + k)))), (lx, .inl (dA 0, 7, .inl (fun k => row (77 + k)))), (ld, .inl (dA 0, 8, .inl (fun k => row (13 + k)))), (lr, .inl (dA 0, 56, .inl (fun k => row (21 + k))))] s.heap := hP
  have hl : lv_has ls 3 [(0, .ref ka), (1, .ref la), (2, .int (nI pl))] := hl
  refine lv_aload_n hx hb dX4_isBroken_0 rfl (lv_at hl 0 rfl) ?_
  refine lv_aload_n hx hb dX4_isBroken_1 rfl (lv_at hl 1 rfl) ?_
  refine lv_iload_n hx hb dX4_isBroken_2 rfl (lv_at hl 2 rfl) ?_
  refine x_ret (va_runU (As := [.ref la, .int (nI pl)]) (rest := []) S (xk_value_R l D dA E ad sz0 la lp lx ld lr row hn hcu ka j hj pl (by omega)) (va_cwU 2 hts (lw_U (x := ⟨"SiteCuts$Cut", "value", "(LSiteCuts$Land;I)I"⟩) (owner := "SiteCuts$Cut") q567 q1363 q1369 q557 q79 q558) rfl rfl rfl rfl (by decide +kernel) ⟨Nat.le_of_ble_eq_true rfl, Nat.le_of_ble_eq_true rfl⟩) ⟨bb_blind g0_bl _, va_recv K hP (ci := 6) (q0 := 0) rfl rfl, bb_pre (g0_mv G (fun _ _ => rfl) (Nat.le_refl _)) hP _⟩ rfl rfl hl.1 rfl (lv_room (Nat.le_of_ble_eq_true rfl)) dX4_isBroken_3 ⟨Nat.le_refl _, Nat.le_refl _⟩) ?_
  refine lv_iconst (v := nI 1) hx hb dX4_isBroken_6 (by decide) ?_
  refine lv_icmp_ge (tgt := 14) hx hb dX4_isBroken_7 (by decide) (fun h_1 => ?_) (fun h_1 => ?_)
  · refine lv_iconst (v := nI 0) hx hb dX4_isBroken_14 (by decide) ?_
    exact x_zret hx hb hrt hlk (by rw [if_pos h_1]; rfl) dX4_isBroken_15
  · refine lv_iconst (v := nI 1) hx hb dX4_isBroken_10 (by decide) ?_
    refine lv_goto (tgt := 15) hx hb dX4_isBroken_11 (by decide) ?_
    exact x_zret hx hb hrt hlk (by rw [if_neg h_1]; rfl) dX4_isBroken_15

set_option maxHeartbeats 4000000 in
theorem xk_isTight_R (l : Launch) (D : va_G) (dA : Nat → ClassId) (E : Nat) (ad : Nat → Nat) (sz0 : Nat) (la lp lx ld lr : Nat) (row : Nat → Int32) {n cu : Nat} (hn : n ≤ 7) (hcu : cu ≤ 8) (ka j : Nat) (hj : j < 8) (pl : Nat) (hp : pl < 128) : RO l yX4_isTight cX4_isTight 3 (some .boolean) 4 160 [.ref ka, .ref la, .int (nI pl)] (G0 D dA E ad sz0) (fun H => va_P D vwCl (kR ka j ++ lW dA la lp lx ld lr row n cu) H) (some (.int (bI (if xSumR row n j pl = nI 1 then true else false)))) := by
  refine ro_of (by decide) (Nat.le_of_ble_eq_true rfl) ?_
  intro p e s m below meth c S hrt hlk G hP ls hl
  obtain ⟨hx, hb, hml, hown, hts⟩ := id S
  have K := G.1
  have hP : va_P D vwCl [(ka, .inr (6, [.int (nI 0), .int (nI j)])), (la, .inr (2, [.ref lp, .ref lx, .ref ld, .ref lr, .int (nI n), .int (nI cu), .int (row 2)])), (lp, .inl (dA 0, 7, .inl (fun k => row (6 + k)))), (lx, .inl (dA 0, 7, .inl (fun k => row (77 + k)))), (ld, .inl (dA 0, 8, .inl (fun k => row (13 + k)))), (lr, .inl (dA 0, 56, .inl (fun k => row (21 + k))))] s.heap := hP
  have hl : lv_has ls 3 [(0, .ref ka), (1, .ref la), (2, .int (nI pl))] := hl
  refine lv_aload_n hx hb dX4_isTight_0 rfl (lv_at hl 0 rfl) ?_
  refine lv_aload_n hx hb dX4_isTight_1 rfl (lv_at hl 1 rfl) ?_
  refine lv_iload_n hx hb dX4_isTight_2 rfl (lv_at hl 2 rfl) ?_
  refine x_ret (va_runU (As := [.ref la, .int (nI pl)]) (rest := []) S (xk_value_R l D dA E ad sz0 la lp lx ld lr row hn hcu ka j hj pl (by omega)) (va_cwU 2 hts (lw_U (x := ⟨"SiteCuts$Cut", "value", "(LSiteCuts$Land;I)I"⟩) (owner := "SiteCuts$Cut") q567 q1363 q1369 q557 q79 q558) rfl rfl rfl rfl (by decide +kernel) ⟨Nat.le_of_ble_eq_true rfl, Nat.le_of_ble_eq_true rfl⟩) ⟨bb_blind g0_bl _, va_recv K hP (ci := 6) (q0 := 0) rfl rfl, bb_pre (g0_mv G (fun _ _ => rfl) (Nat.le_refl _)) hP _⟩ rfl rfl hl.1 rfl (lv_room (Nat.le_of_ble_eq_true rfl)) dX4_isTight_3 ⟨Nat.le_refl _, Nat.le_refl _⟩) ?_
  refine lv_iconst (v := nI 1) hx hb dX4_isTight_6 (by decide) ?_
  refine lv_icmp_ne (tgt := 14) hx hb dX4_isTight_7 (by decide) (fun h_1 => ?_) (fun h_1 => ?_)
  · refine lv_iconst (v := nI 0) hx hb dX4_isTight_14 (by decide) ?_
    exact x_zret hx hb hrt hlk (by rw [if_neg h_1]; rfl) dX4_isTight_15
  · refine lv_iconst (v := nI 1) hx hb dX4_isTight_10 (by decide) ?_
    refine lv_goto (tgt := 15) hx hb dX4_isTight_11 (by decide) ?_
    exact x_zret hx hb hrt hlk (by rw [if_pos h_1]; rfl) dX4_isTight_15

set_option maxHeartbeats 4000000 in
theorem xk_value_P (l : Launch) (D : va_G) (dA : Nat → ClassId) (E : Nat) (ad : Nat → Nat) (sz0 : Nat) (la lp lx ld lr : Nat) (row : Nat → Int32) {n cu : Nat} (hn : n ≤ 7) (hcu : cu ≤ 8) (ka kn : Nat) (nums : Nat → Int32) (kc : Nat) (hnum : ∀ c, c < cu → nums c = row (84 + 9 * kc + 1 + c)) (pl : Nat) (hp : pl < 128) : RO l yX5_value cX5_value 3 (some .int) 4 160 [.ref ka, .ref la, .int (nI pl)] (G0 D dA E ad sz0) (fun H => va_P D vwCl (kP dA 5 ka kn nums ++ lW dA la lp lx ld lr row n cu) H) (some (.int (mValue row n cu kc pl))) := by
  refine ro_of (by decide) (Nat.le_of_ble_eq_true rfl) ?_
  intro p e s m below meth c S hrt hlk G hP ls hl
  obtain ⟨hx, hb, hml, hown, hts⟩ := id S
  have K := G.1
  have hP : va_P D vwCl [(ka, .inr (5, [.int (nI 1), .ref kn])), (kn, .inl (dA 0, 8, .inl nums)), (la, .inr (2, [.ref lp, .ref lx, .ref ld, .ref lr, .int (nI n), .int (nI cu), .int (row 2)])), (lp, .inl (dA 0, 7, .inl (fun k => row (6 + k)))), (lx, .inl (dA 0, 7, .inl (fun k => row (77 + k)))), (ld, .inl (dA 0, 8, .inl (fun k => row (13 + k)))), (lr, .inl (dA 0, 56, .inl (fun k => row (21 + k))))] s.heap := hP
  have hl : lv_has ls 3 [(0, .ref ka), (1, .ref la), (2, .int (nI pl))] := hl
  refine lv_aload_n hx hb dX5_value_0 rfl (lv_at hl 0 rfl) ?_
  refine lv_aload_n hx hb dX5_value_1 rfl (lv_at hl 1 rfl) ?_
  refine x_ret (va_runV (As := [.ref la]) (rest := []) S (xk_constant_P l D dA E ad sz0 la lp lx ld lr row hn hcu ka kn nums kc hnum  ) (cwV 1 hts (lw_V q555 q531 q1361 q80 q532) rfl rfl rfl hdX5_constant ⟨Nat.le_of_ble_eq_true rfl, Nat.le_of_ble_eq_true rfl⟩) ⟨bb_blind g0_bl _, va_recv K hP (ci := 5) (q0 := 0) rfl rfl, bb_pre (g0_mv G (fun _ _ => rfl) (Nat.le_refl _)) hP _⟩ rfl rfl hl.1 rfl (lv_room (Nat.le_of_ble_eq_true rfl)) dX5_value_2 ⟨Nat.le_refl _, Nat.le_refl _⟩) ?_
  refine lv_aload_n hx hb dX5_value_5 rfl (lv_at hl 0 rfl) ?_
  refine lv_aload_n hx hb dX5_value_6 rfl (lv_at hl 1 rfl) ?_
  refine lv_iload_n hx hb dX5_value_7 rfl (lv_at hl 2 rfl) ?_
  refine x_ret (va_runSU (As := [.ref la, .int (nI pl)]) (rest := [.int (mConst row cu kc)]) ((K.1 5 _ rfl).2) S (xk_cvalue_P l D dA E ad sz0 la lp lx ld lr row hn hcu ka kn nums kc hnum pl (by omega)) (va_cwSU 2 hts (lw_SU (y := yX4_value) q556 q1363 q537 q557 q79 q558) rfl rfl rfl (by decide +kernel) ⟨Nat.le_of_ble_eq_true rfl, Nat.le_of_ble_eq_true rfl⟩) ⟨bb_blind g0_bl _, va_recv K hP (ci := 5) (q0 := 0) rfl rfl, bb_pre (g0_mv G (fun _ _ => rfl) (Nat.le_refl _)) hP _⟩ rfl rfl hl.1 rfl (lv_room (Nat.le_of_ble_eq_true rfl)) dX5_value_8 ⟨Nat.le_refl _, Nat.le_refl _⟩) ?_
  refine lv_isub hx hb dX5_value_11 ?_
  exact x_iret hx hb hrt hlk (pval_eq _ _ _ _ _) dX5_value_12

set_option maxHeartbeats 4000000 in
theorem xk_isBroken_P (l : Launch) (D : va_G) (dA : Nat → ClassId) (E : Nat) (ad : Nat → Nat) (sz0 : Nat) (la lp lx ld lr : Nat) (row : Nat → Int32) {n cu : Nat} (hn : n ≤ 7) (hcu : cu ≤ 8) (ka kn : Nat) (nums : Nat → Int32) (kc : Nat) (hnum : ∀ c, c < cu → nums c = row (84 + 9 * kc + 1 + c)) (pl : Nat) (hp : pl < 128) (hsv : ∀ c, c < cu → ∃ s, mServer row n pl c = some s) : RO l yX5_isBroken cX5_isBroken 3 (some .boolean) 5 200 [.ref ka, .ref la, .int (nI pl)] (G0 D dA E ad sz0) (fun H => va_P D vwCl (kP dA 5 ka kn nums ++ lW dA la lp lx ld lr row n cu) H) (some (.int (bI (if mValue row n cu kc pl ≤ mRoutes row n cu pl then false else true)))) := by
  refine ro_of (by decide) (Nat.le_of_ble_eq_true rfl) ?_
  intro p e s m below meth c S hrt hlk G hP ls hl
  obtain ⟨hx, hb, hml, hown, hts⟩ := id S
  have K := G.1
  have hP : va_P D vwCl [(ka, .inr (5, [.int (nI 1), .ref kn])), (kn, .inl (dA 0, 8, .inl nums)), (la, .inr (2, [.ref lp, .ref lx, .ref ld, .ref lr, .int (nI n), .int (nI cu), .int (row 2)])), (lp, .inl (dA 0, 7, .inl (fun k => row (6 + k)))), (lx, .inl (dA 0, 7, .inl (fun k => row (77 + k)))), (ld, .inl (dA 0, 8, .inl (fun k => row (13 + k)))), (lr, .inl (dA 0, 56, .inl (fun k => row (21 + k))))] s.heap := hP
  have hl : lv_has ls 3 [(0, .ref ka), (1, .ref la), (2, .int (nI pl))] := hl
  refine lv_aload_n hx hb dX5_isBroken_0 rfl (lv_at hl 0 rfl) ?_
  refine lv_aload_n hx hb dX5_isBroken_1 rfl (lv_at hl 1 rfl) ?_
  refine lv_iload_n hx hb dX5_isBroken_2 rfl (lv_at hl 2 rfl) ?_
  refine x_ret (va_runV (As := [.ref la, .int (nI pl)]) (rest := []) S (xk_value_P l D dA E ad sz0 la lp lx ld lr row hn hcu ka kn nums kc hnum pl (by omega)) (cwV 2 hts (lw_V q520 q521 q522 q80 q554) rfl rfl rfl hdX5_value ⟨Nat.le_of_ble_eq_true rfl, Nat.le_of_ble_eq_true rfl⟩) ⟨bb_blind g0_bl _, va_recv K hP (ci := 5) (q0 := 0) rfl rfl, bb_pre (g0_mv G (fun _ _ => rfl) (Nat.le_refl _)) hP _⟩ rfl rfl hl.1 rfl (lv_room (Nat.le_of_ble_eq_true rfl)) dX5_isBroken_3 ⟨Nat.le_refl _, Nat.le_refl _⟩) ?_
  refine lv_aload_n hx hb dX5_isBroken_6 rfl (lv_at hl 1 rfl) ?_
  refine lv_iload_n hx hb dX5_isBroken_7 rfl (lv_at hl 2 rfl) ?_
  refine x_ret (va_runV (As := [.int (nI pl)]) (rest := [.int (mValue row n cu kc pl)]) S (xr_routesOf l D dA E ad sz0 la lp lx ld lr row hn hcu pl (by omega) hsv) (cwV 1 hts (lw_V q560 q561 q562 q61 q563) rfl rfl rfl hdX2_routesOf ⟨Nat.le_of_ble_eq_true rfl, Nat.le_of_ble_eq_true rfl⟩) ⟨bb_blind g0_bl _, va_recv K hP (ci := 2) (q0 := 2) rfl rfl, bb_pre (g0_mv G (fun _ _ => rfl) (Nat.le_refl _)) (hP.sub [2, 3, 4, 5, 6] rfl) _⟩ rfl rfl hl.1 rfl (lv_room (Nat.le_of_ble_eq_true rfl)) dX5_isBroken_8 ⟨Nat.le_refl _, Nat.le_refl _⟩) ?_
  refine lv_icmp_le (tgt := 18) hx hb dX5_isBroken_11 (by decide) (fun h_1 => ?_) (fun h_1 => ?_)
  · refine lv_iconst (v := nI 0) hx hb dX5_isBroken_18 (by decide) ?_
    exact x_zret hx hb hrt hlk (by rw [if_pos h_1]; rfl) dX5_isBroken_19
  · refine lv_iconst (v := nI 1) hx hb dX5_isBroken_14 (by decide) ?_
    refine lv_goto (tgt := 19) hx hb dX5_isBroken_15 (by decide) ?_
    exact x_zret hx hb hrt hlk (by rw [if_neg h_1]; rfl) dX5_isBroken_19

set_option maxHeartbeats 4000000 in
theorem xk_isTight_P (l : Launch) (D : va_G) (dA : Nat → ClassId) (E : Nat) (ad : Nat → Nat) (sz0 : Nat) (la lp lx ld lr : Nat) (row : Nat → Int32) {n cu : Nat} (hn : n ≤ 7) (hcu : cu ≤ 8) (ka kn : Nat) (nums : Nat → Int32) (kc : Nat) (hnum : ∀ c, c < cu → nums c = row (84 + 9 * kc + 1 + c)) (pl : Nat) (hp : pl < 128) (hsv : ∀ c, c < cu → ∃ s, mServer row n pl c = some s) : RO l yX5_isTight cX5_isTight 3 (some .boolean) 5 200 [.ref ka, .ref la, .int (nI pl)] (G0 D dA E ad sz0) (fun H => va_P D vwCl (kP dA 5 ka kn nums ++ lW dA la lp lx ld lr row n cu) H) (some (.int (bI (if mValue row n cu kc pl = mRoutes row n cu pl then true else false)))) := by
  refine ro_of (by decide) (Nat.le_of_ble_eq_true rfl) ?_
  intro p e s m below meth c S hrt hlk G hP ls hl
  obtain ⟨hx, hb, hml, hown, hts⟩ := id S
  have K := G.1
  have hP : va_P D vwCl [(ka, .inr (5, [.int (nI 1), .ref kn])), (kn, .inl (dA 0, 8, .inl nums)), (la, .inr (2, [.ref lp, .ref lx, .ref ld, .ref lr, .int (nI n), .int (nI cu), .int (row 2)])), (lp, .inl (dA 0, 7, .inl (fun k => row (6 + k)))), (lx, .inl (dA 0, 7, .inl (fun k => row (77 + k)))), (ld, .inl (dA 0, 8, .inl (fun k => row (13 + k)))), (lr, .inl (dA 0, 56, .inl (fun k => row (21 + k))))] s.heap := hP
  have hl : lv_has ls 3 [(0, .ref ka), (1, .ref la), (2, .int (nI pl))] := hl
  refine lv_aload_n hx hb dX5_isTight_0 rfl (lv_at hl 0 rfl) ?_
  refine lv_aload_n hx hb dX5_isTight_1 rfl (lv_at hl 1 rfl) ?_
  refine lv_iload_n hx hb dX5_isTight_2 rfl (lv_at hl 2 rfl) ?_
  refine x_ret (va_runV (As := [.ref la, .int (nI pl)]) (rest := []) S (xk_value_P l D dA E ad sz0 la lp lx ld lr row hn hcu ka kn nums kc hnum pl (by omega)) (cwV 2 hts (lw_V q520 q521 q522 q80 q554) rfl rfl rfl hdX5_value ⟨Nat.le_of_ble_eq_true rfl, Nat.le_of_ble_eq_true rfl⟩) ⟨bb_blind g0_bl _, va_recv K hP (ci := 5) (q0 := 0) rfl rfl, bb_pre (g0_mv G (fun _ _ => rfl) (Nat.le_refl _)) hP _⟩ rfl rfl hl.1 rfl (lv_room (Nat.le_of_ble_eq_true rfl)) dX5_isTight_3 ⟨Nat.le_refl _, Nat.le_refl _⟩) ?_
  refine lv_aload_n hx hb dX5_isTight_6 rfl (lv_at hl 1 rfl) ?_
  refine lv_iload_n hx hb dX5_isTight_7 rfl (lv_at hl 2 rfl) ?_
  refine x_ret (va_runV (As := [.int (nI pl)]) (rest := [.int (mValue row n cu kc pl)]) S (xr_routesOf l D dA E ad sz0 la lp lx ld lr row hn hcu pl (by omega) hsv) (cwV 1 hts (lw_V q560 q561 q562 q61 q563) rfl rfl rfl hdX2_routesOf ⟨Nat.le_of_ble_eq_true rfl, Nat.le_of_ble_eq_true rfl⟩) ⟨bb_blind g0_bl _, va_recv K hP (ci := 2) (q0 := 2) rfl rfl, bb_pre (g0_mv G (fun _ _ => rfl) (Nat.le_refl _)) (hP.sub [2, 3, 4, 5, 6] rfl) _⟩ rfl rfl hl.1 rfl (lv_room (Nat.le_of_ble_eq_true rfl)) dX5_isTight_8 ⟨Nat.le_refl _, Nat.le_refl _⟩) ?_
  refine lv_icmp_ne (tgt := 18) hx hb dX5_isTight_11 (by decide) (fun h_1 => ?_) (fun h_1 => ?_)
  · refine lv_iconst (v := nI 0) hx hb dX5_isTight_18 (by decide) ?_
    exact x_zret hx hb hrt hlk (by rw [if_neg h_1]; rfl) dX5_isTight_19
  · refine lv_iconst (v := nI 1) hx hb dX5_isTight_14 (by decide) ?_
    refine lv_goto (tgt := 19) hx hb dX5_isTight_15 (by decide) ?_
    exact x_zret hx hb hrt hlk (by rw [if_pos h_1]; rfl) dX5_isTight_19

