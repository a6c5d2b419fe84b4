/-! SiteCuts.master, byAll, cut -/
theorem lb_0 {b c : Bool} (h : b = false) : nI 0 = bI (if b = false then false else c) := by rw [if_pos h]; rfl
theorem lb_t {b c : Bool} (h : b = true) (h2 : c = true) : nI 1 = bI (if b = false then false else c) := by rw [if_neg (by rw [h]; decide), h2]; rfl
theorem lb_f {b c : Bool} (h : b = true) (h2 : c = false) : nI 0 = bI (if b = false then false else c) := by rw [if_neg (by rw [h]; decide), h2]; rfl
def xBr (row : Nat → Int32) (n cu k pl : Nat) : Bool := if mRay row k = false then (if mValue row n cu k pl ≤ mRoutes row n cu pl then false else true) else (if nI 1 ≤ nI (mAsked row n k pl) then false else true)
def xTi (row : Nat → Int32) (n cu k pl : Nat) : Bool := if mRay row k = false then (if mValue row n cu k pl = mRoutes row n cu pl then true else false) else (if nI (mAsked row n k pl) = nI 1 then true else false)
def xLB (row : Nat → Int32) (n cu k : Nat) (t : Bool) (pl : Nat) : Bool := if mFeas row n cu pl = false then false else bif t then xTi row n cu k pl else xBr row n cu k pl
theorem ray_P {row : Nat → Int32} {k : Nat} (h : row (84 + 9 * k) = -5) : mRay row k = false := by unfold mRay; rw [h]; rfl
theorem ray_R {row : Nat → Int32} {k j : Nat} (hj : j < 8) (h : row (84 + 9 * k) = nI j) : mRay row k = true := by unfold mRay; rw [h, if_neg (nI_pos (by omega))]
theorem lb0_P {row : Nat → Int32} {n cu k pl : Nat} (h : row (84 + 9 * k) = -5) : (if mFeas row n cu pl = false then false else (if mValue row n cu k pl ≤ mRoutes row n cu pl then false else true)) = xLB row n cu k false pl := by
  unfold xLB xBr
  rw [if_pos (ray_P h)]
  rfl
theorem lb1_P {row : Nat → Int32} {n cu k pl : Nat} (h : row (84 + 9 * k) = -5) : (if mFeas row n cu pl = false then false else (if mValue row n cu k pl = mRoutes row n cu pl then true else false)) = xLB row n cu k true pl := by
  unfold xLB xTi
  rw [if_pos (ray_P h)]
  rfl
theorem lb0_R {row : Nat → Int32} {n cu k pl j : Nat} (hn : n ≤ 7) (hj : j < 8) (h : row (84 + 9 * k) = nI j) : (if mFeas row n cu pl = false then false else (if nI 1 ≤ xSumR row n j pl then false else true)) = xLB row n cu k false pl := by
  have hr : ¬ mRay row k = false := by rw [ray_R hj h]; decide
  unfold xLB xBr
  rw [if_neg hr, asked_ray hn h hj]
  rfl
theorem lb1_R {row : Nat → Int32} {n cu k pl j : Nat} (hn : n ≤ 7) (hj : j < 8) (h : row (84 + 9 * k) = nI j) : (if mFeas row n cu pl = false then false else (if xSumR row n j pl = nI 1 then true else false)) = xLB row n cu k true pl := by
  have hr : ¬ mRay row k = false := by rw [ray_R hj h]; decide
  unfold xLB xTi
  rw [if_neg hr, asked_ray hn h hj]
  rfl
/-- what SiteCuts.cut answers -/
def xCut (row : Nat → Int32) (n cu q : Nat) (x y : Int32) : Int32 := if mNo q x = true then -1 else if y = nI 0 then (if mRay row (cN x) = false then nI 1 else nI 0) else if y = nI 1 then (if mRay row (cN x) = false then -5 else row (84 + 9 * cN x)) else if y = nI 2 then (if mRay row (cN x) = false then mConst row cu (cN x) else nI 1) else if y = nI 3 then nI (gCount (xLB row n cu (cN x) false) (2 ^ n)) else if y = nI 4 then nI (gCount (xLB row n cu (cN x) true) (2 ^ n)) else -2
section CUX
variable {row : Nat → Int32} {n cu q kc j : Nat} {y : Int32}
theorem cu_no {x : Int32} (h : mNo q x = true) : -1 = xCut row n cu q x y := by unfold xCut; rw [if_pos h]
theorem cu_in (h : mNo q (nI kc) = false) : ¬ mNo q (nI kc) = true := by rw [h]; decide
theorem cu_0P (hr : row (84 + 9 * kc) = -5) (h : mNo q (nI kc) = false) (c : (nI kc).toNatClampNeg = kc) : nI 1 = xCut row n cu q (nI kc) (nI 0) := by
  unfold xCut cN
  rw [if_neg (cu_in h), c, if_pos rfl, if_pos (ray_P hr)]
theorem cu_0R (hj : j < 8) (hr : row (84 + 9 * kc) = nI j) (h : mNo q (nI kc) = false) (c : (nI kc).toNatClampNeg = kc) : nI 0 = xCut row n cu q (nI kc) (nI 0) := by
  unfold xCut cN
  rw [if_neg (cu_in h), c, if_pos rfl, if_neg (by rw [ray_R hj hr]; decide)]
theorem cu_1P (hr : row (84 + 9 * kc) = -5) (h : mNo q (nI kc) = false) (c : (nI kc).toNatClampNeg = kc) : -5 = xCut row n cu q (nI kc) (nI 1) := by
  unfold xCut cN
  rw [if_neg (cu_in h), c, if_neg (by decide), if_pos rfl, if_pos (ray_P hr)]
theorem cu_1R (hj : j < 8) (hr : row (84 + 9 * kc) = nI j) (h : mNo q (nI kc) = false) (c : (nI kc).toNatClampNeg = kc) : nI j = xCut row n cu q (nI kc) (nI 1) := by
  unfold xCut cN
  rw [if_neg (cu_in h), c, if_neg (by decide), if_pos rfl, if_neg (by rw [ray_R hj hr]; decide), hr]
theorem cu_2P (hr : row (84 + 9 * kc) = -5) (h : mNo q (nI kc) = false) (c : (nI kc).toNatClampNeg = kc) : mConst row cu kc = xCut row n cu q (nI kc) (nI 2) := by
  unfold xCut cN
  rw [if_neg (cu_in h), c, if_neg (by decide), if_neg (by decide), if_pos rfl, if_pos (ray_P hr)]
theorem cu_2R (hj : j < 8) (hr : row (84 + 9 * kc) = nI j) (h : mNo q (nI kc) = false) (c : (nI kc).toNatClampNeg = kc) : nI 1 = xCut row n cu q (nI kc) (nI 2) := by
  unfold xCut cN
  rw [if_neg (cu_in h), c, if_neg (by decide), if_neg (by decide), if_pos rfl, if_neg (by rw [ray_R hj hr]; decide)]
theorem cu_3 (h : mNo q (nI kc) = false) (c : (nI kc).toNatClampNeg = kc) : nI (gCount (xLB row n cu kc false) (2 ^ n)) = xCut row n cu q (nI kc) (nI 3) := by
  unfold xCut cN
  rw [if_neg (cu_in h), c, if_neg (by decide), if_neg (by decide), if_neg (by decide), if_pos rfl]
theorem cu_4 (h : mNo q (nI kc) = false) (c : (nI kc).toNatClampNeg = kc) : nI (gCount (xLB row n cu kc true) (2 ^ n)) = xCut row n cu q (nI kc) (nI 4) := by
  unfold xCut cN
  rw [if_neg (cu_in h), c, if_neg (by decide), if_neg (by decide), if_neg (by decide), if_neg (by decide), if_pos rfl]
theorem cu_out (h : mNo q (nI kc) = false) (ho : ∀ i, i < 5 → ¬ y = nI i) : -2 = xCut row n cu q (nI kc) y := by
  unfold xCut
  rw [if_neg (cu_in h), if_neg (ho 0 (by decide)), if_neg (ho 1 (by decide)), if_neg (ho 2 (by decide)), if_neg (ho 3 (by decide)), if_neg (ho 4 (by decide))]
end CUX
theorem mBa_cost (row : Nat → Int32) (n cu : Nat) : ∀ N b, (iter (mBaS row n cu) N 0 (none, nI 0, 0)).1 = some b → (iter (mBaS row n cu) N 0 (none, nI 0, 0)).2.1 = mCost row n cu b := by
  intro N
  induction N with
  | zero => intro b h; cases h
  | succ N ih =>
    intro b
    rw [iter_s, Nat.zero_add]
    generalize iter (mBaS row n cu) N 0 (none, nI 0, 0) = a at *
    unfold mBaS
    split
    · exact ih b
    · split
      · intro h; cases h; rfl
      · split
        · exact ih b
        · intro h; cases h; rfl
theorem by_cnt (row : Nat → Int32) (n cu : Nat) : rByAll row n cu (nI 2) = nI (gCount (mFeas row n cu) (2 ^ n)) := by
  rw [(least_best row n cu (2 ^ n)).2.2]
  rfl
theorem by_cost {row : Nat → Int32} {n cu b : Nat} (h : (mBa row n cu).1 = some b) : rByAll row n cu (nI 1) = mCost row n cu b := by
  have e : (mBa row n cu).2.1 = mCost row n cu b := mBa_cost row n cu (2 ^ n) b h
  unfold rByAll
  rw [if_neg (by decide), if_neg (by decide), if_neg (by rw [h]; exact fun q => by cases q), if_neg (by decide), e]

set_option maxHeartbeats 4000000 in
theorem xq_cut_0_R (l : Launch) (D : va_G) (dA : Nat → ClassId) (E : Nat) (ad : Nat → Nat) (sz0 : Nat) (la lp lx ld lr : Nat) (row : Nat → Int32) {n cu : Nat} (hn : n ≤ 7) (hcu : cu ≤ 8) (ka j : Nat) (hj : j < 8) (pl : Nat) (hp : pl < 128) : RO l yX0_lambda_cut_0 cX0_lambda_cut_0 3 (some .boolean) 7 280 [.ref la, .ref ka, .int (nI pl)] (G0 D dA E ad sz0) (fun H => va_P D vwCl (kR ka j ++ lW dA la lp lx ld lr row n cu) H) (some (.int (bI (if mFeas row n cu pl = false then false else (if nI 1 ≤ xSumR row n j pl then false else true))))) := by
  refine ro_of (by decide) (Nat.le_of_ble_eq_true rfl) ?_
  intro p e s m below meth c S hrt hlk G hP ls hl
  obtain ⟨hx, hb, hml, hown, hts⟩ := id S
  have K := G.1
  have hP : va_P D vwCl [(ka, .inr (6, [.int (nI 0), .int (nI j)])), (la, .inr (2, [.ref lp, .ref lx, .ref ld, .ref lr, .int (nI n), .int (nI cu), .int (row 2)])), (lp, .inl (dA 0, 7, .inl (fun k => row (6 + k)))), (lx, .inl (dA 0, 7, .inl (fun k => row (77 + k)))), (ld, .inl (dA 0, 8, .inl (fun k => row (13 + k)))), (lr, .inl (dA 0, 56, .inl (fun k => row (21 + k))))] s.heap := hP
  have hl : lv_has ls 3 [(0, .ref la), (1, .ref ka), (2, .int (nI pl))] := hl
  refine lv_aload_n hx hb dX0_lambda_cut_0_0 rfl (lv_at hl 0 rfl) ?_
  refine lv_iload_n hx hb dX0_lambda_cut_0_1 rfl (lv_at hl 2 rfl) ?_
  refine x_ret (va_runV (As := [.int (nI pl)]) (rest := []) S (xr_isFeasible l D dA E ad sz0 la lp lx ld lr row hn hcu pl (by omega)) (cwV 1 hts (lw_V q995 q996 q997 q61 q998) rfl rfl rfl hdX2_isFeasible ⟨Nat.le_of_ble_eq_true rfl, Nat.le_of_ble_eq_true rfl⟩) ⟨bb_blind g0_bl _, va_recv K hP (ci := 2) (q0 := 1) rfl rfl, bb_pre (g0_mv G (fun _ _ => rfl) (Nat.le_refl _)) (hP.sub [1, 2, 3, 4, 5] rfl) _⟩ rfl rfl hl.1 rfl (lv_room (Nat.le_of_ble_eq_true rfl)) dX0_lambda_cut_0_2 ⟨Nat.le_refl _, Nat.le_refl _⟩) ?_
  refine x_ifb_eq (tgt := 21) hx hb dX0_lambda_cut_0_5 (by decide) (fun h_1 => ?_) (fun h_1 => ?_)
  · refine lv_iconst (v := nI 0) hx hb dX0_lambda_cut_0_21 (by decide) ?_
    exact x_zret hx hb hrt hlk (lb_0 h_1) dX0_lambda_cut_0_22
  · refine lv_aload_n hx hb dX0_lambda_cut_0_8 rfl (lv_at hl 1 rfl) ?_
    refine lv_aload_n hx hb dX0_lambda_cut_0_9 rfl (lv_at hl 0 rfl) ?_
    refine lv_iload_n hx hb dX0_lambda_cut_0_10 rfl (lv_at hl 2 rfl) ?_
    refine x_ret (va_runU (As := [.ref la, .int (nI pl)]) (rest := []) S (xk_isBroken_R l D dA E ad sz0 la lp lx ld lr row hn hcu ka j hj pl (by omega)) (va_cwU 2 hts (lw_U (x := ⟨"SiteCuts$Cut", "isBroken", "(LSiteCuts$Land;I)Z"⟩) (owner := "SiteCuts$Cut") q1000 q516 q564 q515 q79 q566) rfl rfl rfl rfl (by decide +kernel) ⟨Nat.le_of_ble_eq_true rfl, Nat.le_of_ble_eq_true rfl⟩) ⟨bb_blind g0_bl _, va_recv K hP (ci := 6) (q0 := 0) rfl rfl, bb_pre (g0_mv G (fun _ _ => rfl) (Nat.le_refl _)) hP _⟩ rfl rfl hl.1 rfl (lv_room (Nat.le_of_ble_eq_true rfl)) dX0_lambda_cut_0_11 ⟨Nat.le_refl _, Nat.le_refl _⟩) ?_
    refine x_ifb_eq (tgt := 21) hx hb dX0_lambda_cut_0_14 (by decide) (fun h_2 => ?_) (fun h_2 => ?_)
    · refine lv_iconst (v := nI 0) hx hb dX0_lambda_cut_0_21 (by decide) ?_
      exact x_zret hx hb hrt hlk (lb_f h_1 h_2) dX0_lambda_cut_0_22
    · refine lv_iconst (v := nI 1) hx hb dX0_lambda_cut_0_17 (by decide) ?_
      refine lv_goto (tgt := 22) hx hb dX0_lambda_cut_0_18 (by decide) ?_
      exact x_zret hx hb hrt hlk (lb_t h_1 h_2) dX0_lambda_cut_0_22

set_option maxHeartbeats 4000000 in
theorem xq_cut_1_R (l : Launch) (D : va_G) (dA : Nat → ClassId) (E : Nat) (ad : Nat → Nat) (sz0 : Nat) (la lp lx ld lr : Nat) (row : Nat → Int32) {n cu : Nat} (hn : n ≤ 7) (hcu : cu ≤ 8) (ka j : Nat) (hj : j < 8) (pl : Nat) (hp : pl < 128) : RO l yX0_lambda_cut_1 cX0_lambda_cut_1 3 (some .boolean) 7 280 [.ref la, .ref ka, .int (nI pl)] (G0 D dA E ad sz0) (fun H => va_P D vwCl (kR ka j ++ lW dA la lp lx ld lr row n cu) H) (some (.int (bI (if mFeas row n cu pl = false then false else (if xSumR row n j pl = nI 1 then true else false))))) := by
  refine ro_of (by decide) (Nat.le_of_ble_eq_true rfl) ?_
  intro p e s m below meth c S hrt hlk G hP ls hl
  obtain ⟨hx, hb, hml, hown, hts⟩ := id S
  have K := G.1
  have hP : va_P D vwCl [(ka, .inr (6, [.int (nI 0), .int (nI j)])), (la, .inr (2, [.ref lp, .ref lx, .ref ld, .ref lr, .int (nI n), .int (nI cu), .int (row 2)])), (lp, .inl (dA 0, 7, .inl (fun k => row (6 + k)))), (lx, .inl (dA 0, 7, .inl (fun k => row (77 + k)))), (ld, .inl (dA 0, 8, .inl (fun k => row (13 + k)))), (lr, .inl (dA 0, 56, .inl (fun k => row (21 + k))))] s.heap := hP
  have hl : lv_has ls 3 [(0, .ref la), (1, .ref ka), (2, .int (nI pl))] := hl
  refine lv_aload_n hx hb dX0_lambda_cut_1_0 rfl (lv_at hl 0 rfl) ?_
  refine lv_iload_n hx hb dX0_lambda_cut_1_1 rfl (lv_at hl 2 rfl) ?_
  refine x_ret (va_runV (As := [.int (nI pl)]) (rest := []) S (xr_isFeasible l D dA E ad sz0 la lp lx ld lr row hn hcu pl (by omega)) (cwV 1 hts (lw_V q995 q996 q997 q61 q998) rfl rfl rfl hdX2_isFeasible ⟨Nat.le_of_ble_eq_true rfl, Nat.le_of_ble_eq_true rfl⟩) ⟨bb_blind g0_bl _, va_recv K hP (ci := 2) (q0 := 1) rfl rfl, bb_pre (g0_mv G (fun _ _ => rfl) (Nat.le_refl _)) (hP.sub [1, 2, 3, 4, 5] rfl) _⟩ rfl rfl hl.1 rfl (lv_room (Nat.le_of_ble_eq_true rfl)) dX0_lambda_cut_1_2 ⟨Nat.le_refl _, Nat.le_refl _⟩) ?_
  refine x_ifb_eq (tgt := 21) hx hb dX0_lambda_cut_1_5 (by decide) (fun h_1 => ?_) (fun h_1 => ?_)
  · refine lv_iconst (v := nI 0) hx hb dX0_lambda_cut_1_21 (by decide) ?_
    exact x_zret hx hb hrt hlk (lb_0 h_1) dX0_lambda_cut_1_22
  · refine lv_aload_n hx hb dX0_lambda_cut_1_8 rfl (lv_at hl 1 rfl) ?_
    refine lv_aload_n hx hb dX0_lambda_cut_1_9 rfl (lv_at hl 0 rfl) ?_
    refine lv_iload_n hx hb dX0_lambda_cut_1_10 rfl (lv_at hl 2 rfl) ?_
    refine x_ret (va_runU (As := [.ref la, .int (nI pl)]) (rest := []) S (xk_isTight_R l D dA E ad sz0 la lp lx ld lr row hn hcu ka j hj pl (by omega)) (va_cwU 2 hts (lw_U (x := ⟨"SiteCuts$Cut", "isTight", "(LSiteCuts$Land;I)Z"⟩) (owner := "SiteCuts$Cut") q1010 q1012 q1016 q1011 q79 q1018) rfl rfl rfl rfl (by decide +kernel) ⟨Nat.le_of_ble_eq_true rfl, Nat.le_of_ble_eq_true rfl⟩) ⟨bb_blind g0_bl _, va_recv K hP (ci := 6) (q0 := 0) rfl rfl, bb_pre (g0_mv G (fun _ _ => rfl) (Nat.le_refl _)) hP _⟩ rfl rfl hl.1 rfl (lv_room (Nat.le_of_ble_eq_true rfl)) dX0_lambda_cut_1_11 ⟨Nat.le_refl _, Nat.le_refl _⟩) ?_
    refine x_ifb_eq (tgt := 21) hx hb dX0_lambda_cut_1_14 (by decide) (fun h_2 => ?_) (fun h_2 => ?_)
    · refine lv_iconst (v := nI 0) hx hb dX0_lambda_cut_1_21 (by decide) ?_
      exact x_zret hx hb hrt hlk (lb_f h_1 h_2) dX0_lambda_cut_1_22
    · refine lv_iconst (v := nI 1) hx hb dX0_lambda_cut_1_17 (by decide) ?_
      refine lv_goto (tgt := 22) hx hb dX0_lambda_cut_1_18 (by decide) ?_
      exact x_zret hx hb hrt hlk (lb_t h_1 h_2) dX0_lambda_cut_1_22

set_option maxHeartbeats 4000000 in
theorem xq_cut_0_P (l : Launch) (D : va_G) (dA : Nat → ClassId) (E : Nat) (ad : Nat → Nat) (sz0 : Nat) (la lp lx ld lr : Nat) (row : Nat → Int32) {n cu : Nat} (hn : n ≤ 7) (hcu : cu ≤ 8) (ka kn : Nat) (nums : Nat → Int32) (kc : Nat) (hnum : ∀ c, c < cu → nums c = row (84 + 9 * kc + 1 + c)) (pl : Nat) (hp : pl < 128) : RO l yX0_lambda_cut_0 cX0_lambda_cut_0 3 (some .boolean) 7 280 [.ref la, .ref ka, .int (nI pl)] (G0 D dA E ad sz0) (fun H => va_P D vwCl (kP dA 5 ka kn nums ++ lW dA la lp lx ld lr row n cu) H) (some (.int (bI (if mFeas row n cu pl = false then false else (if mValue row n cu kc pl ≤ mRoutes row n cu pl then false else true))))) := by
  refine ro_of (by decide) (Nat.le_of_ble_eq_true rfl) ?_
  intro p e s m below meth c S hrt hlk G hP ls hl
  obtain ⟨hx, hb, hml, hown, hts⟩ := id S
  have K := G.1
  have hP : va_P D vwCl [(ka, .inr (5, [.int (nI 1), .ref kn])), (kn, .inl (dA 0, 8, .inl nums)), (la, .inr (2, [.ref lp, .ref lx, .ref ld, .ref lr, .int (nI n), .int (nI cu), .int (row 2)])), (lp, .inl (dA 0, 7, .inl (fun k => row (6 + k)))), (lx, .inl (dA 0, 7, .inl (fun k => row (77 + k)))), (ld, .inl (dA 0, 8, .inl (fun k => row (13 + k)))), (lr, .inl (dA 0, 56, .inl (fun k => row (21 + k))))] s.heap := hP
  have hl : lv_has ls 3 [(0, .ref la), (1, .ref ka), (2, .int (nI pl))] := hl
  refine lv_aload_n hx hb dX0_lambda_cut_0_0 rfl (lv_at hl 0 rfl) ?_
  refine lv_iload_n hx hb dX0_lambda_cut_0_1 rfl (lv_at hl 2 rfl) ?_
  refine x_ret (va_runV (As := [.int (nI pl)]) (rest := []) S (xr_isFeasible l D dA E ad sz0 la lp lx ld lr row hn hcu pl (by omega)) (cwV 1 hts (lw_V q995 q996 q997 q61 q998) rfl rfl rfl hdX2_isFeasible ⟨Nat.le_of_ble_eq_true rfl, Nat.le_of_ble_eq_true rfl⟩) ⟨bb_blind g0_bl _, va_recv K hP (ci := 2) (q0 := 2) rfl rfl, bb_pre (g0_mv G (fun _ _ => rfl) (Nat.le_refl _)) (hP.sub [2, 3, 4, 5, 6] rfl) _⟩ rfl rfl hl.1 rfl (lv_room (Nat.le_of_ble_eq_true rfl)) dX0_lambda_cut_0_2 ⟨Nat.le_refl _, Nat.le_refl _⟩) ?_
  refine x_ifb_eq (tgt := 21) hx hb dX0_lambda_cut_0_5 (by decide) (fun h_1 => ?_) (fun h_1 => ?_)
  · refine lv_iconst (v := nI 0) hx hb dX0_lambda_cut_0_21 (by decide) ?_
    exact x_zret hx hb hrt hlk (lb_0 h_1) dX0_lambda_cut_0_22
  · refine lv_aload_n hx hb dX0_lambda_cut_0_8 rfl (lv_at hl 1 rfl) ?_
    refine lv_aload_n hx hb dX0_lambda_cut_0_9 rfl (lv_at hl 0 rfl) ?_
    refine lv_iload_n hx hb dX0_lambda_cut_0_10 rfl (lv_at hl 2 rfl) ?_
    refine x_ret (va_runU (As := [.ref la, .int (nI pl)]) (rest := []) S (xk_isBroken_P l D dA E ad sz0 la lp lx ld lr row hn hcu ka kn nums kc hnum pl (by omega) (feas_sv h_1)) (va_cwO 2 hts (lw_O (x := ⟨"SiteCuts$Cut", "isBroken", "(LSiteCuts$Land;I)Z"⟩) (owner := "SiteCuts$Cut") q1000 q516 q515 q517 q518 q80 q519) rfl rfl rfl q566 (by decide +kernel) ⟨Nat.le_of_ble_eq_true rfl, Nat.le_of_ble_eq_true rfl⟩) ⟨bb_blind g0_bl _, va_recv K hP (ci := 5) (q0 := 0) rfl rfl, bb_pre (g0_mv G (fun _ _ => rfl) (Nat.le_refl _)) hP _⟩ rfl rfl hl.1 rfl (lv_room (Nat.le_of_ble_eq_true rfl)) dX0_lambda_cut_0_11 ⟨Nat.le_refl _, Nat.le_refl _⟩) ?_
    refine x_ifb_eq (tgt := 21) hx hb dX0_lambda_cut_0_14 (by decide) (fun h_2 => ?_) (fun h_2 => ?_)
    · refine lv_iconst (v := nI 0) hx hb dX0_lambda_cut_0_21 (by decide) ?_
      exact x_zret hx hb hrt hlk (lb_f h_1 h_2) dX0_lambda_cut_0_22
    · refine lv_iconst (v := nI 1) hx hb dX0_lambda_cut_0_17 (by decide) ?_
      refine lv_goto (tgt := 22) hx hb dX0_lambda_cut_0_18 (by decide) ?_
      exact x_zret hx hb hrt hlk (lb_t h_1 h_2) dX0_lambda_cut_0_22

set_option maxHeartbeats 4000000 in
theorem xq_cut_1_P (l : Launch) (D : va_G) (dA : Nat → ClassId) (E : Nat) (ad : Nat → Nat) (sz0 : Nat) (la lp lx ld lr : Nat) (row : Nat → Int32) {n cu : Nat} (hn : n ≤ 7) (hcu : cu ≤ 8) (ka kn : Nat) (nums : Nat → Int32) (kc : Nat) (hnum : ∀ c, c < cu → nums c = row (84 + 9 * kc + 1 + c)) (pl : Nat) (hp : pl < 128) : RO l yX0_lambda_cut_1 cX0_lambda_cut_1 3 (some .boolean) 7 280 [.ref la, .ref ka, .int (nI pl)] (G0 D dA E ad sz0) (fun H => va_P D vwCl (kP dA 5 ka kn nums ++ lW dA la lp lx ld lr row n cu) H) (some (.int (bI (if mFeas row n cu pl = false then false else (if mValue row n cu kc pl = mRoutes row n cu pl then true else false))))) := by
  refine ro_of (by decide) (Nat.le_of_ble_eq_true rfl) ?_
  intro p e s m below meth c S hrt hlk G hP ls hl
  obtain ⟨hx, hb, hml, hown, hts⟩ := id S
  have K := G.1
  have hP : va_P D vwCl [(ka, .inr (5, [.int (nI 1), .ref kn])), (kn, .inl (dA 0, 8, .inl nums)), (la, .inr (2, [.ref lp, .ref lx, .ref ld, .ref lr, .int (nI n), .int (nI cu), .int (row 2)])), (lp, .inl (dA 0, 7, .inl (fun k => row (6 + k)))), (lx, .inl (dA 0, 7, .inl (fun k => row (77 + k)))), (ld, .inl (dA 0, 8, .inl (fun k => row (13 + k)))), (lr, .inl (dA 0, 56, .inl (fun k => row (21 + k))))] s.heap := hP
  have hl : lv_has ls 3 [(0, .ref la), (1, .ref ka), (2, .int (nI pl))] := hl
  refine lv_aload_n hx hb dX0_lambda_cut_1_0 rfl (lv_at hl 0 rfl) ?_
  refine lv_iload_n hx hb dX0_lambda_cut_1_1 rfl (lv_at hl 2 rfl) ?_
  refine x_ret (va_runV (As := [.int (nI pl)]) (rest := []) S (xr_isFeasible l D dA E ad sz0 la lp lx ld lr row hn hcu pl (by omega)) (cwV 1 hts (lw_V q995 q996 q997 q61 q998) rfl rfl rfl hdX2_isFeasible ⟨Nat.le_of_ble_eq_true rfl, Nat.le_of_ble_eq_true rfl⟩) ⟨bb_blind g0_bl _, va_recv K hP (ci := 2) (q0 := 2) rfl rfl, bb_pre (g0_mv G (fun _ _ => rfl) (Nat.le_refl _)) (hP.sub [2, 3, 4, 5, 6] rfl) _⟩ rfl rfl hl.1 rfl (lv_room (Nat.le_of_ble_eq_true rfl)) dX0_lambda_cut_1_2 ⟨Nat.le_refl _, Nat.le_refl _⟩) ?_
  refine x_ifb_eq (tgt := 21) hx hb dX0_lambda_cut_1_5 (by decide) (fun h_1 => ?_) (fun h_1 => ?_)
  · refine lv_iconst (v := nI 0) hx hb dX0_lambda_cut_1_21 (by decide) ?_
    exact x_zret hx hb hrt hlk (lb_0 h_1) dX0_lambda_cut_1_22
  · refine lv_aload_n hx hb dX0_lambda_cut_1_8 rfl (lv_at hl 1 rfl) ?_
    refine lv_aload_n hx hb dX0_lambda_cut_1_9 rfl (lv_at hl 0 rfl) ?_
    refine lv_iload_n hx hb dX0_lambda_cut_1_10 rfl (lv_at hl 2 rfl) ?_
    refine x_ret (va_runU (As := [.ref la, .int (nI pl)]) (rest := []) S (xk_isTight_P l D dA E ad sz0 la lp lx ld lr row hn hcu ka kn nums kc hnum pl (by omega) (feas_sv h_1)) (va_cwO 2 hts (lw_O (x := ⟨"SiteCuts$Cut", "isTight", "(LSiteCuts$Land;I)Z"⟩) (owner := "SiteCuts$Cut") q1010 q1012 q1011 q1013 q1014 q80 q1015) rfl rfl rfl q1018 (by decide +kernel) ⟨Nat.le_of_ble_eq_true rfl, Nat.le_of_ble_eq_true rfl⟩) ⟨bb_blind g0_bl _, va_recv K hP (ci := 5) (q0 := 0) rfl rfl, bb_pre (g0_mv G (fun _ _ => rfl) (Nat.le_refl _)) hP _⟩ rfl rfl hl.1 rfl (lv_room (Nat.le_of_ble_eq_true rfl)) dX0_lambda_cut_1_11 ⟨Nat.le_refl _, Nat.le_refl _⟩) ?_
    refine x_ifb_eq (tgt := 21) hx hb dX0_lambda_cut_1_14 (by decide) (fun h_2 => ?_) (fun h_2 => ?_)
    · refine lv_iconst (v := nI 0) hx hb dX0_lambda_cut_1_21 (by decide) ?_
      exact x_zret hx hb hrt hlk (lb_f h_1 h_2) dX0_lambda_cut_1_22
    · refine lv_iconst (v := nI 1) hx hb dX0_lambda_cut_1_17 (by decide) ?_
      refine lv_goto (tgt := 22) hx hb dX0_lambda_cut_1_18 (by decide) ?_
      exact x_zret hx hb hrt hlk (lb_t h_1 h_2) dX0_lambda_cut_1_22

set_option maxHeartbeats 4000000 in
theorem xq_cut_0_T (l : Launch) (D : va_G) (dA : Nat → ClassId) (E : Nat) (ad : Nat → Nat) (sz0 : Nat) (la lp lx ld lr : Nat) (row : Nat → Int32) {n cu : Nat} (hn : n ≤ 7) (hcu : cu ≤ 8) (ka kn : Nat) (nums : Nat → Int32) (kc : Nat) (hnum : ∀ c, c < cu → nums c = row (84 + 9 * kc + 1 + c)) (pl : Nat) (hp : pl < 128) : RO l yX0_lambda_cut_0 cX0_lambda_cut_0 3 (some .boolean) 7 280 [.ref la, .ref ka, .int (nI pl)] (G0 D dA E ad sz0) (fun H => va_P D vwCl (kP dA 9 ka kn nums ++ lW dA la lp lx ld lr row n cu) H) (some (.int (bI (if mFeas row n cu pl = false then false else (if mValue row n cu kc pl ≤ mRoutes row n cu pl then false else true))))) := by
  refine ro_of (by decide) (Nat.le_of_ble_eq_true rfl) ?_
  intro p e s m below meth c S hrt hlk G hP ls hl
  obtain ⟨hx, hb, hml, hown, hts⟩ := id S
  have K := G.1
  have hP : va_P D vwCl [(ka, .inr (9, [.int (nI 1), .ref kn])), (kn, .inl (dA 0, 8, .inl nums)), (la, .inr (2, [.ref lp, .ref lx, .ref ld, .ref lr, .int (nI n), .int (nI cu), .int (row 2)])), (lp, .inl (dA 0, 7, .inl (fun k => row (6 + k)))), (lx, .inl (dA 0, 7, .inl (fun k => row (77 + k)))), (ld, .inl (dA 0, 8, .inl (fun k => row (13 + k)))), (lr, .inl (dA 0, 56, .inl (fun k => row (21 + k))))] s.heap := hP
  have hl : lv_has ls 3 [(0, .ref la), (1, .ref ka), (2, .int (nI pl))] := hl
  refine lv_aload_n hx hb dX0_lambda_cut_0_0 rfl (lv_at hl 0 rfl) ?_
  refine lv_iload_n hx hb dX0_lambda_cut_0_1 rfl (lv_at hl 2 rfl) ?_
  refine x_ret (va_runV (As := [.int (nI pl)]) (rest := []) S (xr_isFeasible l D dA E ad sz0 la lp lx ld lr row hn hcu pl (by omega)) (cwV 1 hts (lw_V q995 q996 q997 q61 q998) rfl rfl rfl hdX2_isFeasible ⟨Nat.le_of_ble_eq_true rfl, Nat.le_of_ble_eq_true rfl⟩) ⟨bb_blind g0_bl _, va_recv K hP (ci := 2) (q0 := 2) rfl rfl, bb_pre (g0_mv G (fun _ _ => rfl) (Nat.le_refl _)) (hP.sub [2, 3, 4, 5, 6] rfl) _⟩ rfl rfl hl.1 rfl (lv_room (Nat.le_of_ble_eq_true rfl)) dX0_lambda_cut_0_2 ⟨Nat.le_refl _, Nat.le_refl _⟩) ?_
  refine x_ifb_eq (tgt := 21) hx hb dX0_lambda_cut_0_5 (by decide) (fun h_1 => ?_) (fun h_1 => ?_)
  · refine lv_iconst (v := nI 0) hx hb dX0_lambda_cut_0_21 (by decide) ?_
    exact x_zret hx hb hrt hlk (lb_0 h_1) dX0_lambda_cut_0_22
  · refine lv_aload_n hx hb dX0_lambda_cut_0_8 rfl (lv_at hl 1 rfl) ?_
    refine lv_aload_n hx hb dX0_lambda_cut_0_9 rfl (lv_at hl 0 rfl) ?_
    refine lv_iload_n hx hb dX0_lambda_cut_0_10 rfl (lv_at hl 2 rfl) ?_
    refine x_ret (va_runU (As := [.ref la, .int (nI pl)]) (rest := []) S (xk_isBroken_T l D dA E ad sz0 la lp lx ld lr row hn hcu ka kn nums kc hnum pl (by omega) (feas_sv h_1)) (va_cwO 2 hts (lw_O (x := ⟨"SiteCuts$Cut", "isBroken", "(LSiteCuts$Land;I)Z"⟩) (owner := "SiteCuts$Cut") q1000 q516 q515 q565 q518 q80 q519) rfl rfl rfl q566 (by decide +kernel) ⟨Nat.le_of_ble_eq_true rfl, Nat.le_of_ble_eq_true rfl⟩) ⟨bb_blind g0_bl _, va_recv K hP (ci := 9) (q0 := 0) rfl rfl, bb_pre (g0_mv G (fun _ _ => rfl) (Nat.le_refl _)) hP _⟩ rfl rfl hl.1 rfl (lv_room (Nat.le_of_ble_eq_true rfl)) dX0_lambda_cut_0_11 ⟨Nat.le_refl _, Nat.le_refl _⟩) ?_
    refine x_ifb_eq (tgt := 21) hx hb dX0_lambda_cut_0_14 (by decide) (fun h_2 => ?_) (fun h_2 => ?_)
    · refine lv_iconst (v := nI 0) hx hb dX0_lambda_cut_0_21 (by decide) ?_
      exact x_zret hx hb hrt hlk (lb_f h_1 h_2) dX0_lambda_cut_0_22
    · refine lv_iconst (v := nI 1) hx hb dX0_lambda_cut_0_17 (by decide) ?_
      refine lv_goto (tgt := 22) hx hb dX0_lambda_cut_0_18 (by decide) ?_
      exact x_zret hx hb hrt hlk (lb_t h_1 h_2) dX0_lambda_cut_0_22

set_option maxHeartbeats 4000000 in
theorem xq_cut_1_T (l : Launch) (D : va_G) (dA : Nat → ClassId) (E : Nat) (ad : Nat → Nat) (sz0 : Nat) (la lp lx ld lr : Nat) (row : Nat → Int32) {n cu : Nat} (hn : n ≤ 7) (hcu : cu ≤ 8) (ka kn : Nat) (nums : Nat → Int32) (kc : Nat) (hnum : ∀ c, c < cu → nums c = row (84 + 9 * kc + 1 + c)) (pl : Nat) (hp : pl < 128) : RO l yX0_lambda_cut_1 cX0_lambda_cut_1 3 (some .boolean) 7 280 [.ref la, .ref ka, .int (nI pl)] (G0 D dA E ad sz0) (fun H => va_P D vwCl (kP dA 9 ka kn nums ++ lW dA la lp lx ld lr row n cu) H) (some (.int (bI (if mFeas row n cu pl = false then false else (if mValue row n cu kc pl = mRoutes row n cu pl then true else false))))) := by
  refine ro_of (by decide) (Nat.le_of_ble_eq_true rfl) ?_
  intro p e s m below meth c S hrt hlk G hP ls hl
  obtain ⟨hx, hb, hml, hown, hts⟩ := id S
  have K := G.1
  have hP : va_P D vwCl [(ka, .inr (9, [.int (nI 1), .ref kn])), (kn, .inl (dA 0, 8, .inl nums)), (la, .inr (2, [.ref lp, .ref lx, .ref ld, .ref lr, .int (nI n), .int (nI cu), .int (row 2)])), (lp, .inl (dA 0, 7, .inl (fun k => row (6 + k)))), (lx, .inl (dA 0, 7, .inl (fun k => row (77 + k)))), (ld, .inl (dA 0, 8, .inl (fun k => row (13 + k)))), (lr, .inl (dA 0, 56, .inl (fun k => row (21 + k))))] s.heap := hP
  have hl : lv_has ls 3 [(0, .ref la), (1, .ref ka), (2, .int (nI pl))] := hl
  refine lv_aload_n hx hb dX0_lambda_cut_1_0 rfl (lv_at hl 0 rfl) ?_
  refine lv_iload_n hx hb dX0_lambda_cut_1_1 rfl (lv_at hl 2 rfl) ?_
  refine x_ret (va_runV (As := [.int (nI pl)]) (rest := []) S (xr_isFeasible l D dA E ad sz0 la lp lx ld lr row hn hcu pl (by omega)) (cwV 1 hts (lw_V q995 q996 q997 q61 q998) rfl rfl rfl hdX2_isFeasible ⟨Nat.le_of_ble_eq_true rfl, Nat.le_of_ble_eq_true rfl⟩) ⟨bb_blind g0_bl _, va_recv K hP (ci := 2) (q0 := 2) rfl rfl, bb_pre (g0_mv G (fun _ _ => rfl) (Nat.le_refl _)) (hP.sub [2, 3, 4, 5, 6] rfl) _⟩ rfl rfl hl.1 rfl (lv_room (Nat.le_of_ble_eq_true rfl)) dX0_lambda_cut_1_2 ⟨Nat.le_refl _, Nat.le_refl _⟩) ?_
  refine x_ifb_eq (tgt := 21) hx hb dX0_lambda_cut_1_5 (by decide) (fun h_1 => ?_) (fun h_1 => ?_)
  · refine lv_iconst (v := nI 0) hx hb dX0_lambda_cut_1_21 (by decide) ?_
    exact x_zret hx hb hrt hlk (lb_0 h_1) dX0_lambda_cut_1_22
  · refine lv_aload_n hx hb dX0_lambda_cut_1_8 rfl (lv_at hl 1 rfl) ?_
    refine lv_aload_n hx hb dX0_lambda_cut_1_9 rfl (lv_at hl 0 rfl) ?_
    refine lv_iload_n hx hb dX0_lambda_cut_1_10 rfl (lv_at hl 2 rfl) ?_
    refine x_ret (va_runU (As := [.ref la, .int (nI pl)]) (rest := []) S (xk_isTight_T l D dA E ad sz0 la lp lx ld lr row hn hcu ka kn nums kc hnum pl (by omega) (feas_sv h_1)) (va_cwO 2 hts (lw_O (x := ⟨"SiteCuts$Cut", "isTight", "(LSiteCuts$Land;I)Z"⟩) (owner := "SiteCuts$Cut") q1010 q1012 q1011 q1017 q1014 q80 q1015) rfl rfl rfl q1018 (by decide +kernel) ⟨Nat.le_of_ble_eq_true rfl, Nat.le_of_ble_eq_true rfl⟩) ⟨bb_blind g0_bl _, va_recv K hP (ci := 9) (q0 := 0) rfl rfl, bb_pre (g0_mv G (fun _ _ => rfl) (Nat.le_refl _)) hP _⟩ rfl rfl hl.1 rfl (lv_room (Nat.le_of_ble_eq_true rfl)) dX0_lambda_cut_1_11 ⟨Nat.le_refl _, Nat.le_refl _⟩) ?_
    refine x_ifb_eq (tgt := 21) hx hb dX0_lambda_cut_1_14 (by decide) (fun h_2 => ?_) (fun h_2 => ?_)
    · refine lv_iconst (v := nI 0) hx hb dX0_lambda_cut_1_21 (by decide) ?_
      exact x_zret hx hb hrt hlk (lb_f h_1 h_2) dX0_lambda_cut_1_22
    · refine lv_iconst (v := nI 1) hx hb dX0_lambda_cut_1_17 (by decide) ?_
      refine lv_goto (tgt := 22) hx hb dX0_lambda_cut_1_18 (by decide) ?_
      exact x_zret hx hb hrt hlk (lb_t h_1 h_2) dX0_lambda_cut_1_22

set_option maxHeartbeats 4000000 in
theorem xq_lb (l : Launch) (D : va_G) (dA : Nat → ClassId) (E : Nat) (ad : Nat → Nat) (sz0 mi : Nat) (x0 hi tb : Nat) (snv : Value) (sa la lp lx ld lr lq : Nat) (row : Nat → Int32) {n cu : Nat} (hn : n ≤ 7) (hcu : cu ≤ 8) (bs sp md : Int32) (d2 q2 p2 : Nat) (f2 : Nat → Option Nat) (FZ : va_W) (hq : q2 ≤ p2 ∧ p2 ≤ 64) (hco : CutsOk dA FZ row cu q2 f2) (pl : Nat) (hp : pl < 128) : RO l yX0_lambda_byAll_2 cX0_lambda_byAll_2 2 (some .boolean) 7 280 [.ref x0, .int (nI pl)] (G1 D dA E ad sz0 mi) (fun H => va_P D vwCl [(x0, .inr (0, [.ref sa, snv, .ref hi, .ref tb])), (sa, .inr (1, [.ref la, .ref lq, .int bs, .int sp])), (la, .inr (2, [.ref lp, .ref lx, .ref ld, .ref lr, .int (nI n), .int (nI cu), .int (row 2)])), (lp, .inl (dA 0, 7, .inl (fun k => row (6 + k)))), (lx, .inl (dA 0, 7, .inl (fun k => row (77 + k)))), (ld, .inl (dA 0, 8, .inl (fun k => row (13 + k)))), (lr, .inl (dA 0, 56, .inl (fun k => row (21 + k)))), (lq, .inr (4, [.int md, .ref d2, .int (nI q2)])), (d2, .inl (dA 1, p2, .inr (.inr (.inr (.inr f2)))))] H ∧ va_P D vwCl FZ H) (some (.int (bI (mFeas row n cu pl)))) := by
  refine ro_of (by decide) (Nat.le_of_ble_eq_true rfl) ?_
  intro p e s m below meth c S hrt hlk G hP ls hl
  obtain ⟨hx, hb, hml, hown, hts⟩ := id S
  obtain ⟨hP, hF⟩ := hP
  have hP : va_P D vwCl [(x0, .inr (0, [.ref sa, snv, .ref hi, .ref tb])), (sa, .inr (1, [.ref la, .ref lq, .int bs, .int sp])), (la, .inr (2, [.ref lp, .ref lx, .ref ld, .ref lr, .int (nI n), .int (nI cu), .int (row 2)])), (lp, .inl (dA 0, 7, .inl (fun k => row (6 + k)))), (lx, .inl (dA 0, 7, .inl (fun k => row (77 + k)))), (ld, .inl (dA 0, 8, .inl (fun k => row (13 + k)))), (lr, .inl (dA 0, 56, .inl (fun k => row (21 + k)))), (lq, .inr (4, [.int md, .ref d2, .int (nI q2)])), (d2, .inl (dA 1, p2, .inr (.inr (.inr (.inr f2)))))] s.heap := hP
  have K := G.1.1
  have h2n := pow7 hn
  have hl : lv_has ls 2 [(0, .ref x0), (1, .int (nI pl))] := hl
  refine lv_aload_n hx hb dX0_lambda_byAll_2_0 rfl (lv_at hl 0 rfl) ?_
  refine va_get (D := D) (ci := 0) (C := RX0) (T := TX0) (N := 4) hx hb hts in_X0 hown K hP 0 rfl rfl 0 (by decide) (hts _ q222) (fun _ h9 => h9) rfl dX0_lambda_byAll_2_1 ?_
  refine va_getN (D := D) (ci := 1) (C := RX1) (T := TX1) (N := 4) hx hb hts in_X1 hown K hP 1 rfl rfl 0 (by decide) (va_Nw.use rfl (G.1.2.1 _ q172 rfl)) (fun _ h9 => h9) rfl dX0_lambda_byAll_2_4 ?_
  refine lv_iload_n hx hb dX0_lambda_byAll_2_7 rfl (lv_at hl 1 rfl) ?_
  refine x_ret (va_runV (As := [.int (nI pl)]) (rest := []) S (xr_isFeasible l D dA E ad sz0 la lp lx ld lr row hn hcu pl (by omega)) (cwV 1 hts (lw_V q995 q996 q997 q61 q998) rfl rfl rfl hdX2_isFeasible ⟨Nat.le_of_ble_eq_true rfl, Nat.le_of_ble_eq_true rfl⟩) ⟨bb_blind g0_bl _, va_recv K hP (ci := 2) (q0 := 2) rfl rfl, bb_pre (g0_mv G.1 (fun _ _ => rfl) (Nat.le_refl _)) (hP.sub [2, 3, 4, 5, 6] rfl) _⟩ rfl rfl hl.1 rfl (lv_room (Nat.le_of_ble_eq_true rfl)) dX0_lambda_byAll_2_8 ⟨Nat.le_refl _, Nat.le_refl _⟩) ?_
  exact x_zret hx hb hrt hlk rfl dX0_lambda_byAll_2_11

theorem jo_a2 (l : Launch) (D : va_G) (dA : Nat → ClassId) (E : Nat) (ad : Nat → Nat) (sz0 mi : Nat) (lc : Nat → ClassId) (x0 hi tb : Nat) (snv : Value) (sa la lp lx ld lr lq : Nat) (row : Nat → Int32) {n cu : Nat} (hn : n ≤ 7) (hcu : cu ≤ 8) (bs sp md : Int32) (d2 q2 p2 : Nat) (f2 : Nat → Option Nat) (FZ : va_W) (hq : q2 ≤ p2 ∧ p2 ≤ 64) (hco : CutsOk dA FZ row cu q2 f2) (j1 : Nat) (Ψ0 : Heap → Prop) (hψ1 : ∀ H, Ψ0 H → va_P D vwCl [(x0, .inr (0, [.ref sa, snv, .ref hi, .ref tb])), (sa, .inr (1, [.ref la, .ref lq, .int bs, .int sp])), (la, .inr (2, [.ref lp, .ref lx, .ref ld, .ref lr, .int (nI n), .int (nI cu), .int (row 2)])), (lp, .inl (dA 0, 7, .inl (fun k => row (6 + k)))), (lx, .inl (dA 0, 7, .inl (fun k => row (77 + k)))), (ld, .inl (dA 0, 8, .inl (fun k => row (13 + k)))), (lr, .inl (dA 0, 56, .inl (fun k => row (21 + k)))), (lq, .inr (4, [.int md, .ref d2, .int (nI q2)])), (d2, .inl (dA 1, p2, .inr (.inr (.inr (.inr f2)))))] H ∧ va_P D vwCl FZ H) (hψ2 : ∀ H, Ψ0 H → H[j1]? = some (vp_cell (lc 5) (lamA 1 fun _ => some x0))) : JO l yJu (G2 D dA E ad sz0 mi lc) (fun H => va_P D vwCl (lW dA la lp lx ld lr row n cu) H ∧ Ψ0 H) 8 301 j1 (fun pl => pl < 2 ^ n) (fun pl => bI (mFeas row n cu pl)) :=
  jo_of1 (l := l) (d := 7) (lo := 280) (nT := 2) (a := j1) (b := x0) (ok := fun pl => pl < 2 ^ n) (cK := lc 5) (f := fun _ => some x0) (Γ := (G2 D dA E ad sz0 mi lc)) (Φ := fun H => va_P D vwCl (lW dA la lp lx ld lr row n cu) H ∧ Ψ0 H) (x := yX0_byAll) (σ := shA2) (y := yX0_lambda_byAll_2) (rt := .boolean) (Γ0 := (G1 D dA E ad sz0 mi)) (Φ0 := (fun H => va_P D vwCl [(x0, .inr (0, [.ref sa, snv, .ref hi, .ref tb])), (sa, .inr (1, [.ref la, .ref lq, .int bs, .int sp])), (la, .inr (2, [.ref lp, .ref lx, .ref ld, .ref lr, .int (nI n), .int (nI cu), .int (row 2)])), (lp, .inl (dA 0, 7, .inl (fun k => row (6 + k)))), (lx, .inl (dA 0, 7, .inl (fun k => row (77 + k)))), (ld, .inl (dA 0, 8, .inl (fun k => row (13 + k)))), (lr, .inl (dA 0, 56, .inl (fun k => row (21 + k)))), (lq, .inr (4, [.int md, .ref d2, .int (nI q2)])), (d2, .inl (dA 1, p2, .inr (.inr (.inr (.inr f2)))))] H ∧ va_P D vwCl FZ H)) (P := fun pl => bI (mFeas row n cu pl)) rfl (fun s G => G.2.1.2.2.2.2.1) (fun s G => G.2.2.1) (by decide +kernel) ⟨by decide, by decide⟩ (by decide +kernel) sh_A2 (by decide) (by decide +kernel) ⟨by decide, by decide⟩ (by decide +kernel) (fun pl h => xq_lb l D dA E ad sz0 mi x0 hi tb snv sa la lp lx ld lr lq row hn hcu bs sp md d2 q2 p2 f2 FZ hq hco pl (lt128 hn h)) (fun pl => narrow_bI _) g1_bl (fun U G => G.1) (fun H h => hψ1 H h.2) q1040 q59 q1041 qs18 (fun H h => hψ2 H h.2) (fun s H G h => va_recv G.1.1.1 (hψ1 H h.2).1 (ci := 0) (q0 := 0) rfl rfl)

theorem jo_c0R (l : Launch) (D : va_G) (dA : Nat → ClassId) (E : Nat) (ad : Nat → Nat) (sz0 mi : Nat) (lc : Nat → ClassId) (la lp lx ld lr : Nat) (row : Nat → Int32) {n cu : Nat} (hn : n ≤ 7) (hcu : cu ≤ 8) (kc : Nat) (ka j : Nat) (hj : j < 8) (hrj : row (84 + 9 * kc) = nI j) (j1 : Nat) (Ψ0 : Heap → Prop) (hψ1 : ∀ H, Ψ0 H → va_P D vwCl (kR ka j ++ lW dA la lp lx ld lr row n cu) H) (hψ2 : ∀ H, Ψ0 H → H[j1]? = some (vp_cell (lc 3) (lamA 2 fun k => if k = 0 then some la else some ka))) : JO l yJu (G2 D dA E ad sz0 mi lc) (fun H => va_P D vwCl (lW dA la lp lx ld lr row n cu) H ∧ Ψ0 H) 8 302 j1 (fun pl => pl < 2 ^ n) (fun pl => bI (xLB row n cu kc false pl)) :=
  jo_of2 (l := l) (d := 7) (lo := 280) (nT := 3) (a := j1) (b0 := la) (b1 := ka) (ok := fun pl => pl < 2 ^ n) (cK := lc 3) (f := fun k => if k = 0 then some la else some ka) (Γ := (G2 D dA E ad sz0 mi lc)) (Φ := fun H => va_P D vwCl (lW dA la lp lx ld lr row n cu) H ∧ Ψ0 H) (x := yX0_cut) (σ := shC0) (y := yX0_lambda_cut_0) (rt := .boolean) (Γ0 := (G0 D dA E ad sz0)) (Φ0 := fun H => va_P D vwCl (kR ka j ++ lW dA la lp lx ld lr row n cu) H) (P := fun pl => bI (xLB row n cu kc false pl)) rfl rfl (fun s G => G.2.1.2.2.1) (fun s G => G.2.2.1) (by decide +kernel) ⟨by decide, by decide⟩ (by decide +kernel) sh_C0 (by decide) (by decide +kernel) ⟨by decide, by decide⟩ (by decide +kernel) (fun pl h => by have h0 := xq_cut_0_R l D dA E ad sz0 la lp lx ld lr row hn hcu ka j hj pl (lt128 hn h); rw [lb0_R hn hj hrj] at h0; exact h0) (fun pl => narrow_bI _) g0_bl (fun U G => G.1.1) (fun H h => hψ1 H h.2) q993 q59 q994 (fun H h => hψ2 H h.2)

theorem jo_c0P (l : Launch) (D : va_G) (dA : Nat → ClassId) (E : Nat) (ad : Nat → Nat) (sz0 mi : Nat) (lc : Nat → ClassId) (la lp lx ld lr : Nat) (row : Nat → Int32) {n cu : Nat} (hn : n ≤ 7) (hcu : cu ≤ 8) (kc : Nat) (ka kn : Nat) (nums : Nat → Int32) (hnum : ∀ c, c < cu → nums c = row (84 + 9 * kc + 1 + c)) (hrj : row (84 + 9 * kc) = -5) (j1 : Nat) (Ψ0 : Heap → Prop) (hψ1 : ∀ H, Ψ0 H → va_P D vwCl (kP dA 5 ka kn nums ++ lW dA la lp lx ld lr row n cu) H) (hψ2 : ∀ H, Ψ0 H → H[j1]? = some (vp_cell (lc 3) (lamA 2 fun k => if k = 0 then some la else some ka))) : JO l yJu (G2 D dA E ad sz0 mi lc) (fun H => va_P D vwCl (lW dA la lp lx ld lr row n cu) H ∧ Ψ0 H) 8 302 j1 (fun pl => pl < 2 ^ n) (fun pl => bI (xLB row n cu kc false pl)) :=
  jo_of2 (l := l) (d := 7) (lo := 280) (nT := 3) (a := j1) (b0 := la) (b1 := ka) (ok := fun pl => pl < 2 ^ n) (cK := lc 3) (f := fun k => if k = 0 then some la else some ka) (Γ := (G2 D dA E ad sz0 mi lc)) (Φ := fun H => va_P D vwCl (lW dA la lp lx ld lr row n cu) H ∧ Ψ0 H) (x := yX0_cut) (σ := shC0) (y := yX0_lambda_cut_0) (rt := .boolean) (Γ0 := (G0 D dA E ad sz0)) (Φ0 := fun H => va_P D vwCl (kP dA 5 ka kn nums ++ lW dA la lp lx ld lr row n cu) H) (P := fun pl => bI (xLB row n cu kc false pl)) rfl rfl (fun s G => G.2.1.2.2.1) (fun s G => G.2.2.1) (by decide +kernel) ⟨by decide, by decide⟩ (by decide +kernel) sh_C0 (by decide) (by decide +kernel) ⟨by decide, by decide⟩ (by decide +kernel) (fun pl h => by have h0 := xq_cut_0_P l D dA E ad sz0 la lp lx ld lr row hn hcu ka kn nums kc hnum pl (lt128 hn h); rw [lb0_P hrj] at h0; exact h0) (fun pl => narrow_bI _) g0_bl (fun U G => G.1.1) (fun H h => hψ1 H h.2) q993 q59 q994 (fun H h => hψ2 H h.2)

theorem jo_c0T (l : Launch) (D : va_G) (dA : Nat → ClassId) (E : Nat) (ad : Nat → Nat) (sz0 mi : Nat) (lc : Nat → ClassId) (la lp lx ld lr : Nat) (row : Nat → Int32) {n cu : Nat} (hn : n ≤ 7) (hcu : cu ≤ 8) (kc : Nat) (ka kn : Nat) (nums : Nat → Int32) (hnum : ∀ c, c < cu → nums c = row (84 + 9 * kc + 1 + c)) (hrj : row (84 + 9 * kc) = -5) (j1 : Nat) (Ψ0 : Heap → Prop) (hψ1 : ∀ H, Ψ0 H → va_P D vwCl (kP dA 9 ka kn nums ++ lW dA la lp lx ld lr row n cu) H) (hψ2 : ∀ H, Ψ0 H → H[j1]? = some (vp_cell (lc 3) (lamA 2 fun k => if k = 0 then some la else some ka))) : JO l yJu (G2 D dA E ad sz0 mi lc) (fun H => va_P D vwCl (lW dA la lp lx ld lr row n cu) H ∧ Ψ0 H) 8 302 j1 (fun pl => pl < 2 ^ n) (fun pl => bI (xLB row n cu kc false pl)) :=
  jo_of2 (l := l) (d := 7) (lo := 280) (nT := 3) (a := j1) (b0 := la) (b1 := ka) (ok := fun pl => pl < 2 ^ n) (cK := lc 3) (f := fun k => if k = 0 then some la else some ka) (Γ := (G2 D dA E ad sz0 mi lc)) (Φ := fun H => va_P D vwCl (lW dA la lp lx ld lr row n cu) H ∧ Ψ0 H) (x := yX0_cut) (σ := shC0) (y := yX0_lambda_cut_0) (rt := .boolean) (Γ0 := (G0 D dA E ad sz0)) (Φ0 := fun H => va_P D vwCl (kP dA 9 ka kn nums ++ lW dA la lp lx ld lr row n cu) H) (P := fun pl => bI (xLB row n cu kc false pl)) rfl rfl (fun s G => G.2.1.2.2.1) (fun s G => G.2.2.1) (by decide +kernel) ⟨by decide, by decide⟩ (by decide +kernel) sh_C0 (by decide) (by decide +kernel) ⟨by decide, by decide⟩ (by decide +kernel) (fun pl h => by have h0 := xq_cut_0_T l D dA E ad sz0 la lp lx ld lr row hn hcu ka kn nums kc hnum pl (lt128 hn h); rw [lb0_P hrj] at h0; exact h0) (fun pl => narrow_bI _) g0_bl (fun U G => G.1.1) (fun H h => hψ1 H h.2) q993 q59 q994 (fun H h => hψ2 H h.2)

theorem jo_c1R (l : Launch) (D : va_G) (dA : Nat → ClassId) (E : Nat) (ad : Nat → Nat) (sz0 mi : Nat) (lc : Nat → ClassId) (la lp lx ld lr : Nat) (row : Nat → Int32) {n cu : Nat} (hn : n ≤ 7) (hcu : cu ≤ 8) (kc : Nat) (ka j : Nat) (hj : j < 8) (hrj : row (84 + 9 * kc) = nI j) (j1 : Nat) (Ψ0 : Heap → Prop) (hψ1 : ∀ H, Ψ0 H → va_P D vwCl (kR ka j ++ lW dA la lp lx ld lr row n cu) H) (hψ2 : ∀ H, Ψ0 H → H[j1]? = some (vp_cell (lc 4) (lamA 2 fun k => if k = 0 then some la else some ka))) : JO l yJu (G2 D dA E ad sz0 mi lc) (fun H => va_P D vwCl (lW dA la lp lx ld lr row n cu) H ∧ Ψ0 H) 8 302 j1 (fun pl => pl < 2 ^ n) (fun pl => bI (xLB row n cu kc true pl)) :=
  jo_of2 (l := l) (d := 7) (lo := 280) (nT := 3) (a := j1) (b0 := la) (b1 := ka) (ok := fun pl => pl < 2 ^ n) (cK := lc 4) (f := fun k => if k = 0 then some la else some ka) (Γ := (G2 D dA E ad sz0 mi lc)) (Φ := fun H => va_P D vwCl (lW dA la lp lx ld lr row n cu) H ∧ Ψ0 H) (x := yX0_cut) (σ := shC1) (y := yX0_lambda_cut_1) (rt := .boolean) (Γ0 := (G0 D dA E ad sz0)) (Φ0 := fun H => va_P D vwCl (kR ka j ++ lW dA la lp lx ld lr row n cu) H) (P := fun pl => bI (xLB row n cu kc true pl)) rfl rfl (fun s G => G.2.1.2.2.2.1) (fun s G => G.2.2.1) (by decide +kernel) ⟨by decide, by decide⟩ (by decide +kernel) sh_C1 (by decide) (by decide +kernel) ⟨by decide, by decide⟩ (by decide +kernel) (fun pl h => by have h0 := xq_cut_1_R l D dA E ad sz0 la lp lx ld lr row hn hcu ka j hj pl (lt128 hn h); rw [lb1_R hn hj hrj] at h0; exact h0) (fun pl => narrow_bI _) g0_bl (fun U G => G.1.1) (fun H h => hψ1 H h.2) q1008 q59 q1009 (fun H h => hψ2 H h.2)

theorem jo_c1P (l : Launch) (D : va_G) (dA : Nat → ClassId) (E : Nat) (ad : Nat → Nat) (sz0 mi : Nat) (lc : Nat → ClassId) (la lp lx ld lr : Nat) (row : Nat → Int32) {n cu : Nat} (hn : n ≤ 7) (hcu : cu ≤ 8) (kc : Nat) (ka kn : Nat) (nums : Nat → Int32) (hnum : ∀ c, c < cu → nums c = row (84 + 9 * kc + 1 + c)) (hrj : row (84 + 9 * kc) = -5) (j1 : Nat) (Ψ0 : Heap → Prop) (hψ1 : ∀ H, Ψ0 H → va_P D vwCl (kP dA 5 ka kn nums ++ lW dA la lp lx ld lr row n cu) H) (hψ2 : ∀ H, Ψ0 H → H[j1]? = some (vp_cell (lc 4) (lamA 2 fun k => if k = 0 then some la else some ka))) : JO l yJu (G2 D dA E ad sz0 mi lc) (fun H => va_P D vwCl (lW dA la lp lx ld lr row n cu) H ∧ Ψ0 H) 8 302 j1 (fun pl => pl < 2 ^ n) (fun pl => bI (xLB row n cu kc true pl)) :=
  jo_of2 (l := l) (d := 7) (lo := 280) (nT := 3) (a := j1) (b0 := la) (b1 := ka) (ok := fun pl => pl < 2 ^ n) (cK := lc 4) (f := fun k => if k = 0 then some la else some ka) (Γ := (G2 D dA E ad sz0 mi lc)) (Φ := fun H => va_P D vwCl (lW dA la lp lx ld lr row n cu) H ∧ Ψ0 H) (x := yX0_cut) (σ := shC1) (y := yX0_lambda_cut_1) (rt := .boolean) (Γ0 := (G0 D dA E ad sz0)) (Φ0 := fun H => va_P D vwCl (kP dA 5 ka kn nums ++ lW dA la lp lx ld lr row n cu) H) (P := fun pl => bI (xLB row n cu kc true pl)) rfl rfl (fun s G => G.2.1.2.2.2.1) (fun s G => G.2.2.1) (by decide +kernel) ⟨by decide, by decide⟩ (by decide +kernel) sh_C1 (by decide) (by decide +kernel) ⟨by decide, by decide⟩ (by decide +kernel) (fun pl h => by have h0 := xq_cut_1_P l D dA E ad sz0 la lp lx ld lr row hn hcu ka kn nums kc hnum pl (lt128 hn h); rw [lb1_P hrj] at h0; exact h0) (fun pl => narrow_bI _) g0_bl (fun U G => G.1.1) (fun H h => hψ1 H h.2) q1008 q59 q1009 (fun H h => hψ2 H h.2)

theorem jo_c1T (l : Launch) (D : va_G) (dA : Nat → ClassId) (E : Nat) (ad : Nat → Nat) (sz0 mi : Nat) (lc : Nat → ClassId) (la lp lx ld lr : Nat) (row : Nat → Int32) {n cu : Nat} (hn : n ≤ 7) (hcu : cu ≤ 8) (kc : Nat) (ka kn : Nat) (nums : Nat → Int32) (hnum : ∀ c, c < cu → nums c = row (84 + 9 * kc + 1 + c)) (hrj : row (84 + 9 * kc) = -5) (j1 : Nat) (Ψ0 : Heap → Prop) (hψ1 : ∀ H, Ψ0 H → va_P D vwCl (kP dA 9 ka kn nums ++ lW dA la lp lx ld lr row n cu) H) (hψ2 : ∀ H, Ψ0 H → H[j1]? = some (vp_cell (lc 4) (lamA 2 fun k => if k = 0 then some la else some ka))) : JO l yJu (G2 D dA E ad sz0 mi lc) (fun H => va_P D vwCl (lW dA la lp lx ld lr row n cu) H ∧ Ψ0 H) 8 302 j1 (fun pl => pl < 2 ^ n) (fun pl => bI (xLB row n cu kc true pl)) :=
  jo_of2 (l := l) (d := 7) (lo := 280) (nT := 3) (a := j1) (b0 := la) (b1 := ka) (ok := fun pl => pl < 2 ^ n) (cK := lc 4) (f := fun k => if k = 0 then some la else some ka) (Γ := (G2 D dA E ad sz0 mi lc)) (Φ := fun H => va_P D vwCl (lW dA la lp lx ld lr row n cu) H ∧ Ψ0 H) (x := yX0_cut) (σ := shC1) (y := yX0_lambda_cut_1) (rt := .boolean) (Γ0 := (G0 D dA E ad sz0)) (Φ0 := fun H => va_P D vwCl (kP dA 9 ka kn nums ++ lW dA la lp lx ld lr row n cu) H) (P := fun pl => bI (xLB row n cu kc true pl)) rfl rfl (fun s G => G.2.1.2.2.2.1) (fun s G => G.2.2.1) (by decide +kernel) ⟨by decide, by decide⟩ (by decide +kernel) sh_C1 (by decide) (by decide +kernel) ⟨by decide, by decide⟩ (by decide +kernel) (fun pl h => by have h0 := xq_cut_1_T l D dA E ad sz0 la lp lx ld lr row hn hcu ka kn nums kc hnum pl (lt128 hn h); rw [lb1_P hrj] at h0; exact h0) (fun pl => narrow_bI _) g0_bl (fun U G => G.1.1) (fun H h => hψ1 H h.2) q1008 q59 q1009 (fun H h => hψ2 H h.2)

set_option maxHeartbeats 4000000 in
theorem xq_master (l : Launch) (D : va_G) (dA : Nat → ClassId) (E : Nat) (ad : Nat → Nat) (sz0 mi : Nat) (lc : Nat → ClassId) (x0 hi tb : Nat) (snv : Value) (sa la lp lx ld lr lq : Nat) (row : Nat → Int32) {n cu : Nat} (hn : n ≤ 7) (hcu : cu ≤ 8) (bs sp md : Int32) (d2 q2 p2 : Nat) (f2 : Nat → Option Nat) (FZ : va_W) (hq : q2 ≤ p2 ∧ p2 ≤ 64) (hco : CutsOk dA FZ row cu q2 f2) (bst : Option Nat) (hB : bs = oI bst ∧ ∀ b, bst = some b → b < 2 ^ n ∧ mMissed row n cu b = none) (x : Int32) (hup : Up sz0 []) (hap : Apart FZ []) : EX l yX0_master cX0_master 3 (some .int) 12 3720 2 2 [.ref x0, .int x] (G2 D dA E ad sz0 mi lc) D ([]) (fun H => va_P D vwCl [(x0, .inr (0, [.ref sa, snv, .ref hi, .ref tb])), (sa, .inr (1, [.ref la, .ref lq, .int bs, .int sp])), (la, .inr (2, [.ref lp, .ref lx, .ref ld, .ref lr, .int (nI n), .int (nI cu), .int (row 2)])), (lp, .inl (dA 0, 7, .inl (fun k => row (6 + k)))), (lx, .inl (dA 0, 7, .inl (fun k => row (77 + k)))), (ld, .inl (dA 0, 8, .inl (fun k => row (13 + k)))), (lr, .inl (dA 0, 56, .inl (fun k => row (21 + k)))), (lq, .inr (4, [.int md, .ref d2, .int (nI q2)])), (d2, .inl (dA 1, p2, .inr (.inr (.inr (.inr f2)))))] H ∧ va_P D vwCl FZ H) (S := Unit) (fun _ _ => True) (fun _ => some (.int (rMaster row n cu q2 bst x))) (fun _ => []) := by
  refine ex_of (by decide) (Nat.le_of_ble_eq_true rfl) ?_
  intro p e s m below meth c A S hrt hlk hnm GG hA hAe hΦ H locs hP hD hS ls hl
  obtain ⟨hx, hb, hml, hown, hts⟩ := id S
  have G := GG.1
  obtain ⟨hsrc, hΦ⟩ := hΦ
  have K := G.1.1
  have hA0 := up_A hup G.1.2.2.2.2.2.2 hAe
  have h2n := pow7 hn
  have hFA := ap_A hΦ hap hAe
  have hsA := ap_A hsrc (fun _ _ _ h => by cases h) hAe
  have hP : va_P D vwCl [] H := hP
  have hD : va_D A [] := hD
  have hl : lv_has ls 3 [(0, .ref x0), (1, .int x)] := hl
  refine lv_iload_n hx hb dX0_master_0 rfl (lv_at hl 1 rfl) ?_
  refine lv_iconst (v := nI 0) hx hb dX0_master_1 (by decide) ?_
  refine lv_iconst (v := nI 4) hx hb dX0_master_2 (by decide) ?_
  refine x_ret (va_runS (As := [.int x, .int (nI 0), .int (nI 4)]) (rest := []) S (xr_inRange l x (nI 0) (nI 4)) (va_cwS 3 hts (lw_S q239 q240 q59 q241) rfl rfl rfl hdX0_inRange ⟨Nat.le_of_ble_eq_true rfl, Nat.le_of_ble_eq_true rfl⟩) ⟨bb_blind tt_bl _, tt_pre _⟩ rfl rfl hl.1 rfl (lv_room (Nat.le_of_ble_eq_true rfl)) dX0_master_3 ⟨Nat.le_of_ble_eq_true rfl, Nat.le_of_ble_eq_true rfl⟩) ?_
  refine x_ifb_ne (tgt := 12) hx hb dX0_master_6 (by decide) (fun h_1 => ?_) (fun h_1 => ?_)
  · rcases in5 h_1 with rfl | rfl | rfl | rfl | rfl
    · refine lv_aload_n hx hb dX0_master_12 rfl (lv_at hl 0 rfl) ?_
      refine va_get (D := D) (ci := 0) (C := RX0) (T := TX0) (N := 4) hx hb hts in_X0 hown K (fz_S hsrc hsA hS) 0 rfl rfl 0 (by decide) (hts _ q222) (fun _ h9 => h9) rfl dX0_master_13 ?_
      refine x_ecallP (va_runV (As := []) (rest := []) S (xs_master l D dA E ad sz0 mi lc sa la lp lx ld lr lq row hn hcu bs sp md d2 q2 p2 f2 FZ hq hco (fun _ h => by cases h) (fun _ _ _ h => by cases h) H.size) (cwV 0 hts (lw_V q804 q446 q447 q60 q448) rfl rfl rfl hdX1_master ⟨Nat.le_of_ble_eq_true rfl, Nat.le_of_ble_eq_true rfl⟩) ⟨pe_blind g2_bl _, va_recv K (fz_S hsrc hsA hS) (ci := 1) (q0 := 1) rfl rfl, pe_pre (g2_mv GG (low_of hS hA0 G.1.2.2.2.2.2.2) hS.1) (hP.sub [] rfl) (hD.sub [] rfl rfl) ⟨(fz_S hsrc hsA hS).sub [1, 2, 3, 4, 5, 6, 7, 8] rfl, (fz_S hΦ hFA hS)⟩ _⟩ rfl rfl hl.1 rfl (lv_room (Nat.le_of_ble_eq_true rfl)) dX0_master_16 ⟨Nat.le_of_ble_eq_true rfl, Nat.le_of_ble_eq_true rfl⟩) hP hD hS hA [] pm_nil (fun _u H locs hΨ hP hD hS hkp hsz hDn => ?_)
      rw [List.append_nil] at hP hD
      have hP : va_P D vwCl [] H := hP
      have hD : va_D A [] := hD
      refine W.widen (k := 2) (n := 2) (Nat.le_of_ble_eq_true rfl) (Nat.le_of_ble_eq_true rfl) ?_
      refine lv_istore_n (lv' := [(2, .int (oI (mMaster row n cu q2))), (0, .ref x0), (1, .int (nI 0))]) hx hb dX0_master_19 rfl hl (by decide) rfl (fun ls hl => ?_)
      refine lv_iload_n hx hb dX0_master_20 rfl (lv_at hl 2 rfl) ?_
      refine lv_iconst (v := nI 2) hx hb dX0_master_21 (by decide) ?_
      refine lv_icmp_eq (tgt := 36) hx hb dX0_master_22 (by decide) (fun h => absurd h (by decide)) (fun _ => ?_)
      refine lv_iload_n hx hb dX0_master_25 rfl (lv_at hl 2 rfl) ?_
      refine lv_iconst (v := nI 3) hx hb dX0_master_26 (by decide) ?_
      refine lv_icmp_eq (tgt := 36) hx hb dX0_master_27 (by decide) (fun h => absurd h (by decide)) (fun _ => ?_)
      refine lv_iload_n hx hb dX0_master_30 rfl (lv_at hl 0 rfl) ?_
      refine lv_bipush (v := -5) hx hb dX0_master_31 (by decide) ?_
      refine x_icmpo_eq (tgt := 53) hx hb dX0_master_33 (by decide) (fun b hb => by have := mMaster_lt hb; omega) (fun h_4 => ?_) (fun pl h_4 => ?_)
      · refine lv_bipush (v := -5) hx hb dX0_master_53 (by decide) ?_
        exact x_eiret () hx hb hrt hlk (congrArg (fun z => some (Value.int z)) (show _ = -5 from (by simp (decide := true) [rMaster, mCost, oI_s, oI_n, h_1, h_4]))) trivial (hP.sub [] rfl) (hD.sub [] rfl rfl) hS dX0_master_55 (Nat.le_of_ble_eq_true rfl) (Nat.le_of_ble_eq_true rfl)
      · have hml2 := mMaster_lt h_4
        refine lv_iload_n hx hb dX0_master_36 rfl (lv_at hl 2 rfl) ?_
        refine lv_iconst (v := nI 1) hx hb dX0_master_37 (by decide) ?_
        refine lv_icmp_le (tgt := 56) hx hb dX0_master_38 (by decide) (fun _ => ?_) (fun h => absurd (by decide) h)
        refine lv_iload_n hx hb dX0_master_56 rfl (lv_at hl 2 rfl) ?_
        refine lv_tableIn (tgt := 88) hx hb dX0_master_57 (by decide) (by decide) rfl (by decide) ?_
        refine lv_iload_n hx hb dX0_master_88 rfl (lv_at hl 0 rfl) ?_
        refine x_top (y := nI pl) (by rw [h_4]; rfl) ?_
        exact x_eiret () hx hb hrt hlk (congrArg (fun z => some (Value.int z)) (show _ = nI pl from (by simp (decide := true) [rMaster, mCost, oI_s, oI_n, h_1, h_4]))) trivial (hP.sub [] rfl) (hD.sub [] rfl rfl) hS dX0_master_89 (Nat.le_of_ble_eq_true rfl) (Nat.le_of_ble_eq_true rfl)
    · refine lv_aload_n hx hb dX0_master_12 rfl (lv_at hl 0 rfl) ?_
      refine va_get (D := D) (ci := 0) (C := RX0) (T := TX0) (N := 4) hx hb hts in_X0 hown K (fz_S hsrc hsA hS) 0 rfl rfl 0 (by decide) (hts _ q222) (fun _ h9 => h9) rfl dX0_master_13 ?_
      refine x_ecallP (va_runV (As := []) (rest := []) S (xs_master l D dA E ad sz0 mi lc sa la lp lx ld lr lq row hn hcu bs sp md d2 q2 p2 f2 FZ hq hco (fun _ h => by cases h) (fun _ _ _ h => by cases h) H.size) (cwV 0 hts (lw_V q804 q446 q447 q60 q448) rfl rfl rfl hdX1_master ⟨Nat.le_of_ble_eq_true rfl, Nat.le_of_ble_eq_true rfl⟩) ⟨pe_blind g2_bl _, va_recv K (fz_S hsrc hsA hS) (ci := 1) (q0 := 1) rfl rfl, pe_pre (g2_mv GG (low_of hS hA0 G.1.2.2.2.2.2.2) hS.1) (hP.sub [] rfl) (hD.sub [] rfl rfl) ⟨(fz_S hsrc hsA hS).sub [1, 2, 3, 4, 5, 6, 7, 8] rfl, (fz_S hΦ hFA hS)⟩ _⟩ rfl rfl hl.1 rfl (lv_room (Nat.le_of_ble_eq_true rfl)) dX0_master_16 ⟨Nat.le_of_ble_eq_true rfl, Nat.le_of_ble_eq_true rfl⟩) hP hD hS hA [] pm_nil (fun _u H locs hΨ hP hD hS hkp hsz hDn => ?_)
      rw [List.append_nil] at hP hD
      have hP : va_P D vwCl [] H := hP
      have hD : va_D A [] := hD
      refine W.widen (k := 2) (n := 2) (Nat.le_of_ble_eq_true rfl) (Nat.le_of_ble_eq_true rfl) ?_
      refine lv_istore_n (lv' := [(2, .int (oI (mMaster row n cu q2))), (0, .ref x0), (1, .int (nI 1))]) hx hb dX0_master_19 rfl hl (by decide) rfl (fun ls hl => ?_)
      refine lv_iload_n hx hb dX0_master_20 rfl (lv_at hl 2 rfl) ?_
      refine lv_iconst (v := nI 2) hx hb dX0_master_21 (by decide) ?_
      refine lv_icmp_eq (tgt := 36) hx hb dX0_master_22 (by decide) (fun h => absurd h (by decide)) (fun _ => ?_)
      refine lv_iload_n hx hb dX0_master_25 rfl (lv_at hl 2 rfl) ?_
      refine lv_iconst (v := nI 3) hx hb dX0_master_26 (by decide) ?_
      refine lv_icmp_eq (tgt := 36) hx hb dX0_master_27 (by decide) (fun h => absurd h (by decide)) (fun _ => ?_)
      refine lv_iload_n hx hb dX0_master_30 rfl (lv_at hl 0 rfl) ?_
      refine lv_bipush (v := -5) hx hb dX0_master_31 (by decide) ?_
      refine x_icmpo_eq (tgt := 53) hx hb dX0_master_33 (by decide) (fun b hb => by have := mMaster_lt hb; omega) (fun h_8 => ?_) (fun pl h_8 => ?_)
      · refine lv_bipush (v := -5) hx hb dX0_master_53 (by decide) ?_
        exact x_eiret () hx hb hrt hlk (congrArg (fun z => some (Value.int z)) (show _ = -5 from (by simp (decide := true) [rMaster, mCost, oI_s, oI_n, h_1, h_8]))) trivial (hP.sub [] rfl) (hD.sub [] rfl rfl) hS dX0_master_55 (Nat.le_of_ble_eq_true rfl) (Nat.le_of_ble_eq_true rfl)
      · have hml2 := mMaster_lt h_8
        refine lv_iload_n hx hb dX0_master_36 rfl (lv_at hl 2 rfl) ?_
        refine lv_iconst (v := nI 1) hx hb dX0_master_37 (by decide) ?_
        refine lv_icmp_le (tgt := 56) hx hb dX0_master_38 (by decide) (fun _ => ?_) (fun h => absurd (by decide) h)
        refine lv_iload_n hx hb dX0_master_56 rfl (lv_at hl 2 rfl) ?_
        refine lv_tableIn (tgt := 90) hx hb dX0_master_57 (by decide) (by decide) rfl (by decide) ?_
        refine lv_aload_n hx hb dX0_master_90 rfl (lv_at hl 1 rfl) ?_
        refine va_get (D := D) (ci := 0) (C := RX0) (T := TX0) (N := 4) hx hb hts in_X0 hown K (fz_S hsrc hsA hS) 0 rfl rfl 0 (by decide) (hts _ q222) (fun _ h9 => h9) rfl dX0_master_91 ?_
        refine lv_iload_n hx hb dX0_master_94 rfl (lv_at hl 0 rfl) ?_
        refine x_top (y := nI pl) (by rw [h_8]; rfl) ?_
        refine x_ret (va_runV (As := [.int (nI pl)]) (rest := []) S (xs_guess l D dA E ad sz0 mi sa la lp lx ld lr lq row hn hcu bs sp md d2 q2 p2 f2 FZ hq hco pl (by omega)) (cwV 1 hts (lw_V q961 q572 q573 q60 q574) rfl rfl rfl hdX1_guess ⟨Nat.le_of_ble_eq_true rfl, Nat.le_of_ble_eq_true rfl⟩) ⟨bb_blind g1_bl _, va_recv K (fz_S hsrc hsA hS) (ci := 1) (q0 := 1) rfl rfl, bb_pre (g1_mv G (low_of hS hA0 G.1.2.2.2.2.2.2) hS.1) ⟨(fz_S hsrc hsA hS).sub [1, 2, 3, 4, 5, 6, 7, 8] rfl, (fz_S hΦ hFA hS)⟩ _⟩ rfl rfl hl.1 rfl (lv_room (Nat.le_of_ble_eq_true rfl)) dX0_master_95 ⟨Nat.le_of_ble_eq_true rfl, Nat.le_of_ble_eq_true rfl⟩) ?_
        exact x_eiret () hx hb hrt hlk (congrArg (fun z => some (Value.int z)) (show _ = mGuess row n cu q2 pl from (by simp (decide := true) [rMaster, mCost, oI_s, oI_n, h_1, h_8]))) trivial (hP.sub [] rfl) (hD.sub [] rfl rfl) hS dX0_master_98 (Nat.le_of_ble_eq_true rfl) (Nat.le_of_ble_eq_true rfl)
    · refine lv_aload_n hx hb dX0_master_12 rfl (lv_at hl 0 rfl) ?_
      refine va_get (D := D) (ci := 0) (C := RX0) (T := TX0) (N := 4) hx hb hts in_X0 hown K (fz_S hsrc hsA hS) 0 rfl rfl 0 (by decide) (hts _ q222) (fun _ h9 => h9) rfl dX0_master_13 ?_
      refine x_ecallP (va_runV (As := []) (rest := []) S (xs_master l D dA E ad sz0 mi lc sa la lp lx ld lr lq row hn hcu bs sp md d2 q2 p2 f2 FZ hq hco (fun _ h => by cases h) (fun _ _ _ h => by cases h) H.size) (cwV 0 hts (lw_V q804 q446 q447 q60 q448) rfl rfl rfl hdX1_master ⟨Nat.le_of_ble_eq_true rfl, Nat.le_of_ble_eq_true rfl⟩) ⟨pe_blind g2_bl _, va_recv K (fz_S hsrc hsA hS) (ci := 1) (q0 := 1) rfl rfl, pe_pre (g2_mv GG (low_of hS hA0 G.1.2.2.2.2.2.2) hS.1) (hP.sub [] rfl) (hD.sub [] rfl rfl) ⟨(fz_S hsrc hsA hS).sub [1, 2, 3, 4, 5, 6, 7, 8] rfl, (fz_S hΦ hFA hS)⟩ _⟩ rfl rfl hl.1 rfl (lv_room (Nat.le_of_ble_eq_true rfl)) dX0_master_16 ⟨Nat.le_of_ble_eq_true rfl, Nat.le_of_ble_eq_true rfl⟩) hP hD hS hA [] pm_nil (fun _u H locs hΨ hP hD hS hkp hsz hDn => ?_)
      rw [List.append_nil] at hP hD
      have hP : va_P D vwCl [] H := hP
      have hD : va_D A [] := hD
      refine W.widen (k := 2) (n := 2) (Nat.le_of_ble_eq_true rfl) (Nat.le_of_ble_eq_true rfl) ?_
      refine lv_istore_n (lv' := [(2, .int (oI (mMaster row n cu q2))), (0, .ref x0), (1, .int (nI 2))]) hx hb dX0_master_19 rfl hl (by decide) rfl (fun ls hl => ?_)
      refine lv_iload_n hx hb dX0_master_20 rfl (lv_at hl 2 rfl) ?_
      refine lv_iconst (v := nI 2) hx hb dX0_master_21 (by decide) ?_
      refine lv_icmp_eq (tgt := 36) hx hb dX0_master_22 (by decide) (fun _ => ?_) (fun h => absurd (by decide) h)
      refine lv_iload_n hx hb dX0_master_36 rfl (lv_at hl 2 rfl) ?_
      refine lv_iconst (v := nI 1) hx hb dX0_master_37 (by decide) ?_
      refine lv_icmp_le (tgt := 56) hx hb dX0_master_38 (by decide) (fun h => absurd h (by decide)) (fun _ => ?_)
      refine lv_aload_n hx hb dX0_master_41 rfl (lv_at hl 1 rfl) ?_
      refine va_get (D := D) (ci := 0) (C := RX0) (T := TX0) (N := 4) hx hb hts in_X0 hown K (fz_S hsrc hsA hS) 0 rfl rfl 0 (by decide) (hts _ q222) (fun _ h9 => h9) rfl dX0_master_42 ?_
      refine va_getN (D := D) (ci := 1) (C := RX1) (T := TX1) (N := 4) hx hb hts in_X1 hown K (fz_S hsrc hsA hS) 1 rfl rfl 2 (by decide) (va_Nw.use rfl (G.1.2.1 _ q176 rfl)) (fun _ h9 => h9) rfl dX0_master_45 ?_
      refine x_top (y := oI bst) hB.1 ?_
      refine lv_bipush (v := -5) hx hb dX0_master_48 (by decide) ?_
      refine x_icmpo_ne (tgt := 56) hx hb dX0_master_50 (by decide) (fun b hb => by have := (hB.2 b hb).1; omega) (fun b h_12 => ?_) (fun h_12 => ?_)
      · obtain ⟨hb2, hms⟩ := hB.2 _ h_12
        refine lv_iload_n hx hb dX0_master_56 rfl (lv_at hl 2 rfl) ?_
        refine lv_tableIn (tgt := 99) hx hb dX0_master_57 (by decide) (by decide) rfl (by decide) ?_
        refine lv_aload_n hx hb dX0_master_99 rfl (lv_at hl 1 rfl) ?_
        refine va_get (D := D) (ci := 0) (C := RX0) (T := TX0) (N := 4) hx hb hts in_X0 hown K (fz_S hsrc hsA hS) 0 rfl rfl 0 (by decide) (hts _ q222) (fun _ h9 => h9) rfl dX0_master_100 ?_
        refine va_getN (D := D) (ci := 1) (C := RX1) (T := TX1) (N := 4) hx hb hts in_X1 hown K (fz_S hsrc hsA hS) 1 rfl rfl 2 (by decide) (va_Nw.use rfl (G.1.2.1 _ q176 rfl)) (fun _ h9 => h9) rfl dX0_master_103 ?_
        refine x_top (y := oI bst) hB.1 ?_
        exact x_eiret () hx hb hrt hlk (congrArg (fun z => some (Value.int z)) (show _ = oI bst from (by simp (decide := true) [rMaster, mCost, oI_s, oI_n, h_1, h_12]))) trivial (hP.sub [] rfl) (hD.sub [] rfl rfl) hS dX0_master_106 (Nat.le_of_ble_eq_true rfl) (Nat.le_of_ble_eq_true rfl)
      · refine lv_bipush (v := -5) hx hb dX0_master_53 (by decide) ?_
        exact x_eiret () hx hb hrt hlk (congrArg (fun z => some (Value.int z)) (show _ = -5 from (by simp (decide := true) [rMaster, mCost, oI_s, oI_n, h_1, h_12]))) trivial (hP.sub [] rfl) (hD.sub [] rfl rfl) hS dX0_master_55 (Nat.le_of_ble_eq_true rfl) (Nat.le_of_ble_eq_true rfl)
    · refine lv_aload_n hx hb dX0_master_12 rfl (lv_at hl 0 rfl) ?_
      refine va_get (D := D) (ci := 0) (C := RX0) (T := TX0) (N := 4) hx hb hts in_X0 hown K (fz_S hsrc hsA hS) 0 rfl rfl 0 (by decide) (hts _ q222) (fun _ h9 => h9) rfl dX0_master_13 ?_
      refine x_ecallP (va_runV (As := []) (rest := []) S (xs_master l D dA E ad sz0 mi lc sa la lp lx ld lr lq row hn hcu bs sp md d2 q2 p2 f2 FZ hq hco (fun _ h => by cases h) (fun _ _ _ h => by cases h) H.size) (cwV 0 hts (lw_V q804 q446 q447 q60 q448) rfl rfl rfl hdX1_master ⟨Nat.le_of_ble_eq_true rfl, Nat.le_of_ble_eq_true rfl⟩) ⟨pe_blind g2_bl _, va_recv K (fz_S hsrc hsA hS) (ci := 1) (q0 := 1) rfl rfl, pe_pre (g2_mv GG (low_of hS hA0 G.1.2.2.2.2.2.2) hS.1) (hP.sub [] rfl) (hD.sub [] rfl rfl) ⟨(fz_S hsrc hsA hS).sub [1, 2, 3, 4, 5, 6, 7, 8] rfl, (fz_S hΦ hFA hS)⟩ _⟩ rfl rfl hl.1 rfl (lv_room (Nat.le_of_ble_eq_true rfl)) dX0_master_16 ⟨Nat.le_of_ble_eq_true rfl, Nat.le_of_ble_eq_true rfl⟩) hP hD hS hA [] pm_nil (fun _u H locs hΨ hP hD hS hkp hsz hDn => ?_)
      rw [List.append_nil] at hP hD
      have hP : va_P D vwCl [] H := hP
      have hD : va_D A [] := hD
      refine W.widen (k := 2) (n := 2) (Nat.le_of_ble_eq_true rfl) (Nat.le_of_ble_eq_true rfl) ?_
      refine lv_istore_n (lv' := [(2, .int (oI (mMaster row n cu q2))), (0, .ref x0), (1, .int (nI 3))]) hx hb dX0_master_19 rfl hl (by decide) rfl (fun ls hl => ?_)
      refine lv_iload_n hx hb dX0_master_20 rfl (lv_at hl 2 rfl) ?_
      refine lv_iconst (v := nI 2) hx hb dX0_master_21 (by decide) ?_
      refine lv_icmp_eq (tgt := 36) hx hb dX0_master_22 (by decide) (fun h => absurd h (by decide)) (fun _ => ?_)
      refine lv_iload_n hx hb dX0_master_25 rfl (lv_at hl 2 rfl) ?_
      refine lv_iconst (v := nI 3) hx hb dX0_master_26 (by decide) ?_
      refine lv_icmp_eq (tgt := 36) hx hb dX0_master_27 (by decide) (fun _ => ?_) (fun h => absurd (by decide) h)
      refine lv_iload_n hx hb dX0_master_36 rfl (lv_at hl 2 rfl) ?_
      refine lv_iconst (v := nI 1) hx hb dX0_master_37 (by decide) ?_
      refine lv_icmp_le (tgt := 56) hx hb dX0_master_38 (by decide) (fun h => absurd h (by decide)) (fun _ => ?_)
      refine lv_aload_n hx hb dX0_master_41 rfl (lv_at hl 1 rfl) ?_
      refine va_get (D := D) (ci := 0) (C := RX0) (T := TX0) (N := 4) hx hb hts in_X0 hown K (fz_S hsrc hsA hS) 0 rfl rfl 0 (by decide) (hts _ q222) (fun _ h9 => h9) rfl dX0_master_42 ?_
      refine va_getN (D := D) (ci := 1) (C := RX1) (T := TX1) (N := 4) hx hb hts in_X1 hown K (fz_S hsrc hsA hS) 1 rfl rfl 2 (by decide) (va_Nw.use rfl (G.1.2.1 _ q176 rfl)) (fun _ h9 => h9) rfl dX0_master_45 ?_
      refine x_top (y := oI bst) hB.1 ?_
      refine lv_bipush (v := -5) hx hb dX0_master_48 (by decide) ?_
      refine x_icmpo_ne (tgt := 56) hx hb dX0_master_50 (by decide) (fun b hb => by have := (hB.2 b hb).1; omega) (fun b h_16 => ?_) (fun h_16 => ?_)
      · obtain ⟨hb2, hms⟩ := hB.2 _ h_16
        refine lv_iload_n hx hb dX0_master_56 rfl (lv_at hl 2 rfl) ?_
        refine lv_tableIn (tgt := 107) hx hb dX0_master_57 (by decide) (by decide) rfl (by decide) ?_
        refine lv_aload_n hx hb dX0_master_107 rfl (lv_at hl 1 rfl) ?_
        refine va_get (D := D) (ci := 0) (C := RX0) (T := TX0) (N := 4) hx hb hts in_X0 hown K (fz_S hsrc hsA hS) 0 rfl rfl 0 (by decide) (hts _ q222) (fun _ h9 => h9) rfl dX0_master_108 ?_
        refine x_ret (va_runV (As := []) (rest := []) S (xs_upper l D dA E ad sz0 mi sa la lp lx ld lr lq row hn hcu bs sp md d2 q2 p2 f2 FZ hq hco b (hB.1.trans (congrArg oI h_16)) (by omega) (miss_none hms)) (cwV 0 hts (lw_V q1034 q609 q610 q60 q611) rfl rfl rfl hdX1_upper ⟨Nat.le_of_ble_eq_true rfl, Nat.le_of_ble_eq_true rfl⟩) ⟨bb_blind g1_bl _, va_recv K (fz_S hsrc hsA hS) (ci := 1) (q0 := 1) rfl rfl, bb_pre (g1_mv G (low_of hS hA0 G.1.2.2.2.2.2.2) hS.1) ⟨(fz_S hsrc hsA hS).sub [1, 2, 3, 4, 5, 6, 7, 8] rfl, (fz_S hΦ hFA hS)⟩ _⟩ rfl rfl hl.1 rfl (lv_room (Nat.le_of_ble_eq_true rfl)) dX0_master_111 ⟨Nat.le_of_ble_eq_true rfl, Nat.le_of_ble_eq_true rfl⟩) ?_
        exact x_eiret () hx hb hrt hlk (congrArg (fun z => some (Value.int z)) (show _ = mCost row n cu b from (by simp (decide := true) [rMaster, mCost, oI_s, oI_n, h_1, h_16]))) trivial (hP.sub [] rfl) (hD.sub [] rfl rfl) hS dX0_master_114 (Nat.le_of_ble_eq_true rfl) (Nat.le_of_ble_eq_true rfl)
      · refine lv_bipush (v := -5) hx hb dX0_master_53 (by decide) ?_
        exact x_eiret () hx hb hrt hlk (congrArg (fun z => some (Value.int z)) (show _ = -5 from (by simp (decide := true) [rMaster, mCost, oI_s, oI_n, h_1, h_16]))) trivial (hP.sub [] rfl) (hD.sub [] rfl rfl) hS dX0_master_55 (Nat.le_of_ble_eq_true rfl) (Nat.le_of_ble_eq_true rfl)
    · refine lv_aload_n hx hb dX0_master_12 rfl (lv_at hl 0 rfl) ?_
      refine va_get (D := D) (ci := 0) (C := RX0) (T := TX0) (N := 4) hx hb hts in_X0 hown K (fz_S hsrc hsA hS) 0 rfl rfl 0 (by decide) (hts _ q222) (fun _ h9 => h9) rfl dX0_master_13 ?_
      refine x_ecallP (va_runV (As := []) (rest := []) S (xs_master l D dA E ad sz0 mi lc sa la lp lx ld lr lq row hn hcu bs sp md d2 q2 p2 f2 FZ hq hco (fun _ h => by cases h) (fun _ _ _ h => by cases h) H.size) (cwV 0 hts (lw_V q804 q446 q447 q60 q448) rfl rfl rfl hdX1_master ⟨Nat.le_of_ble_eq_true rfl, Nat.le_of_ble_eq_true rfl⟩) ⟨pe_blind g2_bl _, va_recv K (fz_S hsrc hsA hS) (ci := 1) (q0 := 1) rfl rfl, pe_pre (g2_mv GG (low_of hS hA0 G.1.2.2.2.2.2.2) hS.1) (hP.sub [] rfl) (hD.sub [] rfl rfl) ⟨(fz_S hsrc hsA hS).sub [1, 2, 3, 4, 5, 6, 7, 8] rfl, (fz_S hΦ hFA hS)⟩ _⟩ rfl rfl hl.1 rfl (lv_room (Nat.le_of_ble_eq_true rfl)) dX0_master_16 ⟨Nat.le_of_ble_eq_true rfl, Nat.le_of_ble_eq_true rfl⟩) hP hD hS hA [] pm_nil (fun _u H locs hΨ hP hD hS hkp hsz hDn => ?_)
      rw [List.append_nil] at hP hD
      have hP : va_P D vwCl [] H := hP
      have hD : va_D A [] := hD
      refine W.widen (k := 2) (n := 2) (Nat.le_of_ble_eq_true rfl) (Nat.le_of_ble_eq_true rfl) ?_
      refine lv_istore_n (lv' := [(2, .int (oI (mMaster row n cu q2))), (0, .ref x0), (1, .int (nI 4))]) hx hb dX0_master_19 rfl hl (by decide) rfl (fun ls hl => ?_)
      refine lv_iload_n hx hb dX0_master_20 rfl (lv_at hl 2 rfl) ?_
      refine lv_iconst (v := nI 2) hx hb dX0_master_21 (by decide) ?_
      refine lv_icmp_eq (tgt := 36) hx hb dX0_master_22 (by decide) (fun h => absurd h (by decide)) (fun _ => ?_)
      refine lv_iload_n hx hb dX0_master_25 rfl (lv_at hl 2 rfl) ?_
      refine lv_iconst (v := nI 3) hx hb dX0_master_26 (by decide) ?_
      refine lv_icmp_eq (tgt := 36) hx hb dX0_master_27 (by decide) (fun h => absurd h (by decide)) (fun _ => ?_)
      refine lv_iload_n hx hb dX0_master_30 rfl (lv_at hl 0 rfl) ?_
      refine lv_bipush (v := -5) hx hb dX0_master_31 (by decide) ?_
      refine x_icmpo_eq (tgt := 53) hx hb dX0_master_33 (by decide) (fun b hb => by have := mMaster_lt hb; omega) (fun h_19 => ?_) (fun pl h_19 => ?_)
      · refine lv_bipush (v := -5) hx hb dX0_master_53 (by decide) ?_
        exact x_eiret () hx hb hrt hlk (congrArg (fun z => some (Value.int z)) (show _ = -5 from (by simp (decide := true) [rMaster, mCost, oI_s, oI_n, h_1, h_19]))) trivial (hP.sub [] rfl) (hD.sub [] rfl rfl) hS dX0_master_55 (Nat.le_of_ble_eq_true rfl) (Nat.le_of_ble_eq_true rfl)
      · have hml2 := mMaster_lt h_19
        refine lv_iload_n hx hb dX0_master_36 rfl (lv_at hl 2 rfl) ?_
        refine lv_iconst (v := nI 1) hx hb dX0_master_37 (by decide) ?_
        refine lv_icmp_le (tgt := 56) hx hb dX0_master_38 (by decide) (fun h => absurd h (by decide)) (fun _ => ?_)
        refine lv_aload_n hx hb dX0_master_41 rfl (lv_at hl 1 rfl) ?_
        refine va_get (D := D) (ci := 0) (C := RX0) (T := TX0) (N := 4) hx hb hts in_X0 hown K (fz_S hsrc hsA hS) 0 rfl rfl 0 (by decide) (hts _ q222) (fun _ h9 => h9) rfl dX0_master_42 ?_
        refine va_getN (D := D) (ci := 1) (C := RX1) (T := TX1) (N := 4) hx hb hts in_X1 hown K (fz_S hsrc hsA hS) 1 rfl rfl 2 (by decide) (va_Nw.use rfl (G.1.2.1 _ q176 rfl)) (fun _ h9 => h9) rfl dX0_master_45 ?_
        refine x_top (y := oI bst) hB.1 ?_
        refine lv_bipush (v := -5) hx hb dX0_master_48 (by decide) ?_
        refine x_icmpo_ne (tgt := 56) hx hb dX0_master_50 (by decide) (fun b hb => by have := (hB.2 b hb).1; omega) (fun b h_21 => ?_) (fun h_21 => ?_)
        · obtain ⟨hb2, hms⟩ := hB.2 _ h_21
          refine lv_iload_n hx hb dX0_master_56 rfl (lv_at hl 2 rfl) ?_
          refine lv_tableOut (tgt := 115) hx hb dX0_master_57 (by decide) (by decide) ?_
          refine lv_aload_n hx hb dX0_master_115 rfl (lv_at hl 1 rfl) ?_
          refine va_get (D := D) (ci := 0) (C := RX0) (T := TX0) (N := 4) hx hb hts in_X0 hown K (fz_S hsrc hsA hS) 0 rfl rfl 0 (by decide) (hts _ q222) (fun _ h9 => h9) rfl dX0_master_116 ?_
          refine x_ret (va_runV (As := []) (rest := []) S (xs_upper l D dA E ad sz0 mi sa la lp lx ld lr lq row hn hcu bs sp md d2 q2 p2 f2 FZ hq hco b (hB.1.trans (congrArg oI h_21)) (by omega) (miss_none hms)) (cwV 0 hts (lw_V q1034 q609 q610 q60 q611) rfl rfl rfl hdX1_upper ⟨Nat.le_of_ble_eq_true rfl, Nat.le_of_ble_eq_true rfl⟩) ⟨bb_blind g1_bl _, va_recv K (fz_S hsrc hsA hS) (ci := 1) (q0 := 1) rfl rfl, bb_pre (g1_mv G (low_of hS hA0 G.1.2.2.2.2.2.2) hS.1) ⟨(fz_S hsrc hsA hS).sub [1, 2, 3, 4, 5, 6, 7, 8] rfl, (fz_S hΦ hFA hS)⟩ _⟩ rfl rfl hl.1 rfl (lv_room (Nat.le_of_ble_eq_true rfl)) dX0_master_119 ⟨Nat.le_of_ble_eq_true rfl, Nat.le_of_ble_eq_true rfl⟩) ?_
          refine lv_aload_n hx hb dX0_master_122 rfl (lv_at hl 1 rfl) ?_
          refine va_get (D := D) (ci := 0) (C := RX0) (T := TX0) (N := 4) hx hb hts in_X0 hown K (fz_S hsrc hsA hS) 0 rfl rfl 0 (by decide) (hts _ q222) (fun _ h9 => h9) rfl dX0_master_123 ?_
          refine lv_iload_n hx hb dX0_master_126 rfl (lv_at hl 0 rfl) ?_
          refine x_top (y := nI pl) (by rw [h_19]; rfl) ?_
          refine x_ret (va_runV (As := [.int (nI pl)]) (rest := [.int (mCost row n cu b)]) S (xs_guess l D dA E ad sz0 mi sa la lp lx ld lr lq row hn hcu bs sp md d2 q2 p2 f2 FZ hq hco pl (by omega)) (cwV 1 hts (lw_V q961 q572 q573 q60 q574) rfl rfl rfl hdX1_guess ⟨Nat.le_of_ble_eq_true rfl, Nat.le_of_ble_eq_true rfl⟩) ⟨bb_blind g1_bl _, va_recv K (fz_S hsrc hsA hS) (ci := 1) (q0 := 1) rfl rfl, bb_pre (g1_mv G (low_of hS hA0 G.1.2.2.2.2.2.2) hS.1) ⟨(fz_S hsrc hsA hS).sub [1, 2, 3, 4, 5, 6, 7, 8] rfl, (fz_S hΦ hFA hS)⟩ _⟩ rfl rfl hl.1 rfl (lv_room (Nat.le_of_ble_eq_true rfl)) dX0_master_127 ⟨Nat.le_of_ble_eq_true rfl, Nat.le_of_ble_eq_true rfl⟩) ?_
          refine lv_isub hx hb dX0_master_130 ?_
          exact x_eiret () hx hb hrt hlk (congrArg (fun z => some (Value.int z)) (show _ = (mCost row n cu b) - (mGuess row n cu q2 pl) from (by simp (decide := true) [rMaster, mCost, oI_s, oI_n, h_1, h_19, h_21]))) trivial (hP.sub [] rfl) (hD.sub [] rfl rfl) hS dX0_master_131 (Nat.le_of_ble_eq_true rfl) (Nat.le_of_ble_eq_true rfl)
        · refine lv_bipush (v := -5) hx hb dX0_master_53 (by decide) ?_
          exact x_eiret () hx hb hrt hlk (congrArg (fun z => some (Value.int z)) (show _ = -5 from (by simp (decide := true) [rMaster, mCost, oI_s, oI_n, h_1, h_19, h_21]))) trivial (hP.sub [] rfl) (hD.sub [] rfl rfl) hS dX0_master_55 (Nat.le_of_ble_eq_true rfl) (Nat.le_of_ble_eq_true rfl)
  · refine lv_bipush (v := -2) hx hb dX0_master_9 (by decide) ?_
    exact x_eiret () hx hb hrt hlk (congrArg (fun z => some (Value.int z)) (show _ = -2 from (by simp (decide := true) [rMaster, mCost, oI_s, oI_n, h_1]))) trivial (hP.sub [] rfl) (hD.sub [] rfl rfl) hS dX0_master_11 (Nat.le_of_ble_eq_true rfl) (Nat.le_of_ble_eq_true rfl)

set_option maxHeartbeats 4000000 in
theorem xq_byAll (l : Launch) (D : va_G) (dA : Nat → ClassId) (E : Nat) (ad : Nat → Nat) (sz0 mi : Nat) (lc : Nat → ClassId) (x0 hi tb : Nat) (snv : Value) (sa la lp lx ld lr lq : Nat) (row : Nat → Int32) {n cu : Nat} (hn : n ≤ 7) (hcu : cu ≤ 8) (bs sp md : Int32) (d2 q2 p2 : Nat) (f2 : Nat → Option Nat) (FZ : va_W) (hq : q2 ≤ p2 ∧ p2 ≤ 64) (hco : CutsOk dA FZ row cu q2 f2) (x : Int32) (hup : Up sz0 []) (hap : Apart FZ []) : EX l yX0_byAll cX0_byAll 3 (some .int) 12 3720 2 2 [.ref x0, .int x] (G2 D dA E ad sz0 mi lc) D ([]) (fun H => va_P D vwCl [(x0, .inr (0, [.ref sa, snv, .ref hi, .ref tb])), (sa, .inr (1, [.ref la, .ref lq, .int bs, .int sp])), (la, .inr (2, [.ref lp, .ref lx, .ref ld, .ref lr, .int (nI n), .int (nI cu), .int (row 2)])), (lp, .inl (dA 0, 7, .inl (fun k => row (6 + k)))), (lx, .inl (dA 0, 7, .inl (fun k => row (77 + k)))), (ld, .inl (dA 0, 8, .inl (fun k => row (13 + k)))), (lr, .inl (dA 0, 56, .inl (fun k => row (21 + k)))), (lq, .inr (4, [.int md, .ref d2, .int (nI q2)])), (d2, .inl (dA 1, p2, .inr (.inr (.inr (.inr f2)))))] H ∧ va_P D vwCl FZ H) (S := Unit) (fun _ _ => True) (fun _ => some (.int (rByAll row n cu x))) (fun _ => []) := by
  refine ex_ofN (by decide) (Nat.le_of_ble_eq_true rfl) ?_
  intro p e s m below meth c A hmn S hrt hlk hnm GG hA hAe hΦ H locs hP hD hS ls hl
  obtain ⟨hx, hb, hml, hown, hts⟩ := id S
  have G := GG.1
  obtain ⟨hsrc, hΦ⟩ := hΦ
  have K := G.1.1
  have hA0 := up_A hup G.1.2.2.2.2.2.2 hAe
  have h2n := pow7 hn
  have hFA := ap_A hΦ hap hAe
  have hsA := ap_A hsrc (fun _ _ _ h => by cases h) hAe
  have hP : va_P D vwCl [] H := hP
  have hD : va_D A [] := hD
  have hl : lv_has ls 3 [(0, .ref x0), (1, .int x)] := hl
  refine lv_iload_n hx hb dX0_byAll_0 rfl (lv_at hl 1 rfl) ?_
  refine lv_iconst (v := nI 0) hx hb dX0_byAll_1 (by decide) ?_
  refine lv_iconst (v := nI 2) hx hb dX0_byAll_2 (by decide) ?_
  refine x_ret (va_runS (As := [.int x, .int (nI 0), .int (nI 2)]) (rest := []) S (xr_inRange l x (nI 0) (nI 2)) (va_cwS 3 hts (lw_S q239 q240 q59 q241) rfl rfl rfl hdX0_inRange ⟨Nat.le_of_ble_eq_true rfl, Nat.le_of_ble_eq_true rfl⟩) ⟨bb_blind tt_bl _, tt_pre _⟩ rfl rfl hl.1 rfl (lv_room (Nat.le_of_ble_eq_true rfl)) dX0_byAll_3 ⟨Nat.le_of_ble_eq_true rfl, Nat.le_of_ble_eq_true rfl⟩) ?_
  refine x_ifb_ne (tgt := 12) hx hb dX0_byAll_6 (by decide) (fun h_1 => ?_) (fun h_1 => ?_)
  · rcases in3 h_1 with rfl | rfl | rfl
    · refine lv_iload_n hx hb dX0_byAll_12 rfl (lv_at hl 1 rfl) ?_
      refine lv_iconst (v := nI 2) hx hb dX0_byAll_13 (by decide) ?_
      refine lv_icmp_ne (tgt := 34) hx hb dX0_byAll_14 (by decide) (fun _ => ?_) (fun h => absurd h (by decide))
      refine lv_aload_n hx hb dX0_byAll_34 rfl (lv_at hl 0 rfl) ?_
      refine va_get (D := D) (ci := 0) (C := RX0) (T := TX0) (N := 4) hx hb hts in_X0 hown K (fz_S hsrc hsA hS) 0 rfl rfl 0 (by decide) (hts _ q222) (fun _ h9 => h9) rfl dX0_byAll_35 ?_
      refine x_ecallP (va_runV (As := []) (rest := []) S (xs_bestOfAll l D dA E ad sz0 mi lc sa la lp lx ld lr lq row hn hcu bs sp md d2 q2 p2 f2 FZ hq hco (fun _ h => by cases h) (fun _ _ _ h => by cases h) H.size) (cwV 0 hts (lw_V q1042 q1043 q1044 q60 q1045) rfl rfl rfl hdX1_bestOfAll ⟨Nat.le_of_ble_eq_true rfl, Nat.le_of_ble_eq_true rfl⟩) ⟨pe_blind g2_bl _, va_recv K (fz_S hsrc hsA hS) (ci := 1) (q0 := 1) rfl rfl, pe_pre (g2_mv GG (low_of hS hA0 G.1.2.2.2.2.2.2) hS.1) (hP.sub [] rfl) (hD.sub [] rfl rfl) ⟨(fz_S hsrc hsA hS).sub [1, 2, 3, 4, 5, 6, 7, 8] rfl, (fz_S hΦ hFA hS)⟩ _⟩ rfl rfl hl.1 rfl (lv_room (Nat.le_of_ble_eq_true rfl)) dX0_byAll_38 ⟨Nat.le_of_ble_eq_true rfl, Nat.le_of_ble_eq_true rfl⟩) hP hD hS hA [] pm_nil (fun _u H locs hΨ hP hD hS hkp hsz hDn => ?_)
      rw [List.append_nil] at hP hD
      have hP : va_P D vwCl [] H := hP
      have hD : va_D A [] := hD
      refine W.widen (k := 2) (n := 2) (Nat.le_of_ble_eq_true rfl) (Nat.le_of_ble_eq_true rfl) ?_
      refine lv_istore_n (lv' := [(2, .int (oI ((mBa row n cu).1))), (0, .ref x0), (1, .int (nI 0))]) hx hb dX0_byAll_41 rfl hl (by decide) rfl (fun ls hl => ?_)
      refine lv_iload_n hx hb dX0_byAll_42 rfl (lv_at hl 0 rfl) ?_
      refine lv_bipush (v := -5) hx hb dX0_byAll_43 (by decide) ?_
      refine x_icmpo_eq (tgt := 52) hx hb dX0_byAll_45 (by decide) (fun b hb => by have := ((mBa_lt row n cu (2 ^ n)).1 b hb).1; omega) (fun h_3 => ?_) (fun b h_3 => ?_)
      · refine lv_iload_n hx hb dX0_byAll_52 rfl (lv_at hl 0 rfl) ?_
        refine x_top (y := -5) (by rw [h_3]; rfl) ?_
        refine lv_goto (tgt := 67) hx hb dX0_byAll_53 (by decide) ?_
        exact x_eiret () hx hb hrt hlk (congrArg (fun z => some (Value.int z)) (show _ = -5 from (by simp (decide := true) [rByAll, oI_s, oI_n, h_1, h_3]))) trivial (hP.sub [] rfl) (hD.sub [] rfl rfl) hS dX0_byAll_67 (Nat.le_of_ble_eq_true rfl) (Nat.le_of_ble_eq_true rfl)
      · obtain ⟨hb2, hfe2⟩ := (mBa_lt row n cu (2 ^ n)).1 _ h_3
        have hms := feas_miss hfe2
        have hco2 := mBa_cost row n cu (2 ^ n) _ h_3
        refine lv_iload_n hx hb dX0_byAll_48 rfl (lv_at hl 2 rfl) ?_
        refine lv_if_ne (tgt := 56) hx hb dX0_byAll_49 (by decide) (fun h => absurd h (by decide)) (fun _ => ?_)
        refine lv_iload_n hx hb dX0_byAll_52 rfl (lv_at hl 0 rfl) ?_
        refine x_top (y := nI b) (by rw [h_3]; rfl) ?_
        refine lv_goto (tgt := 67) hx hb dX0_byAll_53 (by decide) ?_
        exact x_eiret () hx hb hrt hlk (congrArg (fun z => some (Value.int z)) (show _ = nI b from (by simp (decide := true) [rByAll, oI_s, oI_n, h_1, h_3]))) trivial (hP.sub [] rfl) (hD.sub [] rfl rfl) hS dX0_byAll_67 (Nat.le_of_ble_eq_true rfl) (Nat.le_of_ble_eq_true rfl)
    · refine lv_iload_n hx hb dX0_byAll_12 rfl (lv_at hl 1 rfl) ?_
      refine lv_iconst (v := nI 2) hx hb dX0_byAll_13 (by decide) ?_
      refine lv_icmp_ne (tgt := 34) hx hb dX0_byAll_14 (by decide) (fun _ => ?_) (fun h => absurd h (by decide))
      refine lv_aload_n hx hb dX0_byAll_34 rfl (lv_at hl 0 rfl) ?_
      refine va_get (D := D) (ci := 0) (C := RX0) (T := TX0) (N := 4) hx hb hts in_X0 hown K (fz_S hsrc hsA hS) 0 rfl rfl 0 (by decide) (hts _ q222) (fun _ h9 => h9) rfl dX0_byAll_35 ?_
      refine x_ecallP (va_runV (As := []) (rest := []) S (xs_bestOfAll l D dA E ad sz0 mi lc sa la lp lx ld lr lq row hn hcu bs sp md d2 q2 p2 f2 FZ hq hco (fun _ h => by cases h) (fun _ _ _ h => by cases h) H.size) (cwV 0 hts (lw_V q1042 q1043 q1044 q60 q1045) rfl rfl rfl hdX1_bestOfAll ⟨Nat.le_of_ble_eq_true rfl, Nat.le_of_ble_eq_true rfl⟩) ⟨pe_blind g2_bl _, va_recv K (fz_S hsrc hsA hS) (ci := 1) (q0 := 1) rfl rfl, pe_pre (g2_mv GG (low_of hS hA0 G.1.2.2.2.2.2.2) hS.1) (hP.sub [] rfl) (hD.sub [] rfl rfl) ⟨(fz_S hsrc hsA hS).sub [1, 2, 3, 4, 5, 6, 7, 8] rfl, (fz_S hΦ hFA hS)⟩ _⟩ rfl rfl hl.1 rfl (lv_room (Nat.le_of_ble_eq_true rfl)) dX0_byAll_38 ⟨Nat.le_of_ble_eq_true rfl, Nat.le_of_ble_eq_true rfl⟩) hP hD hS hA [] pm_nil (fun _u H locs hΨ hP hD hS hkp hsz hDn => ?_)
      rw [List.append_nil] at hP hD
      have hP : va_P D vwCl [] H := hP
      have hD : va_D A [] := hD
      refine W.widen (k := 2) (n := 2) (Nat.le_of_ble_eq_true rfl) (Nat.le_of_ble_eq_true rfl) ?_
      refine lv_istore_n (lv' := [(2, .int (oI ((mBa row n cu).1))), (0, .ref x0), (1, .int (nI 1))]) hx hb dX0_byAll_41 rfl hl (by decide) rfl (fun ls hl => ?_)
      refine lv_iload_n hx hb dX0_byAll_42 rfl (lv_at hl 0 rfl) ?_
      refine lv_bipush (v := -5) hx hb dX0_byAll_43 (by decide) ?_
      refine x_icmpo_eq (tgt := 52) hx hb dX0_byAll_45 (by decide) (fun b hb => by have := ((mBa_lt row n cu (2 ^ n)).1 b hb).1; omega) (fun h_6 => ?_) (fun b h_6 => ?_)
      · refine lv_iload_n hx hb dX0_byAll_52 rfl (lv_at hl 0 rfl) ?_
        refine x_top (y := -5) (by rw [h_6]; rfl) ?_
        refine lv_goto (tgt := 67) hx hb dX0_byAll_53 (by decide) ?_
        exact x_eiret () hx hb hrt hlk (congrArg (fun z => some (Value.int z)) (show _ = -5 from (by simp (decide := true) [rByAll, oI_s, oI_n, h_1, h_6]))) trivial (hP.sub [] rfl) (hD.sub [] rfl rfl) hS dX0_byAll_67 (Nat.le_of_ble_eq_true rfl) (Nat.le_of_ble_eq_true rfl)
      · obtain ⟨hb2, hfe2⟩ := (mBa_lt row n cu (2 ^ n)).1 _ h_6
        have hms := feas_miss hfe2
        have hco2 := mBa_cost row n cu (2 ^ n) _ h_6
        refine lv_iload_n hx hb dX0_byAll_48 rfl (lv_at hl 2 rfl) ?_
        refine lv_if_ne (tgt := 56) hx hb dX0_byAll_49 (by decide) (fun _ => ?_) (fun h => absurd h (by decide))
        refine lv_aload_n hx hb dX0_byAll_56 rfl (lv_at hl 1 rfl) ?_
        refine va_get (D := D) (ci := 0) (C := RX0) (T := TX0) (N := 4) hx hb hts in_X0 hown K (fz_S hsrc hsA hS) 0 rfl rfl 0 (by decide) (hts _ q222) (fun _ h9 => h9) rfl dX0_byAll_57 ?_
        refine va_getN (D := D) (ci := 1) (C := RX1) (T := TX1) (N := 4) hx hb hts in_X1 hown K (fz_S hsrc hsA hS) 1 rfl rfl 0 (by decide) (va_Nw.use rfl (G.1.2.1 _ q172 rfl)) (fun _ h9 => h9) rfl dX0_byAll_60 ?_
        refine lv_iload_n hx hb dX0_byAll_63 rfl (lv_at hl 0 rfl) ?_
        refine x_top (y := nI b) (by rw [h_6]; rfl) ?_
        refine x_ret (va_runV (As := [.int (nI b)]) (rest := []) S (xr_cost l D dA E ad sz0 la lp lx ld lr row hn hcu b (by omega) (miss_none hms)) (cwV 1 hts (lw_V q958 q603 q604 q61 q605) rfl rfl rfl hdX2_cost ⟨Nat.le_of_ble_eq_true rfl, Nat.le_of_ble_eq_true rfl⟩) ⟨bb_blind g0_bl _, va_recv K (fz_S hsrc hsA hS) (ci := 2) (q0 := 2) rfl rfl, bb_pre (g0_mv G.1 (low_of hS hA0 G.1.2.2.2.2.2.2) hS.1) ((fz_S hsrc hsA hS).sub [2, 3, 4, 5, 6] rfl) _⟩ rfl rfl hl.1 rfl (lv_room (Nat.le_of_ble_eq_true rfl)) dX0_byAll_64 ⟨Nat.le_of_ble_eq_true rfl, Nat.le_of_ble_eq_true rfl⟩) ?_
        exact x_eiret () hx hb hrt hlk (congrArg (fun z => some (Value.int z)) (by_cost h_6)) trivial (hP.sub [] rfl) (hD.sub [] rfl rfl) hS dX0_byAll_67 (Nat.le_of_ble_eq_true rfl) (Nat.le_of_ble_eq_true rfl)
    · refine lv_iload_n hx hb dX0_byAll_12 rfl (lv_at hl 1 rfl) ?_
      refine lv_iconst (v := nI 2) hx hb dX0_byAll_13 (by decide) ?_
      refine lv_icmp_ne (tgt := 34) hx hb dX0_byAll_14 (by decide) (fun h => absurd h (by decide)) (fun _ => ?_)
      refine lv_aload_n hx hb dX0_byAll_17 rfl (lv_at hl 0 rfl) ?_
      refine va_get (D := D) (ci := 0) (C := RX0) (T := TX0) (N := 4) hx hb hts in_X0 hown K (fz_S hsrc hsA hS) 0 rfl rfl 0 (by decide) (hts _ q222) (fun _ h9 => h9) rfl dX0_byAll_18 ?_
      refine va_getN (D := D) (ci := 1) (C := RX1) (T := TX1) (N := 4) hx hb hts in_X1 hown K (fz_S hsrc hsA hS) 1 rfl rfl 0 (by decide) (va_Nw.use rfl (G.1.2.1 _ q172 rfl)) (fun _ h9 => h9) rfl dX0_byAll_21 ?_
      refine lv_aload_n hx hb dX0_byAll_24 rfl (lv_at hl 0 rfl) ?_
      refine x_lamW1 (f := fun _ => some x0) hx hb hml hl.1 hmn GG.2.1.2.2.2.2.1 sh_A2 rfl (hts _ q1409) dX0_byAll_25 rfl (by show 2 + 3072 ≤ 3720; exact Nat.le_of_ble_eq_true rfl) (Nat.le_of_ble_eq_true rfl) (Nat.le_of_ble_eq_true rfl) hP hD hS hA (fun j1 H hP hD hS => ?_)
      have hP : va_P D vwCl [(j1, .inl ((lc 5), lamA 1 (fun _ => some x0)))] H := hP
      have hD : va_D A [(j1, .inl ((lc 5), lamA 1 (fun _ => some x0)))] := hD
      refine W.widen (k := 1) (n := 1) (Nat.le_of_ble_eq_true rfl) (Nat.le_of_ble_eq_true rfl) ?_
      refine x_ret (va_runV (As := [.ref j1]) (rest := []) S (xr_count l D dA E ad sz0 mi lc la lp lx ld lr row hn hcu j1 8 301 (mFeas row n cu) (fun H => (va_P D vwCl [(x0, .inr (0, [.ref sa, snv, .ref hi, .ref tb])), (sa, .inr (1, [.ref la, .ref lq, .int bs, .int sp])), (la, .inr (2, [.ref lp, .ref lx, .ref ld, .ref lr, .int (nI n), .int (nI cu), .int (row 2)])), (lp, .inl (dA 0, 7, .inl (fun k => row (6 + k)))), (lx, .inl (dA 0, 7, .inl (fun k => row (77 + k)))), (ld, .inl (dA 0, 8, .inl (fun k => row (13 + k)))), (lr, .inl (dA 0, 56, .inl (fun k => row (21 + k)))), (lq, .inr (4, [.int md, .ref d2, .int (nI q2)])), (d2, .inl (dA 1, p2, .inr (.inr (.inr (.inr f2)))))] H ∧ va_P D vwCl FZ H) ∧ va_P D vwCl [(j1, .inl ((lc 5), lamA 1 (fun _ => some x0)))] H) (jo_a2 l D dA E ad sz0 mi lc x0 hi tb snv sa la lp lx ld lr lq row hn hcu bs sp md d2 q2 p2 f2 FZ hq hco j1 (fun H => (va_P D vwCl [(x0, .inr (0, [.ref sa, snv, .ref hi, .ref tb])), (sa, .inr (1, [.ref la, .ref lq, .int bs, .int sp])), (la, .inr (2, [.ref lp, .ref lx, .ref ld, .ref lr, .int (nI n), .int (nI cu), .int (row 2)])), (lp, .inl (dA 0, 7, .inl (fun k => row (6 + k)))), (lx, .inl (dA 0, 7, .inl (fun k => row (77 + k)))), (ld, .inl (dA 0, 8, .inl (fun k => row (13 + k)))), (lr, .inl (dA 0, 56, .inl (fun k => row (21 + k)))), (lq, .inr (4, [.int md, .ref d2, .int (nI q2)])), (d2, .inl (dA 1, p2, .inr (.inr (.inr (.inr f2)))))] H ∧ va_P D vwCl FZ H) ∧ va_P D vwCl [(j1, .inl ((lc 5), lamA 1 (fun _ => some x0)))] H) (fun H h => h.1) (fun H h => h.2 0 _ rfl)) (by decide) (by decide)) (cwV 1 hts (lw_V q1001 q1002 q1003 q61 q1004) rfl rfl rfl hdX2_count ⟨Nat.le_of_ble_eq_true rfl, Nat.le_of_ble_eq_true rfl⟩) ⟨bb_blind g2_bl _, va_recv K (fz_S hsrc hsA hS) (ci := 2) (q0 := 2) rfl rfl, bb_pre (g2_mv GG (low_of hS hA0 G.1.2.2.2.2.2.2) hS.1) ⟨(fz_S hsrc hsA hS).sub [2, 3, 4, 5, 6] rfl, ⟨(fz_S hsrc hsA hS), (fz_S hΦ hFA hS)⟩, hP⟩ _⟩ rfl rfl hl.1 rfl (lv_room (Nat.le_of_ble_eq_true rfl)) dX0_byAll_30 ⟨Nat.le_of_ble_eq_true rfl, Nat.le_of_ble_eq_true rfl⟩) ?_
      exact x_eiret () hx hb hrt hlk (congrArg (fun z => some (Value.int z)) (by_cnt row n cu)) trivial (hP.sub [] rfl) (hD.sub [] rfl rfl) hS dX0_byAll_33 (Nat.le_of_ble_eq_true rfl) (Nat.le_of_ble_eq_true rfl)
  · refine lv_bipush (v := -2) hx hb dX0_byAll_9 (by decide) ?_
    exact x_eiret () hx hb hrt hlk (congrArg (fun z => some (Value.int z)) (show _ = -2 from (by simp (decide := true) [rByAll, oI_s, oI_n, h_1]))) trivial (hP.sub [] rfl) (hD.sub [] rfl rfl) hS dX0_byAll_11 (Nat.le_of_ble_eq_true rfl) (Nat.le_of_ble_eq_true rfl)

set_option maxHeartbeats 4000000 in
theorem xq_cut (l : Launch) (D : va_G) (dA : Nat → ClassId) (E : Nat) (ad : Nat → Nat) (sz0 mi : Nat) (lc : Nat → ClassId) (x0 hi tb : Nat) (snv : Value) (sa la lp lx ld lr lq : Nat) (row : Nat → Int32) {n cu : Nat} (hn : n ≤ 7) (hcu : cu ≤ 8) (bs sp md : Int32) (d2 q2 p2 : Nat) (f2 : Nat → Option Nat) (FZ : va_W) (hq : q2 ≤ p2 ∧ p2 ≤ 64) (hco : CutsOk dA FZ row cu q2 f2) (x y : Int32) (hup : Up sz0 []) (hap : Apart FZ []) : EX l yX0_cut cX0_cut 5 (some .int) 12 3720 1 2 [.ref x0, .int x, .int y] (G2 D dA E ad sz0 mi lc) D ([]) (fun H => va_P D vwCl [(x0, .inr (0, [.ref sa, snv, .ref hi, .ref tb])), (sa, .inr (1, [.ref la, .ref lq, .int bs, .int sp])), (la, .inr (2, [.ref lp, .ref lx, .ref ld, .ref lr, .int (nI n), .int (nI cu), .int (row 2)])), (lp, .inl (dA 0, 7, .inl (fun k => row (6 + k)))), (lx, .inl (dA 0, 7, .inl (fun k => row (77 + k)))), (ld, .inl (dA 0, 8, .inl (fun k => row (13 + k)))), (lr, .inl (dA 0, 56, .inl (fun k => row (21 + k)))), (lq, .inr (4, [.int md, .ref d2, .int (nI q2)])), (d2, .inl (dA 1, p2, .inr (.inr (.inr (.inr f2)))))] H ∧ va_P D vwCl FZ H) (S := Unit) (fun _ _ => True) (fun _ => some (.int (xCut row n cu q2 x y))) (fun _ => []) := by
  refine ex_ofN (by decide) (Nat.le_of_ble_eq_true rfl) ?_
  intro p e s m below meth c A hmn S hrt hlk hnm GG hA hAe hΦ H locs hP hD hS ls hl
  obtain ⟨hx, hb, hml, hown, hts⟩ := id S
  have G := GG.1
  obtain ⟨hsrc, hΦ⟩ := hΦ
  have K := G.1.1
  have hA0 := up_A hup G.1.2.2.2.2.2.2 hAe
  have h2n := pow7 hn
  have hFA := ap_A hΦ hap hAe
  have hsA := ap_A hsrc (fun _ _ _ h => by cases h) hAe
  have hP : va_P D vwCl [] H := hP
  have hD : va_D A [] := hD
  have hl : lv_has ls 5 [(0, .ref x0), (1, .int x), (2, .int y)] := hl
  refine lv_aload_n hx hb dX0_cut_0 rfl (lv_at hl 0 rfl) ?_
  refine lv_iload_n hx hb dX0_cut_1 rfl (lv_at hl 1 rfl) ?_
  refine x_ret (va_runV (As := [.int x]) (rest := []) S (xq_isCut l D dA E ad sz0 mi x0 hi tb snv sa la lp lx ld lr lq row hn hcu bs sp md d2 q2 p2 f2 FZ hq hco x) (cwV 1 hts (lw_V q796 q798 qs15 q59 q799) rfl rfl rfl hdX0_isCut ⟨Nat.le_of_ble_eq_true rfl, Nat.le_of_ble_eq_true rfl⟩) ⟨bb_blind g1_bl _, va_recv K (fz_S hsrc hsA hS) (ci := 0) (q0 := 0) rfl rfl, bb_pre (g1_mv G (low_of hS hA0 G.1.2.2.2.2.2.2) hS.1) ⟨(fz_S hsrc hsA hS), (fz_S hΦ hFA hS)⟩ _⟩ rfl rfl hl.1 rfl (lv_room (Nat.le_of_ble_eq_true rfl)) dX0_cut_2 ⟨Nat.le_of_ble_eq_true rfl, Nat.le_of_ble_eq_true rfl⟩) ?_
  refine x_ifb_ne (tgt := 10) hx hb dX0_cut_5 (by decide) (fun h_1 => ?_) (fun h_1 => ?_)
  · have h_1n := no_t h_1
    obtain ⟨kc, hkc, rfl⟩ := mNo_f (by omega) h_1n
    have ckc : (nI kc).toNatClampNeg = kc := nI_clamp (by omega)
    refine lv_aload_n hx hb dX0_cut_10 rfl (lv_at hl 0 rfl) ?_
    refine va_get (D := D) (ci := 0) (C := RX0) (T := TX0) (N := 4) hx hb hts in_X0 hown K (fz_S hsrc hsA hS) 0 rfl rfl 0 (by decide) (hts _ q222) (fun _ h9 => h9) rfl dX0_cut_11 ?_
    refine va_getN (D := D) (ci := 1) (C := RX1) (T := TX1) (N := 4) hx hb hts in_X1 hown K (fz_S hsrc hsA hS) 1 rfl rfl 1 (by decide) (va_Nw.use rfl (G.1.2.1 _ q174 rfl)) (fun _ h9 => h9) rfl dX0_cut_14 ?_
    refine lv_iload_n hx hb dX0_cut_17 rfl (lv_at hl 1 rfl) ?_
    obtain ⟨ka, hka, hck⟩ := hco kc (by omega)
    refine x_ret5 (va_runF ((K.1 4 _ rfl).2) (As := [.int (nI kc)]) (rest := []) S (xl_get l D dA E ad sz0 mi lq md d2 q2 p2 f2 (by omega) kc ka (by omega) hq.1 hka) (va_cwF 1 hts (lw_F (x := ⟨"java/util/List", "get", "(I)Ljava/lang/Object;"⟩) (y := yJ2_get) q973 q497 q499 q64 q501) rfl rfl rfl (fwk_3 G.1.2.2.1) (by decide +kernel) ⟨Nat.le_of_ble_eq_true rfl, Nat.le_of_ble_eq_true rfl⟩) ⟨bb_blind g1_bl _, va_recv K (fz_S hsrc hsA hS) (ci := 4) (q0 := 7) rfl rfl, bb_pre (g1_mv G (low_of hS hA0 G.1.2.2.2.2.2.2) hS.1) ((fz_S hsrc hsA hS).sub [7, 8] rfl) _⟩ rfl rfl hl.1 rfl (lv_room (Nat.le_of_ble_eq_true rfl)) dX0_cut_18 ⟨Nat.le_of_ble_eq_true rfl, Nat.le_of_ble_eq_true rfl⟩) ?_
    rcases hck with ⟨j, hj, hrj, hmem⟩ | ⟨_, kn, nums, rfl | rfl, hrj, hnum, hmem⟩
    · have hPk : va_P D vwCl (kR ka j ++ lW dA la lp lx ld lr row n cu) H := vP_app.mpr ⟨vP_sub (fz_S hΦ hFA hS) hmem, (fz_S hsrc hsA hS).sub [2, 3, 4, 5, 6] rfl⟩
      refine va_castY hx hb hown (hts _ q974) (G.1.2.1 _ q1382 rfl) (va_recv K hPk (ci := 6) (q0 := 0) rfl rfl) dX0_cut_23 ?_
      refine lv_astore_n (lv' := [(3, .ref ka), (0, .ref x0), (1, .int (nI kc)), (2, .int y)]) hx hb dX0_cut_26 rfl hl (by decide) rfl (fun ls hl => ?_)
      refine lv_aload_n hx hb dX0_cut_27 rfl (lv_at hl 1 rfl) ?_
      refine va_get (D := D) (ci := 0) (C := RX0) (T := TX0) (N := 4) hx hb hts in_X0 hown K (fz_S hsrc hsA hS) 0 rfl rfl 0 (by decide) (hts _ q222) (fun _ h9 => h9) rfl dX0_cut_28 ?_
      refine va_getN (D := D) (ci := 1) (C := RX1) (T := TX1) (N := 4) hx hb hts in_X1 hown K (fz_S hsrc hsA hS) 1 rfl rfl 0 (by decide) (va_Nw.use rfl (G.1.2.1 _ q172 rfl)) (fun _ h9 => h9) rfl dX0_cut_31 ?_
      refine lv_astore (lv' := [(4, .ref la), (3, .ref ka), (0, .ref x0), (1, .int (nI kc)), (2, .int y)]) hx hb dX0_cut_34 hl (by decide) rfl (fun ls hl => ?_)
      refine lv_iload_n hx hb dX0_cut_36 rfl (lv_at hl 4 rfl) ?_
      rcases sw5 y with h_2 | rfl | rfl | rfl | rfl | rfl
      · refine lv_tableOut (tgt := 125) hx hb dX0_cut_37 (sw_out (N := 5) rfl h_2) (by decide) ?_
        refine lv_bipush (v := -2) hx hb dX0_cut_125 (by decide) ?_
        exact x_eiret () hx hb hrt hlk (congrArg (fun z => some (Value.int z)) (cu_out h_1n h_2).symm) trivial (hP.sub [] rfl) (hD.sub [] rfl rfl) hS dX0_cut_127 (Nat.le_of_ble_eq_true rfl) (Nat.le_of_ble_eq_true rfl)
      · refine lv_tableIn (tgt := 72) hx hb dX0_cut_37 (by decide) (by decide) rfl (by decide) ?_
        refine lv_aload_n hx hb dX0_cut_72 rfl (lv_at hl 1 rfl) ?_
        refine x_ret (va_runU (As := []) (rest := []) S (xk_isRay_R l D dA E ad sz0 la lp lx ld lr row hn hcu ka j hj ) (va_cwU 0 hts (lw_U (x := ⟨"SiteCuts$Cut", "isRay", "()Z"⟩) (owner := "SiteCuts$Cut") q975 q509 q511 q508 q79 q513) rfl rfl rfl rfl (by decide +kernel) ⟨Nat.le_of_ble_eq_true rfl, Nat.le_of_ble_eq_true rfl⟩) ⟨bb_blind g0_bl _, va_recv K hPk (ci := 6) (q0 := 0) rfl rfl, bb_pre (g0_mv G.1 (low_of hS hA0 G.1.2.2.2.2.2.2) hS.1) hPk _⟩ rfl rfl hl.1 rfl (lv_room (Nat.le_of_ble_eq_true rfl)) dX0_cut_73 ⟨Nat.le_of_ble_eq_true rfl, Nat.le_of_ble_eq_true rfl⟩) ?_
        refine x_ifb_eq (tgt := 83) hx hb dX0_cut_76 (by decide) (fun h => by cases h) (fun _ => ?_)
        refine lv_iconst (v := nI 0) hx hb dX0_cut_79 (by decide) ?_
        refine lv_goto (tgt := 84) hx hb dX0_cut_80 (by decide) ?_
        exact x_eiret () hx hb hrt hlk (congrArg (fun z => some (Value.int z)) (cu_0R hj hrj h_1n ckc).symm) trivial (hP.sub [] rfl) (hD.sub [] rfl rfl) hS dX0_cut_84 (Nat.le_of_ble_eq_true rfl) (Nat.le_of_ble_eq_true rfl)
      · refine lv_tableIn (tgt := 85) hx hb dX0_cut_37 (by decide) (by decide) rfl (by decide) ?_
        refine lv_aload_n hx hb dX0_cut_85 rfl (lv_at hl 1 rfl) ?_
        refine x_ret (va_runU (As := []) (rest := []) S (xk_customer_R l D dA E ad sz0 la lp lx ld lr row hn hcu ka j hj ) (va_cwO 0 hts (lw_O (x := ⟨"SiteCuts$Cut", "customer", "()I"⟩) (owner := "SiteCuts$Cut") q976 q978 q977 q980 q981 q81 q982) rfl rfl rfl q984 (by decide +kernel) ⟨Nat.le_of_ble_eq_true rfl, Nat.le_of_ble_eq_true rfl⟩) ⟨bb_blind g0_bl _, va_recv K hPk (ci := 6) (q0 := 0) rfl rfl, bb_pre (g0_mv G.1 (low_of hS hA0 G.1.2.2.2.2.2.2) hS.1) hPk _⟩ rfl rfl hl.1 rfl (lv_room (Nat.le_of_ble_eq_true rfl)) dX0_cut_86 ⟨Nat.le_of_ble_eq_true rfl, Nat.le_of_ble_eq_true rfl⟩) ?_
        exact x_eiret () hx hb hrt hlk (congrArg (fun z => some (Value.int z)) (cu_1R hj hrj h_1n ckc).symm) trivial (hP.sub [] rfl) (hD.sub [] rfl rfl) hS dX0_cut_89 (Nat.le_of_ble_eq_true rfl) (Nat.le_of_ble_eq_true rfl)
      · refine lv_tableIn (tgt := 90) hx hb dX0_cut_37 (by decide) (by decide) rfl (by decide) ?_
        refine lv_aload_n hx hb dX0_cut_90 rfl (lv_at hl 1 rfl) ?_
        refine lv_aload hx hb dX0_cut_91 (lv_at hl 0 rfl) ?_
        refine x_ret (va_runU (As := [.ref la]) (rest := []) S (xk_constant_R l D dA E ad sz0 la lp lx ld lr row hn hcu ka j hj ) (va_cwA 1 hts (lw_U (x := ⟨"SiteCuts$Cut", "constant", "(LSiteCuts$Land;)I"⟩) (owner := "SiteCuts$Cut") q985 q987 q989 q990 q81 q991) rfl rfl rfl (G.1.2.1 _ q986 rfl) (by decide +kernel) ⟨Nat.le_of_ble_eq_true rfl, Nat.le_of_ble_eq_true rfl⟩) ⟨bb_blind g0_bl _, va_recv K hPk (ci := 6) (q0 := 0) rfl rfl, bb_pre (g0_mv G.1 (low_of hS hA0 G.1.2.2.2.2.2.2) hS.1) hPk _⟩ rfl rfl hl.1 rfl (lv_room (Nat.le_of_ble_eq_true rfl)) dX0_cut_93 ⟨Nat.le_of_ble_eq_true rfl, Nat.le_of_ble_eq_true rfl⟩) ?_
        exact x_eiret () hx hb hrt hlk (congrArg (fun z => some (Value.int z)) (cu_2R hj hrj h_1n ckc).symm) trivial (hP.sub [] rfl) (hD.sub [] rfl rfl) hS dX0_cut_96 (Nat.le_of_ble_eq_true rfl) (Nat.le_of_ble_eq_true rfl)
      · refine lv_tableIn (tgt := 97) hx hb dX0_cut_37 (by decide) (by decide) rfl (by decide) ?_
        refine lv_aload hx hb dX0_cut_97 (lv_at hl 0 rfl) ?_
        refine lv_aload hx hb dX0_cut_99 (lv_at hl 0 rfl) ?_
        refine lv_aload_n hx hb dX0_cut_101 rfl (lv_at hl 1 rfl) ?_
        refine x_lamW2 (f := fun k => if k = 0 then some la else some ka) hx hb hml hl.1 hmn GG.2.1.2.2.1 sh_C0 rfl (hts _ q1409) dX0_cut_102 rfl rfl (by show 3 + 3072 ≤ 3720; exact Nat.le_of_ble_eq_true rfl) (Nat.le_of_ble_eq_true rfl) (Nat.le_of_ble_eq_true rfl) hP hD hS hA (fun j1 H hP hD hS => ?_)
        have hP : va_P D vwCl [(j1, .inl ((lc 3), lamA 2 (fun k => if k = 0 then some la else some ka)))] H := hP
        have hD : va_D A [(j1, .inl ((lc 3), lamA 2 (fun k => if k = 0 then some la else some ka)))] := hD
        refine W.widen (k := 1) (n := 2) (Nat.le_of_ble_eq_true rfl) (Nat.le_of_ble_eq_true rfl) ?_
        have hPk2 : va_P D vwCl (kR ka j ++ lW dA la lp lx ld lr row n cu) H := vP_app.mpr ⟨vP_sub (fz_S hΦ hFA hS) hmem, (fz_S hsrc hsA hS).sub [2, 3, 4, 5, 6] rfl⟩
        refine x_ret (va_runV (As := [.ref j1]) (rest := []) S (xr_count l D dA E ad sz0 mi lc la lp lx ld lr row hn hcu j1 8 302 (xLB row n cu kc false) (fun H => va_P D vwCl (kR ka j ++ lW dA la lp lx ld lr row n cu) H ∧ va_P D vwCl [(j1, .inl ((lc 3), lamA 2 (fun k => if k = 0 then some la else some ka)))] H) (jo_c0R l D dA E ad sz0 mi lc la lp lx ld lr row hn hcu kc ka j hj hrj j1 (fun H => va_P D vwCl (kR ka j ++ lW dA la lp lx ld lr row n cu) H ∧ va_P D vwCl [(j1, .inl ((lc 3), lamA 2 (fun k => if k = 0 then some la else some ka)))] H) (fun H h => h.1) (fun H h => h.2 0 _ rfl)) (by decide) (by decide)) (cwV 1 hts (lw_V q1001 q1002 q1003 q61 q1004) rfl rfl rfl hdX2_count ⟨Nat.le_of_ble_eq_true rfl, Nat.le_of_ble_eq_true rfl⟩) ⟨bb_blind g2_bl _, va_recv K (fz_S hsrc hsA hS) (ci := 2) (q0 := 2) rfl rfl, bb_pre (g2_mv GG (low_of hS hA0 G.1.2.2.2.2.2.2) hS.1) ⟨(fz_S hsrc hsA hS).sub [2, 3, 4, 5, 6] rfl, hPk2, hP⟩ _⟩ rfl rfl hl.1 rfl (lv_room (Nat.le_of_ble_eq_true rfl)) dX0_cut_107 ⟨Nat.le_of_ble_eq_true rfl, Nat.le_of_ble_eq_true rfl⟩) ?_
        exact x_eiret () hx hb hrt hlk (congrArg (fun z => some (Value.int z)) (cu_3 h_1n ckc).symm) trivial (hP.sub [] rfl) (hD.sub [] rfl rfl) hS dX0_cut_110 (Nat.le_of_ble_eq_true rfl) (Nat.le_of_ble_eq_true rfl)
      · refine lv_tableIn (tgt := 111) hx hb dX0_cut_37 (by decide) (by decide) rfl (by decide) ?_
        refine lv_aload hx hb dX0_cut_111 (lv_at hl 0 rfl) ?_
        refine lv_aload hx hb dX0_cut_113 (lv_at hl 0 rfl) ?_
        refine lv_aload_n hx hb dX0_cut_115 rfl (lv_at hl 1 rfl) ?_
        refine x_lamW2 (f := fun k => if k = 0 then some la else some ka) hx hb hml hl.1 hmn GG.2.1.2.2.2.1 sh_C1 rfl (hts _ q1409) dX0_cut_116 rfl rfl (by show 3 + 3072 ≤ 3720; exact Nat.le_of_ble_eq_true rfl) (Nat.le_of_ble_eq_true rfl) (Nat.le_of_ble_eq_true rfl) hP hD hS hA (fun j1 H hP hD hS => ?_)
        have hP : va_P D vwCl [(j1, .inl ((lc 4), lamA 2 (fun k => if k = 0 then some la else some ka)))] H := hP
        have hD : va_D A [(j1, .inl ((lc 4), lamA 2 (fun k => if k = 0 then some la else some ka)))] := hD
        refine W.widen (k := 1) (n := 2) (Nat.le_of_ble_eq_true rfl) (Nat.le_of_ble_eq_true rfl) ?_
        have hPk2 : va_P D vwCl (kR ka j ++ lW dA la lp lx ld lr row n cu) H := vP_app.mpr ⟨vP_sub (fz_S hΦ hFA hS) hmem, (fz_S hsrc hsA hS).sub [2, 3, 4, 5, 6] rfl⟩
        refine x_ret (va_runV (As := [.ref j1]) (rest := []) S (xr_count l D dA E ad sz0 mi lc la lp lx ld lr row hn hcu j1 8 302 (xLB row n cu kc true) (fun H => va_P D vwCl (kR ka j ++ lW dA la lp lx ld lr row n cu) H ∧ va_P D vwCl [(j1, .inl ((lc 4), lamA 2 (fun k => if k = 0 then some la else some ka)))] H) (jo_c1R l D dA E ad sz0 mi lc la lp lx ld lr row hn hcu kc ka j hj hrj j1 (fun H => va_P D vwCl (kR ka j ++ lW dA la lp lx ld lr row n cu) H ∧ va_P D vwCl [(j1, .inl ((lc 4), lamA 2 (fun k => if k = 0 then some la else some ka)))] H) (fun H h => h.1) (fun H h => h.2 0 _ rfl)) (by decide) (by decide)) (cwV 1 hts (lw_V q1001 q1002 q1003 q61 q1004) rfl rfl rfl hdX2_count ⟨Nat.le_of_ble_eq_true rfl, Nat.le_of_ble_eq_true rfl⟩) ⟨bb_blind g2_bl _, va_recv K (fz_S hsrc hsA hS) (ci := 2) (q0 := 2) rfl rfl, bb_pre (g2_mv GG (low_of hS hA0 G.1.2.2.2.2.2.2) hS.1) ⟨(fz_S hsrc hsA hS).sub [2, 3, 4, 5, 6] rfl, hPk2, hP⟩ _⟩ rfl rfl hl.1 rfl (lv_room (Nat.le_of_ble_eq_true rfl)) dX0_cut_121 ⟨Nat.le_of_ble_eq_true rfl, Nat.le_of_ble_eq_true rfl⟩) ?_
        exact x_eiret () hx hb hrt hlk (congrArg (fun z => some (Value.int z)) (cu_4 h_1n ckc).symm) trivial (hP.sub [] rfl) (hD.sub [] rfl rfl) hS dX0_cut_124 (Nat.le_of_ble_eq_true rfl) (Nat.le_of_ble_eq_true rfl)
    · have hPk : va_P D vwCl (kP dA 5 ka kn nums ++ lW dA la lp lx ld lr row n cu) H := vP_app.mpr ⟨vP_sub (fz_S hΦ hFA hS) hmem, (fz_S hsrc hsA hS).sub [2, 3, 4, 5, 6] rfl⟩
      refine va_castY hx hb hown (hts _ q974) (G.1.2.1 _ q1381 rfl) (va_recv K hPk (ci := 5) (q0 := 0) rfl rfl) dX0_cut_23 ?_
      refine lv_astore_n (lv' := [(3, .ref ka), (0, .ref x0), (1, .int (nI kc)), (2, .int y)]) hx hb dX0_cut_26 rfl hl (by decide) rfl (fun ls hl => ?_)
      refine lv_aload_n hx hb dX0_cut_27 rfl (lv_at hl 1 rfl) ?_
      refine va_get (D := D) (ci := 0) (C := RX0) (T := TX0) (N := 4) hx hb hts in_X0 hown K (fz_S hsrc hsA hS) 0 rfl rfl 0 (by decide) (hts _ q222) (fun _ h9 => h9) rfl dX0_cut_28 ?_
      refine va_getN (D := D) (ci := 1) (C := RX1) (T := TX1) (N := 4) hx hb hts in_X1 hown K (fz_S hsrc hsA hS) 1 rfl rfl 0 (by decide) (va_Nw.use rfl (G.1.2.1 _ q172 rfl)) (fun _ h9 => h9) rfl dX0_cut_31 ?_
      refine lv_astore (lv' := [(4, .ref la), (3, .ref ka), (0, .ref x0), (1, .int (nI kc)), (2, .int y)]) hx hb dX0_cut_34 hl (by decide) rfl (fun ls hl => ?_)
      refine lv_iload_n hx hb dX0_cut_36 rfl (lv_at hl 4 rfl) ?_
      rcases sw5 y with h_3 | rfl | rfl | rfl | rfl | rfl
      · refine lv_tableOut (tgt := 125) hx hb dX0_cut_37 (sw_out (N := 5) rfl h_3) (by decide) ?_
        refine lv_bipush (v := -2) hx hb dX0_cut_125 (by decide) ?_
        exact x_eiret () hx hb hrt hlk (congrArg (fun z => some (Value.int z)) (cu_out h_1n h_3).symm) trivial (hP.sub [] rfl) (hD.sub [] rfl rfl) hS dX0_cut_127 (Nat.le_of_ble_eq_true rfl) (Nat.le_of_ble_eq_true rfl)
      · refine lv_tableIn (tgt := 72) hx hb dX0_cut_37 (by decide) (by decide) rfl (by decide) ?_
        refine lv_aload_n hx hb dX0_cut_72 rfl (lv_at hl 1 rfl) ?_
        refine x_ret (va_runU (As := []) (rest := []) S (xk_isRay_P l D dA E ad sz0 la lp lx ld lr row hn hcu ka kn nums kc hnum ) (va_cwU 0 hts (lw_U (x := ⟨"SiteCuts$Cut", "isRay", "()Z"⟩) (owner := "SiteCuts$Cut") q975 q509 q510 q508 q79 q513) rfl rfl rfl rfl (by decide +kernel) ⟨Nat.le_of_ble_eq_true rfl, Nat.le_of_ble_eq_true rfl⟩) ⟨bb_blind g0_bl _, va_recv K hPk (ci := 5) (q0 := 0) rfl rfl, bb_pre (g0_mv G.1 (low_of hS hA0 G.1.2.2.2.2.2.2) hS.1) hPk _⟩ rfl rfl hl.1 rfl (lv_room (Nat.le_of_ble_eq_true rfl)) dX0_cut_73 ⟨Nat.le_of_ble_eq_true rfl, Nat.le_of_ble_eq_true rfl⟩) ?_
        refine x_ifb_eq (tgt := 83) hx hb dX0_cut_76 (by decide) (fun _ => ?_) (fun h => by cases h)
        refine lv_iconst (v := nI 1) hx hb dX0_cut_83 (by decide) ?_
        exact x_eiret () hx hb hrt hlk (congrArg (fun z => some (Value.int z)) (cu_0P hrj h_1n ckc).symm) trivial (hP.sub [] rfl) (hD.sub [] rfl rfl) hS dX0_cut_84 (Nat.le_of_ble_eq_true rfl) (Nat.le_of_ble_eq_true rfl)
      · refine lv_tableIn (tgt := 85) hx hb dX0_cut_37 (by decide) (by decide) rfl (by decide) ?_
        refine lv_aload_n hx hb dX0_cut_85 rfl (lv_at hl 1 rfl) ?_
        refine x_ret (va_runU (As := []) (rest := []) S (xk_customer_P l D dA E ad sz0 la lp lx ld lr row hn hcu ka kn nums kc hnum ) (va_cwU 0 hts (lw_U (x := ⟨"SiteCuts$Cut", "customer", "()I"⟩) (owner := "SiteCuts$Cut") q976 q978 q979 q977 q79 q984) rfl rfl rfl rfl (by decide +kernel) ⟨Nat.le_of_ble_eq_true rfl, Nat.le_of_ble_eq_true rfl⟩) ⟨bb_blind g0_bl _, va_recv K hPk (ci := 5) (q0 := 0) rfl rfl, bb_pre (g0_mv G.1 (low_of hS hA0 G.1.2.2.2.2.2.2) hS.1) hPk _⟩ rfl rfl hl.1 rfl (lv_room (Nat.le_of_ble_eq_true rfl)) dX0_cut_86 ⟨Nat.le_of_ble_eq_true rfl, Nat.le_of_ble_eq_true rfl⟩) ?_
        exact x_eiret () hx hb hrt hlk (congrArg (fun z => some (Value.int z)) (cu_1P hrj h_1n ckc).symm) trivial (hP.sub [] rfl) (hD.sub [] rfl rfl) hS dX0_cut_89 (Nat.le_of_ble_eq_true rfl) (Nat.le_of_ble_eq_true rfl)
      · refine lv_tableIn (tgt := 90) hx hb dX0_cut_37 (by decide) (by decide) rfl (by decide) ?_
        refine lv_aload_n hx hb dX0_cut_90 rfl (lv_at hl 1 rfl) ?_
        refine lv_aload hx hb dX0_cut_91 (lv_at hl 0 rfl) ?_
        refine x_ret (va_runU (As := [.ref la]) (rest := []) S (xk_constant_P l D dA E ad sz0 la lp lx ld lr row hn hcu ka kn nums kc hnum ) (va_cwA 1 hts (lw_U (x := ⟨"SiteCuts$Cut", "constant", "(LSiteCuts$Land;)I"⟩) (owner := "SiteCuts$Cut") q985 q987 q988 q531 q80 q532) rfl rfl rfl (G.1.2.1 _ q986 rfl) (by decide +kernel) ⟨Nat.le_of_ble_eq_true rfl, Nat.le_of_ble_eq_true rfl⟩) ⟨bb_blind g0_bl _, va_recv K hPk (ci := 5) (q0 := 0) rfl rfl, bb_pre (g0_mv G.1 (low_of hS hA0 G.1.2.2.2.2.2.2) hS.1) hPk _⟩ rfl rfl hl.1 rfl (lv_room (Nat.le_of_ble_eq_true rfl)) dX0_cut_93 ⟨Nat.le_of_ble_eq_true rfl, Nat.le_of_ble_eq_true rfl⟩) ?_
        exact x_eiret () hx hb hrt hlk (congrArg (fun z => some (Value.int z)) (cu_2P hrj h_1n ckc).symm) trivial (hP.sub [] rfl) (hD.sub [] rfl rfl) hS dX0_cut_96 (Nat.le_of_ble_eq_true rfl) (Nat.le_of_ble_eq_true rfl)
      · refine lv_tableIn (tgt := 97) hx hb dX0_cut_37 (by decide) (by decide) rfl (by decide) ?_
        refine lv_aload hx hb dX0_cut_97 (lv_at hl 0 rfl) ?_
        refine lv_aload hx hb dX0_cut_99 (lv_at hl 0 rfl) ?_
        refine lv_aload_n hx hb dX0_cut_101 rfl (lv_at hl 1 rfl) ?_
        refine x_lamW2 (f := fun k => if k = 0 then some la else some ka) hx hb hml hl.1 hmn GG.2.1.2.2.1 sh_C0 rfl (hts _ q1409) dX0_cut_102 rfl rfl (by show 3 + 3072 ≤ 3720; exact Nat.le_of_ble_eq_true rfl) (Nat.le_of_ble_eq_true rfl) (Nat.le_of_ble_eq_true rfl) hP hD hS hA (fun j1 H hP hD hS => ?_)
        have hP : va_P D vwCl [(j1, .inl ((lc 3), lamA 2 (fun k => if k = 0 then some la else some ka)))] H := hP
        have hD : va_D A [(j1, .inl ((lc 3), lamA 2 (fun k => if k = 0 then some la else some ka)))] := hD
        refine W.widen (k := 1) (n := 2) (Nat.le_of_ble_eq_true rfl) (Nat.le_of_ble_eq_true rfl) ?_
        have hPk2 : va_P D vwCl (kP dA 5 ka kn nums ++ lW dA la lp lx ld lr row n cu) H := vP_app.mpr ⟨vP_sub (fz_S hΦ hFA hS) hmem, (fz_S hsrc hsA hS).sub [2, 3, 4, 5, 6] rfl⟩
        refine x_ret (va_runV (As := [.ref j1]) (rest := []) S (xr_count l D dA E ad sz0 mi lc la lp lx ld lr row hn hcu j1 8 302 (xLB row n cu kc false) (fun H => va_P D vwCl (kP dA 5 ka kn nums ++ lW dA la lp lx ld lr row n cu) H ∧ va_P D vwCl [(j1, .inl ((lc 3), lamA 2 (fun k => if k = 0 then some la else some ka)))] H) (jo_c0P l D dA E ad sz0 mi lc la lp lx ld lr row hn hcu kc ka kn nums hnum hrj j1 (fun H => va_P D vwCl (kP dA 5 ka kn nums ++ lW dA la lp lx ld lr row n cu) H ∧ va_P D vwCl [(j1, .inl ((lc 3), lamA 2 (fun k => if k = 0 then some la else some ka)))] H) (fun H h => h.1) (fun H h => h.2 0 _ rfl)) (by decide) (by decide)) (cwV 1 hts (lw_V q1001 q1002 q1003 q61 q1004) rfl rfl rfl hdX2_count ⟨Nat.le_of_ble_eq_true rfl, Nat.le_of_ble_eq_true rfl⟩) ⟨bb_blind g2_bl _, va_recv K (fz_S hsrc hsA hS) (ci := 2) (q0 := 2) rfl rfl, bb_pre (g2_mv GG (low_of hS hA0 G.1.2.2.2.2.2.2) hS.1) ⟨(fz_S hsrc hsA hS).sub [2, 3, 4, 5, 6] rfl, hPk2, hP⟩ _⟩ rfl rfl hl.1 rfl (lv_room (Nat.le_of_ble_eq_true rfl)) dX0_cut_107 ⟨Nat.le_of_ble_eq_true rfl, Nat.le_of_ble_eq_true rfl⟩) ?_
        exact x_eiret () hx hb hrt hlk (congrArg (fun z => some (Value.int z)) (cu_3 h_1n ckc).symm) trivial (hP.sub [] rfl) (hD.sub [] rfl rfl) hS dX0_cut_110 (Nat.le_of_ble_eq_true rfl) (Nat.le_of_ble_eq_true rfl)
      · refine lv_tableIn (tgt := 111) hx hb dX0_cut_37 (by decide) (by decide) rfl (by decide) ?_
        refine lv_aload hx hb dX0_cut_111 (lv_at hl 0 rfl) ?_
        refine lv_aload hx hb dX0_cut_113 (lv_at hl 0 rfl) ?_
        refine lv_aload_n hx hb dX0_cut_115 rfl (lv_at hl 1 rfl) ?_
        refine x_lamW2 (f := fun k => if k = 0 then some la else some ka) hx hb hml hl.1 hmn GG.2.1.2.2.2.1 sh_C1 rfl (hts _ q1409) dX0_cut_116 rfl rfl (by show 3 + 3072 ≤ 3720; exact Nat.le_of_ble_eq_true rfl) (Nat.le_of_ble_eq_true rfl) (Nat.le_of_ble_eq_true rfl) hP hD hS hA (fun j1 H hP hD hS => ?_)
        have hP : va_P D vwCl [(j1, .inl ((lc 4), lamA 2 (fun k => if k = 0 then some la else some ka)))] H := hP
        have hD : va_D A [(j1, .inl ((lc 4), lamA 2 (fun k => if k = 0 then some la else some ka)))] := hD
        refine W.widen (k := 1) (n := 2) (Nat.le_of_ble_eq_true rfl) (Nat.le_of_ble_eq_true rfl) ?_
        have hPk2 : va_P D vwCl (kP dA 5 ka kn nums ++ lW dA la lp lx ld lr row n cu) H := vP_app.mpr ⟨vP_sub (fz_S hΦ hFA hS) hmem, (fz_S hsrc hsA hS).sub [2, 3, 4, 5, 6] rfl⟩
        refine x_ret (va_runV (As := [.ref j1]) (rest := []) S (xr_count l D dA E ad sz0 mi lc la lp lx ld lr row hn hcu j1 8 302 (xLB row n cu kc true) (fun H => va_P D vwCl (kP dA 5 ka kn nums ++ lW dA la lp lx ld lr row n cu) H ∧ va_P D vwCl [(j1, .inl ((lc 4), lamA 2 (fun k => if k = 0 then some la else some ka)))] H) (jo_c1P l D dA E ad sz0 mi lc la lp lx ld lr row hn hcu kc ka kn nums hnum hrj j1 (fun H => va_P D vwCl (kP dA 5 ka kn nums ++ lW dA la lp lx ld lr row n cu) H ∧ va_P D vwCl [(j1, .inl ((lc 4), lamA 2 (fun k => if k = 0 then some la else some ka)))] H) (fun H h => h.1) (fun H h => h.2 0 _ rfl)) (by decide) (by decide)) (cwV 1 hts (lw_V q1001 q1002 q1003 q61 q1004) rfl rfl rfl hdX2_count ⟨Nat.le_of_ble_eq_true rfl, Nat.le_of_ble_eq_true rfl⟩) ⟨bb_blind g2_bl _, va_recv K (fz_S hsrc hsA hS) (ci := 2) (q0 := 2) rfl rfl, bb_pre (g2_mv GG (low_of hS hA0 G.1.2.2.2.2.2.2) hS.1) ⟨(fz_S hsrc hsA hS).sub [2, 3, 4, 5, 6] rfl, hPk2, hP⟩ _⟩ rfl rfl hl.1 rfl (lv_room (Nat.le_of_ble_eq_true rfl)) dX0_cut_121 ⟨Nat.le_of_ble_eq_true rfl, Nat.le_of_ble_eq_true rfl⟩) ?_
        exact x_eiret () hx hb hrt hlk (congrArg (fun z => some (Value.int z)) (cu_4 h_1n ckc).symm) trivial (hP.sub [] rfl) (hD.sub [] rfl rfl) hS dX0_cut_124 (Nat.le_of_ble_eq_true rfl) (Nat.le_of_ble_eq_true rfl)
    · have hPk : va_P D vwCl (kP dA 9 ka kn nums ++ lW dA la lp lx ld lr row n cu) H := vP_app.mpr ⟨vP_sub (fz_S hΦ hFA hS) hmem, (fz_S hsrc hsA hS).sub [2, 3, 4, 5, 6] rfl⟩
      refine va_castY hx hb hown (hts _ q974) (G.1.2.1 _ q1383 rfl) (va_recv K hPk (ci := 9) (q0 := 0) rfl rfl) dX0_cut_23 ?_
      refine lv_astore_n (lv' := [(3, .ref ka), (0, .ref x0), (1, .int (nI kc)), (2, .int y)]) hx hb dX0_cut_26 rfl hl (by decide) rfl (fun ls hl => ?_)
      refine lv_aload_n hx hb dX0_cut_27 rfl (lv_at hl 1 rfl) ?_
      refine va_get (D := D) (ci := 0) (C := RX0) (T := TX0) (N := 4) hx hb hts in_X0 hown K (fz_S hsrc hsA hS) 0 rfl rfl 0 (by decide) (hts _ q222) (fun _ h9 => h9) rfl dX0_cut_28 ?_
      refine va_getN (D := D) (ci := 1) (C := RX1) (T := TX1) (N := 4) hx hb hts in_X1 hown K (fz_S hsrc hsA hS) 1 rfl rfl 0 (by decide) (va_Nw.use rfl (G.1.2.1 _ q172 rfl)) (fun _ h9 => h9) rfl dX0_cut_31 ?_
      refine lv_astore (lv' := [(4, .ref la), (3, .ref ka), (0, .ref x0), (1, .int (nI kc)), (2, .int y)]) hx hb dX0_cut_34 hl (by decide) rfl (fun ls hl => ?_)
      refine lv_iload_n hx hb dX0_cut_36 rfl (lv_at hl 4 rfl) ?_
      rcases sw5 y with h_4 | rfl | rfl | rfl | rfl | rfl
      · refine lv_tableOut (tgt := 125) hx hb dX0_cut_37 (sw_out (N := 5) rfl h_4) (by decide) ?_
        refine lv_bipush (v := -2) hx hb dX0_cut_125 (by decide) ?_
        exact x_eiret () hx hb hrt hlk (congrArg (fun z => some (Value.int z)) (cu_out h_1n h_4).symm) trivial (hP.sub [] rfl) (hD.sub [] rfl rfl) hS dX0_cut_127 (Nat.le_of_ble_eq_true rfl) (Nat.le_of_ble_eq_true rfl)
      · refine lv_tableIn (tgt := 72) hx hb dX0_cut_37 (by decide) (by decide) rfl (by decide) ?_
        refine lv_aload_n hx hb dX0_cut_72 rfl (lv_at hl 1 rfl) ?_
        refine x_ret (va_runU (As := []) (rest := []) S (xk_isRay_T l D dA E ad sz0 la lp lx ld lr row hn hcu ka kn nums kc hnum ) (va_cwU 0 hts (lw_U (x := ⟨"SiteCuts$Cut", "isRay", "()Z"⟩) (owner := "SiteCuts$Cut") q975 q509 q512 q508 q79 q513) rfl rfl rfl rfl (by decide +kernel) ⟨Nat.le_of_ble_eq_true rfl, Nat.le_of_ble_eq_true rfl⟩) ⟨bb_blind g0_bl _, va_recv K hPk (ci := 9) (q0 := 0) rfl rfl, bb_pre (g0_mv G.1 (low_of hS hA0 G.1.2.2.2.2.2.2) hS.1) hPk _⟩ rfl rfl hl.1 rfl (lv_room (Nat.le_of_ble_eq_true rfl)) dX0_cut_73 ⟨Nat.le_of_ble_eq_true rfl, Nat.le_of_ble_eq_true rfl⟩) ?_
        refine x_ifb_eq (tgt := 83) hx hb dX0_cut_76 (by decide) (fun _ => ?_) (fun h => by cases h)
        refine lv_iconst (v := nI 1) hx hb dX0_cut_83 (by decide) ?_
        exact x_eiret () hx hb hrt hlk (congrArg (fun z => some (Value.int z)) (cu_0P hrj h_1n ckc).symm) trivial (hP.sub [] rfl) (hD.sub [] rfl rfl) hS dX0_cut_84 (Nat.le_of_ble_eq_true rfl) (Nat.le_of_ble_eq_true rfl)
      · refine lv_tableIn (tgt := 85) hx hb dX0_cut_37 (by decide) (by decide) rfl (by decide) ?_
        refine lv_aload_n hx hb dX0_cut_85 rfl (lv_at hl 1 rfl) ?_
        refine x_ret (va_runU (As := []) (rest := []) S (xk_customer_T l D dA E ad sz0 la lp lx ld lr row hn hcu ka kn nums kc hnum ) (va_cwU 0 hts (lw_U (x := ⟨"SiteCuts$Cut", "customer", "()I"⟩) (owner := "SiteCuts$Cut") q976 q978 q983 q977 q79 q984) rfl rfl rfl rfl (by decide +kernel) ⟨Nat.le_of_ble_eq_true rfl, Nat.le_of_ble_eq_true rfl⟩) ⟨bb_blind g0_bl _, va_recv K hPk (ci := 9) (q0 := 0) rfl rfl, bb_pre (g0_mv G.1 (low_of hS hA0 G.1.2.2.2.2.2.2) hS.1) hPk _⟩ rfl rfl hl.1 rfl (lv_room (Nat.le_of_ble_eq_true rfl)) dX0_cut_86 ⟨Nat.le_of_ble_eq_true rfl, Nat.le_of_ble_eq_true rfl⟩) ?_
        exact x_eiret () hx hb hrt hlk (congrArg (fun z => some (Value.int z)) (cu_1P hrj h_1n ckc).symm) trivial (hP.sub [] rfl) (hD.sub [] rfl rfl) hS dX0_cut_89 (Nat.le_of_ble_eq_true rfl) (Nat.le_of_ble_eq_true rfl)
      · refine lv_tableIn (tgt := 90) hx hb dX0_cut_37 (by decide) (by decide) rfl (by decide) ?_
        refine lv_aload_n hx hb dX0_cut_90 rfl (lv_at hl 1 rfl) ?_
        refine lv_aload hx hb dX0_cut_91 (lv_at hl 0 rfl) ?_
        refine x_ret (va_runU (As := [.ref la]) (rest := []) S (xk_constant_T l D dA E ad sz0 la lp lx ld lr row hn hcu ka kn nums kc hnum ) (va_cwA 1 hts (lw_U (x := ⟨"SiteCuts$Cut", "constant", "(LSiteCuts$Land;)I"⟩) (owner := "SiteCuts$Cut") q985 q987 q992 q531 q80 q532) rfl rfl rfl (G.1.2.1 _ q986 rfl) (by decide +kernel) ⟨Nat.le_of_ble_eq_true rfl, Nat.le_of_ble_eq_true rfl⟩) ⟨bb_blind g0_bl _, va_recv K hPk (ci := 9) (q0 := 0) rfl rfl, bb_pre (g0_mv G.1 (low_of hS hA0 G.1.2.2.2.2.2.2) hS.1) hPk _⟩ rfl rfl hl.1 rfl (lv_room (Nat.le_of_ble_eq_true rfl)) dX0_cut_93 ⟨Nat.le_of_ble_eq_true rfl, Nat.le_of_ble_eq_true rfl⟩) ?_
        exact x_eiret () hx hb hrt hlk (congrArg (fun z => some (Value.int z)) (cu_2P hrj h_1n ckc).symm) trivial (hP.sub [] rfl) (hD.sub [] rfl rfl) hS dX0_cut_96 (Nat.le_of_ble_eq_true rfl) (Nat.le_of_ble_eq_true rfl)
      · refine lv_tableIn (tgt := 97) hx hb dX0_cut_37 (by decide) (by decide) rfl (by decide) ?_
        refine lv_aload hx hb dX0_cut_97 (lv_at hl 0 rfl) ?_
        refine lv_aload hx hb dX0_cut_99 (lv_at hl 0 rfl) ?_
        refine lv_aload_n hx hb dX0_cut_101 rfl (lv_at hl 1 rfl) ?_
        refine x_lamW2 (f := fun k => if k = 0 then some la else some ka) hx hb hml hl.1 hmn GG.2.1.2.2.1 sh_C0 rfl (hts _ q1409) dX0_cut_102 rfl rfl (by show 3 + 3072 ≤ 3720; exact Nat.le_of_ble_eq_true rfl) (Nat.le_of_ble_eq_true rfl) (Nat.le_of_ble_eq_true rfl) hP hD hS hA (fun j1 H hP hD hS => ?_)
        have hP : va_P D vwCl [(j1, .inl ((lc 3), lamA 2 (fun k => if k = 0 then some la else some ka)))] H := hP
        have hD : va_D A [(j1, .inl ((lc 3), lamA 2 (fun k => if k = 0 then some la else some ka)))] := hD
        refine W.widen (k := 1) (n := 2) (Nat.le_of_ble_eq_true rfl) (Nat.le_of_ble_eq_true rfl) ?_
        have hPk2 : va_P D vwCl (kP dA 9 ka kn nums ++ lW dA la lp lx ld lr row n cu) H := vP_app.mpr ⟨vP_sub (fz_S hΦ hFA hS) hmem, (fz_S hsrc hsA hS).sub [2, 3, 4, 5, 6] rfl⟩
        refine x_ret (va_runV (As := [.ref j1]) (rest := []) S (xr_count l D dA E ad sz0 mi lc la lp lx ld lr row hn hcu j1 8 302 (xLB row n cu kc false) (fun H => va_P D vwCl (kP dA 9 ka kn nums ++ lW dA la lp lx ld lr row n cu) H ∧ va_P D vwCl [(j1, .inl ((lc 3), lamA 2 (fun k => if k = 0 then some la else some ka)))] H) (jo_c0T l D dA E ad sz0 mi lc la lp lx ld lr row hn hcu kc ka kn nums hnum hrj j1 (fun H => va_P D vwCl (kP dA 9 ka kn nums ++ lW dA la lp lx ld lr row n cu) H ∧ va_P D vwCl [(j1, .inl ((lc 3), lamA 2 (fun k => if k = 0 then some la else some ka)))] H) (fun H h => h.1) (fun H h => h.2 0 _ rfl)) (by decide) (by decide)) (cwV 1 hts (lw_V q1001 q1002 q1003 q61 q1004) rfl rfl rfl hdX2_count ⟨Nat.le_of_ble_eq_true rfl, Nat.le_of_ble_eq_true rfl⟩) ⟨bb_blind g2_bl _, va_recv K (fz_S hsrc hsA hS) (ci := 2) (q0 := 2) rfl rfl, bb_pre (g2_mv GG (low_of hS hA0 G.1.2.2.2.2.2.2) hS.1) ⟨(fz_S hsrc hsA hS).sub [2, 3, 4, 5, 6] rfl, hPk2, hP⟩ _⟩ rfl rfl hl.1 rfl (lv_room (Nat.le_of_ble_eq_true rfl)) dX0_cut_107 ⟨Nat.le_of_ble_eq_true rfl, Nat.le_of_ble_eq_true rfl⟩) ?_
        exact x_eiret () hx hb hrt hlk (congrArg (fun z => some (Value.int z)) (cu_3 h_1n ckc).symm) trivial (hP.sub [] rfl) (hD.sub [] rfl rfl) hS dX0_cut_110 (Nat.le_of_ble_eq_true rfl) (Nat.le_of_ble_eq_true rfl)
      · refine lv_tableIn (tgt := 111) hx hb dX0_cut_37 (by decide) (by decide) rfl (by decide) ?_
        refine lv_aload hx hb dX0_cut_111 (lv_at hl 0 rfl) ?_
        refine lv_aload hx hb dX0_cut_113 (lv_at hl 0 rfl) ?_
        refine lv_aload_n hx hb dX0_cut_115 rfl (lv_at hl 1 rfl) ?_
        refine x_lamW2 (f := fun k => if k = 0 then some la else some ka) hx hb hml hl.1 hmn GG.2.1.2.2.2.1 sh_C1 rfl (hts _ q1409) dX0_cut_116 rfl rfl (by show 3 + 3072 ≤ 3720; exact Nat.le_of_ble_eq_true rfl) (Nat.le_of_ble_eq_true rfl) (Nat.le_of_ble_eq_true rfl) hP hD hS hA (fun j1 H hP hD hS => ?_)
        have hP : va_P D vwCl [(j1, .inl ((lc 4), lamA 2 (fun k => if k = 0 then some la else some ka)))] H := hP
        have hD : va_D A [(j1, .inl ((lc 4), lamA 2 (fun k => if k = 0 then some la else some ka)))] := hD
        refine W.widen (k := 1) (n := 2) (Nat.le_of_ble_eq_true rfl) (Nat.le_of_ble_eq_true rfl) ?_
        have hPk2 : va_P D vwCl (kP dA 9 ka kn nums ++ lW dA la lp lx ld lr row n cu) H := vP_app.mpr ⟨vP_sub (fz_S hΦ hFA hS) hmem, (fz_S hsrc hsA hS).sub [2, 3, 4, 5, 6] rfl⟩
        refine x_ret (va_runV (As := [.ref j1]) (rest := []) S (xr_count l D dA E ad sz0 mi lc la lp lx ld lr row hn hcu j1 8 302 (xLB row n cu kc true) (fun H => va_P D vwCl (kP dA 9 ka kn nums ++ lW dA la lp lx ld lr row n cu) H ∧ va_P D vwCl [(j1, .inl ((lc 4), lamA 2 (fun k => if k = 0 then some la else some ka)))] H) (jo_c1T l D dA E ad sz0 mi lc la lp lx ld lr row hn hcu kc ka kn nums hnum hrj j1 (fun H => va_P D vwCl (kP dA 9 ka kn nums ++ lW dA la lp lx ld lr row n cu) H ∧ va_P D vwCl [(j1, .inl ((lc 4), lamA 2 (fun k => if k = 0 then some la else some ka)))] H) (fun H h => h.1) (fun H h => h.2 0 _ rfl)) (by decide) (by decide)) (cwV 1 hts (lw_V q1001 q1002 q1003 q61 q1004) rfl rfl rfl hdX2_count ⟨Nat.le_of_ble_eq_true rfl, Nat.le_of_ble_eq_true rfl⟩) ⟨bb_blind g2_bl _, va_recv K (fz_S hsrc hsA hS) (ci := 2) (q0 := 2) rfl rfl, bb_pre (g2_mv GG (low_of hS hA0 G.1.2.2.2.2.2.2) hS.1) ⟨(fz_S hsrc hsA hS).sub [2, 3, 4, 5, 6] rfl, hPk2, hP⟩ _⟩ rfl rfl hl.1 rfl (lv_room (Nat.le_of_ble_eq_true rfl)) dX0_cut_121 ⟨Nat.le_of_ble_eq_true rfl, Nat.le_of_ble_eq_true rfl⟩) ?_
        exact x_eiret () hx hb hrt hlk (congrArg (fun z => some (Value.int z)) (cu_4 h_1n ckc).symm) trivial (hP.sub [] rfl) (hD.sub [] rfl rfl) hS dX0_cut_124 (Nat.le_of_ble_eq_true rfl) (Nat.le_of_ble_eq_true rfl)
  · have h_1n := no_f h_1
    refine lv_iconst (v := -1) hx hb dX0_cut_8 (by decide) ?_
    exact x_eiret () hx hb hrt hlk (congrArg (fun z => some (Value.int z)) (cu_no h_1n).symm) trivial (hP.sub [] rfl) (hD.sub [] rfl rfl) hS dX0_cut_9 (Nat.le_of_ble_eq_true rfl) (Nat.le_of_ble_eq_true rfl)

