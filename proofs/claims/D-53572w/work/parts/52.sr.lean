def RtOk (row : Nat → Int32) (n cu : Nat) : Prop := ∀ s c, s < 7 → c < 8 → (n ≤ s ∨ cu ≤ c) → nI 100 ≤ row (21 + 8 * s + c)
/-! SiteCuts' readers -/
theorem no_t {b : Bool} (h : (!b) = true) : b = false := by cases b with | false => rfl | true => cases h
theorem no_f {b : Bool} (h : (!b) = false) : b = true := by cases b with | true => rfl | false => cases h
theorem no_in (N : Nat) (x : Int32) : bI (mIn x (nI 0) (nI N - nI 1)) = bI (!mNo N x) := by
  unfold mNo
  cases mIn x (nI 0) (nI N - nI 1) <;> rfl
theorem ag4 {k : Nat} (h : k < 4) : k = 0 ∨ k = 1 ∨ k = 2 ∨ k = 3 := by omega
theorem judge_eq {row : Nat → Int32} {n cu pl : Nat} (h : mNo (2 ^ n) (nI pl) = false) (hc : (nI pl).toNatClampNeg = pl) : nI (agI row n cu pl) = rJudge row n cu (nI pl) := by
  unfold rJudge agI isK2 isK4 cN
  rw [h, hc]
  by_cases h1 : nI (mMany pl) ≤ row 2
  · by_cases h2 : mExcl row n pl = true
    · simp [h1, h2]
    · by_cases h3 : mMissed row n cu pl = none
      · simp [h1, h2, h3]
      · simp [h1, h2, h3]
  · simp [h1]
theorem wt_P {row : Nat → Int32} {n cu q kc j0 : Nat} (hrj : row (84 + 9 * kc) = -5) (h1 : mNo q (nI kc) = false) (h2 : mNo n (nI j0) = false) (c1 : (nI kc).toNatClampNeg = kc) (c2 : (nI j0).toNatClampNeg = j0) : mWeight row cu kc j0 = rWeight row n cu q (nI kc) (nI j0) := by
  have hr : mRay row kc = false := by unfold mRay; rw [hrj]; rfl
  simp [rWeight, h1, h2, c1, c2, hr]
theorem sumR_one (row : Nat → Int32) (n j j0 : Nat) : ∀ N, iter (xSuR row j (2 ^ j0)) N 0 (nI 0) = if j0 < N then xRw row j j0 else nI 0 := by
  intro N
  induction N with
  | zero => rw [iter_0, if_neg (by omega)]
  | succ N ih =>
    rw [iter_s, ih, Nat.zero_add]
    unfold xSuR
    rw [Nat.testBit_two_pow]
    by_cases h : j0 = N
    · subst h
      rw [if_neg (by omega), decide_eq_true rfl, if_neg (by decide), if_pos (by omega), nI_0, Int32.zero_add]
    · rw [decide_eq_false h, if_pos rfl, nI_0, Int32.add_zero]
      by_cases h2 : j0 < N
      · rw [if_pos h2, if_pos (by omega)]
      · rw [if_neg h2, if_neg (by omega)]
theorem wt_R {row : Nat → Int32} {n cu q kc j j0 : Nat} (hn : n ≤ 7) (hj : j < 8) (hrj : row (84 + 9 * kc) = nI j) (hj0 : j0 < n) (h1 : mNo q (nI kc) = false) (h2 : mNo n (nI j0) = false) (c1 : (nI kc).toNatClampNeg = kc) (c2 : (nI j0).toNatClampNeg = j0) : xRw row j j0 = rWeight row n cu q (nI kc) (nI j0) := by
  have hr : mRay row kc = true := by unfold mRay; rw [hrj, if_neg (nI_pos (by omega))]
  have e : nI (mAsked row n kc (2 ^ j0)) = xRw row j j0 := by
    rw [asked_ray hn hrj hj]
    unfold xSumR
    rw [sumR_one row n j j0 n, if_pos hj0]
  simp [rWeight, h1, h2, c1, c2, hr, e]
theorem vl_P {row : Nat → Int32} {n cu q kc pl : Nat} (hrj : row (84 + 9 * kc) = -5) (h1 : mNo q (nI kc) = false) (h2 : mNo (2 ^ n) (nI pl) = false) (c1 : (nI kc).toNatClampNeg = kc) (c2 : (nI pl).toNatClampNeg = pl) : mValue row n cu kc pl + 1000000 = rValue row n cu q (nI kc) (nI pl) := by
  have hr : mRay row kc = false := by unfold mRay; rw [hrj]; rfl
  simp [rValue, h1, h2, c1, c2, hr, Int32.add_comm]
theorem vl_R {row : Nat → Int32} {n cu q kc j pl : Nat} (hn : n ≤ 7) (hj : j < 8) (hrj : row (84 + 9 * kc) = nI j) (h1 : mNo q (nI kc) = false) (h2 : mNo (2 ^ n) (nI pl) = false) (c1 : (nI kc).toNatClampNeg = kc) (c2 : (nI pl).toNatClampNeg = pl) : xSumR row n j pl + nI 0 = rValue row n cu q (nI kc) (nI pl) := by
  have hr : mRay row kc = true := by unfold mRay; rw [hrj, if_neg (nI_pos (by omega))]
  have e := asked_ray (pl := pl) hn hrj hj
  rw [nI_0, Int32.add_zero]
  simp [rValue, h1, h2, c1, c2, hr, e]
theorem ry_P {row : Nat → Int32} {k a : Nat} (h : row (84 + 9 * k) = -5) : mRyS row k a = a + 0 := by
  have hr : mRay row k = false := by unfold mRay; rw [h]; rfl
  unfold mRyS
  rw [if_pos hr]
theorem ry_R {row : Nat → Int32} {k a j : Nat} (hj : j < 8) (h : row (84 + 9 * k) = nI j) : mRyS row k a = a + 1 := by
  have hr : ¬ mRay row k = false := by unfold mRay; rw [h, if_neg (nI_pos (by omega))]; decide
  unfold mRyS
  rw [if_neg hr]
def xRtS (row : Nat → Int32) (s c a : Nat) : Nat := a + (if nI 100 ≤ row (21 + 8 * s + c) then 0 else 1)
def xRts (row : Nat → Int32) (n cu : Nat) : Nat := iter (fun s a => iter (xRtS row s) cu 0 a) n 0 0
theorem rt_row {row : Nat → Int32} {s cu : Nat} (hcu : cu ≤ 8) (h : ∀ c, cu ≤ c → c < 8 → nI 100 ≤ row (21 + 8 * s + c)) (a : Nat) : iter (xRtS row s) 8 0 a = iter (xRtS row s) cu 0 a := by
  have key : ∀ d, cu + d ≤ 8 → iter (xRtS row s) (cu + d) 0 a = iter (xRtS row s) cu 0 a := by
    intro d
    induction d with
    | zero => intro _; rfl
    | succ d ih =>
      intro hd
      rw [← Nat.add_assoc, iter_s, ih (by omega), Nat.zero_add]
      unfold xRtS
      rw [if_pos (h (cu + d) (by omega) (by omega)), Nat.add_zero]
  have := key (8 - cu) (by omega)
  rwa [Nat.add_sub_cancel' hcu] at this
theorem rt_all (row : Nat → Int32) : ∀ s, iter (mArS row) (8 * s) 0 0 = iter (fun s a => iter (xRtS row s) 8 0 a) s 0 0 := by
  intro s
  induction s with
  | zero => rw [Nat.mul_zero, iter_0, iter_0]
  | succ s ih =>
    rw [iter_s, ← ih, Nat.zero_add]
    have k2 : ∀ c, iter (mArS row) (8 * s + c) 0 0 = iter (xRtS row s) c 0 (iter (mArS row) (8 * s) 0 0) := by
      intro c
      induction c with
      | zero => rw [iter_0, Nat.add_zero]
      | succ c ih2 =>
        rw [← Nat.add_assoc, iter_s, iter_s, ih2, Nat.zero_add, Nat.zero_add]
        unfold mArS xRtS
        rw [show 21 + (8 * s + c) = 21 + 8 * s + c by omega]
    rw [Nat.mul_succ]
    exact k2 8
theorem rts_eq {row : Nat → Int32} {n cu : Nat} (hn : n ≤ 7) (hcu : cu ≤ 8) (h : RtOk row n cu) : xRts row n cu = mAllR row := by
  unfold mAllR xRts
  have e := rt_all row 7
  rw [show 8 * 7 = 56 from rfl] at e
  rw [e]
  have key : ∀ d, n + d ≤ 7 → iter (fun s a => iter (xRtS row s) 8 0 a) (n + d) 0 0 = iter (fun s a => iter (xRtS row s) cu 0 a) n 0 0 := by
    intro d
    induction d with
    | zero =>
      intro _
      exact iter_cg (fun s hs a => rt_row hcu (fun c h1 h2 => h s c (by omega) h2 (Or.inr h1)) a) 0
    | succ d ih =>
      intro hd
      rw [← Nat.add_assoc, iter_s, ih (by omega), Nat.zero_add, rt_row (cu := 0) (by omega) (fun c _ h2 => h (n + d) c (by omega) h2 (Or.inl (by omega))), iter_0]
  have := key (7 - n) (by omega)
  rw [Nat.add_sub_cancel' hn] at this
  exact this.symm
theorem rc_0 {row : Nat → Int32} {n cu q : Nat} {a b : Int32} (w : MWf row n cu q) : nI n = rCount row n q a b (nI 0) := by rw [← w.1]; rfl
theorem rc_1 {row : Nat → Int32} {n cu q : Nat} {a b : Int32} (w : MWf row n cu q) : nI cu = rCount row n q a b (nI 1) := by rw [← w.2.2.1]; rfl
theorem rc_2 {row : Nat → Int32} {n cu q : Nat} {a b : Int32} (w : MWf row n cu q) (h : RtOk row n cu) : nI (xRts row n cu) = rCount row n q a b (nI 2) := by rw [rts_eq w.2.1 w.2.2.2.1 h]; rfl
theorem rc_3 {row : Nat → Int32} {n cu q : Nat} {a b : Int32} (_w : MWf row n cu q) : row 2 = rCount row n q a b (nI 3) := rfl
theorem rc_4 {row : Nat → Int32} {n cu q : Nat} {a b : Int32} (_w : MWf row n cu q) : nI (mPairs row n) = rCount row n q a b (nI 4) := rfl
theorem rc_5 {row : Nat → Int32} {n cu q : Nat} {a b : Int32} (w : MWf row n cu q) : nI q = rCount row n q a b (nI 5) := by rw [← w.2.2.2.2.1]; rfl
theorem rc_6 {row : Nat → Int32} {n cu q : Nat} {a b : Int32} (_w : MWf row n cu q) : nI (mRays row q) = rCount row n q a b (nI 6) := rfl
theorem rc_7 {row : Nat → Int32} {n cu q : Nat} {a b sp : Int32} (_w : MWf row n cu q) (h : sp = row 5) : sp = rCount row n q a b (nI 7) := h
theorem rc_8 {row : Nat → Int32} {n cu q : Nat} {a b : Int32} (_w : MWf row n cu q) : a = rCount row n q a b (nI 8) := rfl
theorem rc_9 {row : Nat → Int32} {n cu q : Nat} {a b : Int32} (_w : MWf row n cu q) : b = rCount row n q a b (nI 9) := rfl
theorem rc_out {row : Nat → Int32} {n q : Nat} {a b x : Int32} (h : ∀ j, j < 10 → ¬ x = nI j) : -2 = rCount row n q a b x := by
  unfold rCount
  rw [if_neg (h 0 (by decide)), if_neg (h 1 (by decide)), if_neg (h 2 (by decide)), if_neg (h 3 (by decide)), if_neg (h 4 (by decide)), if_neg (h 5 (by decide)), if_neg (h 6 (by decide)), if_neg (h 7 (by decide)), if_neg (h 8 (by decide)), if_neg (h 9 (by decide))]

set_option maxHeartbeats 4000000 in
theorem xq_isSite (l : Launch) (D : va_G) (dA : Nat → ClassId) (E : Nat) (ad : Nat → Nat) (sz0 mi : Nat) (x0 hi tb : Nat) (snv : Value) (sa la lp lx ld lr lq : Nat) (row : Nat → Int32) {n cu : Nat} (hn : n ≤ 7) (hcu : cu ≤ 8) (bs sp md : Int32) (d2 q2 p2 : Nat) (f2 : Nat → Option Nat) (FZ : va_W) (hq : q2 ≤ p2 ∧ p2 ≤ 64) (hco : CutsOk dA FZ row cu q2 f2) (x : Int32) : RO l yX0_isSite cX0_isSite 2 (some .boolean) 1 40 [.ref x0, .int x] (G1 D dA E ad sz0 mi) (fun H => va_P D vwCl [(x0, .inr (0, [.ref sa, snv, .ref hi, .ref tb])), (sa, .inr (1, [.ref la, .ref lq, .int bs, .int sp])), (la, .inr (2, [.ref lp, .ref lx, .ref ld, .ref lr, .int (nI n), .int (nI cu), .int (row 2)])), (lp, .inl (dA 0, 7, .inl (fun k => row (6 + k)))), (lx, .inl (dA 0, 7, .inl (fun k => row (77 + k)))), (ld, .inl (dA 0, 8, .inl (fun k => row (13 + k)))), (lr, .inl (dA 0, 56, .inl (fun k => row (21 + k)))), (lq, .inr (4, [.int md, .ref d2, .int (nI q2)])), (d2, .inl (dA 1, p2, .inr (.inr (.inr (.inr f2)))))] H ∧ va_P D vwCl FZ H) (some (.int (bI (!mNo n x)))) := by
  refine ro_of (by decide) (Nat.le_of_ble_eq_true rfl) ?_
  intro p e s m below meth c S hrt hlk G hP ls hl
  obtain ⟨hx, hb, hml, hown, hts⟩ := id S
  obtain ⟨hP, hF⟩ := hP
  have hP : va_P D vwCl [(x0, .inr (0, [.ref sa, snv, .ref hi, .ref tb])), (sa, .inr (1, [.ref la, .ref lq, .int bs, .int sp])), (la, .inr (2, [.ref lp, .ref lx, .ref ld, .ref lr, .int (nI n), .int (nI cu), .int (row 2)])), (lp, .inl (dA 0, 7, .inl (fun k => row (6 + k)))), (lx, .inl (dA 0, 7, .inl (fun k => row (77 + k)))), (ld, .inl (dA 0, 8, .inl (fun k => row (13 + k)))), (lr, .inl (dA 0, 56, .inl (fun k => row (21 + k)))), (lq, .inr (4, [.int md, .ref d2, .int (nI q2)])), (d2, .inl (dA 1, p2, .inr (.inr (.inr (.inr f2)))))] s.heap := hP
  have K := G.1.1
  have h2n := pow7 hn
  have hl : lv_has ls 2 [(0, .ref x0), (1, .int x)] := hl
  refine lv_iload_n hx hb dX0_isSite_0 rfl (lv_at hl 1 rfl) ?_
  refine lv_iconst (v := nI 0) hx hb dX0_isSite_1 (by decide) ?_
  refine lv_aload_n hx hb dX0_isSite_2 rfl (lv_at hl 0 rfl) ?_
  refine va_get (D := D) (ci := 0) (C := RX0) (T := TX0) (N := 4) hx hb hts in_X0 hown K hP 0 rfl rfl 0 (by decide) (hts _ q222) (fun _ h9 => h9) rfl dX0_isSite_3 ?_
  refine va_getN (D := D) (ci := 1) (C := RX1) (T := TX1) (N := 4) hx hb hts in_X1 hown K hP 1 rfl rfl 0 (by decide) (va_Nw.use rfl (G.1.2.1 _ q172 rfl)) (fun _ h9 => h9) rfl dX0_isSite_6 ?_
  refine va_getN (D := D) (ci := 2) (C := RX2) (T := TX2) (N := 7) hx hb hts in_X2 hown K hP 2 rfl rfl 4 (by decide) (va_Nw.use rfl (G.1.2.1 _ q120 rfl)) (fun _ h9 => h9) rfl dX0_isSite_9 ?_
  refine lv_iconst (v := nI 1) hx hb dX0_isSite_12 (by decide) ?_
  refine lv_isub hx hb dX0_isSite_13 ?_
  refine x_ret (va_runS (As := [.int x, .int (nI 0), .int ((nI n) - (nI 1))]) (rest := []) S (xr_inRange l x (nI 0) ((nI n) - (nI 1))) (va_cwS 3 hts (lw_S q239 q240 q59 q241) rfl rfl rfl hdX0_inRange ⟨Nat.le_of_ble_eq_true rfl, Nat.le_of_ble_eq_true rfl⟩) ⟨bb_blind tt_bl _, tt_pre _⟩ rfl rfl hl.1 rfl (lv_room (Nat.le_of_ble_eq_true rfl)) dX0_isSite_14 ⟨Nat.le_refl _, Nat.le_refl _⟩) ?_
  exact x_zret hx hb hrt hlk (no_in n x) dX0_isSite_17

set_option maxHeartbeats 4000000 in
theorem xq_isCustomer (l : Launch) (D : va_G) (dA : Nat → ClassId) (E : Nat) (ad : Nat → Nat) (sz0 mi : Nat) (x0 hi tb : Nat) (snv : Value) (sa la lp lx ld lr lq : Nat) (row : Nat → Int32) {n cu : Nat} (hn : n ≤ 7) (hcu : cu ≤ 8) (bs sp md : Int32) (d2 q2 p2 : Nat) (f2 : Nat → Option Nat) (FZ : va_W) (hq : q2 ≤ p2 ∧ p2 ≤ 64) (hco : CutsOk dA FZ row cu q2 f2) (x : Int32) : RO l yX0_isCustomer cX0_isCustomer 2 (some .boolean) 1 40 [.ref x0, .int x] (G1 D dA E ad sz0 mi) (fun H => va_P D vwCl [(x0, .inr (0, [.ref sa, snv, .ref hi, .ref tb])), (sa, .inr (1, [.ref la, .ref lq, .int bs, .int sp])), (la, .inr (2, [.ref lp, .ref lx, .ref ld, .ref lr, .int (nI n), .int (nI cu), .int (row 2)])), (lp, .inl (dA 0, 7, .inl (fun k => row (6 + k)))), (lx, .inl (dA 0, 7, .inl (fun k => row (77 + k)))), (ld, .inl (dA 0, 8, .inl (fun k => row (13 + k)))), (lr, .inl (dA 0, 56, .inl (fun k => row (21 + k)))), (lq, .inr (4, [.int md, .ref d2, .int (nI q2)])), (d2, .inl (dA 1, p2, .inr (.inr (.inr (.inr f2)))))] H ∧ va_P D vwCl FZ H) (some (.int (bI (!mNo cu x)))) := by
  refine ro_of (by decide) (Nat.le_of_ble_eq_true rfl) ?_
  intro p e s m below meth c S hrt hlk G hP ls hl
  obtain ⟨hx, hb, hml, hown, hts⟩ := id S
  obtain ⟨hP, hF⟩ := hP
  have hP : va_P D vwCl [(x0, .inr (0, [.ref sa, snv, .ref hi, .ref tb])), (sa, .inr (1, [.ref la, .ref lq, .int bs, .int sp])), (la, .inr (2, [.ref lp, .ref lx, .ref ld, .ref lr, .int (nI n), .int (nI cu), .int (row 2)])), (lp, .inl (dA 0, 7, .inl (fun k => row (6 + k)))), (lx, .inl (dA 0, 7, .inl (fun k => row (77 + k)))), (ld, .inl (dA 0, 8, .inl (fun k => row (13 + k)))), (lr, .inl (dA 0, 56, .inl (fun k => row (21 + k)))), (lq, .inr (4, [.int md, .ref d2, .int (nI q2)])), (d2, .inl (dA 1, p2, .inr (.inr (.inr (.inr f2)))))] s.heap := hP
  have K := G.1.1
  have h2n := pow7 hn
  have hl : lv_has ls 2 [(0, .ref x0), (1, .int x)] := hl
  refine lv_iload_n hx hb dX0_isCustomer_0 rfl (lv_at hl 1 rfl) ?_
  refine lv_iconst (v := nI 0) hx hb dX0_isCustomer_1 (by decide) ?_
  refine lv_aload_n hx hb dX0_isCustomer_2 rfl (lv_at hl 0 rfl) ?_
  refine va_get (D := D) (ci := 0) (C := RX0) (T := TX0) (N := 4) hx hb hts in_X0 hown K hP 0 rfl rfl 0 (by decide) (hts _ q222) (fun _ h9 => h9) rfl dX0_isCustomer_3 ?_
  refine va_getN (D := D) (ci := 1) (C := RX1) (T := TX1) (N := 4) hx hb hts in_X1 hown K hP 1 rfl rfl 0 (by decide) (va_Nw.use rfl (G.1.2.1 _ q172 rfl)) (fun _ h9 => h9) rfl dX0_isCustomer_6 ?_
  refine va_getN (D := D) (ci := 2) (C := RX2) (T := TX2) (N := 7) hx hb hts in_X2 hown K hP 2 rfl rfl 5 (by decide) (va_Nw.use rfl (G.1.2.1 _ q124 rfl)) (fun _ h9 => h9) rfl dX0_isCustomer_9 ?_
  refine lv_iconst (v := nI 1) hx hb dX0_isCustomer_12 (by decide) ?_
  refine lv_isub hx hb dX0_isCustomer_13 ?_
  refine x_ret (va_runS (As := [.int x, .int (nI 0), .int ((nI cu) - (nI 1))]) (rest := []) S (xr_inRange l x (nI 0) ((nI cu) - (nI 1))) (va_cwS 3 hts (lw_S q239 q240 q59 q241) rfl rfl rfl hdX0_inRange ⟨Nat.le_of_ble_eq_true rfl, Nat.le_of_ble_eq_true rfl⟩) ⟨bb_blind tt_bl _, tt_pre _⟩ rfl rfl hl.1 rfl (lv_room (Nat.le_of_ble_eq_true rfl)) dX0_isCustomer_14 ⟨Nat.le_refl _, Nat.le_refl _⟩) ?_
  exact x_zret hx hb hrt hlk (no_in cu x) dX0_isCustomer_17

set_option maxHeartbeats 4000000 in
theorem xq_isCut (l : Launch) (D : va_G) (dA : Nat → ClassId) (E : Nat) (ad : Nat → Nat) (sz0 mi : Nat) (x0 hi tb : Nat) (snv : Value) (sa la lp lx ld lr lq : Nat) (row : Nat → Int32) {n cu : Nat} (hn : n ≤ 7) (hcu : cu ≤ 8) (bs sp md : Int32) (d2 q2 p2 : Nat) (f2 : Nat → Option Nat) (FZ : va_W) (hq : q2 ≤ p2 ∧ p2 ≤ 64) (hco : CutsOk dA FZ row cu q2 f2) (x : Int32) : RO l yX0_isCut cX0_isCut 2 (some .boolean) 1 40 [.ref x0, .int x] (G1 D dA E ad sz0 mi) (fun H => va_P D vwCl [(x0, .inr (0, [.ref sa, snv, .ref hi, .ref tb])), (sa, .inr (1, [.ref la, .ref lq, .int bs, .int sp])), (la, .inr (2, [.ref lp, .ref lx, .ref ld, .ref lr, .int (nI n), .int (nI cu), .int (row 2)])), (lp, .inl (dA 0, 7, .inl (fun k => row (6 + k)))), (lx, .inl (dA 0, 7, .inl (fun k => row (77 + k)))), (ld, .inl (dA 0, 8, .inl (fun k => row (13 + k)))), (lr, .inl (dA 0, 56, .inl (fun k => row (21 + k)))), (lq, .inr (4, [.int md, .ref d2, .int (nI q2)])), (d2, .inl (dA 1, p2, .inr (.inr (.inr (.inr f2)))))] H ∧ va_P D vwCl FZ H) (some (.int (bI (!mNo q2 x)))) := by
  refine ro_of (by decide) (Nat.le_of_ble_eq_true rfl) ?_
  intro p e s m below meth c S hrt hlk G hP ls hl
  obtain ⟨hx, hb, hml, hown, hts⟩ := id S
  obtain ⟨hP, hF⟩ := hP
  have hP : va_P D vwCl [(x0, .inr (0, [.ref sa, snv, .ref hi, .ref tb])), (sa, .inr (1, [.ref la, .ref lq, .int bs, .int sp])), (la, .inr (2, [.ref lp, .ref lx, .ref ld, .ref lr, .int (nI n), .int (nI cu), .int (row 2)])), (lp, .inl (dA 0, 7, .inl (fun k => row (6 + k)))), (lx, .inl (dA 0, 7, .inl (fun k => row (77 + k)))), (ld, .inl (dA 0, 8, .inl (fun k => row (13 + k)))), (lr, .inl (dA 0, 56, .inl (fun k => row (21 + k)))), (lq, .inr (4, [.int md, .ref d2, .int (nI q2)])), (d2, .inl (dA 1, p2, .inr (.inr (.inr (.inr f2)))))] s.heap := hP
  have K := G.1.1
  have h2n := pow7 hn
  have hl : lv_has ls 2 [(0, .ref x0), (1, .int x)] := hl
  refine lv_iload_n hx hb dX0_isCut_0 rfl (lv_at hl 1 rfl) ?_
  refine lv_iconst (v := nI 0) hx hb dX0_isCut_1 (by decide) ?_
  refine lv_aload_n hx hb dX0_isCut_2 rfl (lv_at hl 0 rfl) ?_
  refine va_get (D := D) (ci := 0) (C := RX0) (T := TX0) (N := 4) hx hb hts in_X0 hown K hP 0 rfl rfl 0 (by decide) (hts _ q222) (fun _ h9 => h9) rfl dX0_isCut_3 ?_
  refine va_getN (D := D) (ci := 1) (C := RX1) (T := TX1) (N := 4) hx hb hts in_X1 hown K hP 1 rfl rfl 1 (by decide) (va_Nw.use rfl (G.1.2.1 _ q174 rfl)) (fun _ h9 => h9) rfl dX0_isCut_6 ?_
  refine x_ret5 (va_runF ((K.1 4 _ rfl).2) (As := []) (rest := [.int (nI 0), .int x]) S (xl_size l D dA E ad sz0 mi lq md (.ref d2) q2) (va_cwF 0 hts (lw_F (x := ⟨"java/util/List", "size", "()I"⟩) (y := yJ2_size) q348 q351 q353 q64 q355) rfl rfl rfl (fwk_0 G.1.2.2.1) (by decide +kernel) ⟨Nat.le_of_ble_eq_true rfl, Nat.le_of_ble_eq_true rfl⟩) ⟨bb_blind g1_bl _, va_recv K hP (ci := 4) (q0 := 7) rfl rfl, bb_pre (g1_mv G (fun _ _ => rfl) (Nat.le_refl _)) (hP.sub [7] rfl) _⟩ rfl rfl hl.1 rfl (lv_room (Nat.le_of_ble_eq_true rfl)) dX0_isCut_9 ⟨Nat.le_refl _, Nat.le_refl _⟩) ?_
  refine lv_iconst (v := nI 1) hx hb dX0_isCut_14 (by decide) ?_
  refine lv_isub hx hb dX0_isCut_15 ?_
  refine x_ret (va_runS (As := [.int x, .int (nI 0), .int ((nI q2) - (nI 1))]) (rest := []) S (xr_inRange l x (nI 0) ((nI q2) - (nI 1))) (va_cwS 3 hts (lw_S q239 q240 q59 q241) rfl rfl rfl hdX0_inRange ⟨Nat.le_of_ble_eq_true rfl, Nat.le_of_ble_eq_true rfl⟩) ⟨bb_blind tt_bl _, tt_pre _⟩ rfl rfl hl.1 rfl (lv_room (Nat.le_of_ble_eq_true rfl)) dX0_isCut_16 ⟨Nat.le_refl _, Nat.le_refl _⟩) ?_
  exact x_zret hx hb hrt hlk (no_in q2 x) dX0_isCut_19

set_option maxHeartbeats 4000000 in
theorem xq_isPlan (l : Launch) (D : va_G) (dA : Nat → ClassId) (E : Nat) (ad : Nat → Nat) (sz0 mi : Nat) (x0 hi tb : Nat) (snv : Value) (sa la lp lx ld lr lq : Nat) (row : Nat → Int32) {n cu : Nat} (hn : n ≤ 7) (hcu : cu ≤ 8) (bs sp md : Int32) (d2 q2 p2 : Nat) (f2 : Nat → Option Nat) (FZ : va_W) (hq : q2 ≤ p2 ∧ p2 ≤ 64) (hco : CutsOk dA FZ row cu q2 f2) (x : Int32) : RO l yX0_isPlan cX0_isPlan 2 (some .boolean) 1 40 [.ref x0, .int x] (G1 D dA E ad sz0 mi) (fun H => va_P D vwCl [(x0, .inr (0, [.ref sa, snv, .ref hi, .ref tb])), (sa, .inr (1, [.ref la, .ref lq, .int bs, .int sp])), (la, .inr (2, [.ref lp, .ref lx, .ref ld, .ref lr, .int (nI n), .int (nI cu), .int (row 2)])), (lp, .inl (dA 0, 7, .inl (fun k => row (6 + k)))), (lx, .inl (dA 0, 7, .inl (fun k => row (77 + k)))), (ld, .inl (dA 0, 8, .inl (fun k => row (13 + k)))), (lr, .inl (dA 0, 56, .inl (fun k => row (21 + k)))), (lq, .inr (4, [.int md, .ref d2, .int (nI q2)])), (d2, .inl (dA 1, p2, .inr (.inr (.inr (.inr f2)))))] H ∧ va_P D vwCl FZ H) (some (.int (bI (!mNo (2 ^ n) x)))) := by
  refine ro_of (by decide) (Nat.le_of_ble_eq_true rfl) ?_
  intro p e s m below meth c S hrt hlk G hP ls hl
  obtain ⟨hx, hb, hml, hown, hts⟩ := id S
  obtain ⟨hP, hF⟩ := hP
  have hP : va_P D vwCl [(x0, .inr (0, [.ref sa, snv, .ref hi, .ref tb])), (sa, .inr (1, [.ref la, .ref lq, .int bs, .int sp])), (la, .inr (2, [.ref lp, .ref lx, .ref ld, .ref lr, .int (nI n), .int (nI cu), .int (row 2)])), (lp, .inl (dA 0, 7, .inl (fun k => row (6 + k)))), (lx, .inl (dA 0, 7, .inl (fun k => row (77 + k)))), (ld, .inl (dA 0, 8, .inl (fun k => row (13 + k)))), (lr, .inl (dA 0, 56, .inl (fun k => row (21 + k)))), (lq, .inr (4, [.int md, .ref d2, .int (nI q2)])), (d2, .inl (dA 1, p2, .inr (.inr (.inr (.inr f2)))))] s.heap := hP
  have K := G.1.1
  have h2n := pow7 hn
  have hl : lv_has ls 2 [(0, .ref x0), (1, .int x)] := hl
  refine lv_iload_n hx hb dX0_isPlan_0 rfl (lv_at hl 1 rfl) ?_
  refine lv_iconst (v := nI 0) hx hb dX0_isPlan_1 (by decide) ?_
  refine lv_aload_n hx hb dX0_isPlan_2 rfl (lv_at hl 0 rfl) ?_
  refine va_get (D := D) (ci := 0) (C := RX0) (T := TX0) (N := 4) hx hb hts in_X0 hown K hP 0 rfl rfl 0 (by decide) (hts _ q222) (fun _ h9 => h9) rfl dX0_isPlan_3 ?_
  refine va_getN (D := D) (ci := 1) (C := RX1) (T := TX1) (N := 4) hx hb hts in_X1 hown K hP 1 rfl rfl 0 (by decide) (va_Nw.use rfl (G.1.2.1 _ q172 rfl)) (fun _ h9 => h9) rfl dX0_isPlan_6 ?_
  refine x_ret (va_runV (As := []) (rest := [.int (nI 0), .int x]) S (xr_plans l D dA E ad sz0 la lp lx ld lr row hn hcu ) (cwV 0 hts (lw_V q935 q590 q591 q61 q592) rfl rfl rfl hdX2_plans ⟨Nat.le_of_ble_eq_true rfl, Nat.le_of_ble_eq_true rfl⟩) ⟨bb_blind g0_bl _, va_recv K hP (ci := 2) (q0 := 2) rfl rfl, bb_pre (g0_mv G.1 (fun _ _ => rfl) (Nat.le_refl _)) (hP.sub [2, 3, 4, 5, 6] rfl) _⟩ rfl rfl hl.1 rfl (lv_room (Nat.le_of_ble_eq_true rfl)) dX0_isPlan_9 ⟨Nat.le_refl _, Nat.le_refl _⟩) ?_
  refine lv_iconst (v := nI 1) hx hb dX0_isPlan_12 (by decide) ?_
  refine lv_isub hx hb dX0_isPlan_13 ?_
  refine x_ret (va_runS (As := [.int x, .int (nI 0), .int ((nI (2 ^ n)) - (nI 1))]) (rest := []) S (xr_inRange l x (nI 0) ((nI (2 ^ n)) - (nI 1))) (va_cwS 3 hts (lw_S q239 q240 q59 q241) rfl rfl rfl hdX0_inRange ⟨Nat.le_of_ble_eq_true rfl, Nat.le_of_ble_eq_true rfl⟩) ⟨bb_blind tt_bl _, tt_pre _⟩ rfl rfl hl.1 rfl (lv_room (Nat.le_of_ble_eq_true rfl)) dX0_isPlan_14 ⟨Nat.le_refl _, Nat.le_refl _⟩) ?_
  exact x_zret hx hb hrt hlk (no_in (2 ^ n) x) dX0_isPlan_17

set_option maxHeartbeats 4000000 in
theorem xq_judge (l : Launch) (D : va_G) (dA : Nat → ClassId) (E : Nat) (ad : Nat → Nat) (sz0 mi : Nat) (x0 hi tb : Nat) (snv : Value) (sa la lp lx ld lr lq : Nat) (row : Nat → Int32) {n cu : Nat} (hn : n ≤ 7) (hcu : cu ≤ 8) (bs sp md : Int32) (d2 q2 p2 : Nat) (f2 : Nat → Option Nat) (FZ : va_W) (hq : q2 ≤ p2 ∧ p2 ≤ 64) (hco : CutsOk dA FZ row cu q2 f2) (x : Int32) : RO l yX0_judge cX0_judge 2 (some .int) 6 240 [.ref x0, .int x] (G1 D dA E ad sz0 mi) (fun H => va_P D vwCl [(x0, .inr (0, [.ref sa, snv, .ref hi, .ref tb])), (sa, .inr (1, [.ref la, .ref lq, .int bs, .int sp])), (la, .inr (2, [.ref lp, .ref lx, .ref ld, .ref lr, .int (nI n), .int (nI cu), .int (row 2)])), (lp, .inl (dA 0, 7, .inl (fun k => row (6 + k)))), (lx, .inl (dA 0, 7, .inl (fun k => row (77 + k)))), (ld, .inl (dA 0, 8, .inl (fun k => row (13 + k)))), (lr, .inl (dA 0, 56, .inl (fun k => row (21 + k)))), (lq, .inr (4, [.int md, .ref d2, .int (nI q2)])), (d2, .inl (dA 1, p2, .inr (.inr (.inr (.inr f2)))))] H ∧ va_P D vwCl FZ H) (some (.int (rJudge row n cu x))) := by
  refine ro_of (by decide) (Nat.le_of_ble_eq_true rfl) ?_
  intro p e s m below meth c S hrt hlk G hP ls hl
  obtain ⟨hx, hb, hml, hown, hts⟩ := id S
  obtain ⟨hP, hF⟩ := hP
  have hP : va_P D vwCl [(x0, .inr (0, [.ref sa, snv, .ref hi, .ref tb])), (sa, .inr (1, [.ref la, .ref lq, .int bs, .int sp])), (la, .inr (2, [.ref lp, .ref lx, .ref ld, .ref lr, .int (nI n), .int (nI cu), .int (row 2)])), (lp, .inl (dA 0, 7, .inl (fun k => row (6 + k)))), (lx, .inl (dA 0, 7, .inl (fun k => row (77 + k)))), (ld, .inl (dA 0, 8, .inl (fun k => row (13 + k)))), (lr, .inl (dA 0, 56, .inl (fun k => row (21 + k)))), (lq, .inr (4, [.int md, .ref d2, .int (nI q2)])), (d2, .inl (dA 1, p2, .inr (.inr (.inr (.inr f2)))))] s.heap := hP
  have K := G.1.1
  have h2n := pow7 hn
  have hl : lv_has ls 2 [(0, .ref x0), (1, .int x)] := hl
  refine lv_aload_n hx hb dX0_judge_0 rfl (lv_at hl 0 rfl) ?_
  refine lv_iload_n hx hb dX0_judge_1 rfl (lv_at hl 1 rfl) ?_
  refine x_ret (va_runV (As := [.int x]) (rest := []) S (xq_isPlan l D dA E ad sz0 mi x0 hi tb snv sa la lp lx ld lr lq row hn hcu bs sp md d2 q2 p2 f2 FZ hq hco x) (cwV 1 hts (lw_V q931 q933 qs17 q59 q934) rfl rfl rfl hdX0_isPlan ⟨Nat.le_of_ble_eq_true rfl, Nat.le_of_ble_eq_true rfl⟩) ⟨bb_blind g1_bl _, va_recv K hP (ci := 0) (q0 := 0) rfl rfl, bb_pre (g1_mv G (fun _ _ => rfl) (Nat.le_refl _)) ⟨hP, hF⟩ _⟩ rfl rfl hl.1 rfl (lv_room (Nat.le_of_ble_eq_true rfl)) dX0_judge_2 ⟨Nat.le_refl _, Nat.le_refl _⟩) ?_
  refine x_ifb_eq (tgt := 25) hx hb dX0_judge_5 (by decide) (fun h_1 => ?_) (fun h_1 => ?_)
  · have h_1n := no_f h_1
    refine lv_bipush (v := -2) hx hb dX0_judge_25 (by decide) ?_
    exact x_iret hx hb hrt hlk (by simp [rJudge, h_1n]) dX0_judge_27
  · have h_1n := no_t h_1
    obtain ⟨pl, hpl, rfl⟩ := mNo_f (by omega) h_1n
    have cpl : (nI pl).toNatClampNeg = pl := nI_clamp (by omega)
    refine lv_aload_n hx hb dX0_judge_8 rfl (lv_at hl 0 rfl) ?_
    refine va_get (D := D) (ci := 0) (C := RX0) (T := TX0) (N := 4) hx hb hts in_X0 hown K hP 0 rfl rfl 0 (by decide) (hts _ q222) (fun _ h9 => h9) rfl dX0_judge_9 ?_
    refine va_getN (D := D) (ci := 1) (C := RX1) (T := TX1) (N := 4) hx hb hts in_X1 hown K hP 1 rfl rfl 0 (by decide) (va_Nw.use rfl (G.1.2.1 _ q172 rfl)) (fun _ h9 => h9) rfl dX0_judge_12 ?_
    refine lv_iload_n hx hb dX0_judge_15 rfl (lv_at hl 1 rfl) ?_
    refine x_ret (va_runV (As := [.int (nI pl)]) (rest := []) S (xr_against l D dA E ad sz0 la lp lx ld lr row hn hcu pl (by omega)) (cwV 1 hts (lw_V q936 q937 q938 q61 q939) rfl rfl rfl hdX2_against ⟨Nat.le_of_ble_eq_true rfl, Nat.le_of_ble_eq_true rfl⟩) ⟨bb_blind g0_bl _, va_recv K hP (ci := 2) (q0 := 2) rfl rfl, bb_pre (g0_mv G.1 (fun _ _ => rfl) (Nat.le_refl _)) (hP.sub [2, 3, 4, 5, 6] rfl) _⟩ rfl rfl hl.1 rfl (lv_room (Nat.le_of_ble_eq_true rfl)) dX0_judge_16 ⟨Nat.le_refl _, Nat.le_refl _⟩) ?_
    rcases ag4 (agI_lt row n cu pl) with e | e | e | e
    · rw [e]
      refine x_ret (va_runU (As := []) (rest := []) S (xr_ordinal l D dA E ad sz0 0 (by decide)) (va_cwU 0 hts (lw_U (x := ⟨"SiteCuts$Against", "ordinal", "()I"⟩) (owner := "java/lang/Enum") q944 q945 q947 q951 q77 q952) rfl rfl rfl rfl (by decide +kernel) ⟨Nat.le_of_ble_eq_true rfl, Nat.le_of_ble_eq_true rfl⟩) ⟨bb_blind g0_bl _, g0_recv G.1 0 (by decide), bb_pre (g0_mv G.1 (fun _ _ => rfl) (Nat.le_refl _)) trivial _⟩ rfl rfl hl.1 rfl (lv_room (Nat.le_of_ble_eq_true rfl)) dX0_judge_19 ⟨Nat.le_refl _, Nat.le_refl _⟩) ?_
      refine lv_goto (tgt := 27) hx hb dX0_judge_22 (by decide) ?_
      exact x_iret hx hb hrt hlk ((congrArg nI e).symm.trans (judge_eq h_1n cpl)) dX0_judge_27
    · rw [e]
      refine x_ret (va_runU (As := []) (rest := []) S (xr_ordinal l D dA E ad sz0 1 (by decide)) (va_cwU 0 hts (lw_U (x := ⟨"SiteCuts$Against", "ordinal", "()I"⟩) (owner := "java/lang/Enum") q944 q945 q948 q951 q77 q952) rfl rfl rfl rfl (by decide +kernel) ⟨Nat.le_of_ble_eq_true rfl, Nat.le_of_ble_eq_true rfl⟩) ⟨bb_blind g0_bl _, g0_recv G.1 1 (by decide), bb_pre (g0_mv G.1 (fun _ _ => rfl) (Nat.le_refl _)) trivial _⟩ rfl rfl hl.1 rfl (lv_room (Nat.le_of_ble_eq_true rfl)) dX0_judge_19 ⟨Nat.le_refl _, Nat.le_refl _⟩) ?_
      refine lv_goto (tgt := 27) hx hb dX0_judge_22 (by decide) ?_
      exact x_iret hx hb hrt hlk ((congrArg nI e).symm.trans (judge_eq h_1n cpl)) dX0_judge_27
    · rw [e]
      refine x_ret (va_runU (As := []) (rest := []) S (xr_ordinal l D dA E ad sz0 2 (by decide)) (va_cwU 0 hts (lw_U (x := ⟨"SiteCuts$Against", "ordinal", "()I"⟩) (owner := "java/lang/Enum") q944 q945 q949 q951 q77 q952) rfl rfl rfl rfl (by decide +kernel) ⟨Nat.le_of_ble_eq_true rfl, Nat.le_of_ble_eq_true rfl⟩) ⟨bb_blind g0_bl _, g0_recv G.1 2 (by decide), bb_pre (g0_mv G.1 (fun _ _ => rfl) (Nat.le_refl _)) trivial _⟩ rfl rfl hl.1 rfl (lv_room (Nat.le_of_ble_eq_true rfl)) dX0_judge_19 ⟨Nat.le_refl _, Nat.le_refl _⟩) ?_
      refine lv_goto (tgt := 27) hx hb dX0_judge_22 (by decide) ?_
      exact x_iret hx hb hrt hlk ((congrArg nI e).symm.trans (judge_eq h_1n cpl)) dX0_judge_27
    · rw [e]
      refine x_ret (va_runU (As := []) (rest := []) S (xr_ordinal l D dA E ad sz0 3 (by decide)) (va_cwU 0 hts (lw_U (x := ⟨"SiteCuts$Against", "ordinal", "()I"⟩) (owner := "java/lang/Enum") q944 q945 q950 q951 q77 q952) rfl rfl rfl rfl (by decide +kernel) ⟨Nat.le_of_ble_eq_true rfl, Nat.le_of_ble_eq_true rfl⟩) ⟨bb_blind g0_bl _, g0_recv G.1 3 (by decide), bb_pre (g0_mv G.1 (fun _ _ => rfl) (Nat.le_refl _)) trivial _⟩ rfl rfl hl.1 rfl (lv_room (Nat.le_of_ble_eq_true rfl)) dX0_judge_19 ⟨Nat.le_refl _, Nat.le_refl _⟩) ?_
      refine lv_goto (tgt := 27) hx hb dX0_judge_22 (by decide) ?_
      exact x_iret hx hb hrt hlk ((congrArg nI e).symm.trans (judge_eq h_1n cpl)) dX0_judge_27

set_option maxHeartbeats 4000000 in
theorem xq_plan (l : Launch) (D : va_G) (dA : Nat → ClassId) (E : Nat) (ad : Nat → Nat) (sz0 mi : Nat) (x0 hi tb : Nat) (snv : Value) (sa la lp lx ld lr lq : Nat) (row : Nat → Int32) {n cu : Nat} (hn : n ≤ 7) (hcu : cu ≤ 8) (bs sp md : Int32) (d2 q2 p2 : Nat) (f2 : Nat → Option Nat) (FZ : va_W) (hq : q2 ≤ p2 ∧ p2 ≤ 64) (hco : CutsOk dA FZ row cu q2 f2) (x y : Int32) : RO l yX0_plan cX0_plan 4 (some .int) 8 320 [.ref x0, .int x, .int y] (G1 D dA E ad sz0 mi) (fun H => va_P D vwCl [(x0, .inr (0, [.ref sa, snv, .ref hi, .ref tb])), (sa, .inr (1, [.ref la, .ref lq, .int bs, .int sp])), (la, .inr (2, [.ref lp, .ref lx, .ref ld, .ref lr, .int (nI n), .int (nI cu), .int (row 2)])), (lp, .inl (dA 0, 7, .inl (fun k => row (6 + k)))), (lx, .inl (dA 0, 7, .inl (fun k => row (77 + k)))), (ld, .inl (dA 0, 8, .inl (fun k => row (13 + k)))), (lr, .inl (dA 0, 56, .inl (fun k => row (21 + k)))), (lq, .inr (4, [.int md, .ref d2, .int (nI q2)])), (d2, .inl (dA 1, p2, .inr (.inr (.inr (.inr f2)))))] H ∧ va_P D vwCl FZ H) (some (.int (rPlan row n cu q2 x y))) := by
  refine ro_of (by decide) (Nat.le_of_ble_eq_true rfl) ?_
  intro p e s m below meth c S hrt hlk G hP ls hl
  obtain ⟨hx, hb, hml, hown, hts⟩ := id S
  obtain ⟨hP, hF⟩ := hP
  have hP : va_P D vwCl [(x0, .inr (0, [.ref sa, snv, .ref hi, .ref tb])), (sa, .inr (1, [.ref la, .ref lq, .int bs, .int sp])), (la, .inr (2, [.ref lp, .ref lx, .ref ld, .ref lr, .int (nI n), .int (nI cu), .int (row 2)])), (lp, .inl (dA 0, 7, .inl (fun k => row (6 + k)))), (lx, .inl (dA 0, 7, .inl (fun k => row (77 + k)))), (ld, .inl (dA 0, 8, .inl (fun k => row (13 + k)))), (lr, .inl (dA 0, 56, .inl (fun k => row (21 + k)))), (lq, .inr (4, [.int md, .ref d2, .int (nI q2)])), (d2, .inl (dA 1, p2, .inr (.inr (.inr (.inr f2)))))] s.heap := hP
  have K := G.1.1
  have h2n := pow7 hn
  have hl : lv_has ls 4 [(0, .ref x0), (1, .int x), (2, .int y)] := hl
  refine lv_aload_n hx hb dX0_plan_0 rfl (lv_at hl 0 rfl) ?_
  refine lv_iload_n hx hb dX0_plan_1 rfl (lv_at hl 1 rfl) ?_
  refine x_ret (va_runV (As := [.int x]) (rest := []) S (xq_isPlan l D dA E ad sz0 mi x0 hi tb snv sa la lp lx ld lr lq row hn hcu bs sp md d2 q2 p2 f2 FZ hq hco x) (cwV 1 hts (lw_V q931 q933 qs17 q59 q934) rfl rfl rfl hdX0_isPlan ⟨Nat.le_of_ble_eq_true rfl, Nat.le_of_ble_eq_true rfl⟩) ⟨bb_blind g1_bl _, va_recv K hP (ci := 0) (q0 := 0) rfl rfl, bb_pre (g1_mv G (fun _ _ => rfl) (Nat.le_refl _)) ⟨hP, hF⟩ _⟩ rfl rfl hl.1 rfl (lv_room (Nat.le_of_ble_eq_true rfl)) dX0_plan_2 ⟨Nat.le_refl _, Nat.le_refl _⟩) ?_
  refine x_ifb_eq (tgt := 17) hx hb dX0_plan_5 (by decide) (fun h_1 => ?_) (fun h_1 => ?_)
  · have h_1n := no_f h_1
    refine lv_bipush (v := -2) hx hb dX0_plan_17 (by decide) ?_
    exact x_iret hx hb hrt hlk (by simp (decide := true) [rPlan, mCost, h_1n]) dX0_plan_19
  · have h_1n := no_t h_1
    obtain ⟨pl, hpl, rfl⟩ := mNo_f (by omega) h_1n
    have cpl : (nI pl).toNatClampNeg = pl := nI_clamp (by omega)
    refine lv_iload_n hx hb dX0_plan_8 rfl (lv_at hl 2 rfl) ?_
    refine lv_iconst (v := nI 0) hx hb dX0_plan_9 (by decide) ?_
    refine lv_iconst (v := nI 4) hx hb dX0_plan_10 (by decide) ?_
    refine x_ret (va_runS (As := [.int y, .int (nI 0), .int (nI 4)]) (rest := []) S (xr_inRange l y (nI 0) (nI 4)) (va_cwS 3 hts (lw_S q239 q240 q59 q241) rfl rfl rfl hdX0_inRange ⟨Nat.le_of_ble_eq_true rfl, Nat.le_of_ble_eq_true rfl⟩) ⟨bb_blind tt_bl _, tt_pre _⟩ rfl rfl hl.1 rfl (lv_room (Nat.le_of_ble_eq_true rfl)) dX0_plan_11 ⟨Nat.le_refl _, Nat.le_refl _⟩) ?_
    refine x_ifb_ne (tgt := 20) hx hb dX0_plan_14 (by decide) (fun h_2 => ?_) (fun h_2 => ?_)
    · rcases in5 h_2 with rfl | rfl | rfl | rfl | rfl
      · refine lv_aload_n hx hb dX0_plan_20 rfl (lv_at hl 0 rfl) ?_
        refine va_get (D := D) (ci := 0) (C := RX0) (T := TX0) (N := 4) hx hb hts in_X0 hown K hP 0 rfl rfl 0 (by decide) (hts _ q222) (fun _ h9 => h9) rfl dX0_plan_21 ?_
        refine va_getN (D := D) (ci := 1) (C := RX1) (T := TX1) (N := 4) hx hb hts in_X1 hown K hP 1 rfl rfl 0 (by decide) (va_Nw.use rfl (G.1.2.1 _ q172 rfl)) (fun _ h9 => h9) rfl dX0_plan_24 ?_
        refine lv_iload_n hx hb dX0_plan_27 rfl (lv_at hl 1 rfl) ?_
        refine x_ret (va_runV (As := [.int (nI pl)]) (rest := []) S (xr_lost l D dA E ad sz0 la lp lx ld lr row hn hcu pl (by omega)) (cwV 1 hts (lw_V q957 q476 q477 q61 q478) rfl rfl rfl hdX2_lost ⟨Nat.le_of_ble_eq_true rfl, Nat.le_of_ble_eq_true rfl⟩) ⟨bb_blind g0_bl _, va_recv K hP (ci := 2) (q0 := 2) rfl rfl, bb_pre (g0_mv G.1 (fun _ _ => rfl) (Nat.le_refl _)) (hP.sub [2, 3, 4, 5, 6] rfl) _⟩ rfl rfl hl.1 rfl (lv_room (Nat.le_of_ble_eq_true rfl)) dX0_plan_28 ⟨Nat.le_refl _, Nat.le_refl _⟩) ?_
        refine lv_bipush (v := -5) hx hb dX0_plan_31 (by decide) ?_
        refine x_icmpo_eq (tgt := 40) hx hb dX0_plan_33 (by decide) (fun b hb => by have := mMissed_lt hb; omega) (fun h_3 => ?_) (fun v_4 h_3 => ?_)
        · have hms := h_3
          refine lv_iconst (v := nI 0) hx hb dX0_plan_40 (by decide) ?_
          refine lv_istore_n (lv' := [(3, .int (nI 0)), (0, .ref x0), (1, .int (nI pl)), (2, .int (nI 0))]) hx hb dX0_plan_41 rfl hl (by decide) rfl (fun ls hl => ?_)
          refine lv_iload_n hx hb dX0_plan_42 rfl (lv_at hl 3 rfl) ?_
          refine lv_tableIn (tgt := 72) hx hb dX0_plan_43 (by decide) (by decide) rfl (by decide) ?_
          refine lv_iload_n hx hb dX0_plan_72 rfl (lv_at hl 0 rfl) ?_
          refine lv_if_eq (tgt := 81) hx hb dX0_plan_73 (by decide) (fun _ => ?_) (fun h => absurd (by decide) h)
          refine lv_aload_n hx hb dX0_plan_81 rfl (lv_at hl 1 rfl) ?_
          refine va_get (D := D) (ci := 0) (C := RX0) (T := TX0) (N := 4) hx hb hts in_X0 hown K hP 0 rfl rfl 0 (by decide) (hts _ q222) (fun _ h9 => h9) rfl dX0_plan_82 ?_
          refine va_getN (D := D) (ci := 1) (C := RX1) (T := TX1) (N := 4) hx hb hts in_X1 hown K hP 1 rfl rfl 0 (by decide) (va_Nw.use rfl (G.1.2.1 _ q172 rfl)) (fun _ h9 => h9) rfl dX0_plan_85 ?_
          refine lv_iload_n hx hb dX0_plan_88 rfl (lv_at hl 2 rfl) ?_
          refine x_ret (va_runV (As := [.int (nI pl)]) (rest := []) S (xr_cost l D dA E ad sz0 la lp lx ld lr row hn hcu pl (by omega) (miss_none hms)) (cwV 1 hts (lw_V q958 q603 q604 q61 q605) rfl rfl rfl hdX2_cost ⟨Nat.le_of_ble_eq_true rfl, Nat.le_of_ble_eq_true rfl⟩) ⟨bb_blind g0_bl _, va_recv K hP (ci := 2) (q0 := 2) rfl rfl, bb_pre (g0_mv G.1 (fun _ _ => rfl) (Nat.le_refl _)) (hP.sub [2, 3, 4, 5, 6] rfl) _⟩ rfl rfl hl.1 rfl (lv_room (Nat.le_of_ble_eq_true rfl)) dX0_plan_89 ⟨Nat.le_refl _, Nat.le_refl _⟩) ?_
          exact x_iret hx hb hrt hlk (by simp (decide := true) [rPlan, mCost, h_1n, cpl, h_2, h_3]) dX0_plan_92
        · refine lv_iconst (v := nI 1) hx hb dX0_plan_36 (by decide) ?_
          refine lv_goto (tgt := 41) hx hb dX0_plan_37 (by decide) ?_
          refine lv_istore_n (lv' := [(3, .int (nI 1)), (0, .ref x0), (1, .int (nI pl)), (2, .int (nI 0))]) hx hb dX0_plan_41 rfl hl (by decide) rfl (fun ls hl => ?_)
          refine lv_iload_n hx hb dX0_plan_42 rfl (lv_at hl 3 rfl) ?_
          refine lv_tableIn (tgt := 72) hx hb dX0_plan_43 (by decide) (by decide) rfl (by decide) ?_
          refine lv_iload_n hx hb dX0_plan_72 rfl (lv_at hl 0 rfl) ?_
          refine lv_if_eq (tgt := 81) hx hb dX0_plan_73 (by decide) (fun h => absurd h (by decide)) (fun _ => ?_)
          refine lv_bipush (v := -4) hx hb dX0_plan_76 (by decide) ?_
          refine lv_goto (tgt := 92) hx hb dX0_plan_78 (by decide) ?_
          exact x_iret hx hb hrt hlk (by simp (decide := true) [rPlan, mCost, h_1n, cpl, h_2, h_3]) dX0_plan_92
      · refine lv_aload_n hx hb dX0_plan_20 rfl (lv_at hl 0 rfl) ?_
        refine va_get (D := D) (ci := 0) (C := RX0) (T := TX0) (N := 4) hx hb hts in_X0 hown K hP 0 rfl rfl 0 (by decide) (hts _ q222) (fun _ h9 => h9) rfl dX0_plan_21 ?_
        refine va_getN (D := D) (ci := 1) (C := RX1) (T := TX1) (N := 4) hx hb hts in_X1 hown K hP 1 rfl rfl 0 (by decide) (va_Nw.use rfl (G.1.2.1 _ q172 rfl)) (fun _ h9 => h9) rfl dX0_plan_24 ?_
        refine lv_iload_n hx hb dX0_plan_27 rfl (lv_at hl 1 rfl) ?_
        refine x_ret (va_runV (As := [.int (nI pl)]) (rest := []) S (xr_lost l D dA E ad sz0 la lp lx ld lr row hn hcu pl (by omega)) (cwV 1 hts (lw_V q957 q476 q477 q61 q478) rfl rfl rfl hdX2_lost ⟨Nat.le_of_ble_eq_true rfl, Nat.le_of_ble_eq_true rfl⟩) ⟨bb_blind g0_bl _, va_recv K hP (ci := 2) (q0 := 2) rfl rfl, bb_pre (g0_mv G.1 (fun _ _ => rfl) (Nat.le_refl _)) (hP.sub [2, 3, 4, 5, 6] rfl) _⟩ rfl rfl hl.1 rfl (lv_room (Nat.le_of_ble_eq_true rfl)) dX0_plan_28 ⟨Nat.le_refl _, Nat.le_refl _⟩) ?_
        refine lv_bipush (v := -5) hx hb dX0_plan_31 (by decide) ?_
        refine x_icmpo_eq (tgt := 40) hx hb dX0_plan_33 (by decide) (fun b hb => by have := mMissed_lt hb; omega) (fun h_7 => ?_) (fun v_8 h_7 => ?_)
        · have hms := h_7
          refine lv_iconst (v := nI 0) hx hb dX0_plan_40 (by decide) ?_
          refine lv_istore_n (lv' := [(3, .int (nI 0)), (0, .ref x0), (1, .int (nI pl)), (2, .int (nI 1))]) hx hb dX0_plan_41 rfl hl (by decide) rfl (fun ls hl => ?_)
          refine lv_iload_n hx hb dX0_plan_42 rfl (lv_at hl 3 rfl) ?_
          refine lv_tableIn (tgt := 93) hx hb dX0_plan_43 (by decide) (by decide) rfl (by decide) ?_
          refine lv_aload_n hx hb dX0_plan_93 rfl (lv_at hl 1 rfl) ?_
          refine va_get (D := D) (ci := 0) (C := RX0) (T := TX0) (N := 4) hx hb hts in_X0 hown K hP 0 rfl rfl 0 (by decide) (hts _ q222) (fun _ h9 => h9) rfl dX0_plan_94 ?_
          refine va_getN (D := D) (ci := 1) (C := RX1) (T := TX1) (N := 4) hx hb hts in_X1 hown K hP 1 rfl rfl 0 (by decide) (va_Nw.use rfl (G.1.2.1 _ q172 rfl)) (fun _ h9 => h9) rfl dX0_plan_97 ?_
          refine lv_iload_n hx hb dX0_plan_100 rfl (lv_at hl 2 rfl) ?_
          refine x_ret (va_runV (As := [.int (nI pl)]) (rest := []) S (xr_pricesOf l D dA E ad sz0 la lp lx ld lr row hn hcu pl (by omega)) (cwV 1 hts (lw_V q959 q576 q577 q61 q578) rfl rfl rfl hdX2_pricesOf ⟨Nat.le_of_ble_eq_true rfl, Nat.le_of_ble_eq_true rfl⟩) ⟨bb_blind g0_bl _, va_recv K hP (ci := 2) (q0 := 2) rfl rfl, bb_pre (g0_mv G.1 (fun _ _ => rfl) (Nat.le_refl _)) (hP.sub [2, 3, 4, 5, 6] rfl) _⟩ rfl rfl hl.1 rfl (lv_room (Nat.le_of_ble_eq_true rfl)) dX0_plan_101 ⟨Nat.le_refl _, Nat.le_refl _⟩) ?_
          exact x_iret hx hb hrt hlk (by simp (decide := true) [rPlan, mCost, h_1n, cpl, h_2, h_7]) dX0_plan_104
        · refine lv_iconst (v := nI 1) hx hb dX0_plan_36 (by decide) ?_
          refine lv_goto (tgt := 41) hx hb dX0_plan_37 (by decide) ?_
          refine lv_istore_n (lv' := [(3, .int (nI 1)), (0, .ref x0), (1, .int (nI pl)), (2, .int (nI 1))]) hx hb dX0_plan_41 rfl hl (by decide) rfl (fun ls hl => ?_)
          refine lv_iload_n hx hb dX0_plan_42 rfl (lv_at hl 3 rfl) ?_
          refine lv_tableIn (tgt := 93) hx hb dX0_plan_43 (by decide) (by decide) rfl (by decide) ?_
          refine lv_aload_n hx hb dX0_plan_93 rfl (lv_at hl 1 rfl) ?_
          refine va_get (D := D) (ci := 0) (C := RX0) (T := TX0) (N := 4) hx hb hts in_X0 hown K hP 0 rfl rfl 0 (by decide) (hts _ q222) (fun _ h9 => h9) rfl dX0_plan_94 ?_
          refine va_getN (D := D) (ci := 1) (C := RX1) (T := TX1) (N := 4) hx hb hts in_X1 hown K hP 1 rfl rfl 0 (by decide) (va_Nw.use rfl (G.1.2.1 _ q172 rfl)) (fun _ h9 => h9) rfl dX0_plan_97 ?_
          refine lv_iload_n hx hb dX0_plan_100 rfl (lv_at hl 2 rfl) ?_
          refine x_ret (va_runV (As := [.int (nI pl)]) (rest := []) S (xr_pricesOf l D dA E ad sz0 la lp lx ld lr row hn hcu pl (by omega)) (cwV 1 hts (lw_V q959 q576 q577 q61 q578) rfl rfl rfl hdX2_pricesOf ⟨Nat.le_of_ble_eq_true rfl, Nat.le_of_ble_eq_true rfl⟩) ⟨bb_blind g0_bl _, va_recv K hP (ci := 2) (q0 := 2) rfl rfl, bb_pre (g0_mv G.1 (fun _ _ => rfl) (Nat.le_refl _)) (hP.sub [2, 3, 4, 5, 6] rfl) _⟩ rfl rfl hl.1 rfl (lv_room (Nat.le_of_ble_eq_true rfl)) dX0_plan_101 ⟨Nat.le_refl _, Nat.le_refl _⟩) ?_
          exact x_iret hx hb hrt hlk (by simp (decide := true) [rPlan, mCost, h_1n, cpl, h_2, h_7]) dX0_plan_104
      · refine lv_aload_n hx hb dX0_plan_20 rfl (lv_at hl 0 rfl) ?_
        refine va_get (D := D) (ci := 0) (C := RX0) (T := TX0) (N := 4) hx hb hts in_X0 hown K hP 0 rfl rfl 0 (by decide) (hts _ q222) (fun _ h9 => h9) rfl dX0_plan_21 ?_
        refine va_getN (D := D) (ci := 1) (C := RX1) (T := TX1) (N := 4) hx hb hts in_X1 hown K hP 1 rfl rfl 0 (by decide) (va_Nw.use rfl (G.1.2.1 _ q172 rfl)) (fun _ h9 => h9) rfl dX0_plan_24 ?_
        refine lv_iload_n hx hb dX0_plan_27 rfl (lv_at hl 1 rfl) ?_
        refine x_ret (va_runV (As := [.int (nI pl)]) (rest := []) S (xr_lost l D dA E ad sz0 la lp lx ld lr row hn hcu pl (by omega)) (cwV 1 hts (lw_V q957 q476 q477 q61 q478) rfl rfl rfl hdX2_lost ⟨Nat.le_of_ble_eq_true rfl, Nat.le_of_ble_eq_true rfl⟩) ⟨bb_blind g0_bl _, va_recv K hP (ci := 2) (q0 := 2) rfl rfl, bb_pre (g0_mv G.1 (fun _ _ => rfl) (Nat.le_refl _)) (hP.sub [2, 3, 4, 5, 6] rfl) _⟩ rfl rfl hl.1 rfl (lv_room (Nat.le_of_ble_eq_true rfl)) dX0_plan_28 ⟨Nat.le_refl _, Nat.le_refl _⟩) ?_
        refine lv_bipush (v := -5) hx hb dX0_plan_31 (by decide) ?_
        refine x_icmpo_eq (tgt := 40) hx hb dX0_plan_33 (by decide) (fun b hb => by have := mMissed_lt hb; omega) (fun h_9 => ?_) (fun v_10 h_9 => ?_)
        · have hms := h_9
          refine lv_iconst (v := nI 0) hx hb dX0_plan_40 (by decide) ?_
          refine lv_istore_n (lv' := [(3, .int (nI 0)), (0, .ref x0), (1, .int (nI pl)), (2, .int (nI 2))]) hx hb dX0_plan_41 rfl hl (by decide) rfl (fun ls hl => ?_)
          refine lv_iload_n hx hb dX0_plan_42 rfl (lv_at hl 3 rfl) ?_
          refine lv_tableIn (tgt := 105) hx hb dX0_plan_43 (by decide) (by decide) rfl (by decide) ?_
          refine lv_iload_n hx hb dX0_plan_105 rfl (lv_at hl 0 rfl) ?_
          refine lv_if_eq (tgt := 114) hx hb dX0_plan_106 (by decide) (fun _ => ?_) (fun h => absurd (by decide) h)
          refine lv_aload_n hx hb dX0_plan_114 rfl (lv_at hl 1 rfl) ?_
          refine va_get (D := D) (ci := 0) (C := RX0) (T := TX0) (N := 4) hx hb hts in_X0 hown K hP 0 rfl rfl 0 (by decide) (hts _ q222) (fun _ h9 => h9) rfl dX0_plan_115 ?_
          refine va_getN (D := D) (ci := 1) (C := RX1) (T := TX1) (N := 4) hx hb hts in_X1 hown K hP 1 rfl rfl 0 (by decide) (va_Nw.use rfl (G.1.2.1 _ q172 rfl)) (fun _ h9 => h9) rfl dX0_plan_118 ?_
          refine lv_iload_n hx hb dX0_plan_121 rfl (lv_at hl 2 rfl) ?_
          refine x_ret (va_runV (As := [.int (nI pl)]) (rest := []) S (xr_routesOf l D dA E ad sz0 la lp lx ld lr row hn hcu pl (by omega) (miss_none hms)) (cwV 1 hts (lw_V q960 q561 q562 q61 q563) rfl rfl rfl hdX2_routesOf ⟨Nat.le_of_ble_eq_true rfl, Nat.le_of_ble_eq_true rfl⟩) ⟨bb_blind g0_bl _, va_recv K hP (ci := 2) (q0 := 2) rfl rfl, bb_pre (g0_mv G.1 (fun _ _ => rfl) (Nat.le_refl _)) (hP.sub [2, 3, 4, 5, 6] rfl) _⟩ rfl rfl hl.1 rfl (lv_room (Nat.le_of_ble_eq_true rfl)) dX0_plan_122 ⟨Nat.le_refl _, Nat.le_refl _⟩) ?_
          exact x_iret hx hb hrt hlk (by simp (decide := true) [rPlan, mCost, h_1n, cpl, h_2, h_9]) dX0_plan_125
        · refine lv_iconst (v := nI 1) hx hb dX0_plan_36 (by decide) ?_
          refine lv_goto (tgt := 41) hx hb dX0_plan_37 (by decide) ?_
          refine lv_istore_n (lv' := [(3, .int (nI 1)), (0, .ref x0), (1, .int (nI pl)), (2, .int (nI 2))]) hx hb dX0_plan_41 rfl hl (by decide) rfl (fun ls hl => ?_)
          refine lv_iload_n hx hb dX0_plan_42 rfl (lv_at hl 3 rfl) ?_
          refine lv_tableIn (tgt := 105) hx hb dX0_plan_43 (by decide) (by decide) rfl (by decide) ?_
          refine lv_iload_n hx hb dX0_plan_105 rfl (lv_at hl 0 rfl) ?_
          refine lv_if_eq (tgt := 114) hx hb dX0_plan_106 (by decide) (fun h => absurd h (by decide)) (fun _ => ?_)
          refine lv_bipush (v := -4) hx hb dX0_plan_109 (by decide) ?_
          refine lv_goto (tgt := 125) hx hb dX0_plan_111 (by decide) ?_
          exact x_iret hx hb hrt hlk (by simp (decide := true) [rPlan, mCost, h_1n, cpl, h_2, h_9]) dX0_plan_125
      · refine lv_aload_n hx hb dX0_plan_20 rfl (lv_at hl 0 rfl) ?_
        refine va_get (D := D) (ci := 0) (C := RX0) (T := TX0) (N := 4) hx hb hts in_X0 hown K hP 0 rfl rfl 0 (by decide) (hts _ q222) (fun _ h9 => h9) rfl dX0_plan_21 ?_
        refine va_getN (D := D) (ci := 1) (C := RX1) (T := TX1) (N := 4) hx hb hts in_X1 hown K hP 1 rfl rfl 0 (by decide) (va_Nw.use rfl (G.1.2.1 _ q172 rfl)) (fun _ h9 => h9) rfl dX0_plan_24 ?_
        refine lv_iload_n hx hb dX0_plan_27 rfl (lv_at hl 1 rfl) ?_
        refine x_ret (va_runV (As := [.int (nI pl)]) (rest := []) S (xr_lost l D dA E ad sz0 la lp lx ld lr row hn hcu pl (by omega)) (cwV 1 hts (lw_V q957 q476 q477 q61 q478) rfl rfl rfl hdX2_lost ⟨Nat.le_of_ble_eq_true rfl, Nat.le_of_ble_eq_true rfl⟩) ⟨bb_blind g0_bl _, va_recv K hP (ci := 2) (q0 := 2) rfl rfl, bb_pre (g0_mv G.1 (fun _ _ => rfl) (Nat.le_refl _)) (hP.sub [2, 3, 4, 5, 6] rfl) _⟩ rfl rfl hl.1 rfl (lv_room (Nat.le_of_ble_eq_true rfl)) dX0_plan_28 ⟨Nat.le_refl _, Nat.le_refl _⟩) ?_
        refine lv_bipush (v := -5) hx hb dX0_plan_31 (by decide) ?_
        refine x_icmpo_eq (tgt := 40) hx hb dX0_plan_33 (by decide) (fun b hb => by have := mMissed_lt hb; omega) (fun h_13 => ?_) (fun v_14 h_13 => ?_)
        · have hms := h_13
          refine lv_iconst (v := nI 0) hx hb dX0_plan_40 (by decide) ?_
          refine lv_istore_n (lv' := [(3, .int (nI 0)), (0, .ref x0), (1, .int (nI pl)), (2, .int (nI 3))]) hx hb dX0_plan_41 rfl hl (by decide) rfl (fun ls hl => ?_)
          refine lv_iload_n hx hb dX0_plan_42 rfl (lv_at hl 3 rfl) ?_
          refine lv_tableIn (tgt := 126) hx hb dX0_plan_43 (by decide) (by decide) rfl (by decide) ?_
          refine lv_aload_n hx hb dX0_plan_126 rfl (lv_at hl 1 rfl) ?_
          refine va_get (D := D) (ci := 0) (C := RX0) (T := TX0) (N := 4) hx hb hts in_X0 hown K hP 0 rfl rfl 0 (by decide) (hts _ q222) (fun _ h9 => h9) rfl dX0_plan_127 ?_
          refine lv_iload_n hx hb dX0_plan_130 rfl (lv_at hl 2 rfl) ?_
          refine x_ret (va_runV (As := [.int (nI pl)]) (rest := []) S (xs_guess l D dA E ad sz0 mi sa la lp lx ld lr lq row hn hcu bs sp md d2 q2 p2 f2 FZ hq hco pl (by omega)) (cwV 1 hts (lw_V q961 q572 q573 q60 q574) rfl rfl rfl hdX1_guess ⟨Nat.le_of_ble_eq_true rfl, Nat.le_of_ble_eq_true rfl⟩) ⟨bb_blind g1_bl _, va_recv K hP (ci := 1) (q0 := 1) rfl rfl, bb_pre (g1_mv G (fun _ _ => rfl) (Nat.le_refl _)) ⟨hP.sub [1, 2, 3, 4, 5, 6, 7, 8] rfl, hF⟩ _⟩ rfl rfl hl.1 rfl (lv_room (Nat.le_of_ble_eq_true rfl)) dX0_plan_131 ⟨Nat.le_refl _, Nat.le_refl _⟩) ?_
          exact x_iret hx hb hrt hlk (by simp (decide := true) [rPlan, mCost, h_1n, cpl, h_2, h_13]) dX0_plan_134
        · refine lv_iconst (v := nI 1) hx hb dX0_plan_36 (by decide) ?_
          refine lv_goto (tgt := 41) hx hb dX0_plan_37 (by decide) ?_
          refine lv_istore_n (lv' := [(3, .int (nI 1)), (0, .ref x0), (1, .int (nI pl)), (2, .int (nI 3))]) hx hb dX0_plan_41 rfl hl (by decide) rfl (fun ls hl => ?_)
          refine lv_iload_n hx hb dX0_plan_42 rfl (lv_at hl 3 rfl) ?_
          refine lv_tableIn (tgt := 126) hx hb dX0_plan_43 (by decide) (by decide) rfl (by decide) ?_
          refine lv_aload_n hx hb dX0_plan_126 rfl (lv_at hl 1 rfl) ?_
          refine va_get (D := D) (ci := 0) (C := RX0) (T := TX0) (N := 4) hx hb hts in_X0 hown K hP 0 rfl rfl 0 (by decide) (hts _ q222) (fun _ h9 => h9) rfl dX0_plan_127 ?_
          refine lv_iload_n hx hb dX0_plan_130 rfl (lv_at hl 2 rfl) ?_
          refine x_ret (va_runV (As := [.int (nI pl)]) (rest := []) S (xs_guess l D dA E ad sz0 mi sa la lp lx ld lr lq row hn hcu bs sp md d2 q2 p2 f2 FZ hq hco pl (by omega)) (cwV 1 hts (lw_V q961 q572 q573 q60 q574) rfl rfl rfl hdX1_guess ⟨Nat.le_of_ble_eq_true rfl, Nat.le_of_ble_eq_true rfl⟩) ⟨bb_blind g1_bl _, va_recv K hP (ci := 1) (q0 := 1) rfl rfl, bb_pre (g1_mv G (fun _ _ => rfl) (Nat.le_refl _)) ⟨hP.sub [1, 2, 3, 4, 5, 6, 7, 8] rfl, hF⟩ _⟩ rfl rfl hl.1 rfl (lv_room (Nat.le_of_ble_eq_true rfl)) dX0_plan_131 ⟨Nat.le_refl _, Nat.le_refl _⟩) ?_
          exact x_iret hx hb hrt hlk (by simp (decide := true) [rPlan, mCost, h_1n, cpl, h_2, h_13]) dX0_plan_134
      · refine lv_aload_n hx hb dX0_plan_20 rfl (lv_at hl 0 rfl) ?_
        refine va_get (D := D) (ci := 0) (C := RX0) (T := TX0) (N := 4) hx hb hts in_X0 hown K hP 0 rfl rfl 0 (by decide) (hts _ q222) (fun _ h9 => h9) rfl dX0_plan_21 ?_
        refine va_getN (D := D) (ci := 1) (C := RX1) (T := TX1) (N := 4) hx hb hts in_X1 hown K hP 1 rfl rfl 0 (by decide) (va_Nw.use rfl (G.1.2.1 _ q172 rfl)) (fun _ h9 => h9) rfl dX0_plan_24 ?_
        refine lv_iload_n hx hb dX0_plan_27 rfl (lv_at hl 1 rfl) ?_
        refine x_ret (va_runV (As := [.int (nI pl)]) (rest := []) S (xr_lost l D dA E ad sz0 la lp lx ld lr row hn hcu pl (by omega)) (cwV 1 hts (lw_V q957 q476 q477 q61 q478) rfl rfl rfl hdX2_lost ⟨Nat.le_of_ble_eq_true rfl, Nat.le_of_ble_eq_true rfl⟩) ⟨bb_blind g0_bl _, va_recv K hP (ci := 2) (q0 := 2) rfl rfl, bb_pre (g0_mv G.1 (fun _ _ => rfl) (Nat.le_refl _)) (hP.sub [2, 3, 4, 5, 6] rfl) _⟩ rfl rfl hl.1 rfl (lv_room (Nat.le_of_ble_eq_true rfl)) dX0_plan_28 ⟨Nat.le_refl _, Nat.le_refl _⟩) ?_
        refine lv_bipush (v := -5) hx hb dX0_plan_31 (by decide) ?_
        refine x_icmpo_eq (tgt := 40) hx hb dX0_plan_33 (by decide) (fun b hb => by have := mMissed_lt hb; omega) (fun h_15 => ?_) (fun v_16 h_15 => ?_)
        · have hms := h_15
          refine lv_iconst (v := nI 0) hx hb dX0_plan_40 (by decide) ?_
          refine lv_istore_n (lv' := [(3, .int (nI 0)), (0, .ref x0), (1, .int (nI pl)), (2, .int (nI 4))]) hx hb dX0_plan_41 rfl hl (by decide) rfl (fun ls hl => ?_)
          refine lv_iload_n hx hb dX0_plan_42 rfl (lv_at hl 3 rfl) ?_
          refine lv_tableOut (tgt := 135) hx hb dX0_plan_43 (by decide) (by decide) ?_
          refine lv_aload_n hx hb dX0_plan_135 rfl (lv_at hl 1 rfl) ?_
          refine va_get (D := D) (ci := 0) (C := RX0) (T := TX0) (N := 4) hx hb hts in_X0 hown K hP 0 rfl rfl 0 (by decide) (hts _ q222) (fun _ h9 => h9) rfl dX0_plan_136 ?_
          refine lv_iload_n hx hb dX0_plan_139 rfl (lv_at hl 2 rfl) ?_
          refine x_ret (va_runV (As := [.int (nI pl)]) (rest := []) S (xs_broken l D dA E ad sz0 mi sa la lp lx ld lr lq row hn hcu bs sp md d2 q2 p2 f2 FZ hq hco pl (by omega)) (cwV 1 hts (lw_V q962 q488 q489 q60 q490) rfl rfl rfl hdX1_broken ⟨Nat.le_of_ble_eq_true rfl, Nat.le_of_ble_eq_true rfl⟩) ⟨bb_blind g1_bl _, va_recv K hP (ci := 1) (q0 := 1) rfl rfl, bb_pre (g1_mv G (fun _ _ => rfl) (Nat.le_refl _)) ⟨hP.sub [1, 2, 3, 4, 5, 6, 7, 8] rfl, hF⟩ _⟩ rfl rfl hl.1 rfl (lv_room (Nat.le_of_ble_eq_true rfl)) dX0_plan_140 ⟨Nat.le_refl _, Nat.le_refl _⟩) ?_
          exact x_iret hx hb hrt hlk (by simp (decide := true) [rPlan, mCost, h_1n, cpl, h_2, h_15]) dX0_plan_143
        · refine lv_iconst (v := nI 1) hx hb dX0_plan_36 (by decide) ?_
          refine lv_goto (tgt := 41) hx hb dX0_plan_37 (by decide) ?_
          refine lv_istore_n (lv' := [(3, .int (nI 1)), (0, .ref x0), (1, .int (nI pl)), (2, .int (nI 4))]) hx hb dX0_plan_41 rfl hl (by decide) rfl (fun ls hl => ?_)
          refine lv_iload_n hx hb dX0_plan_42 rfl (lv_at hl 3 rfl) ?_
          refine lv_tableOut (tgt := 135) hx hb dX0_plan_43 (by decide) (by decide) ?_
          refine lv_aload_n hx hb dX0_plan_135 rfl (lv_at hl 1 rfl) ?_
          refine va_get (D := D) (ci := 0) (C := RX0) (T := TX0) (N := 4) hx hb hts in_X0 hown K hP 0 rfl rfl 0 (by decide) (hts _ q222) (fun _ h9 => h9) rfl dX0_plan_136 ?_
          refine lv_iload_n hx hb dX0_plan_139 rfl (lv_at hl 2 rfl) ?_
          refine x_ret (va_runV (As := [.int (nI pl)]) (rest := []) S (xs_broken l D dA E ad sz0 mi sa la lp lx ld lr lq row hn hcu bs sp md d2 q2 p2 f2 FZ hq hco pl (by omega)) (cwV 1 hts (lw_V q962 q488 q489 q60 q490) rfl rfl rfl hdX1_broken ⟨Nat.le_of_ble_eq_true rfl, Nat.le_of_ble_eq_true rfl⟩) ⟨bb_blind g1_bl _, va_recv K hP (ci := 1) (q0 := 1) rfl rfl, bb_pre (g1_mv G (fun _ _ => rfl) (Nat.le_refl _)) ⟨hP.sub [1, 2, 3, 4, 5, 6, 7, 8] rfl, hF⟩ _⟩ rfl rfl hl.1 rfl (lv_room (Nat.le_of_ble_eq_true rfl)) dX0_plan_140 ⟨Nat.le_refl _, Nat.le_refl _⟩) ?_
          exact x_iret hx hb hrt hlk (by simp (decide := true) [rPlan, mCost, h_1n, cpl, h_2, h_15]) dX0_plan_143
    · refine lv_bipush (v := -2) hx hb dX0_plan_17 (by decide) ?_
      exact x_iret hx hb hrt hlk (by simp (decide := true) [rPlan, mCost, h_1n, cpl, h_2]) dX0_plan_19

set_option maxHeartbeats 4000000 in
theorem xq_serves (l : Launch) (D : va_G) (dA : Nat → ClassId) (E : Nat) (ad : Nat → Nat) (sz0 mi : Nat) (x0 hi tb : Nat) (snv : Value) (sa la lp lx ld lr lq : Nat) (row : Nat → Int32) {n cu : Nat} (hn : n ≤ 7) (hcu : cu ≤ 8) (bs sp md : Int32) (d2 q2 p2 : Nat) (f2 : Nat → Option Nat) (FZ : va_W) (hq : q2 ≤ p2 ∧ p2 ≤ 64) (hco : CutsOk dA FZ row cu q2 f2) (x y : Int32) : RO l yX0_serves cX0_serves 3 (some .int) 2 80 [.ref x0, .int x, .int y] (G1 D dA E ad sz0 mi) (fun H => va_P D vwCl [(x0, .inr (0, [.ref sa, snv, .ref hi, .ref tb])), (sa, .inr (1, [.ref la, .ref lq, .int bs, .int sp])), (la, .inr (2, [.ref lp, .ref lx, .ref ld, .ref lr, .int (nI n), .int (nI cu), .int (row 2)])), (lp, .inl (dA 0, 7, .inl (fun k => row (6 + k)))), (lx, .inl (dA 0, 7, .inl (fun k => row (77 + k)))), (ld, .inl (dA 0, 8, .inl (fun k => row (13 + k)))), (lr, .inl (dA 0, 56, .inl (fun k => row (21 + k)))), (lq, .inr (4, [.int md, .ref d2, .int (nI q2)])), (d2, .inl (dA 1, p2, .inr (.inr (.inr (.inr f2)))))] H ∧ va_P D vwCl FZ H) (some (.int (rServes row n cu x y))) := by
  refine ro_of (by decide) (Nat.le_of_ble_eq_true rfl) ?_
  intro p e s m below meth c S hrt hlk G hP ls hl
  obtain ⟨hx, hb, hml, hown, hts⟩ := id S
  obtain ⟨hP, hF⟩ := hP
  have hP : va_P D vwCl [(x0, .inr (0, [.ref sa, snv, .ref hi, .ref tb])), (sa, .inr (1, [.ref la, .ref lq, .int bs, .int sp])), (la, .inr (2, [.ref lp, .ref lx, .ref ld, .ref lr, .int (nI n), .int (nI cu), .int (row 2)])), (lp, .inl (dA 0, 7, .inl (fun k => row (6 + k)))), (lx, .inl (dA 0, 7, .inl (fun k => row (77 + k)))), (ld, .inl (dA 0, 8, .inl (fun k => row (13 + k)))), (lr, .inl (dA 0, 56, .inl (fun k => row (21 + k)))), (lq, .inr (4, [.int md, .ref d2, .int (nI q2)])), (d2, .inl (dA 1, p2, .inr (.inr (.inr (.inr f2)))))] s.heap := hP
  have K := G.1.1
  have h2n := pow7 hn
  have hl : lv_has ls 3 [(0, .ref x0), (1, .int x), (2, .int y)] := hl
  refine lv_aload_n hx hb dX0_serves_0 rfl (lv_at hl 0 rfl) ?_
  refine lv_iload_n hx hb dX0_serves_1 rfl (lv_at hl 1 rfl) ?_
  refine x_ret (va_runV (As := [.int x]) (rest := []) S (xq_isPlan l D dA E ad sz0 mi x0 hi tb snv sa la lp lx ld lr lq row hn hcu bs sp md d2 q2 p2 f2 FZ hq hco x) (cwV 1 hts (lw_V q931 q933 qs17 q59 q934) rfl rfl rfl hdX0_isPlan ⟨Nat.le_of_ble_eq_true rfl, Nat.le_of_ble_eq_true rfl⟩) ⟨bb_blind g1_bl _, va_recv K hP (ci := 0) (q0 := 0) rfl rfl, bb_pre (g1_mv G (fun _ _ => rfl) (Nat.le_refl _)) ⟨hP, hF⟩ _⟩ rfl rfl hl.1 rfl (lv_room (Nat.le_of_ble_eq_true rfl)) dX0_serves_2 ⟨Nat.le_refl _, Nat.le_refl _⟩) ?_
  refine x_ifb_ne (tgt := 11) hx hb dX0_serves_5 (by decide) (fun h_1 => ?_) (fun h_1 => ?_)
  · have h_1n := no_t h_1
    obtain ⟨pl, hpl, rfl⟩ := mNo_f (by omega) h_1n
    have cpl : (nI pl).toNatClampNeg = pl := nI_clamp (by omega)
    refine lv_aload_n hx hb dX0_serves_11 rfl (lv_at hl 0 rfl) ?_
    refine lv_iload_n hx hb dX0_serves_12 rfl (lv_at hl 2 rfl) ?_
    refine x_ret (va_runV (As := [.int y]) (rest := []) S (xq_isCustomer l D dA E ad sz0 mi x0 hi tb snv sa la lp lx ld lr lq row hn hcu bs sp md d2 q2 p2 f2 FZ hq hco y) (cwV 1 hts (lw_V q408 q410 qs7 q59 q411) rfl rfl rfl hdX0_isCustomer ⟨Nat.le_of_ble_eq_true rfl, Nat.le_of_ble_eq_true rfl⟩) ⟨bb_blind g1_bl _, va_recv K hP (ci := 0) (q0 := 0) rfl rfl, bb_pre (g1_mv G (fun _ _ => rfl) (Nat.le_refl _)) ⟨hP, hF⟩ _⟩ rfl rfl hl.1 rfl (lv_room (Nat.le_of_ble_eq_true rfl)) dX0_serves_13 ⟨Nat.le_refl _, Nat.le_refl _⟩) ?_
    refine x_ifb_eq (tgt := 34) hx hb dX0_serves_16 (by decide) (fun h_2 => ?_) (fun h_2 => ?_)
    · have h_2n := no_f h_2
      refine lv_iconst (v := -1) hx hb dX0_serves_34 (by decide) ?_
      exact x_iret hx hb hrt hlk (by simp [rServes, h_1n, cpl, h_2n]) dX0_serves_35
    · have h_2n := no_t h_2
      obtain ⟨j, hj, rfl⟩ := mNo_f (by omega) h_2n
      have cj : (nI j).toNatClampNeg = j := nI_clamp (by omega)
      refine lv_aload_n hx hb dX0_serves_19 rfl (lv_at hl 0 rfl) ?_
      refine va_get (D := D) (ci := 0) (C := RX0) (T := TX0) (N := 4) hx hb hts in_X0 hown K hP 0 rfl rfl 0 (by decide) (hts _ q222) (fun _ h9 => h9) rfl dX0_serves_20 ?_
      refine va_getN (D := D) (ci := 1) (C := RX1) (T := TX1) (N := 4) hx hb hts in_X1 hown K hP 1 rfl rfl 0 (by decide) (va_Nw.use rfl (G.1.2.1 _ q172 rfl)) (fun _ h9 => h9) rfl dX0_serves_23 ?_
      refine lv_iload_n hx hb dX0_serves_26 rfl (lv_at hl 1 rfl) ?_
      refine lv_iload_n hx hb dX0_serves_27 rfl (lv_at hl 2 rfl) ?_
      refine x_ret (va_runV (As := [.int (nI pl), .int (nI j)]) (rest := []) S (xr_server l D dA E ad sz0 la lp lx ld lr row hn hcu pl j (by omega) (by omega)) (cwV 2 hts (lw_V q967 q480 q481 q61 q482) rfl rfl rfl hdX2_server ⟨Nat.le_of_ble_eq_true rfl, Nat.le_of_ble_eq_true rfl⟩) ⟨bb_blind g0_bl _, va_recv K hP (ci := 2) (q0 := 2) rfl rfl, bb_pre (g0_mv G.1 (fun _ _ => rfl) (Nat.le_refl _)) (hP.sub [2, 3, 4, 5, 6] rfl) _⟩ rfl rfl hl.1 rfl (lv_room (Nat.le_of_ble_eq_true rfl)) dX0_serves_28 ⟨Nat.le_refl _, Nat.le_refl _⟩) ?_
      refine lv_goto (tgt := 35) hx hb dX0_serves_31 (by decide) ?_
      exact x_iret hx hb hrt hlk (by simp [rServes, h_1n, cpl, h_2n, cj]) dX0_serves_35
  · have h_1n := no_f h_1
    refine lv_bipush (v := -2) hx hb dX0_serves_8 (by decide) ?_
    exact x_iret hx hb hrt hlk (by simp [rServes, h_1n]) dX0_serves_10

set_option maxHeartbeats 4000000 in
theorem xq_weight (l : Launch) (D : va_G) (dA : Nat → ClassId) (E : Nat) (ad : Nat → Nat) (sz0 mi : Nat) (x0 hi tb : Nat) (snv : Value) (sa la lp lx ld lr lq : Nat) (row : Nat → Int32) {n cu : Nat} (hn : n ≤ 7) (hcu : cu ≤ 8) (bs sp md : Int32) (d2 q2 p2 : Nat) (f2 : Nat → Option Nat) (FZ : va_W) (hq : q2 ≤ p2 ∧ p2 ≤ 64) (hco : CutsOk dA FZ row cu q2 f2) (x y : Int32) : RO l yX0_weight cX0_weight 3 (some .int) 3 120 [.ref x0, .int x, .int y] (G1 D dA E ad sz0 mi) (fun H => va_P D vwCl [(x0, .inr (0, [.ref sa, snv, .ref hi, .ref tb])), (sa, .inr (1, [.ref la, .ref lq, .int bs, .int sp])), (la, .inr (2, [.ref lp, .ref lx, .ref ld, .ref lr, .int (nI n), .int (nI cu), .int (row 2)])), (lp, .inl (dA 0, 7, .inl (fun k => row (6 + k)))), (lx, .inl (dA 0, 7, .inl (fun k => row (77 + k)))), (ld, .inl (dA 0, 8, .inl (fun k => row (13 + k)))), (lr, .inl (dA 0, 56, .inl (fun k => row (21 + k)))), (lq, .inr (4, [.int md, .ref d2, .int (nI q2)])), (d2, .inl (dA 1, p2, .inr (.inr (.inr (.inr f2)))))] H ∧ va_P D vwCl FZ H) (some (.int (rWeight row n cu q2 x y))) := by
  refine ro_of (by decide) (Nat.le_of_ble_eq_true rfl) ?_
  intro p e s m below meth c S hrt hlk G hP ls hl
  obtain ⟨hx, hb, hml, hown, hts⟩ := id S
  obtain ⟨hP, hF⟩ := hP
  have hP : va_P D vwCl [(x0, .inr (0, [.ref sa, snv, .ref hi, .ref tb])), (sa, .inr (1, [.ref la, .ref lq, .int bs, .int sp])), (la, .inr (2, [.ref lp, .ref lx, .ref ld, .ref lr, .int (nI n), .int (nI cu), .int (row 2)])), (lp, .inl (dA 0, 7, .inl (fun k => row (6 + k)))), (lx, .inl (dA 0, 7, .inl (fun k => row (77 + k)))), (ld, .inl (dA 0, 8, .inl (fun k => row (13 + k)))), (lr, .inl (dA 0, 56, .inl (fun k => row (21 + k)))), (lq, .inr (4, [.int md, .ref d2, .int (nI q2)])), (d2, .inl (dA 1, p2, .inr (.inr (.inr (.inr f2)))))] s.heap := hP
  have K := G.1.1
  have h2n := pow7 hn
  have hl : lv_has ls 3 [(0, .ref x0), (1, .int x), (2, .int y)] := hl
  refine lv_aload_n hx hb dX0_weight_0 rfl (lv_at hl 0 rfl) ?_
  refine lv_iload_n hx hb dX0_weight_1 rfl (lv_at hl 1 rfl) ?_
  refine x_ret (va_runV (As := [.int x]) (rest := []) S (xq_isCut l D dA E ad sz0 mi x0 hi tb snv sa la lp lx ld lr lq row hn hcu bs sp md d2 q2 p2 f2 FZ hq hco x) (cwV 1 hts (lw_V q796 q798 qs15 q59 q799) rfl rfl rfl hdX0_isCut ⟨Nat.le_of_ble_eq_true rfl, Nat.le_of_ble_eq_true rfl⟩) ⟨bb_blind g1_bl _, va_recv K hP (ci := 0) (q0 := 0) rfl rfl, bb_pre (g1_mv G (fun _ _ => rfl) (Nat.le_refl _)) ⟨hP, hF⟩ _⟩ rfl rfl hl.1 rfl (lv_room (Nat.le_of_ble_eq_true rfl)) dX0_weight_2 ⟨Nat.le_refl _, Nat.le_refl _⟩) ?_
  refine x_ifb_eq (tgt := 46) hx hb dX0_weight_5 (by decide) (fun h_1 => ?_) (fun h_1 => ?_)
  · have h_1n := no_f h_1
    refine lv_iconst (v := -1) hx hb dX0_weight_46 (by decide) ?_
    exact x_iret hx hb hrt hlk (by simp [rWeight, h_1n]) dX0_weight_47
  · have h_1n := no_t h_1
    obtain ⟨kc, hkc, rfl⟩ := mNo_f (by omega) h_1n
    have ckc : (nI kc).toNatClampNeg = kc := nI_clamp (by omega)
    refine lv_aload_n hx hb dX0_weight_8 rfl (lv_at hl 0 rfl) ?_
    refine lv_iload_n hx hb dX0_weight_9 rfl (lv_at hl 2 rfl) ?_
    refine x_ret (va_runV (As := [.int y]) (rest := []) S (xq_isSite l D dA E ad sz0 mi x0 hi tb snv sa la lp lx ld lr lq row hn hcu bs sp md d2 q2 p2 f2 FZ hq hco y) (cwV 1 hts (lw_V q400 q402 qs6 q59 q403) rfl rfl rfl hdX0_isSite ⟨Nat.le_of_ble_eq_true rfl, Nat.le_of_ble_eq_true rfl⟩) ⟨bb_blind g1_bl _, va_recv K hP (ci := 0) (q0 := 0) rfl rfl, bb_pre (g1_mv G (fun _ _ => rfl) (Nat.le_refl _)) ⟨hP, hF⟩ _⟩ rfl rfl hl.1 rfl (lv_room (Nat.le_of_ble_eq_true rfl)) dX0_weight_10 ⟨Nat.le_refl _, Nat.le_refl _⟩) ?_
    refine x_ifb_eq (tgt := 46) hx hb dX0_weight_13 (by decide) (fun h_2 => ?_) (fun h_2 => ?_)
    · have h_2n := no_f h_2
      refine lv_iconst (v := -1) hx hb dX0_weight_46 (by decide) ?_
      exact x_iret hx hb hrt hlk (by simp [rWeight, h_1n, ckc, h_2n]) dX0_weight_47
    · have h_2n := no_t h_2
      obtain ⟨j0, hj0, rfl⟩ := mNo_f (by omega) h_2n
      have cj0 : (nI j0).toNatClampNeg = j0 := nI_clamp (by omega)
      refine lv_aload_n hx hb dX0_weight_16 rfl (lv_at hl 0 rfl) ?_
      refine va_get (D := D) (ci := 0) (C := RX0) (T := TX0) (N := 4) hx hb hts in_X0 hown K hP 0 rfl rfl 0 (by decide) (hts _ q222) (fun _ h9 => h9) rfl dX0_weight_17 ?_
      refine va_getN (D := D) (ci := 1) (C := RX1) (T := TX1) (N := 4) hx hb hts in_X1 hown K hP 1 rfl rfl 1 (by decide) (va_Nw.use rfl (G.1.2.1 _ q174 rfl)) (fun _ h9 => h9) rfl dX0_weight_20 ?_
      refine lv_iload_n hx hb dX0_weight_23 rfl (lv_at hl 1 rfl) ?_
      obtain ⟨ka, hka, hck⟩ := hco kc (by omega)
      refine x_ret5 (va_runF ((K.1 4 _ rfl).2) (As := [.int (nI kc)]) (rest := []) S (xl_get l D dA E ad sz0 mi lq md d2 q2 p2 f2 (by omega) kc ka (by omega) hq.1 hka) (va_cwF 1 hts (lw_F (x := ⟨"java/util/List", "get", "(I)Ljava/lang/Object;"⟩) (y := yJ2_get) q973 q497 q499 q64 q501) rfl rfl rfl (fwk_3 G.1.2.2.1) (by decide +kernel) ⟨Nat.le_of_ble_eq_true rfl, Nat.le_of_ble_eq_true rfl⟩) ⟨bb_blind g1_bl _, va_recv K hP (ci := 4) (q0 := 7) rfl rfl, bb_pre (g1_mv G (fun _ _ => rfl) (Nat.le_refl _)) (hP.sub [7, 8] rfl) _⟩ rfl rfl hl.1 rfl (lv_room (Nat.le_of_ble_eq_true rfl)) dX0_weight_24 ⟨Nat.le_refl _, Nat.le_refl _⟩) ?_
      rcases hck with ⟨j, hj, hrj, hmem⟩ | ⟨_, kn, nums, rfl | rfl, hrj, hnum, hmem⟩
      · have hPk : va_P D vwCl (kR ka j ++ lW dA la lp lx ld lr row n cu) s.heap := vP_app.mpr ⟨vP_sub hF hmem, hP.sub [2, 3, 4, 5, 6] rfl⟩
        refine va_castY hx hb hown (hts _ q974) (G.1.2.1 _ q1382 rfl) (va_recv K hPk (ci := 6) (q0 := 0) rfl rfl) dX0_weight_29 ?_
        refine lv_aload_n hx hb dX0_weight_32 rfl (lv_at hl 0 rfl) ?_
        refine va_get (D := D) (ci := 0) (C := RX0) (T := TX0) (N := 4) hx hb hts in_X0 hown K hP 0 rfl rfl 0 (by decide) (hts _ q222) (fun _ h9 => h9) rfl dX0_weight_33 ?_
        refine va_getN (D := D) (ci := 1) (C := RX1) (T := TX1) (N := 4) hx hb hts in_X1 hown K hP 1 rfl rfl 0 (by decide) (va_Nw.use rfl (G.1.2.1 _ q172 rfl)) (fun _ h9 => h9) rfl dX0_weight_36 ?_
        refine lv_iload_n hx hb dX0_weight_39 rfl (lv_at hl 2 rfl) ?_
        refine x_ret (va_runU (As := [.ref la, .int (nI j0)]) (rest := []) S (xk_weight_R l D dA E ad sz0 la lp lx ld lr row hn hcu ka j hj j0 (by omega)) (va_cwA 2 hts (lw_U (x := ⟨"SiteCuts$Cut", "weight", "(LSiteCuts$Land;I)I"⟩) (owner := "SiteCuts$Cut") q1023 q543 q549 q550 q81 q551) rfl rfl rfl (G.1.2.1 _ q542 rfl) (by decide +kernel) ⟨Nat.le_of_ble_eq_true rfl, Nat.le_of_ble_eq_true rfl⟩) ⟨bb_blind g0_bl _, va_recv K hPk (ci := 6) (q0 := 0) rfl rfl, bb_pre (g0_mv G.1 (fun _ _ => rfl) (Nat.le_refl _)) hPk _⟩ rfl rfl hl.1 rfl (lv_room (Nat.le_of_ble_eq_true rfl)) dX0_weight_40 ⟨Nat.le_refl _, Nat.le_refl _⟩) ?_
        refine lv_goto (tgt := 47) hx hb dX0_weight_43 (by decide) ?_
        exact x_iret hx hb hrt hlk (wt_R hn hj hrj hj0 h_1n h_2n ckc cj0) dX0_weight_47
      · have hPk : va_P D vwCl (kP dA 5 ka kn nums ++ lW dA la lp lx ld lr row n cu) s.heap := vP_app.mpr ⟨vP_sub hF hmem, hP.sub [2, 3, 4, 5, 6] rfl⟩
        refine va_castY hx hb hown (hts _ q974) (G.1.2.1 _ q1381 rfl) (va_recv K hPk (ci := 5) (q0 := 0) rfl rfl) dX0_weight_29 ?_
        refine lv_aload_n hx hb dX0_weight_32 rfl (lv_at hl 0 rfl) ?_
        refine va_get (D := D) (ci := 0) (C := RX0) (T := TX0) (N := 4) hx hb hts in_X0 hown K hP 0 rfl rfl 0 (by decide) (hts _ q222) (fun _ h9 => h9) rfl dX0_weight_33 ?_
        refine va_getN (D := D) (ci := 1) (C := RX1) (T := TX1) (N := 4) hx hb hts in_X1 hown K hP 1 rfl rfl 0 (by decide) (va_Nw.use rfl (G.1.2.1 _ q172 rfl)) (fun _ h9 => h9) rfl dX0_weight_36 ?_
        refine lv_iload_n hx hb dX0_weight_39 rfl (lv_at hl 2 rfl) ?_
        refine x_ret (va_runU (As := [.ref la, .int (nI j0)]) (rest := []) S (xk_weight_P l D dA E ad sz0 la lp lx ld lr row hn hcu ka kn nums kc hnum j0 (by omega)) (va_cwA 2 hts (lw_U (x := ⟨"SiteCuts$Cut", "weight", "(LSiteCuts$Land;I)I"⟩) (owner := "SiteCuts$Cut") q1023 q543 q544 q545 q80 q546) rfl rfl rfl (G.1.2.1 _ q542 rfl) (by decide +kernel) ⟨Nat.le_of_ble_eq_true rfl, Nat.le_of_ble_eq_true rfl⟩) ⟨bb_blind g0_bl _, va_recv K hPk (ci := 5) (q0 := 0) rfl rfl, bb_pre (g0_mv G.1 (fun _ _ => rfl) (Nat.le_refl _)) hPk _⟩ rfl rfl hl.1 rfl (lv_room (Nat.le_of_ble_eq_true rfl)) dX0_weight_40 ⟨Nat.le_refl _, Nat.le_refl _⟩) ?_
        refine lv_goto (tgt := 47) hx hb dX0_weight_43 (by decide) ?_
        exact x_iret hx hb hrt hlk (wt_P hrj h_1n h_2n ckc cj0) dX0_weight_47
      · have hPk : va_P D vwCl (kP dA 9 ka kn nums ++ lW dA la lp lx ld lr row n cu) s.heap := vP_app.mpr ⟨vP_sub hF hmem, hP.sub [2, 3, 4, 5, 6] rfl⟩
        refine va_castY hx hb hown (hts _ q974) (G.1.2.1 _ q1383 rfl) (va_recv K hPk (ci := 9) (q0 := 0) rfl rfl) dX0_weight_29 ?_
        refine lv_aload_n hx hb dX0_weight_32 rfl (lv_at hl 0 rfl) ?_
        refine va_get (D := D) (ci := 0) (C := RX0) (T := TX0) (N := 4) hx hb hts in_X0 hown K hP 0 rfl rfl 0 (by decide) (hts _ q222) (fun _ h9 => h9) rfl dX0_weight_33 ?_
        refine va_getN (D := D) (ci := 1) (C := RX1) (T := TX1) (N := 4) hx hb hts in_X1 hown K hP 1 rfl rfl 0 (by decide) (va_Nw.use rfl (G.1.2.1 _ q172 rfl)) (fun _ h9 => h9) rfl dX0_weight_36 ?_
        refine lv_iload_n hx hb dX0_weight_39 rfl (lv_at hl 2 rfl) ?_
        refine x_ret (va_runU (As := [.ref la, .int (nI j0)]) (rest := []) S (xk_weight_T l D dA E ad sz0 la lp lx ld lr row hn hcu ka kn nums kc hnum j0 (by omega)) (va_cwA 2 hts (lw_U (x := ⟨"SiteCuts$Cut", "weight", "(LSiteCuts$Land;I)I"⟩) (owner := "SiteCuts$Cut") q1023 q543 q553 q545 q80 q546) rfl rfl rfl (G.1.2.1 _ q542 rfl) (by decide +kernel) ⟨Nat.le_of_ble_eq_true rfl, Nat.le_of_ble_eq_true rfl⟩) ⟨bb_blind g0_bl _, va_recv K hPk (ci := 9) (q0 := 0) rfl rfl, bb_pre (g0_mv G.1 (fun _ _ => rfl) (Nat.le_refl _)) hPk _⟩ rfl rfl hl.1 rfl (lv_room (Nat.le_of_ble_eq_true rfl)) dX0_weight_40 ⟨Nat.le_refl _, Nat.le_refl _⟩) ?_
        refine lv_goto (tgt := 47) hx hb dX0_weight_43 (by decide) ?_
        exact x_iret hx hb hrt hlk (wt_P hrj h_1n h_2n ckc cj0) dX0_weight_47

set_option maxHeartbeats 4000000 in
theorem xq_value (l : Launch) (D : va_G) (dA : Nat → ClassId) (E : Nat) (ad : Nat → Nat) (sz0 mi : Nat) (x0 hi tb : Nat) (snv : Value) (sa la lp lx ld lr lq : Nat) (row : Nat → Int32) {n cu : Nat} (hn : n ≤ 7) (hcu : cu ≤ 8) (bs sp md : Int32) (d2 q2 p2 : Nat) (f2 : Nat → Option Nat) (FZ : va_W) (hq : q2 ≤ p2 ∧ p2 ≤ 64) (hco : CutsOk dA FZ row cu q2 f2) (x y : Int32) : RO l yX0_value cX0_value 4 (some .int) 5 200 [.ref x0, .int x, .int y] (G1 D dA E ad sz0 mi) (fun H => va_P D vwCl [(x0, .inr (0, [.ref sa, snv, .ref hi, .ref tb])), (sa, .inr (1, [.ref la, .ref lq, .int bs, .int sp])), (la, .inr (2, [.ref lp, .ref lx, .ref ld, .ref lr, .int (nI n), .int (nI cu), .int (row 2)])), (lp, .inl (dA 0, 7, .inl (fun k => row (6 + k)))), (lx, .inl (dA 0, 7, .inl (fun k => row (77 + k)))), (ld, .inl (dA 0, 8, .inl (fun k => row (13 + k)))), (lr, .inl (dA 0, 56, .inl (fun k => row (21 + k)))), (lq, .inr (4, [.int md, .ref d2, .int (nI q2)])), (d2, .inl (dA 1, p2, .inr (.inr (.inr (.inr f2)))))] H ∧ va_P D vwCl FZ H) (some (.int (rValue row n cu q2 x y))) := by
  refine ro_of (by decide) (Nat.le_of_ble_eq_true rfl) ?_
  intro p e s m below meth c S hrt hlk G hP ls hl
  obtain ⟨hx, hb, hml, hown, hts⟩ := id S
  obtain ⟨hP, hF⟩ := hP
  have hP : va_P D vwCl [(x0, .inr (0, [.ref sa, snv, .ref hi, .ref tb])), (sa, .inr (1, [.ref la, .ref lq, .int bs, .int sp])), (la, .inr (2, [.ref lp, .ref lx, .ref ld, .ref lr, .int (nI n), .int (nI cu), .int (row 2)])), (lp, .inl (dA 0, 7, .inl (fun k => row (6 + k)))), (lx, .inl (dA 0, 7, .inl (fun k => row (77 + k)))), (ld, .inl (dA 0, 8, .inl (fun k => row (13 + k)))), (lr, .inl (dA 0, 56, .inl (fun k => row (21 + k)))), (lq, .inr (4, [.int md, .ref d2, .int (nI q2)])), (d2, .inl (dA 1, p2, .inr (.inr (.inr (.inr f2)))))] s.heap := hP
  have K := G.1.1
  have h2n := pow7 hn
  have hl : lv_has ls 4 [(0, .ref x0), (1, .int x), (2, .int y)] := hl
  refine lv_aload_n hx hb dX0_value_0 rfl (lv_at hl 0 rfl) ?_
  refine lv_iload_n hx hb dX0_value_1 rfl (lv_at hl 1 rfl) ?_
  refine x_ret (va_runV (As := [.int x]) (rest := []) S (xq_isCut l D dA E ad sz0 mi x0 hi tb snv sa la lp lx ld lr lq row hn hcu bs sp md d2 q2 p2 f2 FZ hq hco x) (cwV 1 hts (lw_V q796 q798 qs15 q59 q799) rfl rfl rfl hdX0_isCut ⟨Nat.le_of_ble_eq_true rfl, Nat.le_of_ble_eq_true rfl⟩) ⟨bb_blind g1_bl _, va_recv K hP (ci := 0) (q0 := 0) rfl rfl, bb_pre (g1_mv G (fun _ _ => rfl) (Nat.le_refl _)) ⟨hP, hF⟩ _⟩ rfl rfl hl.1 rfl (lv_room (Nat.le_of_ble_eq_true rfl)) dX0_value_2 ⟨Nat.le_refl _, Nat.le_refl _⟩) ?_
  refine x_ifb_ne (tgt := 10) hx hb dX0_value_5 (by decide) (fun h_1 => ?_) (fun h_1 => ?_)
  · have h_1n := no_t h_1
    obtain ⟨kc, hkc, rfl⟩ := mNo_f (by omega) h_1n
    have ckc : (nI kc).toNatClampNeg = kc := nI_clamp (by omega)
    refine lv_aload_n hx hb dX0_value_10 rfl (lv_at hl 0 rfl) ?_
    refine lv_iload_n hx hb dX0_value_11 rfl (lv_at hl 2 rfl) ?_
    refine x_ret (va_runV (As := [.int y]) (rest := []) S (xq_isPlan l D dA E ad sz0 mi x0 hi tb snv sa la lp lx ld lr lq row hn hcu bs sp md d2 q2 p2 f2 FZ hq hco y) (cwV 1 hts (lw_V q931 q933 qs17 q59 q934) rfl rfl rfl hdX0_isPlan ⟨Nat.le_of_ble_eq_true rfl, Nat.le_of_ble_eq_true rfl⟩) ⟨bb_blind g1_bl _, va_recv K hP (ci := 0) (q0 := 0) rfl rfl, bb_pre (g1_mv G (fun _ _ => rfl) (Nat.le_refl _)) ⟨hP, hF⟩ _⟩ rfl rfl hl.1 rfl (lv_room (Nat.le_of_ble_eq_true rfl)) dX0_value_12 ⟨Nat.le_refl _, Nat.le_refl _⟩) ?_
    refine x_ifb_ne (tgt := 21) hx hb dX0_value_15 (by decide) (fun h_2 => ?_) (fun h_2 => ?_)
    · have h_2n := no_t h_2
      obtain ⟨pl, hpl, rfl⟩ := mNo_f (by omega) h_2n
      have cpl : (nI pl).toNatClampNeg = pl := nI_clamp (by omega)
      refine lv_aload_n hx hb dX0_value_21 rfl (lv_at hl 0 rfl) ?_
      refine va_get (D := D) (ci := 0) (C := RX0) (T := TX0) (N := 4) hx hb hts in_X0 hown K hP 0 rfl rfl 0 (by decide) (hts _ q222) (fun _ h9 => h9) rfl dX0_value_22 ?_
      refine va_getN (D := D) (ci := 1) (C := RX1) (T := TX1) (N := 4) hx hb hts in_X1 hown K hP 1 rfl rfl 1 (by decide) (va_Nw.use rfl (G.1.2.1 _ q174 rfl)) (fun _ h9 => h9) rfl dX0_value_25 ?_
      refine lv_iload_n hx hb dX0_value_28 rfl (lv_at hl 1 rfl) ?_
      obtain ⟨ka, hka, hck⟩ := hco kc (by omega)
      refine x_ret5 (va_runF ((K.1 4 _ rfl).2) (As := [.int (nI kc)]) (rest := []) S (xl_get l D dA E ad sz0 mi lq md d2 q2 p2 f2 (by omega) kc ka (by omega) hq.1 hka) (va_cwF 1 hts (lw_F (x := ⟨"java/util/List", "get", "(I)Ljava/lang/Object;"⟩) (y := yJ2_get) q973 q497 q499 q64 q501) rfl rfl rfl (fwk_3 G.1.2.2.1) (by decide +kernel) ⟨Nat.le_of_ble_eq_true rfl, Nat.le_of_ble_eq_true rfl⟩) ⟨bb_blind g1_bl _, va_recv K hP (ci := 4) (q0 := 7) rfl rfl, bb_pre (g1_mv G (fun _ _ => rfl) (Nat.le_refl _)) (hP.sub [7, 8] rfl) _⟩ rfl rfl hl.1 rfl (lv_room (Nat.le_of_ble_eq_true rfl)) dX0_value_29 ⟨Nat.le_refl _, Nat.le_refl _⟩) ?_
      rcases hck with ⟨j, hj, hrj, hmem⟩ | ⟨_, kn, nums, rfl | rfl, hrj, hnum, hmem⟩
      · have hPk : va_P D vwCl (kR ka j ++ lW dA la lp lx ld lr row n cu) s.heap := vP_app.mpr ⟨vP_sub hF hmem, hP.sub [2, 3, 4, 5, 6] rfl⟩
        refine va_castY hx hb hown (hts _ q974) (G.1.2.1 _ q1382 rfl) (va_recv K hPk (ci := 6) (q0 := 0) rfl rfl) dX0_value_34 ?_
        refine lv_astore_n (lv' := [(3, .ref ka), (0, .ref x0), (1, .int (nI kc)), (2, .int (nI pl))]) hx hb dX0_value_37 rfl hl (by decide) rfl (fun ls hl => ?_)
        refine lv_aload_n hx hb dX0_value_38 rfl (lv_at hl 0 rfl) ?_
        refine lv_aload_n hx hb dX0_value_39 rfl (lv_at hl 1 rfl) ?_
        refine va_get (D := D) (ci := 0) (C := RX0) (T := TX0) (N := 4) hx hb hts in_X0 hown K hP 0 rfl rfl 0 (by decide) (hts _ q222) (fun _ h9 => h9) rfl dX0_value_40 ?_
        refine va_getN (D := D) (ci := 1) (C := RX1) (T := TX1) (N := 4) hx hb hts in_X1 hown K hP 1 rfl rfl 0 (by decide) (va_Nw.use rfl (G.1.2.1 _ q172 rfl)) (fun _ h9 => h9) rfl dX0_value_43 ?_
        refine lv_iload_n hx hb dX0_value_46 rfl (lv_at hl 3 rfl) ?_
        refine x_ret (va_runU (As := [.ref la, .int (nI pl)]) (rest := []) S (xk_value_R l D dA E ad sz0 la lp lx ld lr row hn hcu ka j hj pl (by omega)) (va_cwU 2 hts (lw_U (x := ⟨"SiteCuts$Cut", "value", "(LSiteCuts$Land;I)I"⟩) (owner := "SiteCuts$Cut") q1028 q1363 q1369 q557 q79 q558) rfl rfl rfl rfl (by decide +kernel) ⟨Nat.le_of_ble_eq_true rfl, Nat.le_of_ble_eq_true rfl⟩) ⟨bb_blind g0_bl _, va_recv K hPk (ci := 6) (q0 := 0) rfl rfl, bb_pre (g0_mv G.1 (fun _ _ => rfl) (Nat.le_refl _)) hPk _⟩ rfl rfl hl.1 rfl (lv_room (Nat.le_of_ble_eq_true rfl)) dX0_value_47 ⟨Nat.le_refl _, Nat.le_refl _⟩) ?_
        refine lv_aload_n hx hb dX0_value_50 rfl (lv_at hl 0 rfl) ?_
        refine x_ret (va_runU (As := []) (rest := [.int (xSumR row n j pl)]) S (xk_isRay_R l D dA E ad sz0 la lp lx ld lr row hn hcu ka j hj ) (va_cwU 0 hts (lw_U (x := ⟨"SiteCuts$Cut", "isRay", "()Z"⟩) (owner := "SiteCuts$Cut") q975 q509 q511 q508 q79 q513) rfl rfl rfl rfl (by decide +kernel) ⟨Nat.le_of_ble_eq_true rfl, Nat.le_of_ble_eq_true rfl⟩) ⟨bb_blind g0_bl _, va_recv K hPk (ci := 6) (q0 := 0) rfl rfl, bb_pre (g0_mv G.1 (fun _ _ => rfl) (Nat.le_refl _)) hPk _⟩ rfl rfl hl.1 rfl (lv_room (Nat.le_of_ble_eq_true rfl)) dX0_value_51 ⟨Nat.le_refl _, Nat.le_refl _⟩) ?_
        refine x_ifb_eq (tgt := 61) hx hb dX0_value_54 (by decide) (fun h => by cases h) (fun _ => ?_)
        refine lv_iconst (v := nI 0) hx hb dX0_value_57 (by decide) ?_
        refine lv_goto (tgt := 63) hx hb dX0_value_58 (by decide) ?_
        refine lv_iadd hx hb dX0_value_63 ?_
        exact x_iret hx hb hrt hlk (vl_R hn hj hrj h_1n h_2n ckc cpl) dX0_value_64
      · have hPk : va_P D vwCl (kP dA 5 ka kn nums ++ lW dA la lp lx ld lr row n cu) s.heap := vP_app.mpr ⟨vP_sub hF hmem, hP.sub [2, 3, 4, 5, 6] rfl⟩
        refine va_castY hx hb hown (hts _ q974) (G.1.2.1 _ q1381 rfl) (va_recv K hPk (ci := 5) (q0 := 0) rfl rfl) dX0_value_34 ?_
        refine lv_astore_n (lv' := [(3, .ref ka), (0, .ref x0), (1, .int (nI kc)), (2, .int (nI pl))]) hx hb dX0_value_37 rfl hl (by decide) rfl (fun ls hl => ?_)
        refine lv_aload_n hx hb dX0_value_38 rfl (lv_at hl 0 rfl) ?_
        refine lv_aload_n hx hb dX0_value_39 rfl (lv_at hl 1 rfl) ?_
        refine va_get (D := D) (ci := 0) (C := RX0) (T := TX0) (N := 4) hx hb hts in_X0 hown K hP 0 rfl rfl 0 (by decide) (hts _ q222) (fun _ h9 => h9) rfl dX0_value_40 ?_
        refine va_getN (D := D) (ci := 1) (C := RX1) (T := TX1) (N := 4) hx hb hts in_X1 hown K hP 1 rfl rfl 0 (by decide) (va_Nw.use rfl (G.1.2.1 _ q172 rfl)) (fun _ h9 => h9) rfl dX0_value_43 ?_
        refine lv_iload_n hx hb dX0_value_46 rfl (lv_at hl 3 rfl) ?_
        refine x_ret (va_runU (As := [.ref la, .int (nI pl)]) (rest := []) S (xk_value_P l D dA E ad sz0 la lp lx ld lr row hn hcu ka kn nums kc hnum pl (by omega)) (va_cwO 2 hts (lw_O (x := ⟨"SiteCuts$Cut", "value", "(LSiteCuts$Land;I)I"⟩) (owner := "SiteCuts$Cut") q1028 q1363 q557 q1368 q521 q80 q554) rfl rfl rfl q558 (by decide +kernel) ⟨Nat.le_of_ble_eq_true rfl, Nat.le_of_ble_eq_true rfl⟩) ⟨bb_blind g0_bl _, va_recv K hPk (ci := 5) (q0 := 0) rfl rfl, bb_pre (g0_mv G.1 (fun _ _ => rfl) (Nat.le_refl _)) hPk _⟩ rfl rfl hl.1 rfl (lv_room (Nat.le_of_ble_eq_true rfl)) dX0_value_47 ⟨Nat.le_refl _, Nat.le_refl _⟩) ?_
        refine lv_aload_n hx hb dX0_value_50 rfl (lv_at hl 0 rfl) ?_
        refine x_ret (va_runU (As := []) (rest := [.int (mValue row n cu kc pl)]) S (xk_isRay_P l D dA E ad sz0 la lp lx ld lr row hn hcu ka kn nums kc hnum ) (va_cwU 0 hts (lw_U (x := ⟨"SiteCuts$Cut", "isRay", "()Z"⟩) (owner := "SiteCuts$Cut") q975 q509 q510 q508 q79 q513) rfl rfl rfl rfl (by decide +kernel) ⟨Nat.le_of_ble_eq_true rfl, Nat.le_of_ble_eq_true rfl⟩) ⟨bb_blind g0_bl _, va_recv K hPk (ci := 5) (q0 := 0) rfl rfl, bb_pre (g0_mv G.1 (fun _ _ => rfl) (Nat.le_refl _)) hPk _⟩ rfl rfl hl.1 rfl (lv_room (Nat.le_of_ble_eq_true rfl)) dX0_value_51 ⟨Nat.le_refl _, Nat.le_refl _⟩) ?_
        refine x_ifb_eq (tgt := 61) hx hb dX0_value_54 (by decide) (fun _ => ?_) (fun h => by cases h)
        refine lv_ldc (v := 1000000) hx hb hown (hts _ q1029) dX0_value_61 ?_
        refine lv_iadd hx hb dX0_value_63 ?_
        exact x_iret hx hb hrt hlk (vl_P hrj h_1n h_2n ckc cpl) dX0_value_64
      · have hPk : va_P D vwCl (kP dA 9 ka kn nums ++ lW dA la lp lx ld lr row n cu) s.heap := vP_app.mpr ⟨vP_sub hF hmem, hP.sub [2, 3, 4, 5, 6] rfl⟩
        refine va_castY hx hb hown (hts _ q974) (G.1.2.1 _ q1383 rfl) (va_recv K hPk (ci := 9) (q0 := 0) rfl rfl) dX0_value_34 ?_
        refine lv_astore_n (lv' := [(3, .ref ka), (0, .ref x0), (1, .int (nI kc)), (2, .int (nI pl))]) hx hb dX0_value_37 rfl hl (by decide) rfl (fun ls hl => ?_)
        refine lv_aload_n hx hb dX0_value_38 rfl (lv_at hl 0 rfl) ?_
        refine lv_aload_n hx hb dX0_value_39 rfl (lv_at hl 1 rfl) ?_
        refine va_get (D := D) (ci := 0) (C := RX0) (T := TX0) (N := 4) hx hb hts in_X0 hown K hP 0 rfl rfl 0 (by decide) (hts _ q222) (fun _ h9 => h9) rfl dX0_value_40 ?_
        refine va_getN (D := D) (ci := 1) (C := RX1) (T := TX1) (N := 4) hx hb hts in_X1 hown K hP 1 rfl rfl 0 (by decide) (va_Nw.use rfl (G.1.2.1 _ q172 rfl)) (fun _ h9 => h9) rfl dX0_value_43 ?_
        refine lv_iload_n hx hb dX0_value_46 rfl (lv_at hl 3 rfl) ?_
        refine x_ret (va_runU (As := [.ref la, .int (nI pl)]) (rest := []) S (xk_value_T l D dA E ad sz0 la lp lx ld lr row hn hcu ka kn nums kc hnum pl (by omega)) (va_cwO 2 hts (lw_O (x := ⟨"SiteCuts$Cut", "value", "(LSiteCuts$Land;I)I"⟩) (owner := "SiteCuts$Cut") q1028 q1363 q557 q1370 q525 q86 q526) rfl rfl rfl q558 (by decide +kernel) ⟨Nat.le_of_ble_eq_true rfl, Nat.le_of_ble_eq_true rfl⟩) ⟨bb_blind g0_bl _, va_recv K hPk (ci := 9) (q0 := 0) rfl rfl, bb_pre (g0_mv G.1 (fun _ _ => rfl) (Nat.le_refl _)) hPk _⟩ rfl rfl hl.1 rfl (lv_room (Nat.le_of_ble_eq_true rfl)) dX0_value_47 ⟨Nat.le_refl _, Nat.le_refl _⟩) ?_
        refine lv_aload_n hx hb dX0_value_50 rfl (lv_at hl 0 rfl) ?_
        refine x_ret (va_runU (As := []) (rest := [.int (mValue row n cu kc pl)]) S (xk_isRay_T l D dA E ad sz0 la lp lx ld lr row hn hcu ka kn nums kc hnum ) (va_cwU 0 hts (lw_U (x := ⟨"SiteCuts$Cut", "isRay", "()Z"⟩) (owner := "SiteCuts$Cut") q975 q509 q512 q508 q79 q513) rfl rfl rfl rfl (by decide +kernel) ⟨Nat.le_of_ble_eq_true rfl, Nat.le_of_ble_eq_true rfl⟩) ⟨bb_blind g0_bl _, va_recv K hPk (ci := 9) (q0 := 0) rfl rfl, bb_pre (g0_mv G.1 (fun _ _ => rfl) (Nat.le_refl _)) hPk _⟩ rfl rfl hl.1 rfl (lv_room (Nat.le_of_ble_eq_true rfl)) dX0_value_51 ⟨Nat.le_refl _, Nat.le_refl _⟩) ?_
        refine x_ifb_eq (tgt := 61) hx hb dX0_value_54 (by decide) (fun _ => ?_) (fun h => by cases h)
        refine lv_ldc (v := 1000000) hx hb hown (hts _ q1029) dX0_value_61 ?_
        refine lv_iadd hx hb dX0_value_63 ?_
        exact x_iret hx hb hrt hlk (vl_P hrj h_1n h_2n ckc cpl) dX0_value_64
    · have h_2n := no_f h_2
      refine lv_bipush (v := -2) hx hb dX0_value_18 (by decide) ?_
      exact x_iret hx hb hrt hlk (by simp [rValue, h_1n, ckc, h_2n]) dX0_value_20
  · have h_1n := no_f h_1
    refine lv_iconst (v := -1) hx hb dX0_value_8 (by decide) ?_
    exact x_iret hx hb hrt hlk (by simp [rValue, h_1n]) dX0_value_9

set_option maxHeartbeats 4000000 in
theorem xq_pairs (l : Launch) (D : va_G) (dA : Nat → ClassId) (E : Nat) (ad : Nat → Nat) (sz0 mi : Nat) (x0 hi tb : Nat) (snv : Value) (sa la lp lx ld lr lq : Nat) (row : Nat → Int32) {n cu : Nat} (hn : n ≤ 7) (hcu : cu ≤ 8) (bs sp md : Int32) (d2 q2 p2 : Nat) (f2 : Nat → Option Nat) (FZ : va_W) (hq : q2 ≤ p2 ∧ p2 ≤ 64) (hco : CutsOk dA FZ row cu q2 f2) (hex : ∀ s, s < 7 → ∃ x, x < 128 ∧ row (77 + s) = nI x) : RO l yX0_pairs cX0_pairs 3 (some .int) 1 40 [.ref x0] (G1 D dA E ad sz0 mi) (fun H => va_P D vwCl [(x0, .inr (0, [.ref sa, snv, .ref hi, .ref tb])), (sa, .inr (1, [.ref la, .ref lq, .int bs, .int sp])), (la, .inr (2, [.ref lp, .ref lx, .ref ld, .ref lr, .int (nI n), .int (nI cu), .int (row 2)])), (lp, .inl (dA 0, 7, .inl (fun k => row (6 + k)))), (lx, .inl (dA 0, 7, .inl (fun k => row (77 + k)))), (ld, .inl (dA 0, 8, .inl (fun k => row (13 + k)))), (lr, .inl (dA 0, 56, .inl (fun k => row (21 + k)))), (lq, .inr (4, [.int md, .ref d2, .int (nI q2)])), (d2, .inl (dA 1, p2, .inr (.inr (.inr (.inr f2)))))] H ∧ va_P D vwCl FZ H) (some (.int (nI (mPairs row n)))) := by
  refine ro_of (by decide) (Nat.le_of_ble_eq_true rfl) ?_
  intro p e s m below meth c S hrt hlk G hP ls hl
  obtain ⟨hx, hb, hml, hown, hts⟩ := id S
  obtain ⟨hP, hF⟩ := hP
  have hP : va_P D vwCl [(x0, .inr (0, [.ref sa, snv, .ref hi, .ref tb])), (sa, .inr (1, [.ref la, .ref lq, .int bs, .int sp])), (la, .inr (2, [.ref lp, .ref lx, .ref ld, .ref lr, .int (nI n), .int (nI cu), .int (row 2)])), (lp, .inl (dA 0, 7, .inl (fun k => row (6 + k)))), (lx, .inl (dA 0, 7, .inl (fun k => row (77 + k)))), (ld, .inl (dA 0, 8, .inl (fun k => row (13 + k)))), (lr, .inl (dA 0, 56, .inl (fun k => row (21 + k)))), (lq, .inr (4, [.int md, .ref d2, .int (nI q2)])), (d2, .inl (dA 1, p2, .inr (.inr (.inr (.inr f2)))))] s.heap := hP
  have K := G.1.1
  have hle : iter (mPaS row) n 0 0 ≤ n * 7 := iter_le 7 (fun k a => Nat.add_le_add_left (mMany_7 _) a) n
  have hl : lv_has ls 3 [(0, .ref x0)] := hl
  refine lv_iconst (v := nI 0) hx hb dX0_pairs_0 (by decide) ?_
  refine lv_istore_n (lv' := [(1, .int (nI 0)), (0, .ref x0)]) hx hb dX0_pairs_1 rfl hl (by decide) rfl (fun ls hl => ?_)
  refine lv_iconst (v := nI 0) hx hb dX0_pairs_2 (by decide) ?_
  refine lv_istore_n (lv' := [(2, .int (nI 0)), (1, .int (nI 0)), (0, .ref x0)]) hx hb dX0_pairs_3 rfl hl (by decide) rfl (fun ls hl => ?_)
  refine lpI (mPaS row) 0 n (fun k a ls => lv_has ls 3 [(0, .ref x0), (1, .int (nI a)), (2, .int (nI k))]) (fun ls => W p l e (rmR 1 40) s m ([.ref x0]).toArray below meth c s.heap [] 0 0 (MQ below (QRet (some (.int (nI (mPairs row n))))) ([.ref x0]).toArray s 0 0 (fun _ => False)) (F0 m 4 ls [])) ?_ ?_ ls (lv_sub hl [2, 1, 0] rfl)
  · intro k ls hk_1 hl ih
    obtain ⟨x1, hx1, ex1⟩ := hex k (by omega)
    generalize iter (mPaS row) k 0 0 = a at *
    have hl : lv_has ls 3 [(0, .ref x0), (1, .int (nI a)), (2, .int (nI k))] := hl
    show W p l e (rmR 1 40) s m ([.ref x0]).toArray below meth c s.heap [] 0 0 (MQ below (QRet (some (.int (nI (mPairs row n))))) ([.ref x0]).toArray s 0 0 (fun _ => False)) (F0 m 4 ls [])
    refine lv_iload_n hx hb dX0_pairs_4 rfl (lv_at hl 2 rfl) ?_
    refine lv_aload_n hx hb dX0_pairs_5 rfl (lv_at hl 0 rfl) ?_
    refine va_get (D := D) (ci := 0) (C := RX0) (T := TX0) (N := 4) hx hb hts in_X0 hown K hP 0 rfl rfl 0 (by decide) (hts _ q222) (fun _ h9 => h9) rfl dX0_pairs_6 ?_
    refine va_getN (D := D) (ci := 1) (C := RX1) (T := TX1) (N := 4) hx hb hts in_X1 hown K hP 1 rfl rfl 0 (by decide) (va_Nw.use rfl (G.1.2.1 _ q172 rfl)) (fun _ h9 => h9) rfl dX0_pairs_9 ?_
    refine va_getN (D := D) (ci := 2) (C := RX2) (T := TX2) (N := 7) hx hb hts in_X2 hown K hP 2 rfl rfl 4 (by decide) (va_Nw.use rfl (G.1.2.1 _ q120 rfl)) (fun _ h9 => h9) rfl dX0_pairs_12 ?_
    refine lv_icmp_ge (tgt := 42) hx hb dX0_pairs_15 (by decide) (fun h => absurd h (nI_ge hk_1 (by omega))) (fun _ => ?_)
    refine lv_iload_n hx hb dX0_pairs_18 rfl (lv_at hl 1 rfl) ?_
    refine lv_aload_n hx hb dX0_pairs_19 rfl (lv_at hl 0 rfl) ?_
    refine va_get (D := D) (ci := 0) (C := RX0) (T := TX0) (N := 4) hx hb hts in_X0 hown K hP 0 rfl rfl 0 (by decide) (hts _ q222) (fun _ h9 => h9) rfl dX0_pairs_20 ?_
    refine va_getN (D := D) (ci := 1) (C := RX1) (T := TX1) (N := 4) hx hb hts in_X1 hown K hP 1 rfl rfl 0 (by decide) (va_Nw.use rfl (G.1.2.1 _ q172 rfl)) (fun _ h9 => h9) rfl dX0_pairs_23 ?_
    refine va_getN (D := D) (ci := 2) (C := RX2) (T := TX2) (N := 7) hx hb hts in_X2 hown K hP 2 rfl rfl 1 (by decide) (va_Nw.use rfl (G.1.2.1 _ q112 rfl)) (fun _ h9 => h9) rfl dX0_pairs_26 ?_
    refine lv_iload_n hx hb dX0_pairs_29 rfl (lv_at hl 2 rfl) ?_
    refine x_iald hx hb K hP 4 0 rfl rfl k rfl (by omega) (by decide) ex1 dX0_pairs_30 ?_
    refine x_ret (va_runS (As := [.int (nI x1)]) (rest := [.int (nI a)]) S (xr_bitCount l x1 (by omega)) (va_cwS 1 hts (lw_S q431 q432 q76 q433) rfl rfl rfl hdJ12_bitCount ⟨Nat.le_of_ble_eq_true rfl, Nat.le_of_ble_eq_true rfl⟩) ⟨bb_blind tt_bl _, tt_pre _⟩ rfl rfl hl.1 rfl (lv_room (Nat.le_of_ble_eq_true rfl)) dX0_pairs_31 ⟨Nat.le_refl _, Nat.le_refl _⟩) ?_
    refine x_addN hx hb dX0_pairs_34 ?_
    refine lv_istore_n (lv' := [(1, .int (nI (a + (mMany x1)))), (0, .ref x0), (2, .int (nI k))]) hx hb dX0_pairs_35 rfl hl (by decide) rfl (fun ls hl => ?_)
    refine lv_iinc (v := nI (k + 1)) (lv' := [(2, .int (nI (k + 1))), (1, .int (nI (a + (mMany x1)))), (0, .ref x0)]) hx hb dX0_pairs_36 hl (k := 2) rfl (nI_1 k) (by decide) rfl (fun ls hl => ?_)
    refine lv_goto (tgt := 4) hx hb dX0_pairs_39 (by decide) ?_
    refine ih ls ?_
    show lv_has ls 3 [(0, .ref x0), (1, .int (nI ((mPaS row) k a))), (2, .int (nI (k + 1)))]
    rw [show nI ((mPaS row) k a) = nI (a + (mMany x1)) from (by rw [mPaS, ex1]; exact congrArg (fun z => nI (a + mMany z)) (nI_clamp (by omega)))]
    exact lv_sub hl [2, 1, 0] rfl
  · intro ls hl
    have hl : lv_has ls 3 [(0, .ref x0), (1, .int (nI (iter (mPaS row) n 0 0))), (2, .int (nI n))] := hl
    show W p l e (rmR 1 40) s m ([.ref x0]).toArray below meth c s.heap [] 0 0 (MQ below (QRet (some (.int (nI (mPairs row n))))) ([.ref x0]).toArray s 0 0 (fun _ => False)) (F0 m 4 ls [])
    refine lv_iload_n hx hb dX0_pairs_4 rfl (lv_at hl 2 rfl) ?_
    refine lv_aload_n hx hb dX0_pairs_5 rfl (lv_at hl 0 rfl) ?_
    refine va_get (D := D) (ci := 0) (C := RX0) (T := TX0) (N := 4) hx hb hts in_X0 hown K hP 0 rfl rfl 0 (by decide) (hts _ q222) (fun _ h9 => h9) rfl dX0_pairs_6 ?_
    refine va_getN (D := D) (ci := 1) (C := RX1) (T := TX1) (N := 4) hx hb hts in_X1 hown K hP 1 rfl rfl 0 (by decide) (va_Nw.use rfl (G.1.2.1 _ q172 rfl)) (fun _ h9 => h9) rfl dX0_pairs_9 ?_
    refine va_getN (D := D) (ci := 2) (C := RX2) (T := TX2) (N := 7) hx hb hts in_X2 hown K hP 2 rfl rfl 4 (by decide) (va_Nw.use rfl (G.1.2.1 _ q120 rfl)) (fun _ h9 => h9) rfl dX0_pairs_12 ?_
    refine lv_icmp_ge (tgt := 42) hx hb dX0_pairs_15 (by decide) (fun _ => ?_) (fun h => absurd (nI_le (by omega) (by omega)) h)
    refine lv_iload_n hx hb dX0_pairs_42 rfl (lv_at hl 1 rfl) ?_
    refine lv_iconst (v := nI 2) hx hb dX0_pairs_43 (by decide) ?_
    refine lv_idiv hx hb dX0_pairs_44 (by decide) ?_
    refine x_top (y := nI (iter (mPaS row) n 0 0 / 2)) (pk_div (by omega) (by decide) (by decide)) ?_
    exact x_iret hx hb hrt hlk rfl dX0_pairs_45

set_option maxHeartbeats 4000000 in
theorem xq_rays (l : Launch) (D : va_G) (dA : Nat → ClassId) (E : Nat) (ad : Nat → Nat) (sz0 mi : Nat) (x0 hi tb : Nat) (snv : Value) (sa la lp lx ld lr lq : Nat) (row : Nat → Int32) {n cu : Nat} (hn : n ≤ 7) (hcu : cu ≤ 8) (bs sp md : Int32) (d2 q2 p2 : Nat) (f2 : Nat → Option Nat) (FZ : va_W) (hq : q2 ≤ p2 ∧ p2 ≤ 64) (hco : CutsOk dA FZ row cu q2 f2)  : RO l yX0_rays cX0_rays 3 (some .int) 3 120 [.ref x0] (G1 D dA E ad sz0 mi) (fun H => va_P D vwCl [(x0, .inr (0, [.ref sa, snv, .ref hi, .ref tb])), (sa, .inr (1, [.ref la, .ref lq, .int bs, .int sp])), (la, .inr (2, [.ref lp, .ref lx, .ref ld, .ref lr, .int (nI n), .int (nI cu), .int (row 2)])), (lp, .inl (dA 0, 7, .inl (fun k => row (6 + k)))), (lx, .inl (dA 0, 7, .inl (fun k => row (77 + k)))), (ld, .inl (dA 0, 8, .inl (fun k => row (13 + k)))), (lr, .inl (dA 0, 56, .inl (fun k => row (21 + k)))), (lq, .inr (4, [.int md, .ref d2, .int (nI q2)])), (d2, .inl (dA 1, p2, .inr (.inr (.inr (.inr f2)))))] H ∧ va_P D vwCl FZ H) (some (.int (nI (mRays row q2)))) := by
  refine ro_of (by decide) (Nat.le_of_ble_eq_true rfl) ?_
  intro p e s m below meth c S hrt hlk G hP ls hl
  obtain ⟨hx, hb, hml, hown, hts⟩ := id S
  obtain ⟨hP, hF⟩ := hP
  have hP : va_P D vwCl [(x0, .inr (0, [.ref sa, snv, .ref hi, .ref tb])), (sa, .inr (1, [.ref la, .ref lq, .int bs, .int sp])), (la, .inr (2, [.ref lp, .ref lx, .ref ld, .ref lr, .int (nI n), .int (nI cu), .int (row 2)])), (lp, .inl (dA 0, 7, .inl (fun k => row (6 + k)))), (lx, .inl (dA 0, 7, .inl (fun k => row (77 + k)))), (ld, .inl (dA 0, 8, .inl (fun k => row (13 + k)))), (lr, .inl (dA 0, 56, .inl (fun k => row (21 + k)))), (lq, .inr (4, [.int md, .ref d2, .int (nI q2)])), (d2, .inl (dA 1, p2, .inr (.inr (.inr (.inr f2)))))] s.heap := hP
  have K := G.1.1
  have h2n := pow7 hn
  have hl : lv_has ls 3 [(0, .ref x0)] := hl
  refine lv_iconst (v := nI 0) hx hb dX0_rays_0 (by decide) ?_
  refine lv_istore_n (lv' := [(1, .int (nI 0)), (0, .ref x0)]) hx hb dX0_rays_1 rfl hl (by decide) rfl (fun ls hl => ?_)
  refine lv_iconst (v := nI 0) hx hb dX0_rays_2 (by decide) ?_
  refine lv_istore_n (lv' := [(2, .int (nI 0)), (1, .int (nI 0)), (0, .ref x0)]) hx hb dX0_rays_3 rfl hl (by decide) rfl (fun ls hl => ?_)
  refine lpI (mRyS row) 0 q2 (fun k a ls => lv_has ls 3 [(0, .ref x0), (1, .int (nI a)), (2, .int (nI k))]) (fun ls => W p l e (rmR 3 120) s m ([.ref x0]).toArray below meth c s.heap [] 0 0 (MQ below (QRet (some (.int (nI (mRays row q2))))) ([.ref x0]).toArray s 0 0 (fun _ => False)) (F0 m 4 ls [])) ?_ ?_ ls (lv_sub hl [2, 1, 0] rfl)
  · intro k ls hk_1 hl ih
    obtain ⟨ka, hka, hck⟩ := hco k hk_1
    generalize iter (mRyS row) k 0 0 = a at *
    have hl : lv_has ls 3 [(0, .ref x0), (1, .int (nI a)), (2, .int (nI k))] := hl
    show W p l e (rmR 3 120) s m ([.ref x0]).toArray below meth c s.heap [] 0 0 (MQ below (QRet (some (.int (nI (mRays row q2))))) ([.ref x0]).toArray s 0 0 (fun _ => False)) (F0 m 4 ls [])
    rcases hck with ⟨j, hj, hrj, hmem⟩ | ⟨_, kn, nums, rfl | rfl, hrj, hnum, hmem⟩
    · have hPk : va_P D vwCl (kR ka j ++ lW dA la lp lx ld lr row n cu) s.heap := vP_app.mpr ⟨vP_sub hF hmem, hP.sub [2, 3, 4, 5, 6] rfl⟩
      refine lv_iload_n hx hb dX0_rays_4 rfl (lv_at hl 2 rfl) ?_
      refine lv_aload_n hx hb dX0_rays_5 rfl (lv_at hl 0 rfl) ?_
      refine va_get (D := D) (ci := 0) (C := RX0) (T := TX0) (N := 4) hx hb hts in_X0 hown K hP 0 rfl rfl 0 (by decide) (hts _ q222) (fun _ h9 => h9) rfl dX0_rays_6 ?_
      refine va_getN (D := D) (ci := 1) (C := RX1) (T := TX1) (N := 4) hx hb hts in_X1 hown K hP 1 rfl rfl 1 (by decide) (va_Nw.use rfl (G.1.2.1 _ q174 rfl)) (fun _ h9 => h9) rfl dX0_rays_9 ?_
      refine x_ret5 (va_runF ((K.1 4 _ rfl).2) (As := []) (rest := [.int (nI k)]) S (xl_size l D dA E ad sz0 mi lq md (.ref d2) q2) (va_cwF 0 hts (lw_F (x := ⟨"java/util/List", "size", "()I"⟩) (y := yJ2_size) q348 q351 q353 q64 q355) rfl rfl rfl (fwk_0 G.1.2.2.1) (by decide +kernel) ⟨Nat.le_of_ble_eq_true rfl, Nat.le_of_ble_eq_true rfl⟩) ⟨bb_blind g1_bl _, va_recv K hP (ci := 4) (q0 := 7) rfl rfl, bb_pre (g1_mv G (fun _ _ => rfl) (Nat.le_refl _)) (hP.sub [7] rfl) _⟩ rfl rfl hl.1 rfl (lv_room (Nat.le_of_ble_eq_true rfl)) dX0_rays_12 ⟨Nat.le_refl _, Nat.le_refl _⟩) ?_
      refine lv_icmp_ge (tgt := 56) hx hb dX0_rays_17 (by decide) (fun h => absurd h (nI_ge hk_1 (by omega))) (fun _ => ?_)
      refine lv_iload_n hx hb dX0_rays_20 rfl (lv_at hl 1 rfl) ?_
      refine lv_aload_n hx hb dX0_rays_21 rfl (lv_at hl 0 rfl) ?_
      refine va_get (D := D) (ci := 0) (C := RX0) (T := TX0) (N := 4) hx hb hts in_X0 hown K hP 0 rfl rfl 0 (by decide) (hts _ q222) (fun _ h9 => h9) rfl dX0_rays_22 ?_
      refine va_getN (D := D) (ci := 1) (C := RX1) (T := TX1) (N := 4) hx hb hts in_X1 hown K hP 1 rfl rfl 1 (by decide) (va_Nw.use rfl (G.1.2.1 _ q174 rfl)) (fun _ h9 => h9) rfl dX0_rays_25 ?_
      refine lv_iload_n hx hb dX0_rays_28 rfl (lv_at hl 2 rfl) ?_
      refine x_ret5 (va_runF ((K.1 4 _ rfl).2) (As := [.int (nI k)]) (rest := [.int (nI a)]) S (xl_get l D dA E ad sz0 mi lq md d2 q2 p2 f2 (by omega) k ka (by omega) hq.1 hka) (va_cwF 1 hts (lw_F (x := ⟨"java/util/List", "get", "(I)Ljava/lang/Object;"⟩) (y := yJ2_get) q973 q497 q499 q64 q501) rfl rfl rfl (fwk_3 G.1.2.2.1) (by decide +kernel) ⟨Nat.le_of_ble_eq_true rfl, Nat.le_of_ble_eq_true rfl⟩) ⟨bb_blind g1_bl _, va_recv K hP (ci := 4) (q0 := 7) rfl rfl, bb_pre (g1_mv G (fun _ _ => rfl) (Nat.le_refl _)) (hP.sub [7, 8] rfl) _⟩ rfl rfl hl.1 rfl (lv_room (Nat.le_of_ble_eq_true rfl)) dX0_rays_29 ⟨Nat.le_refl _, Nat.le_refl _⟩) ?_
      refine va_castY hx hb hown (hts _ q974) (G.1.2.1 _ q1382 rfl) (va_recv K hPk (ci := 6) (q0 := 0) rfl rfl) dX0_rays_34 ?_
      refine x_ret (va_runU (As := []) (rest := [.int (nI a)]) S (xk_isRay_R l D dA E ad sz0 la lp lx ld lr row hn hcu ka j hj ) (va_cwU 0 hts (lw_U (x := ⟨"SiteCuts$Cut", "isRay", "()Z"⟩) (owner := "SiteCuts$Cut") q975 q509 q511 q508 q79 q513) rfl rfl rfl rfl (by decide +kernel) ⟨Nat.le_of_ble_eq_true rfl, Nat.le_of_ble_eq_true rfl⟩) ⟨bb_blind g0_bl _, va_recv K hPk (ci := 6) (q0 := 0) rfl rfl, bb_pre (g0_mv G.1 (fun _ _ => rfl) (Nat.le_refl _)) hPk _⟩ rfl rfl hl.1 rfl (lv_room (Nat.le_of_ble_eq_true rfl)) dX0_rays_37 ⟨Nat.le_refl _, Nat.le_refl _⟩) ?_
      refine x_ifb_eq (tgt := 47) hx hb dX0_rays_40 (by decide) (fun h => by cases h) (fun _ => ?_)
      refine lv_iconst (v := nI 1) hx hb dX0_rays_43 (by decide) ?_
      refine lv_goto (tgt := 48) hx hb dX0_rays_44 (by decide) ?_
      refine x_addN hx hb dX0_rays_48 ?_
      refine lv_istore_n (lv' := [(1, .int (nI (a + 1))), (0, .ref x0), (2, .int (nI k))]) hx hb dX0_rays_49 rfl hl (by decide) rfl (fun ls hl => ?_)
      refine lv_iinc (v := nI (k + 1)) (lv' := [(2, .int (nI (k + 1))), (1, .int (nI (a + 1))), (0, .ref x0)]) hx hb dX0_rays_50 hl (k := 2) rfl (nI_1 k) (by decide) rfl (fun ls hl => ?_)
      refine lv_goto (tgt := 4) hx hb dX0_rays_53 (by decide) ?_
      refine ih ls ?_
      show lv_has ls 3 [(0, .ref x0), (1, .int (nI ((mRyS row) k a))), (2, .int (nI (k + 1)))]
      rw [show nI ((mRyS row) k a) = nI (a + 1) from (congrArg nI (ry_R hj hrj))]
      exact lv_sub hl [2, 1, 0] rfl
    · have hPk : va_P D vwCl (kP dA 5 ka kn nums ++ lW dA la lp lx ld lr row n cu) s.heap := vP_app.mpr ⟨vP_sub hF hmem, hP.sub [2, 3, 4, 5, 6] rfl⟩
      refine lv_iload_n hx hb dX0_rays_4 rfl (lv_at hl 2 rfl) ?_
      refine lv_aload_n hx hb dX0_rays_5 rfl (lv_at hl 0 rfl) ?_
      refine va_get (D := D) (ci := 0) (C := RX0) (T := TX0) (N := 4) hx hb hts in_X0 hown K hP 0 rfl rfl 0 (by decide) (hts _ q222) (fun _ h9 => h9) rfl dX0_rays_6 ?_
      refine va_getN (D := D) (ci := 1) (C := RX1) (T := TX1) (N := 4) hx hb hts in_X1 hown K hP 1 rfl rfl 1 (by decide) (va_Nw.use rfl (G.1.2.1 _ q174 rfl)) (fun _ h9 => h9) rfl dX0_rays_9 ?_
      refine x_ret5 (va_runF ((K.1 4 _ rfl).2) (As := []) (rest := [.int (nI k)]) S (xl_size l D dA E ad sz0 mi lq md (.ref d2) q2) (va_cwF 0 hts (lw_F (x := ⟨"java/util/List", "size", "()I"⟩) (y := yJ2_size) q348 q351 q353 q64 q355) rfl rfl rfl (fwk_0 G.1.2.2.1) (by decide +kernel) ⟨Nat.le_of_ble_eq_true rfl, Nat.le_of_ble_eq_true rfl⟩) ⟨bb_blind g1_bl _, va_recv K hP (ci := 4) (q0 := 7) rfl rfl, bb_pre (g1_mv G (fun _ _ => rfl) (Nat.le_refl _)) (hP.sub [7] rfl) _⟩ rfl rfl hl.1 rfl (lv_room (Nat.le_of_ble_eq_true rfl)) dX0_rays_12 ⟨Nat.le_refl _, Nat.le_refl _⟩) ?_
      refine lv_icmp_ge (tgt := 56) hx hb dX0_rays_17 (by decide) (fun h => absurd h (nI_ge hk_1 (by omega))) (fun _ => ?_)
      refine lv_iload_n hx hb dX0_rays_20 rfl (lv_at hl 1 rfl) ?_
      refine lv_aload_n hx hb dX0_rays_21 rfl (lv_at hl 0 rfl) ?_
      refine va_get (D := D) (ci := 0) (C := RX0) (T := TX0) (N := 4) hx hb hts in_X0 hown K hP 0 rfl rfl 0 (by decide) (hts _ q222) (fun _ h9 => h9) rfl dX0_rays_22 ?_
      refine va_getN (D := D) (ci := 1) (C := RX1) (T := TX1) (N := 4) hx hb hts in_X1 hown K hP 1 rfl rfl 1 (by decide) (va_Nw.use rfl (G.1.2.1 _ q174 rfl)) (fun _ h9 => h9) rfl dX0_rays_25 ?_
      refine lv_iload_n hx hb dX0_rays_28 rfl (lv_at hl 2 rfl) ?_
      refine x_ret5 (va_runF ((K.1 4 _ rfl).2) (As := [.int (nI k)]) (rest := [.int (nI a)]) S (xl_get l D dA E ad sz0 mi lq md d2 q2 p2 f2 (by omega) k ka (by omega) hq.1 hka) (va_cwF 1 hts (lw_F (x := ⟨"java/util/List", "get", "(I)Ljava/lang/Object;"⟩) (y := yJ2_get) q973 q497 q499 q64 q501) rfl rfl rfl (fwk_3 G.1.2.2.1) (by decide +kernel) ⟨Nat.le_of_ble_eq_true rfl, Nat.le_of_ble_eq_true rfl⟩) ⟨bb_blind g1_bl _, va_recv K hP (ci := 4) (q0 := 7) rfl rfl, bb_pre (g1_mv G (fun _ _ => rfl) (Nat.le_refl _)) (hP.sub [7, 8] rfl) _⟩ rfl rfl hl.1 rfl (lv_room (Nat.le_of_ble_eq_true rfl)) dX0_rays_29 ⟨Nat.le_refl _, Nat.le_refl _⟩) ?_
      refine va_castY hx hb hown (hts _ q974) (G.1.2.1 _ q1381 rfl) (va_recv K hPk (ci := 5) (q0 := 0) rfl rfl) dX0_rays_34 ?_
      refine x_ret (va_runU (As := []) (rest := [.int (nI a)]) S (xk_isRay_P l D dA E ad sz0 la lp lx ld lr row hn hcu ka kn nums k hnum ) (va_cwU 0 hts (lw_U (x := ⟨"SiteCuts$Cut", "isRay", "()Z"⟩) (owner := "SiteCuts$Cut") q975 q509 q510 q508 q79 q513) rfl rfl rfl rfl (by decide +kernel) ⟨Nat.le_of_ble_eq_true rfl, Nat.le_of_ble_eq_true rfl⟩) ⟨bb_blind g0_bl _, va_recv K hPk (ci := 5) (q0 := 0) rfl rfl, bb_pre (g0_mv G.1 (fun _ _ => rfl) (Nat.le_refl _)) hPk _⟩ rfl rfl hl.1 rfl (lv_room (Nat.le_of_ble_eq_true rfl)) dX0_rays_37 ⟨Nat.le_refl _, Nat.le_refl _⟩) ?_
      refine x_ifb_eq (tgt := 47) hx hb dX0_rays_40 (by decide) (fun _ => ?_) (fun h => by cases h)
      refine lv_iconst (v := nI 0) hx hb dX0_rays_47 (by decide) ?_
      refine x_addN hx hb dX0_rays_48 ?_
      refine lv_istore_n (lv' := [(1, .int (nI (a + 0))), (0, .ref x0), (2, .int (nI k))]) hx hb dX0_rays_49 rfl hl (by decide) rfl (fun ls hl => ?_)
      refine lv_iinc (v := nI (k + 1)) (lv' := [(2, .int (nI (k + 1))), (1, .int (nI (a + 0))), (0, .ref x0)]) hx hb dX0_rays_50 hl (k := 2) rfl (nI_1 k) (by decide) rfl (fun ls hl => ?_)
      refine lv_goto (tgt := 4) hx hb dX0_rays_53 (by decide) ?_
      refine ih ls ?_
      show lv_has ls 3 [(0, .ref x0), (1, .int (nI ((mRyS row) k a))), (2, .int (nI (k + 1)))]
      rw [show nI ((mRyS row) k a) = nI (a + 0) from (congrArg nI (ry_P hrj))]
      exact lv_sub hl [2, 1, 0] rfl
    · have hPk : va_P D vwCl (kP dA 9 ka kn nums ++ lW dA la lp lx ld lr row n cu) s.heap := vP_app.mpr ⟨vP_sub hF hmem, hP.sub [2, 3, 4, 5, 6] rfl⟩
      refine lv_iload_n hx hb dX0_rays_4 rfl (lv_at hl 2 rfl) ?_
      refine lv_aload_n hx hb dX0_rays_5 rfl (lv_at hl 0 rfl) ?_
      refine va_get (D := D) (ci := 0) (C := RX0) (T := TX0) (N := 4) hx hb hts in_X0 hown K hP 0 rfl rfl 0 (by decide) (hts _ q222) (fun _ h9 => h9) rfl dX0_rays_6 ?_
      refine va_getN (D := D) (ci := 1) (C := RX1) (T := TX1) (N := 4) hx hb hts in_X1 hown K hP 1 rfl rfl 1 (by decide) (va_Nw.use rfl (G.1.2.1 _ q174 rfl)) (fun _ h9 => h9) rfl dX0_rays_9 ?_
      refine x_ret5 (va_runF ((K.1 4 _ rfl).2) (As := []) (rest := [.int (nI k)]) S (xl_size l D dA E ad sz0 mi lq md (.ref d2) q2) (va_cwF 0 hts (lw_F (x := ⟨"java/util/List", "size", "()I"⟩) (y := yJ2_size) q348 q351 q353 q64 q355) rfl rfl rfl (fwk_0 G.1.2.2.1) (by decide +kernel) ⟨Nat.le_of_ble_eq_true rfl, Nat.le_of_ble_eq_true rfl⟩) ⟨bb_blind g1_bl _, va_recv K hP (ci := 4) (q0 := 7) rfl rfl, bb_pre (g1_mv G (fun _ _ => rfl) (Nat.le_refl _)) (hP.sub [7] rfl) _⟩ rfl rfl hl.1 rfl (lv_room (Nat.le_of_ble_eq_true rfl)) dX0_rays_12 ⟨Nat.le_refl _, Nat.le_refl _⟩) ?_
      refine lv_icmp_ge (tgt := 56) hx hb dX0_rays_17 (by decide) (fun h => absurd h (nI_ge hk_1 (by omega))) (fun _ => ?_)
      refine lv_iload_n hx hb dX0_rays_20 rfl (lv_at hl 1 rfl) ?_
      refine lv_aload_n hx hb dX0_rays_21 rfl (lv_at hl 0 rfl) ?_
      refine va_get (D := D) (ci := 0) (C := RX0) (T := TX0) (N := 4) hx hb hts in_X0 hown K hP 0 rfl rfl 0 (by decide) (hts _ q222) (fun _ h9 => h9) rfl dX0_rays_22 ?_
      refine va_getN (D := D) (ci := 1) (C := RX1) (T := TX1) (N := 4) hx hb hts in_X1 hown K hP 1 rfl rfl 1 (by decide) (va_Nw.use rfl (G.1.2.1 _ q174 rfl)) (fun _ h9 => h9) rfl dX0_rays_25 ?_
      refine lv_iload_n hx hb dX0_rays_28 rfl (lv_at hl 2 rfl) ?_
      refine x_ret5 (va_runF ((K.1 4 _ rfl).2) (As := [.int (nI k)]) (rest := [.int (nI a)]) S (xl_get l D dA E ad sz0 mi lq md d2 q2 p2 f2 (by omega) k ka (by omega) hq.1 hka) (va_cwF 1 hts (lw_F (x := ⟨"java/util/List", "get", "(I)Ljava/lang/Object;"⟩) (y := yJ2_get) q973 q497 q499 q64 q501) rfl rfl rfl (fwk_3 G.1.2.2.1) (by decide +kernel) ⟨Nat.le_of_ble_eq_true rfl, Nat.le_of_ble_eq_true rfl⟩) ⟨bb_blind g1_bl _, va_recv K hP (ci := 4) (q0 := 7) rfl rfl, bb_pre (g1_mv G (fun _ _ => rfl) (Nat.le_refl _)) (hP.sub [7, 8] rfl) _⟩ rfl rfl hl.1 rfl (lv_room (Nat.le_of_ble_eq_true rfl)) dX0_rays_29 ⟨Nat.le_refl _, Nat.le_refl _⟩) ?_
      refine va_castY hx hb hown (hts _ q974) (G.1.2.1 _ q1383 rfl) (va_recv K hPk (ci := 9) (q0 := 0) rfl rfl) dX0_rays_34 ?_
      refine x_ret (va_runU (As := []) (rest := [.int (nI a)]) S (xk_isRay_T l D dA E ad sz0 la lp lx ld lr row hn hcu ka kn nums k hnum ) (va_cwU 0 hts (lw_U (x := ⟨"SiteCuts$Cut", "isRay", "()Z"⟩) (owner := "SiteCuts$Cut") q975 q509 q512 q508 q79 q513) rfl rfl rfl rfl (by decide +kernel) ⟨Nat.le_of_ble_eq_true rfl, Nat.le_of_ble_eq_true rfl⟩) ⟨bb_blind g0_bl _, va_recv K hPk (ci := 9) (q0 := 0) rfl rfl, bb_pre (g0_mv G.1 (fun _ _ => rfl) (Nat.le_refl _)) hPk _⟩ rfl rfl hl.1 rfl (lv_room (Nat.le_of_ble_eq_true rfl)) dX0_rays_37 ⟨Nat.le_refl _, Nat.le_refl _⟩) ?_
      refine x_ifb_eq (tgt := 47) hx hb dX0_rays_40 (by decide) (fun _ => ?_) (fun h => by cases h)
      refine lv_iconst (v := nI 0) hx hb dX0_rays_47 (by decide) ?_
      refine x_addN hx hb dX0_rays_48 ?_
      refine lv_istore_n (lv' := [(1, .int (nI (a + 0))), (0, .ref x0), (2, .int (nI k))]) hx hb dX0_rays_49 rfl hl (by decide) rfl (fun ls hl => ?_)
      refine lv_iinc (v := nI (k + 1)) (lv' := [(2, .int (nI (k + 1))), (1, .int (nI (a + 0))), (0, .ref x0)]) hx hb dX0_rays_50 hl (k := 2) rfl (nI_1 k) (by decide) rfl (fun ls hl => ?_)
      refine lv_goto (tgt := 4) hx hb dX0_rays_53 (by decide) ?_
      refine ih ls ?_
      show lv_has ls 3 [(0, .ref x0), (1, .int (nI ((mRyS row) k a))), (2, .int (nI (k + 1)))]
      rw [show nI ((mRyS row) k a) = nI (a + 0) from (congrArg nI (ry_P hrj))]
      exact lv_sub hl [2, 1, 0] rfl
  · intro ls hl
    have hl : lv_has ls 3 [(0, .ref x0), (1, .int (nI (mRays row q2))), (2, .int (nI q2))] := hl
    show W p l e (rmR 3 120) s m ([.ref x0]).toArray below meth c s.heap [] 0 0 (MQ below (QRet (some (.int (nI (mRays row q2))))) ([.ref x0]).toArray s 0 0 (fun _ => False)) (F0 m 4 ls [])
    refine lv_iload_n hx hb dX0_rays_4 rfl (lv_at hl 2 rfl) ?_
    refine lv_aload_n hx hb dX0_rays_5 rfl (lv_at hl 0 rfl) ?_
    refine va_get (D := D) (ci := 0) (C := RX0) (T := TX0) (N := 4) hx hb hts in_X0 hown K hP 0 rfl rfl 0 (by decide) (hts _ q222) (fun _ h9 => h9) rfl dX0_rays_6 ?_
    refine va_getN (D := D) (ci := 1) (C := RX1) (T := TX1) (N := 4) hx hb hts in_X1 hown K hP 1 rfl rfl 1 (by decide) (va_Nw.use rfl (G.1.2.1 _ q174 rfl)) (fun _ h9 => h9) rfl dX0_rays_9 ?_
    refine x_ret5 (va_runF ((K.1 4 _ rfl).2) (As := []) (rest := [.int (nI q2)]) S (xl_size l D dA E ad sz0 mi lq md (.ref d2) q2) (va_cwF 0 hts (lw_F (x := ⟨"java/util/List", "size", "()I"⟩) (y := yJ2_size) q348 q351 q353 q64 q355) rfl rfl rfl (fwk_0 G.1.2.2.1) (by decide +kernel) ⟨Nat.le_of_ble_eq_true rfl, Nat.le_of_ble_eq_true rfl⟩) ⟨bb_blind g1_bl _, va_recv K hP (ci := 4) (q0 := 7) rfl rfl, bb_pre (g1_mv G (fun _ _ => rfl) (Nat.le_refl _)) (hP.sub [7] rfl) _⟩ rfl rfl hl.1 rfl (lv_room (Nat.le_of_ble_eq_true rfl)) dX0_rays_12 ⟨Nat.le_refl _, Nat.le_refl _⟩) ?_
    refine lv_icmp_ge (tgt := 56) hx hb dX0_rays_17 (by decide) (fun _ => ?_) (fun h => absurd (nI_le (by omega) (by omega)) h)
    refine lv_iload_n hx hb dX0_rays_56 rfl (lv_at hl 1 rfl) ?_
    exact x_iret hx hb hrt hlk rfl dX0_rays_57

set_option maxHeartbeats 4000000 in
theorem xq_routes (l : Launch) (D : va_G) (dA : Nat → ClassId) (E : Nat) (ad : Nat → Nat) (sz0 mi : Nat) (x0 hi tb : Nat) (snv : Value) (sa la lp lx ld lr lq : Nat) (row : Nat → Int32) {n cu : Nat} (hn : n ≤ 7) (hcu : cu ≤ 8) (bs sp md : Int32) (d2 q2 p2 : Nat) (f2 : Nat → Option Nat) (FZ : va_W) (hq : q2 ≤ p2 ∧ p2 ≤ 64) (hco : CutsOk dA FZ row cu q2 f2)  : RO l yX0_routes cX0_routes 4 (some .int) 1 40 [.ref x0] (G1 D dA E ad sz0 mi) (fun H => va_P D vwCl [(x0, .inr (0, [.ref sa, snv, .ref hi, .ref tb])), (sa, .inr (1, [.ref la, .ref lq, .int bs, .int sp])), (la, .inr (2, [.ref lp, .ref lx, .ref ld, .ref lr, .int (nI n), .int (nI cu), .int (row 2)])), (lp, .inl (dA 0, 7, .inl (fun k => row (6 + k)))), (lx, .inl (dA 0, 7, .inl (fun k => row (77 + k)))), (ld, .inl (dA 0, 8, .inl (fun k => row (13 + k)))), (lr, .inl (dA 0, 56, .inl (fun k => row (21 + k)))), (lq, .inr (4, [.int md, .ref d2, .int (nI q2)])), (d2, .inl (dA 1, p2, .inr (.inr (.inr (.inr f2)))))] H ∧ va_P D vwCl FZ H) (some (.int (nI (xRts row n cu)))) := by
  refine ro_of (by decide) (Nat.le_of_ble_eq_true rfl) ?_
  intro p e s m below meth c S hrt hlk G hP ls hl
  obtain ⟨hx, hb, hml, hown, hts⟩ := id S
  obtain ⟨hP, hF⟩ := hP
  have hP : va_P D vwCl [(x0, .inr (0, [.ref sa, snv, .ref hi, .ref tb])), (sa, .inr (1, [.ref la, .ref lq, .int bs, .int sp])), (la, .inr (2, [.ref lp, .ref lx, .ref ld, .ref lr, .int (nI n), .int (nI cu), .int (row 2)])), (lp, .inl (dA 0, 7, .inl (fun k => row (6 + k)))), (lx, .inl (dA 0, 7, .inl (fun k => row (77 + k)))), (ld, .inl (dA 0, 8, .inl (fun k => row (13 + k)))), (lr, .inl (dA 0, 56, .inl (fun k => row (21 + k)))), (lq, .inr (4, [.int md, .ref d2, .int (nI q2)])), (d2, .inl (dA 1, p2, .inr (.inr (.inr (.inr f2)))))] s.heap := hP
  have K := G.1.1
  have h2n := pow7 hn
  have hl : lv_has ls 4 [(0, .ref x0)] := hl
  refine lv_iconst (v := nI 0) hx hb dX0_routes_0 (by decide) ?_
  refine lv_istore_n (lv' := [(1, .int (nI 0)), (0, .ref x0)]) hx hb dX0_routes_1 rfl hl (by decide) rfl (fun ls hl => ?_)
  refine lv_iconst (v := nI 0) hx hb dX0_routes_2 (by decide) ?_
  refine lv_istore_n (lv' := [(2, .int (nI 0)), (1, .int (nI 0)), (0, .ref x0)]) hx hb dX0_routes_3 rfl hl (by decide) rfl (fun ls hl => ?_)
  refine lpI (fun s a => iter (xRtS row s) cu 0 a) 0 n (fun s0 a ls => lv_has ls 4 [(0, .ref x0), (1, .int (nI a)), (2, .int (nI s0))]) (fun ls => W p l e (rmR 1 40) s m ([.ref x0]).toArray below meth c s.heap [] 0 0 (MQ below (QRet (some (.int (nI (xRts row n cu))))) ([.ref x0]).toArray s 0 0 (fun _ => False)) (F0 m 4 ls [])) ?_ ?_ ls (lv_sub hl [2, 1, 0] rfl)
  · intro s0 ls hk_1 hl ih
    generalize iter (fun s a => iter (xRtS row s) cu 0 a) s0 0 0 = a at *
    have hl : lv_has ls 4 [(0, .ref x0), (1, .int (nI a)), (2, .int (nI s0))] := hl
    show W p l e (rmR 1 40) s m ([.ref x0]).toArray below meth c s.heap [] 0 0 (MQ below (QRet (some (.int (nI (xRts row n cu))))) ([.ref x0]).toArray s 0 0 (fun _ => False)) (F0 m 4 ls [])
    refine lv_iload_n hx hb dX0_routes_4 rfl (lv_at hl 2 rfl) ?_
    refine lv_aload_n hx hb dX0_routes_5 rfl (lv_at hl 0 rfl) ?_
    refine va_get (D := D) (ci := 0) (C := RX0) (T := TX0) (N := 4) hx hb hts in_X0 hown K hP 0 rfl rfl 0 (by decide) (hts _ q222) (fun _ h9 => h9) rfl dX0_routes_6 ?_
    refine va_getN (D := D) (ci := 1) (C := RX1) (T := TX1) (N := 4) hx hb hts in_X1 hown K hP 1 rfl rfl 0 (by decide) (va_Nw.use rfl (G.1.2.1 _ q172 rfl)) (fun _ h9 => h9) rfl dX0_routes_9 ?_
    refine va_getN (D := D) (ci := 2) (C := RX2) (T := TX2) (N := 7) hx hb hts in_X2 hown K hP 2 rfl rfl 4 (by decide) (va_Nw.use rfl (G.1.2.1 _ q120 rfl)) (fun _ h9 => h9) rfl dX0_routes_12 ?_
    refine lv_icmp_ge (tgt := 71) hx hb dX0_routes_15 (by decide) (fun h => absurd h (nI_ge hk_1 (by omega))) (fun _ => ?_)
    refine lv_iconst (v := nI 0) hx hb dX0_routes_18 (by decide) ?_
    refine lv_istore_n (lv' := [(3, .int (nI 0)), (0, .ref x0), (1, .int (nI a)), (2, .int (nI s0))]) hx hb dX0_routes_19 rfl hl (by decide) rfl (fun ls hl => ?_)
    refine lpI (xRtS row s0) a cu (fun k b ls => lv_has ls 4 [(0, .ref x0), (1, .int (nI b)), (2, .int (nI s0)), (3, .int (nI k))]) (fun ls => W p l e (rmR 1 40) s m ([.ref x0]).toArray below meth c s.heap [] 0 0 (MQ below (QRet (some (.int (nI (xRts row n cu))))) ([.ref x0]).toArray s 0 0 (fun _ => False)) (F0 m 20 ls [])) ?_ ?_ ls (lv_sub hl [1, 2, 3, 0] rfl)
    · intro k ls hk_3 hl ih
      generalize iter (xRtS row s0) k 0 a = b at *
      have hl : lv_has ls 4 [(0, .ref x0), (1, .int (nI b)), (2, .int (nI s0)), (3, .int (nI k))] := hl
      show W p l e (rmR 1 40) s m ([.ref x0]).toArray below meth c s.heap [] 0 0 (MQ below (QRet (some (.int (nI (xRts row n cu))))) ([.ref x0]).toArray s 0 0 (fun _ => False)) (F0 m 20 ls [])
      refine lv_iload_n hx hb dX0_routes_20 rfl (lv_at hl 3 rfl) ?_
      refine lv_aload_n hx hb dX0_routes_21 rfl (lv_at hl 0 rfl) ?_
      refine va_get (D := D) (ci := 0) (C := RX0) (T := TX0) (N := 4) hx hb hts in_X0 hown K hP 0 rfl rfl 0 (by decide) (hts _ q222) (fun _ h9 => h9) rfl dX0_routes_22 ?_
      refine va_getN (D := D) (ci := 1) (C := RX1) (T := TX1) (N := 4) hx hb hts in_X1 hown K hP 1 rfl rfl 0 (by decide) (va_Nw.use rfl (G.1.2.1 _ q172 rfl)) (fun _ h9 => h9) rfl dX0_routes_25 ?_
      refine va_getN (D := D) (ci := 2) (C := RX2) (T := TX2) (N := 7) hx hb hts in_X2 hown K hP 2 rfl rfl 5 (by decide) (va_Nw.use rfl (G.1.2.1 _ q124 rfl)) (fun _ h9 => h9) rfl dX0_routes_28 ?_
      refine lv_icmp_ge (tgt := 65) hx hb dX0_routes_31 (by decide) (fun h => absurd h (nI_ge hk_3 (by omega))) (fun _ => ?_)
      refine lv_iload_n hx hb dX0_routes_34 rfl (lv_at hl 1 rfl) ?_
      refine lv_aload_n hx hb dX0_routes_35 rfl (lv_at hl 0 rfl) ?_
      refine va_get (D := D) (ci := 0) (C := RX0) (T := TX0) (N := 4) hx hb hts in_X0 hown K hP 0 rfl rfl 0 (by decide) (hts _ q222) (fun _ h9 => h9) rfl dX0_routes_36 ?_
      refine va_getN (D := D) (ci := 1) (C := RX1) (T := TX1) (N := 4) hx hb hts in_X1 hown K hP 1 rfl rfl 0 (by decide) (va_Nw.use rfl (G.1.2.1 _ q172 rfl)) (fun _ h9 => h9) rfl dX0_routes_39 ?_
      refine lv_iload_n hx hb dX0_routes_42 rfl (lv_at hl 2 rfl) ?_
      refine lv_iload_n hx hb dX0_routes_43 rfl (lv_at hl 3 rfl) ?_
      refine x_ret (va_runV (As := [.int (nI s0), .int (nI k)]) (rest := [.int (nI b)]) S (xr_route l D dA E ad sz0 la lp lx ld lr row hn hcu s0 k (by omega) (by omega)) (cwV 2 hts (lw_V q416 q417 q418 q61 q419) rfl rfl rfl hdX2_route ⟨Nat.le_of_ble_eq_true rfl, Nat.le_of_ble_eq_true rfl⟩) ⟨bb_blind g0_bl _, va_recv K hP (ci := 2) (q0 := 2) rfl rfl, bb_pre (g0_mv G.1 (fun _ _ => rfl) (Nat.le_refl _)) (hP.sub [2, 3, 4, 5, 6] rfl) _⟩ rfl rfl hl.1 rfl (lv_room (Nat.le_of_ble_eq_true rfl)) dX0_routes_44 ⟨Nat.le_refl _, Nat.le_refl _⟩) ?_
      refine lv_bipush (v := nI 100) hx hb dX0_routes_47 (by decide) ?_
      refine lv_icmp_ge (tgt := 56) hx hb dX0_routes_49 (by decide) (fun h_5 => ?_) (fun h_5 => ?_)
      · refine lv_iconst (v := nI 0) hx hb dX0_routes_56 (by decide) ?_
        refine x_addN hx hb dX0_routes_57 ?_
        refine lv_istore_n (lv' := [(1, .int (nI (b + 0))), (0, .ref x0), (2, .int (nI s0)), (3, .int (nI k))]) hx hb dX0_routes_58 rfl hl (by decide) rfl (fun ls hl => ?_)
        refine lv_iinc (v := nI (k + 1)) (lv' := [(3, .int (nI (k + 1))), (1, .int (nI (b + 0))), (0, .ref x0), (2, .int (nI s0))]) hx hb dX0_routes_59 hl (k := 3) rfl (nI_1 k) (by decide) rfl (fun ls hl => ?_)
        refine lv_goto (tgt := 20) hx hb dX0_routes_62 (by decide) ?_
        refine ih ls ?_
        show lv_has ls 4 [(0, .ref x0), (1, .int (nI ((xRtS row s0) k b))), (2, .int (nI s0)), (3, .int (nI (k + 1)))]
        rw [show nI ((xRtS row s0) k b) = nI (b + 0) from (by simp [xRtS, h_5])]
        exact lv_sub hl [2, 1, 3, 0] rfl
      · refine lv_iconst (v := nI 1) hx hb dX0_routes_52 (by decide) ?_
        refine lv_goto (tgt := 57) hx hb dX0_routes_53 (by decide) ?_
        refine x_addN hx hb dX0_routes_57 ?_
        refine lv_istore_n (lv' := [(1, .int (nI (b + 1))), (0, .ref x0), (2, .int (nI s0)), (3, .int (nI k))]) hx hb dX0_routes_58 rfl hl (by decide) rfl (fun ls hl => ?_)
        refine lv_iinc (v := nI (k + 1)) (lv' := [(3, .int (nI (k + 1))), (1, .int (nI (b + 1))), (0, .ref x0), (2, .int (nI s0))]) hx hb dX0_routes_59 hl (k := 3) rfl (nI_1 k) (by decide) rfl (fun ls hl => ?_)
        refine lv_goto (tgt := 20) hx hb dX0_routes_62 (by decide) ?_
        refine ih ls ?_
        show lv_has ls 4 [(0, .ref x0), (1, .int (nI ((xRtS row s0) k b))), (2, .int (nI s0)), (3, .int (nI (k + 1)))]
        rw [show nI ((xRtS row s0) k b) = nI (b + 1) from (by simp [xRtS, h_5])]
        exact lv_sub hl [2, 1, 3, 0] rfl
    · intro ls hl
      have hl : lv_has ls 4 [(0, .ref x0), (1, .int (nI (iter (xRtS row s0) cu 0 a))), (2, .int (nI s0)), (3, .int (nI cu))] := hl
      show W p l e (rmR 1 40) s m ([.ref x0]).toArray below meth c s.heap [] 0 0 (MQ below (QRet (some (.int (nI (xRts row n cu))))) ([.ref x0]).toArray s 0 0 (fun _ => False)) (F0 m 20 ls [])
      refine lv_iload_n hx hb dX0_routes_20 rfl (lv_at hl 3 rfl) ?_
      refine lv_aload_n hx hb dX0_routes_21 rfl (lv_at hl 0 rfl) ?_
      refine va_get (D := D) (ci := 0) (C := RX0) (T := TX0) (N := 4) hx hb hts in_X0 hown K hP 0 rfl rfl 0 (by decide) (hts _ q222) (fun _ h9 => h9) rfl dX0_routes_22 ?_
      refine va_getN (D := D) (ci := 1) (C := RX1) (T := TX1) (N := 4) hx hb hts in_X1 hown K hP 1 rfl rfl 0 (by decide) (va_Nw.use rfl (G.1.2.1 _ q172 rfl)) (fun _ h9 => h9) rfl dX0_routes_25 ?_
      refine va_getN (D := D) (ci := 2) (C := RX2) (T := TX2) (N := 7) hx hb hts in_X2 hown K hP 2 rfl rfl 5 (by decide) (va_Nw.use rfl (G.1.2.1 _ q124 rfl)) (fun _ h9 => h9) rfl dX0_routes_28 ?_
      refine lv_icmp_ge (tgt := 65) hx hb dX0_routes_31 (by decide) (fun _ => ?_) (fun h => absurd (nI_le (by omega) (by omega)) h)
      refine lv_iinc (v := nI (s0 + 1)) (lv' := [(2, .int (nI (s0 + 1))), (0, .ref x0), (1, .int (nI (iter (xRtS row s0) cu 0 a))), (3, .int (nI cu))]) hx hb dX0_routes_65 hl (k := 2) rfl (nI_1 s0) (by decide) rfl (fun ls hl => ?_)
      refine lv_goto (tgt := 4) hx hb dX0_routes_68 (by decide) ?_
      refine ih ls ?_
      show lv_has ls 4 [(0, .ref x0), (1, .int (nI ((fun s a => iter (xRtS row s) cu 0 a) s0 a))), (2, .int (nI (s0 + 1)))]
      rw [show nI ((fun s a => iter (xRtS row s) cu 0 a) s0 a) = nI (iter (xRtS row s0) cu 0 a) from (by simp [xRtS])]
      exact lv_sub hl [1, 2, 0] rfl
  · intro ls hl
    have hl : lv_has ls 4 [(0, .ref x0), (1, .int (nI (xRts row n cu))), (2, .int (nI n))] := hl
    show W p l e (rmR 1 40) s m ([.ref x0]).toArray below meth c s.heap [] 0 0 (MQ below (QRet (some (.int (nI (xRts row n cu))))) ([.ref x0]).toArray s 0 0 (fun _ => False)) (F0 m 4 ls [])
    refine lv_iload_n hx hb dX0_routes_4 rfl (lv_at hl 2 rfl) ?_
    refine lv_aload_n hx hb dX0_routes_5 rfl (lv_at hl 0 rfl) ?_
    refine va_get (D := D) (ci := 0) (C := RX0) (T := TX0) (N := 4) hx hb hts in_X0 hown K hP 0 rfl rfl 0 (by decide) (hts _ q222) (fun _ h9 => h9) rfl dX0_routes_6 ?_
    refine va_getN (D := D) (ci := 1) (C := RX1) (T := TX1) (N := 4) hx hb hts in_X1 hown K hP 1 rfl rfl 0 (by decide) (va_Nw.use rfl (G.1.2.1 _ q172 rfl)) (fun _ h9 => h9) rfl dX0_routes_9 ?_
    refine va_getN (D := D) (ci := 2) (C := RX2) (T := TX2) (N := 7) hx hb hts in_X2 hown K hP 2 rfl rfl 4 (by decide) (va_Nw.use rfl (G.1.2.1 _ q120 rfl)) (fun _ h9 => h9) rfl dX0_routes_12 ?_
    refine lv_icmp_ge (tgt := 71) hx hb dX0_routes_15 (by decide) (fun _ => ?_) (fun h => absurd (nI_le (by omega) (by omega)) h)
    refine lv_iload_n hx hb dX0_routes_71 rfl (lv_at hl 1 rfl) ?_
    exact x_iret hx hb hrt hlk rfl dX0_routes_72

set_option maxHeartbeats 4000000 in
theorem xq_count (l : Launch) (D : va_G) (dA : Nat → ClassId) (E : Nat) (ad : Nat → Nat) (sz0 mi : Nat) (x0 hi tb : Nat) (snv : Value) (sa la lp lx ld lr lq : Nat) (row : Nat → Int32) {n cu : Nat} (hn : n ≤ 7) (hcu : cu ≤ 8) (bs sp md : Int32) (d2 q2 p2 : Nat) (f2 : Nat → Option Nat) (FZ : va_W) (hq : q2 ≤ p2 ∧ p2 ≤ 64) (hco : CutsOk dA FZ row cu q2 f2)  (mh : Int32) (dvh : Value) (hs : Nat) (ut : TU) (mb : Int32) (ln : Nat) (ch : Nat → Nat) (htx : TxOk ut ch ln) (w : MWf row n cu q2) (hsp : sp = row 5) (hex : ∀ s, s < 7 → ∃ x, x < 128 ∧ row (77 + s) = nI x) (hro : RtOk row n cu) (x : Int32) : RO l yX0_count cX0_count 2 (some .int) 4 160 [.ref x0, .int x] (G1 D dA E ad sz0 mi) (fun H => va_P D vwCl [(x0, .inr (0, [.ref sa, snv, .ref hi, .ref tb])), (sa, .inr (1, [.ref la, .ref lq, .int bs, .int sp])), (la, .inr (2, [.ref lp, .ref lx, .ref ld, .ref lr, .int (nI n), .int (nI cu), .int (row 2)])), (lp, .inl (dA 0, 7, .inl (fun k => row (6 + k)))), (lx, .inl (dA 0, 7, .inl (fun k => row (77 + k)))), (ld, .inl (dA 0, 8, .inl (fun k => row (13 + k)))), (lr, .inl (dA 0, 56, .inl (fun k => row (21 + k)))), (lq, .inr (4, [.int md, .ref d2, .int (nI q2)])), (d2, .inl (dA 1, p2, .inr (.inr (.inr (.inr f2))))), (hi, .inr (4, [.int mh, dvh, .int (nI hs)])), (tb, .inr (10, [.ref ut.2.1, .int (nI (bif ut.1 then 1 else 0)), .int mb, .int (nI ln)])), (ut.2.1, .inl (dA 2, (bif ut.1 then 2 * ut.2.2.1 else ut.2.2.1), .inl ut.2.2.2))] H ∧ va_P D vwCl FZ H) (some (.int (rCount row n q2 (nI hs) (nI ln) x))) := by
  refine ro_of (by decide) (Nat.le_of_ble_eq_true rfl) ?_
  intro p e s m below meth c S hrt hlk G hP ls hl
  obtain ⟨hx, hb, hml, hown, hts⟩ := id S
  obtain ⟨hP, hF⟩ := hP
  have hP : va_P D vwCl [(x0, .inr (0, [.ref sa, snv, .ref hi, .ref tb])), (sa, .inr (1, [.ref la, .ref lq, .int bs, .int sp])), (la, .inr (2, [.ref lp, .ref lx, .ref ld, .ref lr, .int (nI n), .int (nI cu), .int (row 2)])), (lp, .inl (dA 0, 7, .inl (fun k => row (6 + k)))), (lx, .inl (dA 0, 7, .inl (fun k => row (77 + k)))), (ld, .inl (dA 0, 8, .inl (fun k => row (13 + k)))), (lr, .inl (dA 0, 56, .inl (fun k => row (21 + k)))), (lq, .inr (4, [.int md, .ref d2, .int (nI q2)])), (d2, .inl (dA 1, p2, .inr (.inr (.inr (.inr f2))))), (hi, .inr (4, [.int mh, dvh, .int (nI hs)])), (tb, .inr (10, [.ref ut.2.1, .int (nI (bif ut.1 then 1 else 0)), .int mb, .int (nI ln)])), (ut.2.1, .inl (dA 2, (bif ut.1 then 2 * ut.2.2.1 else ut.2.2.1), .inl ut.2.2.2))] s.heap := hP
  have K := G.1.1
  have h2n := pow7 hn
  have hl : lv_has ls 2 [(0, .ref x0), (1, .int x)] := hl
  refine lv_iload_n hx hb dX0_count_0 rfl (lv_at hl 1 rfl) ?_
  rcases sw10 x with h_1 | rfl | rfl | rfl | rfl | rfl | rfl | rfl | rfl | rfl | rfl
  · refine lv_tableOut (tgt := 143) hx hb dX0_count_1 (sw_out (N := 10) rfl h_1) (by decide) ?_
    refine lv_bipush (v := -2) hx hb dX0_count_143 (by decide) ?_
    exact x_iret hx hb hrt hlk (rc_out h_1) dX0_count_145
  · refine lv_tableIn (tgt := 56) hx hb dX0_count_1 (by decide) (by decide) rfl (by decide) ?_
    refine lv_aload_n hx hb dX0_count_56 rfl (lv_at hl 0 rfl) ?_
    refine va_get (D := D) (ci := 0) (C := RX0) (T := TX0) (N := 4) hx hb hts in_X0 hown K hP 0 rfl rfl 0 (by decide) (hts _ q222) (fun _ h9 => h9) rfl dX0_count_57 ?_
    refine va_getN (D := D) (ci := 1) (C := RX1) (T := TX1) (N := 4) hx hb hts in_X1 hown K hP 1 rfl rfl 0 (by decide) (va_Nw.use rfl (G.1.2.1 _ q172 rfl)) (fun _ h9 => h9) rfl dX0_count_60 ?_
    refine va_getN (D := D) (ci := 2) (C := RX2) (T := TX2) (N := 7) hx hb hts in_X2 hown K hP 2 rfl rfl 4 (by decide) (va_Nw.use rfl (G.1.2.1 _ q120 rfl)) (fun _ h9 => h9) rfl dX0_count_63 ?_
    exact x_iret hx hb hrt hlk (rc_0 w) dX0_count_66
  · refine lv_tableIn (tgt := 67) hx hb dX0_count_1 (by decide) (by decide) rfl (by decide) ?_
    refine lv_aload_n hx hb dX0_count_67 rfl (lv_at hl 0 rfl) ?_
    refine va_get (D := D) (ci := 0) (C := RX0) (T := TX0) (N := 4) hx hb hts in_X0 hown K hP 0 rfl rfl 0 (by decide) (hts _ q222) (fun _ h9 => h9) rfl dX0_count_68 ?_
    refine va_getN (D := D) (ci := 1) (C := RX1) (T := TX1) (N := 4) hx hb hts in_X1 hown K hP 1 rfl rfl 0 (by decide) (va_Nw.use rfl (G.1.2.1 _ q172 rfl)) (fun _ h9 => h9) rfl dX0_count_71 ?_
    refine va_getN (D := D) (ci := 2) (C := RX2) (T := TX2) (N := 7) hx hb hts in_X2 hown K hP 2 rfl rfl 5 (by decide) (va_Nw.use rfl (G.1.2.1 _ q124 rfl)) (fun _ h9 => h9) rfl dX0_count_74 ?_
    exact x_iret hx hb hrt hlk (rc_1 w) dX0_count_77
  · refine lv_tableIn (tgt := 78) hx hb dX0_count_1 (by decide) (by decide) rfl (by decide) ?_
    refine lv_aload_n hx hb dX0_count_78 rfl (lv_at hl 0 rfl) ?_
    refine x_ret (va_runV (As := []) (rest := []) S (xq_routes l D dA E ad sz0 mi x0 hi tb snv sa la lp lx ld lr lq row hn hcu bs sp md d2 q2 p2 f2 FZ hq hco ) (cwV 0 hts (lw_V q1057 q1059 qs21 q59 q1060) rfl rfl rfl hdX0_routes ⟨Nat.le_of_ble_eq_true rfl, Nat.le_of_ble_eq_true rfl⟩) ⟨bb_blind g1_bl _, va_recv K hP (ci := 0) (q0 := 0) rfl rfl, bb_pre (g1_mv G (fun _ _ => rfl) (Nat.le_refl _)) ⟨hP.sub [0, 1, 2, 3, 4, 5, 6, 7, 8] rfl, hF⟩ _⟩ rfl rfl hl.1 rfl (lv_room (Nat.le_of_ble_eq_true rfl)) dX0_count_79 ⟨Nat.le_refl _, Nat.le_refl _⟩) ?_
    exact x_iret hx hb hrt hlk (rc_2 w hro) dX0_count_82
  · refine lv_tableIn (tgt := 83) hx hb dX0_count_1 (by decide) (by decide) rfl (by decide) ?_
    refine lv_aload_n hx hb dX0_count_83 rfl (lv_at hl 0 rfl) ?_
    refine va_get (D := D) (ci := 0) (C := RX0) (T := TX0) (N := 4) hx hb hts in_X0 hown K hP 0 rfl rfl 0 (by decide) (hts _ q222) (fun _ h9 => h9) rfl dX0_count_84 ?_
    refine va_getN (D := D) (ci := 1) (C := RX1) (T := TX1) (N := 4) hx hb hts in_X1 hown K hP 1 rfl rfl 0 (by decide) (va_Nw.use rfl (G.1.2.1 _ q172 rfl)) (fun _ h9 => h9) rfl dX0_count_87 ?_
    refine va_getN (D := D) (ci := 2) (C := RX2) (T := TX2) (N := 7) hx hb hts in_X2 hown K hP 2 rfl rfl 6 (by decide) (va_Nw.use rfl (G.1.2.1 _ q128 rfl)) (fun _ h9 => h9) rfl dX0_count_90 ?_
    exact x_iret hx hb hrt hlk (rc_3 w) dX0_count_93
  · refine lv_tableIn (tgt := 94) hx hb dX0_count_1 (by decide) (by decide) rfl (by decide) ?_
    refine lv_aload_n hx hb dX0_count_94 rfl (lv_at hl 0 rfl) ?_
    refine x_ret (va_runV (As := []) (rest := []) S (xq_pairs l D dA E ad sz0 mi x0 hi tb snv sa la lp lx ld lr lq row hn hcu bs sp md d2 q2 p2 f2 FZ hq hco hex) (cwV 0 hts (lw_V q1061 q1063 qs22 q59 q1064) rfl rfl rfl hdX0_pairs ⟨Nat.le_of_ble_eq_true rfl, Nat.le_of_ble_eq_true rfl⟩) ⟨bb_blind g1_bl _, va_recv K hP (ci := 0) (q0 := 0) rfl rfl, bb_pre (g1_mv G (fun _ _ => rfl) (Nat.le_refl _)) ⟨hP.sub [0, 1, 2, 3, 4, 5, 6, 7, 8] rfl, hF⟩ _⟩ rfl rfl hl.1 rfl (lv_room (Nat.le_of_ble_eq_true rfl)) dX0_count_95 ⟨Nat.le_refl _, Nat.le_refl _⟩) ?_
    exact x_iret hx hb hrt hlk (rc_4 w) dX0_count_98
  · refine lv_tableIn (tgt := 99) hx hb dX0_count_1 (by decide) (by decide) rfl (by decide) ?_
    refine lv_aload_n hx hb dX0_count_99 rfl (lv_at hl 0 rfl) ?_
    refine va_get (D := D) (ci := 0) (C := RX0) (T := TX0) (N := 4) hx hb hts in_X0 hown K hP 0 rfl rfl 0 (by decide) (hts _ q222) (fun _ h9 => h9) rfl dX0_count_100 ?_
    refine va_getN (D := D) (ci := 1) (C := RX1) (T := TX1) (N := 4) hx hb hts in_X1 hown K hP 1 rfl rfl 1 (by decide) (va_Nw.use rfl (G.1.2.1 _ q174 rfl)) (fun _ h9 => h9) rfl dX0_count_103 ?_
    refine x_ret5 (va_runF ((K.1 4 _ rfl).2) (As := []) (rest := []) S (xl_size l D dA E ad sz0 mi lq md (.ref d2) q2) (va_cwF 0 hts (lw_F (x := ⟨"java/util/List", "size", "()I"⟩) (y := yJ2_size) q348 q351 q353 q64 q355) rfl rfl rfl (fwk_0 G.1.2.2.1) (by decide +kernel) ⟨Nat.le_of_ble_eq_true rfl, Nat.le_of_ble_eq_true rfl⟩) ⟨bb_blind g1_bl _, va_recv K hP (ci := 4) (q0 := 7) rfl rfl, bb_pre (g1_mv G (fun _ _ => rfl) (Nat.le_refl _)) (hP.sub [7] rfl) _⟩ rfl rfl hl.1 rfl (lv_room (Nat.le_of_ble_eq_true rfl)) dX0_count_106 ⟨Nat.le_refl _, Nat.le_refl _⟩) ?_
    exact x_iret hx hb hrt hlk (rc_5 w) dX0_count_111
  · refine lv_tableIn (tgt := 112) hx hb dX0_count_1 (by decide) (by decide) rfl (by decide) ?_
    refine lv_aload_n hx hb dX0_count_112 rfl (lv_at hl 0 rfl) ?_
    refine x_ret (va_runV (As := []) (rest := []) S (xq_rays l D dA E ad sz0 mi x0 hi tb snv sa la lp lx ld lr lq row hn hcu bs sp md d2 q2 p2 f2 FZ hq hco ) (cwV 0 hts (lw_V q1065 q1067 qs23 q59 q1068) rfl rfl rfl hdX0_rays ⟨Nat.le_of_ble_eq_true rfl, Nat.le_of_ble_eq_true rfl⟩) ⟨bb_blind g1_bl _, va_recv K hP (ci := 0) (q0 := 0) rfl rfl, bb_pre (g1_mv G (fun _ _ => rfl) (Nat.le_refl _)) ⟨hP.sub [0, 1, 2, 3, 4, 5, 6, 7, 8] rfl, hF⟩ _⟩ rfl rfl hl.1 rfl (lv_room (Nat.le_of_ble_eq_true rfl)) dX0_count_113 ⟨Nat.le_refl _, Nat.le_refl _⟩) ?_
    exact x_iret hx hb hrt hlk (rc_6 w) dX0_count_116
  · refine lv_tableIn (tgt := 117) hx hb dX0_count_1 (by decide) (by decide) rfl (by decide) ?_
    refine lv_aload_n hx hb dX0_count_117 rfl (lv_at hl 0 rfl) ?_
    refine va_get (D := D) (ci := 0) (C := RX0) (T := TX0) (N := 4) hx hb hts in_X0 hown K hP 0 rfl rfl 0 (by decide) (hts _ q222) (fun _ h9 => h9) rfl dX0_count_118 ?_
    refine va_getN (D := D) (ci := 1) (C := RX1) (T := TX1) (N := 4) hx hb hts in_X1 hown K hP 1 rfl rfl 3 (by decide) (va_Nw.use rfl (G.1.2.1 _ q178 rfl)) (fun _ h9 => h9) rfl dX0_count_121 ?_
    exact x_iret hx hb hrt hlk (rc_7 w hsp) dX0_count_124
  · refine lv_tableIn (tgt := 125) hx hb dX0_count_1 (by decide) (by decide) rfl (by decide) ?_
    refine lv_aload_n hx hb dX0_count_125 rfl (lv_at hl 0 rfl) ?_
    refine va_get (D := D) (ci := 0) (C := RX0) (T := TX0) (N := 4) hx hb hts in_X0 hown K hP 0 rfl rfl 2 (by decide) (hts _ q224) (fun _ h9 => h9) rfl dX0_count_126 ?_
    refine x_ret5 (va_runF ((K.1 4 _ rfl).2) (As := []) (rest := []) S (xl_size l D dA E ad sz0 mi hi mh dvh hs) (va_cwF 0 hts (lw_F (x := ⟨"java/util/List", "size", "()I"⟩) (y := yJ2_size) q348 q351 q353 q64 q355) rfl rfl rfl (fwk_0 G.1.2.2.1) (by decide +kernel) ⟨Nat.le_of_ble_eq_true rfl, Nat.le_of_ble_eq_true rfl⟩) ⟨bb_blind g1_bl _, va_recv K hP (ci := 4) (q0 := 9) rfl rfl, bb_pre (g1_mv G (fun _ _ => rfl) (Nat.le_refl _)) (hP.sub [9] rfl) _⟩ rfl rfl hl.1 rfl (lv_room (Nat.le_of_ble_eq_true rfl)) dX0_count_129 ⟨Nat.le_refl _, Nat.le_refl _⟩) ?_
    exact x_iret hx hb hrt hlk (rc_8 w) dX0_count_134
  · refine lv_tableIn (tgt := 135) hx hb dX0_count_1 (by decide) (by decide) rfl (by decide) ?_
    refine lv_aload_n hx hb dX0_count_135 rfl (lv_at hl 0 rfl) ?_
    refine va_get (D := D) (ci := 0) (C := RX0) (T := TX0) (N := 4) hx hb hts in_X0 hown K hP 0 rfl rfl 3 (by decide) (hts _ q225) (fun _ h9 => h9) rfl dX0_count_136 ?_
    refine x_ret (va_runV (As := []) (rest := []) S (xv_len l D dA E ad sz0 mi tb ut mb ln ch htx) (cwV 0 hts (lw_V q817 q679 q1374 q66 q681) rfl rfl rfl hdJ4_length ⟨Nat.le_of_ble_eq_true rfl, Nat.le_of_ble_eq_true rfl⟩) ⟨bb_blind g1_bl _, va_recv K hP (ci := 10) (q0 := 10) rfl rfl, bb_pre (g1_mv G (fun _ _ => rfl) (Nat.le_refl _)) (hP.sub [10, 11] rfl) _⟩ rfl rfl hl.1 rfl (lv_room (Nat.le_of_ble_eq_true rfl)) dX0_count_139 ⟨Nat.le_refl _, Nat.le_refl _⟩) ?_
    exact x_iret hx hb hrt hlk (rc_9 w) dX0_count_142

