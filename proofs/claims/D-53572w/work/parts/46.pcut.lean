def pNums (row : Nat → Int32) (n cu pl : Nat) : Nat → Int32 := fun j => if j < cu then row (21 + 8 * (mServer row n pl j).getD 0 + j) else 0

set_option maxHeartbeats 4000000 in
theorem xs_priceCut (l : Launch) (D : va_G) (dA : Nat → ClassId) (E : Nat) (ad : Nat → Nat) (sz0 mi : Nat) (sa la lp lx ld lr lq : Nat) (row : Nat → Int32) {n cu : Nat} (hn : n ≤ 7) (hcu : cu ≤ 8) (bs sp md : Int32) (d2 q2 p2 : Nat) (f2 : Nat → Option Nat) (pl : Nat) (hp : pl < 128) (hsv : ∀ c, c < cu → ∃ s, mServer row n pl c = some s) (hup : Up sz0 ([])) : EX l yX1_priceCut cX1_priceCut 4 (some (.object "SiteCuts$Cut")) 3 120 2 10 [.ref sa, .int (nI pl)] (G1 D dA E ad sz0 mi) D ([]) (fun H => va_P D vwCl [(sa, .inr (1, [.ref la, .ref lq, .int bs, .int sp])), (la, .inr (2, [.ref lp, .ref lx, .ref ld, .ref lr, .int (nI n), .int (nI cu), .int (row 2)])), (lp, .inl (dA 0, 7, .inl (fun k => row (6 + k)))), (lx, .inl (dA 0, 7, .inl (fun k => row (77 + k)))), (ld, .inl (dA 0, 8, .inl (fun k => row (13 + k)))), (lr, .inl (dA 0, 56, .inl (fun k => row (21 + k)))), (lq, .inr (4, [.int md, .ref d2, .int (nI q2)])), (d2, .inl (dA 1, p2, .inr (.inr (.inr (.inr f2)))))] H) (S := Nat × Nat) (fun _ _ => True) (fun u => some (.ref u.1)) (fun u => kP dA 5 u.1 u.2 (pNums row n cu pl)) := by
  refine ex_of (by decide) (Nat.le_of_ble_eq_true rfl) ?_
  intro p e s m below meth c A S hrt hlk hnm G hA hAe hΦ H locs hP hD hS ls hl
  obtain ⟨hx, hb, hml, hown, hts⟩ := id S
  have hsrc := hΦ
  have K := G.1.1
  have hA0 := up_A hup G.1.2.2.2.2.2.2 hAe
  have hsA := ap_A hsrc (fun _ _ _ h => by cases h) hAe
  have hP : va_P D vwCl [] H := hP
  have hD : va_D A [] := hD
  have hl : lv_has ls 4 [(0, .ref sa), (1, .int (nI pl))] := hl
  refine lv_bipush (v := nI 8) hx hb dX1_priceCut_0 (by decide) ?_
  refine x_newa (atype := .int) (N := 8) hx hb (hts _ q144) (ty := .int) rfl K hP hD hS hA 0 rfl (fun _ => rfl) rfl (by decide) (by decide) (Nat.le_of_ble_eq_true rfl) (Nat.le_of_ble_eq_true rfl) dX1_priceCut_2 (fun kn H hP hD hS => ?_)
  have hP : va_P D vwCl [(kn, .inl (dA 0, 8, .inl (fun _ => 0)))] H := hP
  have hD : va_D A [(kn, .inl (dA 0, 8, .inl (fun _ => 0)))] := hD
  refine W.widen (k := 1) (n := 8) (Nat.le_of_ble_eq_true rfl) (Nat.le_of_ble_eq_true rfl) ?_
  refine lv_astore_n (lv' := [(2, .ref kn), (0, .ref sa), (1, .int (nI pl))]) hx hb dX1_priceCut_4 rfl hl (by decide) rfl (fun ls hl => ?_)
  refine lv_iconst (v := nI 0) hx hb dX1_priceCut_5 (by decide) ?_
  refine lv_istore_n (lv' := [(3, .int (nI 0)), (2, .ref kn), (0, .ref sa), (1, .int (nI pl))]) hx hb dX1_priceCut_6 rfl hl (by decide) rfl (fun ls hl => ?_)
  refine lpW (fun k g => upd g k (row (21 + 8 * (mServer row n pl k).getD 0 + k))) (fun _ => 0) cu (fun k g ls H locs => lv_has ls 4 [(0, .ref sa), (1, .int (nI pl)), (2, .ref kn), (3, .int (nI k))] ∧ va_P D vwCl [(kn, .inl (dA 0, 8, .inl g))] H ∧ va_D A [(kn, .inl (dA 0, 8, .inl g))] ∧ va_S A s.heap H locs) (fun ls H locs => W p l e (rmW 3 120 2 10) s m ([.ref sa, .int (nI pl)]).toArray below meth c H locs 1 8 (MQ below (QE (S := Nat × Nat) (fun _ _ => True) (fun u => some (.ref u.1)) D (fun u => kP dA 5 u.1 u.2 (pNums row n cu pl)) A) ([.ref sa, .int (nI pl)]).toArray s 2 10 A) (F0 m 7 ls [])) ?_ ?_ ls H locs ⟨lv_sub hl [2, 3, 1, 0] rfl, hP, hD, hS⟩
  · intro k ls H locs hk_1 hI ih
    obtain ⟨sv, hsv1⟩ := hsv k hk_1
    generalize iter (fun k g => upd g k (row (21 + 8 * (mServer row n pl k).getD 0 + k))) k 0 (fun _ => 0) = g at *
    obtain ⟨hl, hP, hD, hS⟩ := hI
    have hl : lv_has ls 4 [(0, .ref sa), (1, .int (nI pl)), (2, .ref kn), (3, .int (nI k))] := hl
    have hP : va_P D vwCl [(kn, .inl (dA 0, 8, .inl g))] H := hP
    have hD : va_D A [(kn, .inl (dA 0, 8, .inl g))] := hD
    show W p l e (rmW 3 120 2 10) s m ([.ref sa, .int (nI pl)]).toArray below meth c H locs 1 8 (MQ below (QE (S := Nat × Nat) (fun _ _ => True) (fun u => some (.ref u.1)) D (fun u => kP dA 5 u.1 u.2 (pNums row n cu pl)) A) ([.ref sa, .int (nI pl)]).toArray s 2 10 A) (F0 m 7 ls [])
    refine lv_iload_n hx hb dX1_priceCut_7 rfl (lv_at hl 3 rfl) ?_
    refine lv_aload_n hx hb dX1_priceCut_8 rfl (lv_at hl 0 rfl) ?_
    refine va_get (D := D) (ci := 1) (C := RX1) (T := TX1) (N := 4) hx hb hts in_X1 hown K (fz_S hsrc hsA hS) 0 rfl rfl 0 (by decide) (hts _ q171) (fun _ h9 => h9) rfl dX1_priceCut_9 ?_
    refine va_getN (D := D) (ci := 2) (C := RX2) (T := TX2) (N := 7) hx hb hts in_X2 hown K (fz_S hsrc hsA hS) 1 rfl rfl 5 (by decide) (va_Nw.use rfl (G.1.2.1 _ q125 rfl)) (fun _ h9 => h9) rfl dX1_priceCut_12 ?_
    refine lv_icmp_ge (tgt := 44) hx hb dX1_priceCut_15 (by decide) (fun h => absurd h (nI_ge hk_1 (by omega))) (fun _ => ?_)
    refine lv_aload_n hx hb dX1_priceCut_18 rfl (lv_at hl 2 rfl) ?_
    refine lv_iload_n hx hb dX1_priceCut_19 rfl (lv_at hl 3 rfl) ?_
    refine lv_aload_n hx hb dX1_priceCut_20 rfl (lv_at hl 0 rfl) ?_
    refine va_get (D := D) (ci := 1) (C := RX1) (T := TX1) (N := 4) hx hb hts in_X1 hown K (fz_S hsrc hsA hS) 0 rfl rfl 0 (by decide) (hts _ q171) (fun _ h9 => h9) rfl dX1_priceCut_21 ?_
    refine lv_aload_n hx hb dX1_priceCut_24 rfl (lv_at hl 0 rfl) ?_
    refine va_get (D := D) (ci := 1) (C := RX1) (T := TX1) (N := 4) hx hb hts in_X1 hown K (fz_S hsrc hsA hS) 0 rfl rfl 0 (by decide) (hts _ q171) (fun _ h9 => h9) rfl dX1_priceCut_25 ?_
    refine lv_iload_n hx hb dX1_priceCut_28 rfl (lv_at hl 1 rfl) ?_
    refine lv_iload_n hx hb dX1_priceCut_29 rfl (lv_at hl 3 rfl) ?_
    refine x_ret (va_runV (As := [.int (nI pl), .int (nI k)]) (rest := [.ref la, .int (nI k), .ref kn]) S (xr_server l D dA E ad sz0 la lp lx ld lr row hn hcu pl k (by omega) (by omega)) (cwV 2 hts (lw_V q616 q480 q481 q61 q482) rfl rfl rfl hdX2_server ⟨Nat.le_of_ble_eq_true rfl, Nat.le_of_ble_eq_true rfl⟩) ⟨bb_blind g0_bl _, va_recv K (fz_S hsrc hsA hS) (ci := 2) (q0 := 1) rfl rfl, bb_pre (g0_mv G.1 (low_of hS hA0 G.1.2.2.2.2.2.2) hS.1) ((fz_S hsrc hsA hS).sub [1, 2, 3, 4, 5] rfl) _⟩ rfl rfl hl.1 rfl (lv_room (Nat.le_of_ble_eq_true rfl)) dX1_priceCut_30 ⟨Nat.le_of_ble_eq_true rfl, Nat.le_of_ble_eq_true rfl⟩) ?_
    refine x_top (y := nI sv) (by rw [hsv1]; rfl) ?_
    refine lv_iload_n hx hb dX1_priceCut_33 rfl (lv_at hl 3 rfl) ?_
    refine x_ret (va_runV (As := [.int (nI sv), .int (nI k)]) (rest := [.int (nI k), .ref kn]) S (xr_route l D dA E ad sz0 la lp lx ld lr row hn hcu sv k (by have := mServer_lt hsv1; omega) (by omega)) (cwV 2 hts (lw_V q617 q417 q418 q61 q419) rfl rfl rfl hdX2_route ⟨Nat.le_of_ble_eq_true rfl, Nat.le_of_ble_eq_true rfl⟩) ⟨bb_blind g0_bl _, va_recv K (fz_S hsrc hsA hS) (ci := 2) (q0 := 1) rfl rfl, bb_pre (g0_mv G.1 (low_of hS hA0 G.1.2.2.2.2.2.2) hS.1) ((fz_S hsrc hsA hS).sub [1, 2, 3, 4, 5] rfl) _⟩ rfl rfl hl.1 rfl (lv_room (Nat.le_of_ble_eq_true rfl)) dX1_priceCut_34 ⟨Nat.le_of_ble_eq_true rfl, Nat.le_of_ble_eq_true rfl⟩) ?_
    refine x_top (y := row (21 + 8 * (mServer row n pl k).getD 0 + k)) (by rw [hsv1]; rfl) ?_
    refine x_iast hx hb K hP hD hS 0 0 rfl rfl k rfl (by omega) (by decide) dX1_priceCut_37 (fun H locs hP hD hS => ?_)
    have hP : va_P D vwCl [(kn, .inl (dA 0, 8, .inl (upd g k (row (21 + 8 * (mServer row n pl k).getD 0 + k)))))] H := hP
    have hD : va_D A [(kn, .inl (dA 0, 8, .inl (upd g k (row (21 + 8 * (mServer row n pl k).getD 0 + k)))))] := hD
    refine lv_iinc (v := nI (k + 1)) (lv' := [(3, .int (nI (k + 1))), (0, .ref sa), (1, .int (nI pl)), (2, .ref kn)]) hx hb dX1_priceCut_38 hl (k := 3) rfl (nI_1 k) (by decide) rfl (fun ls hl => ?_)
    refine lv_goto (tgt := 7) hx hb dX1_priceCut_41 (by decide) ?_
    refine ih ls H locs ⟨?_, hP, hD, hS⟩
    show lv_has ls 4 [(0, .ref sa), (1, .int (nI pl)), (2, .ref kn), (3, .int (nI (k + 1)))]
    exact lv_sub hl [1, 2, 3, 0] rfl
  · intro ls H locs hI
    obtain ⟨hl, hP, hD, hS⟩ := hI
    rw [cp0_iter (fun k => row (21 + 8 * (mServer row n pl k).getD 0 + k))] at hP hD
    have hl : lv_has ls 4 [(0, .ref sa), (1, .int (nI pl)), (2, .ref kn), (3, .int (nI cu))] := hl
    have hP : va_P D vwCl [(kn, .inl (dA 0, 8, .inl (pNums row n cu pl)))] H := hP
    have hD : va_D A [(kn, .inl (dA 0, 8, .inl (pNums row n cu pl)))] := hD
    show W p l e (rmW 3 120 2 10) s m ([.ref sa, .int (nI pl)]).toArray below meth c H locs 1 8 (MQ below (QE (S := Nat × Nat) (fun _ _ => True) (fun u => some (.ref u.1)) D (fun u => kP dA 5 u.1 u.2 (pNums row n cu pl)) A) ([.ref sa, .int (nI pl)]).toArray s 2 10 A) (F0 m 7 ls [])
    refine lv_iload_n hx hb dX1_priceCut_7 rfl (lv_at hl 3 rfl) ?_
    refine lv_aload_n hx hb dX1_priceCut_8 rfl (lv_at hl 0 rfl) ?_
    refine va_get (D := D) (ci := 1) (C := RX1) (T := TX1) (N := 4) hx hb hts in_X1 hown K (fz_S hsrc hsA hS) 0 rfl rfl 0 (by decide) (hts _ q171) (fun _ h9 => h9) rfl dX1_priceCut_9 ?_
    refine va_getN (D := D) (ci := 2) (C := RX2) (T := TX2) (N := 7) hx hb hts in_X2 hown K (fz_S hsrc hsA hS) 1 rfl rfl 5 (by decide) (va_Nw.use rfl (G.1.2.1 _ q125 rfl)) (fun _ h9 => h9) rfl dX1_priceCut_12 ?_
    refine lv_icmp_ge (tgt := 44) hx hb dX1_priceCut_15 (by decide) (fun _ => ?_) (fun h => absurd (nI_le (by omega) (by omega)) h)
    refine va_new (D := D) (ci := 5) (fs := [.int (nI 0), .null]) (C := RX5) (T := TX5) (N := 2) hx hb hts in_X5 tyX5 tyX5_ok hown (hts _ q618) (hts _ q619) (hts _ q80) K hP hD hS hA rfl (fun j hj => by rcases (show j = 0 ∨ j = 1 by omega) with rfl | rfl <;> rfl) (Nat.le_of_ble_eq_true rfl) (Nat.le_of_ble_eq_true rfl) dX1_priceCut_44 (fun ka H hP hD hS => ?_)
    have hP : va_P D vwCl [(kn, .inl (dA 0, 8, .inl (pNums row n cu pl))), (ka, .inr (5, [.int (nI 0), .null]))] H := hP
    have hD : va_D A [(kn, .inl (dA 0, 8, .inl (pNums row n cu pl))), (ka, .inr (5, [.int (nI 0), .null]))] := hD
    refine W.widen (k := 2) (n := 10) (Nat.le_of_ble_eq_true rfl) (Nat.le_of_ble_eq_true rfl) ?_
    refine lv_dup hx hb dX1_priceCut_47 rfl ?_
    refine lv_aload_n hx hb dX1_priceCut_48 rfl (lv_at hl 2 rfl) ?_
    refine x_ecall (wr := [(kn, .inl (dA 0, 8, .inl (pNums row n cu pl)))]) (va_runI (As := [.ref kn]) (rest := [.ref ka]) S (xc_priceP l D dA E ad sz0 mi ka kn (up_D hA0 (hD.sub [1] (by decide) rfl)) H.size) (cwI 1 hts (lw_meth q622) rfl rfl rfl (hts _ q80) (hts _ q620) (hts _ q621) rfl (by decide +kernel) ⟨Nat.le_of_ble_eq_true rfl, Nat.le_of_ble_eq_true rfl⟩) ⟨pe_blind g1_bl _, pe_pre (g1_mv G (low_of hS hA0 G.1.2.2.2.2.2.2) hS.1) (hP.sub [1] rfl) (hD.sub [1] (by decide) rfl) trivial _⟩ rfl rfl hl.1 rfl (lv_room (Nat.le_of_ble_eq_true rfl)) dX1_priceCut_49 ⟨Nat.le_of_ble_eq_true rfl, Nat.le_of_ble_eq_true rfl⟩) hP hD hS hA [1] [0] rfl rfl (by decide) (by decide) (fun _u H locs hΨ hP hD hS hkp hsz hDn => ?_)
    have hP : va_P D vwCl [(kn, .inl (dA 0, 8, .inl (pNums row n cu pl))), (ka, .inr (5, [.int (nI 1), .ref kn]))] H := hP
    have hD : va_D A [(kn, .inl (dA 0, 8, .inl (pNums row n cu pl))), (ka, .inr (5, [.int (nI 1), .ref kn]))] := hD
    refine W.widen (k := 2) (n := 10) (Nat.le_of_ble_eq_true rfl) (Nat.le_of_ble_eq_true rfl) ?_
    exact x_earet (ka, kn) hx hb hrt (Or.inl ⟨_, rfl⟩) hlk rfl trivial (hP.sub [1, 0] rfl) (hD.sub [1, 0] (by decide) rfl) hS dX1_priceCut_52 (Nat.le_of_ble_eq_true rfl) (Nat.le_of_ble_eq_true rfl)

