set_option maxHeartbeats 4000000 in
theorem xs_forgetE (l : Launch) (D : va_G) (dA : Nat → ClassId) (E : Nat) (ad : Nat → Nat) (sz0 mi : Nat) (sa la lq : Nat) (md bs sp : Int32) (hup : Up sz0 ([(sa, .inr (1, [.ref la, .ref lq, .int bs, .int sp])), (lq, .inr (4, [.int md, .ref E, .int (nI 0)]))])) : EX l yX1_forget cX1_forget 1 none 1 40 0 0 [.ref sa] (G1 D dA E ad sz0 mi) D ([(sa, .inr (1, [.ref la, .ref lq, .int bs, .int sp])), (lq, .inr (4, [.int md, .ref E, .int (nI 0)]))]) (fun _ => True) (S := Unit) (fun _ _ => True) (fun _ => none) (fun _ => [(sa, .inr (1, [.ref la, .ref lq, .int (-5), .int sp])), (lq, .inr (4, [.int (md + nI 1), .ref E, .int (nI 0)]))]) := by
  refine ex_of (by decide) (Nat.le_of_ble_eq_true rfl) ?_
  intro p e s m below meth c A S hrt hlk hnm G hA hAe hΦ H locs hP hD hS ls hl
  obtain ⟨hx, hb, hml, hown, hts⟩ := id S
  have K := G.1.1
  have hA0 := up_A hup G.1.2.2.2.2.2.2 hAe
  have hP : va_P D vwCl [(sa, .inr (1, [.ref la, .ref lq, .int bs, .int sp])), (lq, .inr (4, [.int md, .ref E, .int (nI 0)]))] H := hP
  have hD : va_D A [(sa, .inr (1, [.ref la, .ref lq, .int bs, .int sp])), (lq, .inr (4, [.int md, .ref E, .int (nI 0)]))] := hD
  have hl : lv_has ls 1 [(0, .ref sa)] := hl
  refine lv_aload_n hx hb dX1_forget_0 rfl (lv_at hl 0 rfl) ?_
  refine va_get (D := D) (ci := 1) (C := RX1) (T := TX1) (N := 4) hx hb hts in_X1 hown K hP 0 rfl rfl 1 (by decide) (hts _ q173) (fun _ h9 => h9) rfl dX1_forget_1 ?_
  refine x_ecall5 (wr := [(sa, .inr (1, [.ref la, .ref lq, .int bs, .int sp]))]) (va_runF ((K.1 4 _ rfl).2) (As := []) (rest := []) S (xl_clearE l D dA E ad sz0 mi lq md (up_D hA0 (hD.sub [1] (by decide) rfl)) H.size) (va_cwF 0 hts (lw_F (x := ⟨"java/util/List", "clear", "()V"⟩) (y := yJ2_clear) q335 q338 q340 q64 q342) rfl rfl rfl (fwk_4 G.1.2.2.1) (by decide +kernel) ⟨Nat.le_of_ble_eq_true rfl, Nat.le_of_ble_eq_true rfl⟩) ⟨pe_blind g1_bl _, va_recv K hP (ci := 4) (q0 := 1) rfl rfl, pe_pre (g1_mv G (low_of hS hA0 G.1.2.2.2.2.2.2) hS.1) (hP.sub [1] rfl) (hD.sub [1] (by decide) rfl) trivial _⟩ rfl rfl hl.1 rfl (lv_room (Nat.le_of_ble_eq_true rfl)) dX1_forget_4 ⟨Nat.le_of_ble_eq_true rfl, Nat.le_of_ble_eq_true rfl⟩) hP hD hS hA [1] [0] rfl rfl (by decide) (by decide) (fun _u H locs hΨ hP hD hS hkp hsz hDn => ?_)
  have hP : va_P D vwCl [(sa, .inr (1, [.ref la, .ref lq, .int bs, .int sp])), (lq, .inr (4, [.int (md + nI 1), .ref E, .int (nI 0)]))] H := hP
  have hD : va_D A [(sa, .inr (1, [.ref la, .ref lq, .int bs, .int sp])), (lq, .inr (4, [.int (md + nI 1), .ref E, .int (nI 0)]))] := hD
  refine W.widen (k := 0) (n := 0) (Nat.le_of_ble_eq_true rfl) (Nat.le_of_ble_eq_true rfl) ?_
  refine lv_aload_n hx hb dX1_forget_9 rfl (lv_at hl 0 rfl) ?_
  refine lv_bipush (v := -5) hx hb dX1_forget_10 (by decide) ?_
  refine va_put (D := D) (ci := 1) (v := .int (-5)) (ty := .int) (C := RX1) (T := TX1) (N := 4) hx hb hts in_X1 tyX1 tyX1_ok nmX1 hown K hP hD hS 0 rfl rfl 2 (by decide) (hts _ q175) (fun _ h9 => h9) rfl (by decide +kernel) rfl rfl (Nat.le_of_ble_eq_true rfl) dX1_forget_12 (fun H locs hP hD hS => ?_)
  have hP : va_P D vwCl [(sa, .inr (1, [.ref la, .ref lq, .int (-5), .int sp])), (lq, .inr (4, [.int (md + nI 1), .ref E, .int (nI 0)]))] H := hP
  have hD : va_D A [(sa, .inr (1, [.ref la, .ref lq, .int (-5), .int sp])), (lq, .inr (4, [.int (md + nI 1), .ref E, .int (nI 0)]))] := hD
  exact x_evret () hx hb hrt hlk rfl trivial hP hD hS dX1_forget_15 (Nat.le_of_ble_eq_true rfl) (Nat.le_of_ble_eq_true rfl)

set_option maxHeartbeats 4000000 in
theorem xs_forgetA (l : Launch) (D : va_G) (dA : Nat → ClassId) (E : Nat) (ad : Nat → Nat) (sz0 mi : Nat) (sa la lq : Nat) (md bs sp : Int32) (da ct cp : Nat) (fe : Nat → Option Nat) (hcp : ct ≤ cp ∧ cp ≤ 64) (hup : Up sz0 ([(sa, .inr (1, [.ref la, .ref lq, .int bs, .int sp])), (lq, .inr (4, [.int md, .ref da, .int (nI ct)])), (da, .inl (dA 1, cp, .inr (.inr (.inr (.inr fe)))))])) : EX l yX1_forget cX1_forget 1 none 1 40 0 0 [.ref sa] (G1 D dA E ad sz0 mi) D ([(sa, .inr (1, [.ref la, .ref lq, .int bs, .int sp])), (lq, .inr (4, [.int md, .ref da, .int (nI ct)])), (da, .inl (dA 1, cp, .inr (.inr (.inr (.inr fe)))))]) (fun _ => True) (S := Unit) (fun _ _ => True) (fun _ => none) (fun _ => [(sa, .inr (1, [.ref la, .ref lq, .int (-5), .int sp])), (lq, .inr (4, [.int (md + nI 1), .ref da, .int (nI 0)])), (da, .inl (dA 1, cp, .inr (.inr (.inr (.inr (iter (fun k g => va_up g k none) ct 0 fe))))))]) := by
  refine ex_of (by decide) (Nat.le_of_ble_eq_true rfl) ?_
  intro p e s m below meth c A S hrt hlk hnm G hA hAe hΦ H locs hP hD hS ls hl
  obtain ⟨hx, hb, hml, hown, hts⟩ := id S
  have K := G.1.1
  have hA0 := up_A hup G.1.2.2.2.2.2.2 hAe
  have hP : va_P D vwCl [(sa, .inr (1, [.ref la, .ref lq, .int bs, .int sp])), (lq, .inr (4, [.int md, .ref da, .int (nI ct)])), (da, .inl (dA 1, cp, .inr (.inr (.inr (.inr fe)))))] H := hP
  have hD : va_D A [(sa, .inr (1, [.ref la, .ref lq, .int bs, .int sp])), (lq, .inr (4, [.int md, .ref da, .int (nI ct)])), (da, .inl (dA 1, cp, .inr (.inr (.inr (.inr fe)))))] := hD
  have hl : lv_has ls 1 [(0, .ref sa)] := hl
  refine lv_aload_n hx hb dX1_forget_0 rfl (lv_at hl 0 rfl) ?_
  refine va_get (D := D) (ci := 1) (C := RX1) (T := TX1) (N := 4) hx hb hts in_X1 hown K hP 0 rfl rfl 1 (by decide) (hts _ q173) (fun _ h9 => h9) rfl dX1_forget_1 ?_
  refine x_ecall5 (wr := [(sa, .inr (1, [.ref la, .ref lq, .int bs, .int sp]))]) (va_runF ((K.1 4 _ rfl).2) (As := []) (rest := []) S (xl_clearA l D dA E ad sz0 mi lq md da ct cp fe hcp (up_D hA0 (hD.sub [1, 2] (by decide) rfl)) H.size) (va_cwF 0 hts (lw_F (x := ⟨"java/util/List", "clear", "()V"⟩) (y := yJ2_clear) q335 q338 q340 q64 q342) rfl rfl rfl (fwk_4 G.1.2.2.1) (by decide +kernel) ⟨Nat.le_of_ble_eq_true rfl, Nat.le_of_ble_eq_true rfl⟩) ⟨pe_blind g1_bl _, va_recv K hP (ci := 4) (q0 := 1) rfl rfl, pe_pre (g1_mv G (low_of hS hA0 G.1.2.2.2.2.2.2) hS.1) (hP.sub [1, 2] rfl) (hD.sub [1, 2] (by decide) rfl) trivial _⟩ rfl rfl hl.1 rfl (lv_room (Nat.le_of_ble_eq_true rfl)) dX1_forget_4 ⟨Nat.le_of_ble_eq_true rfl, Nat.le_of_ble_eq_true rfl⟩) hP hD hS hA [1, 2] [0] rfl rfl (by decide) (by decide) (fun _u H locs hΨ hP hD hS hkp hsz hDn => ?_)
  have hP : va_P D vwCl [(sa, .inr (1, [.ref la, .ref lq, .int bs, .int sp])), (lq, .inr (4, [.int (md + nI 1), .ref da, .int (nI 0)])), (da, .inl (dA 1, cp, .inr (.inr (.inr (.inr (iter (fun k g => va_up g k none) ct 0 fe))))))] H := hP
  have hD : va_D A [(sa, .inr (1, [.ref la, .ref lq, .int bs, .int sp])), (lq, .inr (4, [.int (md + nI 1), .ref da, .int (nI 0)])), (da, .inl (dA 1, cp, .inr (.inr (.inr (.inr (iter (fun k g => va_up g k none) ct 0 fe))))))] := hD
  refine W.widen (k := 0) (n := 0) (Nat.le_of_ble_eq_true rfl) (Nat.le_of_ble_eq_true rfl) ?_
  refine lv_aload_n hx hb dX1_forget_9 rfl (lv_at hl 0 rfl) ?_
  refine lv_bipush (v := -5) hx hb dX1_forget_10 (by decide) ?_
  refine va_put (D := D) (ci := 1) (v := .int (-5)) (ty := .int) (C := RX1) (T := TX1) (N := 4) hx hb hts in_X1 tyX1 tyX1_ok nmX1 hown K hP hD hS 0 rfl rfl 2 (by decide) (hts _ q175) (fun _ h9 => h9) rfl (by decide +kernel) rfl rfl (Nat.le_of_ble_eq_true rfl) dX1_forget_12 (fun H locs hP hD hS => ?_)
  have hP : va_P D vwCl [(sa, .inr (1, [.ref la, .ref lq, .int (-5), .int sp])), (lq, .inr (4, [.int (md + nI 1), .ref da, .int (nI 0)])), (da, .inl (dA 1, cp, .inr (.inr (.inr (.inr (iter (fun k g => va_up g k none) ct 0 fe))))))] H := hP
  have hD : va_D A [(sa, .inr (1, [.ref la, .ref lq, .int (-5), .int sp])), (lq, .inr (4, [.int (md + nI 1), .ref da, .int (nI 0)])), (da, .inl (dA 1, cp, .inr (.inr (.inr (.inr (iter (fun k g => va_up g k none) ct 0 fe))))))] := hD
  exact x_evret () hx hb hrt hlk rfl trivial hP hD hS dX1_forget_15 (Nat.le_of_ble_eq_true rfl) (Nat.le_of_ble_eq_true rfl)

