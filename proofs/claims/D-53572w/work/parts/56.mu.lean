set_option maxHeartbeats 4000000 in
theorem xa_accept (l : Launch) (D : va_G) (dA : Nat → ClassId) (E : Nat) (ad : Nat → Nat) (sz0 mi : Nat) (x0 hi tb : Nat) (snv : Value) (mh : Int32) (hs : Nat) (obh : Option (Nat × Nat)) (feh : Nat → Option Nat) (hlh : LOk obh hs) (hhs : hs ≤ 4) (FZ : va_W) (hhe : ∀ i, i < hs → ∃ y, feh i = some y ∧ OkEl FZ y) (sa : Nat) (hos : OkEl FZ sa) (th : Nat) (told : Int32) (hup : Up sz0 ((x0, .inr (0, [.ref sa, snv, .ref hi, .ref tb])) :: lsW dA E hi mh hs obh feh)) (hap : Apart FZ ((x0, .inr (0, [.ref sa, snv, .ref hi, .ref tb])) :: lsW dA E hi mh hs obh feh)) : EX l yX0_accept cX0_accept 3 (some .int) 7 280 1 64 [.ref x0, .ref th, .int told] (G1 D dA E ad sz0 mi) D ((x0, .inr (0, [.ref sa, snv, .ref hi, .ref tb])) :: lsW dA E hi mh hs obh feh) (fun H => va_P D vwCl FZ H) (S := AO) (fun u _ => AcOk told th sa mh hs obh feh u) (fun _ => some (.int told)) (fun u => (x0, .inr (0, [.ref u.1, snv, .ref hi, .ref tb])) :: lsW dA E hi u.2.1 u.2.2.1 u.2.2.2.1 u.2.2.2.2) := by
  refine ex_of (by decide) (Nat.le_of_ble_eq_true rfl) ?_
  intro p e s m below meth c A S hrt hlk hnm G hA hAe hΦ H locs hP hD hS ls hl
  obtain ⟨hx, hb, hml, hown, hts⟩ := id S
  have K := G.1.1
  have hA0 := up_A hup G.1.2.2.2.2.2.2 hAe
  have hFA := ap_A hΦ hap hAe
  have hP : va_P D vwCl ((x0, .inr (0, [.ref sa, snv, .ref hi, .ref tb])) :: ((hi, .inr (4, [.int mh, .ref (dOf E obh), .int (nI hs)])) :: (lsT dA obh feh))) H := hP
  have hD : va_D A ((x0, .inr (0, [.ref sa, snv, .ref hi, .ref tb])) :: ((hi, .inr (4, [.int mh, .ref (dOf E obh), .int (nI hs)])) :: (lsT dA obh feh))) := hD
  have hl : lv_has ls 3 [(0, .ref x0), (1, .ref th), (2, .int told)] := hl
  refine lv_iload_n hx hb dX0_accept_0 rfl (lv_at hl 2 rfl) ?_
  refine lv_if_ge (tgt := 6) hx hb dX0_accept_1 (by decide) (fun h_1 => ?_) (fun h_1 => ?_)
  · refine lv_aload_n hx hb dX0_accept_6 rfl (lv_at hl 0 rfl) ?_
    refine va_get (D := D) (ci := 0) (C := RX0) (T := TX0) (N := 4) hx hb hts in_X0 hown K hP 0 rfl rfl 2 (by decide) (hts _ q224) (fun _ h9 => h9) rfl dX0_accept_7 ?_
    refine x_ret5 (va_runF ((K.1 4 _ rfl).2) (As := []) (rest := []) S (xl_size l D dA E ad sz0 mi hi mh (.ref (dOf E obh)) hs) (va_cwF 0 hts (lw_F (x := ⟨"java/util/List", "size", "()I"⟩) (y := yJ2_size) q348 q351 q353 q64 q355) rfl rfl rfl (fwk_0 G.1.2.2.1) (by decide +kernel) ⟨Nat.le_of_ble_eq_true rfl, Nat.le_of_ble_eq_true rfl⟩) ⟨bb_blind g1_bl _, va_recv K hP (ci := 4) (q0 := 1) rfl rfl, bb_pre (g1_mv G (low_of hS hA0 G.1.2.2.2.2.2.2) hS.1) (hP.sub [1] rfl) _⟩ rfl rfl hl.1 rfl (lv_room (Nat.le_of_ble_eq_true rfl)) dX0_accept_10 ⟨Nat.le_of_ble_eq_true rfl, Nat.le_of_ble_eq_true rfl⟩) ?_
    refine lv_iconst (v := nI 4) hx hb dX0_accept_15 (by decide) ?_
    refine x_icmpn_ne (tgt := 30) hx hb dX0_accept_16 (by decide) (by omega) (by omega) (fun h_2 => ?_) (fun h_2 => ?_)
    · refine lv_aload_n hx hb dX0_accept_30 rfl (lv_at hl 0 rfl) ?_
      refine va_get (D := D) (ci := 0) (C := RX0) (T := TX0) (N := 4) hx hb hts in_X0 hown K hP 0 rfl rfl 2 (by decide) (hts _ q224) (fun _ h9 => h9) rfl dX0_accept_31 ?_
      refine lv_aload_n hx hb dX0_accept_34 rfl (lv_at hl 0 rfl) ?_
      refine va_get (D := D) (ci := 0) (C := RX0) (T := TX0) (N := 4) hx hb hts in_X0 hown K hP 0 rfl rfl 0 (by decide) (hts _ q222) (fun _ h9 => h9) rfl dX0_accept_35 ?_
      have hpm : (((x0, .inr (0, [.ref sa, snv, .ref hi, .ref tb])) :: ((hi, .inr (4, [.int mh, .ref (dOf E obh), .int (nI hs)])) :: (lsT dA obh feh))) : va_W).Perm ([(x0, .inr (0, [.ref sa, snv, .ref hi, .ref tb]))] ++ ((hi, .inr (4, [.int mh, .ref (dOf E obh), .int (nI hs)])) :: (lsT dA obh feh))) := pmC ([[(x0, .inr (0, [.ref sa, snv, .ref hi, .ref tb]))], [(hi, .inr (4, [.int mh, .ref (dOf E obh), .int (nI hs)]))], (lsT dA obh feh)] : List va_W) [0] [1, 2] rfl
      have hPc := (vP_app.mp (vP_perm hpm hP)).2
      have hDc := vD_right (vD_perm hpm hD)
      have hPc : va_P D vwCl ((hi, .inr (4, [.int mh, .ref (dOf E obh), .int (nI hs)])) :: (lsT dA obh feh)) H := hPc
      have hDc : va_D A ((hi, .inr (4, [.int mh, .ref (dOf E obh), .int (nI hs)])) :: (lsT dA obh feh)) := hDc
      refine x_ecallP5 (va_runF ((K.1 4 _ rfl).2) (As := [.ref sa]) (rest := []) S (xu_add l D dA E ad sz0 mi hi (mh) (hs) obh feh FZ (hlh.le (by omega)) (by omega) (fun i9 hi9 y9 hy9 => by obtain ⟨z9, e1, e2⟩ := hhe i9 hi9; rw [hy9] at e1; cases e1; exact e2) sa hos (up_D hA0 hDc) (apart_D hFA hDc) H.size) (va_cwF 1 hts (lw_F (x := ⟨"java/util/List", "add", "(Ljava/lang/Object;)Z"⟩) (y := yJ2_add) q376 q379 q381 q64 q383) rfl rfl rfl (fwk_6 G.1.2.2.1) (by decide +kernel) ⟨Nat.le_of_ble_eq_true rfl, Nat.le_of_ble_eq_true rfl⟩) ⟨pe_blind g1_bl _, va_recv K hP (ci := 4) (q0 := 1) rfl rfl, pe_pre (g1_mv G (low_of hS hA0 G.1.2.2.2.2.2.2) hS.1) hPc hDc (fz_S hΦ hFA hS) _⟩ rfl rfl hl.1 rfl (lv_room (Nat.le_of_ble_eq_true rfl)) dX0_accept_38 ⟨Nat.le_of_ble_eq_true rfl, Nat.le_of_ble_eq_true rfl⟩) hP hD hS hA [(x0, .inr (0, [.ref sa, snv, .ref hi, .ref tb]))] hpm (fun u1 H locs hΨ hP hD hS hkp hsz hDn => ?_)
      obtain ⟨ob1, fe1⟩ := u1
      have hP : va_P D vwCl ((x0, .inr (0, [.ref sa, snv, .ref hi, .ref tb])) :: ((hi, .inr (4, [.int (mh + nI 1), .ref (dOf E ob1), .int (nI (hs + 1))])) :: (lsT dA ob1 fe1))) H := hP
      have hD : va_D A ((x0, .inr (0, [.ref sa, snv, .ref hi, .ref tb])) :: ((hi, .inr (4, [.int (mh + nI 1), .ref (dOf E ob1), .int (nI (hs + 1))])) :: (lsT dA ob1 fe1))) := hD
      refine W.widen (k := 1) (n := 64) (Nat.le_of_ble_eq_true rfl) (Nat.le_of_ble_eq_true rfl) ?_
      have hΨ1 := hΨ
      refine lv_pop hx hb dX0_accept_43 rfl ?_
      refine lv_aload_n hx hb dX0_accept_44 rfl (lv_at hl 0 rfl) ?_
      refine lv_aload_n hx hb dX0_accept_45 rfl (lv_at hl 1 rfl) ?_
      refine va_put (D := D) (ci := 0) (v := .ref th) (ty := .object "SiteCuts$State") (C := RX0) (T := TX0) (N := 4) hx hb hts in_X0 tyX0 tyX0_ok nmX0 hown K hP hD hS 0 rfl rfl 0 (by decide) (hts _ q222) (fun _ h9 => h9) rfl (by decide +kernel) rfl rfl (Nat.le_of_ble_eq_true rfl) dX0_accept_46 (fun H locs hP hD hS => ?_)
      have hP : va_P D vwCl ((x0, .inr (0, [.ref th, snv, .ref hi, .ref tb])) :: ((hi, .inr (4, [.int (mh + nI 1), .ref (dOf E ob1), .int (nI (hs + 1))])) :: (lsT dA ob1 fe1))) H := hP
      have hD : va_D A ((x0, .inr (0, [.ref th, snv, .ref hi, .ref tb])) :: ((hi, .inr (4, [.int (mh + nI 1), .ref (dOf E ob1), .int (nI (hs + 1))])) :: (lsT dA ob1 fe1))) := hD
      refine lv_iload_n hx hb dX0_accept_49 rfl (lv_at hl 2 rfl) ?_
      exact x_eiret (th, mh + nI 1, hs + 1, ob1, fe1) hx hb hrt hlk rfl (ac_a h_1 h_2 hΨ1.1 hΨ1.2.1 hΨ1.2.2) hP hD hS dX0_accept_50 (Nat.le_of_ble_eq_true rfl) (Nat.le_of_ble_eq_true rfl)
    · refine lv_aload_n hx hb dX0_accept_19 rfl (lv_at hl 0 rfl) ?_
      refine va_get (D := D) (ci := 0) (C := RX0) (T := TX0) (N := 4) hx hb hts in_X0 hown K hP 0 rfl rfl 2 (by decide) (hts _ q224) (fun _ h9 => h9) rfl dX0_accept_20 ?_
      refine lv_iconst (v := nI 0) hx hb dX0_accept_23 (by decide) ?_
      obtain ⟨y0, hy0, hoy0⟩ := hhe 0 (by omega)
      have hpm : (((x0, .inr (0, [.ref sa, snv, .ref hi, .ref tb])) :: ((hi, .inr (4, [.int mh, .ref (dOf E obh), .int (nI hs)])) :: (lsT dA obh feh))) : va_W).Perm ([(x0, .inr (0, [.ref sa, snv, .ref hi, .ref tb]))] ++ ((hi, .inr (4, [.int mh, .ref (dOf E obh), .int (nI hs)])) :: (lsT dA obh feh))) := pmC ([[(x0, .inr (0, [.ref sa, snv, .ref hi, .ref tb]))], [(hi, .inr (4, [.int mh, .ref (dOf E obh), .int (nI hs)]))], (lsT dA obh feh)] : List va_W) [0] [1, 2] rfl
      have hPc := (vP_app.mp (vP_perm hpm hP)).2
      have hDc := vD_right (vD_perm hpm hD)
      have hPc : va_P D vwCl ((hi, .inr (4, [.int mh, .ref (dOf E obh), .int (nI hs)])) :: (lsT dA obh feh)) H := hPc
      have hDc : va_D A ((hi, .inr (4, [.int mh, .ref (dOf E obh), .int (nI hs)])) :: (lsT dA obh feh)) := hDc
      refine x_ecallP5 (va_runF ((K.1 4 _ rfl).2) (As := [.int (nI 0)]) (rest := []) S (xu_remove l D dA E ad sz0 mi hi mh hs obh feh FZ hlh (fun i9 hi9 y9 hy9 => by obtain ⟨z9, e1, e2⟩ := hhe i9 hi9; rw [hy9] at e1; cases e1; exact e2) 0 y0 (by omega) hy0 (up_D hA0 hDc) (apart_D hFA hDc) H.size) (va_cwF 1 hts (lw_F (x := ⟨"java/util/List", "remove", "(I)Ljava/lang/Object;"⟩) (y := yJ2_remove) q357 q360 q362 q64 q364) rfl rfl rfl (fwk_1 G.1.2.2.1) (by decide +kernel) ⟨Nat.le_of_ble_eq_true rfl, Nat.le_of_ble_eq_true rfl⟩) ⟨pe_blind g1_bl _, va_recv K hP (ci := 4) (q0 := 1) rfl rfl, pe_pre (g1_mv G (low_of hS hA0 G.1.2.2.2.2.2.2) hS.1) hPc hDc (fz_S hΦ hFA hS) _⟩ rfl rfl hl.1 rfl (lv_room (Nat.le_of_ble_eq_true rfl)) dX0_accept_24 ⟨Nat.le_of_ble_eq_true rfl, Nat.le_of_ble_eq_true rfl⟩) hP hD hS hA [(x0, .inr (0, [.ref sa, snv, .ref hi, .ref tb]))] hpm (fun f1 H locs hΨ hP hD hS hkp hsz hDn => ?_)
      have hP : va_P D vwCl ((x0, .inr (0, [.ref sa, snv, .ref hi, .ref tb])) :: ((hi, .inr (4, [.int (mh + nI 1), .ref (dOf E obh), .int (nI (hs - 1))])) :: (lsT dA obh f1))) H := hP
      have hD : va_D A ((x0, .inr (0, [.ref sa, snv, .ref hi, .ref tb])) :: ((hi, .inr (4, [.int (mh + nI 1), .ref (dOf E obh), .int (nI (hs - 1))])) :: (lsT dA obh f1))) := hD
      refine W.widen (k := 0) (n := 0) (Nat.le_of_ble_eq_true rfl) (Nat.le_of_ble_eq_true rfl) ?_
      have hf1 : ∀ i, i < hs - 1 → f1 i = feh (i + 1) := fun i hi => hΨ.2 i (Nat.zero_le _) hi
      have hel1 : ∀ i, i < hs - 1 → ∀ y, f1 i = some y → OkEl FZ y := fun i hi y hy => by rw [hf1 i hi] at hy; obtain ⟨z9, e1, e2⟩ := hhe (i + 1) (by omega); rw [hy] at e1; cases e1; exact e2
      refine lv_pop hx hb dX0_accept_29 rfl ?_
      refine lv_aload_n hx hb dX0_accept_30 rfl (lv_at hl 0 rfl) ?_
      refine va_get (D := D) (ci := 0) (C := RX0) (T := TX0) (N := 4) hx hb hts in_X0 hown K hP 0 rfl rfl 2 (by decide) (hts _ q224) (fun _ h9 => h9) rfl dX0_accept_31 ?_
      refine lv_aload_n hx hb dX0_accept_34 rfl (lv_at hl 0 rfl) ?_
      refine va_get (D := D) (ci := 0) (C := RX0) (T := TX0) (N := 4) hx hb hts in_X0 hown K hP 0 rfl rfl 0 (by decide) (hts _ q222) (fun _ h9 => h9) rfl dX0_accept_35 ?_
      have hpm : (((x0, .inr (0, [.ref sa, snv, .ref hi, .ref tb])) :: ((hi, .inr (4, [.int (mh + nI 1), .ref (dOf E obh), .int (nI (hs - 1))])) :: (lsT dA obh f1))) : va_W).Perm ([(x0, .inr (0, [.ref sa, snv, .ref hi, .ref tb]))] ++ ((hi, .inr (4, [.int (mh + nI 1), .ref (dOf E obh), .int (nI (hs - 1))])) :: (lsT dA obh f1))) := pmC ([[(x0, .inr (0, [.ref sa, snv, .ref hi, .ref tb]))], [(hi, .inr (4, [.int (mh + nI 1), .ref (dOf E obh), .int (nI (hs - 1))]))], (lsT dA obh f1)] : List va_W) [0] [1, 2] rfl
      have hPc := (vP_app.mp (vP_perm hpm hP)).2
      have hDc := vD_right (vD_perm hpm hD)
      have hPc : va_P D vwCl ((hi, .inr (4, [.int (mh + nI 1), .ref (dOf E obh), .int (nI (hs - 1))])) :: (lsT dA obh f1)) H := hPc
      have hDc : va_D A ((hi, .inr (4, [.int (mh + nI 1), .ref (dOf E obh), .int (nI (hs - 1))])) :: (lsT dA obh f1)) := hDc
      refine x_ecallP5 (va_runF ((K.1 4 _ rfl).2) (As := [.ref sa]) (rest := []) S (xu_add l D dA E ad sz0 mi hi (mh + nI 1) (hs - 1) obh f1 FZ (hlh.le (by omega)) (by omega) hel1 sa hos (up_D hA0 hDc) (apart_D hFA hDc) H.size) (va_cwF 1 hts (lw_F (x := ⟨"java/util/List", "add", "(Ljava/lang/Object;)Z"⟩) (y := yJ2_add) q376 q379 q381 q64 q383) rfl rfl rfl (fwk_6 G.1.2.2.1) (by decide +kernel) ⟨Nat.le_of_ble_eq_true rfl, Nat.le_of_ble_eq_true rfl⟩) ⟨pe_blind g1_bl _, va_recv K hP (ci := 4) (q0 := 1) rfl rfl, pe_pre (g1_mv G (low_of hS hA0 G.1.2.2.2.2.2.2) hS.1) hPc hDc (fz_S hΦ hFA hS) _⟩ rfl rfl hl.1 rfl (lv_room (Nat.le_of_ble_eq_true rfl)) dX0_accept_38 ⟨Nat.le_of_ble_eq_true rfl, Nat.le_of_ble_eq_true rfl⟩) hP hD hS hA [(x0, .inr (0, [.ref sa, snv, .ref hi, .ref tb]))] hpm (fun u1 H locs hΨ hP hD hS hkp hsz hDn => ?_)
      obtain ⟨ob1, fe1⟩ := u1
      have hP : va_P D vwCl ((x0, .inr (0, [.ref sa, snv, .ref hi, .ref tb])) :: ((hi, .inr (4, [.int ((mh + nI 1) + nI 1), .ref (dOf E ob1), .int (nI ((hs - 1) + 1))])) :: (lsT dA ob1 fe1))) H := hP
      have hD : va_D A ((x0, .inr (0, [.ref sa, snv, .ref hi, .ref tb])) :: ((hi, .inr (4, [.int ((mh + nI 1) + nI 1), .ref (dOf E ob1), .int (nI ((hs - 1) + 1))])) :: (lsT dA ob1 fe1))) := hD
      refine W.widen (k := 1) (n := 64) (Nat.le_of_ble_eq_true rfl) (Nat.le_of_ble_eq_true rfl) ?_
      have hΨ1 := hΨ
      refine lv_pop hx hb dX0_accept_43 rfl ?_
      refine lv_aload_n hx hb dX0_accept_44 rfl (lv_at hl 0 rfl) ?_
      refine lv_aload_n hx hb dX0_accept_45 rfl (lv_at hl 1 rfl) ?_
      refine va_put (D := D) (ci := 0) (v := .ref th) (ty := .object "SiteCuts$State") (C := RX0) (T := TX0) (N := 4) hx hb hts in_X0 tyX0 tyX0_ok nmX0 hown K hP hD hS 0 rfl rfl 0 (by decide) (hts _ q222) (fun _ h9 => h9) rfl (by decide +kernel) rfl rfl (Nat.le_of_ble_eq_true rfl) dX0_accept_46 (fun H locs hP hD hS => ?_)
      have hP : va_P D vwCl ((x0, .inr (0, [.ref th, snv, .ref hi, .ref tb])) :: ((hi, .inr (4, [.int ((mh + nI 1) + nI 1), .ref (dOf E ob1), .int (nI ((hs - 1) + 1))])) :: (lsT dA ob1 fe1))) H := hP
      have hD : va_D A ((x0, .inr (0, [.ref th, snv, .ref hi, .ref tb])) :: ((hi, .inr (4, [.int ((mh + nI 1) + nI 1), .ref (dOf E ob1), .int (nI ((hs - 1) + 1))])) :: (lsT dA ob1 fe1))) := hD
      refine lv_iload_n hx hb dX0_accept_49 rfl (lv_at hl 2 rfl) ?_
      exact x_eiret (th, (mh + nI 1) + nI 1, (hs - 1) + 1, ob1, fe1) hx hb hrt hlk rfl (ac_b h_1 h_2 hΨ1.1 hf1 hΨ1.2.1 hΨ1.2.2) hP hD hS dX0_accept_50 (Nat.le_of_ble_eq_true rfl) (Nat.le_of_ble_eq_true rfl)
  · refine lv_iload_n hx hb dX0_accept_4 rfl (lv_at hl 2 rfl) ?_
    exact x_eiret (sa, mh, hs, obh, feh) hx hb hrt hlk rfl (ac_n h_1) hP hD hS dX0_accept_5 (Nat.le_of_ble_eq_true rfl) (Nat.le_of_ble_eq_true rfl)

theorem xu_forget (l : Launch) (D : va_G) (dA : Nat → ClassId) (E : Nat) (ad : Nat → Nat) (sz0 mi : Nat) (sa la lq : Nat) (md bs sp : Int32) (ct : Nat) (ob : Option (Nat × Nat)) (fe : Nat → Option Nat) (hlo : LOk ob ct) (hup : Up sz0 ((sa, .inr (1, [.ref la, .ref lq, .int bs, .int sp])) :: lsW dA E lq md ct ob fe)) :
    EX l yX1_forget cX1_forget 1 none 1 40 0 0 [.ref sa] (G1 D dA E ad sz0 mi) D ((sa, .inr (1, [.ref la, .ref lq, .int bs, .int sp])) :: lsW dA E lq md ct ob fe) (fun _ => True) (S := Nat → Option Nat) (fun _ _ => True) (fun _ => none) (fun u => (sa, .inr (1, [.ref la, .ref lq, .int (-5), .int sp])) :: lsW dA E lq (md + nI 1) 0 ob u) := by
  cases ob with
  | none =>
    have h0 : ct = 0 := hlo.1 rfl
    subst h0
    exact ex_mono (xs_forgetE l D dA E ad sz0 mi sa la lq md bs sp hup) (fun _ => fun _ => none) (fun _ h => h) (fun _ h => h) (fun _ => rfl) (fun u H _ => trivial) (fun _ => rfl)
  | some dc =>
    obtain ⟨da, cp⟩ := dc
    obtain ⟨h1, h2, h3⟩ := hlo.2 _ rfl
    exact ex_mono (xs_forgetA l D dA E ad sz0 mi sa la lq md bs sp da ct cp fe ⟨h1, h2⟩ hup) (fun _ => iter (fun k g => va_up g k none) ct 0 fe) (fun _ h => h) (fun _ h => h) (fun _ => rfl) (fun u H _ => trivial) (fun _ => rfl)

set_option maxHeartbeats 4000000 in
theorem xa_fresh (l : Launch) (D : va_G) (dA : Nat → ClassId) (E : Nat) (ad : Nat → Nat) (sz0 mi : Nat) (x0 hi tb : Nat) (snv : Value) (FZ : va_W) (sa la lp lx ld lr lq : Nat) (row : Nat → Int32) {n cu : Nat} (hn : n ≤ 7) (hcu : cu ≤ 8) (md0 : Int32) (q : Nat) (ob0 : Option (Nat × Nat)) (fe0 : Nat → Option Nat) (hlo0 : LOk ob0 q) (hq40 : q ≤ 40) (hco : CutsOk dA FZ row cu q fe0) (hmem : ∀ x ∈ stW dA E ((sa, la, lp, lx, ld, lr, lq), md0, ob0, fe0) row n cu q, x ∈ FZ) (hup : Up sz0 ([(x0, .inr (0, [.ref sa, snv, .ref hi, .ref tb]))])) (hap : Apart FZ ([(x0, .inr (0, [.ref sa, snv, .ref hi, .ref tb]))])) : EX l yX0_fresh cX0_fresh 2 (some (.object "SiteCuts$State")) 6 240 20 400 [.ref x0] (G1 D dA E ad sz0 mi) D ([(x0, .inr (0, [.ref sa, snv, .ref hi, .ref tb]))]) (fun H => va_P D vwCl FZ H) (S := SU) (fun u _ => LOk u.ob 0) (fun u => some (.ref u.sa)) (fun u => (x0, .inr (0, [.ref sa, snv, .ref hi, .ref tb])) :: ((u.sa, .inr (1, [.ref u.la, .ref u.lq, .int (-5), .int (row 5)])) :: (lW dA u.la u.lp u.lx u.ld u.lr row n cu ++ lsW dA E u.lq u.md 0 u.ob u.fe))) := by
  refine ex_of (by decide) (Nat.le_of_ble_eq_true rfl) ?_
  intro p e s m below meth c A S hrt hlk hnm G hA hAe hΦ H locs hP hD hS ls hl
  obtain ⟨hx, hb, hml, hown, hts⟩ := id S
  have K := G.1.1
  have hA0 := up_A hup G.1.2.2.2.2.2.2 hAe
  have hFA := ap_A hΦ hap hAe
  have hP : va_P D vwCl [(x0, .inr (0, [.ref sa, snv, .ref hi, .ref tb]))] H := hP
  have hD : va_D A [(x0, .inr (0, [.ref sa, snv, .ref hi, .ref tb]))] := hD
  have hl : lv_has ls 2 [(0, .ref x0)] := hl
  refine lv_aload_n hx hb dX0_fresh_0 rfl (lv_at hl 0 rfl) ?_
  refine va_get (D := D) (ci := 0) (C := RX0) (T := TX0) (N := 4) hx hb hts in_X0 hown K hP 0 rfl rfl 0 (by decide) (hts _ q222) (fun _ h9 => h9) rfl dX0_fresh_1 ?_
  refine x_ecallP (va_runV (As := []) (rest := []) S (xs_copy l D dA E ad sz0 mi sa la lp lx ld lr lq row n cu md0 (dOf E ob0) q (pOf ob0) (fOf ob0 fe0) FZ (lOk_r hlo0) (cutsOk_f hlo0 hco).el (fun _ h => by cases h) (fun _ _ _ h => by cases h) H.size) (cwV 0 hts (lw_V q246 q247 q248 q60 q249) rfl rfl rfl hdX1_copy ⟨Nat.le_of_ble_eq_true rfl, Nat.le_of_ble_eq_true rfl⟩) ⟨pe_blind g1_bl _, va_recv K (srcF (fz_S hΦ hFA hS) hmem (e_P G.1 (low_of hS hA0 G.1.2.2.2.2.2.2))) (ci := 1) (q0 := 0) rfl rfl, pe_pre (g1_mv G (low_of hS hA0 G.1.2.2.2.2.2.2) hS.1) (hP.sub [] rfl) (hD.sub [] rfl rfl) ⟨(srcF (fz_S hΦ hFA hS) hmem (e_P G.1 (low_of hS hA0 G.1.2.2.2.2.2.2))), (fz_S hΦ hFA hS)⟩ _⟩ rfl rfl hl.1 rfl (lv_room (Nat.le_of_ble_eq_true rfl)) dX0_fresh_4 ⟨Nat.le_of_ble_eq_true rfl, Nat.le_of_ble_eq_true rfl⟩) hP hD hS hA [(x0, .inr (0, [.ref sa, snv, .ref hi, .ref tb]))] pm_nil (fun u1 H locs hΨ hP hD hS hkp hsz hDn => ?_)
  obtain ⟨⟨sa1, la1, lp1, lx1, ld1, lr1, lq1⟩, md1, ob1, fe1⟩ := u1
  have hP : va_P D vwCl ((x0, .inr (0, [.ref sa, snv, .ref hi, .ref tb])) :: ((sa1, .inr (1, [.ref la1, .ref lq1, .int (row 4), .int (row 5)])) :: ((la1, .inr (2, [.ref lp1, .ref lx1, .ref ld1, .ref lr1, .int (nI n), .int (nI cu), .int (row 2)])) :: ((lp1, .inl (dA 0, 7, .inl (fun k => row (6 + k)))) :: ((lx1, .inl (dA 0, 7, .inl (fun k => row (77 + k)))) :: ((ld1, .inl (dA 0, 8, .inl (fun k => row (13 + k)))) :: ((lr1, .inl (dA 0, 56, .inl (fun k => row (21 + k)))) :: ((lq1, .inr (4, [.int md1, .ref (dOf E ob1), .int (nI q)])) :: (lsT dA ob1 fe1))))))))) H := hP
  have hD : va_D A ((x0, .inr (0, [.ref sa, snv, .ref hi, .ref tb])) :: ((sa1, .inr (1, [.ref la1, .ref lq1, .int (row 4), .int (row 5)])) :: ((la1, .inr (2, [.ref lp1, .ref lx1, .ref ld1, .ref lr1, .int (nI n), .int (nI cu), .int (row 2)])) :: ((lp1, .inl (dA 0, 7, .inl (fun k => row (6 + k)))) :: ((lx1, .inl (dA 0, 7, .inl (fun k => row (77 + k)))) :: ((ld1, .inl (dA 0, 8, .inl (fun k => row (13 + k)))) :: ((lr1, .inl (dA 0, 56, .inl (fun k => row (21 + k)))) :: ((lq1, .inr (4, [.int md1, .ref (dOf E ob1), .int (nI q)])) :: (lsT dA ob1 fe1))))))))) := hD
  refine W.widen (k := 20) (n := 400) (Nat.le_of_ble_eq_true rfl) (Nat.le_of_ble_eq_true rfl) ?_
  have hΨc : LOk ob1 q ∧ ∀ i, i < q → fe1 i = fOf ob0 fe0 i := hΨ
  refine lv_astore_n (lv' := [(1, .ref sa1), (0, .ref x0)]) hx hb dX0_fresh_7 rfl hl (by decide) rfl (fun ls hl => ?_)
  refine lv_aload_n hx hb dX0_fresh_8 rfl (lv_at hl 0 rfl) ?_
  have hpm : (((x0, .inr (0, [.ref sa, snv, .ref hi, .ref tb])) :: ((sa1, .inr (1, [.ref la1, .ref lq1, .int (row 4), .int (row 5)])) :: ((la1, .inr (2, [.ref lp1, .ref lx1, .ref ld1, .ref lr1, .int (nI n), .int (nI cu), .int (row 2)])) :: ((lp1, .inl (dA 0, 7, .inl (fun k => row (6 + k)))) :: ((lx1, .inl (dA 0, 7, .inl (fun k => row (77 + k)))) :: ((ld1, .inl (dA 0, 8, .inl (fun k => row (13 + k)))) :: ((lr1, .inl (dA 0, 56, .inl (fun k => row (21 + k)))) :: ((lq1, .inr (4, [.int md1, .ref (dOf E ob1), .int (nI q)])) :: (lsT dA ob1 fe1))))))))) : va_W).Perm ([(x0, .inr (0, [.ref sa, snv, .ref hi, .ref tb])), (la1, .inr (2, [.ref lp1, .ref lx1, .ref ld1, .ref lr1, .int (nI n), .int (nI cu), .int (row 2)])), (lp1, .inl (dA 0, 7, .inl (fun k => row (6 + k)))), (lx1, .inl (dA 0, 7, .inl (fun k => row (77 + k)))), (ld1, .inl (dA 0, 8, .inl (fun k => row (13 + k)))), (lr1, .inl (dA 0, 56, .inl (fun k => row (21 + k))))] ++ ((sa1, .inr (1, [.ref la1, .ref lq1, .int (row 4), .int (row 5)])) :: ((lq1, .inr (4, [.int md1, .ref (dOf E ob1), .int (nI q)])) :: (lsT dA ob1 fe1)))) := pmC ([[(x0, .inr (0, [.ref sa, snv, .ref hi, .ref tb]))], [(sa1, .inr (1, [.ref la1, .ref lq1, .int (row 4), .int (row 5)]))], [(la1, .inr (2, [.ref lp1, .ref lx1, .ref ld1, .ref lr1, .int (nI n), .int (nI cu), .int (row 2)]))], [(lp1, .inl (dA 0, 7, .inl (fun k => row (6 + k))))], [(lx1, .inl (dA 0, 7, .inl (fun k => row (77 + k))))], [(ld1, .inl (dA 0, 8, .inl (fun k => row (13 + k))))], [(lr1, .inl (dA 0, 56, .inl (fun k => row (21 + k))))], [(lq1, .inr (4, [.int md1, .ref (dOf E ob1), .int (nI q)]))], (lsT dA ob1 fe1)] : List va_W) [0, 2, 3, 4, 5, 6] [1, 7, 8] rfl
  have hPc := (vP_app.mp (vP_perm hpm hP)).2
  have hDc := vD_right (vD_perm hpm hD)
  have hPc : va_P D vwCl ((sa1, .inr (1, [.ref la1, .ref lq1, .int (row 4), .int (row 5)])) :: ((lq1, .inr (4, [.int md1, .ref (dOf E ob1), .int (nI q)])) :: (lsT dA ob1 fe1))) H := hPc
  have hDc : va_D A ((sa1, .inr (1, [.ref la1, .ref lq1, .int (row 4), .int (row 5)])) :: ((lq1, .inr (4, [.int md1, .ref (dOf E ob1), .int (nI q)])) :: (lsT dA ob1 fe1))) := hDc
  refine x_ecallP (va_runV (As := []) (rest := []) S (xu_forget l D dA E ad sz0 mi sa1 la1 lq1 md1 (row 4) (row 5) q ob1 fe1 hΨc.1 (up_D hA0 hDc) H.size) (cwV 0 hts (lw_V q330 q331 q332 q60 q333) rfl rfl rfl hdX1_forget ⟨Nat.le_of_ble_eq_true rfl, Nat.le_of_ble_eq_true rfl⟩) ⟨pe_blind g1_bl _, va_recv K hP (ci := 1) (q0 := 1) rfl rfl, pe_pre (g1_mv G (low_of hS hA0 G.1.2.2.2.2.2.2) hS.1) hPc hDc trivial _⟩ rfl rfl hl.1 rfl (lv_room (Nat.le_of_ble_eq_true rfl)) dX0_fresh_9 ⟨Nat.le_of_ble_eq_true rfl, Nat.le_of_ble_eq_true rfl⟩) hP hD hS hA [(x0, .inr (0, [.ref sa, snv, .ref hi, .ref tb])), (la1, .inr (2, [.ref lp1, .ref lx1, .ref ld1, .ref lr1, .int (nI n), .int (nI cu), .int (row 2)])), (lp1, .inl (dA 0, 7, .inl (fun k => row (6 + k)))), (lx1, .inl (dA 0, 7, .inl (fun k => row (77 + k)))), (ld1, .inl (dA 0, 8, .inl (fun k => row (13 + k)))), (lr1, .inl (dA 0, 56, .inl (fun k => row (21 + k))))] hpm (fun fe2 H locs hΨ hP hD hS hkp hsz hDn => ?_)
  have hP : va_P D vwCl ((x0, .inr (0, [.ref sa, snv, .ref hi, .ref tb])) :: ((la1, .inr (2, [.ref lp1, .ref lx1, .ref ld1, .ref lr1, .int (nI n), .int (nI cu), .int (row 2)])) :: ((lp1, .inl (dA 0, 7, .inl (fun k => row (6 + k)))) :: ((lx1, .inl (dA 0, 7, .inl (fun k => row (77 + k)))) :: ((ld1, .inl (dA 0, 8, .inl (fun k => row (13 + k)))) :: ((lr1, .inl (dA 0, 56, .inl (fun k => row (21 + k)))) :: ((sa1, .inr (1, [.ref la1, .ref lq1, .int (-5), .int (row 5)])) :: ((lq1, .inr (4, [.int (md1 + nI 1), .ref (dOf E ob1), .int (nI 0)])) :: (lsT dA ob1 fe2))))))))) H := hP
  have hD : va_D A ((x0, .inr (0, [.ref sa, snv, .ref hi, .ref tb])) :: ((la1, .inr (2, [.ref lp1, .ref lx1, .ref ld1, .ref lr1, .int (nI n), .int (nI cu), .int (row 2)])) :: ((lp1, .inl (dA 0, 7, .inl (fun k => row (6 + k)))) :: ((lx1, .inl (dA 0, 7, .inl (fun k => row (77 + k)))) :: ((ld1, .inl (dA 0, 8, .inl (fun k => row (13 + k)))) :: ((lr1, .inl (dA 0, 56, .inl (fun k => row (21 + k)))) :: ((sa1, .inr (1, [.ref la1, .ref lq1, .int (-5), .int (row 5)])) :: ((lq1, .inr (4, [.int (md1 + nI 1), .ref (dOf E ob1), .int (nI 0)])) :: (lsT dA ob1 fe2))))))))) := hD
  refine W.widen (k := 20) (n := 400) (Nat.le_of_ble_eq_true rfl) (Nat.le_of_ble_eq_true rfl) ?_
  refine lv_aload_n hx hb dX0_fresh_12 rfl (lv_at hl 0 rfl) ?_
  have hP := vP_perm (pm1 ([[(x0, .inr (0, [.ref sa, snv, .ref hi, .ref tb]))], [(la1, .inr (2, [.ref lp1, .ref lx1, .ref ld1, .ref lr1, .int (nI n), .int (nI cu), .int (row 2)]))], [(lp1, .inl (dA 0, 7, .inl (fun k => row (6 + k))))], [(lx1, .inl (dA 0, 7, .inl (fun k => row (77 + k))))], [(ld1, .inl (dA 0, 8, .inl (fun k => row (13 + k))))], [(lr1, .inl (dA 0, 56, .inl (fun k => row (21 + k))))], [(sa1, .inr (1, [.ref la1, .ref lq1, .int (-5), .int (row 5)]))], [(lq1, .inr (4, [.int (md1 + nI 1), .ref (dOf E ob1), .int (nI 0)]))], (lsT dA ob1 fe2)] : List va_W) [0, 6, 1, 2, 3, 4, 5, 7, 8] rfl) hP
  have hD := vD_perm (pm1 ([[(x0, .inr (0, [.ref sa, snv, .ref hi, .ref tb]))], [(la1, .inr (2, [.ref lp1, .ref lx1, .ref ld1, .ref lr1, .int (nI n), .int (nI cu), .int (row 2)]))], [(lp1, .inl (dA 0, 7, .inl (fun k => row (6 + k))))], [(lx1, .inl (dA 0, 7, .inl (fun k => row (77 + k))))], [(ld1, .inl (dA 0, 8, .inl (fun k => row (13 + k))))], [(lr1, .inl (dA 0, 56, .inl (fun k => row (21 + k))))], [(sa1, .inr (1, [.ref la1, .ref lq1, .int (-5), .int (row 5)]))], [(lq1, .inr (4, [.int (md1 + nI 1), .ref (dOf E ob1), .int (nI 0)]))], (lsT dA ob1 fe2)] : List va_W) [0, 6, 1, 2, 3, 4, 5, 7, 8] rfl) hD
  have hP : va_P D vwCl ((x0, .inr (0, [.ref sa, snv, .ref hi, .ref tb])) :: ((sa1, .inr (1, [.ref la1, .ref lq1, .int (-5), .int (row 5)])) :: ((la1, .inr (2, [.ref lp1, .ref lx1, .ref ld1, .ref lr1, .int (nI n), .int (nI cu), .int (row 2)])) :: ((lp1, .inl (dA 0, 7, .inl (fun k => row (6 + k)))) :: ((lx1, .inl (dA 0, 7, .inl (fun k => row (77 + k)))) :: ((ld1, .inl (dA 0, 8, .inl (fun k => row (13 + k)))) :: ((lr1, .inl (dA 0, 56, .inl (fun k => row (21 + k)))) :: ((lq1, .inr (4, [.int (md1 + nI 1), .ref (dOf E ob1), .int (nI 0)])) :: (lsT dA ob1 fe2))))))))) H := hP
  have hD : va_D A ((x0, .inr (0, [.ref sa, snv, .ref hi, .ref tb])) :: ((sa1, .inr (1, [.ref la1, .ref lq1, .int (-5), .int (row 5)])) :: ((la1, .inr (2, [.ref lp1, .ref lx1, .ref ld1, .ref lr1, .int (nI n), .int (nI cu), .int (row 2)])) :: ((lp1, .inl (dA 0, 7, .inl (fun k => row (6 + k)))) :: ((lx1, .inl (dA 0, 7, .inl (fun k => row (77 + k)))) :: ((ld1, .inl (dA 0, 8, .inl (fun k => row (13 + k)))) :: ((lr1, .inl (dA 0, 56, .inl (fun k => row (21 + k)))) :: ((lq1, .inr (4, [.int (md1 + nI 1), .ref (dOf E ob1), .int (nI 0)])) :: (lsT dA ob1 fe2))))))))) := hD
  exact x_earet ((sa1, la1, lp1, lx1, ld1, lr1, lq1), md1 + nI 1, ob1, fe2) hx hb hrt (Or.inl ⟨_, rfl⟩) hlk rfl (hΨc.1.le (Nat.zero_le _)) hP hD hS dX0_fresh_13 (Nat.le_of_ble_eq_true rfl) (Nat.le_of_ble_eq_true rfl)

