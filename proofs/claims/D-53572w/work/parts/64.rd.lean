theorem fwk_8 {U : State} (h : FW U) : va_Fw "java/lang/StringBuilder" ⟨"java/lang/CharSequence", "length", "()I"⟩ yJ4_length U := h ("java/lang/StringBuilder", ⟨"java/lang/CharSequence", "length", "()I"⟩, yJ4_length) (List.mem_of_getElem? (i := 8) rfl)
theorem fwk_9 {U : State} (h : FW U) : va_Fw "java/lang/StringBuilder" ⟨"java/lang/CharSequence", "charAt", "(I)C"⟩ yJ4_charAt U := h ("java/lang/StringBuilder", ⟨"java/lang/CharSequence", "charAt", "(I)C"⟩, yJ4_charAt) (List.mem_of_getElem? (i := 9) rfl)
/-- a text as numbers -/
def tI (ch : Nat → Nat) : Nat → Int32 := fun i => nI (ch i)
section SEE
variable {ch : Nat → Nat} {ln pa : Nat}
theorem see_1 (h1 : ln ≤ pa) : nI 0 = bI (mSees (tI ch) ln pa (nI 48) (nI 57)) := by unfold mSees; rw [if_pos h1]; rfl
theorem see_2 (h1 : pa < ln) (h2 : nI (ch pa) < nI 48) : nI 0 = bI (mSees (tI ch) ln pa (nI 48) (nI 57)) := by unfold mSees mIn; rw [if_neg (Nat.not_le.mpr h1), if_pos (show tI ch pa < nI 48 from h2), if_pos rfl]; rfl
theorem see_3 (h1 : pa < ln) (h2 : ¬ nI (ch pa) < nI 48) (h3 : nI 57 < nI (ch pa)) : nI 0 = bI (mSees (tI ch) ln pa (nI 48) (nI 57)) := by unfold mSees mIn; rw [if_neg (Nat.not_le.mpr h1), if_neg (show ¬ tI ch pa < nI 48 from h2), if_pos (show nI 57 < tI ch pa from h3), if_pos rfl]; rfl
theorem see_4 (h1 : pa < ln) (h2 : ¬ nI (ch pa) < nI 48) (h3 : ¬ nI 57 < nI (ch pa)) : nI 1 = bI (mSees (tI ch) ln pa (nI 48) (nI 57)) := by unfold mSees mIn; rw [if_neg (Nat.not_le.mpr h1), if_neg (show ¬ tI ch pa < nI 48 from h2), if_neg (show ¬ nI 57 < tI ch pa from h3), if_neg (by decide)]; rfl
end SEE

set_option maxHeartbeats 4000000 in
theorem xz_dig (l : Launch) (D : va_G) (dA : Nat → ClassId) (E : Nat) (ad : Nat → Nat) (sz0 mi : Nat) (rd tb : Nat) (ut : TU) (mb : Int32) (ln : Nat) (ch : Nat → Nat) (htx : TxOk ut ch ln) (hln : ln ≤ 60) (hch : ∀ i, i < ln → ch i < 65536) (pa : Nat) (hpa : pa ≤ 61) : RO l yX7_isDigit cX7_isDigit 1 (some .boolean) 4 160 [.ref rd] (G1 D dA E ad sz0 mi) (fun H => va_P D vwCl [(rd, .inr (7, [.ref tb, .int (nI pa)])), (tb, .inr (10, [.ref ut.2.1, .int (nI (bif ut.1 then 1 else 0)), .int mb, .int (nI ln)])), (ut.2.1, .inl (dA 2, (bif ut.1 then 2 * ut.2.2.1 else ut.2.2.1), .inl ut.2.2.2))] H) (some (.int (bI (mSees (tI ch) ln pa (nI 48) (nI 57))))) := by
  refine ro_of (by decide) (Nat.le_of_ble_eq_true rfl) ?_
  intro p e s m below meth c S hrt hlk G hP ls hl
  obtain ⟨hx, hb, hml, hown, hts⟩ := id S
  have hP : va_P D vwCl [(rd, .inr (7, [.ref tb, .int (nI pa)])), (tb, .inr (10, [.ref ut.2.1, .int (nI (bif ut.1 then 1 else 0)), .int mb, .int (nI ln)])), (ut.2.1, .inl (dA 2, (bif ut.1 then 2 * ut.2.2.1 else ut.2.2.1), .inl ut.2.2.2))] s.heap := hP
  have K := G.1.1
  have hl : lv_has ls 1 [(0, .ref rd)] := hl
  refine lv_aload_n hx hb dX7_isDigit_0 rfl (lv_at hl 0 rfl) ?_
  refine va_get (D := D) (ci := 7) (C := RX7) (T := TX7) (N := 2) hx hb hts in_X7 hown K hP 0 rfl rfl 1 (by decide) (hts _ q662) (fun _ h9 => h9) rfl dX7_isDigit_1 ?_
  refine lv_aload_n hx hb dX7_isDigit_4 rfl (lv_at hl 0 rfl) ?_
  refine va_get (D := D) (ci := 7) (C := RX7) (T := TX7) (N := 2) hx hb hts in_X7 hown K hP 0 rfl rfl 0 (by decide) (hts _ q661) (fun _ h9 => h9) rfl dX7_isDigit_5 ?_
  refine x_ret5 (va_runF ((K.1 10 _ rfl).2) (As := []) (rest := [.int (nI pa)]) S (xv_len l D dA E ad sz0 mi tb ut mb ln ch htx) (va_cwF 0 hts (lw_F (x := ⟨"java/lang/CharSequence", "length", "()I"⟩) (y := yJ4_length) q673 q677 q679 q66 q681) rfl rfl rfl (fwk_8 G.1.2.2.1) (by decide +kernel) ⟨Nat.le_of_ble_eq_true rfl, Nat.le_of_ble_eq_true rfl⟩) ⟨bb_blind g1_bl _, va_recv K hP (ci := 10) (q0 := 1) rfl rfl, bb_pre (g1_mv G (fun _ _ => rfl) (Nat.le_refl _)) (hP.sub [1, 2] rfl) _⟩ rfl rfl hl.1 rfl (lv_room (Nat.le_of_ble_eq_true rfl)) dX7_isDigit_8 ⟨Nat.le_refl _, Nat.le_refl _⟩) ?_
  refine x_icmpn_ge (tgt := 56) hx hb dX7_isDigit_13 (by decide) (by omega) (by omega) (fun h_1 => ?_) (fun h_1 => ?_)
  · refine lv_iconst (v := nI 0) hx hb dX7_isDigit_56 (by decide) ?_
    exact x_zret hx hb hrt hlk (see_1 h_1) dX7_isDigit_57
  · refine lv_aload_n hx hb dX7_isDigit_16 rfl (lv_at hl 0 rfl) ?_
    refine va_get (D := D) (ci := 7) (C := RX7) (T := TX7) (N := 2) hx hb hts in_X7 hown K hP 0 rfl rfl 0 (by decide) (hts _ q661) (fun _ h9 => h9) rfl dX7_isDigit_17 ?_
    refine lv_aload_n hx hb dX7_isDigit_20 rfl (lv_at hl 0 rfl) ?_
    refine va_get (D := D) (ci := 7) (C := RX7) (T := TX7) (N := 2) hx hb hts in_X7 hown K hP 0 rfl rfl 1 (by decide) (hts _ q662) (fun _ h9 => h9) rfl dX7_isDigit_21 ?_
    refine x_ret5 (va_runF ((K.1 10 _ rfl).2) (As := [.int (nI pa)]) (rest := []) S (xv_ch l D dA E ad sz0 mi tb ut mb ln ch htx pa (by omega)) (va_cwF 1 hts (lw_F (x := ⟨"java/lang/CharSequence", "charAt", "(I)C"⟩) (y := yJ4_charAt) q686 q689 q691 q66 q693) rfl rfl rfl (fwk_9 G.1.2.2.1) (by decide +kernel) ⟨Nat.le_of_ble_eq_true rfl, Nat.le_of_ble_eq_true rfl⟩) ⟨bb_blind g1_bl _, va_recv K hP (ci := 10) (q0 := 1) rfl rfl, bb_pre (g1_mv G (fun _ _ => rfl) (Nat.le_refl _)) (hP.sub [1, 2] rfl) _⟩ rfl rfl hl.1 rfl (lv_room (Nat.le_of_ble_eq_true rfl)) dX7_isDigit_24 ⟨Nat.le_refl _, Nat.le_refl _⟩) ?_
    refine lv_bipush (v := nI 48) hx hb dX7_isDigit_29 (by decide) ?_
    refine lv_icmp_lt (tgt := 56) hx hb dX7_isDigit_31 (by decide) (fun h_2 => ?_) (fun h_2 => ?_)
    · refine lv_iconst (v := nI 0) hx hb dX7_isDigit_56 (by decide) ?_
      exact x_zret hx hb hrt hlk (see_2 h_1 h_2) dX7_isDigit_57
    · refine lv_aload_n hx hb dX7_isDigit_34 rfl (lv_at hl 0 rfl) ?_
      refine va_get (D := D) (ci := 7) (C := RX7) (T := TX7) (N := 2) hx hb hts in_X7 hown K hP 0 rfl rfl 0 (by decide) (hts _ q661) (fun _ h9 => h9) rfl dX7_isDigit_35 ?_
      refine lv_aload_n hx hb dX7_isDigit_38 rfl (lv_at hl 0 rfl) ?_
      refine va_get (D := D) (ci := 7) (C := RX7) (T := TX7) (N := 2) hx hb hts in_X7 hown K hP 0 rfl rfl 1 (by decide) (hts _ q662) (fun _ h9 => h9) rfl dX7_isDigit_39 ?_
      refine x_ret5 (va_runF ((K.1 10 _ rfl).2) (As := [.int (nI pa)]) (rest := []) S (xv_ch l D dA E ad sz0 mi tb ut mb ln ch htx pa (by omega)) (va_cwF 1 hts (lw_F (x := ⟨"java/lang/CharSequence", "charAt", "(I)C"⟩) (y := yJ4_charAt) q686 q689 q691 q66 q693) rfl rfl rfl (fwk_9 G.1.2.2.1) (by decide +kernel) ⟨Nat.le_of_ble_eq_true rfl, Nat.le_of_ble_eq_true rfl⟩) ⟨bb_blind g1_bl _, va_recv K hP (ci := 10) (q0 := 1) rfl rfl, bb_pre (g1_mv G (fun _ _ => rfl) (Nat.le_refl _)) (hP.sub [1, 2] rfl) _⟩ rfl rfl hl.1 rfl (lv_room (Nat.le_of_ble_eq_true rfl)) dX7_isDigit_42 ⟨Nat.le_refl _, Nat.le_refl _⟩) ?_
      refine lv_bipush (v := nI 57) hx hb dX7_isDigit_47 (by decide) ?_
      refine lv_icmp_gt (tgt := 56) hx hb dX7_isDigit_49 (by decide) (fun h_3 => ?_) (fun h_3 => ?_)
      · refine lv_iconst (v := nI 0) hx hb dX7_isDigit_56 (by decide) ?_
        exact x_zret hx hb hrt hlk (see_3 h_1 h_2 h_3) dX7_isDigit_57
      · refine lv_iconst (v := nI 1) hx hb dX7_isDigit_52 (by decide) ?_
        refine lv_goto (tgt := 57) hx hb dX7_isDigit_53 (by decide) ?_
        exact x_zret hx hb hrt hlk (see_4 h_1 h_2 h_3) dX7_isDigit_57

set_option maxHeartbeats 4000000 in
theorem xz_num (l : Launch) (D : va_G) (dA : Nat → ClassId) (E : Nat) (ad : Nat → Nat) (sz0 mi : Nat) (rd tb : Nat) (ut : TU) (mb : Int32) (ln : Nat) (ch : Nat → Nat) (htx : TxOk ut ch ln) (hln : ln ≤ 60) (hch : ∀ i, i < ln → ch i < 65536) (pa : Nat) (hpa : pa ≤ 61) (hsee : mSees (tI ch) ln pa (nI 48) (nI 57) = true) (V : Int32 × Nat) (hV : rdV (tI ch) ln pa = V) (FZ : va_W) (htm : ∀ x ∈ tW dA tb ut mb ln, x ∈ FZ) (hup : Up sz0 ([(rd, .inr (7, [.ref tb, .int (nI pa)]))])) (hap : Apart FZ ([(rd, .inr (7, [.ref tb, .int (nI pa)]))])) : EX l yX7_number cX7_number 2 (some .int) 5 200 0 0 [.ref rd] (G1 D dA E ad sz0 mi) D ([(rd, .inr (7, [.ref tb, .int (nI pa)]))]) (fun H => va_P D vwCl FZ H) (S := Unit) (fun _ _ => True) (fun _ => some (.int V.1)) (fun _ => [(rd, .inr (7, [.ref tb, .int (nI V.2)]))]) := by
  refine ex_of (by decide) (Nat.le_of_ble_eq_true rfl) ?_
  intro p e s m below meth c A S hrt hlk hnm G hA hAe hΦ H locs hP hD hS ls hl
  obtain ⟨hx, hb, hml, hown, hts⟩ := id S
  have K := G.1.1
  have hA0 := up_A hup G.1.2.2.2.2.2.2 hAe
  have hFA := ap_A hΦ hap hAe
  have hlt := mSees_lt hsee
  have hP : va_P D vwCl [(rd, .inr (7, [.ref tb, .int (nI pa)]))] H := hP
  have hD : va_D A [(rd, .inr (7, [.ref tb, .int (nI pa)]))] := hD
  have hl : lv_has ls 2 [(0, .ref rd)] := hl
  refine lv_aload_n hx hb dX7_number_0 rfl (lv_at hl 0 rfl) ?_
  refine x_ret (va_runV (As := []) (rest := []) S (xz_dig l D dA E ad sz0 mi rd tb ut mb ln ch htx hln hch pa (by omega)) (cwV 0 hts (lw_V q780 q782 qs14 q82 q783) rfl rfl rfl hdX7_isDigit ⟨Nat.le_of_ble_eq_true rfl, Nat.le_of_ble_eq_true rfl⟩) ⟨bb_blind g1_bl _, va_recv K hP (ci := 7) (q0 := 0) rfl rfl, bb_pre (g1_mv G (low_of hS hA0 G.1.2.2.2.2.2.2) hS.1) (vP_app (w1 := [_]) |>.mpr ⟨hP.sub [0] rfl, (vP_sub (fz_S hΦ hFA hS) htm)⟩) _⟩ rfl rfl hl.1 rfl (lv_room (Nat.le_of_ble_eq_true rfl)) dX7_number_1 ⟨Nat.le_of_ble_eq_true rfl, Nat.le_of_ble_eq_true rfl⟩) ?_
  refine x_ifb_ne (tgt := 19) hx hb dX7_number_4 (by decide) (fun _ => ?_) (fun h => absurd (hsee.symm.trans h) (by decide))
  refine lv_aload_n hx hb dX7_number_19 rfl (lv_at hl 0 rfl) ?_
  refine va_get (D := D) (ci := 7) (C := RX7) (T := TX7) (N := 2) hx hb hts in_X7 hown K hP 0 rfl rfl 0 (by decide) (hts _ q661) (fun _ h9 => h9) rfl dX7_number_20 ?_
  refine lv_aload_n hx hb dX7_number_23 rfl (lv_at hl 0 rfl) ?_
  refine lv_dup hx hb dX7_number_24 rfl ?_
  refine va_get (D := D) (ci := 7) (C := RX7) (T := TX7) (N := 2) hx hb hts in_X7 hown K hP 0 rfl rfl 1 (by decide) (hts _ q662) (fun _ h9 => h9) rfl dX7_number_25 ?_
  refine lv_dup_x1 hx hb dX7_number_28 rfl rfl ?_
  refine lv_iconst (v := nI 1) hx hb dX7_number_29 (by decide) ?_
  refine x_addN hx hb dX7_number_30 ?_
  refine va_put (D := D) (ci := 7) (v := .int (nI (pa + 1))) (ty := .int) (C := RX7) (T := TX7) (N := 2) hx hb hts in_X7 tyX7 tyX7_ok nmX7 hown K hP hD hS 0 rfl rfl 1 (by decide) (hts _ q662) (fun _ h9 => h9) rfl (by decide +kernel) rfl rfl (Nat.le_of_ble_eq_true rfl) dX7_number_31 (fun H locs hP hD hS => ?_)
  have hP : va_P D vwCl [(rd, .inr (7, [.ref tb, .int (nI (pa + 1))]))] H := hP
  have hD : va_D A [(rd, .inr (7, [.ref tb, .int (nI (pa + 1))]))] := hD
  refine x_ret5 (va_runF ((K.1 10 _ rfl).2) (As := [.int (nI pa)]) (rest := []) S (xv_ch l D dA E ad sz0 mi tb ut mb ln ch htx pa (by omega)) (va_cwF 1 hts (lw_F (x := ⟨"java/lang/CharSequence", "charAt", "(I)C"⟩) (y := yJ4_charAt) q686 q689 q691 q66 q693) rfl rfl rfl (fwk_9 G.1.2.2.1) (by decide +kernel) ⟨Nat.le_of_ble_eq_true rfl, Nat.le_of_ble_eq_true rfl⟩) ⟨bb_blind g1_bl _, va_recv K (vP_sub (fz_S hΦ hFA hS) htm) (ci := 10) (q0 := 0) rfl rfl, bb_pre (g1_mv G (low_of hS hA0 G.1.2.2.2.2.2.2) hS.1) (vP_sub (fz_S hΦ hFA hS) htm) _⟩ rfl rfl hl.1 rfl (lv_room (Nat.le_of_ble_eq_true rfl)) dX7_number_34 ⟨Nat.le_of_ble_eq_true rfl, Nat.le_of_ble_eq_true rfl⟩) ?_
  refine lv_bipush (v := nI 48) hx hb dX7_number_39 (by decide) ?_
  refine lv_isub hx hb dX7_number_41 ?_
  refine lv_istore_n (lv' := [(1, .int ((nI (ch pa)) - (nI 48))), (0, .ref rd)]) hx hb dX7_number_42 rfl hl (by decide) rfl (fun ls hl => ?_)
  refine lv_iload_n hx hb dX7_number_43 rfl (lv_at hl 0 rfl) ?_
  refine lv_if_le (tgt := 85) hx hb dX7_number_44 (by decide) (fun h_1 => ?_) (fun h_1 => ?_)
  · refine lv_iload_n hx hb dX7_number_85 rfl (lv_at hl 0 rfl) ?_
    have hE := hV.symm.trans (if_pos h_1)
    subst hE
    exact x_eiret () hx hb hrt hlk rfl trivial hP hD hS dX7_number_86 (Nat.le_of_ble_eq_true rfl) (Nat.le_of_ble_eq_true rfl)
  · refine lv_aload_n hx hb dX7_number_47 rfl (lv_at hl 1 rfl) ?_
    refine x_ret (va_runV (As := []) (rest := []) S (xz_dig l D dA E ad sz0 mi rd tb ut mb ln ch htx hln hch (pa + 1) (by omega)) (cwV 0 hts (lw_V q780 q782 qs14 q82 q783) rfl rfl rfl hdX7_isDigit ⟨Nat.le_of_ble_eq_true rfl, Nat.le_of_ble_eq_true rfl⟩) ⟨bb_blind g1_bl _, va_recv K hP (ci := 7) (q0 := 0) rfl rfl, bb_pre (g1_mv G (low_of hS hA0 G.1.2.2.2.2.2.2) hS.1) (vP_app (w1 := [_]) |>.mpr ⟨hP.sub [0] rfl, (vP_sub (fz_S hΦ hFA hS) htm)⟩) _⟩ rfl rfl hl.1 rfl (lv_room (Nat.le_of_ble_eq_true rfl)) dX7_number_48 ⟨Nat.le_of_ble_eq_true rfl, Nat.le_of_ble_eq_true rfl⟩) ?_
    refine x_ifb_eq (tgt := 85) hx hb dX7_number_51 (by decide) (fun h_2 => ?_) (fun h_2 => ?_)
    · refine lv_iload_n hx hb dX7_number_85 rfl (lv_at hl 0 rfl) ?_
      have hE := hV.symm.trans ((if_neg h_1).trans (if_pos h_2))
      subst hE
      exact x_eiret () hx hb hrt hlk rfl trivial hP hD hS dX7_number_86 (Nat.le_of_ble_eq_true rfl) (Nat.le_of_ble_eq_true rfl)
    · refine lv_bipush (v := nI 10) hx hb dX7_number_54 (by decide) ?_
      refine lv_iload_n hx hb dX7_number_56 rfl (lv_at hl 0 rfl) ?_
      refine lv_imul hx hb dX7_number_57 ?_
      refine lv_aload_n hx hb dX7_number_58 rfl (lv_at hl 1 rfl) ?_
      refine va_get (D := D) (ci := 7) (C := RX7) (T := TX7) (N := 2) hx hb hts in_X7 hown K hP 0 rfl rfl 0 (by decide) (hts _ q661) (fun _ h9 => h9) rfl dX7_number_59 ?_
      refine lv_aload_n hx hb dX7_number_62 rfl (lv_at hl 1 rfl) ?_
      refine lv_dup hx hb dX7_number_63 rfl ?_
      refine va_get (D := D) (ci := 7) (C := RX7) (T := TX7) (N := 2) hx hb hts in_X7 hown K hP 0 rfl rfl 1 (by decide) (hts _ q662) (fun _ h9 => h9) rfl dX7_number_64 ?_
      refine lv_dup_x1 hx hb dX7_number_67 rfl rfl ?_
      refine lv_iconst (v := nI 1) hx hb dX7_number_68 (by decide) ?_
      refine x_addN hx hb dX7_number_69 ?_
      refine va_put (D := D) (ci := 7) (v := .int (nI ((pa + 1) + 1))) (ty := .int) (C := RX7) (T := TX7) (N := 2) hx hb hts in_X7 tyX7 tyX7_ok nmX7 hown K hP hD hS 0 rfl rfl 1 (by decide) (hts _ q662) (fun _ h9 => h9) rfl (by decide +kernel) rfl rfl (Nat.le_of_ble_eq_true rfl) dX7_number_70 (fun H locs hP hD hS => ?_)
      have hP : va_P D vwCl [(rd, .inr (7, [.ref tb, .int (nI ((pa + 1) + 1))]))] H := hP
      have hD : va_D A [(rd, .inr (7, [.ref tb, .int (nI ((pa + 1) + 1))]))] := hD
      refine x_ret5 (va_runF ((K.1 10 _ rfl).2) (As := [.int (nI (pa + 1))]) (rest := [.int ((nI 10) * ((nI (ch pa)) - (nI 48)))]) S (xv_ch l D dA E ad sz0 mi tb ut mb ln ch htx (pa + 1) (mSees_lt h_2)) (va_cwF 1 hts (lw_F (x := ⟨"java/lang/CharSequence", "charAt", "(I)C"⟩) (y := yJ4_charAt) q686 q689 q691 q66 q693) rfl rfl rfl (fwk_9 G.1.2.2.1) (by decide +kernel) ⟨Nat.le_of_ble_eq_true rfl, Nat.le_of_ble_eq_true rfl⟩) ⟨bb_blind g1_bl _, va_recv K (vP_sub (fz_S hΦ hFA hS) htm) (ci := 10) (q0 := 0) rfl rfl, bb_pre (g1_mv G (low_of hS hA0 G.1.2.2.2.2.2.2) hS.1) (vP_sub (fz_S hΦ hFA hS) htm) _⟩ rfl rfl hl.1 rfl (lv_room (Nat.le_of_ble_eq_true rfl)) dX7_number_73 ⟨Nat.le_of_ble_eq_true rfl, Nat.le_of_ble_eq_true rfl⟩) ?_
      refine lv_iadd hx hb dX7_number_78 ?_
      refine lv_bipush (v := nI 48) hx hb dX7_number_79 (by decide) ?_
      refine lv_isub hx hb dX7_number_81 ?_
      refine lv_goto (tgt := 86) hx hb dX7_number_82 (by decide) ?_
      have hE := hV.symm.trans ((if_neg h_1).trans (if_neg (by rw [h_2]; decide)))
      subst hE
      exact x_eiret () hx hb hrt hlk rfl trivial hP hD hS dX7_number_86 (Nat.le_of_ble_eq_true rfl) (Nat.le_of_ble_eq_true rfl)

