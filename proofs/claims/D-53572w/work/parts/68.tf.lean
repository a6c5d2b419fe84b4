section RDN
variable {txt rd : Nat → Int32} {ln r c pa : Nat}
theorem comma_1 {ch : Nat → Nat} (h : pa = ln) : mSees (tI ch) ln pa (nI 44) (nI 44) = false := by unfold mSees; rw [if_pos (by omega)]
theorem comma_2 {ch : Nat → Nat} (h : pa < ln) (hc : ch pa < 65536) (hn : ¬ ch pa = 44) : mSees (tI ch) ln pa (nI 44) (nI 44) = false := by
  unfold mSees mIn
  rw [if_neg (Nat.not_le.mpr h)]
  by_cases h1 : ch pa < 44
  · rw [if_pos (show tI ch pa < nI 44 from nI_lt h1 (by omega)), if_pos rfl]
  · rw [if_neg (show ¬ tI ch pa < nI 44 from nI_nlt (by omega) (by omega)), if_pos (show nI 44 < tI ch pa from nI_lt (by omega) (by omega)), if_pos rfl]
theorem comma_3 {ch : Nat → Nat} (h : pa < ln) (hn : ch pa = 44) : mSees (tI ch) ln pa (nI 44) (nI 44) = true := by
  unfold mSees mIn
  have e : tI ch pa = nI 44 := by unfold tI; rw [hn]
  rw [if_neg (Nat.not_le.mpr h), e, if_neg (by decide)]
theorem rdN_z0 (h : ¬ pa = ln) : rdN txt ln 0 c pa rd = (false, pa, rd) := by unfold rdN; rw [if_neg h]
theorem rdN_z1 (h : pa = ln) : rdN txt ln 0 c pa rd = (true, pa, rd) := by unfold rdN; rw [if_pos h]
theorem rdN_e1 (h : ¬ c = 0) (h1 : mSees txt ln pa (nI 44) (nI 44) = false) : rdN txt ln (r + 1) c pa rd = (false, pa, rd) := by rw [rdN, if_pos ⟨h, h1⟩]
theorem rdN_nc (h : c = 0 ∨ mSees txt ln pa (nI 44) (nI 44) = true) : ¬ (c ≠ 0 ∧ mSees txt ln pa (nI 44) (nI 44) = false) := by
  rintro ⟨h1, h2⟩
  rcases h with h | h
  · exact h1 h
  · rw [h] at h2; cases h2
theorem rdN_e2 {P : Nat} (h : c = 0 ∨ mSees txt ln pa (nI 44) (nI 44) = true) (hP : rdP c pa = P) (h1 : mSees txt ln P (nI 48) (nI 57) = false) : rdN txt ln (r + 1) c pa rd = (false, P, rd) := by rw [rdN, if_neg (rdN_nc h), hP, if_pos h1]
theorem rdN_e3 {P : Nat} (h : c = 0 ∨ mSees txt ln pa (nI 44) (nI 44) = true) (hP : rdP c pa = P) (h1 : mSees txt ln P (nI 48) (nI 57) = true) : rdN txt ln (r + 1) c pa rd = rdN txt ln r (c + 1) (rdV txt ln P).2 (upd rd c (rdV txt ln P).1) := by rw [rdN, if_neg (rdN_nc h), hP, if_neg (by rw [h1]; decide)]
theorem rdV_le (h : mSees txt ln pa (nI 48) (nI 57) = true) : (rdV txt ln pa).2 ≤ ln := by
  have h0 := mSees_lt h
  unfold rdV
  split
  · exact h0
  · split
    · exact h0
    · rename_i h1 h2
      exact mSees_lt (txt := txt) (pa := pa + 1) (lo := nI 48) (hi := nI 57) (by revert h2; cases mSees txt ln (pa + 1) (nI 48) (nI 57) <;> simp)
theorem b_or {P : Prop} (b : Bool) (h0 : b = false → P) (h1 : b = true → P) : P := by
  cases b with
  | false => exact h0 rfl
  | true => exact h1 rfl
end RDN

set_option maxHeartbeats 4000000 in
theorem xf_init (l : Launch) (D : va_G) (dA : Nat → ClassId) (E : Nat) (ad : Nat → Nat) (sz0 mi : Nat) (hlt : l.stackTraces = false) (f pa : Nat) (hup : Up sz0 ([(f, .inr (8, [.null, .null, .null, .null, .null, .int (nI 0), .int (nI 0)]))])) : EX l yX8_init cX8_init 2 none 4 200 0 0 [.ref f, .int (nI pa)] (G1 D dA E ad sz0 mi) D ([(f, .inr (8, [.null, .null, .null, .null, .null, .int (nI 0), .int (nI 0)]))]) (fun H => MF f H) (S := Nat → Value) (fun _ _ => True) (fun _ => none) (fun u => [(f, .inr (8, [u 0, u 1, u 2, u 3, u 4, u 5, .int (nI pa)]))]) := by
  refine ex_of0 (by decide) (Nat.le_of_ble_eq_true rfl) ?_
  intro p e s m below meth c A S hrt hlk hnm G hA hAe hΦ H locs hH0 hL0 hP hD hS ls hl
  obtain ⟨hx, hb, hml, hown, hts⟩ := id S
  have K := G.1.1
  have hA0 := up_A hup G.1.2.2.2.2.2.2 hAe
  have hP : va_P D vwCl [(f, .inr (8, [.null, .null, .null, .null, .null, .int (nI 0), .int (nI 0)]))] H := hP
  have hD : va_D A [(f, .inr (8, [.null, .null, .null, .null, .null, .int (nI 0), .int (nI 0)]))] := hD
  have hl : lv_has ls 2 [(0, .ref f), (1, .int (nI pa))] := hl
  refine lv_aload_n hx hb dX8_init_0 rfl (lv_at hl 0 rfl) ?_
  subst hH0
  subst hL0
  refine x_sup8 hx hb hlt hown hts G (hl.1.trans hml.symm) hP hΦ dX8_init_1 (by decide) (Nat.le_of_ble_eq_true rfl) (fun u H locs hP1 hk1 hz1 hb1 => ?_)
  have hS : va_S A s.heap H locs := ⟨by rw [hz1]; exact Nat.le_refl _, fun q h1 h2 => hk1 q (fun e9 => h2 (by rw [e9]; exact hD.2 0 _ rfl)), fun z hz => by rw [hb1 z hz]; exact hD.2 0 _ rfl⟩
  have hD := vD_sing (y := .inr (8, [u 0, u 1, u 2, u 3, u 4, u 5, .int (nI 0)])) hD
  have hP := hP1
  have hP : va_P D vwCl [(f, .inr (8, [u 0, u 1, u 2, u 3, u 4, u 5, .int (nI 0)]))] H := hP
  have hD : va_D A [(f, .inr (8, [u 0, u 1, u 2, u 3, u 4, u 5, .int (nI 0)]))] := hD
  refine lv_aload_n hx hb dX8_init_4 rfl (lv_at hl 0 rfl) ?_
  refine lv_iload_n hx hb dX8_init_5 rfl (lv_at hl 1 rfl) ?_
  refine va_putF (D := D) (ci := 8) (v := .int (nI pa)) (ty := .int) (C := RX8) (T := TX8) (N := 7) hx hb hts in_X8 tyX8 tyX8_ok nmX8 hown K hP hD hS 0 rfl rfl 6 (by decide) (hts _ q760) (fun _ h9 => h9) rfl hnm rfl (by decide +kernel) rfl rfl (Nat.le_of_ble_eq_true rfl) dX8_init_6 (fun H locs hP hD hS => ?_)
  have hP : va_P D vwCl [(f, .inr (8, [u 0, u 1, u 2, u 3, u 4, u 5, .int (nI pa)]))] H := hP
  have hD : va_D A [(f, .inr (8, [u 0, u 1, u 2, u 3, u 4, u 5, .int (nI pa)]))] := hD
  exact x_evret u hx hb hrt hlk rfl trivial hP hD hS dX8_init_9 (Nat.le_of_ble_eq_true rfl) (Nat.le_of_ble_eq_true rfl)

set_option maxHeartbeats 4000000 in
theorem xz_ini (l : Launch) (D : va_G) (dA : Nat → ClassId) (E : Nat) (ad : Nat → Nat) (sz0 mi : Nat) (rd tb : Nat) (hup : Up sz0 ([(rd, .inr (7, [.null, .int (nI 0)]))])) : EX l yX7_init cX7_init 2 none 1 40 0 0 [.ref rd, .ref tb] (G1 D dA E ad sz0 mi) D ([(rd, .inr (7, [.null, .int (nI 0)]))]) (fun _ => True) (S := Unit) (fun _ _ => True) (fun _ => none) (fun _ => [(rd, .inr (7, [.ref tb, .int (nI 0)]))]) := by
  refine ex_of (by decide) (Nat.le_of_ble_eq_true rfl) ?_
  intro p e s m below meth c A S hrt hlk hnm G hA hAe hΦ H locs hP hD hS ls hl
  obtain ⟨hx, hb, hml, hown, hts⟩ := id S
  have K := G.1.1
  have hA0 := up_A hup G.1.2.2.2.2.2.2 hAe
  have hP : va_P D vwCl [(rd, .inr (7, [.null, .int (nI 0)]))] H := hP
  have hD : va_D A [(rd, .inr (7, [.null, .int (nI 0)]))] := hD
  have hl : lv_has ls 2 [(0, .ref rd), (1, .ref tb)] := hl
  refine lv_aload_n hx hb dX7_init_0 rfl (lv_at hl 0 rfl) ?_
  refine W.objInit hx hb hown (hts _ q660) (hts _ q94) (hts _ q95) rfl (by rw [hml]; exact hl.1) rfl dX7_init_1 (Nat.le_of_ble_eq_true rfl) (Nat.le_of_ble_eq_true rfl) ?_
  refine W.eq (g2 := F0 m 4 ls []) rfl ?_
  refine lv_aload_n hx hb dX7_init_4 rfl (lv_at hl 0 rfl) ?_
  refine lv_aload_n hx hb dX7_init_5 rfl (lv_at hl 1 rfl) ?_
  refine va_putF (D := D) (ci := 7) (v := .ref tb) (ty := .object "java/lang/CharSequence") (C := RX7) (T := TX7) (N := 2) hx hb hts in_X7 tyX7 tyX7_ok nmX7 hown K hP hD hS 0 rfl rfl 0 (by decide) (hts _ q661) (fun _ h9 => h9) rfl hnm rfl (by decide +kernel) rfl rfl (Nat.le_of_ble_eq_true rfl) dX7_init_6 (fun H locs hP hD hS => ?_)
  have hP : va_P D vwCl [(rd, .inr (7, [.ref tb, .int (nI 0)]))] H := hP
  have hD : va_D A [(rd, .inr (7, [.ref tb, .int (nI 0)]))] := hD
  exact x_evret () hx hb hrt hlk rfl trivial hP hD hS dX7_init_9 (Nat.le_of_ble_eq_true rfl) (Nat.le_of_ble_eq_true rfl)

set_option maxHeartbeats 4000000 in
theorem xz_numT (l : Launch) (D : va_G) (dA : Nat → ClassId) (E : Nat) (ad : Nat → Nat) (sz0 mi : Nat) (hlt : l.stackTraces = false) (rd tb : Nat) (ut : TU) (mb : Int32) (ln : Nat) (ch : Nat → Nat) (htx : TxOk ut ch ln) (hln : ln ≤ 60) (hch : ∀ i, i < ln → ch i < 65536) (pa : Nat) (hpa : pa ≤ 61) (hsee : mSees (tI ch) ln pa (nI 48) (nI 57) = false) (FZ : va_W) (htm : ∀ x ∈ tW dA tb ut mb ln, x ∈ FZ) (hup : Up sz0 ([(rd, .inr (7, [.ref tb, .int (nI pa)]))])) (hap : Apart FZ ([(rd, .inr (7, [.ref tb, .int (nI pa)]))])) : TX l yX7_number cX7_number 2 (some .int) 6 400 1 7 [.ref rd] (G1 D dA E ad sz0 mi) D ([(rd, .inr (7, [.ref tb, .int (nI pa)]))]) (fun H => va_P D vwCl FZ H) (S := Unit) (fun _ _ => False) (fun _ => none) (fun _ => []) (S2 := Nat × (Nat → Value)) (fun u => u.1) (fun _ _ => True) (fun u => [(rd, .inr (7, [.ref tb, .int (nI pa)])), (u.1, .inr (8, [u.2 0, u.2 1, u.2 2, u.2 3, u.2 4, u.2 5, .int (nI pa)]))]) := by
  refine tx_of (by decide) (Nat.le_of_ble_eq_true rfl) ?_
  intro p e s m below meth c A S hrt hlk hnm htab G hA hAe hΦ H locs hP hD hS ls hl
  obtain ⟨hx, hb, hml, hown, hts⟩ := id S
  have K := G.1.1
  have hA0 := up_A hup G.1.2.2.2.2.2.2 hAe
  have hFA := ap_A hΦ hap hAe
  have hP : va_P D vwCl [(rd, .inr (7, [.ref tb, .int (nI pa)]))] H := hP
  have hD : va_D A [(rd, .inr (7, [.ref tb, .int (nI pa)]))] := hD
  have hl : lv_has ls 2 [(0, .ref rd)] := hl
  refine lv_aload_n hx hb dX7_number_0 rfl (lv_at hl 0 rfl) ?_
  refine x_ret (va_runV (As := []) (rest := []) S (xz_dig l D dA E ad sz0 mi rd tb ut mb ln ch htx hln hch pa (by omega)) (cwV 0 hts (lw_V q780 q782 qs14 q82 q783) rfl rfl rfl hdX7_isDigit ⟨Nat.le_of_ble_eq_true rfl, Nat.le_of_ble_eq_true rfl⟩) ⟨bb_blind g1_bl _, va_recv K hP (ci := 7) (q0 := 0) rfl rfl, bb_pre (g1_mv G (low_of hS hA0 G.1.2.2.2.2.2.2) hS.1) (vP_app (w1 := [_]) |>.mpr ⟨hP.sub [0] rfl, (vP_sub (fz_S hΦ hFA hS) htm)⟩) _⟩ rfl rfl hl.1 rfl (lv_room (Nat.le_of_ble_eq_true rfl)) dX7_number_1 ⟨Nat.le_of_ble_eq_true rfl, Nat.le_of_ble_eq_true rfl⟩) ?_
  refine x_ifb_ne (tgt := 19) hx hb dX7_number_4 (by decide) (fun h => absurd (hsee.symm.trans h) (by decide)) (fun _ => ?_)
  refine x_newF (D := D) (ci := 8) (fs := [.null, .null, .null, .null, .null, .int (nI 0), .int (nI 0)]) (C := RX8) (T := TX8) (N := 7) hx hb hts in_X8 tyX8 tyX8_ok hown (hts _ q716) (hts _ q717) (hts _ q85) K hP hD hS hA rfl (fun j hj => by rcases (show j = 0 ∨ j = 1 ∨ j = 2 ∨ j = 3 ∨ j = 4 ∨ j = 5 ∨ j = 6 by omega) with rfl | rfl | rfl | rfl | rfl | rfl | rfl <;> rfl) (Nat.le_of_ble_eq_true rfl) (Nat.le_of_ble_eq_true rfl) dX7_number_7 (fun f H hP hD hS hmf => ?_)
  have hP : va_P D vwCl [(rd, .inr (7, [.ref tb, .int (nI pa)])), (f, .inr (8, [.null, .null, .null, .null, .null, .int (nI 0), .int (nI 0)]))] H := hP
  have hD : va_D A [(rd, .inr (7, [.ref tb, .int (nI pa)])), (f, .inr (8, [.null, .null, .null, .null, .null, .int (nI 0), .int (nI 0)]))] := hD
  refine W.widen (k := 1) (n := 7) (Nat.le_of_ble_eq_true rfl) (Nat.le_of_ble_eq_true rfl) ?_
  refine lv_dup hx hb dX7_number_10 rfl ?_
  refine lv_aload_n hx hb dX7_number_11 rfl (lv_at hl 0 rfl) ?_
  refine va_get (D := D) (ci := 7) (C := RX7) (T := TX7) (N := 2) hx hb hts in_X7 hown K hP 0 rfl rfl 1 (by decide) (hts _ q662) (fun _ h9 => h9) rfl dX7_number_12 ?_
  have hpm : ([(rd, .inr (7, [.ref tb, .int (nI pa)])), (f, .inr (8, [.null, .null, .null, .null, .null, .int (nI 0), .int (nI 0)]))] : va_W).Perm ([(rd, .inr (7, [.ref tb, .int (nI pa)]))] ++ [(f, .inr (8, [.null, .null, .null, .null, .null, .int (nI 0), .int (nI 0)]))]) := pmC ([[(rd, .inr (7, [.ref tb, .int (nI pa)]))], [(f, .inr (8, [.null, .null, .null, .null, .null, .int (nI 0), .int (nI 0)]))]] : List va_W) [0] [1] rfl
  have hPc := (vP_app.mp (vP_perm hpm hP)).2
  have hDc := vD_right (vD_perm hpm hD)
  have hPc : va_P D vwCl [(f, .inr (8, [.null, .null, .null, .null, .null, .int (nI 0), .int (nI 0)]))] H := hPc
  have hDc : va_D A [(f, .inr (8, [.null, .null, .null, .null, .null, .int (nI 0), .int (nI 0)]))] := hDc
  refine x_ecallP (va_runI (As := [.int (nI pa)]) (rest := [.ref f]) S (xf_init l D dA E ad sz0 mi hlt f pa (up_D hA0 hDc) H.size) (cwI 1 hts (lw_meth q755) rfl rfl rfl (hts _ q85) (hts _ q753) (hts _ q754) rfl (by decide +kernel) ⟨Nat.le_of_ble_eq_true rfl, Nat.le_of_ble_eq_true rfl⟩) ⟨pe_blind g1_bl _, pe_pre (g1_mv G (low_of hS hA0 G.1.2.2.2.2.2.2) hS.1) hPc hDc hmf _⟩ rfl rfl hl.1 rfl (lv_room (Nat.le_of_ble_eq_true rfl)) dX7_number_15 ⟨Nat.le_of_ble_eq_true rfl, Nat.le_of_ble_eq_true rfl⟩) hP hD hS hA [(rd, .inr (7, [.ref tb, .int (nI pa)]))] hpm (fun u1 H locs hΨ hP hD hS hkp hsz hDn => ?_)
  have hP : va_P D vwCl [(rd, .inr (7, [.ref tb, .int (nI pa)])), (f, .inr (8, [u1 0, u1 1, u1 2, u1 3, u1 4, u1 5, .int (nI pa)]))] H := hP
  have hD : va_D A [(rd, .inr (7, [.ref tb, .int (nI pa)])), (f, .inr (8, [u1 0, u1 1, u1 2, u1 3, u1 4, u1 5, .int (nI pa)]))] := hD
  refine W.widen (k := 1) (n := 7) (Nat.le_of_ble_eq_true rfl) (Nat.le_of_ble_eq_true rfl) ?_
  refine vq_athrow hx hb dX7_number_18 ?_
  exact x_tout (f, u1) G htab hlk trivial hP hD hS (i := 1) rfl (Nat.le_of_ble_eq_true rfl) (Nat.le_of_ble_eq_true rfl)

set_option maxHeartbeats 4000000 in
theorem xz_nums (l : Launch) (D : va_G) (dA : Nat → ClassId) (E : Nat) (ad : Nat → Nat) (sz0 mi : Nat) (hlt : l.stackTraces = false) (rd tb : Nat) (ut : TU) (mb : Int32) (ln : Nat) (ch : Nat → Nat) (htx : TxOk ut ch ln) (hln : ln ≤ 60) (hch : ∀ i, i < ln → ch i < 65536) (cu : Nat) (hcu : cu ≤ 8) (SV : Bool × Nat × (Nat → Int32)) (hSV : rdN (tI ch) ln cu 0 0 (fun _ => 0) = SV) (FZ : va_W) (htm : ∀ x ∈ tW dA tb ut mb ln, x ∈ FZ) (hup : Up sz0 ([(rd, .inr (7, [.ref tb, .int (nI 0)]))])) (hap : Apart FZ ([(rd, .inr (7, [.ref tb, .int (nI 0)]))])) : TX l yX7_numbers cX7_numbers 4 (some (FieldType.array FieldType.int)) 7 600 2 15 [.ref rd, .int (nI cu)] (G1 D dA E ad sz0 mi) D ([(rd, .inr (7, [.ref tb, .int (nI 0)]))]) (fun H => va_P D vwCl FZ H) (S := Nat) (fun _ _ => SV.1 = true) (fun u => some (.ref u)) (fun u => [(rd, .inr (7, [.ref tb, .int (nI SV.2.1)])), (u, .inl (dA 0, 8, .inl SV.2.2))]) (S2 := Nat × (Nat → Value)) (fun u => u.1) (fun _ _ => SV.1 = false) (fun u => [(u.1, .inr (8, [u.2 0, u.2 1, u.2 2, u.2 3, u.2 4, u.2 5, .int (nI SV.2.1)]))]) := by
  refine tx_of (by decide) (Nat.le_of_ble_eq_true rfl) ?_
  intro p e s m below meth c A S hrt hlk hnm htab G hA hAe hΦ H locs hP hD hS ls hl
  obtain ⟨hx, hb, hml, hown, hts⟩ := id S
  have K := G.1.1
  have hA0 := up_A hup G.1.2.2.2.2.2.2 hAe
  have hFA := ap_A hΦ hap hAe
  have hP : va_P D vwCl [(rd, .inr (7, [.ref tb, .int (nI 0)]))] H := hP
  have hD : va_D A [(rd, .inr (7, [.ref tb, .int (nI 0)]))] := hD
  have hl : lv_has ls 4 [(0, .ref rd), (1, .int (nI cu))] := hl
  refine lv_bipush (v := nI 8) hx hb dX7_numbers_0 (by decide) ?_
  refine x_newa (atype := .int) (N := 8) hx hb (hts _ q144) (ty := .int) rfl K hP hD hS hA 0 rfl (fun _ => rfl) rfl (by decide) (by decide) (Nat.le_of_ble_eq_true rfl) (Nat.le_of_ble_eq_true rfl) dX7_numbers_2 (fun nm H hP hD hS => ?_)
  have hP : va_P D vwCl [(rd, .inr (7, [.ref tb, .int (nI 0)])), (nm, .inl (dA 0, 8, .inl (fun _ => 0)))] H := hP
  have hD : va_D A [(rd, .inr (7, [.ref tb, .int (nI 0)])), (nm, .inl (dA 0, 8, .inl (fun _ => 0)))] := hD
  refine W.widen (k := 1) (n := 8) (Nat.le_of_ble_eq_true rfl) (Nat.le_of_ble_eq_true rfl) ?_
  refine lv_astore_n (lv' := [(2, .ref nm), (0, .ref rd), (1, .int (nI cu))]) hx hb dX7_numbers_4 rfl hl (by decide) rfl (fun ls hl => ?_)
  refine lv_iconst (v := nI 0) hx hb dX7_numbers_5 (by decide) ?_
  refine lv_istore_n (lv' := [(3, .int (nI 0)), (2, .ref nm), (0, .ref rd), (1, .int (nI cu))]) hx hb dX7_numbers_6 rfl hl (by decide) rfl (fun ls hl => ?_)
  have key : ∀ (r ci pa1 : Nat) (rd1 : Nat → Int32), ci + r = cu → pa1 ≤ ln → rdN (tI ch) ln r ci pa1 rd1 = SV → ∀ (ls : Array Slot) (H : Heap) (locs : List Loc), lv_has ls 4 [(0, .ref rd), (1, .int (nI cu)), (2, .ref nm), (3, .int (nI ci))] → va_P D vwCl [(rd, .inr (7, [.ref tb, .int (nI pa1)])), (nm, .inl (dA 0, 8, .inl rd1))] H → va_D A [(rd, .inr (7, [.ref tb, .int (nI pa1)])), (nm, .inl (dA 0, 8, .inl rd1))] → va_S A s.heap H locs → W p l e (rmW 7 600 2 15) s m ([.ref rd, .int (nI cu)]).toArray below meth c H locs 1 8 (vq_MQ below (QE (S := Nat) (fun _ _ => SV.1 = true) (fun u => some (.ref u)) D (fun u => [(rd, .inr (7, [.ref tb, .int (nI SV.2.1)])), (u, .inl (dA 0, 8, .inl SV.2.2))]) A) (QT (S := Nat × (Nat → Value)) (fun u => u.1) (fun _ _ => SV.1 = false) D (fun u => [(u.1, .inr (8, [u.2 0, u.2 1, u.2 2, u.2 3, u.2 4, u.2 5, .int (nI SV.2.1)]))]) A) ([.ref rd, .int (nI cu)]).toArray s 2 15 A) (F0 m 7 ls []) := by
    intro r
    induction r with
    | zero =>
      intro ci pa1 rd1 hcr hpa1 hSV ls H locs hl hP hD hS
      have hl : lv_has ls 4 [(0, .ref rd), (1, .int (nI cu)), (2, .ref nm), (3, .int (nI ci))] := hl
      have hP : va_P D vwCl [(rd, .inr (7, [.ref tb, .int (nI pa1)])), (nm, .inl (dA 0, 8, .inl rd1))] H := hP
      have hD : va_D A [(rd, .inr (7, [.ref tb, .int (nI pa1)])), (nm, .inl (dA 0, 8, .inl rd1))] := hD
      refine lv_iload_n hx hb dX7_numbers_7 rfl (lv_at hl 3 rfl) ?_
      refine lv_iload_n hx hb dX7_numbers_8 rfl (lv_at hl 1 rfl) ?_
      refine lv_icmp_ge (tgt := 93) hx hb dX7_numbers_9 (by decide) (fun _ => ?_) (fun h => absurd (nI_le (by omega) (by omega)) h)
      refine lv_aload_n hx hb dX7_numbers_93 rfl (lv_at hl 0 rfl) ?_
      refine va_get (D := D) (ci := 7) (C := RX7) (T := TX7) (N := 2) hx hb hts in_X7 hown K hP 0 rfl rfl 1 (by decide) (hts _ q662) (fun _ h9 => h9) rfl dX7_numbers_94 ?_
      refine lv_aload_n hx hb dX7_numbers_97 rfl (lv_at hl 0 rfl) ?_
      refine va_get (D := D) (ci := 7) (C := RX7) (T := TX7) (N := 2) hx hb hts in_X7 hown K hP 0 rfl rfl 0 (by decide) (hts _ q661) (fun _ h9 => h9) rfl dX7_numbers_98 ?_
      refine x_ret5 (va_runF ((K.1 10 _ rfl).2) (As := []) (rest := [.int (nI pa1)]) S (xv_len l D dA E ad sz0 mi tb ut mb ln ch htx) (va_cwF 0 hts (lw_F (x := ⟨"java/lang/CharSequence", "length", "()I"⟩) (y := yJ4_length) q673 q677 q679 q66 q681) rfl rfl rfl (fwk_8 G.1.2.2.1) (by decide +kernel) ⟨Nat.le_of_ble_eq_true rfl, Nat.le_of_ble_eq_true rfl⟩) ⟨bb_blind g1_bl _, va_recv K (vP_sub (fz_S hΦ hFA hS) htm) (ci := 10) (q0 := 0) rfl rfl, bb_pre (g1_mv G (low_of hS hA0 G.1.2.2.2.2.2.2) hS.1) (vP_sub (fz_S hΦ hFA hS) htm) _⟩ rfl rfl hl.1 rfl (lv_room (Nat.le_of_ble_eq_true rfl)) dX7_numbers_101 ⟨Nat.le_of_ble_eq_true rfl, Nat.le_of_ble_eq_true rfl⟩) ?_
      refine x_icmpn_ge (tgt := 121) hx hb dX7_numbers_106 (by decide) (by omega) (by omega) (fun h_2 => ?_) (fun h_2 => ?_)
      · refine lv_aload_n hx hb dX7_numbers_121 rfl (lv_at hl 2 rfl) ?_
        have hE := hSV.symm.trans (rdN_z1 (by omega))
        subst hE
        exact vq_ret (x_earet nm hx hb hrt (Or.inr ⟨_, rfl⟩) hlk rfl rfl hP hD hS dX7_numbers_122 (Nat.le_of_ble_eq_true rfl) (Nat.le_of_ble_eq_true rfl))
      · refine x_newF (D := D) (ci := 8) (fs := [.null, .null, .null, .null, .null, .int (nI 0), .int (nI 0)]) (C := RX8) (T := TX8) (N := 7) hx hb hts in_X8 tyX8 tyX8_ok hown (hts _ q716) (hts _ q717) (hts _ q85) K hP hD hS hA rfl (fun j hj => by rcases (show j = 0 ∨ j = 1 ∨ j = 2 ∨ j = 3 ∨ j = 4 ∨ j = 5 ∨ j = 6 by omega) with rfl | rfl | rfl | rfl | rfl | rfl | rfl <;> rfl) (Nat.le_of_ble_eq_true rfl) (Nat.le_of_ble_eq_true rfl) dX7_numbers_109 (fun f H hP hD hS hmf => ?_)
        have hP : va_P D vwCl [(rd, .inr (7, [.ref tb, .int (nI pa1)])), (nm, .inl (dA 0, 8, .inl rd1)), (f, .inr (8, [.null, .null, .null, .null, .null, .int (nI 0), .int (nI 0)]))] H := hP
        have hD : va_D A [(rd, .inr (7, [.ref tb, .int (nI pa1)])), (nm, .inl (dA 0, 8, .inl rd1)), (f, .inr (8, [.null, .null, .null, .null, .null, .int (nI 0), .int (nI 0)]))] := hD
        refine W.widen (k := 2) (n := 15) (Nat.le_of_ble_eq_true rfl) (Nat.le_of_ble_eq_true rfl) ?_
        refine lv_dup hx hb dX7_numbers_112 rfl ?_
        refine lv_aload_n hx hb dX7_numbers_113 rfl (lv_at hl 0 rfl) ?_
        refine va_get (D := D) (ci := 7) (C := RX7) (T := TX7) (N := 2) hx hb hts in_X7 hown K hP 0 rfl rfl 1 (by decide) (hts _ q662) (fun _ h9 => h9) rfl dX7_numbers_114 ?_
        have hpm : ([(rd, .inr (7, [.ref tb, .int (nI pa1)])), (nm, .inl (dA 0, 8, .inl rd1)), (f, .inr (8, [.null, .null, .null, .null, .null, .int (nI 0), .int (nI 0)]))] : va_W).Perm ([(rd, .inr (7, [.ref tb, .int (nI pa1)])), (nm, .inl (dA 0, 8, .inl rd1))] ++ [(f, .inr (8, [.null, .null, .null, .null, .null, .int (nI 0), .int (nI 0)]))]) := pmC ([[(rd, .inr (7, [.ref tb, .int (nI pa1)]))], [(nm, .inl (dA 0, 8, .inl rd1))], [(f, .inr (8, [.null, .null, .null, .null, .null, .int (nI 0), .int (nI 0)]))]] : List va_W) [0, 1] [2] rfl
        have hPc := (vP_app.mp (vP_perm hpm hP)).2
        have hDc := vD_right (vD_perm hpm hD)
        have hPc : va_P D vwCl [(f, .inr (8, [.null, .null, .null, .null, .null, .int (nI 0), .int (nI 0)]))] H := hPc
        have hDc : va_D A [(f, .inr (8, [.null, .null, .null, .null, .null, .int (nI 0), .int (nI 0)]))] := hDc
        refine x_ecallP (va_runI (As := [.int (nI pa1)]) (rest := [.ref f]) S (xf_init l D dA E ad sz0 mi hlt f pa1 (up_D hA0 hDc) H.size) (cwI 1 hts (lw_meth q755) rfl rfl rfl (hts _ q85) (hts _ q753) (hts _ q754) rfl (by decide +kernel) ⟨Nat.le_of_ble_eq_true rfl, Nat.le_of_ble_eq_true rfl⟩) ⟨pe_blind g1_bl _, pe_pre (g1_mv G (low_of hS hA0 G.1.2.2.2.2.2.2) hS.1) hPc hDc hmf _⟩ rfl rfl hl.1 rfl (lv_room (Nat.le_of_ble_eq_true rfl)) dX7_numbers_117 ⟨Nat.le_of_ble_eq_true rfl, Nat.le_of_ble_eq_true rfl⟩) hP hD hS hA [(rd, .inr (7, [.ref tb, .int (nI pa1)])), (nm, .inl (dA 0, 8, .inl rd1))] hpm (fun u1 H locs hΨ hP hD hS hkp hsz hDn => ?_)
        have hP : va_P D vwCl [(rd, .inr (7, [.ref tb, .int (nI pa1)])), (nm, .inl (dA 0, 8, .inl rd1)), (f, .inr (8, [u1 0, u1 1, u1 2, u1 3, u1 4, u1 5, .int (nI pa1)]))] H := hP
        have hD : va_D A [(rd, .inr (7, [.ref tb, .int (nI pa1)])), (nm, .inl (dA 0, 8, .inl rd1)), (f, .inr (8, [u1 0, u1 1, u1 2, u1 3, u1 4, u1 5, .int (nI pa1)]))] := hD
        refine W.widen (k := 2) (n := 15) (Nat.le_of_ble_eq_true rfl) (Nat.le_of_ble_eq_true rfl) ?_
        refine vq_athrow hx hb dX7_numbers_120 ?_
        have hE := hSV.symm.trans (rdN_z0 (by omega))
        subst hE
        exact x_tout (f, u1) G htab hlk rfl (hP.sub [2] rfl) (hD.sub [2] (by decide) rfl) hS (i := 0) rfl (Nat.le_of_ble_eq_true rfl) (Nat.le_of_ble_eq_true rfl)
    | succ r ih =>
      intro ci pa1 rd1 hcr hpa1 hSV ls H locs hl hP hD hS
      have hl : lv_has ls 4 [(0, .ref rd), (1, .int (nI cu)), (2, .ref nm), (3, .int (nI ci))] := hl
      have hP : va_P D vwCl [(rd, .inr (7, [.ref tb, .int (nI pa1)])), (nm, .inl (dA 0, 8, .inl rd1))] H := hP
      have hD : va_D A [(rd, .inr (7, [.ref tb, .int (nI pa1)])), (nm, .inl (dA 0, 8, .inl rd1))] := hD
      refine lv_iload_n hx hb dX7_numbers_7 rfl (lv_at hl 3 rfl) ?_
      refine lv_iload_n hx hb dX7_numbers_8 rfl (lv_at hl 1 rfl) ?_
      refine lv_icmp_ge (tgt := 93) hx hb dX7_numbers_9 (by decide) (fun h => absurd h (nI_ge (show ci < cu by omega) (by omega))) (fun _ => ?_)
      refine lv_iload_n hx hb dX7_numbers_12 rfl (lv_at hl 3 rfl) ?_
      refine x_ifn_le (tgt := 62) hx hb dX7_numbers_13 (by decide) (by omega) (fun h_4 => ?_) (fun h_4 => ?_)
      · refine lv_aload_n hx hb dX7_numbers_62 rfl (lv_at hl 0 rfl) ?_
        refine lv_dup hx hb dX7_numbers_63 rfl ?_
        refine va_get (D := D) (ci := 7) (C := RX7) (T := TX7) (N := 2) hx hb hts in_X7 hown K hP 0 rfl rfl 1 (by decide) (hts _ q662) (fun _ h9 => h9) rfl dX7_numbers_64 ?_
        refine lv_iload_n hx hb dX7_numbers_67 rfl (lv_at hl 3 rfl) ?_
        refine x_ifn_le (tgt := 75) hx hb dX7_numbers_68 (by decide) (by omega) (fun _ => ?_) (fun h => absurd h_4 h)
        refine lv_iconst (v := nI 0) hx hb dX7_numbers_75 (by decide) ?_
        refine x_addN hx hb dX7_numbers_76 ?_
        refine va_put (D := D) (ci := 7) (v := .int (nI (pa1 + 0))) (ty := .int) (C := RX7) (T := TX7) (N := 2) hx hb hts in_X7 tyX7 tyX7_ok nmX7 hown K hP hD hS 0 rfl rfl 1 (by decide) (hts _ q662) (fun _ h9 => h9) rfl (by decide +kernel) rfl rfl (Nat.le_of_ble_eq_true rfl) dX7_numbers_77 (fun H locs hP hD hS => ?_)
        have hP : va_P D vwCl [(rd, .inr (7, [.ref tb, .int (nI (pa1 + 0))])), (nm, .inl (dA 0, 8, .inl rd1))] H := hP
        have hD : va_D A [(rd, .inr (7, [.ref tb, .int (nI (pa1 + 0))])), (nm, .inl (dA 0, 8, .inl rd1))] := hD
        refine lv_aload_n hx hb dX7_numbers_80 rfl (lv_at hl 2 rfl) ?_
        refine lv_iload_n hx hb dX7_numbers_81 rfl (lv_at hl 3 rfl) ?_
        refine lv_aload_n hx hb dX7_numbers_82 rfl (lv_at hl 0 rfl) ?_
        have hP : va_P D vwCl [(rd, .inr (7, [.ref tb, .int (nI pa1)])), (nm, .inl (dA 0, 8, .inl rd1))] H := hP
        have hD : va_D A [(rd, .inr (7, [.ref tb, .int (nI pa1)])), (nm, .inl (dA 0, 8, .inl rd1))] := hD
        refine b_or (mSees (tI ch) ln pa1 (nI 48) (nI 57)) (fun hsE => ?_) (fun hsE => ?_)
        · have hsE := hsE
          have hpm : ([(rd, .inr (7, [.ref tb, .int (nI pa1)])), (nm, .inl (dA 0, 8, .inl rd1))] : va_W).Perm ([(nm, .inl (dA 0, 8, .inl rd1))] ++ [(rd, .inr (7, [.ref tb, .int (nI pa1)]))]) := pmC ([[(rd, .inr (7, [.ref tb, .int (nI pa1)]))], [(nm, .inl (dA 0, 8, .inl rd1))]] : List va_W) [1] [0] rfl
          have hPc := (vP_app.mp (vP_perm hpm hP)).2
          have hDc := vD_right (vD_perm hpm hD)
          have hPc : va_P D vwCl [(rd, .inr (7, [.ref tb, .int (nI pa1)]))] H := hPc
          have hDc : va_D A [(rd, .inr (7, [.ref tb, .int (nI pa1)]))] := hDc
          refine x_tcall (vq_runV (As := []) (rest := [.int (nI ci), .ref nm]) S (xz_numT l D dA E ad sz0 mi hlt rd tb ut mb ln ch htx hln hch pa1 (by omega) hsE FZ htm (up_D hA0 hDc) (apart_D hFA hDc) H.size) (cwV 0 hts (lw_V q776 q778 qs13 q82 q779) rfl rfl rfl hdX7_number ⟨Nat.le_of_ble_eq_true rfl, Nat.le_of_ble_eq_true rfl⟩) ⟨pe_blind g1_bl _, va_recv K hP (ci := 7) (q0 := 0) rfl rfl, pe_pre (g1_mv G (low_of hS hA0 G.1.2.2.2.2.2.2) hS.1) hPc hDc (fz_S hΦ hFA hS) _⟩ rfl rfl hl.1 rfl (lv_room (Nat.le_of_ble_eq_true rfl)) dX7_numbers_83 ⟨Nat.le_of_ble_eq_true rfl, Nat.le_of_ble_eq_true rfl⟩) hP hD hS hA [(nm, .inl (dA 0, 8, .inl rd1))] hpm (fun u1 H locs hΨ hP hD hS hkp hsz hDn => ?_) (fun _ _ _ h => h.elim)
          have hE := hSV.symm.trans (rdN_e2 (Or.inl h_4) (if_pos h_4) hsE)
          subst hE
          exact x_tout u1 G htab hlk rfl (hP.sub [2] rfl) (hD.sub [2] (by decide) rfl) hS (i := 0) rfl (Nat.le_of_ble_eq_true rfl) (Nat.le_of_ble_eq_true rfl)
        have hpm : ([(rd, .inr (7, [.ref tb, .int (nI pa1)])), (nm, .inl (dA 0, 8, .inl rd1))] : va_W).Perm ([(nm, .inl (dA 0, 8, .inl rd1))] ++ [(rd, .inr (7, [.ref tb, .int (nI pa1)]))]) := pmC ([[(rd, .inr (7, [.ref tb, .int (nI pa1)]))], [(nm, .inl (dA 0, 8, .inl rd1))]] : List va_W) [1] [0] rfl
        have hPc := (vP_app.mp (vP_perm hpm hP)).2
        have hDc := vD_right (vD_perm hpm hD)
        have hPc : va_P D vwCl [(rd, .inr (7, [.ref tb, .int (nI pa1)]))] H := hPc
        have hDc : va_D A [(rd, .inr (7, [.ref tb, .int (nI pa1)]))] := hDc
        refine x_ecallP (va_runV (As := []) (rest := [.int (nI ci), .ref nm]) S (xz_num l D dA E ad sz0 mi rd tb ut mb ln ch htx hln hch pa1 (by omega) hsE (rdV (tI ch) ln pa1) rfl FZ htm (up_D hA0 hDc) (apart_D hFA hDc) H.size) (cwV 0 hts (lw_V q776 q778 qs13 q82 q779) rfl rfl rfl hdX7_number ⟨Nat.le_of_ble_eq_true rfl, Nat.le_of_ble_eq_true rfl⟩) ⟨pe_blind g1_bl _, va_recv K hP (ci := 7) (q0 := 0) rfl rfl, pe_pre (g1_mv G (low_of hS hA0 G.1.2.2.2.2.2.2) hS.1) hPc hDc (fz_S hΦ hFA hS) _⟩ rfl rfl hl.1 rfl (lv_room (Nat.le_of_ble_eq_true rfl)) dX7_numbers_83 ⟨Nat.le_of_ble_eq_true rfl, Nat.le_of_ble_eq_true rfl⟩) hP hD hS hA [(nm, .inl (dA 0, 8, .inl rd1))] hpm (fun _u H locs hΨ hP hD hS hkp hsz hDn => ?_)
        have hP : va_P D vwCl [(nm, .inl (dA 0, 8, .inl rd1)), (rd, .inr (7, [.ref tb, .int (nI ((rdV (tI ch) ln pa1).2))]))] H := hP
        have hD : va_D A [(nm, .inl (dA 0, 8, .inl rd1)), (rd, .inr (7, [.ref tb, .int (nI ((rdV (tI ch) ln pa1).2))]))] := hD
        refine W.widen (k := 1) (n := 8) (Nat.le_of_ble_eq_true rfl) (Nat.le_of_ble_eq_true rfl) ?_
        refine x_iast hx hb K hP hD hS 0 0 rfl rfl ci rfl (by omega) (by decide) dX7_numbers_86 (fun H locs hP hD hS => ?_)
        have hP : va_P D vwCl [(nm, .inl (dA 0, 8, .inl (upd rd1 ci ((rdV (tI ch) ln pa1).1)))), (rd, .inr (7, [.ref tb, .int (nI ((rdV (tI ch) ln pa1).2))]))] H := hP
        have hD : va_D A [(nm, .inl (dA 0, 8, .inl (upd rd1 ci ((rdV (tI ch) ln pa1).1)))), (rd, .inr (7, [.ref tb, .int (nI ((rdV (tI ch) ln pa1).2))]))] := hD
        refine lv_iinc (v := nI (ci + 1)) (lv' := [(3, .int (nI (ci + 1))), (0, .ref rd), (1, .int (nI cu)), (2, .ref nm)]) hx hb dX7_numbers_87 hl (k := 3) rfl (nI_1 ci) (by decide) rfl (fun ls hl => ?_)
        refine lv_goto (tgt := 7) hx hb dX7_numbers_90 (by decide) ?_
        exact ih (ci + 1) (rdV (tI ch) ln pa1).2 (upd rd1 ci ((rdV (tI ch) ln pa1).1)) (by omega) (rdV_le hsE) ((rdN_e3 (Or.inl h_4) (if_pos h_4) hsE).symm.trans hSV) ls H locs (lv_sub hl [1, 2, 3, 0] rfl) (hP.sub [1, 0] rfl) (hD.sub [1, 0] (by decide) rfl) hS
      · refine lv_aload_n hx hb dX7_numbers_16 rfl (lv_at hl 0 rfl) ?_
        refine va_get (D := D) (ci := 7) (C := RX7) (T := TX7) (N := 2) hx hb hts in_X7 hown K hP 0 rfl rfl 1 (by decide) (hts _ q662) (fun _ h9 => h9) rfl dX7_numbers_17 ?_
        refine lv_aload_n hx hb dX7_numbers_20 rfl (lv_at hl 0 rfl) ?_
        refine va_get (D := D) (ci := 7) (C := RX7) (T := TX7) (N := 2) hx hb hts in_X7 hown K hP 0 rfl rfl 0 (by decide) (hts _ q661) (fun _ h9 => h9) rfl dX7_numbers_21 ?_
        refine x_ret5 (va_runF ((K.1 10 _ rfl).2) (As := []) (rest := [.int (nI pa1)]) S (xv_len l D dA E ad sz0 mi tb ut mb ln ch htx) (va_cwF 0 hts (lw_F (x := ⟨"java/lang/CharSequence", "length", "()I"⟩) (y := yJ4_length) q673 q677 q679 q66 q681) rfl rfl rfl (fwk_8 G.1.2.2.1) (by decide +kernel) ⟨Nat.le_of_ble_eq_true rfl, Nat.le_of_ble_eq_true rfl⟩) ⟨bb_blind g1_bl _, va_recv K (vP_sub (fz_S hΦ hFA hS) htm) (ci := 10) (q0 := 0) rfl rfl, bb_pre (g1_mv G (low_of hS hA0 G.1.2.2.2.2.2.2) hS.1) (vP_sub (fz_S hΦ hFA hS) htm) _⟩ rfl rfl hl.1 rfl (lv_room (Nat.le_of_ble_eq_true rfl)) dX7_numbers_24 ⟨Nat.le_of_ble_eq_true rfl, Nat.le_of_ble_eq_true rfl⟩) ?_
        refine x_icmpn_eq (tgt := 50) hx hb dX7_numbers_29 (by decide) (by omega) (by omega) (fun h_5 => ?_) (fun h_5 => ?_)
        · have hcm := comma_1 (ch := ch) h_5
          refine x_newF (D := D) (ci := 8) (fs := [.null, .null, .null, .null, .null, .int (nI 0), .int (nI 0)]) (C := RX8) (T := TX8) (N := 7) hx hb hts in_X8 tyX8 tyX8_ok hown (hts _ q716) (hts _ q717) (hts _ q85) K hP hD hS hA rfl (fun j hj => by rcases (show j = 0 ∨ j = 1 ∨ j = 2 ∨ j = 3 ∨ j = 4 ∨ j = 5 ∨ j = 6 by omega) with rfl | rfl | rfl | rfl | rfl | rfl | rfl <;> rfl) (Nat.le_of_ble_eq_true rfl) (Nat.le_of_ble_eq_true rfl) dX7_numbers_50 (fun f H hP hD hS hmf => ?_)
          have hP : va_P D vwCl [(rd, .inr (7, [.ref tb, .int (nI pa1)])), (nm, .inl (dA 0, 8, .inl rd1)), (f, .inr (8, [.null, .null, .null, .null, .null, .int (nI 0), .int (nI 0)]))] H := hP
          have hD : va_D A [(rd, .inr (7, [.ref tb, .int (nI pa1)])), (nm, .inl (dA 0, 8, .inl rd1)), (f, .inr (8, [.null, .null, .null, .null, .null, .int (nI 0), .int (nI 0)]))] := hD
          refine W.widen (k := 2) (n := 15) (Nat.le_of_ble_eq_true rfl) (Nat.le_of_ble_eq_true rfl) ?_
          refine lv_dup hx hb dX7_numbers_53 rfl ?_
          refine lv_aload_n hx hb dX7_numbers_54 rfl (lv_at hl 0 rfl) ?_
          refine va_get (D := D) (ci := 7) (C := RX7) (T := TX7) (N := 2) hx hb hts in_X7 hown K hP 0 rfl rfl 1 (by decide) (hts _ q662) (fun _ h9 => h9) rfl dX7_numbers_55 ?_
          have hpm : ([(rd, .inr (7, [.ref tb, .int (nI pa1)])), (nm, .inl (dA 0, 8, .inl rd1)), (f, .inr (8, [.null, .null, .null, .null, .null, .int (nI 0), .int (nI 0)]))] : va_W).Perm ([(rd, .inr (7, [.ref tb, .int (nI pa1)])), (nm, .inl (dA 0, 8, .inl rd1))] ++ [(f, .inr (8, [.null, .null, .null, .null, .null, .int (nI 0), .int (nI 0)]))]) := pmC ([[(rd, .inr (7, [.ref tb, .int (nI pa1)]))], [(nm, .inl (dA 0, 8, .inl rd1))], [(f, .inr (8, [.null, .null, .null, .null, .null, .int (nI 0), .int (nI 0)]))]] : List va_W) [0, 1] [2] rfl
          have hPc := (vP_app.mp (vP_perm hpm hP)).2
          have hDc := vD_right (vD_perm hpm hD)
          have hPc : va_P D vwCl [(f, .inr (8, [.null, .null, .null, .null, .null, .int (nI 0), .int (nI 0)]))] H := hPc
          have hDc : va_D A [(f, .inr (8, [.null, .null, .null, .null, .null, .int (nI 0), .int (nI 0)]))] := hDc
          refine x_ecallP (va_runI (As := [.int (nI pa1)]) (rest := [.ref f]) S (xf_init l D dA E ad sz0 mi hlt f pa1 (up_D hA0 hDc) H.size) (cwI 1 hts (lw_meth q755) rfl rfl rfl (hts _ q85) (hts _ q753) (hts _ q754) rfl (by decide +kernel) ⟨Nat.le_of_ble_eq_true rfl, Nat.le_of_ble_eq_true rfl⟩) ⟨pe_blind g1_bl _, pe_pre (g1_mv G (low_of hS hA0 G.1.2.2.2.2.2.2) hS.1) hPc hDc hmf _⟩ rfl rfl hl.1 rfl (lv_room (Nat.le_of_ble_eq_true rfl)) dX7_numbers_58 ⟨Nat.le_of_ble_eq_true rfl, Nat.le_of_ble_eq_true rfl⟩) hP hD hS hA [(rd, .inr (7, [.ref tb, .int (nI pa1)])), (nm, .inl (dA 0, 8, .inl rd1))] hpm (fun u1 H locs hΨ hP hD hS hkp hsz hDn => ?_)
          have hP : va_P D vwCl [(rd, .inr (7, [.ref tb, .int (nI pa1)])), (nm, .inl (dA 0, 8, .inl rd1)), (f, .inr (8, [u1 0, u1 1, u1 2, u1 3, u1 4, u1 5, .int (nI pa1)]))] H := hP
          have hD : va_D A [(rd, .inr (7, [.ref tb, .int (nI pa1)])), (nm, .inl (dA 0, 8, .inl rd1)), (f, .inr (8, [u1 0, u1 1, u1 2, u1 3, u1 4, u1 5, .int (nI pa1)]))] := hD
          refine W.widen (k := 2) (n := 15) (Nat.le_of_ble_eq_true rfl) (Nat.le_of_ble_eq_true rfl) ?_
          refine vq_athrow hx hb dX7_numbers_61 ?_
          have hE := hSV.symm.trans (rdN_e1 h_4 hcm)
          subst hE
          exact x_tout (f, u1) G htab hlk rfl (hP.sub [2] rfl) (hD.sub [2] (by decide) rfl) hS (i := 0) rfl (Nat.le_of_ble_eq_true rfl) (Nat.le_of_ble_eq_true rfl)
        · refine lv_aload_n hx hb dX7_numbers_32 rfl (lv_at hl 0 rfl) ?_
          refine va_get (D := D) (ci := 7) (C := RX7) (T := TX7) (N := 2) hx hb hts in_X7 hown K hP 0 rfl rfl 0 (by decide) (hts _ q661) (fun _ h9 => h9) rfl dX7_numbers_33 ?_
          refine lv_aload_n hx hb dX7_numbers_36 rfl (lv_at hl 0 rfl) ?_
          refine va_get (D := D) (ci := 7) (C := RX7) (T := TX7) (N := 2) hx hb hts in_X7 hown K hP 0 rfl rfl 1 (by decide) (hts _ q662) (fun _ h9 => h9) rfl dX7_numbers_37 ?_
          refine x_ret5 (va_runF ((K.1 10 _ rfl).2) (As := [.int (nI pa1)]) (rest := []) S (xv_ch l D dA E ad sz0 mi tb ut mb ln ch htx pa1 (by omega)) (va_cwF 1 hts (lw_F (x := ⟨"java/lang/CharSequence", "charAt", "(I)C"⟩) (y := yJ4_charAt) q686 q689 q691 q66 q693) rfl rfl rfl (fwk_9 G.1.2.2.1) (by decide +kernel) ⟨Nat.le_of_ble_eq_true rfl, Nat.le_of_ble_eq_true rfl⟩) ⟨bb_blind g1_bl _, va_recv K (vP_sub (fz_S hΦ hFA hS) htm) (ci := 10) (q0 := 0) rfl rfl, bb_pre (g1_mv G (low_of hS hA0 G.1.2.2.2.2.2.2) hS.1) (vP_sub (fz_S hΦ hFA hS) htm) _⟩ rfl rfl hl.1 rfl (lv_room (Nat.le_of_ble_eq_true rfl)) dX7_numbers_40 ⟨Nat.le_of_ble_eq_true rfl, Nat.le_of_ble_eq_true rfl⟩) ?_
          refine lv_bipush (v := nI 44) hx hb dX7_numbers_45 (by decide) ?_
          refine x_icmpn_eq (tgt := 62) hx hb dX7_numbers_47 (by decide) (by have := hch pa1 (by omega); omega) (by omega) (fun h_6 => ?_) (fun h_6 => ?_)
          · have hcm := comma_3 (show pa1 < ln by omega) h_6
            refine lv_aload_n hx hb dX7_numbers_62 rfl (lv_at hl 0 rfl) ?_
            refine lv_dup hx hb dX7_numbers_63 rfl ?_
            refine va_get (D := D) (ci := 7) (C := RX7) (T := TX7) (N := 2) hx hb hts in_X7 hown K hP 0 rfl rfl 1 (by decide) (hts _ q662) (fun _ h9 => h9) rfl dX7_numbers_64 ?_
            refine lv_iload_n hx hb dX7_numbers_67 rfl (lv_at hl 3 rfl) ?_
            refine x_ifn_le (tgt := 75) hx hb dX7_numbers_68 (by decide) (by omega) (fun h => absurd h h_4) (fun _ => ?_)
            refine lv_iconst (v := nI 1) hx hb dX7_numbers_71 (by decide) ?_
            refine lv_goto (tgt := 76) hx hb dX7_numbers_72 (by decide) ?_
            refine x_addN hx hb dX7_numbers_76 ?_
            refine va_put (D := D) (ci := 7) (v := .int (nI (pa1 + 1))) (ty := .int) (C := RX7) (T := TX7) (N := 2) hx hb hts in_X7 tyX7 tyX7_ok nmX7 hown K hP hD hS 0 rfl rfl 1 (by decide) (hts _ q662) (fun _ h9 => h9) rfl (by decide +kernel) rfl rfl (Nat.le_of_ble_eq_true rfl) dX7_numbers_77 (fun H locs hP hD hS => ?_)
            have hP : va_P D vwCl [(rd, .inr (7, [.ref tb, .int (nI (pa1 + 1))])), (nm, .inl (dA 0, 8, .inl rd1))] H := hP
            have hD : va_D A [(rd, .inr (7, [.ref tb, .int (nI (pa1 + 1))])), (nm, .inl (dA 0, 8, .inl rd1))] := hD
            refine lv_aload_n hx hb dX7_numbers_80 rfl (lv_at hl 2 rfl) ?_
            refine lv_iload_n hx hb dX7_numbers_81 rfl (lv_at hl 3 rfl) ?_
            refine lv_aload_n hx hb dX7_numbers_82 rfl (lv_at hl 0 rfl) ?_
            have hP : va_P D vwCl [(rd, .inr (7, [.ref tb, .int (nI (pa1 + 1))])), (nm, .inl (dA 0, 8, .inl rd1))] H := hP
            have hD : va_D A [(rd, .inr (7, [.ref tb, .int (nI (pa1 + 1))])), (nm, .inl (dA 0, 8, .inl rd1))] := hD
            refine b_or (mSees (tI ch) ln (pa1 + 1) (nI 48) (nI 57)) (fun hsE => ?_) (fun hsE => ?_)
            · have hsE := hsE
              have hpm : ([(rd, .inr (7, [.ref tb, .int (nI (pa1 + 1))])), (nm, .inl (dA 0, 8, .inl rd1))] : va_W).Perm ([(nm, .inl (dA 0, 8, .inl rd1))] ++ [(rd, .inr (7, [.ref tb, .int (nI (pa1 + 1))]))]) := pmC ([[(rd, .inr (7, [.ref tb, .int (nI (pa1 + 1))]))], [(nm, .inl (dA 0, 8, .inl rd1))]] : List va_W) [1] [0] rfl
              have hPc := (vP_app.mp (vP_perm hpm hP)).2
              have hDc := vD_right (vD_perm hpm hD)
              have hPc : va_P D vwCl [(rd, .inr (7, [.ref tb, .int (nI (pa1 + 1))]))] H := hPc
              have hDc : va_D A [(rd, .inr (7, [.ref tb, .int (nI (pa1 + 1))]))] := hDc
              refine x_tcall (vq_runV (As := []) (rest := [.int (nI ci), .ref nm]) S (xz_numT l D dA E ad sz0 mi hlt rd tb ut mb ln ch htx hln hch (pa1 + 1) (by omega) hsE FZ htm (up_D hA0 hDc) (apart_D hFA hDc) H.size) (cwV 0 hts (lw_V q776 q778 qs13 q82 q779) rfl rfl rfl hdX7_number ⟨Nat.le_of_ble_eq_true rfl, Nat.le_of_ble_eq_true rfl⟩) ⟨pe_blind g1_bl _, va_recv K hP (ci := 7) (q0 := 0) rfl rfl, pe_pre (g1_mv G (low_of hS hA0 G.1.2.2.2.2.2.2) hS.1) hPc hDc (fz_S hΦ hFA hS) _⟩ rfl rfl hl.1 rfl (lv_room (Nat.le_of_ble_eq_true rfl)) dX7_numbers_83 ⟨Nat.le_of_ble_eq_true rfl, Nat.le_of_ble_eq_true rfl⟩) hP hD hS hA [(nm, .inl (dA 0, 8, .inl rd1))] hpm (fun u1 H locs hΨ hP hD hS hkp hsz hDn => ?_) (fun _ _ _ h => h.elim)
              have hE := hSV.symm.trans (rdN_e2 (Or.inr hcm) (if_neg h_4) hsE)
              subst hE
              exact x_tout u1 G htab hlk rfl (hP.sub [2] rfl) (hD.sub [2] (by decide) rfl) hS (i := 0) rfl (Nat.le_of_ble_eq_true rfl) (Nat.le_of_ble_eq_true rfl)
            have hpm : ([(rd, .inr (7, [.ref tb, .int (nI (pa1 + 1))])), (nm, .inl (dA 0, 8, .inl rd1))] : va_W).Perm ([(nm, .inl (dA 0, 8, .inl rd1))] ++ [(rd, .inr (7, [.ref tb, .int (nI (pa1 + 1))]))]) := pmC ([[(rd, .inr (7, [.ref tb, .int (nI (pa1 + 1))]))], [(nm, .inl (dA 0, 8, .inl rd1))]] : List va_W) [1] [0] rfl
            have hPc := (vP_app.mp (vP_perm hpm hP)).2
            have hDc := vD_right (vD_perm hpm hD)
            have hPc : va_P D vwCl [(rd, .inr (7, [.ref tb, .int (nI (pa1 + 1))]))] H := hPc
            have hDc : va_D A [(rd, .inr (7, [.ref tb, .int (nI (pa1 + 1))]))] := hDc
            refine x_ecallP (va_runV (As := []) (rest := [.int (nI ci), .ref nm]) S (xz_num l D dA E ad sz0 mi rd tb ut mb ln ch htx hln hch (pa1 + 1) (by omega) hsE (rdV (tI ch) ln (pa1 + 1)) rfl FZ htm (up_D hA0 hDc) (apart_D hFA hDc) H.size) (cwV 0 hts (lw_V q776 q778 qs13 q82 q779) rfl rfl rfl hdX7_number ⟨Nat.le_of_ble_eq_true rfl, Nat.le_of_ble_eq_true rfl⟩) ⟨pe_blind g1_bl _, va_recv K hP (ci := 7) (q0 := 0) rfl rfl, pe_pre (g1_mv G (low_of hS hA0 G.1.2.2.2.2.2.2) hS.1) hPc hDc (fz_S hΦ hFA hS) _⟩ rfl rfl hl.1 rfl (lv_room (Nat.le_of_ble_eq_true rfl)) dX7_numbers_83 ⟨Nat.le_of_ble_eq_true rfl, Nat.le_of_ble_eq_true rfl⟩) hP hD hS hA [(nm, .inl (dA 0, 8, .inl rd1))] hpm (fun _u H locs hΨ hP hD hS hkp hsz hDn => ?_)
            have hP : va_P D vwCl [(nm, .inl (dA 0, 8, .inl rd1)), (rd, .inr (7, [.ref tb, .int (nI ((rdV (tI ch) ln (pa1 + 1)).2))]))] H := hP
            have hD : va_D A [(nm, .inl (dA 0, 8, .inl rd1)), (rd, .inr (7, [.ref tb, .int (nI ((rdV (tI ch) ln (pa1 + 1)).2))]))] := hD
            refine W.widen (k := 1) (n := 8) (Nat.le_of_ble_eq_true rfl) (Nat.le_of_ble_eq_true rfl) ?_
            refine x_iast hx hb K hP hD hS 0 0 rfl rfl ci rfl (by omega) (by decide) dX7_numbers_86 (fun H locs hP hD hS => ?_)
            have hP : va_P D vwCl [(nm, .inl (dA 0, 8, .inl (upd rd1 ci ((rdV (tI ch) ln (pa1 + 1)).1)))), (rd, .inr (7, [.ref tb, .int (nI ((rdV (tI ch) ln (pa1 + 1)).2))]))] H := hP
            have hD : va_D A [(nm, .inl (dA 0, 8, .inl (upd rd1 ci ((rdV (tI ch) ln (pa1 + 1)).1)))), (rd, .inr (7, [.ref tb, .int (nI ((rdV (tI ch) ln (pa1 + 1)).2))]))] := hD
            refine lv_iinc (v := nI (ci + 1)) (lv' := [(3, .int (nI (ci + 1))), (0, .ref rd), (1, .int (nI cu)), (2, .ref nm)]) hx hb dX7_numbers_87 hl (k := 3) rfl (nI_1 ci) (by decide) rfl (fun ls hl => ?_)
            refine lv_goto (tgt := 7) hx hb dX7_numbers_90 (by decide) ?_
            exact ih (ci + 1) (rdV (tI ch) ln (pa1 + 1)).2 (upd rd1 ci ((rdV (tI ch) ln (pa1 + 1)).1)) (by omega) (rdV_le hsE) ((rdN_e3 (Or.inr hcm) (if_neg h_4) hsE).symm.trans hSV) ls H locs (lv_sub hl [1, 2, 3, 0] rfl) (hP.sub [1, 0] rfl) (hD.sub [1, 0] (by decide) rfl) hS
          · have hcm := comma_2 (show pa1 < ln by omega) (hch pa1 (by omega)) h_6
            refine x_newF (D := D) (ci := 8) (fs := [.null, .null, .null, .null, .null, .int (nI 0), .int (nI 0)]) (C := RX8) (T := TX8) (N := 7) hx hb hts in_X8 tyX8 tyX8_ok hown (hts _ q716) (hts _ q717) (hts _ q85) K hP hD hS hA rfl (fun j hj => by rcases (show j = 0 ∨ j = 1 ∨ j = 2 ∨ j = 3 ∨ j = 4 ∨ j = 5 ∨ j = 6 by omega) with rfl | rfl | rfl | rfl | rfl | rfl | rfl <;> rfl) (Nat.le_of_ble_eq_true rfl) (Nat.le_of_ble_eq_true rfl) dX7_numbers_50 (fun f H hP hD hS hmf => ?_)
            have hP : va_P D vwCl [(rd, .inr (7, [.ref tb, .int (nI pa1)])), (nm, .inl (dA 0, 8, .inl rd1)), (f, .inr (8, [.null, .null, .null, .null, .null, .int (nI 0), .int (nI 0)]))] H := hP
            have hD : va_D A [(rd, .inr (7, [.ref tb, .int (nI pa1)])), (nm, .inl (dA 0, 8, .inl rd1)), (f, .inr (8, [.null, .null, .null, .null, .null, .int (nI 0), .int (nI 0)]))] := hD
            refine W.widen (k := 2) (n := 15) (Nat.le_of_ble_eq_true rfl) (Nat.le_of_ble_eq_true rfl) ?_
            refine lv_dup hx hb dX7_numbers_53 rfl ?_
            refine lv_aload_n hx hb dX7_numbers_54 rfl (lv_at hl 0 rfl) ?_
            refine va_get (D := D) (ci := 7) (C := RX7) (T := TX7) (N := 2) hx hb hts in_X7 hown K hP 0 rfl rfl 1 (by decide) (hts _ q662) (fun _ h9 => h9) rfl dX7_numbers_55 ?_
            have hpm : ([(rd, .inr (7, [.ref tb, .int (nI pa1)])), (nm, .inl (dA 0, 8, .inl rd1)), (f, .inr (8, [.null, .null, .null, .null, .null, .int (nI 0), .int (nI 0)]))] : va_W).Perm ([(rd, .inr (7, [.ref tb, .int (nI pa1)])), (nm, .inl (dA 0, 8, .inl rd1))] ++ [(f, .inr (8, [.null, .null, .null, .null, .null, .int (nI 0), .int (nI 0)]))]) := pmC ([[(rd, .inr (7, [.ref tb, .int (nI pa1)]))], [(nm, .inl (dA 0, 8, .inl rd1))], [(f, .inr (8, [.null, .null, .null, .null, .null, .int (nI 0), .int (nI 0)]))]] : List va_W) [0, 1] [2] rfl
            have hPc := (vP_app.mp (vP_perm hpm hP)).2
            have hDc := vD_right (vD_perm hpm hD)
            have hPc : va_P D vwCl [(f, .inr (8, [.null, .null, .null, .null, .null, .int (nI 0), .int (nI 0)]))] H := hPc
            have hDc : va_D A [(f, .inr (8, [.null, .null, .null, .null, .null, .int (nI 0), .int (nI 0)]))] := hDc
            refine x_ecallP (va_runI (As := [.int (nI pa1)]) (rest := [.ref f]) S (xf_init l D dA E ad sz0 mi hlt f pa1 (up_D hA0 hDc) H.size) (cwI 1 hts (lw_meth q755) rfl rfl rfl (hts _ q85) (hts _ q753) (hts _ q754) rfl (by decide +kernel) ⟨Nat.le_of_ble_eq_true rfl, Nat.le_of_ble_eq_true rfl⟩) ⟨pe_blind g1_bl _, pe_pre (g1_mv G (low_of hS hA0 G.1.2.2.2.2.2.2) hS.1) hPc hDc hmf _⟩ rfl rfl hl.1 rfl (lv_room (Nat.le_of_ble_eq_true rfl)) dX7_numbers_58 ⟨Nat.le_of_ble_eq_true rfl, Nat.le_of_ble_eq_true rfl⟩) hP hD hS hA [(rd, .inr (7, [.ref tb, .int (nI pa1)])), (nm, .inl (dA 0, 8, .inl rd1))] hpm (fun u1 H locs hΨ hP hD hS hkp hsz hDn => ?_)
            have hP : va_P D vwCl [(rd, .inr (7, [.ref tb, .int (nI pa1)])), (nm, .inl (dA 0, 8, .inl rd1)), (f, .inr (8, [u1 0, u1 1, u1 2, u1 3, u1 4, u1 5, .int (nI pa1)]))] H := hP
            have hD : va_D A [(rd, .inr (7, [.ref tb, .int (nI pa1)])), (nm, .inl (dA 0, 8, .inl rd1)), (f, .inr (8, [u1 0, u1 1, u1 2, u1 3, u1 4, u1 5, .int (nI pa1)]))] := hD
            refine W.widen (k := 2) (n := 15) (Nat.le_of_ble_eq_true rfl) (Nat.le_of_ble_eq_true rfl) ?_
            refine vq_athrow hx hb dX7_numbers_61 ?_
            have hE := hSV.symm.trans (rdN_e1 h_4 hcm)
            subst hE
            exact x_tout (f, u1) G htab hlk rfl (hP.sub [2] rfl) (hD.sub [2] (by decide) rfl) hS (i := 0) rfl (Nat.le_of_ble_eq_true rfl) (Nat.le_of_ble_eq_true rfl)
  exact key cu 0 0 (fun _ => 0) (by omega) (Nat.zero_le _) hSV ls H locs (lv_sub hl [2, 3, 1, 0] rfl) hP hD hS

