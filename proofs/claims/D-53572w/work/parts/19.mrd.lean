set_option maxHeartbeats 4000000 in
theorem mr_sees (l : Launch) (D : va_G) (dA : Nat → ClassId) (h0 hr hp ha hf ht hd : Nat) (row past aside bef txt rd : Nat → Int32) (hs : Nat) (ias : Bool) (ln pa : Nat) (lo hi : Int32) (hln : ln ≤ 60) (hpa : pa ≤ 60) : RO l yX3_sees cX3_sees 3 (some .boolean) 1 40 [.ref h0, .int lo, .int hi] (KA D dA) (fun H => va_P D vwCl (mW dA h0 hr hp ha hf ht hd row past aside bef txt rd hs ias ln pa) H) (some (.int (bI (mSees txt ln pa lo hi)))) := by
  refine ro_of (by decide) (Nat.le_of_ble_eq_true rfl) ?_
  intro p e s m below meth c S hrt hlk K hP ls hl
  obtain ⟨hx, hb, hml, hown, hts⟩ := id S
  have hP : va_P D vwCl [(h0, .inr (3, [.ref hr, .ref hp, .ref ha, .ref hf, .int (nI hs), .int (bI ias), .ref ht, .int (nI ln), .int (nI pa), .ref hd])), (hr, .inl (dA 0, 444, .inl row)), (hp, .inl (dA 0, 1776, .inl past)), (ha, .inl (dA 0, 444, .inl aside)), (hf, .inl (dA 0, 444, .inl bef)), (ht, .inl (dA 3, 60, .inl txt)), (hd, .inl (dA 0, 8, .inl rd))] s.heap := hP
  have hl : lv_has ls 3 [(0, .ref h0), (1, .int lo), (2, .int hi)] := hl
  refine lv_aload_n hx hb dX3_sees_0 rfl (lv_at hl 0 rfl) ?_
  refine va_get (D := D) (ci := 3) (C := RX3) (T := TX3) (N := 10) hx hb hts in_X3 hown K hP 0 rfl rfl 8 (by decide) (hts _ q1083) (fun _ h9 => h9) rfl dX3_sees_1 ?_
  refine lv_aload_n hx hb dX3_sees_4 rfl (lv_at hl 0 rfl) ?_
  refine va_get (D := D) (ci := 3) (C := RX3) (T := TX3) (N := 10) hx hb hts in_X3 hown K hP 0 rfl rfl 7 (by decide) (hts _ q1082) (fun _ h9 => h9) rfl dX3_sees_5 ?_
  refine x_icmpn_ge (tgt := 32) hx hb dX3_sees_8 (by decide) (by omega) (by omega) (fun h_1 => ?_) (fun h_1 => ?_)
  · refine lv_iconst (v := nI 0) hx hb dX3_sees_32 (by decide) ?_
    exact x_zret hx hb hrt hlk (by rw [mSees, if_pos h_1]; rfl) dX3_sees_33
  · refine lv_aload_n hx hb dX3_sees_11 rfl (lv_at hl 0 rfl) ?_
    refine va_get (D := D) (ci := 3) (C := RX3) (T := TX3) (N := 10) hx hb hts in_X3 hown K hP 0 rfl rfl 6 (by decide) (hts _ q1081) (fun _ h9 => h9) rfl dX3_sees_12 ?_
    refine lv_aload_n hx hb dX3_sees_15 rfl (lv_at hl 0 rfl) ?_
    refine va_get (D := D) (ci := 3) (C := RX3) (T := TX3) (N := 10) hx hb hts in_X3 hown K hP 0 rfl rfl 8 (by decide) (hts _ q1083) (fun _ h9 => h9) rfl dX3_sees_16 ?_
    refine x_cald hx hb K hP 5 3 rfl rfl pa rfl (by omega) (by decide) rfl dX3_sees_19 ?_
    refine lv_iload_n hx hb dX3_sees_20 rfl (lv_at hl 1 rfl) ?_
    refine lv_iload_n hx hb dX3_sees_21 rfl (lv_at hl 2 rfl) ?_
    refine x_ret (va_runS (As := [.int (txt pa), .int lo, .int hi]) (rest := []) S (mr_in l (txt pa) lo hi) (va_cwS 3 hts (lw_S q1135 q1136 q69 q1137) rfl rfl rfl hdX3_in ⟨Nat.le_of_ble_eq_true rfl, Nat.le_of_ble_eq_true rfl⟩) ⟨bb_blind tt_bl _, tt_pre _⟩ rfl rfl hl.1 rfl (lv_room (Nat.le_of_ble_eq_true rfl)) dX3_sees_22 ⟨Nat.le_refl _, Nat.le_refl _⟩) ?_
    refine x_ifb_eq (tgt := 32) hx hb dX3_sees_25 (by decide) (fun h_2 => ?_) (fun h_2 => ?_)
    · refine lv_iconst (v := nI 0) hx hb dX3_sees_32 (by decide) ?_
      exact x_zret hx hb hrt hlk (by rw [mSees, if_neg (Nat.not_le.mpr h_1), if_pos h_2]; rfl) dX3_sees_33
    · refine lv_iconst (v := nI 1) hx hb dX3_sees_28 (by decide) ?_
      refine lv_goto (tgt := 33) hx hb dX3_sees_29 (by decide) ?_
      exact x_zret hx hb hrt hlk (by rw [mSees, if_neg (Nat.not_le.mpr h_1), if_neg (by rw [h_2]; decide)]; rfl) dX3_sees_33

set_option maxHeartbeats 4000000 in
theorem mw_readNumbers (l : Launch) (D : va_G) (dA : Nat → ClassId) (h0 hr hp ha hf ht hd : Nat) (row past aside bef txt rd : Nat → Int32) (hs : Nat) (ias : Bool) (ln pa : Nat) {n cu q : Nat} (w : MWf row n cu q) (hln : ln ≤ 60) : WR l yX3_readNumbers cX3_readNumbers 3 (some .boolean) 2 80 0 0 [.ref h0] D dA (mW dA h0 hr hp ha hf ht hd row past aside bef txt rd hs ias ln pa) (some (.int (bI (rdN txt ln cu 0 0 rd).1))) (mW dA h0 hr hp ha hf ht hd row past aside bef txt ((rdN txt ln cu 0 0 rd).2.2) hs ias ln ((rdN txt ln cu 0 0 rd).2.1)) := by
  refine wr_of (by decide) (Nat.le_of_ble_eq_true rfl) ?_
  intro p e s m below meth c A S hrt hlk K hA hAe H locs hP hD hS ls hl
  obtain ⟨hx, hb, hml, hown, hts⟩ := id S
  obtain ⟨e0, hn, e1, hcu, e3, hq, hray⟩ := id w
  generalize hSV : rdN txt ln cu 0 0 rd = SV
  have hP : va_P D vwCl [(h0, .inr (3, [.ref hr, .ref hp, .ref ha, .ref hf, .int (nI hs), .int (bI ias), .ref ht, .int (nI ln), .int (nI pa), .ref hd])), (hr, .inl (dA 0, 444, .inl row)), (hp, .inl (dA 0, 1776, .inl past)), (ha, .inl (dA 0, 444, .inl aside)), (hf, .inl (dA 0, 444, .inl bef)), (ht, .inl (dA 3, 60, .inl txt)), (hd, .inl (dA 0, 8, .inl rd))] H := hP
  have hD : va_D A [(h0, .inr (3, [.ref hr, .ref hp, .ref ha, .ref hf, .int (nI hs), .int (bI ias), .ref ht, .int (nI ln), .int (nI pa), .ref hd])), (hr, .inl (dA 0, 444, .inl row)), (hp, .inl (dA 0, 1776, .inl past)), (ha, .inl (dA 0, 444, .inl aside)), (hf, .inl (dA 0, 444, .inl bef)), (ht, .inl (dA 3, 60, .inl txt)), (hd, .inl (dA 0, 8, .inl rd))] := hD
  have hl : lv_has ls 3 [(0, .ref h0)] := hl
  refine lv_aload_n hx hb dX3_readNumbers_0 rfl (lv_at hl 0 rfl) ?_
  refine lv_iconst (v := nI 0) hx hb dX3_readNumbers_1 (by decide) ?_
  refine va_put (D := D) (ci := 3) (v := .int (nI 0)) (ty := .int) (C := RX3) (T := TX3) (N := 10) hx hb hts in_X3 tyX3 tyX3_ok nmX3 hown K hP hD hS 0 rfl rfl 8 (by decide) (hts _ q1083) (fun _ h9 => h9) rfl (by decide +kernel) rfl rfl (Nat.le_of_ble_eq_true rfl) dX3_readNumbers_2 (fun H locs hP hD hS => ?_)
  have hP : va_P D vwCl [(h0, .inr (3, [.ref hr, .ref hp, .ref ha, .ref hf, .int (nI hs), .int (bI ias), .ref ht, .int (nI ln), .int (nI 0), .ref hd])), (hr, .inl (dA 0, 444, .inl row)), (hp, .inl (dA 0, 1776, .inl past)), (ha, .inl (dA 0, 444, .inl aside)), (hf, .inl (dA 0, 444, .inl bef)), (ht, .inl (dA 3, 60, .inl txt)), (hd, .inl (dA 0, 8, .inl rd))] H := hP
  have hD : va_D A [(h0, .inr (3, [.ref hr, .ref hp, .ref ha, .ref hf, .int (nI hs), .int (bI ias), .ref ht, .int (nI ln), .int (nI 0), .ref hd])), (hr, .inl (dA 0, 444, .inl row)), (hp, .inl (dA 0, 1776, .inl past)), (ha, .inl (dA 0, 444, .inl aside)), (hf, .inl (dA 0, 444, .inl bef)), (ht, .inl (dA 3, 60, .inl txt)), (hd, .inl (dA 0, 8, .inl rd))] := hD
  refine lv_iconst (v := nI 0) hx hb dX3_readNumbers_5 (by decide) ?_
  refine lv_istore_n (lv' := [(1, .int (nI 0)), (0, .ref h0)]) hx hb dX3_readNumbers_6 rfl hl (by decide) rfl (fun ls hl => ?_)
  have key : ∀ (r ci pa1 : Nat) (rd1 : Nat → Int32), ci + r = cu → pa1 ≤ ln → rdN txt ln r ci pa1 rd1 = SV → ∀ (ls : Array Slot) (H : Heap) (locs : List Loc), lv_has ls 3 [(0, .ref h0), (1, .int (nI ci))] → va_P D vwCl [(h0, .inr (3, [.ref hr, .ref hp, .ref ha, .ref hf, .int (nI hs), .int (bI ias), .ref ht, .int (nI ln), .int (nI pa1), .ref hd])), (hr, .inl (dA 0, 444, .inl row)), (hp, .inl (dA 0, 1776, .inl past)), (ha, .inl (dA 0, 444, .inl aside)), (hf, .inl (dA 0, 444, .inl bef)), (ht, .inl (dA 3, 60, .inl txt)), (hd, .inl (dA 0, 8, .inl rd1))] H → va_D A [(h0, .inr (3, [.ref hr, .ref hp, .ref ha, .ref hf, .int (nI hs), .int (bI ias), .ref ht, .int (nI ln), .int (nI pa1), .ref hd])), (hr, .inl (dA 0, 444, .inl row)), (hp, .inl (dA 0, 1776, .inl past)), (ha, .inl (dA 0, 444, .inl aside)), (hf, .inl (dA 0, 444, .inl bef)), (ht, .inl (dA 3, 60, .inl txt)), (hd, .inl (dA 0, 8, .inl rd1))] → va_S A s.heap H locs → W p l e (rmW 2 80 0 0) s m ([.ref h0]).toArray below meth c H locs 0 0 (MQ below (QW (some (.int (bI SV.1))) D (mW dA h0 hr hp ha hf ht hd row past aside bef txt (SV.2.2) hs ias ln (SV.2.1)) A) ([.ref h0]).toArray s 0 0 A) (F0 m 7 ls []) := by
    intro r
    induction r with
    | zero =>
      intro ci pa1 rd1 hcr hpa1 hSV ls H locs hl hP hD hS
      have hl : lv_has ls 3 [(0, .ref h0), (1, .int (nI ci))] := hl
      have hP : va_P D vwCl [(h0, .inr (3, [.ref hr, .ref hp, .ref ha, .ref hf, .int (nI hs), .int (bI ias), .ref ht, .int (nI ln), .int (nI pa1), .ref hd])), (hr, .inl (dA 0, 444, .inl row)), (hp, .inl (dA 0, 1776, .inl past)), (ha, .inl (dA 0, 444, .inl aside)), (hf, .inl (dA 0, 444, .inl bef)), (ht, .inl (dA 3, 60, .inl txt)), (hd, .inl (dA 0, 8, .inl rd1))] H := hP
      have hD : va_D A [(h0, .inr (3, [.ref hr, .ref hp, .ref ha, .ref hf, .int (nI hs), .int (bI ias), .ref ht, .int (nI ln), .int (nI pa1), .ref hd])), (hr, .inl (dA 0, 444, .inl row)), (hp, .inl (dA 0, 1776, .inl past)), (ha, .inl (dA 0, 444, .inl aside)), (hf, .inl (dA 0, 444, .inl bef)), (ht, .inl (dA 3, 60, .inl txt)), (hd, .inl (dA 0, 8, .inl rd1))] := hD
      refine lv_iload_n hx hb dX3_readNumbers_7 rfl (lv_at hl 1 rfl) ?_
      refine lv_aload_n hx hb dX3_readNumbers_8 rfl (lv_at hl 0 rfl) ?_
      refine va_get (D := D) (ci := 3) (C := RX3) (T := TX3) (N := 10) hx hb hts in_X3 hown K hP 0 rfl rfl 0 (by decide) (hts _ q1075) (fun _ h9 => h9) rfl dX3_readNumbers_9 ?_
      refine lv_iconst (v := nI 1) hx hb dX3_readNumbers_12 (by decide) ?_
      refine x_iald hx hb K hP 1 0 rfl rfl 1 rfl (by omega) (by decide) e1 dX3_readNumbers_13 ?_
      refine lv_icmp_ge (tgt := 136) hx hb dX3_readNumbers_14 (by decide) (fun _ => ?_) (fun h => absurd (nI_le (by omega) (by omega)) h)
      refine lv_aload_n hx hb dX3_readNumbers_136 rfl (lv_at hl 0 rfl) ?_
      refine va_get (D := D) (ci := 3) (C := RX3) (T := TX3) (N := 10) hx hb hts in_X3 hown K hP 0 rfl rfl 8 (by decide) (hts _ q1083) (fun _ h9 => h9) rfl dX3_readNumbers_137 ?_
      refine lv_aload_n hx hb dX3_readNumbers_140 rfl (lv_at hl 0 rfl) ?_
      refine va_get (D := D) (ci := 3) (C := RX3) (T := TX3) (N := 10) hx hb hts in_X3 hown K hP 0 rfl rfl 7 (by decide) (hts _ q1082) (fun _ h9 => h9) rfl dX3_readNumbers_141 ?_
      refine x_icmpn_ne (tgt := 151) hx hb dX3_readNumbers_144 (by decide) (by omega) (by omega) (fun h_2 => ?_) (fun h_2 => ?_)
      · refine lv_iconst (v := nI 0) hx hb dX3_readNumbers_151 (by decide) ?_
        have hE : SV = (false, pa1, rd1) := by rw [← hSV]; simp [rdN, rdP, h_2]
        rw [hE]
        exact x_vzret (w := false) hx hb hrt hlk rfl hP hD hS dX3_readNumbers_152 (Nat.le_of_ble_eq_true rfl) (Nat.le_of_ble_eq_true rfl)
      · refine lv_iconst (v := nI 1) hx hb dX3_readNumbers_147 (by decide) ?_
        refine lv_goto (tgt := 152) hx hb dX3_readNumbers_148 (by decide) ?_
        have hE : SV = (true, pa1, rd1) := by rw [← hSV]; simp [rdN, rdP, h_2]
        rw [hE]
        exact x_vzret (w := true) hx hb hrt hlk rfl hP hD hS dX3_readNumbers_152 (Nat.le_of_ble_eq_true rfl) (Nat.le_of_ble_eq_true rfl)
    | succ r ih =>
      intro ci pa1 rd1 hcr hpa1 hSV ls H locs hl hP hD hS
      have hl : lv_has ls 3 [(0, .ref h0), (1, .int (nI ci))] := hl
      have hP : va_P D vwCl [(h0, .inr (3, [.ref hr, .ref hp, .ref ha, .ref hf, .int (nI hs), .int (bI ias), .ref ht, .int (nI ln), .int (nI pa1), .ref hd])), (hr, .inl (dA 0, 444, .inl row)), (hp, .inl (dA 0, 1776, .inl past)), (ha, .inl (dA 0, 444, .inl aside)), (hf, .inl (dA 0, 444, .inl bef)), (ht, .inl (dA 3, 60, .inl txt)), (hd, .inl (dA 0, 8, .inl rd1))] H := hP
      have hD : va_D A [(h0, .inr (3, [.ref hr, .ref hp, .ref ha, .ref hf, .int (nI hs), .int (bI ias), .ref ht, .int (nI ln), .int (nI pa1), .ref hd])), (hr, .inl (dA 0, 444, .inl row)), (hp, .inl (dA 0, 1776, .inl past)), (ha, .inl (dA 0, 444, .inl aside)), (hf, .inl (dA 0, 444, .inl bef)), (ht, .inl (dA 3, 60, .inl txt)), (hd, .inl (dA 0, 8, .inl rd1))] := hD
      refine lv_iload_n hx hb dX3_readNumbers_7 rfl (lv_at hl 1 rfl) ?_
      refine lv_aload_n hx hb dX3_readNumbers_8 rfl (lv_at hl 0 rfl) ?_
      refine va_get (D := D) (ci := 3) (C := RX3) (T := TX3) (N := 10) hx hb hts in_X3 hown K hP 0 rfl rfl 0 (by decide) (hts _ q1075) (fun _ h9 => h9) rfl dX3_readNumbers_9 ?_
      refine lv_iconst (v := nI 1) hx hb dX3_readNumbers_12 (by decide) ?_
      refine x_iald hx hb K hP 1 0 rfl rfl 1 rfl (by omega) (by decide) e1 dX3_readNumbers_13 ?_
      refine lv_icmp_ge (tgt := 136) hx hb dX3_readNumbers_14 (by decide) (fun h => absurd h (nI_ge (show ci < cu by omega) (by omega))) (fun _ => ?_)
      refine lv_iload_n hx hb dX3_readNumbers_17 rfl (lv_at hl 1 rfl) ?_
      refine x_ifn_le (tgt := 44) hx hb dX3_readNumbers_18 (by decide) (by omega) (fun h_4 => ?_) (fun h_4 => ?_)
      · refine lv_aload_n hx hb dX3_readNumbers_44 rfl (lv_at hl 0 rfl) ?_
        refine lv_bipush (v := nI 48) hx hb dX3_readNumbers_45 (by decide) ?_
        refine lv_bipush (v := nI 57) hx hb dX3_readNumbers_47 (by decide) ?_
        refine x_ret (va_runV (As := [.int (nI 48), .int (nI 57)]) (rest := []) S (mr_sees l D dA h0 hr hp ha hf ht hd row past aside bef txt rd1 hs ias ln pa1 (nI 48) (nI 57) hln (by omega)) (cwV 2 hts (lw_V q1295 q1297 qs51 q69 q1298) rfl rfl rfl hdX3_sees ⟨Nat.le_of_ble_eq_true rfl, Nat.le_of_ble_eq_true rfl⟩) ⟨bb_blind ka_bl _, va_recv K hP (ci := 3) (q0 := 0) rfl rfl, ka_pre K (hP.sub [0, 1, 2, 3, 4, 5, 6] rfl) _⟩ rfl rfl hl.1 rfl (lv_room (Nat.le_of_ble_eq_true rfl)) dX3_readNumbers_49 ⟨by omega, by omega⟩) ?_
        refine x_ifb_ne (tgt := 57) hx hb dX3_readNumbers_52 (by decide) (fun h_5 => ?_) (fun h_5 => ?_)
        · have hlt5 := mSees_lt h_5
          refine lv_aload_n hx hb dX3_readNumbers_57 rfl (lv_at hl 0 rfl) ?_
          refine va_get (D := D) (ci := 3) (C := RX3) (T := TX3) (N := 10) hx hb hts in_X3 hown K hP 0 rfl rfl 6 (by decide) (hts _ q1081) (fun _ h9 => h9) rfl dX3_readNumbers_58 ?_
          refine lv_aload_n hx hb dX3_readNumbers_61 rfl (lv_at hl 0 rfl) ?_
          refine va_get (D := D) (ci := 3) (C := RX3) (T := TX3) (N := 10) hx hb hts in_X3 hown K hP 0 rfl rfl 8 (by decide) (hts _ q1083) (fun _ h9 => h9) rfl dX3_readNumbers_62 ?_
          refine x_cald hx hb K hP 5 3 rfl rfl pa1 rfl (by omega) (by decide) rfl dX3_readNumbers_65 ?_
          refine lv_bipush (v := nI 48) hx hb dX3_readNumbers_66 (by decide) ?_
          refine lv_isub hx hb dX3_readNumbers_68 ?_
          refine lv_istore_n (lv' := [(2, .int ((txt pa1) - (nI 48))), (0, .ref h0), (1, .int (nI ci))]) hx hb dX3_readNumbers_69 rfl hl (by decide) rfl (fun ls hl => ?_)
          refine lv_aload_n hx hb dX3_readNumbers_70 rfl (lv_at hl 1 rfl) ?_
          refine lv_dup hx hb dX3_readNumbers_71 rfl ?_
          refine va_get (D := D) (ci := 3) (C := RX3) (T := TX3) (N := 10) hx hb hts in_X3 hown K hP 0 rfl rfl 8 (by decide) (hts _ q1083) (fun _ h9 => h9) rfl dX3_readNumbers_72 ?_
          refine lv_iconst (v := nI 1) hx hb dX3_readNumbers_75 (by decide) ?_
          refine x_addN hx hb dX3_readNumbers_76 ?_
          refine va_put (D := D) (ci := 3) (v := .int (nI (pa1 + 1))) (ty := .int) (C := RX3) (T := TX3) (N := 10) hx hb hts in_X3 tyX3 tyX3_ok nmX3 hown K hP hD hS 0 rfl rfl 8 (by decide) (hts _ q1083) (fun _ h9 => h9) rfl (by decide +kernel) rfl rfl (Nat.le_of_ble_eq_true rfl) dX3_readNumbers_77 (fun H locs hP hD hS => ?_)
          have hP : va_P D vwCl [(h0, .inr (3, [.ref hr, .ref hp, .ref ha, .ref hf, .int (nI hs), .int (bI ias), .ref ht, .int (nI ln), .int (nI (pa1 + 1)), .ref hd])), (hr, .inl (dA 0, 444, .inl row)), (hp, .inl (dA 0, 1776, .inl past)), (ha, .inl (dA 0, 444, .inl aside)), (hf, .inl (dA 0, 444, .inl bef)), (ht, .inl (dA 3, 60, .inl txt)), (hd, .inl (dA 0, 8, .inl rd1))] H := hP
          have hD : va_D A [(h0, .inr (3, [.ref hr, .ref hp, .ref ha, .ref hf, .int (nI hs), .int (bI ias), .ref ht, .int (nI ln), .int (nI (pa1 + 1)), .ref hd])), (hr, .inl (dA 0, 444, .inl row)), (hp, .inl (dA 0, 1776, .inl past)), (ha, .inl (dA 0, 444, .inl aside)), (hf, .inl (dA 0, 444, .inl bef)), (ht, .inl (dA 3, 60, .inl txt)), (hd, .inl (dA 0, 8, .inl rd1))] := hD
          refine lv_iload_n hx hb dX3_readNumbers_80 rfl (lv_at hl 0 rfl) ?_
          refine lv_if_le (tgt := 123) hx hb dX3_readNumbers_81 (by decide) (fun h_6 => ?_) (fun h_6 => ?_)
          · refine lv_aload_n hx hb dX3_readNumbers_123 rfl (lv_at hl 1 rfl) ?_
            refine va_get (D := D) (ci := 3) (C := RX3) (T := TX3) (N := 10) hx hb hts in_X3 hown K hP 0 rfl rfl 9 (by decide) (hts _ q1084) (fun _ h9 => h9) rfl dX3_readNumbers_124 ?_
            refine lv_iload_n hx hb dX3_readNumbers_127 rfl (lv_at hl 2 rfl) ?_
            refine lv_iload_n hx hb dX3_readNumbers_128 rfl (lv_at hl 0 rfl) ?_
            refine x_iast hx hb K hP hD hS 6 0 rfl rfl ci rfl (by omega) (by decide) dX3_readNumbers_129 (fun H locs hP hD hS => ?_)
            have hP : va_P D vwCl [(h0, .inr (3, [.ref hr, .ref hp, .ref ha, .ref hf, .int (nI hs), .int (bI ias), .ref ht, .int (nI ln), .int (nI (pa1 + 1)), .ref hd])), (hr, .inl (dA 0, 444, .inl row)), (hp, .inl (dA 0, 1776, .inl past)), (ha, .inl (dA 0, 444, .inl aside)), (hf, .inl (dA 0, 444, .inl bef)), (ht, .inl (dA 3, 60, .inl txt)), (hd, .inl (dA 0, 8, .inl (upd rd1 ci ((txt pa1) - (nI 48)))))] H := hP
            have hD : va_D A [(h0, .inr (3, [.ref hr, .ref hp, .ref ha, .ref hf, .int (nI hs), .int (bI ias), .ref ht, .int (nI ln), .int (nI (pa1 + 1)), .ref hd])), (hr, .inl (dA 0, 444, .inl row)), (hp, .inl (dA 0, 1776, .inl past)), (ha, .inl (dA 0, 444, .inl aside)), (hf, .inl (dA 0, 444, .inl bef)), (ht, .inl (dA 3, 60, .inl txt)), (hd, .inl (dA 0, 8, .inl (upd rd1 ci ((txt pa1) - (nI 48)))))] := hD
            refine lv_iinc (v := nI (ci + 1)) (lv' := [(1, .int (nI (ci + 1))), (2, .int ((txt pa1) - (nI 48))), (0, .ref h0)]) hx hb dX3_readNumbers_130 hl (k := 2) rfl (nI_1 ci) (by decide) rfl (fun ls hl => ?_)
            refine lv_goto (tgt := 7) hx hb dX3_readNumbers_133 (by decide) ?_
            exact ih (ci + 1) (pa1 + 1) (upd rd1 ci ((txt pa1) - (nI 48))) (by omega) (by omega) (by rw [← hSV]; simp [rdN, rdP, rdV, h_4, h_5, h_6]) ls H locs (lv_sub hl [2, 0] rfl) hP hD hS
          · refine lv_aload_n hx hb dX3_readNumbers_84 rfl (lv_at hl 1 rfl) ?_
            refine lv_bipush (v := nI 48) hx hb dX3_readNumbers_85 (by decide) ?_
            refine lv_bipush (v := nI 57) hx hb dX3_readNumbers_87 (by decide) ?_
            refine x_ret (va_runV (As := [.int (nI 48), .int (nI 57)]) (rest := []) S (mr_sees l D dA h0 hr hp ha hf ht hd row past aside bef txt rd1 hs ias ln (pa1 + 1) (nI 48) (nI 57) hln (by omega)) (cwV 2 hts (lw_V q1295 q1297 qs51 q69 q1298) rfl rfl rfl hdX3_sees ⟨Nat.le_of_ble_eq_true rfl, Nat.le_of_ble_eq_true rfl⟩) ⟨bb_blind ka_bl _, va_recv K hP (ci := 3) (q0 := 0) rfl rfl, ka_pre K (hP.sub [0, 1, 2, 3, 4, 5, 6] rfl) _⟩ rfl rfl hl.1 rfl (lv_room (Nat.le_of_ble_eq_true rfl)) dX3_readNumbers_89 ⟨by omega, by omega⟩) ?_
            refine x_ifb_eq (tgt := 123) hx hb dX3_readNumbers_92 (by decide) (fun h_7 => ?_) (fun h_7 => ?_)
            · refine lv_aload_n hx hb dX3_readNumbers_123 rfl (lv_at hl 1 rfl) ?_
              refine va_get (D := D) (ci := 3) (C := RX3) (T := TX3) (N := 10) hx hb hts in_X3 hown K hP 0 rfl rfl 9 (by decide) (hts _ q1084) (fun _ h9 => h9) rfl dX3_readNumbers_124 ?_
              refine lv_iload_n hx hb dX3_readNumbers_127 rfl (lv_at hl 2 rfl) ?_
              refine lv_iload_n hx hb dX3_readNumbers_128 rfl (lv_at hl 0 rfl) ?_
              refine x_iast hx hb K hP hD hS 6 0 rfl rfl ci rfl (by omega) (by decide) dX3_readNumbers_129 (fun H locs hP hD hS => ?_)
              have hP : va_P D vwCl [(h0, .inr (3, [.ref hr, .ref hp, .ref ha, .ref hf, .int (nI hs), .int (bI ias), .ref ht, .int (nI ln), .int (nI (pa1 + 1)), .ref hd])), (hr, .inl (dA 0, 444, .inl row)), (hp, .inl (dA 0, 1776, .inl past)), (ha, .inl (dA 0, 444, .inl aside)), (hf, .inl (dA 0, 444, .inl bef)), (ht, .inl (dA 3, 60, .inl txt)), (hd, .inl (dA 0, 8, .inl (upd rd1 ci ((txt pa1) - (nI 48)))))] H := hP
              have hD : va_D A [(h0, .inr (3, [.ref hr, .ref hp, .ref ha, .ref hf, .int (nI hs), .int (bI ias), .ref ht, .int (nI ln), .int (nI (pa1 + 1)), .ref hd])), (hr, .inl (dA 0, 444, .inl row)), (hp, .inl (dA 0, 1776, .inl past)), (ha, .inl (dA 0, 444, .inl aside)), (hf, .inl (dA 0, 444, .inl bef)), (ht, .inl (dA 3, 60, .inl txt)), (hd, .inl (dA 0, 8, .inl (upd rd1 ci ((txt pa1) - (nI 48)))))] := hD
              refine lv_iinc (v := nI (ci + 1)) (lv' := [(1, .int (nI (ci + 1))), (2, .int ((txt pa1) - (nI 48))), (0, .ref h0)]) hx hb dX3_readNumbers_130 hl (k := 2) rfl (nI_1 ci) (by decide) rfl (fun ls hl => ?_)
              refine lv_goto (tgt := 7) hx hb dX3_readNumbers_133 (by decide) ?_
              exact ih (ci + 1) (pa1 + 1) (upd rd1 ci ((txt pa1) - (nI 48))) (by omega) (by omega) (by rw [← hSV]; simp [rdN, rdP, rdV, h_4, h_5, h_6, h_7]) ls H locs (lv_sub hl [2, 0] rfl) hP hD hS
            · have hlt7 := mSees_lt h_7
              refine lv_bipush (v := nI 10) hx hb dX3_readNumbers_95 (by decide) ?_
              refine lv_iload_n hx hb dX3_readNumbers_97 rfl (lv_at hl 0 rfl) ?_
              refine lv_imul hx hb dX3_readNumbers_98 ?_
              refine lv_aload_n hx hb dX3_readNumbers_99 rfl (lv_at hl 1 rfl) ?_
              refine va_get (D := D) (ci := 3) (C := RX3) (T := TX3) (N := 10) hx hb hts in_X3 hown K hP 0 rfl rfl 6 (by decide) (hts _ q1081) (fun _ h9 => h9) rfl dX3_readNumbers_100 ?_
              refine lv_aload_n hx hb dX3_readNumbers_103 rfl (lv_at hl 1 rfl) ?_
              refine va_get (D := D) (ci := 3) (C := RX3) (T := TX3) (N := 10) hx hb hts in_X3 hown K hP 0 rfl rfl 8 (by decide) (hts _ q1083) (fun _ h9 => h9) rfl dX3_readNumbers_104 ?_
              refine x_cald hx hb K hP 5 3 rfl rfl (pa1 + 1) rfl (by omega) (by decide) rfl dX3_readNumbers_107 ?_
              refine lv_iadd hx hb dX3_readNumbers_108 ?_
              refine lv_bipush (v := nI 48) hx hb dX3_readNumbers_109 (by decide) ?_
              refine lv_isub hx hb dX3_readNumbers_111 ?_
              refine lv_istore_n (lv' := [(2, .int ((((nI 10) * ((txt pa1) - (nI 48))) + (txt (pa1 + 1))) - (nI 48))), (0, .ref h0), (1, .int (nI ci))]) hx hb dX3_readNumbers_112 rfl hl (by decide) rfl (fun ls hl => ?_)
              refine lv_aload_n hx hb dX3_readNumbers_113 rfl (lv_at hl 1 rfl) ?_
              refine lv_dup hx hb dX3_readNumbers_114 rfl ?_
              refine va_get (D := D) (ci := 3) (C := RX3) (T := TX3) (N := 10) hx hb hts in_X3 hown K hP 0 rfl rfl 8 (by decide) (hts _ q1083) (fun _ h9 => h9) rfl dX3_readNumbers_115 ?_
              refine lv_iconst (v := nI 1) hx hb dX3_readNumbers_118 (by decide) ?_
              refine x_addN hx hb dX3_readNumbers_119 ?_
              refine va_put (D := D) (ci := 3) (v := .int (nI ((pa1 + 1) + 1))) (ty := .int) (C := RX3) (T := TX3) (N := 10) hx hb hts in_X3 tyX3 tyX3_ok nmX3 hown K hP hD hS 0 rfl rfl 8 (by decide) (hts _ q1083) (fun _ h9 => h9) rfl (by decide +kernel) rfl rfl (Nat.le_of_ble_eq_true rfl) dX3_readNumbers_120 (fun H locs hP hD hS => ?_)
              have hP : va_P D vwCl [(h0, .inr (3, [.ref hr, .ref hp, .ref ha, .ref hf, .int (nI hs), .int (bI ias), .ref ht, .int (nI ln), .int (nI ((pa1 + 1) + 1)), .ref hd])), (hr, .inl (dA 0, 444, .inl row)), (hp, .inl (dA 0, 1776, .inl past)), (ha, .inl (dA 0, 444, .inl aside)), (hf, .inl (dA 0, 444, .inl bef)), (ht, .inl (dA 3, 60, .inl txt)), (hd, .inl (dA 0, 8, .inl rd1))] H := hP
              have hD : va_D A [(h0, .inr (3, [.ref hr, .ref hp, .ref ha, .ref hf, .int (nI hs), .int (bI ias), .ref ht, .int (nI ln), .int (nI ((pa1 + 1) + 1)), .ref hd])), (hr, .inl (dA 0, 444, .inl row)), (hp, .inl (dA 0, 1776, .inl past)), (ha, .inl (dA 0, 444, .inl aside)), (hf, .inl (dA 0, 444, .inl bef)), (ht, .inl (dA 3, 60, .inl txt)), (hd, .inl (dA 0, 8, .inl rd1))] := hD
              refine lv_aload_n hx hb dX3_readNumbers_123 rfl (lv_at hl 1 rfl) ?_
              refine va_get (D := D) (ci := 3) (C := RX3) (T := TX3) (N := 10) hx hb hts in_X3 hown K hP 0 rfl rfl 9 (by decide) (hts _ q1084) (fun _ h9 => h9) rfl dX3_readNumbers_124 ?_
              refine lv_iload_n hx hb dX3_readNumbers_127 rfl (lv_at hl 2 rfl) ?_
              refine lv_iload_n hx hb dX3_readNumbers_128 rfl (lv_at hl 0 rfl) ?_
              refine x_iast hx hb K hP hD hS 6 0 rfl rfl ci rfl (by omega) (by decide) dX3_readNumbers_129 (fun H locs hP hD hS => ?_)
              have hP : va_P D vwCl [(h0, .inr (3, [.ref hr, .ref hp, .ref ha, .ref hf, .int (nI hs), .int (bI ias), .ref ht, .int (nI ln), .int (nI ((pa1 + 1) + 1)), .ref hd])), (hr, .inl (dA 0, 444, .inl row)), (hp, .inl (dA 0, 1776, .inl past)), (ha, .inl (dA 0, 444, .inl aside)), (hf, .inl (dA 0, 444, .inl bef)), (ht, .inl (dA 3, 60, .inl txt)), (hd, .inl (dA 0, 8, .inl (upd rd1 ci ((((nI 10) * ((txt pa1) - (nI 48))) + (txt (pa1 + 1))) - (nI 48)))))] H := hP
              have hD : va_D A [(h0, .inr (3, [.ref hr, .ref hp, .ref ha, .ref hf, .int (nI hs), .int (bI ias), .ref ht, .int (nI ln), .int (nI ((pa1 + 1) + 1)), .ref hd])), (hr, .inl (dA 0, 444, .inl row)), (hp, .inl (dA 0, 1776, .inl past)), (ha, .inl (dA 0, 444, .inl aside)), (hf, .inl (dA 0, 444, .inl bef)), (ht, .inl (dA 3, 60, .inl txt)), (hd, .inl (dA 0, 8, .inl (upd rd1 ci ((((nI 10) * ((txt pa1) - (nI 48))) + (txt (pa1 + 1))) - (nI 48)))))] := hD
              refine lv_iinc (v := nI (ci + 1)) (lv' := [(1, .int (nI (ci + 1))), (2, .int ((((nI 10) * ((txt pa1) - (nI 48))) + (txt (pa1 + 1))) - (nI 48))), (0, .ref h0)]) hx hb dX3_readNumbers_130 hl (k := 2) rfl (nI_1 ci) (by decide) rfl (fun ls hl => ?_)
              refine lv_goto (tgt := 7) hx hb dX3_readNumbers_133 (by decide) ?_
              exact ih (ci + 1) ((pa1 + 1) + 1) (upd rd1 ci ((((nI 10) * ((txt pa1) - (nI 48))) + (txt (pa1 + 1))) - (nI 48))) (by omega) (by omega) (by rw [← hSV]; simp [rdN, rdP, rdV, h_4, h_5, h_6, h_7]) ls H locs (lv_sub hl [2, 0] rfl) hP hD hS
        · refine lv_iconst (v := nI 0) hx hb dX3_readNumbers_55 (by decide) ?_
          have hE : SV = (false, pa1, rd1) := by rw [← hSV]; simp [rdN, rdP, h_4, h_5]
          rw [hE]
          exact x_vzret (w := false) hx hb hrt hlk rfl hP hD hS dX3_readNumbers_56 (Nat.le_of_ble_eq_true rfl) (Nat.le_of_ble_eq_true rfl)
      · refine lv_aload_n hx hb dX3_readNumbers_21 rfl (lv_at hl 0 rfl) ?_
        refine lv_bipush (v := nI 44) hx hb dX3_readNumbers_22 (by decide) ?_
        refine lv_bipush (v := nI 44) hx hb dX3_readNumbers_24 (by decide) ?_
        refine x_ret (va_runV (As := [.int (nI 44), .int (nI 44)]) (rest := []) S (mr_sees l D dA h0 hr hp ha hf ht hd row past aside bef txt rd1 hs ias ln pa1 (nI 44) (nI 44) hln (by omega)) (cwV 2 hts (lw_V q1295 q1297 qs51 q69 q1298) rfl rfl rfl hdX3_sees ⟨Nat.le_of_ble_eq_true rfl, Nat.le_of_ble_eq_true rfl⟩) ⟨bb_blind ka_bl _, va_recv K hP (ci := 3) (q0 := 0) rfl rfl, ka_pre K (hP.sub [0, 1, 2, 3, 4, 5, 6] rfl) _⟩ rfl rfl hl.1 rfl (lv_room (Nat.le_of_ble_eq_true rfl)) dX3_readNumbers_26 ⟨by omega, by omega⟩) ?_
        refine x_ifb_ne (tgt := 34) hx hb dX3_readNumbers_29 (by decide) (fun h_8 => ?_) (fun h_8 => ?_)
        · have hlt8 := mSees_lt h_8
          refine lv_aload_n hx hb dX3_readNumbers_34 rfl (lv_at hl 0 rfl) ?_
          refine lv_dup hx hb dX3_readNumbers_35 rfl ?_
          refine va_get (D := D) (ci := 3) (C := RX3) (T := TX3) (N := 10) hx hb hts in_X3 hown K hP 0 rfl rfl 8 (by decide) (hts _ q1083) (fun _ h9 => h9) rfl dX3_readNumbers_36 ?_
          refine lv_iconst (v := nI 1) hx hb dX3_readNumbers_39 (by decide) ?_
          refine x_addN hx hb dX3_readNumbers_40 ?_
          refine va_put (D := D) (ci := 3) (v := .int (nI (pa1 + 1))) (ty := .int) (C := RX3) (T := TX3) (N := 10) hx hb hts in_X3 tyX3 tyX3_ok nmX3 hown K hP hD hS 0 rfl rfl 8 (by decide) (hts _ q1083) (fun _ h9 => h9) rfl (by decide +kernel) rfl rfl (Nat.le_of_ble_eq_true rfl) dX3_readNumbers_41 (fun H locs hP hD hS => ?_)
          have hP : va_P D vwCl [(h0, .inr (3, [.ref hr, .ref hp, .ref ha, .ref hf, .int (nI hs), .int (bI ias), .ref ht, .int (nI ln), .int (nI (pa1 + 1)), .ref hd])), (hr, .inl (dA 0, 444, .inl row)), (hp, .inl (dA 0, 1776, .inl past)), (ha, .inl (dA 0, 444, .inl aside)), (hf, .inl (dA 0, 444, .inl bef)), (ht, .inl (dA 3, 60, .inl txt)), (hd, .inl (dA 0, 8, .inl rd1))] H := hP
          have hD : va_D A [(h0, .inr (3, [.ref hr, .ref hp, .ref ha, .ref hf, .int (nI hs), .int (bI ias), .ref ht, .int (nI ln), .int (nI (pa1 + 1)), .ref hd])), (hr, .inl (dA 0, 444, .inl row)), (hp, .inl (dA 0, 1776, .inl past)), (ha, .inl (dA 0, 444, .inl aside)), (hf, .inl (dA 0, 444, .inl bef)), (ht, .inl (dA 3, 60, .inl txt)), (hd, .inl (dA 0, 8, .inl rd1))] := hD
          refine lv_aload_n hx hb dX3_readNumbers_44 rfl (lv_at hl 0 rfl) ?_
          refine lv_bipush (v := nI 48) hx hb dX3_readNumbers_45 (by decide) ?_
          refine lv_bipush (v := nI 57) hx hb dX3_readNumbers_47 (by decide) ?_
          refine x_ret (va_runV (As := [.int (nI 48), .int (nI 57)]) (rest := []) S (mr_sees l D dA h0 hr hp ha hf ht hd row past aside bef txt rd1 hs ias ln (pa1 + 1) (nI 48) (nI 57) hln (by omega)) (cwV 2 hts (lw_V q1295 q1297 qs51 q69 q1298) rfl rfl rfl hdX3_sees ⟨Nat.le_of_ble_eq_true rfl, Nat.le_of_ble_eq_true rfl⟩) ⟨bb_blind ka_bl _, va_recv K hP (ci := 3) (q0 := 0) rfl rfl, ka_pre K (hP.sub [0, 1, 2, 3, 4, 5, 6] rfl) _⟩ rfl rfl hl.1 rfl (lv_room (Nat.le_of_ble_eq_true rfl)) dX3_readNumbers_49 ⟨by omega, by omega⟩) ?_
          refine x_ifb_ne (tgt := 57) hx hb dX3_readNumbers_52 (by decide) (fun h_9 => ?_) (fun h_9 => ?_)
          · have hlt9 := mSees_lt h_9
            refine lv_aload_n hx hb dX3_readNumbers_57 rfl (lv_at hl 0 rfl) ?_
            refine va_get (D := D) (ci := 3) (C := RX3) (T := TX3) (N := 10) hx hb hts in_X3 hown K hP 0 rfl rfl 6 (by decide) (hts _ q1081) (fun _ h9 => h9) rfl dX3_readNumbers_58 ?_
            refine lv_aload_n hx hb dX3_readNumbers_61 rfl (lv_at hl 0 rfl) ?_
            refine va_get (D := D) (ci := 3) (C := RX3) (T := TX3) (N := 10) hx hb hts in_X3 hown K hP 0 rfl rfl 8 (by decide) (hts _ q1083) (fun _ h9 => h9) rfl dX3_readNumbers_62 ?_
            refine x_cald hx hb K hP 5 3 rfl rfl (pa1 + 1) rfl (by omega) (by decide) rfl dX3_readNumbers_65 ?_
            refine lv_bipush (v := nI 48) hx hb dX3_readNumbers_66 (by decide) ?_
            refine lv_isub hx hb dX3_readNumbers_68 ?_
            refine lv_istore_n (lv' := [(2, .int ((txt (pa1 + 1)) - (nI 48))), (0, .ref h0), (1, .int (nI ci))]) hx hb dX3_readNumbers_69 rfl hl (by decide) rfl (fun ls hl => ?_)
            refine lv_aload_n hx hb dX3_readNumbers_70 rfl (lv_at hl 1 rfl) ?_
            refine lv_dup hx hb dX3_readNumbers_71 rfl ?_
            refine va_get (D := D) (ci := 3) (C := RX3) (T := TX3) (N := 10) hx hb hts in_X3 hown K hP 0 rfl rfl 8 (by decide) (hts _ q1083) (fun _ h9 => h9) rfl dX3_readNumbers_72 ?_
            refine lv_iconst (v := nI 1) hx hb dX3_readNumbers_75 (by decide) ?_
            refine x_addN hx hb dX3_readNumbers_76 ?_
            refine va_put (D := D) (ci := 3) (v := .int (nI ((pa1 + 1) + 1))) (ty := .int) (C := RX3) (T := TX3) (N := 10) hx hb hts in_X3 tyX3 tyX3_ok nmX3 hown K hP hD hS 0 rfl rfl 8 (by decide) (hts _ q1083) (fun _ h9 => h9) rfl (by decide +kernel) rfl rfl (Nat.le_of_ble_eq_true rfl) dX3_readNumbers_77 (fun H locs hP hD hS => ?_)
            have hP : va_P D vwCl [(h0, .inr (3, [.ref hr, .ref hp, .ref ha, .ref hf, .int (nI hs), .int (bI ias), .ref ht, .int (nI ln), .int (nI ((pa1 + 1) + 1)), .ref hd])), (hr, .inl (dA 0, 444, .inl row)), (hp, .inl (dA 0, 1776, .inl past)), (ha, .inl (dA 0, 444, .inl aside)), (hf, .inl (dA 0, 444, .inl bef)), (ht, .inl (dA 3, 60, .inl txt)), (hd, .inl (dA 0, 8, .inl rd1))] H := hP
            have hD : va_D A [(h0, .inr (3, [.ref hr, .ref hp, .ref ha, .ref hf, .int (nI hs), .int (bI ias), .ref ht, .int (nI ln), .int (nI ((pa1 + 1) + 1)), .ref hd])), (hr, .inl (dA 0, 444, .inl row)), (hp, .inl (dA 0, 1776, .inl past)), (ha, .inl (dA 0, 444, .inl aside)), (hf, .inl (dA 0, 444, .inl bef)), (ht, .inl (dA 3, 60, .inl txt)), (hd, .inl (dA 0, 8, .inl rd1))] := hD
            refine lv_iload_n hx hb dX3_readNumbers_80 rfl (lv_at hl 0 rfl) ?_
            refine lv_if_le (tgt := 123) hx hb dX3_readNumbers_81 (by decide) (fun h_10 => ?_) (fun h_10 => ?_)
            · refine lv_aload_n hx hb dX3_readNumbers_123 rfl (lv_at hl 1 rfl) ?_
              refine va_get (D := D) (ci := 3) (C := RX3) (T := TX3) (N := 10) hx hb hts in_X3 hown K hP 0 rfl rfl 9 (by decide) (hts _ q1084) (fun _ h9 => h9) rfl dX3_readNumbers_124 ?_
              refine lv_iload_n hx hb dX3_readNumbers_127 rfl (lv_at hl 2 rfl) ?_
              refine lv_iload_n hx hb dX3_readNumbers_128 rfl (lv_at hl 0 rfl) ?_
              refine x_iast hx hb K hP hD hS 6 0 rfl rfl ci rfl (by omega) (by decide) dX3_readNumbers_129 (fun H locs hP hD hS => ?_)
              have hP : va_P D vwCl [(h0, .inr (3, [.ref hr, .ref hp, .ref ha, .ref hf, .int (nI hs), .int (bI ias), .ref ht, .int (nI ln), .int (nI ((pa1 + 1) + 1)), .ref hd])), (hr, .inl (dA 0, 444, .inl row)), (hp, .inl (dA 0, 1776, .inl past)), (ha, .inl (dA 0, 444, .inl aside)), (hf, .inl (dA 0, 444, .inl bef)), (ht, .inl (dA 3, 60, .inl txt)), (hd, .inl (dA 0, 8, .inl (upd rd1 ci ((txt (pa1 + 1)) - (nI 48)))))] H := hP
              have hD : va_D A [(h0, .inr (3, [.ref hr, .ref hp, .ref ha, .ref hf, .int (nI hs), .int (bI ias), .ref ht, .int (nI ln), .int (nI ((pa1 + 1) + 1)), .ref hd])), (hr, .inl (dA 0, 444, .inl row)), (hp, .inl (dA 0, 1776, .inl past)), (ha, .inl (dA 0, 444, .inl aside)), (hf, .inl (dA 0, 444, .inl bef)), (ht, .inl (dA 3, 60, .inl txt)), (hd, .inl (dA 0, 8, .inl (upd rd1 ci ((txt (pa1 + 1)) - (nI 48)))))] := hD
              refine lv_iinc (v := nI (ci + 1)) (lv' := [(1, .int (nI (ci + 1))), (2, .int ((txt (pa1 + 1)) - (nI 48))), (0, .ref h0)]) hx hb dX3_readNumbers_130 hl (k := 2) rfl (nI_1 ci) (by decide) rfl (fun ls hl => ?_)
              refine lv_goto (tgt := 7) hx hb dX3_readNumbers_133 (by decide) ?_
              exact ih (ci + 1) ((pa1 + 1) + 1) (upd rd1 ci ((txt (pa1 + 1)) - (nI 48))) (by omega) (by omega) (by rw [← hSV]; simp [rdN, rdP, rdV, h_4, h_8, h_9, h_10]) ls H locs (lv_sub hl [2, 0] rfl) hP hD hS
            · refine lv_aload_n hx hb dX3_readNumbers_84 rfl (lv_at hl 1 rfl) ?_
              refine lv_bipush (v := nI 48) hx hb dX3_readNumbers_85 (by decide) ?_
              refine lv_bipush (v := nI 57) hx hb dX3_readNumbers_87 (by decide) ?_
              refine x_ret (va_runV (As := [.int (nI 48), .int (nI 57)]) (rest := []) S (mr_sees l D dA h0 hr hp ha hf ht hd row past aside bef txt rd1 hs ias ln ((pa1 + 1) + 1) (nI 48) (nI 57) hln (by omega)) (cwV 2 hts (lw_V q1295 q1297 qs51 q69 q1298) rfl rfl rfl hdX3_sees ⟨Nat.le_of_ble_eq_true rfl, Nat.le_of_ble_eq_true rfl⟩) ⟨bb_blind ka_bl _, va_recv K hP (ci := 3) (q0 := 0) rfl rfl, ka_pre K (hP.sub [0, 1, 2, 3, 4, 5, 6] rfl) _⟩ rfl rfl hl.1 rfl (lv_room (Nat.le_of_ble_eq_true rfl)) dX3_readNumbers_89 ⟨by omega, by omega⟩) ?_
              refine x_ifb_eq (tgt := 123) hx hb dX3_readNumbers_92 (by decide) (fun h_11 => ?_) (fun h_11 => ?_)
              · refine lv_aload_n hx hb dX3_readNumbers_123 rfl (lv_at hl 1 rfl) ?_
                refine va_get (D := D) (ci := 3) (C := RX3) (T := TX3) (N := 10) hx hb hts in_X3 hown K hP 0 rfl rfl 9 (by decide) (hts _ q1084) (fun _ h9 => h9) rfl dX3_readNumbers_124 ?_
                refine lv_iload_n hx hb dX3_readNumbers_127 rfl (lv_at hl 2 rfl) ?_
                refine lv_iload_n hx hb dX3_readNumbers_128 rfl (lv_at hl 0 rfl) ?_
                refine x_iast hx hb K hP hD hS 6 0 rfl rfl ci rfl (by omega) (by decide) dX3_readNumbers_129 (fun H locs hP hD hS => ?_)
                have hP : va_P D vwCl [(h0, .inr (3, [.ref hr, .ref hp, .ref ha, .ref hf, .int (nI hs), .int (bI ias), .ref ht, .int (nI ln), .int (nI ((pa1 + 1) + 1)), .ref hd])), (hr, .inl (dA 0, 444, .inl row)), (hp, .inl (dA 0, 1776, .inl past)), (ha, .inl (dA 0, 444, .inl aside)), (hf, .inl (dA 0, 444, .inl bef)), (ht, .inl (dA 3, 60, .inl txt)), (hd, .inl (dA 0, 8, .inl (upd rd1 ci ((txt (pa1 + 1)) - (nI 48)))))] H := hP
                have hD : va_D A [(h0, .inr (3, [.ref hr, .ref hp, .ref ha, .ref hf, .int (nI hs), .int (bI ias), .ref ht, .int (nI ln), .int (nI ((pa1 + 1) + 1)), .ref hd])), (hr, .inl (dA 0, 444, .inl row)), (hp, .inl (dA 0, 1776, .inl past)), (ha, .inl (dA 0, 444, .inl aside)), (hf, .inl (dA 0, 444, .inl bef)), (ht, .inl (dA 3, 60, .inl txt)), (hd, .inl (dA 0, 8, .inl (upd rd1 ci ((txt (pa1 + 1)) - (nI 48)))))] := hD
                refine lv_iinc (v := nI (ci + 1)) (lv' := [(1, .int (nI (ci + 1))), (2, .int ((txt (pa1 + 1)) - (nI 48))), (0, .ref h0)]) hx hb dX3_readNumbers_130 hl (k := 2) rfl (nI_1 ci) (by decide) rfl (fun ls hl => ?_)
                refine lv_goto (tgt := 7) hx hb dX3_readNumbers_133 (by decide) ?_
                exact ih (ci + 1) ((pa1 + 1) + 1) (upd rd1 ci ((txt (pa1 + 1)) - (nI 48))) (by omega) (by omega) (by rw [← hSV]; simp [rdN, rdP, rdV, h_4, h_8, h_9, h_10, h_11]) ls H locs (lv_sub hl [2, 0] rfl) hP hD hS
              · have hlt11 := mSees_lt h_11
                refine lv_bipush (v := nI 10) hx hb dX3_readNumbers_95 (by decide) ?_
                refine lv_iload_n hx hb dX3_readNumbers_97 rfl (lv_at hl 0 rfl) ?_
                refine lv_imul hx hb dX3_readNumbers_98 ?_
                refine lv_aload_n hx hb dX3_readNumbers_99 rfl (lv_at hl 1 rfl) ?_
                refine va_get (D := D) (ci := 3) (C := RX3) (T := TX3) (N := 10) hx hb hts in_X3 hown K hP 0 rfl rfl 6 (by decide) (hts _ q1081) (fun _ h9 => h9) rfl dX3_readNumbers_100 ?_
                refine lv_aload_n hx hb dX3_readNumbers_103 rfl (lv_at hl 1 rfl) ?_
                refine va_get (D := D) (ci := 3) (C := RX3) (T := TX3) (N := 10) hx hb hts in_X3 hown K hP 0 rfl rfl 8 (by decide) (hts _ q1083) (fun _ h9 => h9) rfl dX3_readNumbers_104 ?_
                refine x_cald hx hb K hP 5 3 rfl rfl ((pa1 + 1) + 1) rfl (by omega) (by decide) rfl dX3_readNumbers_107 ?_
                refine lv_iadd hx hb dX3_readNumbers_108 ?_
                refine lv_bipush (v := nI 48) hx hb dX3_readNumbers_109 (by decide) ?_
                refine lv_isub hx hb dX3_readNumbers_111 ?_
                refine lv_istore_n (lv' := [(2, .int ((((nI 10) * ((txt (pa1 + 1)) - (nI 48))) + (txt ((pa1 + 1) + 1))) - (nI 48))), (0, .ref h0), (1, .int (nI ci))]) hx hb dX3_readNumbers_112 rfl hl (by decide) rfl (fun ls hl => ?_)
                refine lv_aload_n hx hb dX3_readNumbers_113 rfl (lv_at hl 1 rfl) ?_
                refine lv_dup hx hb dX3_readNumbers_114 rfl ?_
                refine va_get (D := D) (ci := 3) (C := RX3) (T := TX3) (N := 10) hx hb hts in_X3 hown K hP 0 rfl rfl 8 (by decide) (hts _ q1083) (fun _ h9 => h9) rfl dX3_readNumbers_115 ?_
                refine lv_iconst (v := nI 1) hx hb dX3_readNumbers_118 (by decide) ?_
                refine x_addN hx hb dX3_readNumbers_119 ?_
                refine va_put (D := D) (ci := 3) (v := .int (nI (((pa1 + 1) + 1) + 1))) (ty := .int) (C := RX3) (T := TX3) (N := 10) hx hb hts in_X3 tyX3 tyX3_ok nmX3 hown K hP hD hS 0 rfl rfl 8 (by decide) (hts _ q1083) (fun _ h9 => h9) rfl (by decide +kernel) rfl rfl (Nat.le_of_ble_eq_true rfl) dX3_readNumbers_120 (fun H locs hP hD hS => ?_)
                have hP : va_P D vwCl [(h0, .inr (3, [.ref hr, .ref hp, .ref ha, .ref hf, .int (nI hs), .int (bI ias), .ref ht, .int (nI ln), .int (nI (((pa1 + 1) + 1) + 1)), .ref hd])), (hr, .inl (dA 0, 444, .inl row)), (hp, .inl (dA 0, 1776, .inl past)), (ha, .inl (dA 0, 444, .inl aside)), (hf, .inl (dA 0, 444, .inl bef)), (ht, .inl (dA 3, 60, .inl txt)), (hd, .inl (dA 0, 8, .inl rd1))] H := hP
                have hD : va_D A [(h0, .inr (3, [.ref hr, .ref hp, .ref ha, .ref hf, .int (nI hs), .int (bI ias), .ref ht, .int (nI ln), .int (nI (((pa1 + 1) + 1) + 1)), .ref hd])), (hr, .inl (dA 0, 444, .inl row)), (hp, .inl (dA 0, 1776, .inl past)), (ha, .inl (dA 0, 444, .inl aside)), (hf, .inl (dA 0, 444, .inl bef)), (ht, .inl (dA 3, 60, .inl txt)), (hd, .inl (dA 0, 8, .inl rd1))] := hD
                refine lv_aload_n hx hb dX3_readNumbers_123 rfl (lv_at hl 1 rfl) ?_
                refine va_get (D := D) (ci := 3) (C := RX3) (T := TX3) (N := 10) hx hb hts in_X3 hown K hP 0 rfl rfl 9 (by decide) (hts _ q1084) (fun _ h9 => h9) rfl dX3_readNumbers_124 ?_
                refine lv_iload_n hx hb dX3_readNumbers_127 rfl (lv_at hl 2 rfl) ?_
                refine lv_iload_n hx hb dX3_readNumbers_128 rfl (lv_at hl 0 rfl) ?_
                refine x_iast hx hb K hP hD hS 6 0 rfl rfl ci rfl (by omega) (by decide) dX3_readNumbers_129 (fun H locs hP hD hS => ?_)
                have hP : va_P D vwCl [(h0, .inr (3, [.ref hr, .ref hp, .ref ha, .ref hf, .int (nI hs), .int (bI ias), .ref ht, .int (nI ln), .int (nI (((pa1 + 1) + 1) + 1)), .ref hd])), (hr, .inl (dA 0, 444, .inl row)), (hp, .inl (dA 0, 1776, .inl past)), (ha, .inl (dA 0, 444, .inl aside)), (hf, .inl (dA 0, 444, .inl bef)), (ht, .inl (dA 3, 60, .inl txt)), (hd, .inl (dA 0, 8, .inl (upd rd1 ci ((((nI 10) * ((txt (pa1 + 1)) - (nI 48))) + (txt ((pa1 + 1) + 1))) - (nI 48)))))] H := hP
                have hD : va_D A [(h0, .inr (3, [.ref hr, .ref hp, .ref ha, .ref hf, .int (nI hs), .int (bI ias), .ref ht, .int (nI ln), .int (nI (((pa1 + 1) + 1) + 1)), .ref hd])), (hr, .inl (dA 0, 444, .inl row)), (hp, .inl (dA 0, 1776, .inl past)), (ha, .inl (dA 0, 444, .inl aside)), (hf, .inl (dA 0, 444, .inl bef)), (ht, .inl (dA 3, 60, .inl txt)), (hd, .inl (dA 0, 8, .inl (upd rd1 ci ((((nI 10) * ((txt (pa1 + 1)) - (nI 48))) + (txt ((pa1 + 1) + 1))) - (nI 48)))))] := hD
                refine lv_iinc (v := nI (ci + 1)) (lv' := [(1, .int (nI (ci + 1))), (2, .int ((((nI 10) * ((txt (pa1 + 1)) - (nI 48))) + (txt ((pa1 + 1) + 1))) - (nI 48))), (0, .ref h0)]) hx hb dX3_readNumbers_130 hl (k := 2) rfl (nI_1 ci) (by decide) rfl (fun ls hl => ?_)
                refine lv_goto (tgt := 7) hx hb dX3_readNumbers_133 (by decide) ?_
                exact ih (ci + 1) (((pa1 + 1) + 1) + 1) (upd rd1 ci ((((nI 10) * ((txt (pa1 + 1)) - (nI 48))) + (txt ((pa1 + 1) + 1))) - (nI 48))) (by omega) (by omega) (by rw [← hSV]; simp [rdN, rdP, rdV, h_4, h_8, h_9, h_10, h_11]) ls H locs (lv_sub hl [2, 0] rfl) hP hD hS
          · refine lv_iconst (v := nI 0) hx hb dX3_readNumbers_55 (by decide) ?_
            have hE : SV = (false, pa1 + 1, rd1) := by rw [← hSV]; simp [rdN, rdP, h_4, h_8, h_9]
            rw [hE]
            exact x_vzret (w := false) hx hb hrt hlk rfl hP hD hS dX3_readNumbers_56 (Nat.le_of_ble_eq_true rfl) (Nat.le_of_ble_eq_true rfl)
        · refine lv_iconst (v := nI 0) hx hb dX3_readNumbers_32 (by decide) ?_
          have hE : SV = (false, pa1, rd1) := by rw [← hSV]; simp [rdN, rdP, h_4, h_8]
          rw [hE]
          exact x_vzret (w := false) hx hb hrt hlk rfl hP hD hS dX3_readNumbers_33 (Nat.le_of_ble_eq_true rfl) (Nat.le_of_ble_eq_true rfl)
  exact key cu 0 0 rd (by omega) (Nat.zero_le _) hSV ls H locs (lv_sub hl [1, 0] rfl) hP hD hS

set_option maxHeartbeats 4000000 in
theorem mw_readCut (l : Launch) (D : va_G) (dA : Nat → ClassId) (h0 hr hp ha hf ht hd : Nat) (row past aside bef txt rd : Nat → Int32) (hs : Nat) (ias : Bool) (ln pa : Nat) {n cu q : Nat} (w : MWf row n cu q) (hhs : hs ≤ 4) (hln : ln ≤ 60) : WR l yX3_readCut cX3_readCut 3 (some .int) 3 120 0 0 [.ref h0] D dA (mW dA h0 hr hp ha hf ht hd row past aside bef txt rd hs ias ln pa) (some (.int (rRc txt ln cu q rd))) (mW dA h0 hr hp ha hf ht hd (bif okRc txt ln cu q rd then upd (cutR row q (-5) (rdN txt ln cu 0 0 rd).2.2 cu) 3 (nI (q + 1)) else row) (bif okRc txt ln cu q rd then recP past row hs else past) aside (bif okRc txt ln cu q rd then row else bef) txt ((rcS txt ln cu rd pa).2) (bif okRc txt ln cu q rd then recH hs else hs) ias ln ((rcS txt ln cu rd pa).1)) := by
  refine wr_of (by decide) (Nat.le_of_ble_eq_true rfl) ?_
  intro p e s m below meth c A S hrt hlk K hA hAe H locs hP hD hS ls hl
  obtain ⟨hx, hb, hml, hown, hts⟩ := id S
  obtain ⟨e0, hn, e1, hcu, e3, hq, hray⟩ := id w
  have hP : va_P D vwCl [(h0, .inr (3, [.ref hr, .ref hp, .ref ha, .ref hf, .int (nI hs), .int (bI ias), .ref ht, .int (nI ln), .int (nI pa), .ref hd])), (hr, .inl (dA 0, 444, .inl row)), (hp, .inl (dA 0, 1776, .inl past)), (ha, .inl (dA 0, 444, .inl aside)), (hf, .inl (dA 0, 444, .inl bef)), (ht, .inl (dA 3, 60, .inl txt)), (hd, .inl (dA 0, 8, .inl rd))] H := hP
  have hD : va_D A [(h0, .inr (3, [.ref hr, .ref hp, .ref ha, .ref hf, .int (nI hs), .int (bI ias), .ref ht, .int (nI ln), .int (nI pa), .ref hd])), (hr, .inl (dA 0, 444, .inl row)), (hp, .inl (dA 0, 1776, .inl past)), (ha, .inl (dA 0, 444, .inl aside)), (hf, .inl (dA 0, 444, .inl bef)), (ht, .inl (dA 3, 60, .inl txt)), (hd, .inl (dA 0, 8, .inl rd))] := hD
  have hl : lv_has ls 3 [(0, .ref h0)] := hl
  refine lv_aload_n hx hb dX3_readCut_0 rfl (lv_at hl 0 rfl) ?_
  refine va_get (D := D) (ci := 3) (C := RX3) (T := TX3) (N := 10) hx hb hts in_X3 hown K hP 0 rfl rfl 0 (by decide) (hts _ q1075) (fun _ h9 => h9) rfl dX3_readCut_1 ?_
  refine lv_iconst (v := nI 1) hx hb dX3_readCut_4 (by decide) ?_
  refine x_iald hx hb K hP 1 0 rfl rfl 1 rfl (by omega) (by decide) e1 dX3_readCut_5 ?_
  refine x_ifn_ne (tgt := 12) hx hb dX3_readCut_6 (by decide) (by omega) (fun h_1 => ?_) (fun h_1 => ?_)
  · refine lv_aload_n hx hb dX3_readCut_12 rfl (lv_at hl 0 rfl) ?_
    refine x_wcall (wr := []) (va_runV (As := []) (rest := []) S ((mw_readNumbers l D dA h0 hr hp ha hf ht hd row past aside bef txt rd hs ias ln pa w hln) H.size) (cwV 0 hts (lw_V q1291 q1293 qs50 q69 q1294) rfl rfl rfl hdX3_readNumbers ⟨Nat.le_of_ble_eq_true rfl, Nat.le_of_ble_eq_true rfl⟩) ⟨pw_blind _, va_recv K hP (ci := 3) (q0 := 0) rfl rfl, pw_pre K hP hD _⟩ rfl rfl hl.1 rfl (lv_room (Nat.le_of_ble_eq_true rfl)) dX3_readCut_13 ⟨Nat.le_of_ble_eq_true rfl, Nat.le_of_ble_eq_true rfl⟩) hP hD hS hA [0, 1, 2, 3, 4, 5, 6] [] rfl rfl (by decide) (by decide) (fun H locs hP hD hS hkp => ?_)
    have hP : va_P D vwCl [(h0, .inr (3, [.ref hr, .ref hp, .ref ha, .ref hf, .int (nI hs), .int (bI ias), .ref ht, .int (nI ln), .int (nI ((rdN txt ln cu 0 0 rd).2.1)), .ref hd])), (hr, .inl (dA 0, 444, .inl row)), (hp, .inl (dA 0, 1776, .inl past)), (ha, .inl (dA 0, 444, .inl aside)), (hf, .inl (dA 0, 444, .inl bef)), (ht, .inl (dA 3, 60, .inl txt)), (hd, .inl (dA 0, 8, .inl ((rdN txt ln cu 0 0 rd).2.2)))] H := hP
    have hD : va_D A [(h0, .inr (3, [.ref hr, .ref hp, .ref ha, .ref hf, .int (nI hs), .int (bI ias), .ref ht, .int (nI ln), .int (nI ((rdN txt ln cu 0 0 rd).2.1)), .ref hd])), (hr, .inl (dA 0, 444, .inl row)), (hp, .inl (dA 0, 1776, .inl past)), (ha, .inl (dA 0, 444, .inl aside)), (hf, .inl (dA 0, 444, .inl bef)), (ht, .inl (dA 3, 60, .inl txt)), (hd, .inl (dA 0, 8, .inl ((rdN txt ln cu 0 0 rd).2.2)))] := hD
    refine x_ifb_ne (tgt := 27) hx hb dX3_readCut_16 (by decide) (fun h_2 => ?_) (fun h_2 => ?_)
    · refine lv_aload_n hx hb dX3_readCut_27 rfl (lv_at hl 0 rfl) ?_
      refine va_get (D := D) (ci := 3) (C := RX3) (T := TX3) (N := 10) hx hb hts in_X3 hown K hP 0 rfl rfl 0 (by decide) (hts _ q1075) (fun _ h9 => h9) rfl dX3_readCut_28 ?_
      refine lv_iconst (v := nI 3) hx hb dX3_readCut_31 (by decide) ?_
      refine x_iald hx hb K hP 1 0 rfl rfl 3 rfl (by omega) (by decide) e3 dX3_readCut_32 ?_
      refine lv_istore_n (lv' := [(1, .int (nI q)), (0, .ref h0)]) hx hb dX3_readCut_33 rfl hl (by decide) rfl (fun ls hl => ?_)
      refine lv_iload_n hx hb dX3_readCut_34 rfl (lv_at hl 0 rfl) ?_
      refine lv_bipush (v := nI 40) hx hb dX3_readCut_35 (by decide) ?_
      refine x_icmpn_ne (tgt := 43) hx hb dX3_readCut_37 (by decide) (by omega) (by omega) (fun h_3 => ?_) (fun h_3 => ?_)
      · refine lv_aload_n hx hb dX3_readCut_43 rfl (lv_at hl 1 rfl) ?_
        refine x_wcall (wr := []) (va_runV (As := []) (rest := []) S ((mw_begin l D dA h0 hr hp ha hf ht hd row past aside bef txt ((rdN txt ln cu 0 0 rd).2.2) hs ias ln ((rdN txt ln cu 0 0 rd).2.1) hhs) H.size) (cwV 0 hts (lw_V q1119 q1121 qs24 q69 q1122) rfl rfl rfl hdX3_begin ⟨Nat.le_of_ble_eq_true rfl, Nat.le_of_ble_eq_true rfl⟩) ⟨pw_blind _, va_recv K hP (ci := 3) (q0 := 0) rfl rfl, pw_pre K hP hD _⟩ rfl rfl hl.1 rfl (lv_room (Nat.le_of_ble_eq_true rfl)) dX3_readCut_44 ⟨Nat.le_of_ble_eq_true rfl, Nat.le_of_ble_eq_true rfl⟩) hP hD hS hA [0, 1, 2, 3, 4, 5, 6] [] rfl rfl (by decide) (by decide) (fun H locs hP hD hS hkp => ?_)
        have hP : va_P D vwCl [(h0, .inr (3, [.ref hr, .ref hp, .ref ha, .ref hf, .int (nI (recH hs)), .int (bI ias), .ref ht, .int (nI ln), .int (nI ((rdN txt ln cu 0 0 rd).2.1)), .ref hd])), (hr, .inl (dA 0, 444, .inl row)), (hp, .inl (dA 0, 1776, .inl (recP past row hs))), (ha, .inl (dA 0, 444, .inl aside)), (hf, .inl (dA 0, 444, .inl row)), (ht, .inl (dA 3, 60, .inl txt)), (hd, .inl (dA 0, 8, .inl ((rdN txt ln cu 0 0 rd).2.2)))] H := hP
        have hD : va_D A [(h0, .inr (3, [.ref hr, .ref hp, .ref ha, .ref hf, .int (nI (recH hs)), .int (bI ias), .ref ht, .int (nI ln), .int (nI ((rdN txt ln cu 0 0 rd).2.1)), .ref hd])), (hr, .inl (dA 0, 444, .inl row)), (hp, .inl (dA 0, 1776, .inl (recP past row hs))), (ha, .inl (dA 0, 444, .inl aside)), (hf, .inl (dA 0, 444, .inl row)), (ht, .inl (dA 3, 60, .inl txt)), (hd, .inl (dA 0, 8, .inl ((rdN txt ln cu 0 0 rd).2.2)))] := hD
        refine lv_aload_n hx hb dX3_readCut_47 rfl (lv_at hl 1 rfl) ?_
        refine va_get (D := D) (ci := 3) (C := RX3) (T := TX3) (N := 10) hx hb hts in_X3 hown K hP 0 rfl rfl 0 (by decide) (hts _ q1075) (fun _ h9 => h9) rfl dX3_readCut_48 ?_
        refine lv_bipush (v := nI 84) hx hb dX3_readCut_51 (by decide) ?_
        refine lv_bipush (v := nI 9) hx hb dX3_readCut_53 (by decide) ?_
        refine lv_iload_n hx hb dX3_readCut_55 rfl (lv_at hl 0 rfl) ?_
        refine x_mulN hx hb dX3_readCut_56 ?_
        refine x_addN hx hb dX3_readCut_57 ?_
        refine lv_bipush (v := -5) hx hb dX3_readCut_58 (by decide) ?_
        refine x_iast hx hb K hP hD hS 1 0 rfl rfl (84 + (9 * q)) rfl (by omega) (by decide) dX3_readCut_60 (fun H locs hP hD hS => ?_)
        have hP : va_P D vwCl [(h0, .inr (3, [.ref hr, .ref hp, .ref ha, .ref hf, .int (nI (recH hs)), .int (bI ias), .ref ht, .int (nI ln), .int (nI ((rdN txt ln cu 0 0 rd).2.1)), .ref hd])), (hr, .inl (dA 0, 444, .inl (upd row (84 + (9 * q)) (-5)))), (hp, .inl (dA 0, 1776, .inl (recP past row hs))), (ha, .inl (dA 0, 444, .inl aside)), (hf, .inl (dA 0, 444, .inl row)), (ht, .inl (dA 3, 60, .inl txt)), (hd, .inl (dA 0, 8, .inl ((rdN txt ln cu 0 0 rd).2.2)))] H := hP
        have hD : va_D A [(h0, .inr (3, [.ref hr, .ref hp, .ref ha, .ref hf, .int (nI (recH hs)), .int (bI ias), .ref ht, .int (nI ln), .int (nI ((rdN txt ln cu 0 0 rd).2.1)), .ref hd])), (hr, .inl (dA 0, 444, .inl (upd row (84 + (9 * q)) (-5)))), (hp, .inl (dA 0, 1776, .inl (recP past row hs))), (ha, .inl (dA 0, 444, .inl aside)), (hf, .inl (dA 0, 444, .inl row)), (ht, .inl (dA 3, 60, .inl txt)), (hd, .inl (dA 0, 8, .inl ((rdN txt ln cu 0 0 rd).2.2)))] := hD
        refine lv_iconst (v := nI 0) hx hb dX3_readCut_61 (by decide) ?_
        refine lv_istore_n (lv' := [(2, .int (nI 0)), (1, .int (nI q)), (0, .ref h0)]) hx hb dX3_readCut_62 rfl hl (by decide) rfl (fun ls hl => ?_)
        rw [cutR_0 row q (-5) ((rdN txt ln cu 0 0 rd).2.2)] at hP hD
        refine lpW (fun _ a => a) () cu (fun k g ls H locs => lv_has ls 3 [(0, .ref h0), (1, .int (nI q)), (2, .int (nI k))] ∧ va_P D vwCl [(h0, .inr (3, [.ref hr, .ref hp, .ref ha, .ref hf, .int (nI (recH hs)), .int (bI ias), .ref ht, .int (nI ln), .int (nI ((rdN txt ln cu 0 0 rd).2.1)), .ref hd])), (hr, .inl (dA 0, 444, .inl (cutR row q (-5) ((rdN txt ln cu 0 0 rd).2.2) k))), (hp, .inl (dA 0, 1776, .inl (recP past row hs))), (ha, .inl (dA 0, 444, .inl aside)), (hf, .inl (dA 0, 444, .inl row)), (ht, .inl (dA 3, 60, .inl txt)), (hd, .inl (dA 0, 8, .inl ((rdN txt ln cu 0 0 rd).2.2)))] H ∧ va_D A [(h0, .inr (3, [.ref hr, .ref hp, .ref ha, .ref hf, .int (nI (recH hs)), .int (bI ias), .ref ht, .int (nI ln), .int (nI ((rdN txt ln cu 0 0 rd).2.1)), .ref hd])), (hr, .inl (dA 0, 444, .inl (cutR row q (-5) ((rdN txt ln cu 0 0 rd).2.2) k))), (hp, .inl (dA 0, 1776, .inl (recP past row hs))), (ha, .inl (dA 0, 444, .inl aside)), (hf, .inl (dA 0, 444, .inl row)), (ht, .inl (dA 3, 60, .inl txt)), (hd, .inl (dA 0, 8, .inl ((rdN txt ln cu 0 0 rd).2.2)))] ∧ va_S A s.heap H locs) (fun ls H locs => W p l e (rmW 3 120 0 0) s m ([.ref h0]).toArray below meth c H locs 0 0 (MQ below (QW (some (.int (rRc txt ln cu q rd))) D (mW dA h0 hr hp ha hf ht hd (bif okRc txt ln cu q rd then upd (cutR row q (-5) (rdN txt ln cu 0 0 rd).2.2 cu) 3 (nI (q + 1)) else row) (bif okRc txt ln cu q rd then recP past row hs else past) aside (bif okRc txt ln cu q rd then row else bef) txt ((rcS txt ln cu rd pa).2) (bif okRc txt ln cu q rd then recH hs else hs) ias ln ((rcS txt ln cu rd pa).1)) A) ([.ref h0]).toArray s 0 0 A) (F0 m 63 ls [])) ?_ ?_ ls H locs ⟨lv_sub hl [2, 1, 0] rfl, hP, hD, hS⟩
        · intro k ls H locs hk_4 hI ih
          obtain ⟨hl, hP, hD, hS⟩ := hI
          have hl : lv_has ls 3 [(0, .ref h0), (1, .int (nI q)), (2, .int (nI k))] := hl
          have hP : va_P D vwCl [(h0, .inr (3, [.ref hr, .ref hp, .ref ha, .ref hf, .int (nI (recH hs)), .int (bI ias), .ref ht, .int (nI ln), .int (nI ((rdN txt ln cu 0 0 rd).2.1)), .ref hd])), (hr, .inl (dA 0, 444, .inl (cutR row q (-5) ((rdN txt ln cu 0 0 rd).2.2) k))), (hp, .inl (dA 0, 1776, .inl (recP past row hs))), (ha, .inl (dA 0, 444, .inl aside)), (hf, .inl (dA 0, 444, .inl row)), (ht, .inl (dA 3, 60, .inl txt)), (hd, .inl (dA 0, 8, .inl ((rdN txt ln cu 0 0 rd).2.2)))] H := hP
          have hD : va_D A [(h0, .inr (3, [.ref hr, .ref hp, .ref ha, .ref hf, .int (nI (recH hs)), .int (bI ias), .ref ht, .int (nI ln), .int (nI ((rdN txt ln cu 0 0 rd).2.1)), .ref hd])), (hr, .inl (dA 0, 444, .inl (cutR row q (-5) ((rdN txt ln cu 0 0 rd).2.2) k))), (hp, .inl (dA 0, 1776, .inl (recP past row hs))), (ha, .inl (dA 0, 444, .inl aside)), (hf, .inl (dA 0, 444, .inl row)), (ht, .inl (dA 3, 60, .inl txt)), (hd, .inl (dA 0, 8, .inl ((rdN txt ln cu 0 0 rd).2.2)))] := hD
          show W p l e (rmW 3 120 0 0) s m ([.ref h0]).toArray below meth c H locs 0 0 (MQ below (QW (some (.int (rRc txt ln cu q rd))) D (mW dA h0 hr hp ha hf ht hd (bif okRc txt ln cu q rd then upd (cutR row q (-5) (rdN txt ln cu 0 0 rd).2.2 cu) 3 (nI (q + 1)) else row) (bif okRc txt ln cu q rd then recP past row hs else past) aside (bif okRc txt ln cu q rd then row else bef) txt ((rcS txt ln cu rd pa).2) (bif okRc txt ln cu q rd then recH hs else hs) ias ln ((rcS txt ln cu rd pa).1)) A) ([.ref h0]).toArray s 0 0 A) (F0 m 63 ls [])
          refine lv_iload_n hx hb dX3_readCut_63 rfl (lv_at hl 2 rfl) ?_
          refine lv_aload_n hx hb dX3_readCut_64 rfl (lv_at hl 0 rfl) ?_
          refine va_get (D := D) (ci := 3) (C := RX3) (T := TX3) (N := 10) hx hb hts in_X3 hown K hP 0 rfl rfl 0 (by decide) (hts _ q1075) (fun _ h9 => h9) rfl dX3_readCut_65 ?_
          refine lv_iconst (v := nI 1) hx hb dX3_readCut_68 (by decide) ?_
          refine x_iald (v := nI cu) hx hb K hP 1 0 rfl rfl 1 rfl (by omega) (by decide) (by rw [cutR_lo (by omega)]; exact e1) dX3_readCut_69 ?_
          refine lv_icmp_ge (tgt := 101) hx hb dX3_readCut_70 (by decide) (fun h => absurd h (nI_ge hk_4 (by omega))) (fun _ => ?_)
          refine lv_aload_n hx hb dX3_readCut_73 rfl (lv_at hl 0 rfl) ?_
          refine va_get (D := D) (ci := 3) (C := RX3) (T := TX3) (N := 10) hx hb hts in_X3 hown K hP 0 rfl rfl 0 (by decide) (hts _ q1075) (fun _ h9 => h9) rfl dX3_readCut_74 ?_
          refine lv_bipush (v := nI 84) hx hb dX3_readCut_77 (by decide) ?_
          refine lv_bipush (v := nI 9) hx hb dX3_readCut_79 (by decide) ?_
          refine lv_iload_n hx hb dX3_readCut_81 rfl (lv_at hl 1 rfl) ?_
          refine x_mulN hx hb dX3_readCut_82 ?_
          refine x_addN hx hb dX3_readCut_83 ?_
          refine lv_iconst (v := nI 1) hx hb dX3_readCut_84 (by decide) ?_
          refine x_addN hx hb dX3_readCut_85 ?_
          refine lv_iload_n hx hb dX3_readCut_86 rfl (lv_at hl 2 rfl) ?_
          refine x_addN hx hb dX3_readCut_87 ?_
          refine lv_aload_n hx hb dX3_readCut_88 rfl (lv_at hl 0 rfl) ?_
          refine va_get (D := D) (ci := 3) (C := RX3) (T := TX3) (N := 10) hx hb hts in_X3 hown K hP 0 rfl rfl 9 (by decide) (hts _ q1084) (fun _ h9 => h9) rfl dX3_readCut_89 ?_
          refine lv_iload_n hx hb dX3_readCut_92 rfl (lv_at hl 2 rfl) ?_
          refine x_iald hx hb K hP 6 0 rfl rfl k rfl (by omega) (by decide) rfl dX3_readCut_93 ?_
          refine x_iast hx hb K hP hD hS 1 0 rfl rfl (((84 + (9 * q)) + 1) + k) rfl (by omega) (by decide) dX3_readCut_94 (fun H locs hP hD hS => ?_)
          have hP : va_P D vwCl [(h0, .inr (3, [.ref hr, .ref hp, .ref ha, .ref hf, .int (nI (recH hs)), .int (bI ias), .ref ht, .int (nI ln), .int (nI ((rdN txt ln cu 0 0 rd).2.1)), .ref hd])), (hr, .inl (dA 0, 444, .inl (upd (cutR row q (-5) ((rdN txt ln cu 0 0 rd).2.2) k) (((84 + (9 * q)) + 1) + k) (((rdN txt ln cu 0 0 rd).2.2) k)))), (hp, .inl (dA 0, 1776, .inl (recP past row hs))), (ha, .inl (dA 0, 444, .inl aside)), (hf, .inl (dA 0, 444, .inl row)), (ht, .inl (dA 3, 60, .inl txt)), (hd, .inl (dA 0, 8, .inl ((rdN txt ln cu 0 0 rd).2.2)))] H := hP
          have hD : va_D A [(h0, .inr (3, [.ref hr, .ref hp, .ref ha, .ref hf, .int (nI (recH hs)), .int (bI ias), .ref ht, .int (nI ln), .int (nI ((rdN txt ln cu 0 0 rd).2.1)), .ref hd])), (hr, .inl (dA 0, 444, .inl (upd (cutR row q (-5) ((rdN txt ln cu 0 0 rd).2.2) k) (((84 + (9 * q)) + 1) + k) (((rdN txt ln cu 0 0 rd).2.2) k)))), (hp, .inl (dA 0, 1776, .inl (recP past row hs))), (ha, .inl (dA 0, 444, .inl aside)), (hf, .inl (dA 0, 444, .inl row)), (ht, .inl (dA 3, 60, .inl txt)), (hd, .inl (dA 0, 8, .inl ((rdN txt ln cu 0 0 rd).2.2)))] := hD
          refine lv_iinc (v := nI (k + 1)) (lv' := [(2, .int (nI (k + 1))), (0, .ref h0), (1, .int (nI q))]) hx hb dX3_readCut_95 hl (k := 2) rfl (nI_1 k) (by decide) rfl (fun ls hl => ?_)
          refine lv_goto (tgt := 63) hx hb dX3_readCut_98 (by decide) ?_
          rw [cutR_s row q (-5) ((rdN txt ln cu 0 0 rd).2.2) k] at hP hD
          refine ih ls H locs ⟨?_, hP, hD, hS⟩
          show lv_has ls 3 [(0, .ref h0), (1, .int (nI q)), (2, .int (nI (k + 1)))]
          exact lv_sub hl [1, 2, 0] rfl
        · intro ls H locs hI
          obtain ⟨hl, hP, hD, hS⟩ := hI
          have hl : lv_has ls 3 [(0, .ref h0), (1, .int (nI q)), (2, .int (nI cu))] := hl
          have hP : va_P D vwCl [(h0, .inr (3, [.ref hr, .ref hp, .ref ha, .ref hf, .int (nI (recH hs)), .int (bI ias), .ref ht, .int (nI ln), .int (nI ((rdN txt ln cu 0 0 rd).2.1)), .ref hd])), (hr, .inl (dA 0, 444, .inl (cutR row q (-5) ((rdN txt ln cu 0 0 rd).2.2) cu))), (hp, .inl (dA 0, 1776, .inl (recP past row hs))), (ha, .inl (dA 0, 444, .inl aside)), (hf, .inl (dA 0, 444, .inl row)), (ht, .inl (dA 3, 60, .inl txt)), (hd, .inl (dA 0, 8, .inl ((rdN txt ln cu 0 0 rd).2.2)))] H := hP
          have hD : va_D A [(h0, .inr (3, [.ref hr, .ref hp, .ref ha, .ref hf, .int (nI (recH hs)), .int (bI ias), .ref ht, .int (nI ln), .int (nI ((rdN txt ln cu 0 0 rd).2.1)), .ref hd])), (hr, .inl (dA 0, 444, .inl (cutR row q (-5) ((rdN txt ln cu 0 0 rd).2.2) cu))), (hp, .inl (dA 0, 1776, .inl (recP past row hs))), (ha, .inl (dA 0, 444, .inl aside)), (hf, .inl (dA 0, 444, .inl row)), (ht, .inl (dA 3, 60, .inl txt)), (hd, .inl (dA 0, 8, .inl ((rdN txt ln cu 0 0 rd).2.2)))] := hD
          show W p l e (rmW 3 120 0 0) s m ([.ref h0]).toArray below meth c H locs 0 0 (MQ below (QW (some (.int (rRc txt ln cu q rd))) D (mW dA h0 hr hp ha hf ht hd (bif okRc txt ln cu q rd then upd (cutR row q (-5) (rdN txt ln cu 0 0 rd).2.2 cu) 3 (nI (q + 1)) else row) (bif okRc txt ln cu q rd then recP past row hs else past) aside (bif okRc txt ln cu q rd then row else bef) txt ((rcS txt ln cu rd pa).2) (bif okRc txt ln cu q rd then recH hs else hs) ias ln ((rcS txt ln cu rd pa).1)) A) ([.ref h0]).toArray s 0 0 A) (F0 m 63 ls [])
          refine lv_iload_n hx hb dX3_readCut_63 rfl (lv_at hl 2 rfl) ?_
          refine lv_aload_n hx hb dX3_readCut_64 rfl (lv_at hl 0 rfl) ?_
          refine va_get (D := D) (ci := 3) (C := RX3) (T := TX3) (N := 10) hx hb hts in_X3 hown K hP 0 rfl rfl 0 (by decide) (hts _ q1075) (fun _ h9 => h9) rfl dX3_readCut_65 ?_
          refine lv_iconst (v := nI 1) hx hb dX3_readCut_68 (by decide) ?_
          refine x_iald (v := nI cu) hx hb K hP 1 0 rfl rfl 1 rfl (by omega) (by decide) (by rw [cutR_lo (by omega)]; exact e1) dX3_readCut_69 ?_
          refine lv_icmp_ge (tgt := 101) hx hb dX3_readCut_70 (by decide) (fun _ => ?_) (fun h => absurd (nI_le (by omega) (by omega)) h)
          refine lv_aload_n hx hb dX3_readCut_101 rfl (lv_at hl 0 rfl) ?_
          refine va_get (D := D) (ci := 3) (C := RX3) (T := TX3) (N := 10) hx hb hts in_X3 hown K hP 0 rfl rfl 0 (by decide) (hts _ q1075) (fun _ h9 => h9) rfl dX3_readCut_102 ?_
          refine lv_iconst (v := nI 3) hx hb dX3_readCut_105 (by decide) ?_
          refine lv_dup2_11 hx hb dX3_readCut_106 rfl rfl ?_
          refine x_iald (v := nI q) hx hb K hP 1 0 rfl rfl 3 rfl (by omega) (by decide) (by rw [cutR_lo (by omega)]; exact e3) dX3_readCut_107 ?_
          refine lv_iconst (v := nI 1) hx hb dX3_readCut_108 (by decide) ?_
          refine x_addN hx hb dX3_readCut_109 ?_
          refine x_iast hx hb K hP hD hS 1 0 rfl rfl 3 rfl (by omega) (by decide) dX3_readCut_110 (fun H locs hP hD hS => ?_)
          have hP : va_P D vwCl [(h0, .inr (3, [.ref hr, .ref hp, .ref ha, .ref hf, .int (nI (recH hs)), .int (bI ias), .ref ht, .int (nI ln), .int (nI ((rdN txt ln cu 0 0 rd).2.1)), .ref hd])), (hr, .inl (dA 0, 444, .inl (upd (cutR row q (-5) ((rdN txt ln cu 0 0 rd).2.2) cu) 3 (nI (q + 1))))), (hp, .inl (dA 0, 1776, .inl (recP past row hs))), (ha, .inl (dA 0, 444, .inl aside)), (hf, .inl (dA 0, 444, .inl row)), (ht, .inl (dA 3, 60, .inl txt)), (hd, .inl (dA 0, 8, .inl ((rdN txt ln cu 0 0 rd).2.2)))] H := hP
          have hD : va_D A [(h0, .inr (3, [.ref hr, .ref hp, .ref ha, .ref hf, .int (nI (recH hs)), .int (bI ias), .ref ht, .int (nI ln), .int (nI ((rdN txt ln cu 0 0 rd).2.1)), .ref hd])), (hr, .inl (dA 0, 444, .inl (upd (cutR row q (-5) ((rdN txt ln cu 0 0 rd).2.2) cu) 3 (nI (q + 1))))), (hp, .inl (dA 0, 1776, .inl (recP past row hs))), (ha, .inl (dA 0, 444, .inl aside)), (hf, .inl (dA 0, 444, .inl row)), (ht, .inl (dA 3, 60, .inl txt)), (hd, .inl (dA 0, 8, .inl ((rdN txt ln cu 0 0 rd).2.2)))] := hD
          refine lv_iload_n hx hb dX3_readCut_111 rfl (lv_at hl 1 rfl) ?_
          rw [show okRc txt ln cu q rd = true from (by simp [okRc, h_1, h_2, h_3])]
          rw [show rcS txt ln cu rd pa = ((rdN txt ln cu 0 0 rd).2.1, (rdN txt ln cu 0 0 rd).2.2) from (by simp [rcS, h_1, h_2, h_3])]
          exact x_viret hx hb hrt hlk (by simp [rRc, h_1, h_2, h_3]) hP hD hS dX3_readCut_112 (Nat.le_of_ble_eq_true rfl) (Nat.le_of_ble_eq_true rfl)
      · refine lv_bipush (v := -3) hx hb dX3_readCut_40 (by decide) ?_
        rw [show okRc txt ln cu q rd = false from (by simp [okRc, h_1, h_2, h_3])]
        rw [show rcS txt ln cu rd pa = ((rdN txt ln cu 0 0 rd).2.1, (rdN txt ln cu 0 0 rd).2.2) from (by simp [rcS, h_1, h_2, h_3])]
        exact x_viret hx hb hrt hlk (by simp [rRc, h_1, h_2, h_3]) hP hD hS dX3_readCut_42 (Nat.le_of_ble_eq_true rfl) (Nat.le_of_ble_eq_true rfl)
    · refine lv_bipush (v := -100) hx hb dX3_readCut_19 (by decide) ?_
      refine lv_aload_n hx hb dX3_readCut_21 rfl (lv_at hl 0 rfl) ?_
      refine va_get (D := D) (ci := 3) (C := RX3) (T := TX3) (N := 10) hx hb hts in_X3 hown K hP 0 rfl rfl 8 (by decide) (hts _ q1083) (fun _ h9 => h9) rfl dX3_readCut_22 ?_
      refine lv_isub hx hb dX3_readCut_25 ?_
      rw [show okRc txt ln cu q rd = false from (by simp [okRc, h_1, h_2])]
      rw [show rcS txt ln cu rd pa = ((rdN txt ln cu 0 0 rd).2.1, (rdN txt ln cu 0 0 rd).2.2) from (by simp [rcS, h_1, h_2])]
      exact x_viret hx hb hrt hlk (by simp [rRc, h_1, h_2]) hP hD hS dX3_readCut_26 (Nat.le_of_ble_eq_true rfl) (Nat.le_of_ble_eq_true rfl)
  · refine lv_bipush (v := -4) hx hb dX3_readCut_9 (by decide) ?_
    rw [show okRc txt ln cu q rd = false from (by simp [okRc, h_1])]
    rw [show rcS txt ln cu rd pa = (pa, rd) from (by simp [rcS, h_1])]
    exact x_viret hx hb hrt hlk (by simp [rRc, h_1]) hP hD hS dX3_readCut_11 (Nat.le_of_ble_eq_true rfl) (Nat.le_of_ble_eq_true rfl)

set_option maxHeartbeats 4000000 in
theorem mr_count (l : Launch) (D : va_G) (dA : Nat → ClassId) (h0 hr hp ha hf ht hd : Nat) (row past aside bef txt rd : Nat → Int32) (hs : Nat) (ias : Bool) (ln pa : Nat) (x : Int32) {n cu q : Nat} (w : MWf row n cu q) (hex : ∀ s, s < 7 → ∃ x, x < 128 ∧ row (77 + s) = nI x) : RO l yX3_count cX3_count 2 (some .int) 2 80 [.ref h0, .int x] (KA D dA) (fun H => va_P D vwCl (mW dA h0 hr hp ha hf ht hd row past aside bef txt rd hs ias ln pa) H) (some (.int (rCount row n q (nI hs) (nI ln) x))) := by
  refine ro_of (by decide) (Nat.le_of_ble_eq_true rfl) ?_
  intro p e s m below meth c S hrt hlk K hP ls hl
  obtain ⟨hx, hb, hml, hown, hts⟩ := id S
  have hP : va_P D vwCl [(h0, .inr (3, [.ref hr, .ref hp, .ref ha, .ref hf, .int (nI hs), .int (bI ias), .ref ht, .int (nI ln), .int (nI pa), .ref hd])), (hr, .inl (dA 0, 444, .inl row)), (hp, .inl (dA 0, 1776, .inl past)), (ha, .inl (dA 0, 444, .inl aside)), (hf, .inl (dA 0, 444, .inl bef)), (ht, .inl (dA 3, 60, .inl txt)), (hd, .inl (dA 0, 8, .inl rd))] s.heap := hP
  obtain ⟨e0, hn, e1, hcu, e3, hq, hray⟩ := id w
  have hl : lv_has ls 2 [(0, .ref h0), (1, .int x)] := hl
  refine lv_iload_n hx hb dX3_count_0 rfl (lv_at hl 1 rfl) ?_
  rcases sw10 x with h_1 | rfl | rfl | rfl | rfl | rfl | rfl | rfl | rfl | rfl | rfl
  · refine lv_tableOut (tgt := 116) hx hb dX3_count_1 (sw_out (N := 10) rfl h_1) (by decide) ?_
    refine lv_bipush (v := -2) hx hb dX3_count_116 (by decide) ?_
    exact x_iret hx hb hrt hlk (by simp (decide := true) [rCount, h_1, h_1]) dX3_count_118
  · refine lv_tableIn (tgt := 56) hx hb dX3_count_1 (by decide) (by decide) rfl (by decide) ?_
    refine lv_aload_n hx hb dX3_count_56 rfl (lv_at hl 0 rfl) ?_
    refine va_get (D := D) (ci := 3) (C := RX3) (T := TX3) (N := 10) hx hb hts in_X3 hown K hP 0 rfl rfl 0 (by decide) (hts _ q1075) (fun _ h9 => h9) rfl dX3_count_57 ?_
    refine lv_iconst (v := nI 0) hx hb dX3_count_60 (by decide) ?_
    refine x_iald hx hb K hP 1 0 rfl rfl 0 rfl (by omega) (by decide) rfl dX3_count_61 ?_
    exact x_iret hx hb hrt hlk (by simp (decide := true) [rCount]) dX3_count_62
  · refine lv_tableIn (tgt := 63) hx hb dX3_count_1 (by decide) (by decide) rfl (by decide) ?_
    refine lv_aload_n hx hb dX3_count_63 rfl (lv_at hl 0 rfl) ?_
    refine va_get (D := D) (ci := 3) (C := RX3) (T := TX3) (N := 10) hx hb hts in_X3 hown K hP 0 rfl rfl 0 (by decide) (hts _ q1075) (fun _ h9 => h9) rfl dX3_count_64 ?_
    refine lv_iconst (v := nI 1) hx hb dX3_count_67 (by decide) ?_
    refine x_iald hx hb K hP 1 0 rfl rfl 1 rfl (by omega) (by decide) rfl dX3_count_68 ?_
    exact x_iret hx hb hrt hlk (by simp (decide := true) [rCount]) dX3_count_69
  · refine lv_tableIn (tgt := 70) hx hb dX3_count_1 (by decide) (by decide) rfl (by decide) ?_
    refine lv_aload_n hx hb dX3_count_70 rfl (lv_at hl 0 rfl) ?_
    refine x_ret (va_runV (As := []) (rest := []) S (mr_allRoutes l D dA h0 hr [.ref hp, .ref ha, .ref hf, .int (nI hs), .int (bI ias), .ref ht, .int (nI ln), .int (nI pa), .ref hd] row w) (cwV 0 hts (lw_V q1348 q1350 qs55 q69 q1351) rfl rfl rfl hdX3_allRoutes ⟨Nat.le_of_ble_eq_true rfl, Nat.le_of_ble_eq_true rfl⟩) ⟨bb_blind ka_bl _, va_recv K hP (ci := 3) (q0 := 0) rfl rfl, ka_pre K (hP.sub [0, 1] rfl) _⟩ rfl rfl hl.1 rfl (lv_room (Nat.le_of_ble_eq_true rfl)) dX3_count_71 ⟨Nat.le_refl _, Nat.le_refl _⟩) ?_
    exact x_iret hx hb hrt hlk (by simp (decide := true) [rCount]) dX3_count_74
  · refine lv_tableIn (tgt := 75) hx hb dX3_count_1 (by decide) (by decide) rfl (by decide) ?_
    refine lv_aload_n hx hb dX3_count_75 rfl (lv_at hl 0 rfl) ?_
    refine va_get (D := D) (ci := 3) (C := RX3) (T := TX3) (N := 10) hx hb hts in_X3 hown K hP 0 rfl rfl 0 (by decide) (hts _ q1075) (fun _ h9 => h9) rfl dX3_count_76 ?_
    refine lv_iconst (v := nI 2) hx hb dX3_count_79 (by decide) ?_
    refine x_iald hx hb K hP 1 0 rfl rfl 2 rfl (by omega) (by decide) rfl dX3_count_80 ?_
    exact x_iret hx hb hrt hlk (by simp (decide := true) [rCount]) dX3_count_81
  · refine lv_tableIn (tgt := 82) hx hb dX3_count_1 (by decide) (by decide) rfl (by decide) ?_
    refine lv_aload_n hx hb dX3_count_82 rfl (lv_at hl 0 rfl) ?_
    refine x_ret (va_runV (As := []) (rest := []) S (mr_pairs l D dA h0 hr [.ref hp, .ref ha, .ref hf, .int (nI hs), .int (bI ias), .ref ht, .int (nI ln), .int (nI pa), .ref hd] row w hex) (cwV 0 hts (lw_V q1352 q1354 qs56 q69 q1355) rfl rfl rfl hdX3_pairs ⟨Nat.le_of_ble_eq_true rfl, Nat.le_of_ble_eq_true rfl⟩) ⟨bb_blind ka_bl _, va_recv K hP (ci := 3) (q0 := 0) rfl rfl, ka_pre K (hP.sub [0, 1] rfl) _⟩ rfl rfl hl.1 rfl (lv_room (Nat.le_of_ble_eq_true rfl)) dX3_count_83 ⟨Nat.le_refl _, Nat.le_refl _⟩) ?_
    exact x_iret hx hb hrt hlk (by simp (decide := true) [rCount]) dX3_count_86
  · refine lv_tableIn (tgt := 87) hx hb dX3_count_1 (by decide) (by decide) rfl (by decide) ?_
    refine lv_aload_n hx hb dX3_count_87 rfl (lv_at hl 0 rfl) ?_
    refine va_get (D := D) (ci := 3) (C := RX3) (T := TX3) (N := 10) hx hb hts in_X3 hown K hP 0 rfl rfl 0 (by decide) (hts _ q1075) (fun _ h9 => h9) rfl dX3_count_88 ?_
    refine lv_iconst (v := nI 3) hx hb dX3_count_91 (by decide) ?_
    refine x_iald hx hb K hP 1 0 rfl rfl 3 rfl (by omega) (by decide) rfl dX3_count_92 ?_
    exact x_iret hx hb hrt hlk (by simp (decide := true) [rCount]) dX3_count_93
  · refine lv_tableIn (tgt := 94) hx hb dX3_count_1 (by decide) (by decide) rfl (by decide) ?_
    refine lv_aload_n hx hb dX3_count_94 rfl (lv_at hl 0 rfl) ?_
    refine x_ret (va_runV (As := []) (rest := []) S (mr_rays l D dA h0 hr [.ref hp, .ref ha, .ref hf, .int (nI hs), .int (bI ias), .ref ht, .int (nI ln), .int (nI pa), .ref hd] row w) (cwV 0 hts (lw_V q1356 q1358 qs57 q69 q1359) rfl rfl rfl hdX3_rays ⟨Nat.le_of_ble_eq_true rfl, Nat.le_of_ble_eq_true rfl⟩) ⟨bb_blind ka_bl _, va_recv K hP (ci := 3) (q0 := 0) rfl rfl, ka_pre K (hP.sub [0, 1] rfl) _⟩ rfl rfl hl.1 rfl (lv_room (Nat.le_of_ble_eq_true rfl)) dX3_count_95 ⟨Nat.le_refl _, Nat.le_refl _⟩) ?_
    exact x_iret hx hb hrt hlk (by simp (decide := true) [rCount]) dX3_count_98
  · refine lv_tableIn (tgt := 99) hx hb dX3_count_1 (by decide) (by decide) rfl (by decide) ?_
    refine lv_aload_n hx hb dX3_count_99 rfl (lv_at hl 0 rfl) ?_
    refine va_get (D := D) (ci := 3) (C := RX3) (T := TX3) (N := 10) hx hb hts in_X3 hown K hP 0 rfl rfl 0 (by decide) (hts _ q1075) (fun _ h9 => h9) rfl dX3_count_100 ?_
    refine lv_iconst (v := nI 5) hx hb dX3_count_103 (by decide) ?_
    refine x_iald hx hb K hP 1 0 rfl rfl 5 rfl (by omega) (by decide) rfl dX3_count_104 ?_
    exact x_iret hx hb hrt hlk (by simp (decide := true) [rCount]) dX3_count_105
  · refine lv_tableIn (tgt := 106) hx hb dX3_count_1 (by decide) (by decide) rfl (by decide) ?_
    refine lv_aload_n hx hb dX3_count_106 rfl (lv_at hl 0 rfl) ?_
    refine va_get (D := D) (ci := 3) (C := RX3) (T := TX3) (N := 10) hx hb hts in_X3 hown K hP 0 rfl rfl 4 (by decide) (hts _ q1079) (fun _ h9 => h9) rfl dX3_count_107 ?_
    exact x_iret hx hb hrt hlk (by simp (decide := true) [rCount]) dX3_count_110
  · refine lv_tableIn (tgt := 111) hx hb dX3_count_1 (by decide) (by decide) rfl (by decide) ?_
    refine lv_aload_n hx hb dX3_count_111 rfl (lv_at hl 0 rfl) ?_
    refine va_get (D := D) (ci := 3) (C := RX3) (T := TX3) (N := 10) hx hb hts in_X3 hown K hP 0 rfl rfl 7 (by decide) (hts _ q1082) (fun _ h9 => h9) rfl dX3_count_112 ?_
    exact x_iret hx hb hrt hlk (by simp (decide := true) [rCount]) dX3_count_115

