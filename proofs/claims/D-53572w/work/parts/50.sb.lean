theorem sub_le0 {a b : Nat} (h : a ≤ b) (hb : b < 2 ^ 31) : nI a - nI b ≤ 0 := by
  rw [Int32.le_iff_toInt_le]
  have e : (nI a - nI b).toInt = (a : Int) - b := by
    rw [Int32.toInt_sub, nI_toInt (by omega), nI_toInt hb]
    exact Int.bmod_eq_of_le (by omega) (by omega)
  rw [e]
  show (a : Int) - b ≤ 0
  omega
/-- a text: its coder, its row's address, its room in chars, its bytes -/
abbrev TU : Type := Bool × Nat × Nat × (Nat → Int32)
abbrev tW (dA : Nat → ClassId) (tb : Nat) (u : TU) (mb : Int32) (ln : Nat) : va_W := [(tb, .inr (10, [.ref u.2.1, .int (nI (bif u.1 then 1 else 0)), .int mb, .int (nI ln)])), (u.2.1, .inl (dA 2, (bif u.1 then 2 * u.2.2.1 else u.2.2.1), .inl u.2.2.2))]
def TxOk (u : TU) (ch : Nat → Nat) (ln : Nat) : Prop := (0 < u.2.2.1 ∧ u.2.2.1 ≤ 200) ∧ ln ≤ u.2.2.1 ∧ (u.1 = false → Tx0 u.2.2.2 ch ln) ∧ (u.1 = true → Tx1 u.2.2.2 ch ln)
theorem tx0_cpy {bt : Nat → Int32} {ch : Nat → Nat} {ln n : Nat} (h : Tx0 bt ch ln) (hn : ln ≤ n) : Tx0 (va_cpy bt (fun _ => 0) 0 0 n) ch ln :=
  ⟨byOk_cpy h.1 byOk_0 n, fun i hi => by rw [cpyB_in (by omega)]; exact h.2 i hi⟩
theorem tx1_cpy {bt : Nat → Int32} {ch : Nat → Nat} {ln n : Nat} (h : Tx1 bt ch ln) (hn : 2 * ln ≤ n) : Tx1 (va_cpy bt (fun _ => 0) 0 0 n) ch ln :=
  ⟨byOk_cpy h.1 byOk_0 n, fun i hi => by rw [cpyB_in (by omega), cpyB_in (by omega)]; exact h.2 i hi⟩

set_option maxHeartbeats 4000000 in
theorem xt_pci (l : Launch) (k0 ct : Nat) (fo : Option Nat) (hk0 : k0 < ct) (hct : ct < 2 ^ 31) : RO l yJ11_checkIndex cJ11_checkIndex 3 (some .int) 0 0 [.int (nI k0), .int (nI ct), va_rf fo] (fun _ => True) (fun _ => True) (some (.int (nI k0))) := by
  refine ro_of (by decide) (by cases fo <;> exact Nat.le_of_ble_eq_true rfl) ?_
  intro p e s m below meth c S hrt hlk G hP ls hl
  obtain ⟨hx, hb, hml, hown, hts⟩ := id S
  have hl : lv_has ls 3 [(0, .int (nI k0)), (1, .int (nI ct)), (2, va_rf fo)] := hl
  refine lv_iload_n hx hb dJ11_checkIndex_0 rfl (lv_at hl 0 rfl) ?_
  refine lv_if_lt (tgt := 9) hx hb dJ11_checkIndex_1 (by decide) (fun h => absurd h (nI_pos (n := k0) (by omega))) (fun _ => ?_)
  refine lv_iload_n hx hb dJ11_checkIndex_4 rfl (lv_at hl 0 rfl) ?_
  refine lv_iload_n hx hb dJ11_checkIndex_5 rfl (lv_at hl 1 rfl) ?_
  refine lv_icmp_lt (tgt := 16) hx hb dJ11_checkIndex_6 (by decide) (fun _ => ?_) (fun h => absurd (nI_lt (by omega) (by omega)) h)
  refine lv_iload_n hx hb dJ11_checkIndex_16 rfl (lv_at hl 0 rfl) ?_
  exact x_iret hx hb hrt hlk rfl dJ11_checkIndex_17

set_option maxHeartbeats 4000000 in
theorem xt_ci (l : Launch) (D : va_G) (dA : Nat → ClassId) (E : Nat) (ad : Nat → Nat) (sz0 mi : Nat) (k0 ct : Nat) (hk0 : k0 < ct) (hct : ct < 2 ^ 31) : RO l yJ5_checkIndex cJ5_checkIndex 2 none 1 40 [.int (nI k0), .int (nI ct)] (G1 D dA E ad sz0 mi) (fun _ => True) none := by
  refine ro_of (by decide) (Nat.le_of_ble_eq_true rfl) ?_
  intro p e s m below meth c S hrt hlk G hP ls hl
  obtain ⟨hx, hb, hml, hown, hts⟩ := id S
  have K := G.1.1
  obtain ⟨fo, hfo⟩ := G.1.2.2.2.2.1.2.2.2.2.2.2.2.1
  have hl : lv_has ls 2 [(0, .int (nI k0)), (1, .int (nI ct))] := hl
  refine lv_iload_n hx hb dJ5_checkIndex_0 rfl (lv_at hl 0 rfl) ?_
  refine lv_iload_n hx hb dJ5_checkIndex_1 rfl (lv_at hl 1 rfl) ?_
  refine va_gets (A := fun q => sz0 ≤ q) hx hb hfo va_S.rf hown (hts _ q701) (fun _ h9 => h9) dJ5_checkIndex_2 ?_
  refine x_ret (va_runS (As := [.int (nI k0), .int (nI ct), va_rf fo]) (rest := []) S (xt_pci l k0 ct fo (by omega) (by omega)) (va_cwS 3 hts (lw_S q703 q369 q75 q370) rfl rfl rfl hdJ11_checkIndex ⟨Nat.le_of_ble_eq_true rfl, Nat.le_of_ble_eq_true rfl⟩) ⟨bb_blind tt_bl _, tt_pre _⟩ rfl rfl hl.1 rfl (lv_room (Nat.le_of_ble_eq_true rfl)) dJ5_checkIndex_5 ⟨Nat.le_refl _, Nat.le_refl _⟩) ?_
  refine lv_pop hx hb dJ5_checkIndex_8 rfl ?_
  exact x_rvret hx hb hrt hlk dJ5_checkIndex_9

set_option maxHeartbeats 4000000 in
theorem xt_pcf (l : Launch) (k0 ct : Nat) (fo : Option Nat) (hk0 : k0 ≤ ct) (hct : ct < 2 ^ 31) : RO l yJ11_checkFromIndexSize cJ11_checkFromIndexSize 4 (some .int) 0 0 [.int (nI 0), .int (nI k0), .int (nI ct), va_rf fo] (fun _ => True) (fun _ => True) (some (.int (nI 0))) := by
  refine ro_of (by decide) (by cases fo <;> exact Nat.le_of_ble_eq_true rfl) ?_
  intro p e s m below meth c S hrt hlk G hP ls hl
  obtain ⟨hx, hb, hml, hown, hts⟩ := id S
  have hl : lv_has ls 4 [(0, .int (nI 0)), (1, .int (nI k0)), (2, .int (nI ct)), (3, va_rf fo)] := hl
  refine lv_iload_n hx hb dJ11_checkFromIndexSize_0 rfl (lv_at hl 2 rfl) ?_
  refine lv_iload_n hx hb dJ11_checkFromIndexSize_1 rfl (lv_at hl 0 rfl) ?_
  refine lv_ior hx hb dJ11_checkFromIndexSize_2 ?_
  refine x_top (y := nI (ct ||| 0)) (nx_or _ _) ?_
  refine lv_iload_n hx hb dJ11_checkFromIndexSize_3 rfl (lv_at hl 1 rfl) ?_
  refine lv_ior hx hb dJ11_checkFromIndexSize_4 ?_
  refine x_top (y := nI (ct ||| 0 ||| k0)) (nx_or _ _) ?_
  refine lv_if_lt (tgt := 15) hx hb dJ11_checkFromIndexSize_5 (by decide) (fun h => absurd h (nI_pos (Nat.or_lt_two_pow (Nat.or_lt_two_pow hct (by decide)) (by omega)))) (fun _ => ?_)
  refine lv_iload_n hx hb dJ11_checkFromIndexSize_8 rfl (lv_at hl 1 rfl) ?_
  refine lv_iload_n hx hb dJ11_checkFromIndexSize_9 rfl (lv_at hl 2 rfl) ?_
  refine lv_iload_n hx hb dJ11_checkFromIndexSize_10 rfl (lv_at hl 0 rfl) ?_
  refine lv_isub hx hb dJ11_checkFromIndexSize_11 ?_
  refine x_top (y := nI (ct - 0)) (sub_nI (by omega)) ?_
  refine x_icmpn_le (tgt := 23) hx hb dJ11_checkFromIndexSize_12 (by decide) (by omega) (by omega) (fun h => ?_) (fun h => absurd h (by omega))
  refine lv_iload_n hx hb dJ11_checkFromIndexSize_23 rfl (lv_at hl 0 rfl) ?_
  exact x_iret hx hb hrt hlk rfl dJ11_checkFromIndexSize_24

set_option maxHeartbeats 4000000 in
theorem xt_nbl (l : Launch) (k0 : Nat) (hk0 : k0 < 2 ^ 20) : RO l yJ6_newBytesLength cJ6_newBytesLength 1 (some .int) 0 0 [.int (nI k0)] (fun _ => True) (fun _ => True) (some (.int (nI (2 * k0)))) := by
  refine ro_of (by decide) (Nat.le_of_ble_eq_true rfl) ?_
  intro p e s m below meth c S hrt hlk G hP ls hl
  obtain ⟨hx, hb, hml, hown, hts⟩ := id S
  have hl : lv_has ls 1 [(0, .int (nI k0))] := hl
  refine lv_iload_n hx hb dJ6_newBytesLength_0 rfl (lv_at hl 0 rfl) ?_
  refine lv_if_ge (tgt := 12) hx hb dJ6_newBytesLength_1 (by decide) (fun _ => ?_) (fun h => absurd (nI_pos' (n := k0) (by omega)) h)
  refine lv_iload_n hx hb dJ6_newBytesLength_12 rfl (lv_at hl 0 rfl) ?_
  refine lv_ldc (v := 1073741823) hx hb hown (hts _ q207) dJ6_newBytesLength_13 ?_
  refine x_top (y := nI 1073741823) rfl ?_
  refine lv_icmp_lt (tgt := 55) hx hb dJ6_newBytesLength_15 (by decide) (fun _ => ?_) (fun h => absurd (nI_lt (by omega) (by omega)) h)
  refine lv_iload_n hx hb dJ6_newBytesLength_55 rfl (lv_at hl 0 rfl) ?_
  refine lv_iconst (v := nI 1) hx hb dJ6_newBytesLength_56 (by decide) ?_
  refine lv_ishl hx hb dJ6_newBytesLength_57 ?_
  refine x_top (y := nI (2 * k0)) (by rw [nx_shlN (by decide) (by omega), Nat.pow_one, Nat.mul_comm]) ?_
  exact x_iret hx hb hrt hlk rfl dJ6_newBytesLength_58

set_option maxHeartbeats 4000000 in
theorem xt_can (l : Launch) (x0 : Nat) (hx0 : x0 < 65536) : RO l yJ16_canEncode cJ16_canEncode 1 (some .boolean) 0 0 [.int (nI x0)] (fun _ => True) (fun _ => True) (some (.int (bI (decide (x0 < 256))))) := by
  refine ro_of (by decide) (Nat.le_of_ble_eq_true rfl) ?_
  intro p e s m below meth c S hrt hlk G hP ls hl
  obtain ⟨hx, hb, hml, hown, hts⟩ := id S
  have hl : lv_has ls 1 [(0, .int (nI x0))] := hl
  refine lv_iload_n hx hb dJ16_canEncode_0 rfl (lv_at hl 0 rfl) ?_
  refine lv_sipush (v := nI 255) hx hb dJ16_canEncode_1 (by decide) ?_
  refine lv_icmp_gt (tgt := 11) hx hb dJ16_canEncode_4 (by decide) (fun h_1 => ?_) (fun h_1 => ?_)
  · refine lv_iconst (v := nI 0) hx hb dJ16_canEncode_11 (by decide) ?_
    exact x_zret hx hb hrt hlk (by rw [decide_eq_false (fun h9 => absurd h_1 (nI_nlt (by omega) (by omega)))]; rfl) dJ16_canEncode_12
  · refine lv_iconst (v := nI 1) hx hb dJ16_canEncode_7 (by decide) ?_
    refine lv_goto (tgt := 12) hx hb dJ16_canEncode_8 (by decide) ?_
    exact x_zret hx hb hrt hlk (by rw [decide_eq_true (Nat.lt_of_not_le (fun h9 => h_1 (nI_lt (by omega) (by omega))))]; rfl) dJ16_canEncode_12

set_option maxHeartbeats 4000000 in
theorem xt_ul (l : Launch) (D : va_G) (dA : Nat → ClassId) (E : Nat) (ad : Nat → Nat) (sz0 mi : Nat) (tv cp : Nat) (bt : Nat → Int32) (hcp : cp < 2 ^ 20) : RO l yJ6_length cJ6_length 1 (some .int) 0 0 [.ref tv] (G1 D dA E ad sz0 mi) (fun H => va_P D vwCl [(tv, .inl (dA 2, cp, .inl bt))] H) (some (.int (nI (cp / 2)))) := by
  refine ro_of (by decide) (Nat.le_of_ble_eq_true rfl) ?_
  intro p e s m below meth c S hrt hlk G hP ls hl
  obtain ⟨hx, hb, hml, hown, hts⟩ := id S
  have hP : va_P D vwCl [(tv, .inl (dA 2, cp, .inl bt))] s.heap := hP
  have K := G.1.1
  have hl : lv_has ls 1 [(0, .ref tv)] := hl
  refine lv_aload_n hx hb dJ6_length_0 rfl (lv_at hl 0 rfl) ?_
  refine va_alen (v := nI cp) hx hb K hP 0 2 rfl rfl rfl dJ6_length_1 ?_
  refine lv_iconst (v := nI 1) hx hb dJ6_length_2 (by decide) ?_
  refine lv_ishr hx hb dJ6_length_3 ?_
  refine x_top (y := nI (cp / 2)) (by rw [nx_shr (by omega) (by decide), Nat.pow_one]) ?_
  exact x_iret hx hb hrt hlk rfl dJ6_length_4

set_option maxHeartbeats 4000000 in
theorem xt_cb (l : Launch) (D : va_G) (dA : Nat → ClassId) (E : Nat) (ad : Nat → Nat) (sz0 mi : Nat) (k0 ct : Nat) (hk0 : k0 ≤ ct) (hct : ct < 2 ^ 31) : RO l yJ5_checkBoundsOffCount cJ5_checkBoundsOffCount 3 (some .int) 1 40 [.int (nI 0), .int (nI k0), .int (nI ct)] (G1 D dA E ad sz0 mi) (fun _ => True) (some (.int (nI 0))) := by
  refine ro_of (by decide) (Nat.le_of_ble_eq_true rfl) ?_
  intro p e s m below meth c S hrt hlk G hP ls hl
  obtain ⟨hx, hb, hml, hown, hts⟩ := id S
  have K := G.1.1
  obtain ⟨fo, hfo⟩ := G.1.2.2.2.2.1.2.2.2.2.2.2.2.1
  have hl : lv_has ls 3 [(0, .int (nI 0)), (1, .int (nI k0)), (2, .int (nI ct))] := hl
  refine lv_iload_n hx hb dJ5_checkBoundsOffCount_0 rfl (lv_at hl 0 rfl) ?_
  refine lv_iload_n hx hb dJ5_checkBoundsOffCount_1 rfl (lv_at hl 1 rfl) ?_
  refine lv_iload_n hx hb dJ5_checkBoundsOffCount_2 rfl (lv_at hl 2 rfl) ?_
  refine va_gets (A := fun q => sz0 ≤ q) hx hb hfo va_S.rf hown (hts _ q701) (fun _ h9 => h9) dJ5_checkBoundsOffCount_3 ?_
  refine x_ret (va_runS (As := [.int (nI 0), .int (nI k0), .int (nI ct), va_rf fo]) (rest := []) S (xt_pcf l k0 ct fo (by omega) (by omega)) (va_cwS 4 hts (lw_S q869 q870 q75 q871) rfl rfl rfl hdJ11_checkFromIndexSize ⟨Nat.le_of_ble_eq_true rfl, Nat.le_of_ble_eq_true rfl⟩) ⟨bb_blind tt_bl _, tt_pre _⟩ rfl rfl hl.1 rfl (lv_room (Nat.le_of_ble_eq_true rfl)) dJ5_checkBoundsOffCount_6 ⟨Nat.le_refl _, Nat.le_refl _⟩) ?_
  exact x_iret hx hb hrt hlk rfl dJ5_checkBoundsOffCount_9

set_option maxHeartbeats 4000000 in
theorem xt_ucb (l : Launch) (D : va_G) (dA : Nat → ClassId) (E : Nat) (ad : Nat → Nat) (sz0 mi : Nat) (tv cp : Nat) (bt : Nat → Int32) (hcp : cp < 2 ^ 20) (k0 : Nat) (hk0 : 2 * k0 ≤ cp) : RO l yJ6_checkBoundsOffCount cJ6_checkBoundsOffCount 3 none 2 80 [.int (nI 0), .int (nI k0), .ref tv] (G1 D dA E ad sz0 mi) (fun H => va_P D vwCl [(tv, .inl (dA 2, cp, .inl bt))] H) none := by
  refine ro_of (by decide) (Nat.le_of_ble_eq_true rfl) ?_
  intro p e s m below meth c S hrt hlk G hP ls hl
  obtain ⟨hx, hb, hml, hown, hts⟩ := id S
  have hP : va_P D vwCl [(tv, .inl (dA 2, cp, .inl bt))] s.heap := hP
  have K := G.1.1
  have hl : lv_has ls 3 [(0, .int (nI 0)), (1, .int (nI k0)), (2, .ref tv)] := hl
  refine lv_iload_n hx hb dJ6_checkBoundsOffCount_0 rfl (lv_at hl 0 rfl) ?_
  refine lv_iload_n hx hb dJ6_checkBoundsOffCount_1 rfl (lv_at hl 1 rfl) ?_
  refine lv_aload_n hx hb dJ6_checkBoundsOffCount_2 rfl (lv_at hl 2 rfl) ?_
  refine x_ret (va_runS (As := [.ref tv]) (rest := [.int (nI k0), .int (nI 0)]) S (xt_ul l D dA E ad sz0 mi tv cp bt (by omega)) (va_cwS 1 hts (lw_S q709 q710 q68 q711) rfl rfl rfl hdJ6_length ⟨Nat.le_of_ble_eq_true rfl, Nat.le_of_ble_eq_true rfl⟩) ⟨bb_blind g1_bl _, bb_pre (g1_mv G (fun _ _ => rfl) (Nat.le_refl _)) hP _⟩ rfl rfl hl.1 rfl (lv_room (Nat.le_of_ble_eq_true rfl)) dJ6_checkBoundsOffCount_3 ⟨Nat.le_refl _, Nat.le_refl _⟩) ?_
  refine x_ret (va_runS (As := [.int (nI 0), .int (nI k0), .int (nI (cp / 2))]) (rest := []) S (xt_cb l D dA E ad sz0 mi k0 (cp / 2) (by omega) (by omega)) (va_cwS 3 hts (lw_S q866 q867 q67 q868) rfl rfl rfl hdJ5_checkBoundsOffCount ⟨Nat.le_of_ble_eq_true rfl, Nat.le_of_ble_eq_true rfl⟩) ⟨bb_blind g1_bl _, bb_pre (g1_mv G (fun _ _ => rfl) (Nat.le_refl _)) trivial _⟩ rfl rfl hl.1 rfl (lv_room (Nat.le_of_ble_eq_true rfl)) dJ6_checkBoundsOffCount_6 ⟨Nat.le_refl _, Nat.le_refl _⟩) ?_
  refine lv_pop hx hb dJ6_checkBoundsOffCount_9 rfl ?_
  exact x_rvret hx hb hrt hlk dJ6_checkBoundsOffCount_10

set_option maxHeartbeats 4000000 in
theorem xt_uci (l : Launch) (D : va_G) (dA : Nat → ClassId) (E : Nat) (ad : Nat → Nat) (sz0 mi : Nat) (tv cp : Nat) (bt : Nat → Int32) (hcp : cp < 2 ^ 20) (k0 : Nat) (hk0 : 2 * k0 + 1 < cp) : RO l yJ6_checkIndex cJ6_checkIndex 2 none 2 80 [.int (nI k0), .ref tv] (G1 D dA E ad sz0 mi) (fun H => va_P D vwCl [(tv, .inl (dA 2, cp, .inl bt))] H) none := by
  refine ro_of (by decide) (Nat.le_of_ble_eq_true rfl) ?_
  intro p e s m below meth c S hrt hlk G hP ls hl
  obtain ⟨hx, hb, hml, hown, hts⟩ := id S
  have hP : va_P D vwCl [(tv, .inl (dA 2, cp, .inl bt))] s.heap := hP
  have K := G.1.1
  have hl : lv_has ls 2 [(0, .int (nI k0)), (1, .ref tv)] := hl
  refine lv_iload_n hx hb dJ6_checkIndex_0 rfl (lv_at hl 0 rfl) ?_
  refine lv_aload_n hx hb dJ6_checkIndex_1 rfl (lv_at hl 1 rfl) ?_
  refine x_ret (va_runS (As := [.ref tv]) (rest := [.int (nI k0)]) S (xt_ul l D dA E ad sz0 mi tv cp bt (by omega)) (va_cwS 1 hts (lw_S q709 q710 q68 q711) rfl rfl rfl hdJ6_length ⟨Nat.le_of_ble_eq_true rfl, Nat.le_of_ble_eq_true rfl⟩) ⟨bb_blind g1_bl _, bb_pre (g1_mv G (fun _ _ => rfl) (Nat.le_refl _)) hP _⟩ rfl rfl hl.1 rfl (lv_room (Nat.le_of_ble_eq_true rfl)) dJ6_checkIndex_2 ⟨Nat.le_refl _, Nat.le_refl _⟩) ?_
  refine x_retv (va_runS (As := [.int (nI k0), .int (nI (cp / 2))]) (rest := []) S (xt_ci l D dA E ad sz0 mi k0 (cp / 2) (by omega) (by omega)) (va_cwS 2 hts (lw_S q881 q699 q67 q700) rfl rfl rfl hdJ5_checkIndex ⟨Nat.le_of_ble_eq_true rfl, Nat.le_of_ble_eq_true rfl⟩) ⟨bb_blind g1_bl _, bb_pre (g1_mv G (fun _ _ => rfl) (Nat.le_refl _)) trivial _⟩ rfl rfl hl.1 rfl (lv_room (Nat.le_of_ble_eq_true rfl)) dJ6_checkIndex_5 ⟨Nat.le_refl _, Nat.le_refl _⟩) ?_
  exact x_rvret hx hb hrt hlk dJ6_checkIndex_8

set_option maxHeartbeats 4000000 in
theorem xt_gc (l : Launch) (D : va_G) (dA : Nat → ClassId) (E : Nat) (ad : Nat → Nat) (sz0 mi : Nat) (tv cp : Nat) (bt : Nat → Int32) (hcp : cp < 2 ^ 20) (k0 x0 : Nat) (hk0 : 2 * k0 + 1 < cp) (hx0 : x0 < 65536) (hb0 : bt (2 * k0) = sb (x0 % 256)) (hb1 : bt (2 * k0 + 1) = sb (x0 / 256)) : RO l yJ6_getChar cJ6_getChar 2 (some .char) 0 0 [.ref tv, .int (nI k0)] (G1 D dA E ad sz0 mi) (fun H => va_P D vwCl [(tv, .inl (dA 2, cp, .inl bt))] H) (some (.int (nI x0))) := by
  refine ro_of (by decide) (Nat.le_of_ble_eq_true rfl) ?_
  intro p e s m below meth c S hrt hlk G hP ls hl
  obtain ⟨hx, hb, hml, hown, hts⟩ := id S
  have hP : va_P D vwCl [(tv, .inl (dA 2, cp, .inl bt))] s.heap := hP
  have K := G.1.1
  have hl : lv_has ls 2 [(0, .ref tv), (1, .int (nI k0))] := hl
  refine va_gets (A := fun q => sz0 ≤ q) hx hb G.1.2.2.2.2.1.2.2.2.2.2.2.1 va_S.rf hown (hts _ q707) (fun _ h9 => h9) dJ6_getChar_0 ?_
  refine x_top (y := nI 1) rfl ?_
  refine lv_if_ne (tgt := 28) hx hb dJ6_getChar_3 (by decide) (fun _ => ?_) (fun h => absurd h (by decide))
  refine lv_iload_n hx hb dJ6_getChar_28 rfl (lv_at hl 1 rfl) ?_
  refine lv_iconst (v := nI 1) hx hb dJ6_getChar_29 (by decide) ?_
  refine lv_ishl hx hb dJ6_getChar_30 ?_
  refine x_top (y := nI (2 * k0)) (by rw [nx_shlN (by decide) (by omega), Nat.pow_one, Nat.mul_comm]) ?_
  refine lv_istore_n (lv' := [(1, .int (nI (2 * k0))), (0, .ref tv)]) hx hb dJ6_getChar_31 rfl hl (by decide) rfl (fun ls hl => ?_)
  refine lv_aload_n hx hb dJ6_getChar_32 rfl (lv_at hl 1 rfl) ?_
  refine lv_iload_n hx hb dJ6_getChar_33 rfl (lv_at hl 0 rfl) ?_
  refine lv_iinc (v := nI ((2 * k0) + 1)) (lv' := [(1, .int (nI ((2 * k0) + 1))), (0, .ref tv)]) hx hb dJ6_getChar_34 hl (k := 0) rfl (nI_1 (2 * k0)) (by decide) rfl (fun ls hl => ?_)
  refine x_bald (v := sb (x0 % 256)) hx hb K hP 0 rfl (2 * k0) rfl (by omega) (by omega) hb0 dJ6_getChar_37 ?_
  refine lv_sipush (v := nI 255) hx hb dJ6_getChar_38 (by decide) ?_
  refine lv_iand hx hb dJ6_getChar_41 ?_
  refine va_gets (A := fun q => sz0 ≤ q) hx hb G.1.2.2.2.2.1.2.2.2.2.1 va_S.rf hown (hts _ q712) (fun _ h9 => h9) dJ6_getChar_42 ?_
  refine x_top (y := nI 0) rfl ?_
  refine lv_ishl hx hb dJ6_getChar_45 ?_
  refine lv_aload_n hx hb dJ6_getChar_46 rfl (lv_at hl 1 rfl) ?_
  refine lv_iload_n hx hb dJ6_getChar_47 rfl (lv_at hl 0 rfl) ?_
  refine x_bald (v := sb (x0 / 256)) hx hb K hP 0 rfl ((2 * k0) + 1) rfl (by omega) (by omega) hb1 dJ6_getChar_48 ?_
  refine lv_sipush (v := nI 255) hx hb dJ6_getChar_49 (by decide) ?_
  refine lv_iand hx hb dJ6_getChar_52 ?_
  refine va_gets (A := fun q => sz0 ≤ q) hx hb G.1.2.2.2.2.1.2.2.2.2.2.1 va_S.rf hown (hts _ q714) (fun _ h9 => h9) dJ6_getChar_53 ?_
  refine x_top (y := nI 8) rfl ?_
  refine lv_ishl hx hb dJ6_getChar_56 ?_
  refine lv_ior hx hb dJ6_getChar_57 ?_
  refine lv_i2c (v := nI x0) hx hb dJ6_getChar_58 (by rw [ch_u hx0]; exact c_i2c hx0) ?_
  exact x_cret hx hb hrt hlk rfl (c_nar hx0) dJ6_getChar_59

set_option maxHeartbeats 4000000 in
theorem xt_isL0 (l : Launch) (D : va_G) (dA : Nat → ClassId) (E : Nat) (ad : Nat → Nat) (sz0 mi : Nat) (tb tv : Nat) (mb : Int32) (ln : Nat) : RO l yJ3_isLatin1 cJ3_isLatin1 1 (some .boolean) 0 0 [.ref tb] (G1 D dA E ad sz0 mi) (fun H => va_P D vwCl [(tb, .inr (10, [.ref tv, .int (nI 0), .int mb, .int (nI ln)]))] H) (some (.int (bI true))) := by
  refine ro_of (by decide) (Nat.le_of_ble_eq_true rfl) ?_
  intro p e s m below meth c S hrt hlk G hP ls hl
  obtain ⟨hx, hb, hml, hown, hts⟩ := id S
  have hP : va_P D vwCl [(tb, .inr (10, [.ref tv, .int (nI 0), .int mb, .int (nI ln)]))] s.heap := hP
  have K := G.1.1
  have hl : lv_has ls 1 [(0, .ref tb)] := hl
  refine va_gets (A := fun q => sz0 ≤ q) hx hb G.1.2.2.2.2.1.2.2.2.1 va_S.rf hown (hts _ q199) (fun _ h9 => h9) dJ3_isLatin1_0 ?_
  refine x_top (y := nI 1) rfl ?_
  refine lv_if_eq (tgt := 17) hx hb dJ3_isLatin1_3 (by decide) (fun h => absurd h (by decide)) (fun _ => ?_)
  refine lv_aload_n hx hb dJ3_isLatin1_6 rfl (lv_at hl 0 rfl) ?_
  refine va_get (D := D) (ci := 10) (C := RJ4) (T := TJ4) (N := 4) hx hb hts in_J4 hown K hP 0 rfl rfl 1 (by decide) (hts _ q209) (fun _ h9 => h9) rfl dJ3_isLatin1_7 ?_
  refine lv_if_ne (tgt := 17) hx hb dJ3_isLatin1_10 (by decide) (fun h => absurd h (by decide)) (fun _ => ?_)
  refine lv_iconst (v := nI 1) hx hb dJ3_isLatin1_13 (by decide) ?_
  refine lv_goto (tgt := 18) hx hb dJ3_isLatin1_14 (by decide) ?_
  exact x_zret hx hb hrt hlk rfl dJ3_isLatin1_18

set_option maxHeartbeats 4000000 in
theorem xt_aln0 (l : Launch) (D : va_G) (dA : Nat → ClassId) (E : Nat) (ad : Nat → Nat) (sz0 mi : Nat) (tb tv : Nat) (mb : Int32) (ln : Nat) : RO l yJ3_length cJ3_length 1 (some .int) 0 0 [.ref tb] (G1 D dA E ad sz0 mi) (fun H => va_P D vwCl [(tb, .inr (10, [.ref tv, .int (nI 0), .int mb, .int (nI ln)]))] H) (some (.int (nI ln))) := by
  refine ro_of (by decide) (Nat.le_of_ble_eq_true rfl) ?_
  intro p e s m below meth c S hrt hlk G hP ls hl
  obtain ⟨hx, hb, hml, hown, hts⟩ := id S
  have hP : va_P D vwCl [(tb, .inr (10, [.ref tv, .int (nI 0), .int mb, .int (nI ln)]))] s.heap := hP
  have K := G.1.1
  have hl : lv_has ls 1 [(0, .ref tb)] := hl
  refine lv_aload_n hx hb dJ3_length_0 rfl (lv_at hl 0 rfl) ?_
  refine va_get (D := D) (ci := 10) (C := RJ4) (T := TJ4) (N := 4) hx hb hts in_J4 hown K hP 0 rfl rfl 3 (by decide) (hts _ q211) (fun _ h9 => h9) rfl dJ3_length_1 ?_
  exact x_iret hx hb hrt hlk rfl dJ3_length_4

set_option maxHeartbeats 4000000 in
theorem xt_len0 (l : Launch) (D : va_G) (dA : Nat → ClassId) (E : Nat) (ad : Nat → Nat) (sz0 mi : Nat) (tb tv : Nat) (mb : Int32) (ln : Nat) : RO l yJ4_length cJ4_length 1 (some .int) 1 40 [.ref tb] (G1 D dA E ad sz0 mi) (fun H => va_P D vwCl [(tb, .inr (10, [.ref tv, .int (nI 0), .int mb, .int (nI ln)]))] H) (some (.int (nI ln))) := by
  refine ro_of (by decide) (Nat.le_of_ble_eq_true rfl) ?_
  intro p e s m below meth c S hrt hlk G hP ls hl
  obtain ⟨hx, hb, hml, hown, hts⟩ := id S
  have hP : va_P D vwCl [(tb, .inr (10, [.ref tv, .int (nI 0), .int mb, .int (nI ln)]))] s.heap := hP
  have K := G.1.1
  have hl : lv_has ls 1 [(0, .ref tb)] := hl
  refine lv_aload_n hx hb dJ4_length_0 rfl (lv_at hl 0 rfl) ?_
  refine x_ret (va_runSU (As := []) (rest := []) ((K.1 10 _ rfl).2) S (xt_aln0 l D dA E ad sz0 mi tb tv mb ln) (va_cwSU 0 hts (lw_SU (y := yJ3_length) q682 q1371 q220 q683 q65 q684) rfl rfl rfl (by decide +kernel) ⟨Nat.le_of_ble_eq_true rfl, Nat.le_of_ble_eq_true rfl⟩) ⟨bb_blind g1_bl _, va_recv K hP (ci := 10) (q0 := 0) rfl rfl, bb_pre (g1_mv G (fun _ _ => rfl) (Nat.le_refl _)) hP _⟩ rfl rfl hl.1 rfl (lv_room (Nat.le_of_ble_eq_true rfl)) dJ4_length_1 ⟨Nat.le_refl _, Nat.le_refl _⟩) ?_
  exact x_iret hx hb hrt hlk rfl dJ4_length_4

set_option maxHeartbeats 4000000 in
theorem xt_ach0 (l : Launch) (D : va_G) (dA : Nat → ClassId) (E : Nat) (ad : Nat → Nat) (sz0 mi : Nat) (tb tv : Nat) (mb : Int32) (ln c0 : Nat) (bt : Nat → Int32) (hc0 : 0 < c0 ∧ c0 ≤ 200) (ch : Nat → Nat) (htx : Tx0 bt ch ln) (hln : ln ≤ c0) (k0 : Nat) (hk0 : k0 < ln) : RO l yJ3_charAt cJ3_charAt 5 (some .char) 2 80 [.ref tb, .int (nI k0)] (G1 D dA E ad sz0 mi) (fun H => va_P D vwCl [(tb, .inr (10, [.ref tv, .int (nI 0), .int mb, .int (nI ln)])), (tv, .inl (dA 2, c0, .inl bt))] H) (some (.int (nI (ch k0)))) := by
  refine ro_of (by decide) (Nat.le_of_ble_eq_true rfl) ?_
  intro p e s m below meth c S hrt hlk G hP ls hl
  obtain ⟨hx, hb, hml, hown, hts⟩ := id S
  have hP : va_P D vwCl [(tb, .inr (10, [.ref tv, .int (nI 0), .int mb, .int (nI ln)])), (tv, .inl (dA 2, c0, .inl bt))] s.heap := hP
  have K := G.1.1
  have hl : lv_has ls 5 [(0, .ref tb), (1, .int (nI k0))] := hl
  refine lv_aload_n hx hb dJ3_charAt_0 rfl (lv_at hl 0 rfl) ?_
  refine va_get (D := D) (ci := 10) (C := RJ4) (T := TJ4) (N := 4) hx hb hts in_J4 hown K hP 0 rfl rfl 1 (by decide) (hts _ q209) (fun _ h9 => h9) rfl dJ3_charAt_1 ?_
  refine lv_istore_n (lv' := [(2, .int (nI 0)), (0, .ref tb), (1, .int (nI k0))]) hx hb dJ3_charAt_4 rfl hl (by decide) rfl (fun ls hl => ?_)
  refine lv_aload_n hx hb dJ3_charAt_5 rfl (lv_at hl 1 rfl) ?_
  refine va_get (D := D) (ci := 10) (C := RJ4) (T := TJ4) (N := 4) hx hb hts in_J4 hown K hP 0 rfl rfl 0 (by decide) (hts _ q208) (fun _ h9 => h9) rfl dJ3_charAt_6 ?_
  refine lv_astore_n (lv' := [(3, .ref tv), (2, .int (nI 0)), (0, .ref tb), (1, .int (nI k0))]) hx hb dJ3_charAt_9 rfl hl (by decide) rfl (fun ls hl => ?_)
  refine lv_aload_n hx hb dJ3_charAt_10 rfl (lv_at hl 2 rfl) ?_
  refine va_get (D := D) (ci := 10) (C := RJ4) (T := TJ4) (N := 4) hx hb hts in_J4 hown K hP 0 rfl rfl 3 (by decide) (hts _ q211) (fun _ h9 => h9) rfl dJ3_charAt_11 ?_
  refine lv_aload_n hx hb dJ3_charAt_14 rfl (lv_at hl 0 rfl) ?_
  refine va_alen (v := nI c0) hx hb K hP 1 2 rfl rfl rfl dJ3_charAt_15 ?_
  refine lv_iload_n hx hb dJ3_charAt_16 rfl (lv_at hl 1 rfl) ?_
  refine lv_ishr hx hb dJ3_charAt_17 ?_
  refine x_top (y := nI c0) (by rw [nx_shr (by omega) (by decide), Nat.pow_zero, Nat.div_one]) ?_
  refine va_mmin hx hb (hml.trans hl.1.symm) hown (hts _ q697) (hts _ q310) (hts _ q72) (hts _ q311) (Nat.le_of_ble_eq_true rfl) (Nat.le_of_ble_eq_true rfl) (Nat.le_refl _) (Nat.le_refl _) dJ3_charAt_18 ?_
  refine x_top (y := nI (min ln c0)) (mn_nI (by omega) (by omega)) ?_
  refine lv_istore (lv' := [(4, .int (nI (min ln c0))), (3, .ref tv), (2, .int (nI 0)), (0, .ref tb), (1, .int (nI k0))]) hx hb dJ3_charAt_21 hl (by decide) rfl (fun ls hl => ?_)
  refine lv_iload_n hx hb dJ3_charAt_23 rfl (lv_at hl 4 rfl) ?_
  refine lv_iload hx hb dJ3_charAt_24 (lv_at hl 0 rfl) ?_
  refine x_retv (va_runS (As := [.int (nI k0), .int (nI (min ln c0))]) (rest := []) S (xt_ci l D dA E ad sz0 mi k0 (min ln c0) (by omega) (by omega)) (va_cwS 2 hts (lw_S q698 q699 q67 q700) rfl rfl rfl hdJ5_checkIndex ⟨Nat.le_of_ble_eq_true rfl, Nat.le_of_ble_eq_true rfl⟩) ⟨bb_blind g1_bl _, bb_pre (g1_mv G (fun _ _ => rfl) (Nat.le_refl _)) trivial _⟩ rfl rfl hl.1 rfl (lv_room (Nat.le_of_ble_eq_true rfl)) dJ3_charAt_26 ⟨Nat.le_refl _, Nat.le_refl _⟩) ?_
  refine lv_iload_n hx hb dJ3_charAt_29 rfl (lv_at hl 2 rfl) ?_
  refine lv_if_ne (tgt := 42) hx hb dJ3_charAt_30 (by decide) (fun h => absurd h (by decide)) (fun _ => ?_)
  refine lv_aload_n hx hb dJ3_charAt_33 rfl (lv_at hl 1 rfl) ?_
  refine lv_iload_n hx hb dJ3_charAt_34 rfl (lv_at hl 4 rfl) ?_
  refine x_bald (v := sb (ch k0)) hx hb K hP 1 rfl k0 rfl (by omega) (by omega) (htx.2 k0 hk0).2 dJ3_charAt_35 ?_
  refine lv_sipush (v := nI 255) hx hb dJ3_charAt_36 (by decide) ?_
  refine lv_iand hx hb dJ3_charAt_39 ?_
  refine lv_i2c (v := nI (ch k0)) hx hb dJ3_charAt_40 (by rw [sb_and _ (htx.2 k0 hk0).1]; exact c_i2c (by have := (htx.2 k0 hk0).1; omega)) ?_
  exact x_cret hx hb hrt hlk rfl (c_nar (by have := (htx.2 k0 hk0).1; omega)) dJ3_charAt_41

set_option maxHeartbeats 4000000 in
theorem xt_ch0 (l : Launch) (D : va_G) (dA : Nat → ClassId) (E : Nat) (ad : Nat → Nat) (sz0 mi : Nat) (tb tv : Nat) (mb : Int32) (ln c0 : Nat) (bt : Nat → Int32) (hc0 : 0 < c0 ∧ c0 ≤ 200) (ch : Nat → Nat) (htx : Tx0 bt ch ln) (hln : ln ≤ c0) (k0 : Nat) (hk0 : k0 < ln) : RO l yJ4_charAt cJ4_charAt 2 (some .char) 3 120 [.ref tb, .int (nI k0)] (G1 D dA E ad sz0 mi) (fun H => va_P D vwCl [(tb, .inr (10, [.ref tv, .int (nI 0), .int mb, .int (nI ln)])), (tv, .inl (dA 2, c0, .inl bt))] H) (some (.int (nI (ch k0)))) := by
  refine ro_of (by decide) (Nat.le_of_ble_eq_true rfl) ?_
  intro p e s m below meth c S hrt hlk G hP ls hl
  obtain ⟨hx, hb, hml, hown, hts⟩ := id S
  have hP : va_P D vwCl [(tb, .inr (10, [.ref tv, .int (nI 0), .int mb, .int (nI ln)])), (tv, .inl (dA 2, c0, .inl bt))] s.heap := hP
  have K := G.1.1
  have hl : lv_has ls 2 [(0, .ref tb), (1, .int (nI k0))] := hl
  refine lv_aload_n hx hb dJ4_charAt_0 rfl (lv_at hl 0 rfl) ?_
  refine lv_iload_n hx hb dJ4_charAt_1 rfl (lv_at hl 1 rfl) ?_
  refine x_ret (va_runSU (As := [.int (nI k0)]) (rest := []) ((K.1 10 _ rfl).2) S (xt_ach0 l D dA E ad sz0 mi tb tv mb ln c0 bt hc0 ch htx hln k0 hk0) (va_cwSU 1 hts (lw_SU (y := yJ3_charAt) q694 q1372 q220 q695 q65 q696) rfl rfl rfl (by decide +kernel) ⟨Nat.le_of_ble_eq_true rfl, Nat.le_of_ble_eq_true rfl⟩) ⟨bb_blind g1_bl _, va_recv K hP (ci := 10) (q0 := 0) rfl rfl, bb_pre (g1_mv G (fun _ _ => rfl) (Nat.le_refl _)) hP _⟩ rfl rfl hl.1 rfl (lv_room (Nat.le_of_ble_eq_true rfl)) dJ4_charAt_2 ⟨Nat.le_refl _, Nat.le_refl _⟩) ?_
  exact x_cret hx hb hrt hlk rfl (c_nar (by have := (htx.2 k0 hk0).1; omega)) dJ4_charAt_5

set_option maxHeartbeats 4000000 in
theorem xt_isL1 (l : Launch) (D : va_G) (dA : Nat → ClassId) (E : Nat) (ad : Nat → Nat) (sz0 mi : Nat) (tb tv : Nat) (mb : Int32) (ln : Nat) : RO l yJ3_isLatin1 cJ3_isLatin1 1 (some .boolean) 0 0 [.ref tb] (G1 D dA E ad sz0 mi) (fun H => va_P D vwCl [(tb, .inr (10, [.ref tv, .int (nI 1), .int mb, .int (nI ln)]))] H) (some (.int (bI false))) := by
  refine ro_of (by decide) (Nat.le_of_ble_eq_true rfl) ?_
  intro p e s m below meth c S hrt hlk G hP ls hl
  obtain ⟨hx, hb, hml, hown, hts⟩ := id S
  have hP : va_P D vwCl [(tb, .inr (10, [.ref tv, .int (nI 1), .int mb, .int (nI ln)]))] s.heap := hP
  have K := G.1.1
  have hl : lv_has ls 1 [(0, .ref tb)] := hl
  refine va_gets (A := fun q => sz0 ≤ q) hx hb G.1.2.2.2.2.1.2.2.2.1 va_S.rf hown (hts _ q199) (fun _ h9 => h9) dJ3_isLatin1_0 ?_
  refine x_top (y := nI 1) rfl ?_
  refine lv_if_eq (tgt := 17) hx hb dJ3_isLatin1_3 (by decide) (fun h => absurd h (by decide)) (fun _ => ?_)
  refine lv_aload_n hx hb dJ3_isLatin1_6 rfl (lv_at hl 0 rfl) ?_
  refine va_get (D := D) (ci := 10) (C := RJ4) (T := TJ4) (N := 4) hx hb hts in_J4 hown K hP 0 rfl rfl 1 (by decide) (hts _ q209) (fun _ h9 => h9) rfl dJ3_isLatin1_7 ?_
  refine lv_if_ne (tgt := 17) hx hb dJ3_isLatin1_10 (by decide) (fun _ => ?_) (fun h => absurd h (by decide))
  refine lv_iconst (v := nI 0) hx hb dJ3_isLatin1_17 (by decide) ?_
  exact x_zret hx hb hrt hlk rfl dJ3_isLatin1_18

set_option maxHeartbeats 4000000 in
theorem xt_aln1 (l : Launch) (D : va_G) (dA : Nat → ClassId) (E : Nat) (ad : Nat → Nat) (sz0 mi : Nat) (tb tv : Nat) (mb : Int32) (ln : Nat) : RO l yJ3_length cJ3_length 1 (some .int) 0 0 [.ref tb] (G1 D dA E ad sz0 mi) (fun H => va_P D vwCl [(tb, .inr (10, [.ref tv, .int (nI 1), .int mb, .int (nI ln)]))] H) (some (.int (nI ln))) := by
  refine ro_of (by decide) (Nat.le_of_ble_eq_true rfl) ?_
  intro p e s m below meth c S hrt hlk G hP ls hl
  obtain ⟨hx, hb, hml, hown, hts⟩ := id S
  have hP : va_P D vwCl [(tb, .inr (10, [.ref tv, .int (nI 1), .int mb, .int (nI ln)]))] s.heap := hP
  have K := G.1.1
  have hl : lv_has ls 1 [(0, .ref tb)] := hl
  refine lv_aload_n hx hb dJ3_length_0 rfl (lv_at hl 0 rfl) ?_
  refine va_get (D := D) (ci := 10) (C := RJ4) (T := TJ4) (N := 4) hx hb hts in_J4 hown K hP 0 rfl rfl 3 (by decide) (hts _ q211) (fun _ h9 => h9) rfl dJ3_length_1 ?_
  exact x_iret hx hb hrt hlk rfl dJ3_length_4

set_option maxHeartbeats 4000000 in
theorem xt_len1 (l : Launch) (D : va_G) (dA : Nat → ClassId) (E : Nat) (ad : Nat → Nat) (sz0 mi : Nat) (tb tv : Nat) (mb : Int32) (ln : Nat) : RO l yJ4_length cJ4_length 1 (some .int) 1 40 [.ref tb] (G1 D dA E ad sz0 mi) (fun H => va_P D vwCl [(tb, .inr (10, [.ref tv, .int (nI 1), .int mb, .int (nI ln)]))] H) (some (.int (nI ln))) := by
  refine ro_of (by decide) (Nat.le_of_ble_eq_true rfl) ?_
  intro p e s m below meth c S hrt hlk G hP ls hl
  obtain ⟨hx, hb, hml, hown, hts⟩ := id S
  have hP : va_P D vwCl [(tb, .inr (10, [.ref tv, .int (nI 1), .int mb, .int (nI ln)]))] s.heap := hP
  have K := G.1.1
  have hl : lv_has ls 1 [(0, .ref tb)] := hl
  refine lv_aload_n hx hb dJ4_length_0 rfl (lv_at hl 0 rfl) ?_
  refine x_ret (va_runSU (As := []) (rest := []) ((K.1 10 _ rfl).2) S (xt_aln1 l D dA E ad sz0 mi tb tv mb ln) (va_cwSU 0 hts (lw_SU (y := yJ3_length) q682 q1371 q220 q683 q65 q684) rfl rfl rfl (by decide +kernel) ⟨Nat.le_of_ble_eq_true rfl, Nat.le_of_ble_eq_true rfl⟩) ⟨bb_blind g1_bl _, va_recv K hP (ci := 10) (q0 := 0) rfl rfl, bb_pre (g1_mv G (fun _ _ => rfl) (Nat.le_refl _)) hP _⟩ rfl rfl hl.1 rfl (lv_room (Nat.le_of_ble_eq_true rfl)) dJ4_length_1 ⟨Nat.le_refl _, Nat.le_refl _⟩) ?_
  exact x_iret hx hb hrt hlk rfl dJ4_length_4

set_option maxHeartbeats 4000000 in
theorem xt_ach1 (l : Launch) (D : va_G) (dA : Nat → ClassId) (E : Nat) (ad : Nat → Nat) (sz0 mi : Nat) (tb tv : Nat) (mb : Int32) (ln c0 : Nat) (bt : Nat → Int32) (hc0 : 0 < c0 ∧ c0 ≤ 200) (ch : Nat → Nat) (htx : Tx1 bt ch ln) (hln : ln ≤ c0) (k0 : Nat) (hk0 : k0 < ln) : RO l yJ3_charAt cJ3_charAt 5 (some .char) 2 80 [.ref tb, .int (nI k0)] (G1 D dA E ad sz0 mi) (fun H => va_P D vwCl [(tb, .inr (10, [.ref tv, .int (nI 1), .int mb, .int (nI ln)])), (tv, .inl (dA 2, 2 * c0, .inl bt))] H) (some (.int (nI (ch k0)))) := by
  refine ro_of (by decide) (Nat.le_of_ble_eq_true rfl) ?_
  intro p e s m below meth c S hrt hlk G hP ls hl
  obtain ⟨hx, hb, hml, hown, hts⟩ := id S
  have hP : va_P D vwCl [(tb, .inr (10, [.ref tv, .int (nI 1), .int mb, .int (nI ln)])), (tv, .inl (dA 2, 2 * c0, .inl bt))] s.heap := hP
  have K := G.1.1
  have hl : lv_has ls 5 [(0, .ref tb), (1, .int (nI k0))] := hl
  refine lv_aload_n hx hb dJ3_charAt_0 rfl (lv_at hl 0 rfl) ?_
  refine va_get (D := D) (ci := 10) (C := RJ4) (T := TJ4) (N := 4) hx hb hts in_J4 hown K hP 0 rfl rfl 1 (by decide) (hts _ q209) (fun _ h9 => h9) rfl dJ3_charAt_1 ?_
  refine lv_istore_n (lv' := [(2, .int (nI 1)), (0, .ref tb), (1, .int (nI k0))]) hx hb dJ3_charAt_4 rfl hl (by decide) rfl (fun ls hl => ?_)
  refine lv_aload_n hx hb dJ3_charAt_5 rfl (lv_at hl 1 rfl) ?_
  refine va_get (D := D) (ci := 10) (C := RJ4) (T := TJ4) (N := 4) hx hb hts in_J4 hown K hP 0 rfl rfl 0 (by decide) (hts _ q208) (fun _ h9 => h9) rfl dJ3_charAt_6 ?_
  refine lv_astore_n (lv' := [(3, .ref tv), (2, .int (nI 1)), (0, .ref tb), (1, .int (nI k0))]) hx hb dJ3_charAt_9 rfl hl (by decide) rfl (fun ls hl => ?_)
  refine lv_aload_n hx hb dJ3_charAt_10 rfl (lv_at hl 2 rfl) ?_
  refine va_get (D := D) (ci := 10) (C := RJ4) (T := TJ4) (N := 4) hx hb hts in_J4 hown K hP 0 rfl rfl 3 (by decide) (hts _ q211) (fun _ h9 => h9) rfl dJ3_charAt_11 ?_
  refine lv_aload_n hx hb dJ3_charAt_14 rfl (lv_at hl 0 rfl) ?_
  refine va_alen (v := nI (2 * c0)) hx hb K hP 1 2 rfl rfl rfl dJ3_charAt_15 ?_
  refine lv_iload_n hx hb dJ3_charAt_16 rfl (lv_at hl 1 rfl) ?_
  refine lv_ishr hx hb dJ3_charAt_17 ?_
  refine x_top (y := nI c0) (by rw [nx_shr (by omega) (by decide), Nat.pow_one]; congr 1; omega) ?_
  refine va_mmin hx hb (hml.trans hl.1.symm) hown (hts _ q697) (hts _ q310) (hts _ q72) (hts _ q311) (Nat.le_of_ble_eq_true rfl) (Nat.le_of_ble_eq_true rfl) (Nat.le_refl _) (Nat.le_refl _) dJ3_charAt_18 ?_
  refine x_top (y := nI (min ln c0)) (mn_nI (by omega) (by omega)) ?_
  refine lv_istore (lv' := [(4, .int (nI (min ln c0))), (3, .ref tv), (2, .int (nI 1)), (0, .ref tb), (1, .int (nI k0))]) hx hb dJ3_charAt_21 hl (by decide) rfl (fun ls hl => ?_)
  refine lv_iload_n hx hb dJ3_charAt_23 rfl (lv_at hl 4 rfl) ?_
  refine lv_iload hx hb dJ3_charAt_24 (lv_at hl 0 rfl) ?_
  refine x_retv (va_runS (As := [.int (nI k0), .int (nI (min ln c0))]) (rest := []) S (xt_ci l D dA E ad sz0 mi k0 (min ln c0) (by omega) (by omega)) (va_cwS 2 hts (lw_S q698 q699 q67 q700) rfl rfl rfl hdJ5_checkIndex ⟨Nat.le_of_ble_eq_true rfl, Nat.le_of_ble_eq_true rfl⟩) ⟨bb_blind g1_bl _, bb_pre (g1_mv G (fun _ _ => rfl) (Nat.le_refl _)) trivial _⟩ rfl rfl hl.1 rfl (lv_room (Nat.le_of_ble_eq_true rfl)) dJ3_charAt_26 ⟨Nat.le_refl _, Nat.le_refl _⟩) ?_
  refine lv_iload_n hx hb dJ3_charAt_29 rfl (lv_at hl 2 rfl) ?_
  refine lv_if_ne (tgt := 42) hx hb dJ3_charAt_30 (by decide) (fun _ => ?_) (fun h => absurd h (by decide))
  refine lv_aload_n hx hb dJ3_charAt_42 rfl (lv_at hl 1 rfl) ?_
  refine lv_iload_n hx hb dJ3_charAt_43 rfl (lv_at hl 4 rfl) ?_
  refine x_ret (va_runS (As := [.ref tv, .int (nI k0)]) (rest := []) S (xt_gc l D dA E ad sz0 mi tv (2 * c0) bt (by omega) k0 (ch k0) (by omega) (htx.2 k0 hk0).1 (htx.2 k0 hk0).2.1 (htx.2 k0 hk0).2.2) (va_cwS 2 hts (lw_S q704 q705 q68 q706) rfl rfl rfl hdJ6_getChar ⟨Nat.le_of_ble_eq_true rfl, Nat.le_of_ble_eq_true rfl⟩) ⟨bb_blind g1_bl _, bb_pre (g1_mv G (fun _ _ => rfl) (Nat.le_refl _)) (hP.sub [1] rfl) _⟩ rfl rfl hl.1 rfl (lv_room (Nat.le_of_ble_eq_true rfl)) dJ3_charAt_44 ⟨Nat.le_refl _, Nat.le_refl _⟩) ?_
  exact x_cret hx hb hrt hlk rfl (c_nar (by have := (htx.2 k0 hk0).1; omega)) dJ3_charAt_47

set_option maxHeartbeats 4000000 in
theorem xt_ch1 (l : Launch) (D : va_G) (dA : Nat → ClassId) (E : Nat) (ad : Nat → Nat) (sz0 mi : Nat) (tb tv : Nat) (mb : Int32) (ln c0 : Nat) (bt : Nat → Int32) (hc0 : 0 < c0 ∧ c0 ≤ 200) (ch : Nat → Nat) (htx : Tx1 bt ch ln) (hln : ln ≤ c0) (k0 : Nat) (hk0 : k0 < ln) : RO l yJ4_charAt cJ4_charAt 2 (some .char) 3 120 [.ref tb, .int (nI k0)] (G1 D dA E ad sz0 mi) (fun H => va_P D vwCl [(tb, .inr (10, [.ref tv, .int (nI 1), .int mb, .int (nI ln)])), (tv, .inl (dA 2, 2 * c0, .inl bt))] H) (some (.int (nI (ch k0)))) := by
  refine ro_of (by decide) (Nat.le_of_ble_eq_true rfl) ?_
  intro p e s m below meth c S hrt hlk G hP ls hl
  obtain ⟨hx, hb, hml, hown, hts⟩ := id S
  have hP : va_P D vwCl [(tb, .inr (10, [.ref tv, .int (nI 1), .int mb, .int (nI ln)])), (tv, .inl (dA 2, 2 * c0, .inl bt))] s.heap := hP
  have K := G.1.1
  have hl : lv_has ls 2 [(0, .ref tb), (1, .int (nI k0))] := hl
  refine lv_aload_n hx hb dJ4_charAt_0 rfl (lv_at hl 0 rfl) ?_
  refine lv_iload_n hx hb dJ4_charAt_1 rfl (lv_at hl 1 rfl) ?_
  refine x_ret (va_runSU (As := [.int (nI k0)]) (rest := []) ((K.1 10 _ rfl).2) S (xt_ach1 l D dA E ad sz0 mi tb tv mb ln c0 bt hc0 ch htx hln k0 hk0) (va_cwSU 1 hts (lw_SU (y := yJ3_charAt) q694 q1372 q220 q695 q65 q696) rfl rfl rfl (by decide +kernel) ⟨Nat.le_of_ble_eq_true rfl, Nat.le_of_ble_eq_true rfl⟩) ⟨bb_blind g1_bl _, va_recv K hP (ci := 10) (q0 := 0) rfl rfl, bb_pre (g1_mv G (fun _ _ => rfl) (Nat.le_refl _)) hP _⟩ rfl rfl hl.1 rfl (lv_room (Nat.le_of_ble_eq_true rfl)) dJ4_charAt_2 ⟨Nat.le_refl _, Nat.le_refl _⟩) ?_
  exact x_cret hx hb hrt hlk rfl (c_nar (by have := (htx.2 k0 hk0).1; omega)) dJ4_charAt_5

set_option maxHeartbeats 4000000 in
theorem xt_cp (l : Launch) (D : va_G) (dA : Nat → ClassId) (E : Nat) (ad : Nat → Nat) (sz0 mi : Nat) (tv cp : Nat) (bt : Nat → Int32) (nn : Nat) (hby : ByOk bt) (hcp : cp < nn ∧ nn ≤ 900) (hup : Up sz0 ([(tv, .inl (dA 2, cp, .inl bt))])) : EX l yJ7_copyOf_3 cJ7_copyOf_3 3 (some (FieldType.array FieldType.byte)) 1 40 1 900 [.ref tv, .int (nI nn)] (G1 D dA E ad sz0 mi) D ([(tv, .inl (dA 2, cp, .inl bt))]) (fun _ => True) (S := Nat) (fun _ _ => True) (fun u => some (.ref u)) (fun u => [(tv, .inl (dA 2, cp, .inl bt)), (u, .inl (dA 2, nn, .inl (va_cpy bt (fun _ => 0) 0 0 (min cp nn))))]) := by
  refine ex_of (by decide) (Nat.le_of_ble_eq_true rfl) ?_
  intro p e s m below meth c A S hrt hlk hnm G hA hAe hΦ H locs hP hD hS ls hl
  obtain ⟨hx, hb, hml, hown, hts⟩ := id S
  have K := G.1.1
  have hA0 := up_A hup G.1.2.2.2.2.2.2 hAe
  have hP : va_P D vwCl [(tv, .inl (dA 2, cp, .inl bt))] H := hP
  have hD : va_D A [(tv, .inl (dA 2, cp, .inl bt))] := hD
  have hl : lv_has ls 3 [(0, .ref tv), (1, .int (nI nn))] := hl
  refine lv_iload_n hx hb dJ7_copyOf_3_0 rfl (lv_at hl 1 rfl) ?_
  refine lv_aload_n hx hb dJ7_copyOf_3_1 rfl (lv_at hl 0 rfl) ?_
  refine va_alen (v := nI cp) hx hb K hP 0 2 rfl rfl rfl dJ7_copyOf_3_2 ?_
  refine x_icmpn_ne (tgt := 14) hx hb dJ7_copyOf_3_3 (by decide) (by omega) (by omega) (fun h => ?_) (fun h => absurd h (by omega))
  refine lv_iload_n hx hb dJ7_copyOf_3_14 rfl (lv_at hl 1 rfl) ?_
  refine x_newb (N := nn) hx hb (hts _ q221) K hP hD hS hA (by omega) (Nat.le_of_ble_eq_true rfl) (by show _ + _ ≤ 900; omega) dJ7_copyOf_3_15 (fun t2 H hP hD hS => ?_)
  have hP : va_P D vwCl [(tv, .inl (dA 2, cp, .inl bt)), (t2, .inl (dA 2, nn, .inl (fun _ => 0)))] H := hP
  have hD : va_D A [(tv, .inl (dA 2, cp, .inl bt)), (t2, .inl (dA 2, nn, .inl (fun _ => 0)))] := hD
  refine W.widen (k := 1) (n := 900) (Nat.le_of_ble_eq_true rfl) (by show _ + _ ≤ 900; omega) ?_
  refine lv_astore_n (lv' := [(2, .ref t2), (0, .ref tv), (1, .int (nI nn))]) hx hb dJ7_copyOf_3_17 rfl hl (by decide) rfl (fun ls hl => ?_)
  refine lv_aload_n hx hb dJ7_copyOf_3_18 rfl (lv_at hl 1 rfl) ?_
  refine lv_iconst (v := nI 0) hx hb dJ7_copyOf_3_19 (by decide) ?_
  refine lv_aload_n hx hb dJ7_copyOf_3_20 rfl (lv_at hl 0 rfl) ?_
  refine lv_iconst (v := nI 0) hx hb dJ7_copyOf_3_21 (by decide) ?_
  refine lv_aload_n hx hb dJ7_copyOf_3_22 rfl (lv_at hl 1 rfl) ?_
  refine va_alen (v := nI cp) hx hb K hP 0 2 rfl rfl rfl dJ7_copyOf_3_23 ?_
  refine lv_iload_n hx hb dJ7_copyOf_3_24 rfl (lv_at hl 2 rfl) ?_
  refine va_mmin hx hb (hml.trans hl.1.symm) hown (hts _ q309) (hts _ q310) (hts _ q72) (hts _ q311) (Nat.le_of_ble_eq_true rfl) (Nat.le_of_ble_eq_true rfl) (Nat.le_of_ble_eq_true rfl) (Nat.le_of_ble_eq_true rfl) dJ7_copyOf_3_25 ?_
  refine x_top (y := nI (min cp nn)) (mn_nI (by omega) (by omega)) ?_
  refine x_copyB hx hb (hml.trans hl.1.symm) hown (hts _ q312) (hts _ q260) (hts _ q259) (hts _ q70) K hP hD hS 0 1 rfl rfl (min cp nn) (by omega) (by omega) (by omega) (fun i hi => byOk_fit hby i) (Nat.le_of_ble_eq_true rfl) (Nat.le_of_ble_eq_true rfl) dJ7_copyOf_3_28 (fun H locs hP hD hS => ?_)
  have hP : va_P D vwCl [(tv, .inl (dA 2, cp, .inl bt)), (t2, .inl (dA 2, nn, .inl (va_cpy bt (fun _ => 0) 0 0 (min cp nn))))] H := hP
  have hD : va_D A [(tv, .inl (dA 2, cp, .inl bt)), (t2, .inl (dA 2, nn, .inl (va_cpy bt (fun _ => 0) 0 0 (min cp nn))))] := hD
  refine lv_aload_n hx hb dJ7_copyOf_3_31 rfl (lv_at hl 0 rfl) ?_
  exact x_earet t2 hx hb hrt (Or.inr ⟨_, rfl⟩) hlk rfl trivial hP hD hS dJ7_copyOf_3_32 (Nat.le_of_ble_eq_true rfl) (Nat.le_of_ble_eq_true rfl)

set_option maxHeartbeats 4000000 in
theorem xt_nc0 (l : Launch) (D : va_G) (dA : Nat → ClassId) (E : Nat) (ad : Nat → Nat) (sz0 mi : Nat) (tb tv : Nat) (mb : Int32) (ln c0 : Nat) (bt : Nat → Int32) (hc0 : 0 < c0 ∧ c0 ≤ 200) (mn : Nat) (hmn : mn = c0 + 1) : RO l yJ3_newCapacity cJ3_newCapacity 6 (some .int) 2 80 [.ref tb, .int (nI mn)] (G1 D dA E ad sz0 mi) (fun H => va_P D vwCl [(tb, .inr (10, [.ref tv, .int (nI 0), .int mb, .int (nI ln)])), (tv, .inl (dA 2, c0, .inl bt))] H) (some (.int (nI (2 * c0 + 2)))) := by
  refine ro_of (by decide) (Nat.le_of_ble_eq_true rfl) ?_
  intro p e s m below meth c S hrt hlk G hP ls hl
  obtain ⟨hx, hb, hml, hown, hts⟩ := id S
  have hP : va_P D vwCl [(tb, .inr (10, [.ref tv, .int (nI 0), .int mb, .int (nI ln)])), (tv, .inl (dA 2, c0, .inl bt))] s.heap := hP
  have K := G.1.1
  have hl : lv_has ls 6 [(0, .ref tb), (1, .int (nI mn))] := hl
  refine lv_aload_n hx hb dJ3_newCapacity_0 rfl (lv_at hl 0 rfl) ?_
  refine va_get (D := D) (ci := 10) (C := RJ4) (T := TJ4) (N := 4) hx hb hts in_J4 hown K hP 0 rfl rfl 0 (by decide) (hts _ q208) (fun _ h9 => h9) rfl dJ3_newCapacity_1 ?_
  refine va_alen (v := nI c0) hx hb K hP 1 2 rfl rfl rfl dJ3_newCapacity_4 ?_
  refine lv_istore_n (lv' := [(2, .int (nI c0)), (0, .ref tb), (1, .int (nI mn))]) hx hb dJ3_newCapacity_5 rfl hl (by decide) rfl (fun ls hl => ?_)
  refine lv_iload_n hx hb dJ3_newCapacity_6 rfl (lv_at hl 2 rfl) ?_
  refine lv_aload_n hx hb dJ3_newCapacity_7 rfl (lv_at hl 1 rfl) ?_
  refine va_get (D := D) (ci := 10) (C := RJ4) (T := TJ4) (N := 4) hx hb hts in_J4 hown K hP 0 rfl rfl 1 (by decide) (hts _ q209) (fun _ h9 => h9) rfl dJ3_newCapacity_8 ?_
  refine lv_ishl hx hb dJ3_newCapacity_11 ?_
  refine x_top (y := nI mn) (by rw [nx_shlN (by decide) (by omega), Nat.pow_zero, Nat.mul_one]) ?_
  refine lv_istore_n (lv' := [(3, .int (nI mn)), (2, .int (nI c0)), (0, .ref tb), (1, .int (nI mn))]) hx hb dJ3_newCapacity_12 rfl hl (by decide) rfl (fun ls hl => ?_)
  refine lv_iload_n hx hb dJ3_newCapacity_13 rfl (lv_at hl 0 rfl) ?_
  refine lv_iload_n hx hb dJ3_newCapacity_14 rfl (lv_at hl 1 rfl) ?_
  refine lv_isub hx hb dJ3_newCapacity_15 ?_
  refine x_top (y := nI (mn - c0)) (sub_nI (by omega)) ?_
  refine lv_istore (lv' := [(4, .int (nI (mn - c0))), (3, .int (nI mn)), (2, .int (nI c0)), (0, .ref tb), (1, .int (nI mn))]) hx hb dJ3_newCapacity_16 hl (by decide) rfl (fun ls hl => ?_)
  refine lv_iload_n hx hb dJ3_newCapacity_18 rfl (lv_at hl 2 rfl) ?_
  refine lv_iload hx hb dJ3_newCapacity_19 (lv_at hl 0 rfl) ?_
  refine lv_iload_n hx hb dJ3_newCapacity_21 rfl (lv_at hl 2 rfl) ?_
  refine lv_iconst (v := nI 2) hx hb dJ3_newCapacity_22 (by decide) ?_
  refine lv_aload_n hx hb dJ3_newCapacity_23 rfl (lv_at hl 3 rfl) ?_
  refine va_get (D := D) (ci := 10) (C := RJ4) (T := TJ4) (N := 4) hx hb hts in_J4 hown K hP 0 rfl rfl 1 (by decide) (hts _ q209) (fun _ h9 => h9) rfl dJ3_newCapacity_24 ?_
  refine lv_ishl hx hb dJ3_newCapacity_27 ?_
  refine x_top (y := nI 2) (by decide) ?_
  refine x_addN hx hb dJ3_newCapacity_28 ?_
  refine x_ret (va_runS (As := [.int (nI c0), .int (nI (mn - c0)), .int (nI (c0 + 2))]) (rest := []) S (xl_nl l c0 (mn - c0) (c0 + 2) (by omega) (by omega)) (va_cwS 3 hts (lw_S q833 q318 q73 q319) rfl rfl rfl hdJ9_newLength ⟨Nat.le_of_ble_eq_true rfl, Nat.le_of_ble_eq_true rfl⟩) ⟨bb_blind tt_bl _, tt_pre _⟩ rfl rfl hl.1 rfl (lv_room (Nat.le_of_ble_eq_true rfl)) dJ3_newCapacity_29 ⟨Nat.le_refl _, Nat.le_refl _⟩) ?_
  refine lv_istore (lv' := [(5, .int (nI (c0 + max (mn - c0) (c0 + 2)))), (4, .int (nI (mn - c0))), (3, .int (nI mn)), (2, .int (nI c0)), (0, .ref tb), (1, .int (nI mn))]) hx hb dJ3_newCapacity_32 hl (by decide) rfl (fun ls hl => ?_)
  refine lv_iload hx hb dJ3_newCapacity_34 (lv_at hl 0 rfl) ?_
  refine lv_ldc (v := 2147483647) hx hb hown (hts _ q834) dJ3_newCapacity_36 ?_
  refine x_top (y := nI 2147483647) rfl ?_
  refine x_icmpn_ne (tgt := 51) hx hb dJ3_newCapacity_38 (by decide) (by omega) (by omega) (fun h => ?_) (fun h => absurd h (by omega))
  refine lv_iload hx hb dJ3_newCapacity_51 (lv_at hl 0 rfl) ?_
  refine lv_aload_n hx hb dJ3_newCapacity_53 rfl (lv_at hl 4 rfl) ?_
  refine va_get (D := D) (ci := 10) (C := RJ4) (T := TJ4) (N := 4) hx hb hts in_J4 hown K hP 0 rfl rfl 1 (by decide) (hts _ q209) (fun _ h9 => h9) rfl dJ3_newCapacity_54 ?_
  refine lv_ishr hx hb dJ3_newCapacity_57 ?_
  refine x_top (y := nI (2 * c0 + 2)) (by rw [nx_shr (by omega) (by decide), Nat.pow_zero, Nat.div_one]; congr 1; omega) ?_
  exact x_iret hx hb hrt hlk rfl dJ3_newCapacity_58

set_option maxHeartbeats 4000000 in
theorem xt_ecN0 (l : Launch) (D : va_G) (dA : Nat → ClassId) (E : Nat) (ad : Nat → Nat) (sz0 mi : Nat) (tb tv : Nat) (mb : Int32) (ln c0 : Nat) (bt : Nat → Int32) (hc0 : 0 < c0 ∧ c0 ≤ 200) (mn : Nat) (hmn : mn ≤ c0) (hup : Up sz0 ([(tb, .inr (10, [.ref tv, .int (nI 0), .int mb, .int (nI ln)])), (tv, .inl (dA 2, c0, .inl bt))])) : EX l yJ3_ensureCapacityInternal cJ3_ensureCapacityInternal 3 none 3 120 1 900 [.ref tb, .int (nI mn)] (G1 D dA E ad sz0 mi) D ([(tb, .inr (10, [.ref tv, .int (nI 0), .int mb, .int (nI ln)])), (tv, .inl (dA 2, c0, .inl bt))]) (fun _ => True) (S := Unit) (fun _ _ => True) (fun _ => none) (fun _ => [(tb, .inr (10, [.ref tv, .int (nI 0), .int mb, .int (nI ln)])), (tv, .inl (dA 2, c0, .inl bt))]) := by
  refine ex_of (by decide) (Nat.le_of_ble_eq_true rfl) ?_
  intro p e s m below meth c A S hrt hlk hnm G hA hAe hΦ H locs hP hD hS ls hl
  obtain ⟨hx, hb, hml, hown, hts⟩ := id S
  have K := G.1.1
  have hA0 := up_A hup G.1.2.2.2.2.2.2 hAe
  have hP : va_P D vwCl [(tb, .inr (10, [.ref tv, .int (nI 0), .int mb, .int (nI ln)])), (tv, .inl (dA 2, c0, .inl bt))] H := hP
  have hD : va_D A [(tb, .inr (10, [.ref tv, .int (nI 0), .int mb, .int (nI ln)])), (tv, .inl (dA 2, c0, .inl bt))] := hD
  have hl : lv_has ls 3 [(0, .ref tb), (1, .int (nI mn))] := hl
  refine lv_aload_n hx hb dJ3_ensureCapacityInternal_0 rfl (lv_at hl 0 rfl) ?_
  refine va_get (D := D) (ci := 10) (C := RJ4) (T := TJ4) (N := 4) hx hb hts in_J4 hown K hP 0 rfl rfl 0 (by decide) (hts _ q208) (fun _ h9 => h9) rfl dJ3_ensureCapacityInternal_1 ?_
  refine va_alen (v := nI c0) hx hb K hP 1 2 rfl rfl rfl dJ3_ensureCapacityInternal_4 ?_
  refine lv_aload_n hx hb dJ3_ensureCapacityInternal_5 rfl (lv_at hl 0 rfl) ?_
  refine va_get (D := D) (ci := 10) (C := RJ4) (T := TJ4) (N := 4) hx hb hts in_J4 hown K hP 0 rfl rfl 1 (by decide) (hts _ q209) (fun _ h9 => h9) rfl dJ3_ensureCapacityInternal_6 ?_
  refine lv_ishr hx hb dJ3_ensureCapacityInternal_9 ?_
  refine x_top (y := nI c0) (by rw [nx_shr (by omega) (by decide), Nat.pow_zero, Nat.div_one]) ?_
  refine lv_istore_n (lv' := [(2, .int (nI c0)), (0, .ref tb), (1, .int (nI mn))]) hx hb dJ3_ensureCapacityInternal_10 rfl hl (by decide) rfl (fun ls hl => ?_)
  refine lv_iload_n hx hb dJ3_ensureCapacityInternal_11 rfl (lv_at hl 2 rfl) ?_
  refine lv_iload_n hx hb dJ3_ensureCapacityInternal_12 rfl (lv_at hl 0 rfl) ?_
  refine lv_isub hx hb dJ3_ensureCapacityInternal_13 ?_
  refine lv_if_le (tgt := 38) hx hb dJ3_ensureCapacityInternal_14 (by decide) (fun _ => ?_) (fun h => absurd (sub_le0 (by omega) (by omega)) h)
  exact x_evret () hx hb hrt hlk rfl trivial hP hD hS dJ3_ensureCapacityInternal_38 (Nat.le_of_ble_eq_true rfl) (Nat.le_of_ble_eq_true rfl)

set_option maxHeartbeats 4000000 in
theorem xt_ecG0 (l : Launch) (D : va_G) (dA : Nat → ClassId) (E : Nat) (ad : Nat → Nat) (sz0 mi : Nat) (tb tv : Nat) (mb : Int32) (ln c0 : Nat) (bt : Nat → Int32) (hc0 : 0 < c0 ∧ c0 ≤ 200) (mn : Nat) (hmn : mn = c0 + 1) (hby : ByOk bt) (hup : Up sz0 ([(tb, .inr (10, [.ref tv, .int (nI 0), .int mb, .int (nI ln)])), (tv, .inl (dA 2, c0, .inl bt))])) : EX l yJ3_ensureCapacityInternal cJ3_ensureCapacityInternal 3 none 3 120 1 900 [.ref tb, .int (nI mn)] (G1 D dA E ad sz0 mi) D ([(tb, .inr (10, [.ref tv, .int (nI 0), .int mb, .int (nI ln)])), (tv, .inl (dA 2, c0, .inl bt))]) (fun _ => True) (S := Nat) (fun _ _ => True) (fun _ => none) (fun u => [(tb, .inr (10, [.ref u, .int (nI 0), .int mb, .int (nI ln)])), (u, .inl (dA 2, 2 * c0 + 2, .inl (va_cpy bt (fun _ => 0) 0 0 (min (c0) (2 * c0 + 2)))))]) := by
  refine ex_of (by decide) (Nat.le_of_ble_eq_true rfl) ?_
  intro p e s m below meth c A S hrt hlk hnm G hA hAe hΦ H locs hP hD hS ls hl
  obtain ⟨hx, hb, hml, hown, hts⟩ := id S
  have K := G.1.1
  have hA0 := up_A hup G.1.2.2.2.2.2.2 hAe
  have hP : va_P D vwCl [(tb, .inr (10, [.ref tv, .int (nI 0), .int mb, .int (nI ln)])), (tv, .inl (dA 2, c0, .inl bt))] H := hP
  have hD : va_D A [(tb, .inr (10, [.ref tv, .int (nI 0), .int mb, .int (nI ln)])), (tv, .inl (dA 2, c0, .inl bt))] := hD
  have hl : lv_has ls 3 [(0, .ref tb), (1, .int (nI mn))] := hl
  refine lv_aload_n hx hb dJ3_ensureCapacityInternal_0 rfl (lv_at hl 0 rfl) ?_
  refine va_get (D := D) (ci := 10) (C := RJ4) (T := TJ4) (N := 4) hx hb hts in_J4 hown K hP 0 rfl rfl 0 (by decide) (hts _ q208) (fun _ h9 => h9) rfl dJ3_ensureCapacityInternal_1 ?_
  refine va_alen (v := nI c0) hx hb K hP 1 2 rfl rfl rfl dJ3_ensureCapacityInternal_4 ?_
  refine lv_aload_n hx hb dJ3_ensureCapacityInternal_5 rfl (lv_at hl 0 rfl) ?_
  refine va_get (D := D) (ci := 10) (C := RJ4) (T := TJ4) (N := 4) hx hb hts in_J4 hown K hP 0 rfl rfl 1 (by decide) (hts _ q209) (fun _ h9 => h9) rfl dJ3_ensureCapacityInternal_6 ?_
  refine lv_ishr hx hb dJ3_ensureCapacityInternal_9 ?_
  refine x_top (y := nI c0) (by rw [nx_shr (by omega) (by decide), Nat.pow_zero, Nat.div_one]) ?_
  refine lv_istore_n (lv' := [(2, .int (nI c0)), (0, .ref tb), (1, .int (nI mn))]) hx hb dJ3_ensureCapacityInternal_10 rfl hl (by decide) rfl (fun ls hl => ?_)
  refine lv_iload_n hx hb dJ3_ensureCapacityInternal_11 rfl (lv_at hl 2 rfl) ?_
  refine lv_iload_n hx hb dJ3_ensureCapacityInternal_12 rfl (lv_at hl 0 rfl) ?_
  refine lv_isub hx hb dJ3_ensureCapacityInternal_13 ?_
  refine lv_if_le (tgt := 38) hx hb dJ3_ensureCapacityInternal_14 (by decide) (fun h => absurd h (by rw [sub_nI (by omega)]; exact Int32.not_le.mpr (show nI 0 < nI _ from nI_lt (by omega) (by omega)))) (fun _ => ?_)
  refine lv_aload_n hx hb dJ3_ensureCapacityInternal_17 rfl (lv_at hl 1 rfl) ?_
  refine lv_aload_n hx hb dJ3_ensureCapacityInternal_18 rfl (lv_at hl 1 rfl) ?_
  refine va_get (D := D) (ci := 10) (C := RJ4) (T := TJ4) (N := 4) hx hb hts in_J4 hown K hP 0 rfl rfl 0 (by decide) (hts _ q208) (fun _ h9 => h9) rfl dJ3_ensureCapacityInternal_19 ?_
  refine lv_aload_n hx hb dJ3_ensureCapacityInternal_22 rfl (lv_at hl 1 rfl) ?_
  refine lv_iload_n hx hb dJ3_ensureCapacityInternal_23 rfl (lv_at hl 2 rfl) ?_
  refine x_ret (va_runU (As := [.int (nI mn)]) (rest := [.ref tv, .ref tb]) S (xt_nc0 l D dA E ad sz0 mi tb tv mb ln c0 bt hc0 mn hmn) (va_cwP 1 hts (K.1 10 _ rfl).2.1 q829 q1377 (va_Nw.use rfl (G.1.2.1 _ q830 rfl)) q831 q65 q832 rfl rfl (by decide +kernel) ⟨Nat.le_of_ble_eq_true rfl, Nat.le_of_ble_eq_true rfl⟩) ⟨bb_blind g1_bl _, va_recv K hP (ci := 10) (q0 := 0) rfl rfl, bb_pre (g1_mv G (low_of hS hA0 G.1.2.2.2.2.2.2) hS.1) hP _⟩ rfl rfl hl.1 rfl (lv_room (Nat.le_of_ble_eq_true rfl)) dJ3_ensureCapacityInternal_24 ⟨Nat.le_of_ble_eq_true rfl, Nat.le_of_ble_eq_true rfl⟩) ?_
  refine lv_aload_n hx hb dJ3_ensureCapacityInternal_27 rfl (lv_at hl 1 rfl) ?_
  refine va_get (D := D) (ci := 10) (C := RJ4) (T := TJ4) (N := 4) hx hb hts in_J4 hown K hP 0 rfl rfl 1 (by decide) (hts _ q209) (fun _ h9 => h9) rfl dJ3_ensureCapacityInternal_28 ?_
  refine lv_ishl hx hb dJ3_ensureCapacityInternal_31 ?_
  refine x_top (y := nI (2 * c0 + 2)) (by rw [nx_shlN (by decide) (by omega), Nat.pow_zero, Nat.mul_one]) ?_
  refine x_ecall (wr := [(tb, .inr (10, [.ref tv, .int (nI 0), .int mb, .int (nI ln)]))]) (va_runS (As := [.ref tv, .int (nI (2 * c0 + 2))]) (rest := [.ref tb]) S (xt_cp l D dA E ad sz0 mi tv (c0) bt (2 * c0 + 2) hby (by omega) (up_D hA0 (hD.sub [1] (by decide) rfl)) H.size) (va_cwS 2 hts (lw_S q835 q836 q71 q837) rfl rfl rfl hdJ7_copyOf_3 ⟨Nat.le_of_ble_eq_true rfl, Nat.le_of_ble_eq_true rfl⟩) ⟨pe_blind g1_bl _, pe_pre (g1_mv G (low_of hS hA0 G.1.2.2.2.2.2.2) hS.1) (hP.sub [1] rfl) (hD.sub [1] (by decide) rfl) trivial _⟩ rfl rfl hl.1 rfl (lv_room (Nat.le_of_ble_eq_true rfl)) dJ3_ensureCapacityInternal_32 ⟨Nat.le_of_ble_eq_true rfl, Nat.le_of_ble_eq_true rfl⟩) hP hD hS hA [1] [0] rfl rfl (by decide) (by decide) (fun t2 H locs hΨ hP hD hS hkp hsz hDn => ?_)
  have hP : va_P D vwCl [(tb, .inr (10, [.ref tv, .int (nI 0), .int mb, .int (nI ln)])), (tv, .inl (dA 2, c0, .inl bt)), (t2, .inl (dA 2, 2 * c0 + 2, .inl (va_cpy bt (fun _ => 0) 0 0 (min (c0) (2 * c0 + 2)))))] H := hP
  have hD : va_D A [(tb, .inr (10, [.ref tv, .int (nI 0), .int mb, .int (nI ln)])), (tv, .inl (dA 2, c0, .inl bt)), (t2, .inl (dA 2, 2 * c0 + 2, .inl (va_cpy bt (fun _ => 0) 0 0 (min (c0) (2 * c0 + 2)))))] := hD
  refine W.widen (k := 1) (n := 900) (Nat.le_of_ble_eq_true rfl) (Nat.le_of_ble_eq_true rfl) ?_
  refine va_put (D := D) (ci := 10) (v := .ref t2) (ty := .array .byte) (C := RJ4) (T := TJ4) (N := 4) hx hb hts in_J4 tyJ4 tyJ4_ok nmJ4 hown K hP hD hS 0 rfl rfl 0 (by decide) (hts _ q208) (fun _ h9 => h9) rfl (by decide +kernel) rfl rfl (Nat.le_of_ble_eq_true rfl) dJ3_ensureCapacityInternal_35 (fun H locs hP hD hS => ?_)
  have hP : va_P D vwCl [(tb, .inr (10, [.ref t2, .int (nI 0), .int mb, .int (nI ln)])), (tv, .inl (dA 2, c0, .inl bt)), (t2, .inl (dA 2, 2 * c0 + 2, .inl (va_cpy bt (fun _ => 0) 0 0 (min (c0) (2 * c0 + 2)))))] H := hP
  have hD : va_D A [(tb, .inr (10, [.ref t2, .int (nI 0), .int mb, .int (nI ln)])), (tv, .inl (dA 2, c0, .inl bt)), (t2, .inl (dA 2, 2 * c0 + 2, .inl (va_cpy bt (fun _ => 0) 0 0 (min (c0) (2 * c0 + 2)))))] := hD
  exact x_evret t2 hx hb hrt hlk rfl trivial (hP.sub [0, 2] rfl) (hD.sub [0, 2] (by decide) rfl) hS dJ3_ensureCapacityInternal_38 (Nat.le_of_ble_eq_true rfl) (Nat.le_of_ble_eq_true rfl)

set_option maxHeartbeats 4000000 in
theorem xt_nc1 (l : Launch) (D : va_G) (dA : Nat → ClassId) (E : Nat) (ad : Nat → Nat) (sz0 mi : Nat) (tb tv : Nat) (mb : Int32) (ln c0 : Nat) (bt : Nat → Int32) (hc0 : 0 < c0 ∧ c0 ≤ 200) (mn : Nat) (hmn : mn = c0 + 1) : RO l yJ3_newCapacity cJ3_newCapacity 6 (some .int) 2 80 [.ref tb, .int (nI mn)] (G1 D dA E ad sz0 mi) (fun H => va_P D vwCl [(tb, .inr (10, [.ref tv, .int (nI 1), .int mb, .int (nI ln)])), (tv, .inl (dA 2, 2 * c0, .inl bt))] H) (some (.int (nI (2 * c0 + 2)))) := by
  refine ro_of (by decide) (Nat.le_of_ble_eq_true rfl) ?_
  intro p e s m below meth c S hrt hlk G hP ls hl
  obtain ⟨hx, hb, hml, hown, hts⟩ := id S
  have hP : va_P D vwCl [(tb, .inr (10, [.ref tv, .int (nI 1), .int mb, .int (nI ln)])), (tv, .inl (dA 2, 2 * c0, .inl bt))] s.heap := hP
  have K := G.1.1
  have hl : lv_has ls 6 [(0, .ref tb), (1, .int (nI mn))] := hl
  refine lv_aload_n hx hb dJ3_newCapacity_0 rfl (lv_at hl 0 rfl) ?_
  refine va_get (D := D) (ci := 10) (C := RJ4) (T := TJ4) (N := 4) hx hb hts in_J4 hown K hP 0 rfl rfl 0 (by decide) (hts _ q208) (fun _ h9 => h9) rfl dJ3_newCapacity_1 ?_
  refine va_alen (v := nI (2 * c0)) hx hb K hP 1 2 rfl rfl rfl dJ3_newCapacity_4 ?_
  refine lv_istore_n (lv' := [(2, .int (nI (2 * c0))), (0, .ref tb), (1, .int (nI mn))]) hx hb dJ3_newCapacity_5 rfl hl (by decide) rfl (fun ls hl => ?_)
  refine lv_iload_n hx hb dJ3_newCapacity_6 rfl (lv_at hl 2 rfl) ?_
  refine lv_aload_n hx hb dJ3_newCapacity_7 rfl (lv_at hl 1 rfl) ?_
  refine va_get (D := D) (ci := 10) (C := RJ4) (T := TJ4) (N := 4) hx hb hts in_J4 hown K hP 0 rfl rfl 1 (by decide) (hts _ q209) (fun _ h9 => h9) rfl dJ3_newCapacity_8 ?_
  refine lv_ishl hx hb dJ3_newCapacity_11 ?_
  refine x_top (y := nI (2 * mn)) (by rw [nx_shlN (by decide) (by omega), Nat.pow_one, Nat.mul_comm]) ?_
  refine lv_istore_n (lv' := [(3, .int (nI (2 * mn))), (2, .int (nI (2 * c0))), (0, .ref tb), (1, .int (nI mn))]) hx hb dJ3_newCapacity_12 rfl hl (by decide) rfl (fun ls hl => ?_)
  refine lv_iload_n hx hb dJ3_newCapacity_13 rfl (lv_at hl 0 rfl) ?_
  refine lv_iload_n hx hb dJ3_newCapacity_14 rfl (lv_at hl 1 rfl) ?_
  refine lv_isub hx hb dJ3_newCapacity_15 ?_
  refine x_top (y := nI (2 * mn - 2 * c0)) (sub_nI (by omega)) ?_
  refine lv_istore (lv' := [(4, .int (nI (2 * mn - 2 * c0))), (3, .int (nI (2 * mn))), (2, .int (nI (2 * c0))), (0, .ref tb), (1, .int (nI mn))]) hx hb dJ3_newCapacity_16 hl (by decide) rfl (fun ls hl => ?_)
  refine lv_iload_n hx hb dJ3_newCapacity_18 rfl (lv_at hl 2 rfl) ?_
  refine lv_iload hx hb dJ3_newCapacity_19 (lv_at hl 0 rfl) ?_
  refine lv_iload_n hx hb dJ3_newCapacity_21 rfl (lv_at hl 2 rfl) ?_
  refine lv_iconst (v := nI 2) hx hb dJ3_newCapacity_22 (by decide) ?_
  refine lv_aload_n hx hb dJ3_newCapacity_23 rfl (lv_at hl 3 rfl) ?_
  refine va_get (D := D) (ci := 10) (C := RJ4) (T := TJ4) (N := 4) hx hb hts in_J4 hown K hP 0 rfl rfl 1 (by decide) (hts _ q209) (fun _ h9 => h9) rfl dJ3_newCapacity_24 ?_
  refine lv_ishl hx hb dJ3_newCapacity_27 ?_
  refine x_top (y := nI 4) (by decide) ?_
  refine x_addN hx hb dJ3_newCapacity_28 ?_
  refine x_ret (va_runS (As := [.int (nI (2 * c0)), .int (nI (2 * mn - 2 * c0)), .int (nI ((2 * c0) + 4))]) (rest := []) S (xl_nl l (2 * c0) (2 * mn - 2 * c0) ((2 * c0) + 4) (by omega) (by omega)) (va_cwS 3 hts (lw_S q833 q318 q73 q319) rfl rfl rfl hdJ9_newLength ⟨Nat.le_of_ble_eq_true rfl, Nat.le_of_ble_eq_true rfl⟩) ⟨bb_blind tt_bl _, tt_pre _⟩ rfl rfl hl.1 rfl (lv_room (Nat.le_of_ble_eq_true rfl)) dJ3_newCapacity_29 ⟨Nat.le_refl _, Nat.le_refl _⟩) ?_
  refine lv_istore (lv' := [(5, .int (nI ((2 * c0) + max (2 * mn - 2 * c0) ((2 * c0) + 4)))), (4, .int (nI (2 * mn - 2 * c0))), (3, .int (nI (2 * mn))), (2, .int (nI (2 * c0))), (0, .ref tb), (1, .int (nI mn))]) hx hb dJ3_newCapacity_32 hl (by decide) rfl (fun ls hl => ?_)
  refine lv_iload hx hb dJ3_newCapacity_34 (lv_at hl 0 rfl) ?_
  refine lv_ldc (v := 2147483647) hx hb hown (hts _ q834) dJ3_newCapacity_36 ?_
  refine x_top (y := nI 2147483647) rfl ?_
  refine x_icmpn_ne (tgt := 51) hx hb dJ3_newCapacity_38 (by decide) (by omega) (by omega) (fun h => ?_) (fun h => absurd h (by omega))
  refine lv_iload hx hb dJ3_newCapacity_51 (lv_at hl 0 rfl) ?_
  refine lv_aload_n hx hb dJ3_newCapacity_53 rfl (lv_at hl 4 rfl) ?_
  refine va_get (D := D) (ci := 10) (C := RJ4) (T := TJ4) (N := 4) hx hb hts in_J4 hown K hP 0 rfl rfl 1 (by decide) (hts _ q209) (fun _ h9 => h9) rfl dJ3_newCapacity_54 ?_
  refine lv_ishr hx hb dJ3_newCapacity_57 ?_
  refine x_top (y := nI (2 * c0 + 2)) (by rw [nx_shr (by omega) (by decide), Nat.pow_one]; congr 1; omega) ?_
  exact x_iret hx hb hrt hlk rfl dJ3_newCapacity_58

set_option maxHeartbeats 4000000 in
theorem xt_ecN1 (l : Launch) (D : va_G) (dA : Nat → ClassId) (E : Nat) (ad : Nat → Nat) (sz0 mi : Nat) (tb tv : Nat) (mb : Int32) (ln c0 : Nat) (bt : Nat → Int32) (hc0 : 0 < c0 ∧ c0 ≤ 200) (mn : Nat) (hmn : mn ≤ c0) (hup : Up sz0 ([(tb, .inr (10, [.ref tv, .int (nI 1), .int mb, .int (nI ln)])), (tv, .inl (dA 2, 2 * c0, .inl bt))])) : EX l yJ3_ensureCapacityInternal cJ3_ensureCapacityInternal 3 none 3 120 1 900 [.ref tb, .int (nI mn)] (G1 D dA E ad sz0 mi) D ([(tb, .inr (10, [.ref tv, .int (nI 1), .int mb, .int (nI ln)])), (tv, .inl (dA 2, 2 * c0, .inl bt))]) (fun _ => True) (S := Unit) (fun _ _ => True) (fun _ => none) (fun _ => [(tb, .inr (10, [.ref tv, .int (nI 1), .int mb, .int (nI ln)])), (tv, .inl (dA 2, 2 * c0, .inl bt))]) := by
  refine ex_of (by decide) (Nat.le_of_ble_eq_true rfl) ?_
  intro p e s m below meth c A S hrt hlk hnm G hA hAe hΦ H locs hP hD hS ls hl
  obtain ⟨hx, hb, hml, hown, hts⟩ := id S
  have K := G.1.1
  have hA0 := up_A hup G.1.2.2.2.2.2.2 hAe
  have hP : va_P D vwCl [(tb, .inr (10, [.ref tv, .int (nI 1), .int mb, .int (nI ln)])), (tv, .inl (dA 2, 2 * c0, .inl bt))] H := hP
  have hD : va_D A [(tb, .inr (10, [.ref tv, .int (nI 1), .int mb, .int (nI ln)])), (tv, .inl (dA 2, 2 * c0, .inl bt))] := hD
  have hl : lv_has ls 3 [(0, .ref tb), (1, .int (nI mn))] := hl
  refine lv_aload_n hx hb dJ3_ensureCapacityInternal_0 rfl (lv_at hl 0 rfl) ?_
  refine va_get (D := D) (ci := 10) (C := RJ4) (T := TJ4) (N := 4) hx hb hts in_J4 hown K hP 0 rfl rfl 0 (by decide) (hts _ q208) (fun _ h9 => h9) rfl dJ3_ensureCapacityInternal_1 ?_
  refine va_alen (v := nI (2 * c0)) hx hb K hP 1 2 rfl rfl rfl dJ3_ensureCapacityInternal_4 ?_
  refine lv_aload_n hx hb dJ3_ensureCapacityInternal_5 rfl (lv_at hl 0 rfl) ?_
  refine va_get (D := D) (ci := 10) (C := RJ4) (T := TJ4) (N := 4) hx hb hts in_J4 hown K hP 0 rfl rfl 1 (by decide) (hts _ q209) (fun _ h9 => h9) rfl dJ3_ensureCapacityInternal_6 ?_
  refine lv_ishr hx hb dJ3_ensureCapacityInternal_9 ?_
  refine x_top (y := nI c0) (by rw [nx_shr (by omega) (by decide), Nat.pow_one]; congr 1; omega) ?_
  refine lv_istore_n (lv' := [(2, .int (nI c0)), (0, .ref tb), (1, .int (nI mn))]) hx hb dJ3_ensureCapacityInternal_10 rfl hl (by decide) rfl (fun ls hl => ?_)
  refine lv_iload_n hx hb dJ3_ensureCapacityInternal_11 rfl (lv_at hl 2 rfl) ?_
  refine lv_iload_n hx hb dJ3_ensureCapacityInternal_12 rfl (lv_at hl 0 rfl) ?_
  refine lv_isub hx hb dJ3_ensureCapacityInternal_13 ?_
  refine lv_if_le (tgt := 38) hx hb dJ3_ensureCapacityInternal_14 (by decide) (fun _ => ?_) (fun h => absurd (sub_le0 (by omega) (by omega)) h)
  exact x_evret () hx hb hrt hlk rfl trivial hP hD hS dJ3_ensureCapacityInternal_38 (Nat.le_of_ble_eq_true rfl) (Nat.le_of_ble_eq_true rfl)

set_option maxHeartbeats 4000000 in
theorem xt_ecG1 (l : Launch) (D : va_G) (dA : Nat → ClassId) (E : Nat) (ad : Nat → Nat) (sz0 mi : Nat) (tb tv : Nat) (mb : Int32) (ln c0 : Nat) (bt : Nat → Int32) (hc0 : 0 < c0 ∧ c0 ≤ 200) (mn : Nat) (hmn : mn = c0 + 1) (hby : ByOk bt) (hup : Up sz0 ([(tb, .inr (10, [.ref tv, .int (nI 1), .int mb, .int (nI ln)])), (tv, .inl (dA 2, 2 * c0, .inl bt))])) : EX l yJ3_ensureCapacityInternal cJ3_ensureCapacityInternal 3 none 3 120 1 900 [.ref tb, .int (nI mn)] (G1 D dA E ad sz0 mi) D ([(tb, .inr (10, [.ref tv, .int (nI 1), .int mb, .int (nI ln)])), (tv, .inl (dA 2, 2 * c0, .inl bt))]) (fun _ => True) (S := Nat) (fun _ _ => True) (fun _ => none) (fun u => [(tb, .inr (10, [.ref u, .int (nI 1), .int mb, .int (nI ln)])), (u, .inl (dA 2, 2 * (2 * c0 + 2), .inl (va_cpy bt (fun _ => 0) 0 0 (min (2 * c0) (2 * (2 * c0 + 2))))))]) := by
  refine ex_of (by decide) (Nat.le_of_ble_eq_true rfl) ?_
  intro p e s m below meth c A S hrt hlk hnm G hA hAe hΦ H locs hP hD hS ls hl
  obtain ⟨hx, hb, hml, hown, hts⟩ := id S
  have K := G.1.1
  have hA0 := up_A hup G.1.2.2.2.2.2.2 hAe
  have hP : va_P D vwCl [(tb, .inr (10, [.ref tv, .int (nI 1), .int mb, .int (nI ln)])), (tv, .inl (dA 2, 2 * c0, .inl bt))] H := hP
  have hD : va_D A [(tb, .inr (10, [.ref tv, .int (nI 1), .int mb, .int (nI ln)])), (tv, .inl (dA 2, 2 * c0, .inl bt))] := hD
  have hl : lv_has ls 3 [(0, .ref tb), (1, .int (nI mn))] := hl
  refine lv_aload_n hx hb dJ3_ensureCapacityInternal_0 rfl (lv_at hl 0 rfl) ?_
  refine va_get (D := D) (ci := 10) (C := RJ4) (T := TJ4) (N := 4) hx hb hts in_J4 hown K hP 0 rfl rfl 0 (by decide) (hts _ q208) (fun _ h9 => h9) rfl dJ3_ensureCapacityInternal_1 ?_
  refine va_alen (v := nI (2 * c0)) hx hb K hP 1 2 rfl rfl rfl dJ3_ensureCapacityInternal_4 ?_
  refine lv_aload_n hx hb dJ3_ensureCapacityInternal_5 rfl (lv_at hl 0 rfl) ?_
  refine va_get (D := D) (ci := 10) (C := RJ4) (T := TJ4) (N := 4) hx hb hts in_J4 hown K hP 0 rfl rfl 1 (by decide) (hts _ q209) (fun _ h9 => h9) rfl dJ3_ensureCapacityInternal_6 ?_
  refine lv_ishr hx hb dJ3_ensureCapacityInternal_9 ?_
  refine x_top (y := nI c0) (by rw [nx_shr (by omega) (by decide), Nat.pow_one]; congr 1; omega) ?_
  refine lv_istore_n (lv' := [(2, .int (nI c0)), (0, .ref tb), (1, .int (nI mn))]) hx hb dJ3_ensureCapacityInternal_10 rfl hl (by decide) rfl (fun ls hl => ?_)
  refine lv_iload_n hx hb dJ3_ensureCapacityInternal_11 rfl (lv_at hl 2 rfl) ?_
  refine lv_iload_n hx hb dJ3_ensureCapacityInternal_12 rfl (lv_at hl 0 rfl) ?_
  refine lv_isub hx hb dJ3_ensureCapacityInternal_13 ?_
  refine lv_if_le (tgt := 38) hx hb dJ3_ensureCapacityInternal_14 (by decide) (fun h => absurd h (by rw [sub_nI (by omega)]; exact Int32.not_le.mpr (show nI 0 < nI _ from nI_lt (by omega) (by omega)))) (fun _ => ?_)
  refine lv_aload_n hx hb dJ3_ensureCapacityInternal_17 rfl (lv_at hl 1 rfl) ?_
  refine lv_aload_n hx hb dJ3_ensureCapacityInternal_18 rfl (lv_at hl 1 rfl) ?_
  refine va_get (D := D) (ci := 10) (C := RJ4) (T := TJ4) (N := 4) hx hb hts in_J4 hown K hP 0 rfl rfl 0 (by decide) (hts _ q208) (fun _ h9 => h9) rfl dJ3_ensureCapacityInternal_19 ?_
  refine lv_aload_n hx hb dJ3_ensureCapacityInternal_22 rfl (lv_at hl 1 rfl) ?_
  refine lv_iload_n hx hb dJ3_ensureCapacityInternal_23 rfl (lv_at hl 2 rfl) ?_
  refine x_ret (va_runU (As := [.int (nI mn)]) (rest := [.ref tv, .ref tb]) S (xt_nc1 l D dA E ad sz0 mi tb tv mb ln c0 bt hc0 mn hmn) (va_cwP 1 hts (K.1 10 _ rfl).2.1 q829 q1377 (va_Nw.use rfl (G.1.2.1 _ q830 rfl)) q831 q65 q832 rfl rfl (by decide +kernel) ⟨Nat.le_of_ble_eq_true rfl, Nat.le_of_ble_eq_true rfl⟩) ⟨bb_blind g1_bl _, va_recv K hP (ci := 10) (q0 := 0) rfl rfl, bb_pre (g1_mv G (low_of hS hA0 G.1.2.2.2.2.2.2) hS.1) hP _⟩ rfl rfl hl.1 rfl (lv_room (Nat.le_of_ble_eq_true rfl)) dJ3_ensureCapacityInternal_24 ⟨Nat.le_of_ble_eq_true rfl, Nat.le_of_ble_eq_true rfl⟩) ?_
  refine lv_aload_n hx hb dJ3_ensureCapacityInternal_27 rfl (lv_at hl 1 rfl) ?_
  refine va_get (D := D) (ci := 10) (C := RJ4) (T := TJ4) (N := 4) hx hb hts in_J4 hown K hP 0 rfl rfl 1 (by decide) (hts _ q209) (fun _ h9 => h9) rfl dJ3_ensureCapacityInternal_28 ?_
  refine lv_ishl hx hb dJ3_ensureCapacityInternal_31 ?_
  refine x_top (y := nI (2 * (2 * c0 + 2))) (by rw [nx_shlN (by decide) (by omega), Nat.pow_one, Nat.mul_comm]) ?_
  refine x_ecall (wr := [(tb, .inr (10, [.ref tv, .int (nI 1), .int mb, .int (nI ln)]))]) (va_runS (As := [.ref tv, .int (nI (2 * (2 * c0 + 2)))]) (rest := [.ref tb]) S (xt_cp l D dA E ad sz0 mi tv (2 * c0) bt (2 * (2 * c0 + 2)) hby (by omega) (up_D hA0 (hD.sub [1] (by decide) rfl)) H.size) (va_cwS 2 hts (lw_S q835 q836 q71 q837) rfl rfl rfl hdJ7_copyOf_3 ⟨Nat.le_of_ble_eq_true rfl, Nat.le_of_ble_eq_true rfl⟩) ⟨pe_blind g1_bl _, pe_pre (g1_mv G (low_of hS hA0 G.1.2.2.2.2.2.2) hS.1) (hP.sub [1] rfl) (hD.sub [1] (by decide) rfl) trivial _⟩ rfl rfl hl.1 rfl (lv_room (Nat.le_of_ble_eq_true rfl)) dJ3_ensureCapacityInternal_32 ⟨Nat.le_of_ble_eq_true rfl, Nat.le_of_ble_eq_true rfl⟩) hP hD hS hA [1] [0] rfl rfl (by decide) (by decide) (fun t2 H locs hΨ hP hD hS hkp hsz hDn => ?_)
  have hP : va_P D vwCl [(tb, .inr (10, [.ref tv, .int (nI 1), .int mb, .int (nI ln)])), (tv, .inl (dA 2, 2 * c0, .inl bt)), (t2, .inl (dA 2, 2 * (2 * c0 + 2), .inl (va_cpy bt (fun _ => 0) 0 0 (min (2 * c0) (2 * (2 * c0 + 2))))))] H := hP
  have hD : va_D A [(tb, .inr (10, [.ref tv, .int (nI 1), .int mb, .int (nI ln)])), (tv, .inl (dA 2, 2 * c0, .inl bt)), (t2, .inl (dA 2, 2 * (2 * c0 + 2), .inl (va_cpy bt (fun _ => 0) 0 0 (min (2 * c0) (2 * (2 * c0 + 2))))))] := hD
  refine W.widen (k := 1) (n := 900) (Nat.le_of_ble_eq_true rfl) (Nat.le_of_ble_eq_true rfl) ?_
  refine va_put (D := D) (ci := 10) (v := .ref t2) (ty := .array .byte) (C := RJ4) (T := TJ4) (N := 4) hx hb hts in_J4 tyJ4 tyJ4_ok nmJ4 hown K hP hD hS 0 rfl rfl 0 (by decide) (hts _ q208) (fun _ h9 => h9) rfl (by decide +kernel) rfl rfl (Nat.le_of_ble_eq_true rfl) dJ3_ensureCapacityInternal_35 (fun H locs hP hD hS => ?_)
  have hP : va_P D vwCl [(tb, .inr (10, [.ref t2, .int (nI 1), .int mb, .int (nI ln)])), (tv, .inl (dA 2, 2 * c0, .inl bt)), (t2, .inl (dA 2, 2 * (2 * c0 + 2), .inl (va_cpy bt (fun _ => 0) 0 0 (min (2 * c0) (2 * (2 * c0 + 2))))))] H := hP
  have hD : va_D A [(tb, .inr (10, [.ref t2, .int (nI 1), .int mb, .int (nI ln)])), (tv, .inl (dA 2, 2 * c0, .inl bt)), (t2, .inl (dA 2, 2 * (2 * c0 + 2), .inl (va_cpy bt (fun _ => 0) 0 0 (min (2 * c0) (2 * (2 * c0 + 2))))))] := hD
  exact x_evret t2 hx hb hrt hlk rfl trivial (hP.sub [0, 2] rfl) (hD.sub [0, 2] (by decide) rfl) hS dJ3_ensureCapacityInternal_38 (Nat.le_of_ble_eq_true rfl) (Nat.le_of_ble_eq_true rfl)

set_option maxHeartbeats 4000000 in
theorem xt_put (l : Launch) (D : va_G) (dA : Nat → ClassId) (E : Nat) (ad : Nat → Nat) (sz0 mi : Nat) (tv cp : Nat) (bt : Nat → Int32) (hcp : cp < 2 ^ 20) (k0 x0 : Nat) (hk0 : 2 * k0 + 1 < cp) (hx0 : x0 < 65536) (hup : Up sz0 ([(tv, .inl (dA 2, cp, .inl bt))])) : EX l yJ6_putChar cJ6_putChar 3 none 0 0 0 0 [.ref tv, .int (nI k0), .int (nI x0)] (G1 D dA E ad sz0 mi) D ([(tv, .inl (dA 2, cp, .inl bt))]) (fun _ => True) (S := Unit) (fun _ _ => True) (fun _ => none) (fun _ => [(tv, .inl (dA 2, cp, .inl (put2 bt k0 x0)))]) := by
  refine ex_of (by decide) (Nat.le_of_ble_eq_true rfl) ?_
  intro p e s m below meth c A S hrt hlk hnm G hA hAe hΦ H locs hP hD hS ls hl
  obtain ⟨hx, hb, hml, hown, hts⟩ := id S
  have K := G.1.1
  have hA0 := up_A hup G.1.2.2.2.2.2.2 hAe
  have hP : va_P D vwCl [(tv, .inl (dA 2, cp, .inl bt))] H := hP
  have hD : va_D A [(tv, .inl (dA 2, cp, .inl bt))] := hD
  have hl : lv_has ls 3 [(0, .ref tv), (1, .int (nI k0)), (2, .int (nI x0))] := hl
  refine va_gets (A := fun q => sz0 ≤ q) hx hb G.1.2.2.2.2.1.2.2.2.2.2.2.1 (sS_mono hS hA0) hown (hts _ q707) (fun _ h9 => h9) dJ6_putChar_0 ?_
  refine x_top (y := nI 1) rfl ?_
  refine lv_if_ne (tgt := 28) hx hb dJ6_putChar_3 (by decide) (fun _ => ?_) (fun h => absurd h (by decide))
  refine lv_iload_n hx hb dJ6_putChar_28 rfl (lv_at hl 1 rfl) ?_
  refine lv_iconst (v := nI 1) hx hb dJ6_putChar_29 (by decide) ?_
  refine lv_ishl hx hb dJ6_putChar_30 ?_
  refine x_top (y := nI (2 * k0)) (by rw [nx_shlN (by decide) (by omega), Nat.pow_one, Nat.mul_comm]) ?_
  refine lv_istore_n (lv' := [(1, .int (nI (2 * k0))), (0, .ref tv), (2, .int (nI x0))]) hx hb dJ6_putChar_31 rfl hl (by decide) rfl (fun ls hl => ?_)
  refine lv_aload_n hx hb dJ6_putChar_32 rfl (lv_at hl 1 rfl) ?_
  refine lv_iload_n hx hb dJ6_putChar_33 rfl (lv_at hl 0 rfl) ?_
  refine lv_iinc (v := nI ((2 * k0) + 1)) (lv' := [(1, .int (nI ((2 * k0) + 1))), (0, .ref tv), (2, .int (nI x0))]) hx hb dJ6_putChar_34 hl (k := 0) rfl (nI_1 (2 * k0)) (by decide) rfl (fun ls hl => ?_)
  refine lv_iload_n hx hb dJ6_putChar_37 rfl (lv_at hl 2 rfl) ?_
  refine va_gets (A := fun q => sz0 ≤ q) hx hb G.1.2.2.2.2.1.2.2.2.2.1 (sS_mono hS hA0) hown (hts _ q712) (fun _ h9 => h9) dJ6_putChar_38 ?_
  refine x_top (y := nI 0) rfl ?_
  refine lv_ishr hx hb dJ6_putChar_41 ?_
  refine lv_i2b (v := sb (x0 % 256)) hx hb dJ6_putChar_42 (hi_b hx0) ?_
  refine x_bast hx hb K hP hD hS 0 rfl (2 * k0) rfl (by omega) (by omega) (sb_nar _ (by omega)) dJ6_putChar_43 (fun H locs hP hD hS => ?_)
  have hP : va_P D vwCl [(tv, .inl (dA 2, cp, .inl (upd bt (2 * k0) (sb (x0 % 256)))))] H := hP
  have hD : va_D A [(tv, .inl (dA 2, cp, .inl (upd bt (2 * k0) (sb (x0 % 256)))))] := hD
  refine lv_aload_n hx hb dJ6_putChar_44 rfl (lv_at hl 1 rfl) ?_
  refine lv_iload_n hx hb dJ6_putChar_45 rfl (lv_at hl 0 rfl) ?_
  refine lv_iload_n hx hb dJ6_putChar_46 rfl (lv_at hl 2 rfl) ?_
  refine va_gets (A := fun q => sz0 ≤ q) hx hb G.1.2.2.2.2.1.2.2.2.2.2.1 (sS_mono hS hA0) hown (hts _ q714) (fun _ h9 => h9) dJ6_putChar_47 ?_
  refine x_top (y := nI 8) rfl ?_
  refine lv_ishr hx hb dJ6_putChar_50 ?_
  refine lv_i2b (v := sb (x0 / 256)) hx hb dJ6_putChar_51 (lo_b hx0) ?_
  refine x_bast hx hb K hP hD hS 0 rfl ((2 * k0) + 1) rfl (by omega) (by omega) (sb_nar _ (by omega)) dJ6_putChar_52 (fun H locs hP hD hS => ?_)
  have hP : va_P D vwCl [(tv, .inl (dA 2, cp, .inl (upd (upd bt (2 * k0) (sb (x0 % 256))) ((2 * k0) + 1) (sb (x0 / 256)))))] H := hP
  have hD : va_D A [(tv, .inl (dA 2, cp, .inl (upd (upd bt (2 * k0) (sb (x0 % 256))) ((2 * k0) + 1) (sb (x0 / 256)))))] := hD
  exact x_evret () hx hb hrt hlk rfl trivial hP hD hS dJ6_putChar_53 (Nat.le_of_ble_eq_true rfl) (Nat.le_of_ble_eq_true rfl)

set_option maxHeartbeats 4000000 in
theorem xt_psb (l : Launch) (D : va_G) (dA : Nat → ClassId) (E : Nat) (ad : Nat → Nat) (sz0 mi : Nat) (tv cp : Nat) (bt : Nat → Int32) (hcp : cp < 2 ^ 20) (k0 x0 : Nat) (hk0 : 2 * k0 + 1 < cp) (hx0 : x0 < 65536) (hup : Up sz0 ([(tv, .inl (dA 2, cp, .inl bt))])) : EX l yJ6_putCharSB cJ6_putCharSB 3 none 3 120 0 0 [.ref tv, .int (nI k0), .int (nI x0)] (G1 D dA E ad sz0 mi) D ([(tv, .inl (dA 2, cp, .inl bt))]) (fun _ => True) (S := Unit) (fun _ _ => True) (fun _ => none) (fun _ => [(tv, .inl (dA 2, cp, .inl (put2 bt k0 x0)))]) := by
  refine ex_of (by decide) (Nat.le_of_ble_eq_true rfl) ?_
  intro p e s m below meth c A S hrt hlk hnm G hA hAe hΦ H locs hP hD hS ls hl
  obtain ⟨hx, hb, hml, hown, hts⟩ := id S
  have K := G.1.1
  have hA0 := up_A hup G.1.2.2.2.2.2.2 hAe
  have hP : va_P D vwCl [(tv, .inl (dA 2, cp, .inl bt))] H := hP
  have hD : va_D A [(tv, .inl (dA 2, cp, .inl bt))] := hD
  have hl : lv_has ls 3 [(0, .ref tv), (1, .int (nI k0)), (2, .int (nI x0))] := hl
  refine lv_iload_n hx hb dJ6_putCharSB_0 rfl (lv_at hl 1 rfl) ?_
  refine lv_aload_n hx hb dJ6_putCharSB_1 rfl (lv_at hl 0 rfl) ?_
  refine x_retv (va_runS (As := [.int (nI k0), .ref tv]) (rest := []) S (xt_uci l D dA E ad sz0 mi tv cp bt (by omega) k0 (by omega)) (va_cwS 2 hts (lw_S q878 q879 q68 q880) rfl rfl rfl hdJ6_checkIndex ⟨Nat.le_of_ble_eq_true rfl, Nat.le_of_ble_eq_true rfl⟩) ⟨bb_blind g1_bl _, bb_pre (g1_mv G (low_of hS hA0 G.1.2.2.2.2.2.2) hS.1) hP _⟩ rfl rfl hl.1 rfl (lv_room (Nat.le_of_ble_eq_true rfl)) dJ6_putCharSB_2 ⟨Nat.le_of_ble_eq_true rfl, Nat.le_of_ble_eq_true rfl⟩) ?_
  refine lv_aload_n hx hb dJ6_putCharSB_5 rfl (lv_at hl 0 rfl) ?_
  refine lv_iload_n hx hb dJ6_putCharSB_6 rfl (lv_at hl 1 rfl) ?_
  refine lv_iload_n hx hb dJ6_putCharSB_7 rfl (lv_at hl 2 rfl) ?_
  refine x_ecall (wr := []) (va_runS (As := [.ref tv, .int (nI k0), .int (nI x0)]) (rest := []) S (xt_put l D dA E ad sz0 mi tv cp bt (by omega) k0 x0 (by omega) hx0 (up_D hA0 hD) H.size) (va_cwS 3 hts (lw_S q872 q873 q68 q874) rfl rfl rfl hdJ6_putChar ⟨Nat.le_of_ble_eq_true rfl, Nat.le_of_ble_eq_true rfl⟩) ⟨pe_blind g1_bl _, pe_pre (g1_mv G (low_of hS hA0 G.1.2.2.2.2.2.2) hS.1) hP hD trivial _⟩ rfl rfl hl.1 rfl (lv_room (Nat.le_of_ble_eq_true rfl)) dJ6_putCharSB_8 ⟨Nat.le_of_ble_eq_true rfl, Nat.le_of_ble_eq_true rfl⟩) hP hD hS hA [0] [] rfl rfl (by decide) (by decide) (fun _u H locs hΨ hP hD hS hkp hsz hDn => ?_)
  have hP : va_P D vwCl [(tv, .inl (dA 2, cp, .inl (put2 bt k0 x0)))] H := hP
  have hD : va_D A [(tv, .inl (dA 2, cp, .inl (put2 bt k0 x0)))] := hD
  refine W.widen (k := 0) (n := 0) (Nat.le_of_ble_eq_true rfl) (Nat.le_of_ble_eq_true rfl) ?_
  exact x_evret () hx hb hrt hlk rfl trivial hP hD hS dJ6_putCharSB_11 (Nat.le_of_ble_eq_true rfl) (Nat.le_of_ble_eq_true rfl)

set_option maxHeartbeats 4000000 in
theorem xt_nbf (l : Launch) (D : va_G) (dA : Nat → ClassId) (E : Nat) (ad : Nat → Nat) (sz0 mi : Nat) (k0 : Nat) (hk0 : k0 ≤ 400) (hup : Up sz0 ([])) : EX l yJ6_newBytesFor cJ6_newBytesFor 1 (some (FieldType.array FieldType.byte)) 1 40 1 900 [.int (nI k0)] (G1 D dA E ad sz0 mi) D ([]) (fun _ => True) (S := Nat) (fun _ _ => True) (fun u => some (.ref u)) (fun u => [(u, .inl (dA 2, 2 * k0, .inl (fun _ => 0)))]) := by
  refine ex_of (by decide) (Nat.le_of_ble_eq_true rfl) ?_
  intro p e s m below meth c A S hrt hlk hnm G hA hAe hΦ H locs hP hD hS ls hl
  obtain ⟨hx, hb, hml, hown, hts⟩ := id S
  have K := G.1.1
  have hA0 := up_A hup G.1.2.2.2.2.2.2 hAe
  have hP : va_P D vwCl [] H := hP
  have hD : va_D A [] := hD
  have hl : lv_has ls 1 [(0, .int (nI k0))] := hl
  refine lv_iload_n hx hb dJ6_newBytesFor_0 rfl (lv_at hl 0 rfl) ?_
  refine x_ret (va_runS (As := [.int (nI k0)]) (rest := []) S (xt_nbl l k0 (by omega)) (va_cwS 1 hts (lw_S q204 q205 q68 q206) rfl rfl rfl hdJ6_newBytesLength ⟨Nat.le_of_ble_eq_true rfl, Nat.le_of_ble_eq_true rfl⟩) ⟨bb_blind tt_bl _, tt_pre _⟩ rfl rfl hl.1 rfl (lv_room (Nat.le_of_ble_eq_true rfl)) dJ6_newBytesFor_1 ⟨Nat.le_of_ble_eq_true rfl, Nat.le_of_ble_eq_true rfl⟩) ?_
  refine x_newb (N := 2 * k0) hx hb (hts _ q221) K hP hD hS hA (by omega) (Nat.le_of_ble_eq_true rfl) (by show _ + _ ≤ 900; omega) dJ6_newBytesFor_4 (fun t2 H hP hD hS => ?_)
  have hP : va_P D vwCl [(t2, .inl (dA 2, 2 * k0, .inl (fun _ => 0)))] H := hP
  have hD : va_D A [(t2, .inl (dA 2, 2 * k0, .inl (fun _ => 0)))] := hD
  refine W.widen (k := 1) (n := 900) (Nat.le_of_ble_eq_true rfl) (by show _ + _ ≤ 900; omega) ?_
  exact x_earet t2 hx hb hrt (Or.inr ⟨_, rfl⟩) hlk rfl trivial hP hD hS dJ6_newBytesFor_6 (Nat.le_of_ble_eq_true rfl) (Nat.le_of_ble_eq_true rfl)

set_option maxHeartbeats 4000000 in
theorem xt_uin (l : Launch) (D : va_G) (dA : Nat → ClassId) (E : Nat) (ad : Nat → Nat) (sz0 mi : Nat) (tv t2 ln c0 : Nat) (bt : Nat → Int32) (hc0 : 0 < c0 ∧ c0 ≤ 200) (ch : Nat → Nat) (htx : Tx0 bt ch ln) (hln : ln ≤ c0) (hup : Up sz0 ([(tv, .inl (dA 2, c0, .inl bt)), (t2, .inl (dA 2, 2 * c0, .inl (fun _ => 0)))])) : EX l yJ6_inflate cJ6_inflate 6 none 3 120 0 0 [.ref tv, .int (nI 0), .ref t2, .int (nI 0), .int (nI ln)] (G1 D dA E ad sz0 mi) D ([(tv, .inl (dA 2, c0, .inl bt)), (t2, .inl (dA 2, 2 * c0, .inl (fun _ => 0)))]) (fun _ => True) (S := Unit) (fun _ _ => True) (fun _ => none) (fun _ => [(tv, .inl (dA 2, c0, .inl bt)), (t2, .inl (dA 2, 2 * c0, .inl (iter (fun k g => put2 g k (ch k)) ln 0 (fun _ => 0))))]) := by
  refine ex_of (by decide) (Nat.le_of_ble_eq_true rfl) ?_
  intro p e s m below meth c A S hrt hlk hnm G hA hAe hΦ H locs hP hD hS ls hl
  obtain ⟨hx, hb, hml, hown, hts⟩ := id S
  have K := G.1.1
  have hA0 := up_A hup G.1.2.2.2.2.2.2 hAe
  have hP : va_P D vwCl [(tv, .inl (dA 2, c0, .inl bt)), (t2, .inl (dA 2, 2 * c0, .inl (fun _ => 0)))] H := hP
  have hD : va_D A [(tv, .inl (dA 2, c0, .inl bt)), (t2, .inl (dA 2, 2 * c0, .inl (fun _ => 0)))] := hD
  have hl : lv_has ls 6 [(0, .ref tv), (1, .int (nI 0)), (2, .ref t2), (3, .int (nI 0)), (4, .int (nI ln))] := hl
  refine lv_iload_n hx hb dJ6_inflate_0 rfl (lv_at hl 3 rfl) ?_
  refine lv_iload hx hb dJ6_inflate_1 (lv_at hl 4 rfl) ?_
  refine lv_aload_n hx hb dJ6_inflate_3 rfl (lv_at hl 2 rfl) ?_
  refine x_retv (va_runS (As := [.int (nI 0), .int (nI ln), .ref t2]) (rest := []) S (xt_ucb l D dA E ad sz0 mi t2 (2 * c0) (fun _ => 0) (by omega) ln (by omega)) (va_cwS 3 hts (lw_S q863 q864 q68 q865) rfl rfl rfl hdJ6_checkBoundsOffCount ⟨Nat.le_of_ble_eq_true rfl, Nat.le_of_ble_eq_true rfl⟩) ⟨bb_blind g1_bl _, bb_pre (g1_mv G (low_of hS hA0 G.1.2.2.2.2.2.2) hS.1) (hP.sub [1] rfl) _⟩ rfl rfl hl.1 rfl (lv_room (Nat.le_of_ble_eq_true rfl)) dJ6_inflate_4 ⟨Nat.le_of_ble_eq_true rfl, Nat.le_of_ble_eq_true rfl⟩) ?_
  refine lv_iconst (v := nI 0) hx hb dJ6_inflate_7 (by decide) ?_
  refine lv_istore (lv' := [(5, .int (nI 0)), (0, .ref tv), (1, .int (nI 0)), (2, .ref t2), (3, .int (nI 0)), (4, .int (nI ln))]) hx hb dJ6_inflate_8 hl (by decide) rfl (fun ls hl => ?_)
  refine lpW (fun k g => put2 g k (ch k)) (fun _ => 0) ln (fun k g ls H locs => lv_has ls 6 [(0, .ref tv), (1, .int (nI k)), (2, .ref t2), (3, .int (nI k)), (4, .int (nI ln)), (5, .int (nI k))] ∧ va_P D vwCl [(tv, .inl (dA 2, c0, .inl bt)), (t2, .inl (dA 2, 2 * c0, .inl g))] H ∧ va_D A [(tv, .inl (dA 2, c0, .inl bt)), (t2, .inl (dA 2, 2 * c0, .inl g))] ∧ va_S A s.heap H locs) (fun ls H locs => W p l e (rmW 3 120 0 0) s m ([.ref tv, .int (nI 0), .ref t2, .int (nI 0), .int (nI ln)]).toArray below meth c H locs 0 0 (MQ below (QE (S := Unit) (fun _ _ => True) (fun _ => none) D (fun _ => [(tv, .inl (dA 2, c0, .inl bt)), (t2, .inl (dA 2, 2 * c0, .inl (iter (fun k g => put2 g k (ch k)) ln 0 (fun _ => 0))))]) A) ([.ref tv, .int (nI 0), .ref t2, .int (nI 0), .int (nI ln)]).toArray s 0 0 A) (F0 m 10 ls [])) ?_ ?_ ls H locs ⟨lv_sub hl [1, 2, 3, 4, 5, 0] rfl, hP, hD, hS⟩
  · intro k ls H locs hk_1 hI ih
    generalize iter (fun k g => put2 g k (ch k)) k 0 (fun _ => 0) = g at *
    obtain ⟨hl, hP, hD, hS⟩ := hI
    have hl : lv_has ls 6 [(0, .ref tv), (1, .int (nI k)), (2, .ref t2), (3, .int (nI k)), (4, .int (nI ln)), (5, .int (nI k))] := hl
    have hP : va_P D vwCl [(tv, .inl (dA 2, c0, .inl bt)), (t2, .inl (dA 2, 2 * c0, .inl g))] H := hP
    have hD : va_D A [(tv, .inl (dA 2, c0, .inl bt)), (t2, .inl (dA 2, 2 * c0, .inl g))] := hD
    show W p l e (rmW 3 120 0 0) s m ([.ref tv, .int (nI 0), .ref t2, .int (nI 0), .int (nI ln)]).toArray below meth c H locs 0 0 (MQ below (QE (S := Unit) (fun _ _ => True) (fun _ => none) D (fun _ => [(tv, .inl (dA 2, c0, .inl bt)), (t2, .inl (dA 2, 2 * c0, .inl (iter (fun k g => put2 g k (ch k)) ln 0 (fun _ => 0))))]) A) ([.ref tv, .int (nI 0), .ref t2, .int (nI 0), .int (nI ln)]).toArray s 0 0 A) (F0 m 10 ls [])
    refine lv_iload hx hb dJ6_inflate_10 (lv_at hl 5 rfl) ?_
    refine lv_iload hx hb dJ6_inflate_12 (lv_at hl 4 rfl) ?_
    refine lv_icmp_ge (tgt := 41) hx hb dJ6_inflate_14 (by decide) (fun h => absurd h (nI_ge hk_1 (by omega))) (fun _ => ?_)
    refine lv_aload_n hx hb dJ6_inflate_17 rfl (lv_at hl 2 rfl) ?_
    refine lv_iload_n hx hb dJ6_inflate_18 rfl (lv_at hl 3 rfl) ?_
    refine lv_iinc (v := nI (k + 1)) (lv' := [(3, .int (nI (k + 1))), (0, .ref tv), (1, .int (nI k)), (2, .ref t2), (4, .int (nI ln)), (5, .int (nI k))]) hx hb dJ6_inflate_19 hl (k := 3) rfl (nI_1 k) (by decide) rfl (fun ls hl => ?_)
    refine lv_aload_n hx hb dJ6_inflate_22 rfl (lv_at hl 1 rfl) ?_
    refine lv_iload_n hx hb dJ6_inflate_23 rfl (lv_at hl 2 rfl) ?_
    refine lv_iinc (v := nI (k + 1)) (lv' := [(1, .int (nI (k + 1))), (3, .int (nI (k + 1))), (0, .ref tv), (2, .ref t2), (4, .int (nI ln)), (5, .int (nI k))]) hx hb dJ6_inflate_24 hl (k := 2) rfl (nI_1 k) (by decide) rfl (fun ls hl => ?_)
    refine x_bald (v := sb (ch k)) hx hb K hP 0 rfl k rfl (by omega) (by omega) (htx.2 k (by omega)).2 dJ6_inflate_27 ?_
    refine lv_sipush (v := nI 255) hx hb dJ6_inflate_28 (by decide) ?_
    refine lv_iand hx hb dJ6_inflate_31 ?_
    refine x_top (y := nI (ch k)) (sb_and _ (htx.2 k (by omega)).1) ?_
    refine x_ecall (wr := [(tv, .inl (dA 2, c0, .inl bt))]) (va_runS (As := [.ref t2, .int (nI k), .int (nI (ch k))]) (rest := []) S (xt_put l D dA E ad sz0 mi t2 (2 * c0) g (by omega) k (ch k) (by omega) (by have := (htx.2 k (by omega)).1; omega) (up_D hA0 (hD.sub [1] (by decide) rfl)) H.size) (va_cwS 3 hts (lw_S q872 q873 q68 q874) rfl rfl rfl hdJ6_putChar ⟨Nat.le_of_ble_eq_true rfl, Nat.le_of_ble_eq_true rfl⟩) ⟨pe_blind g1_bl _, pe_pre (g1_mv G (low_of hS hA0 G.1.2.2.2.2.2.2) hS.1) (hP.sub [1] rfl) (hD.sub [1] (by decide) rfl) trivial _⟩ rfl rfl hl.1 rfl (lv_room (Nat.le_of_ble_eq_true rfl)) dJ6_inflate_32 ⟨Nat.le_of_ble_eq_true rfl, Nat.le_of_ble_eq_true rfl⟩) hP hD hS hA [1] [0] rfl rfl (by decide) (by decide) (fun _u H locs hΨ hP hD hS hkp hsz hDn => ?_)
    have hP : va_P D vwCl [(tv, .inl (dA 2, c0, .inl bt)), (t2, .inl (dA 2, 2 * c0, .inl (put2 g k (ch k))))] H := hP
    have hD : va_D A [(tv, .inl (dA 2, c0, .inl bt)), (t2, .inl (dA 2, 2 * c0, .inl (put2 g k (ch k))))] := hD
    refine W.widen (k := 0) (n := 0) (Nat.le_of_ble_eq_true rfl) (Nat.le_of_ble_eq_true rfl) ?_
    refine lv_iinc (v := nI (k + 1)) (lv' := [(5, .int (nI (k + 1))), (1, .int (nI (k + 1))), (3, .int (nI (k + 1))), (0, .ref tv), (2, .ref t2), (4, .int (nI ln))]) hx hb dJ6_inflate_35 hl (k := 5) rfl (nI_1 k) (by decide) rfl (fun ls hl => ?_)
    refine lv_goto (tgt := 10) hx hb dJ6_inflate_38 (by decide) ?_
    refine ih ls H locs ⟨?_, hP, hD, hS⟩
    show lv_has ls 6 [(0, .ref tv), (1, .int (nI (k + 1))), (2, .ref t2), (3, .int (nI (k + 1))), (4, .int (nI ln)), (5, .int (nI (k + 1)))]
    exact lv_sub hl [3, 1, 4, 2, 5, 0] rfl
  · intro ls H locs hI
    obtain ⟨hl, hP, hD, hS⟩ := hI
    have hl : lv_has ls 6 [(0, .ref tv), (1, .int (nI ln)), (2, .ref t2), (3, .int (nI ln)), (4, .int (nI ln)), (5, .int (nI ln))] := hl
    have hP : va_P D vwCl [(tv, .inl (dA 2, c0, .inl bt)), (t2, .inl (dA 2, 2 * c0, .inl (iter (fun k g => put2 g k (ch k)) ln 0 (fun _ => 0))))] H := hP
    have hD : va_D A [(tv, .inl (dA 2, c0, .inl bt)), (t2, .inl (dA 2, 2 * c0, .inl (iter (fun k g => put2 g k (ch k)) ln 0 (fun _ => 0))))] := hD
    show W p l e (rmW 3 120 0 0) s m ([.ref tv, .int (nI 0), .ref t2, .int (nI 0), .int (nI ln)]).toArray below meth c H locs 0 0 (MQ below (QE (S := Unit) (fun _ _ => True) (fun _ => none) D (fun _ => [(tv, .inl (dA 2, c0, .inl bt)), (t2, .inl (dA 2, 2 * c0, .inl (iter (fun k g => put2 g k (ch k)) ln 0 (fun _ => 0))))]) A) ([.ref tv, .int (nI 0), .ref t2, .int (nI 0), .int (nI ln)]).toArray s 0 0 A) (F0 m 10 ls [])
    refine lv_iload hx hb dJ6_inflate_10 (lv_at hl 5 rfl) ?_
    refine lv_iload hx hb dJ6_inflate_12 (lv_at hl 4 rfl) ?_
    refine lv_icmp_ge (tgt := 41) hx hb dJ6_inflate_14 (by decide) (fun _ => ?_) (fun h => absurd (nI_le (by omega) (by omega)) h)
    exact x_evret () hx hb hrt hlk rfl trivial hP hD hS dJ6_inflate_41 (Nat.le_of_ble_eq_true rfl) (Nat.le_of_ble_eq_true rfl)

set_option maxHeartbeats 4000000 in
theorem xt_lin (l : Launch) (D : va_G) (dA : Nat → ClassId) (E : Nat) (ad : Nat → Nat) (sz0 mi : Nat) (tv t2 ln c0 : Nat) (bt : Nat → Int32) (hc0 : 0 < c0 ∧ c0 ≤ 200) (ch : Nat → Nat) (htx : Tx0 bt ch ln) (hln : ln ≤ c0) (hup : Up sz0 ([(tv, .inl (dA 2, c0, .inl bt)), (t2, .inl (dA 2, 2 * c0, .inl (fun _ => 0)))])) : EX l yJ16_inflate cJ16_inflate 5 none 4 160 0 0 [.ref tv, .int (nI 0), .ref t2, .int (nI 0), .int (nI ln)] (G1 D dA E ad sz0 mi) D ([(tv, .inl (dA 2, c0, .inl bt)), (t2, .inl (dA 2, 2 * c0, .inl (fun _ => 0)))]) (fun _ => True) (S := Unit) (fun _ _ => True) (fun _ => none) (fun _ => [(tv, .inl (dA 2, c0, .inl bt)), (t2, .inl (dA 2, 2 * c0, .inl (iter (fun k g => put2 g k (ch k)) ln 0 (fun _ => 0))))]) := by
  refine ex_of (by decide) (Nat.le_of_ble_eq_true rfl) ?_
  intro p e s m below meth c A S hrt hlk hnm G hA hAe hΦ H locs hP hD hS ls hl
  obtain ⟨hx, hb, hml, hown, hts⟩ := id S
  have K := G.1.1
  have hA0 := up_A hup G.1.2.2.2.2.2.2 hAe
  have hP : va_P D vwCl [(tv, .inl (dA 2, c0, .inl bt)), (t2, .inl (dA 2, 2 * c0, .inl (fun _ => 0)))] H := hP
  have hD : va_D A [(tv, .inl (dA 2, c0, .inl bt)), (t2, .inl (dA 2, 2 * c0, .inl (fun _ => 0)))] := hD
  have hl : lv_has ls 5 [(0, .ref tv), (1, .int (nI 0)), (2, .ref t2), (3, .int (nI 0)), (4, .int (nI ln))] := hl
  refine lv_aload_n hx hb dJ16_inflate_0 rfl (lv_at hl 0 rfl) ?_
  refine lv_iload_n hx hb dJ16_inflate_1 rfl (lv_at hl 1 rfl) ?_
  refine lv_aload_n hx hb dJ16_inflate_2 rfl (lv_at hl 2 rfl) ?_
  refine lv_iload_n hx hb dJ16_inflate_3 rfl (lv_at hl 3 rfl) ?_
  refine lv_iload hx hb dJ16_inflate_4 (lv_at hl 4 rfl) ?_
  refine x_ecall (wr := []) (va_runS (As := [.ref tv, .int (nI 0), .ref t2, .int (nI 0), .int (nI ln)]) (rest := []) S (xt_uin l D dA E ad sz0 mi tv t2 ln c0 bt hc0 ch htx hln (up_D hA0 hD) H.size) (va_cwS 5 hts (lw_S q860 q861 q68 q862) rfl rfl rfl hdJ6_inflate ⟨Nat.le_of_ble_eq_true rfl, Nat.le_of_ble_eq_true rfl⟩) ⟨pe_blind g1_bl _, pe_pre (g1_mv G (low_of hS hA0 G.1.2.2.2.2.2.2) hS.1) hP hD trivial _⟩ rfl rfl hl.1 rfl (lv_room (Nat.le_of_ble_eq_true rfl)) dJ16_inflate_6 ⟨Nat.le_of_ble_eq_true rfl, Nat.le_of_ble_eq_true rfl⟩) hP hD hS hA [0, 1] [] rfl rfl (by decide) (by decide) (fun _u H locs hΨ hP hD hS hkp hsz hDn => ?_)
  have hP : va_P D vwCl [(tv, .inl (dA 2, c0, .inl bt)), (t2, .inl (dA 2, 2 * c0, .inl (iter (fun k g => put2 g k (ch k)) ln 0 (fun _ => 0))))] H := hP
  have hD : va_D A [(tv, .inl (dA 2, c0, .inl bt)), (t2, .inl (dA 2, 2 * c0, .inl (iter (fun k g => put2 g k (ch k)) ln 0 (fun _ => 0))))] := hD
  refine W.widen (k := 0) (n := 0) (Nat.le_of_ble_eq_true rfl) (Nat.le_of_ble_eq_true rfl) ?_
  exact x_evret () hx hb hrt hlk rfl trivial hP hD hS dJ16_inflate_9 (Nat.le_of_ble_eq_true rfl) (Nat.le_of_ble_eq_true rfl)

set_option maxHeartbeats 4000000 in
theorem xt_inf (l : Launch) (D : va_G) (dA : Nat → ClassId) (E : Nat) (ad : Nat → Nat) (sz0 mi : Nat) (tb tv : Nat) (mb : Int32) (ln c0 : Nat) (bt : Nat → Int32) (hc0 : 0 < c0 ∧ c0 ≤ 200) (ch : Nat → Nat) (htx : Tx0 bt ch ln) (hln : ln ≤ c0) (hup : Up sz0 ([(tb, .inr (10, [.ref tv, .int (nI 0), .int mb, .int (nI ln)])), (tv, .inl (dA 2, c0, .inl bt))])) : EX l yJ3_inflate cJ3_inflate 2 none 5 200 1 900 [.ref tb] (G1 D dA E ad sz0 mi) D ([(tb, .inr (10, [.ref tv, .int (nI 0), .int mb, .int (nI ln)])), (tv, .inl (dA 2, c0, .inl bt))]) (fun _ => True) (S := Nat) (fun _ _ => True) (fun _ => none) (fun u => [(tb, .inr (10, [.ref u, .int (nI 1), .int mb, .int (nI ln)])), (u, .inl (dA 2, 2 * c0, .inl (iter (fun k g => put2 g k (ch k)) ln 0 (fun _ => 0))))]) := by
  refine ex_of (by decide) (Nat.le_of_ble_eq_true rfl) ?_
  intro p e s m below meth c A S hrt hlk hnm G hA hAe hΦ H locs hP hD hS ls hl
  obtain ⟨hx, hb, hml, hown, hts⟩ := id S
  have K := G.1.1
  have hA0 := up_A hup G.1.2.2.2.2.2.2 hAe
  have hP : va_P D vwCl [(tb, .inr (10, [.ref tv, .int (nI 0), .int mb, .int (nI ln)])), (tv, .inl (dA 2, c0, .inl bt))] H := hP
  have hD : va_D A [(tb, .inr (10, [.ref tv, .int (nI 0), .int mb, .int (nI ln)])), (tv, .inl (dA 2, c0, .inl bt))] := hD
  have hl : lv_has ls 2 [(0, .ref tb)] := hl
  refine lv_aload_n hx hb dJ3_inflate_0 rfl (lv_at hl 0 rfl) ?_
  refine x_ret (va_runU (As := []) (rest := []) S (xt_isL0 l D dA E ad sz0 mi tb tv mb ln) (va_cwU 0 hts (lw_U (x := ⟨"java/lang/AbstractStringBuilder", "isLatin1", "()Z"⟩) (owner := "java/lang/AbstractStringBuilder") q845 q847 q848 q846 q65 q849) rfl rfl rfl rfl (by decide +kernel) ⟨Nat.le_of_ble_eq_true rfl, Nat.le_of_ble_eq_true rfl⟩) ⟨bb_blind g1_bl _, va_recv K hP (ci := 10) (q0 := 0) rfl rfl, bb_pre (g1_mv G (low_of hS hA0 G.1.2.2.2.2.2.2) hS.1) (hP.sub [0] rfl) _⟩ rfl rfl hl.1 rfl (lv_room (Nat.le_of_ble_eq_true rfl)) dJ3_inflate_1 ⟨Nat.le_of_ble_eq_true rfl, Nat.le_of_ble_eq_true rfl⟩) ?_
  refine x_ifb_ne (tgt := 8) hx hb dJ3_inflate_4 (by decide) (fun _ => ?_) (fun h => by cases h)
  refine lv_aload_n hx hb dJ3_inflate_8 rfl (lv_at hl 0 rfl) ?_
  refine va_get (D := D) (ci := 10) (C := RJ4) (T := TJ4) (N := 4) hx hb hts in_J4 hown K hP 0 rfl rfl 0 (by decide) (hts _ q208) (fun _ h9 => h9) rfl dJ3_inflate_9 ?_
  refine va_alen (v := nI c0) hx hb K hP 1 2 rfl rfl rfl dJ3_inflate_12 ?_
  refine x_ecall (wr := [(tb, .inr (10, [.ref tv, .int (nI 0), .int mb, .int (nI ln)])), (tv, .inl (dA 2, c0, .inl bt))]) (va_runS (As := [.int (nI c0)]) (rest := []) S (xt_nbf l D dA E ad sz0 mi c0 (by omega) (fun _ h => by cases h) H.size) (va_cwS 1 hts (lw_S q201 q202 q68 q203) rfl rfl rfl hdJ6_newBytesFor ⟨Nat.le_of_ble_eq_true rfl, Nat.le_of_ble_eq_true rfl⟩) ⟨pe_blind g1_bl _, pe_pre (g1_mv G (low_of hS hA0 G.1.2.2.2.2.2.2) hS.1) (hP.sub [] rfl) (hD.sub [] (by decide) rfl) trivial _⟩ rfl rfl hl.1 rfl (lv_room (Nat.le_of_ble_eq_true rfl)) dJ3_inflate_13 ⟨Nat.le_of_ble_eq_true rfl, Nat.le_of_ble_eq_true rfl⟩) hP hD hS hA [] [0, 1] rfl rfl (by decide) (by decide) (fun t2 H locs hΨ hP hD hS hkp hsz hDn => ?_)
  have hP : va_P D vwCl [(tb, .inr (10, [.ref tv, .int (nI 0), .int mb, .int (nI ln)])), (tv, .inl (dA 2, c0, .inl bt)), (t2, .inl (dA 2, 2 * c0, .inl (fun _ => 0)))] H := hP
  have hD : va_D A [(tb, .inr (10, [.ref tv, .int (nI 0), .int mb, .int (nI ln)])), (tv, .inl (dA 2, c0, .inl bt)), (t2, .inl (dA 2, 2 * c0, .inl (fun _ => 0)))] := hD
  refine W.widen (k := 1) (n := 900) (Nat.le_of_ble_eq_true rfl) (Nat.le_of_ble_eq_true rfl) ?_
  refine lv_astore_n (lv' := [(1, .ref t2), (0, .ref tb)]) hx hb dJ3_inflate_16 rfl hl (by decide) rfl (fun ls hl => ?_)
  refine lv_aload_n hx hb dJ3_inflate_17 rfl (lv_at hl 1 rfl) ?_
  refine va_get (D := D) (ci := 10) (C := RJ4) (T := TJ4) (N := 4) hx hb hts in_J4 hown K hP 0 rfl rfl 0 (by decide) (hts _ q208) (fun _ h9 => h9) rfl dJ3_inflate_18 ?_
  refine lv_iconst (v := nI 0) hx hb dJ3_inflate_21 (by decide) ?_
  refine lv_aload_n hx hb dJ3_inflate_22 rfl (lv_at hl 0 rfl) ?_
  refine lv_iconst (v := nI 0) hx hb dJ3_inflate_23 (by decide) ?_
  refine lv_aload_n hx hb dJ3_inflate_24 rfl (lv_at hl 1 rfl) ?_
  refine va_get (D := D) (ci := 10) (C := RJ4) (T := TJ4) (N := 4) hx hb hts in_J4 hown K hP 0 rfl rfl 3 (by decide) (hts _ q211) (fun _ h9 => h9) rfl dJ3_inflate_25 ?_
  refine x_ecall (wr := [(tb, .inr (10, [.ref tv, .int (nI 0), .int mb, .int (nI ln)]))]) (va_runS (As := [.ref tv, .int (nI 0), .ref t2, .int (nI 0), .int (nI ln)]) (rest := []) S (xt_lin l D dA E ad sz0 mi tv t2 ln c0 bt hc0 ch htx hln (up_D hA0 (hD.sub [1, 2] (by decide) rfl)) H.size) (va_cwS 5 hts (lw_S q857 q858 q87 q859) rfl rfl rfl hdJ16_inflate ⟨Nat.le_of_ble_eq_true rfl, Nat.le_of_ble_eq_true rfl⟩) ⟨pe_blind g1_bl _, pe_pre (g1_mv G (low_of hS hA0 G.1.2.2.2.2.2.2) hS.1) (hP.sub [1, 2] rfl) (hD.sub [1, 2] (by decide) rfl) trivial _⟩ rfl rfl hl.1 rfl (lv_room (Nat.le_of_ble_eq_true rfl)) dJ3_inflate_28 ⟨Nat.le_of_ble_eq_true rfl, Nat.le_of_ble_eq_true rfl⟩) hP hD hS hA [1, 2] [0] rfl rfl (by decide) (by decide) (fun _u H locs hΨ hP hD hS hkp hsz hDn => ?_)
  have hP : va_P D vwCl [(tb, .inr (10, [.ref tv, .int (nI 0), .int mb, .int (nI ln)])), (tv, .inl (dA 2, c0, .inl bt)), (t2, .inl (dA 2, 2 * c0, .inl (iter (fun k g => put2 g k (ch k)) ln 0 (fun _ => 0))))] H := hP
  have hD : va_D A [(tb, .inr (10, [.ref tv, .int (nI 0), .int mb, .int (nI ln)])), (tv, .inl (dA 2, c0, .inl bt)), (t2, .inl (dA 2, 2 * c0, .inl (iter (fun k g => put2 g k (ch k)) ln 0 (fun _ => 0))))] := hD
  refine W.widen (k := 1) (n := 900) (Nat.le_of_ble_eq_true rfl) (Nat.le_of_ble_eq_true rfl) ?_
  refine lv_aload_n hx hb dJ3_inflate_31 rfl (lv_at hl 1 rfl) ?_
  refine lv_aload_n hx hb dJ3_inflate_32 rfl (lv_at hl 0 rfl) ?_
  refine va_put (D := D) (ci := 10) (v := .ref t2) (ty := .array .byte) (C := RJ4) (T := TJ4) (N := 4) hx hb hts in_J4 tyJ4 tyJ4_ok nmJ4 hown K hP hD hS 0 rfl rfl 0 (by decide) (hts _ q208) (fun _ h9 => h9) rfl (by decide +kernel) rfl rfl (Nat.le_of_ble_eq_true rfl) dJ3_inflate_33 (fun H locs hP hD hS => ?_)
  have hP : va_P D vwCl [(tb, .inr (10, [.ref t2, .int (nI 0), .int mb, .int (nI ln)])), (tv, .inl (dA 2, c0, .inl bt)), (t2, .inl (dA 2, 2 * c0, .inl (iter (fun k g => put2 g k (ch k)) ln 0 (fun _ => 0))))] H := hP
  have hD : va_D A [(tb, .inr (10, [.ref t2, .int (nI 0), .int mb, .int (nI ln)])), (tv, .inl (dA 2, c0, .inl bt)), (t2, .inl (dA 2, 2 * c0, .inl (iter (fun k g => put2 g k (ch k)) ln 0 (fun _ => 0))))] := hD
  refine lv_aload_n hx hb dJ3_inflate_36 rfl (lv_at hl 1 rfl) ?_
  refine lv_iconst (v := nI 1) hx hb dJ3_inflate_37 (by decide) ?_
  refine va_put (D := D) (ci := 10) (v := .int (nI 1)) (ty := .byte) (C := RJ4) (T := TJ4) (N := 4) hx hb hts in_J4 tyJ4 tyJ4_ok nmJ4 hown K hP hD hS 0 rfl rfl 1 (by decide) (hts _ q209) (fun _ h9 => h9) rfl (by decide +kernel) rfl rfl (Nat.le_of_ble_eq_true rfl) dJ3_inflate_38 (fun H locs hP hD hS => ?_)
  have hP : va_P D vwCl [(tb, .inr (10, [.ref t2, .int (nI 1), .int mb, .int (nI ln)])), (tv, .inl (dA 2, c0, .inl bt)), (t2, .inl (dA 2, 2 * c0, .inl (iter (fun k g => put2 g k (ch k)) ln 0 (fun _ => 0))))] H := hP
  have hD : va_D A [(tb, .inr (10, [.ref t2, .int (nI 1), .int mb, .int (nI ln)])), (tv, .inl (dA 2, c0, .inl bt)), (t2, .inl (dA 2, 2 * c0, .inl (iter (fun k g => put2 g k (ch k)) ln 0 (fun _ => 0))))] := hD
  exact x_evret t2 hx hb hrt hlk rfl trivial (hP.sub [0, 2] rfl) (hD.sub [0, 2] (by decide) rfl) hS dJ3_inflate_41 (Nat.le_of_ble_eq_true rfl) (Nat.le_of_ble_eq_true rfl)

set_option maxHeartbeats 4000000 in
theorem xt_app0 (l : Launch) (D : va_G) (dA : Nat → ClassId) (E : Nat) (ad : Nat → Nat) (sz0 mi : Nat) (tb tv : Nat) (mb : Int32) (ln c0 : Nat) (bt : Nat → Int32) (hc0 : 0 < c0 ∧ c0 ≤ 200) (ch : Nat → Nat) (htx : Tx0 bt ch ln) (hln : ln ≤ c0 ∧ ln < 60) (x0 : Nat) (hx0 : x0 < 65536) (hup : Up sz0 ([(tb, .inr (10, [.ref tv, .int (nI 0), .int mb, .int (nI ln)])), (tv, .inl (dA 2, c0, .inl bt))])) : EX l yJ3_append cJ3_append 2 (some (.object "java/lang/AbstractStringBuilder")) 6 240 2 1800 [.ref tb, .int (nI x0)] (G1 D dA E ad sz0 mi) D ([(tb, .inr (10, [.ref tv, .int (nI 0), .int mb, .int (nI ln)])), (tv, .inl (dA 2, c0, .inl bt))]) (fun _ => True) (S := TU) (fun u _ => TxOk u (upS ch ln x0) (ln + 1)) (fun _ => some (.ref tb)) (fun u => tW dA tb u mb (ln + 1)) := by
  refine ex_of (by decide) (Nat.le_of_ble_eq_true rfl) ?_
  intro p e s m below meth c A S hrt hlk hnm G hA hAe hΦ H locs hP hD hS ls hl
  obtain ⟨hx, hb, hml, hown, hts⟩ := id S
  have K := G.1.1
  have hA0 := up_A hup G.1.2.2.2.2.2.2 hAe
  have hP : va_P D vwCl [(tb, .inr (10, [.ref tv, .int (nI 0), .int mb, .int (nI ln)])), (tv, .inl (dA 2, c0, .inl bt))] H := hP
  have hD : va_D A [(tb, .inr (10, [.ref tv, .int (nI 0), .int mb, .int (nI ln)])), (tv, .inl (dA 2, c0, .inl bt))] := hD
  have hl : lv_has ls 2 [(0, .ref tb), (1, .int (nI x0))] := hl
  refine lv_aload_n hx hb dJ3_append_0 rfl (lv_at hl 0 rfl) ?_
  refine lv_aload_n hx hb dJ3_append_1 rfl (lv_at hl 0 rfl) ?_
  refine va_get (D := D) (ci := 10) (C := RJ4) (T := TJ4) (N := 4) hx hb hts in_J4 hown K hP 0 rfl rfl 3 (by decide) (hts _ q211) (fun _ h9 => h9) rfl dJ3_append_2 ?_
  refine lv_iconst (v := nI 1) hx hb dJ3_append_5 (by decide) ?_
  refine x_addN hx hb dJ3_append_6 ?_
  rcases Nat.lt_or_ge ln c0 with hr | hr
  · refine x_ecall (wr := []) (va_runU (As := [.int (nI (ln + 1))]) (rest := []) S (xt_ecN0 l D dA E ad sz0 mi tb tv mb ln c0 bt hc0 (ln + 1) (by omega) (up_D hA0 hD) H.size) (va_cwP 1 hts (K.1 10 _ rfl).2.1 q825 q1376 (va_Nw.use rfl (G.1.2.1 _ q826 rfl)) q827 q65 q828 rfl rfl (by decide +kernel) ⟨Nat.le_of_ble_eq_true rfl, Nat.le_of_ble_eq_true rfl⟩) ⟨pe_blind g1_bl _, va_recv K hP (ci := 10) (q0 := 0) rfl rfl, pe_pre (g1_mv G (low_of hS hA0 G.1.2.2.2.2.2.2) hS.1) hP hD trivial _⟩ rfl rfl hl.1 rfl (lv_room (Nat.le_of_ble_eq_true rfl)) dJ3_append_7 ⟨Nat.le_of_ble_eq_true rfl, Nat.le_of_ble_eq_true rfl⟩) hP hD hS hA [0, 1] [] rfl rfl (by decide) (by decide) (fun _u H locs hΨ hP hD hS hkp hsz hDn => ?_)
    have hP : va_P D vwCl [(tb, .inr (10, [.ref tv, .int (nI 0), .int mb, .int (nI ln)])), (tv, .inl (dA 2, c0, .inl bt))] H := hP
    have hD : va_D A [(tb, .inr (10, [.ref tv, .int (nI 0), .int mb, .int (nI ln)])), (tv, .inl (dA 2, c0, .inl bt))] := hD
    refine W.widen (k := 1) (n := 900) (Nat.le_of_ble_eq_true rfl) (Nat.le_of_ble_eq_true rfl) ?_
    have htx1 := htx
    refine lv_aload_n hx hb dJ3_append_10 rfl (lv_at hl 0 rfl) ?_
    refine x_ret (va_runU (As := []) (rest := []) S (xt_isL0 l D dA E ad sz0 mi tb tv mb ln) (va_cwU 0 hts (lw_U (x := ⟨"java/lang/AbstractStringBuilder", "isLatin1", "()Z"⟩) (owner := "java/lang/AbstractStringBuilder") q845 q847 q848 q846 q65 q849) rfl rfl rfl rfl (by decide +kernel) ⟨Nat.le_of_ble_eq_true rfl, Nat.le_of_ble_eq_true rfl⟩) ⟨bb_blind g1_bl _, va_recv K hP (ci := 10) (q0 := 0) rfl rfl, bb_pre (g1_mv G (low_of hS hA0 G.1.2.2.2.2.2.2) hS.1) (hP.sub [0] rfl) _⟩ rfl rfl hl.1 rfl (lv_room (Nat.le_of_ble_eq_true rfl)) dJ3_append_11 ⟨Nat.le_of_ble_eq_true rfl, Nat.le_of_ble_eq_true rfl⟩) ?_
    refine x_ifb_eq (tgt := 45) hx hb dJ3_append_14 (by decide) (fun h => by cases h) (fun _ => ?_)
    refine lv_iload_n hx hb dJ3_append_17 rfl (lv_at hl 1 rfl) ?_
    refine x_ret (va_runS (As := [.int (nI x0)]) (rest := []) S (xt_can l x0 hx0) (va_cwS 1 hts (lw_S q850 q851 q87 q852) rfl rfl rfl hdJ16_canEncode ⟨Nat.le_of_ble_eq_true rfl, Nat.le_of_ble_eq_true rfl⟩) ⟨bb_blind tt_bl _, tt_pre _⟩ rfl rfl hl.1 rfl (lv_room (Nat.le_of_ble_eq_true rfl)) dJ3_append_18 ⟨Nat.le_of_ble_eq_true rfl, Nat.le_of_ble_eq_true rfl⟩) ?_
    refine x_ifb_eq (tgt := 45) hx hb dJ3_append_21 (by decide) (fun h_1 => ?_) (fun h_1 => ?_)
    · refine lv_aload_n hx hb dJ3_append_45 rfl (lv_at hl 0 rfl) ?_
      refine x_ret (va_runU (As := []) (rest := []) S (xt_isL0 l D dA E ad sz0 mi tb tv mb ln) (va_cwU 0 hts (lw_U (x := ⟨"java/lang/AbstractStringBuilder", "isLatin1", "()Z"⟩) (owner := "java/lang/AbstractStringBuilder") q845 q847 q848 q846 q65 q849) rfl rfl rfl rfl (by decide +kernel) ⟨Nat.le_of_ble_eq_true rfl, Nat.le_of_ble_eq_true rfl⟩) ⟨bb_blind g1_bl _, va_recv K hP (ci := 10) (q0 := 0) rfl rfl, bb_pre (g1_mv G (low_of hS hA0 G.1.2.2.2.2.2.2) hS.1) (hP.sub [0] rfl) _⟩ rfl rfl hl.1 rfl (lv_room (Nat.le_of_ble_eq_true rfl)) dJ3_append_46 ⟨Nat.le_of_ble_eq_true rfl, Nat.le_of_ble_eq_true rfl⟩) ?_
      refine x_ifb_eq (tgt := 56) hx hb dJ3_append_49 (by decide) (fun h => by cases h) (fun _ => ?_)
      refine lv_aload_n hx hb dJ3_append_52 rfl (lv_at hl 0 rfl) ?_
      refine x_ecall (wr := []) (va_runU (As := []) (rest := []) S (xt_inf l D dA E ad sz0 mi tb tv mb ln c0 bt (by omega) ch htx1 (by omega) (up_D hA0 hD) H.size) (va_cwP 0 hts (K.1 10 _ rfl).2.1 q853 q1378 (va_Nw.use rfl (G.1.2.1 _ q854 rfl)) q855 q65 q856 rfl rfl (by decide +kernel) ⟨Nat.le_of_ble_eq_true rfl, Nat.le_of_ble_eq_true rfl⟩) ⟨pe_blind g1_bl _, va_recv K hP (ci := 10) (q0 := 0) rfl rfl, pe_pre (g1_mv G (low_of hS hA0 G.1.2.2.2.2.2.2) hS.1) hP hD trivial _⟩ rfl rfl hl.1 rfl (lv_room (Nat.le_of_ble_eq_true rfl)) dJ3_append_53 ⟨Nat.le_of_ble_eq_true rfl, Nat.le_of_ble_eq_true rfl⟩) hP hD hS hA [0, 1] [] rfl rfl (by decide) (by decide) (fun t3 H locs hΨ hP hD hS hkp hsz hDn => ?_)
      have hP : va_P D vwCl [(tb, .inr (10, [.ref t3, .int (nI 1), .int mb, .int (nI ln)])), (t3, .inl (dA 2, 2 * c0, .inl (iter (fun k g => put2 g k (ch k)) ln 0 (fun _ => 0))))] H := hP
      have hD : va_D A [(tb, .inr (10, [.ref t3, .int (nI 1), .int mb, .int (nI ln)])), (t3, .inl (dA 2, 2 * c0, .inl (iter (fun k g => put2 g k (ch k)) ln 0 (fun _ => 0))))] := hD
      refine W.widen (k := 2) (n := 1800) (Nat.le_of_ble_eq_true rfl) (Nat.le_of_ble_eq_true rfl) ?_
      have htx2 : Tx1 (iter (fun k g => put2 g k (ch k)) ln 0 (fun _ => 0)) ch ln := tx_inf htx1 byOk_0 ln (Nat.le_refl _)
      refine lv_aload_n hx hb dJ3_append_56 rfl (lv_at hl 0 rfl) ?_
      refine va_get (D := D) (ci := 10) (C := RJ4) (T := TJ4) (N := 4) hx hb hts in_J4 hown K hP 0 rfl rfl 0 (by decide) (hts _ q208) (fun _ h9 => h9) rfl dJ3_append_57 ?_
      refine lv_aload_n hx hb dJ3_append_60 rfl (lv_at hl 0 rfl) ?_
      refine lv_dup hx hb dJ3_append_61 rfl ?_
      refine va_get (D := D) (ci := 10) (C := RJ4) (T := TJ4) (N := 4) hx hb hts in_J4 hown K hP 0 rfl rfl 3 (by decide) (hts _ q211) (fun _ h9 => h9) rfl dJ3_append_62 ?_
      refine lv_dup_x1 hx hb dJ3_append_65 rfl rfl ?_
      refine lv_iconst (v := nI 1) hx hb dJ3_append_66 (by decide) ?_
      refine x_addN hx hb dJ3_append_67 ?_
      refine va_put (D := D) (ci := 10) (v := .int (nI (ln + 1))) (ty := .int) (C := RJ4) (T := TJ4) (N := 4) hx hb hts in_J4 tyJ4 tyJ4_ok nmJ4 hown K hP hD hS 0 rfl rfl 3 (by decide) (hts _ q211) (fun _ h9 => h9) rfl (by decide +kernel) rfl rfl (Nat.le_of_ble_eq_true rfl) dJ3_append_68 (fun H locs hP hD hS => ?_)
      have hP : va_P D vwCl [(tb, .inr (10, [.ref t3, .int (nI 1), .int mb, .int (nI (ln + 1))])), (t3, .inl (dA 2, 2 * c0, .inl (iter (fun k g => put2 g k (ch k)) ln 0 (fun _ => 0))))] H := hP
      have hD : va_D A [(tb, .inr (10, [.ref t3, .int (nI 1), .int mb, .int (nI (ln + 1))])), (t3, .inl (dA 2, 2 * c0, .inl (iter (fun k g => put2 g k (ch k)) ln 0 (fun _ => 0))))] := hD
      refine lv_iload_n hx hb dJ3_append_71 rfl (lv_at hl 1 rfl) ?_
      refine x_ecall (wr := [(tb, .inr (10, [.ref t3, .int (nI 1), .int mb, .int (nI (ln + 1))]))]) (va_runS (As := [.ref t3, .int (nI ln), .int (nI x0)]) (rest := []) S (xt_psb l D dA E ad sz0 mi t3 (2 * c0) (iter (fun k g => put2 g k (ch k)) ln 0 (fun _ => 0)) (by omega) ln x0 (by omega) hx0 (up_D hA0 (hD.sub [1] (by decide) rfl)) H.size) (va_cwS 3 hts (lw_S q875 q876 q68 q877) rfl rfl rfl hdJ6_putCharSB ⟨Nat.le_of_ble_eq_true rfl, Nat.le_of_ble_eq_true rfl⟩) ⟨pe_blind g1_bl _, pe_pre (g1_mv G (low_of hS hA0 G.1.2.2.2.2.2.2) hS.1) (hP.sub [1] rfl) (hD.sub [1] (by decide) rfl) trivial _⟩ rfl rfl hl.1 rfl (lv_room (Nat.le_of_ble_eq_true rfl)) dJ3_append_72 ⟨Nat.le_of_ble_eq_true rfl, Nat.le_of_ble_eq_true rfl⟩) hP hD hS hA [1] [0] rfl rfl (by decide) (by decide) (fun _u H locs hΨ hP hD hS hkp hsz hDn => ?_)
      have hP : va_P D vwCl [(tb, .inr (10, [.ref t3, .int (nI 1), .int mb, .int (nI (ln + 1))])), (t3, .inl (dA 2, 2 * c0, .inl (put2 (iter (fun k g => put2 g k (ch k)) ln 0 (fun _ => 0)) ln x0)))] H := hP
      have hD : va_D A [(tb, .inr (10, [.ref t3, .int (nI 1), .int mb, .int (nI (ln + 1))])), (t3, .inl (dA 2, 2 * c0, .inl (put2 (iter (fun k g => put2 g k (ch k)) ln 0 (fun _ => 0)) ln x0)))] := hD
      refine W.widen (k := 2) (n := 1800) (Nat.le_of_ble_eq_true rfl) (Nat.le_of_ble_eq_true rfl) ?_
      refine lv_aload_n hx hb dJ3_append_75 rfl (lv_at hl 0 rfl) ?_
      exact x_earet (true, t3, c0, put2 (iter (fun k g => put2 g k (ch k)) ln 0 (fun _ => 0)) ln x0) hx hb hrt (Or.inl ⟨_, rfl⟩) hlk rfl ⟨⟨by dsimp only; omega, by dsimp only; omega⟩, (by dsimp only; omega), (fun h => by cases h), (fun _ => tx1_app htx2 hx0)⟩ hP hD hS dJ3_append_76 (Nat.le_of_ble_eq_true rfl) (Nat.le_of_ble_eq_true rfl)
    · refine lv_aload_n hx hb dJ3_append_24 rfl (lv_at hl 0 rfl) ?_
      refine va_get (D := D) (ci := 10) (C := RJ4) (T := TJ4) (N := 4) hx hb hts in_J4 hown K hP 0 rfl rfl 0 (by decide) (hts _ q208) (fun _ h9 => h9) rfl dJ3_append_25 ?_
      refine lv_aload_n hx hb dJ3_append_28 rfl (lv_at hl 0 rfl) ?_
      refine lv_dup hx hb dJ3_append_29 rfl ?_
      refine va_get (D := D) (ci := 10) (C := RJ4) (T := TJ4) (N := 4) hx hb hts in_J4 hown K hP 0 rfl rfl 3 (by decide) (hts _ q211) (fun _ h9 => h9) rfl dJ3_append_30 ?_
      refine lv_dup_x1 hx hb dJ3_append_33 rfl rfl ?_
      refine lv_iconst (v := nI 1) hx hb dJ3_append_34 (by decide) ?_
      refine x_addN hx hb dJ3_append_35 ?_
      refine va_put (D := D) (ci := 10) (v := .int (nI (ln + 1))) (ty := .int) (C := RJ4) (T := TJ4) (N := 4) hx hb hts in_J4 tyJ4 tyJ4_ok nmJ4 hown K hP hD hS 0 rfl rfl 3 (by decide) (hts _ q211) (fun _ h9 => h9) rfl (by decide +kernel) rfl rfl (Nat.le_of_ble_eq_true rfl) dJ3_append_36 (fun H locs hP hD hS => ?_)
      have hP : va_P D vwCl [(tb, .inr (10, [.ref tv, .int (nI 0), .int mb, .int (nI (ln + 1))])), (tv, .inl (dA 2, c0, .inl bt))] H := hP
      have hD : va_D A [(tb, .inr (10, [.ref tv, .int (nI 0), .int mb, .int (nI (ln + 1))])), (tv, .inl (dA 2, c0, .inl bt))] := hD
      refine lv_iload_n hx hb dJ3_append_39 rfl (lv_at hl 1 rfl) ?_
      refine lv_i2b (v := sb x0) hx hb dJ3_append_40 rfl ?_
      refine x_bast hx hb K hP hD hS 1 rfl ln rfl (by omega) (by omega) (sb_nar _ (of_decide_eq_true h_1)) dJ3_append_41 (fun H locs hP hD hS => ?_)
      have hP : va_P D vwCl [(tb, .inr (10, [.ref tv, .int (nI 0), .int mb, .int (nI (ln + 1))])), (tv, .inl (dA 2, c0, .inl (upd bt ln (sb x0))))] H := hP
      have hD : va_D A [(tb, .inr (10, [.ref tv, .int (nI 0), .int mb, .int (nI (ln + 1))])), (tv, .inl (dA 2, c0, .inl (upd bt ln (sb x0))))] := hD
      refine lv_goto (tgt := 75) hx hb dJ3_append_42 (by decide) ?_
      refine lv_aload_n hx hb dJ3_append_75 rfl (lv_at hl 0 rfl) ?_
      exact x_earet (false, tv, c0, upd bt ln (sb x0)) hx hb hrt (Or.inl ⟨_, rfl⟩) hlk rfl ⟨⟨by dsimp only; omega, by dsimp only; omega⟩, (by dsimp only; omega), (fun _ => tx0_app htx1 (of_decide_eq_true h_1)), (fun h => by cases h)⟩ hP hD hS dJ3_append_76 (Nat.le_of_ble_eq_true rfl) (Nat.le_of_ble_eq_true rfl)
  · refine x_ecall (wr := []) (va_runU (As := [.int (nI (ln + 1))]) (rest := []) S (xt_ecG0 l D dA E ad sz0 mi tb tv mb ln c0 bt hc0 (ln + 1) (by omega) htx.1 (up_D hA0 hD) H.size) (va_cwP 1 hts (K.1 10 _ rfl).2.1 q825 q1376 (va_Nw.use rfl (G.1.2.1 _ q826 rfl)) q827 q65 q828 rfl rfl (by decide +kernel) ⟨Nat.le_of_ble_eq_true rfl, Nat.le_of_ble_eq_true rfl⟩) ⟨pe_blind g1_bl _, va_recv K hP (ci := 10) (q0 := 0) rfl rfl, pe_pre (g1_mv G (low_of hS hA0 G.1.2.2.2.2.2.2) hS.1) hP hD trivial _⟩ rfl rfl hl.1 rfl (lv_room (Nat.le_of_ble_eq_true rfl)) dJ3_append_7 ⟨Nat.le_of_ble_eq_true rfl, Nat.le_of_ble_eq_true rfl⟩) hP hD hS hA [0, 1] [] rfl rfl (by decide) (by decide) (fun t1 H locs hΨ hP hD hS hkp hsz hDn => ?_)
    have hP : va_P D vwCl [(tb, .inr (10, [.ref t1, .int (nI 0), .int mb, .int (nI ln)])), (t1, .inl (dA 2, 2 * c0 + 2, .inl (va_cpy bt (fun _ => 0) 0 0 (min c0 (2 * c0 + 2)))))] H := hP
    have hD : va_D A [(tb, .inr (10, [.ref t1, .int (nI 0), .int mb, .int (nI ln)])), (t1, .inl (dA 2, 2 * c0 + 2, .inl (va_cpy bt (fun _ => 0) 0 0 (min c0 (2 * c0 + 2)))))] := hD
    refine W.widen (k := 1) (n := 900) (Nat.le_of_ble_eq_true rfl) (Nat.le_of_ble_eq_true rfl) ?_
    have htx1 : Tx0 (va_cpy bt (fun _ => 0) 0 0 (min c0 (2 * c0 + 2))) ch ln := tx0_cpy htx (by omega)
    refine lv_aload_n hx hb dJ3_append_10 rfl (lv_at hl 0 rfl) ?_
    refine x_ret (va_runU (As := []) (rest := []) S (xt_isL0 l D dA E ad sz0 mi tb t1 mb ln) (va_cwU 0 hts (lw_U (x := ⟨"java/lang/AbstractStringBuilder", "isLatin1", "()Z"⟩) (owner := "java/lang/AbstractStringBuilder") q845 q847 q848 q846 q65 q849) rfl rfl rfl rfl (by decide +kernel) ⟨Nat.le_of_ble_eq_true rfl, Nat.le_of_ble_eq_true rfl⟩) ⟨bb_blind g1_bl _, va_recv K hP (ci := 10) (q0 := 0) rfl rfl, bb_pre (g1_mv G (low_of hS hA0 G.1.2.2.2.2.2.2) hS.1) (hP.sub [0] rfl) _⟩ rfl rfl hl.1 rfl (lv_room (Nat.le_of_ble_eq_true rfl)) dJ3_append_11 ⟨Nat.le_of_ble_eq_true rfl, Nat.le_of_ble_eq_true rfl⟩) ?_
    refine x_ifb_eq (tgt := 45) hx hb dJ3_append_14 (by decide) (fun h => by cases h) (fun _ => ?_)
    refine lv_iload_n hx hb dJ3_append_17 rfl (lv_at hl 1 rfl) ?_
    refine x_ret (va_runS (As := [.int (nI x0)]) (rest := []) S (xt_can l x0 hx0) (va_cwS 1 hts (lw_S q850 q851 q87 q852) rfl rfl rfl hdJ16_canEncode ⟨Nat.le_of_ble_eq_true rfl, Nat.le_of_ble_eq_true rfl⟩) ⟨bb_blind tt_bl _, tt_pre _⟩ rfl rfl hl.1 rfl (lv_room (Nat.le_of_ble_eq_true rfl)) dJ3_append_18 ⟨Nat.le_of_ble_eq_true rfl, Nat.le_of_ble_eq_true rfl⟩) ?_
    refine x_ifb_eq (tgt := 45) hx hb dJ3_append_21 (by decide) (fun h_2 => ?_) (fun h_2 => ?_)
    · refine lv_aload_n hx hb dJ3_append_45 rfl (lv_at hl 0 rfl) ?_
      refine x_ret (va_runU (As := []) (rest := []) S (xt_isL0 l D dA E ad sz0 mi tb t1 mb ln) (va_cwU 0 hts (lw_U (x := ⟨"java/lang/AbstractStringBuilder", "isLatin1", "()Z"⟩) (owner := "java/lang/AbstractStringBuilder") q845 q847 q848 q846 q65 q849) rfl rfl rfl rfl (by decide +kernel) ⟨Nat.le_of_ble_eq_true rfl, Nat.le_of_ble_eq_true rfl⟩) ⟨bb_blind g1_bl _, va_recv K hP (ci := 10) (q0 := 0) rfl rfl, bb_pre (g1_mv G (low_of hS hA0 G.1.2.2.2.2.2.2) hS.1) (hP.sub [0] rfl) _⟩ rfl rfl hl.1 rfl (lv_room (Nat.le_of_ble_eq_true rfl)) dJ3_append_46 ⟨Nat.le_of_ble_eq_true rfl, Nat.le_of_ble_eq_true rfl⟩) ?_
      refine x_ifb_eq (tgt := 56) hx hb dJ3_append_49 (by decide) (fun h => by cases h) (fun _ => ?_)
      refine lv_aload_n hx hb dJ3_append_52 rfl (lv_at hl 0 rfl) ?_
      refine x_ecall (wr := []) (va_runU (As := []) (rest := []) S (xt_inf l D dA E ad sz0 mi tb t1 mb ln (2 * c0 + 2) (va_cpy bt (fun _ => 0) 0 0 (min c0 (2 * c0 + 2))) (by omega) ch htx1 (by omega) (up_D hA0 hD) H.size) (va_cwP 0 hts (K.1 10 _ rfl).2.1 q853 q1378 (va_Nw.use rfl (G.1.2.1 _ q854 rfl)) q855 q65 q856 rfl rfl (by decide +kernel) ⟨Nat.le_of_ble_eq_true rfl, Nat.le_of_ble_eq_true rfl⟩) ⟨pe_blind g1_bl _, va_recv K hP (ci := 10) (q0 := 0) rfl rfl, pe_pre (g1_mv G (low_of hS hA0 G.1.2.2.2.2.2.2) hS.1) hP hD trivial _⟩ rfl rfl hl.1 rfl (lv_room (Nat.le_of_ble_eq_true rfl)) dJ3_append_53 ⟨Nat.le_of_ble_eq_true rfl, Nat.le_of_ble_eq_true rfl⟩) hP hD hS hA [0, 1] [] rfl rfl (by decide) (by decide) (fun t3 H locs hΨ hP hD hS hkp hsz hDn => ?_)
      have hP : va_P D vwCl [(tb, .inr (10, [.ref t3, .int (nI 1), .int mb, .int (nI ln)])), (t3, .inl (dA 2, 2 * (2 * c0 + 2), .inl (iter (fun k g => put2 g k (ch k)) ln 0 (fun _ => 0))))] H := hP
      have hD : va_D A [(tb, .inr (10, [.ref t3, .int (nI 1), .int mb, .int (nI ln)])), (t3, .inl (dA 2, 2 * (2 * c0 + 2), .inl (iter (fun k g => put2 g k (ch k)) ln 0 (fun _ => 0))))] := hD
      refine W.widen (k := 2) (n := 1800) (Nat.le_of_ble_eq_true rfl) (Nat.le_of_ble_eq_true rfl) ?_
      have htx2 : Tx1 (iter (fun k g => put2 g k (ch k)) ln 0 (fun _ => 0)) ch ln := tx_inf htx1 byOk_0 ln (Nat.le_refl _)
      refine lv_aload_n hx hb dJ3_append_56 rfl (lv_at hl 0 rfl) ?_
      refine va_get (D := D) (ci := 10) (C := RJ4) (T := TJ4) (N := 4) hx hb hts in_J4 hown K hP 0 rfl rfl 0 (by decide) (hts _ q208) (fun _ h9 => h9) rfl dJ3_append_57 ?_
      refine lv_aload_n hx hb dJ3_append_60 rfl (lv_at hl 0 rfl) ?_
      refine lv_dup hx hb dJ3_append_61 rfl ?_
      refine va_get (D := D) (ci := 10) (C := RJ4) (T := TJ4) (N := 4) hx hb hts in_J4 hown K hP 0 rfl rfl 3 (by decide) (hts _ q211) (fun _ h9 => h9) rfl dJ3_append_62 ?_
      refine lv_dup_x1 hx hb dJ3_append_65 rfl rfl ?_
      refine lv_iconst (v := nI 1) hx hb dJ3_append_66 (by decide) ?_
      refine x_addN hx hb dJ3_append_67 ?_
      refine va_put (D := D) (ci := 10) (v := .int (nI (ln + 1))) (ty := .int) (C := RJ4) (T := TJ4) (N := 4) hx hb hts in_J4 tyJ4 tyJ4_ok nmJ4 hown K hP hD hS 0 rfl rfl 3 (by decide) (hts _ q211) (fun _ h9 => h9) rfl (by decide +kernel) rfl rfl (Nat.le_of_ble_eq_true rfl) dJ3_append_68 (fun H locs hP hD hS => ?_)
      have hP : va_P D vwCl [(tb, .inr (10, [.ref t3, .int (nI 1), .int mb, .int (nI (ln + 1))])), (t3, .inl (dA 2, 2 * (2 * c0 + 2), .inl (iter (fun k g => put2 g k (ch k)) ln 0 (fun _ => 0))))] H := hP
      have hD : va_D A [(tb, .inr (10, [.ref t3, .int (nI 1), .int mb, .int (nI (ln + 1))])), (t3, .inl (dA 2, 2 * (2 * c0 + 2), .inl (iter (fun k g => put2 g k (ch k)) ln 0 (fun _ => 0))))] := hD
      refine lv_iload_n hx hb dJ3_append_71 rfl (lv_at hl 1 rfl) ?_
      refine x_ecall (wr := [(tb, .inr (10, [.ref t3, .int (nI 1), .int mb, .int (nI (ln + 1))]))]) (va_runS (As := [.ref t3, .int (nI ln), .int (nI x0)]) (rest := []) S (xt_psb l D dA E ad sz0 mi t3 (2 * (2 * c0 + 2)) (iter (fun k g => put2 g k (ch k)) ln 0 (fun _ => 0)) (by omega) ln x0 (by omega) hx0 (up_D hA0 (hD.sub [1] (by decide) rfl)) H.size) (va_cwS 3 hts (lw_S q875 q876 q68 q877) rfl rfl rfl hdJ6_putCharSB ⟨Nat.le_of_ble_eq_true rfl, Nat.le_of_ble_eq_true rfl⟩) ⟨pe_blind g1_bl _, pe_pre (g1_mv G (low_of hS hA0 G.1.2.2.2.2.2.2) hS.1) (hP.sub [1] rfl) (hD.sub [1] (by decide) rfl) trivial _⟩ rfl rfl hl.1 rfl (lv_room (Nat.le_of_ble_eq_true rfl)) dJ3_append_72 ⟨Nat.le_of_ble_eq_true rfl, Nat.le_of_ble_eq_true rfl⟩) hP hD hS hA [1] [0] rfl rfl (by decide) (by decide) (fun _u H locs hΨ hP hD hS hkp hsz hDn => ?_)
      have hP : va_P D vwCl [(tb, .inr (10, [.ref t3, .int (nI 1), .int mb, .int (nI (ln + 1))])), (t3, .inl (dA 2, 2 * (2 * c0 + 2), .inl (put2 (iter (fun k g => put2 g k (ch k)) ln 0 (fun _ => 0)) ln x0)))] H := hP
      have hD : va_D A [(tb, .inr (10, [.ref t3, .int (nI 1), .int mb, .int (nI (ln + 1))])), (t3, .inl (dA 2, 2 * (2 * c0 + 2), .inl (put2 (iter (fun k g => put2 g k (ch k)) ln 0 (fun _ => 0)) ln x0)))] := hD
      refine W.widen (k := 2) (n := 1800) (Nat.le_of_ble_eq_true rfl) (Nat.le_of_ble_eq_true rfl) ?_
      refine lv_aload_n hx hb dJ3_append_75 rfl (lv_at hl 0 rfl) ?_
      exact x_earet (true, t3, 2 * c0 + 2, put2 (iter (fun k g => put2 g k (ch k)) ln 0 (fun _ => 0)) ln x0) hx hb hrt (Or.inl ⟨_, rfl⟩) hlk rfl ⟨⟨by dsimp only; omega, by dsimp only; omega⟩, (by dsimp only; omega), (fun h => by cases h), (fun _ => tx1_app htx2 hx0)⟩ hP hD hS dJ3_append_76 (Nat.le_of_ble_eq_true rfl) (Nat.le_of_ble_eq_true rfl)
    · refine lv_aload_n hx hb dJ3_append_24 rfl (lv_at hl 0 rfl) ?_
      refine va_get (D := D) (ci := 10) (C := RJ4) (T := TJ4) (N := 4) hx hb hts in_J4 hown K hP 0 rfl rfl 0 (by decide) (hts _ q208) (fun _ h9 => h9) rfl dJ3_append_25 ?_
      refine lv_aload_n hx hb dJ3_append_28 rfl (lv_at hl 0 rfl) ?_
      refine lv_dup hx hb dJ3_append_29 rfl ?_
      refine va_get (D := D) (ci := 10) (C := RJ4) (T := TJ4) (N := 4) hx hb hts in_J4 hown K hP 0 rfl rfl 3 (by decide) (hts _ q211) (fun _ h9 => h9) rfl dJ3_append_30 ?_
      refine lv_dup_x1 hx hb dJ3_append_33 rfl rfl ?_
      refine lv_iconst (v := nI 1) hx hb dJ3_append_34 (by decide) ?_
      refine x_addN hx hb dJ3_append_35 ?_
      refine va_put (D := D) (ci := 10) (v := .int (nI (ln + 1))) (ty := .int) (C := RJ4) (T := TJ4) (N := 4) hx hb hts in_J4 tyJ4 tyJ4_ok nmJ4 hown K hP hD hS 0 rfl rfl 3 (by decide) (hts _ q211) (fun _ h9 => h9) rfl (by decide +kernel) rfl rfl (Nat.le_of_ble_eq_true rfl) dJ3_append_36 (fun H locs hP hD hS => ?_)
      have hP : va_P D vwCl [(tb, .inr (10, [.ref t1, .int (nI 0), .int mb, .int (nI (ln + 1))])), (t1, .inl (dA 2, 2 * c0 + 2, .inl (va_cpy bt (fun _ => 0) 0 0 (min c0 (2 * c0 + 2)))))] H := hP
      have hD : va_D A [(tb, .inr (10, [.ref t1, .int (nI 0), .int mb, .int (nI (ln + 1))])), (t1, .inl (dA 2, 2 * c0 + 2, .inl (va_cpy bt (fun _ => 0) 0 0 (min c0 (2 * c0 + 2)))))] := hD
      refine lv_iload_n hx hb dJ3_append_39 rfl (lv_at hl 1 rfl) ?_
      refine lv_i2b (v := sb x0) hx hb dJ3_append_40 rfl ?_
      refine x_bast hx hb K hP hD hS 1 rfl ln rfl (by omega) (by omega) (sb_nar _ (of_decide_eq_true h_2)) dJ3_append_41 (fun H locs hP hD hS => ?_)
      have hP : va_P D vwCl [(tb, .inr (10, [.ref t1, .int (nI 0), .int mb, .int (nI (ln + 1))])), (t1, .inl (dA 2, 2 * c0 + 2, .inl (upd (va_cpy bt (fun _ => 0) 0 0 (min c0 (2 * c0 + 2))) ln (sb x0))))] H := hP
      have hD : va_D A [(tb, .inr (10, [.ref t1, .int (nI 0), .int mb, .int (nI (ln + 1))])), (t1, .inl (dA 2, 2 * c0 + 2, .inl (upd (va_cpy bt (fun _ => 0) 0 0 (min c0 (2 * c0 + 2))) ln (sb x0))))] := hD
      refine lv_goto (tgt := 75) hx hb dJ3_append_42 (by decide) ?_
      refine lv_aload_n hx hb dJ3_append_75 rfl (lv_at hl 0 rfl) ?_
      exact x_earet (false, t1, 2 * c0 + 2, upd (va_cpy bt (fun _ => 0) 0 0 (min c0 (2 * c0 + 2))) ln (sb x0)) hx hb hrt (Or.inl ⟨_, rfl⟩) hlk rfl ⟨⟨by dsimp only; omega, by dsimp only; omega⟩, (by dsimp only; omega), (fun _ => tx0_app htx1 (of_decide_eq_true h_2)), (fun h => by cases h)⟩ hP hD hS dJ3_append_76 (Nat.le_of_ble_eq_true rfl) (Nat.le_of_ble_eq_true rfl)

set_option maxHeartbeats 4000000 in
theorem xt_sap0 (l : Launch) (D : va_G) (dA : Nat → ClassId) (E : Nat) (ad : Nat → Nat) (sz0 mi : Nat) (tb tv : Nat) (mb : Int32) (ln c0 : Nat) (bt : Nat → Int32) (hc0 : 0 < c0 ∧ c0 ≤ 200) (ch : Nat → Nat) (htx : Tx0 bt ch ln) (hln : ln ≤ c0 ∧ ln < 60) (x0 : Nat) (hx0 : x0 < 65536) (hup : Up sz0 ([(tb, .inr (10, [.ref tv, .int (nI 0), .int mb, .int (nI ln)])), (tv, .inl (dA 2, c0, .inl bt))])) : EX l yJ4_append cJ4_append 2 (some (.object "java/lang/StringBuilder")) 7 280 2 1800 [.ref tb, .int (nI x0)] (G1 D dA E ad sz0 mi) D ([(tb, .inr (10, [.ref tv, .int (nI 0), .int mb, .int (nI ln)])), (tv, .inl (dA 2, c0, .inl bt))]) (fun _ => True) (S := TU) (fun u _ => TxOk u (upS ch ln x0) (ln + 1)) (fun _ => some (.ref tb)) (fun u => tW dA tb u mb (ln + 1)) := by
  refine ex_of (by decide) (Nat.le_of_ble_eq_true rfl) ?_
  intro p e s m below meth c A S hrt hlk hnm G hA hAe hΦ H locs hP hD hS ls hl
  obtain ⟨hx, hb, hml, hown, hts⟩ := id S
  have K := G.1.1
  have hA0 := up_A hup G.1.2.2.2.2.2.2 hAe
  have hP : va_P D vwCl [(tb, .inr (10, [.ref tv, .int (nI 0), .int mb, .int (nI ln)])), (tv, .inl (dA 2, c0, .inl bt))] H := hP
  have hD : va_D A [(tb, .inr (10, [.ref tv, .int (nI 0), .int mb, .int (nI ln)])), (tv, .inl (dA 2, c0, .inl bt))] := hD
  have hl : lv_has ls 2 [(0, .ref tb), (1, .int (nI x0))] := hl
  refine lv_aload_n hx hb dJ4_append_0 rfl (lv_at hl 0 rfl) ?_
  refine lv_iload_n hx hb dJ4_append_1 rfl (lv_at hl 1 rfl) ?_
  refine x_ecall (wr := []) (va_runSU (As := [.int (nI x0)]) (rest := []) ((K.1 10 _ rfl).2) S (xt_app0 l D dA E ad sz0 mi tb tv mb ln c0 bt hc0 ch htx hln x0 hx0 (up_D hA0 hD) H.size) (va_cwSU 1 hts (lw_SU (y := yJ3_append) q822 q1375 q220 q823 q65 q824) rfl rfl rfl (by decide +kernel) ⟨Nat.le_of_ble_eq_true rfl, Nat.le_of_ble_eq_true rfl⟩) ⟨pe_blind g1_bl _, va_recv K hP (ci := 10) (q0 := 0) rfl rfl, pe_pre (g1_mv G (low_of hS hA0 G.1.2.2.2.2.2.2) hS.1) hP hD trivial _⟩ rfl rfl hl.1 rfl (lv_room (Nat.le_of_ble_eq_true rfl)) dJ4_append_2 ⟨Nat.le_of_ble_eq_true rfl, Nat.le_of_ble_eq_true rfl⟩) hP hD hS hA [0, 1] [] rfl rfl (by decide) (by decide) (fun u H locs hΨ hP hD hS hkp hsz hDn => ?_)
  have hP : va_P D vwCl (tW dA tb u mb (ln + 1)) H := hP
  have hD : va_D A (tW dA tb u mb (ln + 1)) := hD
  refine W.widen (k := 2) (n := 1800) (Nat.le_of_ble_eq_true rfl) (Nat.le_of_ble_eq_true rfl) ?_
  refine lv_pop hx hb dJ4_append_5 rfl ?_
  refine lv_aload_n hx hb dJ4_append_6 rfl (lv_at hl 0 rfl) ?_
  exact x_earet u hx hb hrt (Or.inl ⟨_, rfl⟩) hlk rfl hΨ hP hD hS dJ4_append_7 (Nat.le_of_ble_eq_true rfl) (Nat.le_of_ble_eq_true rfl)

set_option maxHeartbeats 4000000 in
theorem xt_asl0 (l : Launch) (D : va_G) (dA : Nat → ClassId) (E : Nat) (ad : Nat → Nat) (sz0 mi : Nat) (tb tv : Nat) (mb : Int32) (ln c0 : Nat) (bt : Nat → Int32) (hc0 : 0 < c0 ∧ c0 ≤ 200) (hln : ln < 2 ^ 31) (hup : Up sz0 ([(tb, .inr (10, [.ref tv, .int (nI 0), .int mb, .int (nI ln)])), (tv, .inl (dA 2, c0, .inl bt))])) : EX l yJ3_setLength cJ3_setLength 2 none 4 160 1 900 [.ref tb, .int (nI 0)] (G1 D dA E ad sz0 mi) D ([(tb, .inr (10, [.ref tv, .int (nI 0), .int mb, .int (nI ln)])), (tv, .inl (dA 2, c0, .inl bt))]) (fun _ => True) (S := Int32) (fun _ _ => True) (fun _ => none) (fun u => [(tb, .inr (10, [.ref tv, .int (nI 0), .int u, .int (nI 0)])), (tv, .inl (dA 2, c0, .inl bt))]) := by
  refine ex_of (by decide) (Nat.le_of_ble_eq_true rfl) ?_
  intro p e s m below meth c A S hrt hlk hnm G hA hAe hΦ H locs hP hD hS ls hl
  obtain ⟨hx, hb, hml, hown, hts⟩ := id S
  have K := G.1.1
  have hA0 := up_A hup G.1.2.2.2.2.2.2 hAe
  have hP : va_P D vwCl [(tb, .inr (10, [.ref tv, .int (nI 0), .int mb, .int (nI ln)])), (tv, .inl (dA 2, c0, .inl bt))] H := hP
  have hD : va_D A [(tb, .inr (10, [.ref tv, .int (nI 0), .int mb, .int (nI ln)])), (tv, .inl (dA 2, c0, .inl bt))] := hD
  have hl : lv_has ls 2 [(0, .ref tb), (1, .int (nI 0))] := hl
  refine lv_iload_n hx hb dJ3_setLength_0 rfl (lv_at hl 1 rfl) ?_
  refine lv_if_ge (tgt := 13) hx hb dJ3_setLength_1 (by decide) (fun _ => ?_) (fun h => absurd (by decide) h)
  refine lv_aload_n hx hb dJ3_setLength_13 rfl (lv_at hl 0 rfl) ?_
  refine lv_iload_n hx hb dJ3_setLength_14 rfl (lv_at hl 1 rfl) ?_
  refine x_ecall (wr := []) (va_runU (As := [.int (nI 0)]) (rest := []) S (xt_ecN0 l D dA E ad sz0 mi tb tv mb ln c0 bt hc0 0 (by omega) (up_D hA0 hD) H.size) (va_cwP 1 hts (K.1 10 _ rfl).2.1 q825 q1376 (va_Nw.use rfl (G.1.2.1 _ q826 rfl)) q827 q65 q828 rfl rfl (by decide +kernel) ⟨Nat.le_of_ble_eq_true rfl, Nat.le_of_ble_eq_true rfl⟩) ⟨pe_blind g1_bl _, va_recv K hP (ci := 10) (q0 := 0) rfl rfl, pe_pre (g1_mv G (low_of hS hA0 G.1.2.2.2.2.2.2) hS.1) hP hD trivial _⟩ rfl rfl hl.1 rfl (lv_room (Nat.le_of_ble_eq_true rfl)) dJ3_setLength_15 ⟨Nat.le_of_ble_eq_true rfl, Nat.le_of_ble_eq_true rfl⟩) hP hD hS hA [0, 1] [] rfl rfl (by decide) (by decide) (fun _u H locs hΨ hP hD hS hkp hsz hDn => ?_)
  have hP : va_P D vwCl [(tb, .inr (10, [.ref tv, .int (nI 0), .int mb, .int (nI ln)])), (tv, .inl (dA 2, c0, .inl bt))] H := hP
  have hD : va_D A [(tb, .inr (10, [.ref tv, .int (nI 0), .int mb, .int (nI ln)])), (tv, .inl (dA 2, c0, .inl bt))] := hD
  refine W.widen (k := 1) (n := 900) (Nat.le_of_ble_eq_true rfl) (Nat.le_of_ble_eq_true rfl) ?_
  refine lv_aload_n hx hb dJ3_setLength_18 rfl (lv_at hl 0 rfl) ?_
  refine va_get (D := D) (ci := 10) (C := RJ4) (T := TJ4) (N := 4) hx hb hts in_J4 hown K hP 0 rfl rfl 3 (by decide) (hts _ q211) (fun _ h9 => h9) rfl dJ3_setLength_19 ?_
  refine lv_iload_n hx hb dJ3_setLength_22 rfl (lv_at hl 1 rfl) ?_
  refine x_icmpn_ge (tgt := 63) hx hb dJ3_setLength_23 (by decide) (by omega) (by omega) (fun h => ?_) (fun h => absurd h (by omega))
  refine lv_aload_n hx hb dJ3_setLength_63 rfl (lv_at hl 0 rfl) ?_
  refine va_get (D := D) (ci := 10) (C := RJ4) (T := TJ4) (N := 4) hx hb hts in_J4 hown K hP 0 rfl rfl 3 (by decide) (hts _ q211) (fun _ h9 => h9) rfl dJ3_setLength_64 ?_
  refine lv_iload_n hx hb dJ3_setLength_67 rfl (lv_at hl 1 rfl) ?_
  refine x_icmpn_le (tgt := 76) hx hb dJ3_setLength_68 (by decide) (by omega) (by omega) (fun h_2 => ?_) (fun h_2 => ?_)
  · refine lv_aload_n hx hb dJ3_setLength_76 rfl (lv_at hl 0 rfl) ?_
    refine lv_iload_n hx hb dJ3_setLength_77 rfl (lv_at hl 1 rfl) ?_
    refine va_put (D := D) (ci := 10) (v := .int (nI 0)) (ty := .int) (C := RJ4) (T := TJ4) (N := 4) hx hb hts in_J4 tyJ4 tyJ4_ok nmJ4 hown K hP hD hS 0 rfl rfl 3 (by decide) (hts _ q211) (fun _ h9 => h9) rfl (by decide +kernel) rfl rfl (Nat.le_of_ble_eq_true rfl) dJ3_setLength_78 (fun H locs hP hD hS => ?_)
    have hP : va_P D vwCl [(tb, .inr (10, [.ref tv, .int (nI 0), .int mb, .int (nI 0)])), (tv, .inl (dA 2, c0, .inl bt))] H := hP
    have hD : va_D A [(tb, .inr (10, [.ref tv, .int (nI 0), .int mb, .int (nI 0)])), (tv, .inl (dA 2, c0, .inl bt))] := hD
    exact x_evret mb hx hb hrt hlk rfl trivial hP hD hS dJ3_setLength_81 (Nat.le_of_ble_eq_true rfl) (Nat.le_of_ble_eq_true rfl)
  · refine lv_aload_n hx hb dJ3_setLength_71 rfl (lv_at hl 0 rfl) ?_
    refine lv_iconst (v := nI 1) hx hb dJ3_setLength_72 (by decide) ?_
    refine va_put (D := D) (ci := 10) (v := .int (nI 1)) (ty := .boolean) (C := RJ4) (T := TJ4) (N := 4) hx hb hts in_J4 tyJ4 tyJ4_ok nmJ4 hown K hP hD hS 0 rfl rfl 2 (by decide) (hts _ q210) (fun _ h9 => h9) rfl (by decide +kernel) rfl rfl (Nat.le_of_ble_eq_true rfl) dJ3_setLength_73 (fun H locs hP hD hS => ?_)
    have hP : va_P D vwCl [(tb, .inr (10, [.ref tv, .int (nI 0), .int (nI 1), .int (nI ln)])), (tv, .inl (dA 2, c0, .inl bt))] H := hP
    have hD : va_D A [(tb, .inr (10, [.ref tv, .int (nI 0), .int (nI 1), .int (nI ln)])), (tv, .inl (dA 2, c0, .inl bt))] := hD
    refine lv_aload_n hx hb dJ3_setLength_76 rfl (lv_at hl 0 rfl) ?_
    refine lv_iload_n hx hb dJ3_setLength_77 rfl (lv_at hl 1 rfl) ?_
    refine va_put (D := D) (ci := 10) (v := .int (nI 0)) (ty := .int) (C := RJ4) (T := TJ4) (N := 4) hx hb hts in_J4 tyJ4 tyJ4_ok nmJ4 hown K hP hD hS 0 rfl rfl 3 (by decide) (hts _ q211) (fun _ h9 => h9) rfl (by decide +kernel) rfl rfl (Nat.le_of_ble_eq_true rfl) dJ3_setLength_78 (fun H locs hP hD hS => ?_)
    have hP : va_P D vwCl [(tb, .inr (10, [.ref tv, .int (nI 0), .int (nI 1), .int (nI 0)])), (tv, .inl (dA 2, c0, .inl bt))] H := hP
    have hD : va_D A [(tb, .inr (10, [.ref tv, .int (nI 0), .int (nI 1), .int (nI 0)])), (tv, .inl (dA 2, c0, .inl bt))] := hD
    exact x_evret (nI 1) hx hb hrt hlk rfl trivial hP hD hS dJ3_setLength_81 (Nat.le_of_ble_eq_true rfl) (Nat.le_of_ble_eq_true rfl)

set_option maxHeartbeats 4000000 in
theorem xt_sl0 (l : Launch) (D : va_G) (dA : Nat → ClassId) (E : Nat) (ad : Nat → Nat) (sz0 mi : Nat) (tb tv : Nat) (mb : Int32) (ln c0 : Nat) (bt : Nat → Int32) (hc0 : 0 < c0 ∧ c0 ≤ 200) (hln : ln < 2 ^ 31) (hup : Up sz0 ([(tb, .inr (10, [.ref tv, .int (nI 0), .int mb, .int (nI ln)])), (tv, .inl (dA 2, c0, .inl bt))])) : EX l yJ4_setLength cJ4_setLength 2 none 5 200 1 900 [.ref tb, .int (nI 0)] (G1 D dA E ad sz0 mi) D ([(tb, .inr (10, [.ref tv, .int (nI 0), .int mb, .int (nI ln)])), (tv, .inl (dA 2, c0, .inl bt))]) (fun _ => True) (S := Int32) (fun _ _ => True) (fun _ => none) (fun u => [(tb, .inr (10, [.ref tv, .int (nI 0), .int u, .int (nI 0)])), (tv, .inl (dA 2, c0, .inl bt))]) := by
  refine ex_of (by decide) (Nat.le_of_ble_eq_true rfl) ?_
  intro p e s m below meth c A S hrt hlk hnm G hA hAe hΦ H locs hP hD hS ls hl
  obtain ⟨hx, hb, hml, hown, hts⟩ := id S
  have K := G.1.1
  have hA0 := up_A hup G.1.2.2.2.2.2.2 hAe
  have hP : va_P D vwCl [(tb, .inr (10, [.ref tv, .int (nI 0), .int mb, .int (nI ln)])), (tv, .inl (dA 2, c0, .inl bt))] H := hP
  have hD : va_D A [(tb, .inr (10, [.ref tv, .int (nI 0), .int mb, .int (nI ln)])), (tv, .inl (dA 2, c0, .inl bt))] := hD
  have hl : lv_has ls 2 [(0, .ref tb), (1, .int (nI 0))] := hl
  refine lv_aload_n hx hb dJ4_setLength_0 rfl (lv_at hl 0 rfl) ?_
  refine lv_iload_n hx hb dJ4_setLength_1 rfl (lv_at hl 1 rfl) ?_
  refine x_ecall (wr := []) (va_runSU (As := [.int (nI 0)]) (rest := []) ((K.1 10 _ rfl).2) S (xt_asl0 l D dA E ad sz0 mi tb tv mb ln c0 bt hc0 hln (up_D hA0 hD) H.size) (va_cwSU 1 hts (lw_SU (y := yJ3_setLength) q890 q1379 q220 q891 q65 q892) rfl rfl rfl (by decide +kernel) ⟨Nat.le_of_ble_eq_true rfl, Nat.le_of_ble_eq_true rfl⟩) ⟨pe_blind g1_bl _, va_recv K hP (ci := 10) (q0 := 0) rfl rfl, pe_pre (g1_mv G (low_of hS hA0 G.1.2.2.2.2.2.2) hS.1) hP hD trivial _⟩ rfl rfl hl.1 rfl (lv_room (Nat.le_of_ble_eq_true rfl)) dJ4_setLength_2 ⟨Nat.le_of_ble_eq_true rfl, Nat.le_of_ble_eq_true rfl⟩) hP hD hS hA [0, 1] [] rfl rfl (by decide) (by decide) (fun u H locs hΨ hP hD hS hkp hsz hDn => ?_)
  have hP : va_P D vwCl [(tb, .inr (10, [.ref tv, .int (nI 0), .int u, .int (nI 0)])), (tv, .inl (dA 2, c0, .inl bt))] H := hP
  have hD : va_D A [(tb, .inr (10, [.ref tv, .int (nI 0), .int u, .int (nI 0)])), (tv, .inl (dA 2, c0, .inl bt))] := hD
  refine W.widen (k := 1) (n := 900) (Nat.le_of_ble_eq_true rfl) (Nat.le_of_ble_eq_true rfl) ?_
  exact x_evret u hx hb hrt hlk rfl trivial hP hD hS dJ4_setLength_5 (Nat.le_of_ble_eq_true rfl) (Nat.le_of_ble_eq_true rfl)

set_option maxHeartbeats 4000000 in
theorem xt_app1 (l : Launch) (D : va_G) (dA : Nat → ClassId) (E : Nat) (ad : Nat → Nat) (sz0 mi : Nat) (tb tv : Nat) (mb : Int32) (ln c0 : Nat) (bt : Nat → Int32) (hc0 : 0 < c0 ∧ c0 ≤ 200) (ch : Nat → Nat) (htx : Tx1 bt ch ln) (hln : ln ≤ c0 ∧ ln < 60) (x0 : Nat) (hx0 : x0 < 65536) (hup : Up sz0 ([(tb, .inr (10, [.ref tv, .int (nI 1), .int mb, .int (nI ln)])), (tv, .inl (dA 2, 2 * c0, .inl bt))])) : EX l yJ3_append cJ3_append 2 (some (.object "java/lang/AbstractStringBuilder")) 6 240 2 1800 [.ref tb, .int (nI x0)] (G1 D dA E ad sz0 mi) D ([(tb, .inr (10, [.ref tv, .int (nI 1), .int mb, .int (nI ln)])), (tv, .inl (dA 2, 2 * c0, .inl bt))]) (fun _ => True) (S := TU) (fun u _ => TxOk u (upS ch ln x0) (ln + 1)) (fun _ => some (.ref tb)) (fun u => tW dA tb u mb (ln + 1)) := by
  refine ex_of (by decide) (Nat.le_of_ble_eq_true rfl) ?_
  intro p e s m below meth c A S hrt hlk hnm G hA hAe hΦ H locs hP hD hS ls hl
  obtain ⟨hx, hb, hml, hown, hts⟩ := id S
  have K := G.1.1
  have hA0 := up_A hup G.1.2.2.2.2.2.2 hAe
  have hP : va_P D vwCl [(tb, .inr (10, [.ref tv, .int (nI 1), .int mb, .int (nI ln)])), (tv, .inl (dA 2, 2 * c0, .inl bt))] H := hP
  have hD : va_D A [(tb, .inr (10, [.ref tv, .int (nI 1), .int mb, .int (nI ln)])), (tv, .inl (dA 2, 2 * c0, .inl bt))] := hD
  have hl : lv_has ls 2 [(0, .ref tb), (1, .int (nI x0))] := hl
  refine lv_aload_n hx hb dJ3_append_0 rfl (lv_at hl 0 rfl) ?_
  refine lv_aload_n hx hb dJ3_append_1 rfl (lv_at hl 0 rfl) ?_
  refine va_get (D := D) (ci := 10) (C := RJ4) (T := TJ4) (N := 4) hx hb hts in_J4 hown K hP 0 rfl rfl 3 (by decide) (hts _ q211) (fun _ h9 => h9) rfl dJ3_append_2 ?_
  refine lv_iconst (v := nI 1) hx hb dJ3_append_5 (by decide) ?_
  refine x_addN hx hb dJ3_append_6 ?_
  rcases Nat.lt_or_ge ln c0 with hr | hr
  · refine x_ecall (wr := []) (va_runU (As := [.int (nI (ln + 1))]) (rest := []) S (xt_ecN1 l D dA E ad sz0 mi tb tv mb ln c0 bt hc0 (ln + 1) (by omega) (up_D hA0 hD) H.size) (va_cwP 1 hts (K.1 10 _ rfl).2.1 q825 q1376 (va_Nw.use rfl (G.1.2.1 _ q826 rfl)) q827 q65 q828 rfl rfl (by decide +kernel) ⟨Nat.le_of_ble_eq_true rfl, Nat.le_of_ble_eq_true rfl⟩) ⟨pe_blind g1_bl _, va_recv K hP (ci := 10) (q0 := 0) rfl rfl, pe_pre (g1_mv G (low_of hS hA0 G.1.2.2.2.2.2.2) hS.1) hP hD trivial _⟩ rfl rfl hl.1 rfl (lv_room (Nat.le_of_ble_eq_true rfl)) dJ3_append_7 ⟨Nat.le_of_ble_eq_true rfl, Nat.le_of_ble_eq_true rfl⟩) hP hD hS hA [0, 1] [] rfl rfl (by decide) (by decide) (fun _u H locs hΨ hP hD hS hkp hsz hDn => ?_)
    have hP : va_P D vwCl [(tb, .inr (10, [.ref tv, .int (nI 1), .int mb, .int (nI ln)])), (tv, .inl (dA 2, 2 * c0, .inl bt))] H := hP
    have hD : va_D A [(tb, .inr (10, [.ref tv, .int (nI 1), .int mb, .int (nI ln)])), (tv, .inl (dA 2, 2 * c0, .inl bt))] := hD
    refine W.widen (k := 1) (n := 900) (Nat.le_of_ble_eq_true rfl) (Nat.le_of_ble_eq_true rfl) ?_
    have htx1 := htx
    refine lv_aload_n hx hb dJ3_append_10 rfl (lv_at hl 0 rfl) ?_
    refine x_ret (va_runU (As := []) (rest := []) S (xt_isL1 l D dA E ad sz0 mi tb tv mb ln) (va_cwU 0 hts (lw_U (x := ⟨"java/lang/AbstractStringBuilder", "isLatin1", "()Z"⟩) (owner := "java/lang/AbstractStringBuilder") q845 q847 q848 q846 q65 q849) rfl rfl rfl rfl (by decide +kernel) ⟨Nat.le_of_ble_eq_true rfl, Nat.le_of_ble_eq_true rfl⟩) ⟨bb_blind g1_bl _, va_recv K hP (ci := 10) (q0 := 0) rfl rfl, bb_pre (g1_mv G (low_of hS hA0 G.1.2.2.2.2.2.2) hS.1) (hP.sub [0] rfl) _⟩ rfl rfl hl.1 rfl (lv_room (Nat.le_of_ble_eq_true rfl)) dJ3_append_11 ⟨Nat.le_of_ble_eq_true rfl, Nat.le_of_ble_eq_true rfl⟩) ?_
    refine x_ifb_eq (tgt := 45) hx hb dJ3_append_14 (by decide) (fun _ => ?_) (fun h => by cases h)
    refine lv_aload_n hx hb dJ3_append_45 rfl (lv_at hl 0 rfl) ?_
    refine x_ret (va_runU (As := []) (rest := []) S (xt_isL1 l D dA E ad sz0 mi tb tv mb ln) (va_cwU 0 hts (lw_U (x := ⟨"java/lang/AbstractStringBuilder", "isLatin1", "()Z"⟩) (owner := "java/lang/AbstractStringBuilder") q845 q847 q848 q846 q65 q849) rfl rfl rfl rfl (by decide +kernel) ⟨Nat.le_of_ble_eq_true rfl, Nat.le_of_ble_eq_true rfl⟩) ⟨bb_blind g1_bl _, va_recv K hP (ci := 10) (q0 := 0) rfl rfl, bb_pre (g1_mv G (low_of hS hA0 G.1.2.2.2.2.2.2) hS.1) (hP.sub [0] rfl) _⟩ rfl rfl hl.1 rfl (lv_room (Nat.le_of_ble_eq_true rfl)) dJ3_append_46 ⟨Nat.le_of_ble_eq_true rfl, Nat.le_of_ble_eq_true rfl⟩) ?_
    refine x_ifb_eq (tgt := 56) hx hb dJ3_append_49 (by decide) (fun _ => ?_) (fun h => by cases h)
    refine lv_aload_n hx hb dJ3_append_56 rfl (lv_at hl 0 rfl) ?_
    refine va_get (D := D) (ci := 10) (C := RJ4) (T := TJ4) (N := 4) hx hb hts in_J4 hown K hP 0 rfl rfl 0 (by decide) (hts _ q208) (fun _ h9 => h9) rfl dJ3_append_57 ?_
    refine lv_aload_n hx hb dJ3_append_60 rfl (lv_at hl 0 rfl) ?_
    refine lv_dup hx hb dJ3_append_61 rfl ?_
    refine va_get (D := D) (ci := 10) (C := RJ4) (T := TJ4) (N := 4) hx hb hts in_J4 hown K hP 0 rfl rfl 3 (by decide) (hts _ q211) (fun _ h9 => h9) rfl dJ3_append_62 ?_
    refine lv_dup_x1 hx hb dJ3_append_65 rfl rfl ?_
    refine lv_iconst (v := nI 1) hx hb dJ3_append_66 (by decide) ?_
    refine x_addN hx hb dJ3_append_67 ?_
    refine va_put (D := D) (ci := 10) (v := .int (nI (ln + 1))) (ty := .int) (C := RJ4) (T := TJ4) (N := 4) hx hb hts in_J4 tyJ4 tyJ4_ok nmJ4 hown K hP hD hS 0 rfl rfl 3 (by decide) (hts _ q211) (fun _ h9 => h9) rfl (by decide +kernel) rfl rfl (Nat.le_of_ble_eq_true rfl) dJ3_append_68 (fun H locs hP hD hS => ?_)
    have hP : va_P D vwCl [(tb, .inr (10, [.ref tv, .int (nI 1), .int mb, .int (nI (ln + 1))])), (tv, .inl (dA 2, 2 * c0, .inl bt))] H := hP
    have hD : va_D A [(tb, .inr (10, [.ref tv, .int (nI 1), .int mb, .int (nI (ln + 1))])), (tv, .inl (dA 2, 2 * c0, .inl bt))] := hD
    refine lv_iload_n hx hb dJ3_append_71 rfl (lv_at hl 1 rfl) ?_
    refine x_ecall (wr := [(tb, .inr (10, [.ref tv, .int (nI 1), .int mb, .int (nI (ln + 1))]))]) (va_runS (As := [.ref tv, .int (nI ln), .int (nI x0)]) (rest := []) S (xt_psb l D dA E ad sz0 mi tv (2 * c0) bt (by omega) ln x0 (by omega) hx0 (up_D hA0 (hD.sub [1] (by decide) rfl)) H.size) (va_cwS 3 hts (lw_S q875 q876 q68 q877) rfl rfl rfl hdJ6_putCharSB ⟨Nat.le_of_ble_eq_true rfl, Nat.le_of_ble_eq_true rfl⟩) ⟨pe_blind g1_bl _, pe_pre (g1_mv G (low_of hS hA0 G.1.2.2.2.2.2.2) hS.1) (hP.sub [1] rfl) (hD.sub [1] (by decide) rfl) trivial _⟩ rfl rfl hl.1 rfl (lv_room (Nat.le_of_ble_eq_true rfl)) dJ3_append_72 ⟨Nat.le_of_ble_eq_true rfl, Nat.le_of_ble_eq_true rfl⟩) hP hD hS hA [1] [0] rfl rfl (by decide) (by decide) (fun _u H locs hΨ hP hD hS hkp hsz hDn => ?_)
    have hP : va_P D vwCl [(tb, .inr (10, [.ref tv, .int (nI 1), .int mb, .int (nI (ln + 1))])), (tv, .inl (dA 2, 2 * c0, .inl (put2 bt ln x0)))] H := hP
    have hD : va_D A [(tb, .inr (10, [.ref tv, .int (nI 1), .int mb, .int (nI (ln + 1))])), (tv, .inl (dA 2, 2 * c0, .inl (put2 bt ln x0)))] := hD
    refine W.widen (k := 1) (n := 900) (Nat.le_of_ble_eq_true rfl) (Nat.le_of_ble_eq_true rfl) ?_
    refine lv_aload_n hx hb dJ3_append_75 rfl (lv_at hl 0 rfl) ?_
    exact x_earet (true, tv, c0, put2 bt ln x0) hx hb hrt (Or.inl ⟨_, rfl⟩) hlk rfl ⟨⟨by dsimp only; omega, by dsimp only; omega⟩, (by dsimp only; omega), (fun h => by cases h), (fun _ => tx1_app htx1 hx0)⟩ hP hD hS dJ3_append_76 (Nat.le_of_ble_eq_true rfl) (Nat.le_of_ble_eq_true rfl)
  · refine x_ecall (wr := []) (va_runU (As := [.int (nI (ln + 1))]) (rest := []) S (xt_ecG1 l D dA E ad sz0 mi tb tv mb ln c0 bt hc0 (ln + 1) (by omega) htx.1 (up_D hA0 hD) H.size) (va_cwP 1 hts (K.1 10 _ rfl).2.1 q825 q1376 (va_Nw.use rfl (G.1.2.1 _ q826 rfl)) q827 q65 q828 rfl rfl (by decide +kernel) ⟨Nat.le_of_ble_eq_true rfl, Nat.le_of_ble_eq_true rfl⟩) ⟨pe_blind g1_bl _, va_recv K hP (ci := 10) (q0 := 0) rfl rfl, pe_pre (g1_mv G (low_of hS hA0 G.1.2.2.2.2.2.2) hS.1) hP hD trivial _⟩ rfl rfl hl.1 rfl (lv_room (Nat.le_of_ble_eq_true rfl)) dJ3_append_7 ⟨Nat.le_of_ble_eq_true rfl, Nat.le_of_ble_eq_true rfl⟩) hP hD hS hA [0, 1] [] rfl rfl (by decide) (by decide) (fun t1 H locs hΨ hP hD hS hkp hsz hDn => ?_)
    have hP : va_P D vwCl [(tb, .inr (10, [.ref t1, .int (nI 1), .int mb, .int (nI ln)])), (t1, .inl (dA 2, 2 * (2 * c0 + 2), .inl (va_cpy bt (fun _ => 0) 0 0 (min (2 * c0) (2 * (2 * c0 + 2))))))] H := hP
    have hD : va_D A [(tb, .inr (10, [.ref t1, .int (nI 1), .int mb, .int (nI ln)])), (t1, .inl (dA 2, 2 * (2 * c0 + 2), .inl (va_cpy bt (fun _ => 0) 0 0 (min (2 * c0) (2 * (2 * c0 + 2))))))] := hD
    refine W.widen (k := 1) (n := 900) (Nat.le_of_ble_eq_true rfl) (Nat.le_of_ble_eq_true rfl) ?_
    have htx1 : Tx1 (va_cpy bt (fun _ => 0) 0 0 (min (2 * c0) (2 * (2 * c0 + 2)))) ch ln := tx1_cpy htx (by omega)
    refine lv_aload_n hx hb dJ3_append_10 rfl (lv_at hl 0 rfl) ?_
    refine x_ret (va_runU (As := []) (rest := []) S (xt_isL1 l D dA E ad sz0 mi tb t1 mb ln) (va_cwU 0 hts (lw_U (x := ⟨"java/lang/AbstractStringBuilder", "isLatin1", "()Z"⟩) (owner := "java/lang/AbstractStringBuilder") q845 q847 q848 q846 q65 q849) rfl rfl rfl rfl (by decide +kernel) ⟨Nat.le_of_ble_eq_true rfl, Nat.le_of_ble_eq_true rfl⟩) ⟨bb_blind g1_bl _, va_recv K hP (ci := 10) (q0 := 0) rfl rfl, bb_pre (g1_mv G (low_of hS hA0 G.1.2.2.2.2.2.2) hS.1) (hP.sub [0] rfl) _⟩ rfl rfl hl.1 rfl (lv_room (Nat.le_of_ble_eq_true rfl)) dJ3_append_11 ⟨Nat.le_of_ble_eq_true rfl, Nat.le_of_ble_eq_true rfl⟩) ?_
    refine x_ifb_eq (tgt := 45) hx hb dJ3_append_14 (by decide) (fun _ => ?_) (fun h => by cases h)
    refine lv_aload_n hx hb dJ3_append_45 rfl (lv_at hl 0 rfl) ?_
    refine x_ret (va_runU (As := []) (rest := []) S (xt_isL1 l D dA E ad sz0 mi tb t1 mb ln) (va_cwU 0 hts (lw_U (x := ⟨"java/lang/AbstractStringBuilder", "isLatin1", "()Z"⟩) (owner := "java/lang/AbstractStringBuilder") q845 q847 q848 q846 q65 q849) rfl rfl rfl rfl (by decide +kernel) ⟨Nat.le_of_ble_eq_true rfl, Nat.le_of_ble_eq_true rfl⟩) ⟨bb_blind g1_bl _, va_recv K hP (ci := 10) (q0 := 0) rfl rfl, bb_pre (g1_mv G (low_of hS hA0 G.1.2.2.2.2.2.2) hS.1) (hP.sub [0] rfl) _⟩ rfl rfl hl.1 rfl (lv_room (Nat.le_of_ble_eq_true rfl)) dJ3_append_46 ⟨Nat.le_of_ble_eq_true rfl, Nat.le_of_ble_eq_true rfl⟩) ?_
    refine x_ifb_eq (tgt := 56) hx hb dJ3_append_49 (by decide) (fun _ => ?_) (fun h => by cases h)
    refine lv_aload_n hx hb dJ3_append_56 rfl (lv_at hl 0 rfl) ?_
    refine va_get (D := D) (ci := 10) (C := RJ4) (T := TJ4) (N := 4) hx hb hts in_J4 hown K hP 0 rfl rfl 0 (by decide) (hts _ q208) (fun _ h9 => h9) rfl dJ3_append_57 ?_
    refine lv_aload_n hx hb dJ3_append_60 rfl (lv_at hl 0 rfl) ?_
    refine lv_dup hx hb dJ3_append_61 rfl ?_
    refine va_get (D := D) (ci := 10) (C := RJ4) (T := TJ4) (N := 4) hx hb hts in_J4 hown K hP 0 rfl rfl 3 (by decide) (hts _ q211) (fun _ h9 => h9) rfl dJ3_append_62 ?_
    refine lv_dup_x1 hx hb dJ3_append_65 rfl rfl ?_
    refine lv_iconst (v := nI 1) hx hb dJ3_append_66 (by decide) ?_
    refine x_addN hx hb dJ3_append_67 ?_
    refine va_put (D := D) (ci := 10) (v := .int (nI (ln + 1))) (ty := .int) (C := RJ4) (T := TJ4) (N := 4) hx hb hts in_J4 tyJ4 tyJ4_ok nmJ4 hown K hP hD hS 0 rfl rfl 3 (by decide) (hts _ q211) (fun _ h9 => h9) rfl (by decide +kernel) rfl rfl (Nat.le_of_ble_eq_true rfl) dJ3_append_68 (fun H locs hP hD hS => ?_)
    have hP : va_P D vwCl [(tb, .inr (10, [.ref t1, .int (nI 1), .int mb, .int (nI (ln + 1))])), (t1, .inl (dA 2, 2 * (2 * c0 + 2), .inl (va_cpy bt (fun _ => 0) 0 0 (min (2 * c0) (2 * (2 * c0 + 2))))))] H := hP
    have hD : va_D A [(tb, .inr (10, [.ref t1, .int (nI 1), .int mb, .int (nI (ln + 1))])), (t1, .inl (dA 2, 2 * (2 * c0 + 2), .inl (va_cpy bt (fun _ => 0) 0 0 (min (2 * c0) (2 * (2 * c0 + 2))))))] := hD
    refine lv_iload_n hx hb dJ3_append_71 rfl (lv_at hl 1 rfl) ?_
    refine x_ecall (wr := [(tb, .inr (10, [.ref t1, .int (nI 1), .int mb, .int (nI (ln + 1))]))]) (va_runS (As := [.ref t1, .int (nI ln), .int (nI x0)]) (rest := []) S (xt_psb l D dA E ad sz0 mi t1 (2 * (2 * c0 + 2)) (va_cpy bt (fun _ => 0) 0 0 (min (2 * c0) (2 * (2 * c0 + 2)))) (by omega) ln x0 (by omega) hx0 (up_D hA0 (hD.sub [1] (by decide) rfl)) H.size) (va_cwS 3 hts (lw_S q875 q876 q68 q877) rfl rfl rfl hdJ6_putCharSB ⟨Nat.le_of_ble_eq_true rfl, Nat.le_of_ble_eq_true rfl⟩) ⟨pe_blind g1_bl _, pe_pre (g1_mv G (low_of hS hA0 G.1.2.2.2.2.2.2) hS.1) (hP.sub [1] rfl) (hD.sub [1] (by decide) rfl) trivial _⟩ rfl rfl hl.1 rfl (lv_room (Nat.le_of_ble_eq_true rfl)) dJ3_append_72 ⟨Nat.le_of_ble_eq_true rfl, Nat.le_of_ble_eq_true rfl⟩) hP hD hS hA [1] [0] rfl rfl (by decide) (by decide) (fun _u H locs hΨ hP hD hS hkp hsz hDn => ?_)
    have hP : va_P D vwCl [(tb, .inr (10, [.ref t1, .int (nI 1), .int mb, .int (nI (ln + 1))])), (t1, .inl (dA 2, 2 * (2 * c0 + 2), .inl (put2 (va_cpy bt (fun _ => 0) 0 0 (min (2 * c0) (2 * (2 * c0 + 2)))) ln x0)))] H := hP
    have hD : va_D A [(tb, .inr (10, [.ref t1, .int (nI 1), .int mb, .int (nI (ln + 1))])), (t1, .inl (dA 2, 2 * (2 * c0 + 2), .inl (put2 (va_cpy bt (fun _ => 0) 0 0 (min (2 * c0) (2 * (2 * c0 + 2)))) ln x0)))] := hD
    refine W.widen (k := 1) (n := 900) (Nat.le_of_ble_eq_true rfl) (Nat.le_of_ble_eq_true rfl) ?_
    refine lv_aload_n hx hb dJ3_append_75 rfl (lv_at hl 0 rfl) ?_
    exact x_earet (true, t1, 2 * c0 + 2, put2 (va_cpy bt (fun _ => 0) 0 0 (min (2 * c0) (2 * (2 * c0 + 2)))) ln x0) hx hb hrt (Or.inl ⟨_, rfl⟩) hlk rfl ⟨⟨by dsimp only; omega, by dsimp only; omega⟩, (by dsimp only; omega), (fun h => by cases h), (fun _ => tx1_app htx1 hx0)⟩ hP hD hS dJ3_append_76 (Nat.le_of_ble_eq_true rfl) (Nat.le_of_ble_eq_true rfl)

set_option maxHeartbeats 4000000 in
theorem xt_sap1 (l : Launch) (D : va_G) (dA : Nat → ClassId) (E : Nat) (ad : Nat → Nat) (sz0 mi : Nat) (tb tv : Nat) (mb : Int32) (ln c0 : Nat) (bt : Nat → Int32) (hc0 : 0 < c0 ∧ c0 ≤ 200) (ch : Nat → Nat) (htx : Tx1 bt ch ln) (hln : ln ≤ c0 ∧ ln < 60) (x0 : Nat) (hx0 : x0 < 65536) (hup : Up sz0 ([(tb, .inr (10, [.ref tv, .int (nI 1), .int mb, .int (nI ln)])), (tv, .inl (dA 2, 2 * c0, .inl bt))])) : EX l yJ4_append cJ4_append 2 (some (.object "java/lang/StringBuilder")) 7 280 2 1800 [.ref tb, .int (nI x0)] (G1 D dA E ad sz0 mi) D ([(tb, .inr (10, [.ref tv, .int (nI 1), .int mb, .int (nI ln)])), (tv, .inl (dA 2, 2 * c0, .inl bt))]) (fun _ => True) (S := TU) (fun u _ => TxOk u (upS ch ln x0) (ln + 1)) (fun _ => some (.ref tb)) (fun u => tW dA tb u mb (ln + 1)) := by
  refine ex_of (by decide) (Nat.le_of_ble_eq_true rfl) ?_
  intro p e s m below meth c A S hrt hlk hnm G hA hAe hΦ H locs hP hD hS ls hl
  obtain ⟨hx, hb, hml, hown, hts⟩ := id S
  have K := G.1.1
  have hA0 := up_A hup G.1.2.2.2.2.2.2 hAe
  have hP : va_P D vwCl [(tb, .inr (10, [.ref tv, .int (nI 1), .int mb, .int (nI ln)])), (tv, .inl (dA 2, 2 * c0, .inl bt))] H := hP
  have hD : va_D A [(tb, .inr (10, [.ref tv, .int (nI 1), .int mb, .int (nI ln)])), (tv, .inl (dA 2, 2 * c0, .inl bt))] := hD
  have hl : lv_has ls 2 [(0, .ref tb), (1, .int (nI x0))] := hl
  refine lv_aload_n hx hb dJ4_append_0 rfl (lv_at hl 0 rfl) ?_
  refine lv_iload_n hx hb dJ4_append_1 rfl (lv_at hl 1 rfl) ?_
  refine x_ecall (wr := []) (va_runSU (As := [.int (nI x0)]) (rest := []) ((K.1 10 _ rfl).2) S (xt_app1 l D dA E ad sz0 mi tb tv mb ln c0 bt hc0 ch htx hln x0 hx0 (up_D hA0 hD) H.size) (va_cwSU 1 hts (lw_SU (y := yJ3_append) q822 q1375 q220 q823 q65 q824) rfl rfl rfl (by decide +kernel) ⟨Nat.le_of_ble_eq_true rfl, Nat.le_of_ble_eq_true rfl⟩) ⟨pe_blind g1_bl _, va_recv K hP (ci := 10) (q0 := 0) rfl rfl, pe_pre (g1_mv G (low_of hS hA0 G.1.2.2.2.2.2.2) hS.1) hP hD trivial _⟩ rfl rfl hl.1 rfl (lv_room (Nat.le_of_ble_eq_true rfl)) dJ4_append_2 ⟨Nat.le_of_ble_eq_true rfl, Nat.le_of_ble_eq_true rfl⟩) hP hD hS hA [0, 1] [] rfl rfl (by decide) (by decide) (fun u H locs hΨ hP hD hS hkp hsz hDn => ?_)
  have hP : va_P D vwCl (tW dA tb u mb (ln + 1)) H := hP
  have hD : va_D A (tW dA tb u mb (ln + 1)) := hD
  refine W.widen (k := 2) (n := 1800) (Nat.le_of_ble_eq_true rfl) (Nat.le_of_ble_eq_true rfl) ?_
  refine lv_pop hx hb dJ4_append_5 rfl ?_
  refine lv_aload_n hx hb dJ4_append_6 rfl (lv_at hl 0 rfl) ?_
  exact x_earet u hx hb hrt (Or.inl ⟨_, rfl⟩) hlk rfl hΨ hP hD hS dJ4_append_7 (Nat.le_of_ble_eq_true rfl) (Nat.le_of_ble_eq_true rfl)

set_option maxHeartbeats 4000000 in
theorem xt_asl1 (l : Launch) (D : va_G) (dA : Nat → ClassId) (E : Nat) (ad : Nat → Nat) (sz0 mi : Nat) (tb tv : Nat) (mb : Int32) (ln c0 : Nat) (bt : Nat → Int32) (hc0 : 0 < c0 ∧ c0 ≤ 200) (hln : ln < 2 ^ 31) (hup : Up sz0 ([(tb, .inr (10, [.ref tv, .int (nI 1), .int mb, .int (nI ln)])), (tv, .inl (dA 2, 2 * c0, .inl bt))])) : EX l yJ3_setLength cJ3_setLength 2 none 4 160 1 900 [.ref tb, .int (nI 0)] (G1 D dA E ad sz0 mi) D ([(tb, .inr (10, [.ref tv, .int (nI 1), .int mb, .int (nI ln)])), (tv, .inl (dA 2, 2 * c0, .inl bt))]) (fun _ => True) (S := Int32) (fun _ _ => True) (fun _ => none) (fun u => [(tb, .inr (10, [.ref tv, .int (nI 1), .int u, .int (nI 0)])), (tv, .inl (dA 2, 2 * c0, .inl bt))]) := by
  refine ex_of (by decide) (Nat.le_of_ble_eq_true rfl) ?_
  intro p e s m below meth c A S hrt hlk hnm G hA hAe hΦ H locs hP hD hS ls hl
  obtain ⟨hx, hb, hml, hown, hts⟩ := id S
  have K := G.1.1
  have hA0 := up_A hup G.1.2.2.2.2.2.2 hAe
  have hP : va_P D vwCl [(tb, .inr (10, [.ref tv, .int (nI 1), .int mb, .int (nI ln)])), (tv, .inl (dA 2, 2 * c0, .inl bt))] H := hP
  have hD : va_D A [(tb, .inr (10, [.ref tv, .int (nI 1), .int mb, .int (nI ln)])), (tv, .inl (dA 2, 2 * c0, .inl bt))] := hD
  have hl : lv_has ls 2 [(0, .ref tb), (1, .int (nI 0))] := hl
  refine lv_iload_n hx hb dJ3_setLength_0 rfl (lv_at hl 1 rfl) ?_
  refine lv_if_ge (tgt := 13) hx hb dJ3_setLength_1 (by decide) (fun _ => ?_) (fun h => absurd (by decide) h)
  refine lv_aload_n hx hb dJ3_setLength_13 rfl (lv_at hl 0 rfl) ?_
  refine lv_iload_n hx hb dJ3_setLength_14 rfl (lv_at hl 1 rfl) ?_
  refine x_ecall (wr := []) (va_runU (As := [.int (nI 0)]) (rest := []) S (xt_ecN1 l D dA E ad sz0 mi tb tv mb ln c0 bt hc0 0 (by omega) (up_D hA0 hD) H.size) (va_cwP 1 hts (K.1 10 _ rfl).2.1 q825 q1376 (va_Nw.use rfl (G.1.2.1 _ q826 rfl)) q827 q65 q828 rfl rfl (by decide +kernel) ⟨Nat.le_of_ble_eq_true rfl, Nat.le_of_ble_eq_true rfl⟩) ⟨pe_blind g1_bl _, va_recv K hP (ci := 10) (q0 := 0) rfl rfl, pe_pre (g1_mv G (low_of hS hA0 G.1.2.2.2.2.2.2) hS.1) hP hD trivial _⟩ rfl rfl hl.1 rfl (lv_room (Nat.le_of_ble_eq_true rfl)) dJ3_setLength_15 ⟨Nat.le_of_ble_eq_true rfl, Nat.le_of_ble_eq_true rfl⟩) hP hD hS hA [0, 1] [] rfl rfl (by decide) (by decide) (fun _u H locs hΨ hP hD hS hkp hsz hDn => ?_)
  have hP : va_P D vwCl [(tb, .inr (10, [.ref tv, .int (nI 1), .int mb, .int (nI ln)])), (tv, .inl (dA 2, 2 * c0, .inl bt))] H := hP
  have hD : va_D A [(tb, .inr (10, [.ref tv, .int (nI 1), .int mb, .int (nI ln)])), (tv, .inl (dA 2, 2 * c0, .inl bt))] := hD
  refine W.widen (k := 1) (n := 900) (Nat.le_of_ble_eq_true rfl) (Nat.le_of_ble_eq_true rfl) ?_
  refine lv_aload_n hx hb dJ3_setLength_18 rfl (lv_at hl 0 rfl) ?_
  refine va_get (D := D) (ci := 10) (C := RJ4) (T := TJ4) (N := 4) hx hb hts in_J4 hown K hP 0 rfl rfl 3 (by decide) (hts _ q211) (fun _ h9 => h9) rfl dJ3_setLength_19 ?_
  refine lv_iload_n hx hb dJ3_setLength_22 rfl (lv_at hl 1 rfl) ?_
  refine x_icmpn_ge (tgt := 63) hx hb dJ3_setLength_23 (by decide) (by omega) (by omega) (fun h => ?_) (fun h => absurd h (by omega))
  refine lv_aload_n hx hb dJ3_setLength_63 rfl (lv_at hl 0 rfl) ?_
  refine va_get (D := D) (ci := 10) (C := RJ4) (T := TJ4) (N := 4) hx hb hts in_J4 hown K hP 0 rfl rfl 3 (by decide) (hts _ q211) (fun _ h9 => h9) rfl dJ3_setLength_64 ?_
  refine lv_iload_n hx hb dJ3_setLength_67 rfl (lv_at hl 1 rfl) ?_
  refine x_icmpn_le (tgt := 76) hx hb dJ3_setLength_68 (by decide) (by omega) (by omega) (fun h_2 => ?_) (fun h_2 => ?_)
  · refine lv_aload_n hx hb dJ3_setLength_76 rfl (lv_at hl 0 rfl) ?_
    refine lv_iload_n hx hb dJ3_setLength_77 rfl (lv_at hl 1 rfl) ?_
    refine va_put (D := D) (ci := 10) (v := .int (nI 0)) (ty := .int) (C := RJ4) (T := TJ4) (N := 4) hx hb hts in_J4 tyJ4 tyJ4_ok nmJ4 hown K hP hD hS 0 rfl rfl 3 (by decide) (hts _ q211) (fun _ h9 => h9) rfl (by decide +kernel) rfl rfl (Nat.le_of_ble_eq_true rfl) dJ3_setLength_78 (fun H locs hP hD hS => ?_)
    have hP : va_P D vwCl [(tb, .inr (10, [.ref tv, .int (nI 1), .int mb, .int (nI 0)])), (tv, .inl (dA 2, 2 * c0, .inl bt))] H := hP
    have hD : va_D A [(tb, .inr (10, [.ref tv, .int (nI 1), .int mb, .int (nI 0)])), (tv, .inl (dA 2, 2 * c0, .inl bt))] := hD
    exact x_evret mb hx hb hrt hlk rfl trivial hP hD hS dJ3_setLength_81 (Nat.le_of_ble_eq_true rfl) (Nat.le_of_ble_eq_true rfl)
  · refine lv_aload_n hx hb dJ3_setLength_71 rfl (lv_at hl 0 rfl) ?_
    refine lv_iconst (v := nI 1) hx hb dJ3_setLength_72 (by decide) ?_
    refine va_put (D := D) (ci := 10) (v := .int (nI 1)) (ty := .boolean) (C := RJ4) (T := TJ4) (N := 4) hx hb hts in_J4 tyJ4 tyJ4_ok nmJ4 hown K hP hD hS 0 rfl rfl 2 (by decide) (hts _ q210) (fun _ h9 => h9) rfl (by decide +kernel) rfl rfl (Nat.le_of_ble_eq_true rfl) dJ3_setLength_73 (fun H locs hP hD hS => ?_)
    have hP : va_P D vwCl [(tb, .inr (10, [.ref tv, .int (nI 1), .int (nI 1), .int (nI ln)])), (tv, .inl (dA 2, 2 * c0, .inl bt))] H := hP
    have hD : va_D A [(tb, .inr (10, [.ref tv, .int (nI 1), .int (nI 1), .int (nI ln)])), (tv, .inl (dA 2, 2 * c0, .inl bt))] := hD
    refine lv_aload_n hx hb dJ3_setLength_76 rfl (lv_at hl 0 rfl) ?_
    refine lv_iload_n hx hb dJ3_setLength_77 rfl (lv_at hl 1 rfl) ?_
    refine va_put (D := D) (ci := 10) (v := .int (nI 0)) (ty := .int) (C := RJ4) (T := TJ4) (N := 4) hx hb hts in_J4 tyJ4 tyJ4_ok nmJ4 hown K hP hD hS 0 rfl rfl 3 (by decide) (hts _ q211) (fun _ h9 => h9) rfl (by decide +kernel) rfl rfl (Nat.le_of_ble_eq_true rfl) dJ3_setLength_78 (fun H locs hP hD hS => ?_)
    have hP : va_P D vwCl [(tb, .inr (10, [.ref tv, .int (nI 1), .int (nI 1), .int (nI 0)])), (tv, .inl (dA 2, 2 * c0, .inl bt))] H := hP
    have hD : va_D A [(tb, .inr (10, [.ref tv, .int (nI 1), .int (nI 1), .int (nI 0)])), (tv, .inl (dA 2, 2 * c0, .inl bt))] := hD
    exact x_evret (nI 1) hx hb hrt hlk rfl trivial hP hD hS dJ3_setLength_81 (Nat.le_of_ble_eq_true rfl) (Nat.le_of_ble_eq_true rfl)

set_option maxHeartbeats 4000000 in
theorem xt_sl1 (l : Launch) (D : va_G) (dA : Nat → ClassId) (E : Nat) (ad : Nat → Nat) (sz0 mi : Nat) (tb tv : Nat) (mb : Int32) (ln c0 : Nat) (bt : Nat → Int32) (hc0 : 0 < c0 ∧ c0 ≤ 200) (hln : ln < 2 ^ 31) (hup : Up sz0 ([(tb, .inr (10, [.ref tv, .int (nI 1), .int mb, .int (nI ln)])), (tv, .inl (dA 2, 2 * c0, .inl bt))])) : EX l yJ4_setLength cJ4_setLength 2 none 5 200 1 900 [.ref tb, .int (nI 0)] (G1 D dA E ad sz0 mi) D ([(tb, .inr (10, [.ref tv, .int (nI 1), .int mb, .int (nI ln)])), (tv, .inl (dA 2, 2 * c0, .inl bt))]) (fun _ => True) (S := Int32) (fun _ _ => True) (fun _ => none) (fun u => [(tb, .inr (10, [.ref tv, .int (nI 1), .int u, .int (nI 0)])), (tv, .inl (dA 2, 2 * c0, .inl bt))]) := by
  refine ex_of (by decide) (Nat.le_of_ble_eq_true rfl) ?_
  intro p e s m below meth c A S hrt hlk hnm G hA hAe hΦ H locs hP hD hS ls hl
  obtain ⟨hx, hb, hml, hown, hts⟩ := id S
  have K := G.1.1
  have hA0 := up_A hup G.1.2.2.2.2.2.2 hAe
  have hP : va_P D vwCl [(tb, .inr (10, [.ref tv, .int (nI 1), .int mb, .int (nI ln)])), (tv, .inl (dA 2, 2 * c0, .inl bt))] H := hP
  have hD : va_D A [(tb, .inr (10, [.ref tv, .int (nI 1), .int mb, .int (nI ln)])), (tv, .inl (dA 2, 2 * c0, .inl bt))] := hD
  have hl : lv_has ls 2 [(0, .ref tb), (1, .int (nI 0))] := hl
  refine lv_aload_n hx hb dJ4_setLength_0 rfl (lv_at hl 0 rfl) ?_
  refine lv_iload_n hx hb dJ4_setLength_1 rfl (lv_at hl 1 rfl) ?_
  refine x_ecall (wr := []) (va_runSU (As := [.int (nI 0)]) (rest := []) ((K.1 10 _ rfl).2) S (xt_asl1 l D dA E ad sz0 mi tb tv mb ln c0 bt hc0 hln (up_D hA0 hD) H.size) (va_cwSU 1 hts (lw_SU (y := yJ3_setLength) q890 q1379 q220 q891 q65 q892) rfl rfl rfl (by decide +kernel) ⟨Nat.le_of_ble_eq_true rfl, Nat.le_of_ble_eq_true rfl⟩) ⟨pe_blind g1_bl _, va_recv K hP (ci := 10) (q0 := 0) rfl rfl, pe_pre (g1_mv G (low_of hS hA0 G.1.2.2.2.2.2.2) hS.1) hP hD trivial _⟩ rfl rfl hl.1 rfl (lv_room (Nat.le_of_ble_eq_true rfl)) dJ4_setLength_2 ⟨Nat.le_of_ble_eq_true rfl, Nat.le_of_ble_eq_true rfl⟩) hP hD hS hA [0, 1] [] rfl rfl (by decide) (by decide) (fun u H locs hΨ hP hD hS hkp hsz hDn => ?_)
  have hP : va_P D vwCl [(tb, .inr (10, [.ref tv, .int (nI 1), .int u, .int (nI 0)])), (tv, .inl (dA 2, 2 * c0, .inl bt))] H := hP
  have hD : va_D A [(tb, .inr (10, [.ref tv, .int (nI 1), .int u, .int (nI 0)])), (tv, .inl (dA 2, 2 * c0, .inl bt))] := hD
  refine W.widen (k := 1) (n := 900) (Nat.le_of_ble_eq_true rfl) (Nat.le_of_ble_eq_true rfl) ?_
  exact x_evret u hx hb hrt hlk rfl trivial hP hD hS dJ4_setLength_5 (Nat.le_of_ble_eq_true rfl) (Nat.le_of_ble_eq_true rfl)

set_option maxHeartbeats 4000000 in
theorem xt_ini (l : Launch) (D : va_G) (dA : Nat → ClassId) (E : Nat) (ad : Nat → Nat) (sz0 mi : Nat) (tb : Nat) (hup : Up sz0 ([(tb, .inr (10, [.null, .int (nI 0), .int (nI 0), .int (nI 0)]))])) : EX l yJ3_init cJ3_init 2 none 1 40 1 900 [.ref tb, .int (nI 16)] (G1 D dA E ad sz0 mi) D ([(tb, .inr (10, [.null, .int (nI 0), .int (nI 0), .int (nI 0)]))]) (fun _ => True) (S := Nat) (fun _ _ => True) (fun _ => none) (fun u => [(tb, .inr (10, [.ref u, .int (nI 0), .int (nI 0), .int (nI 0)])), (u, .inl (dA 2, 16, .inl (fun _ => 0)))]) := by
  refine ex_of (by decide) (Nat.le_of_ble_eq_true rfl) ?_
  intro p e s m below meth c A S hrt hlk hnm G hA hAe hΦ H locs hP hD hS ls hl
  obtain ⟨hx, hb, hml, hown, hts⟩ := id S
  have K := G.1.1
  have hA0 := up_A hup G.1.2.2.2.2.2.2 hAe
  have hP : va_P D vwCl [(tb, .inr (10, [.null, .int (nI 0), .int (nI 0), .int (nI 0)]))] H := hP
  have hD : va_D A [(tb, .inr (10, [.null, .int (nI 0), .int (nI 0), .int (nI 0)]))] := hD
  have hl : lv_has ls 2 [(0, .ref tb), (1, .int (nI 16))] := hl
  refine lv_aload_n hx hb dJ3_init_0 rfl (lv_at hl 0 rfl) ?_
  refine W.objInit hx hb hown (hts _ q198) (hts _ q94) (hts _ q95) rfl (by rw [hml]; exact hl.1) rfl dJ3_init_1 (Nat.le_of_ble_eq_true rfl) (Nat.le_of_ble_eq_true rfl) ?_
  refine W.eq (g2 := F0 m 4 ls []) rfl ?_
  refine va_gets (A := fun q => sz0 ≤ q) hx hb G.1.2.2.2.2.1.2.2.2.1 (sS_mono hS hA0) hown (hts _ q199) (fun _ h9 => h9) dJ3_init_4 ?_
  refine x_top (y := nI 1) rfl ?_
  refine lv_if_eq (tgt := 25) hx hb dJ3_init_7 (by decide) (fun h => absurd h (by decide)) (fun _ => ?_)
  refine lv_aload_n hx hb dJ3_init_10 rfl (lv_at hl 0 rfl) ?_
  refine lv_iload_n hx hb dJ3_init_11 rfl (lv_at hl 1 rfl) ?_
  refine x_newb (N := 16) hx hb (hts _ q221) K hP hD hS hA (by omega) (Nat.le_of_ble_eq_true rfl) (by show _ + _ ≤ 900; omega) dJ3_init_12 (fun tv H hP hD hS => ?_)
  have hP : va_P D vwCl [(tb, .inr (10, [.null, .int (nI 0), .int (nI 0), .int (nI 0)])), (tv, .inl (dA 2, 16, .inl (fun _ => 0)))] H := hP
  have hD : va_D A [(tb, .inr (10, [.null, .int (nI 0), .int (nI 0), .int (nI 0)])), (tv, .inl (dA 2, 16, .inl (fun _ => 0)))] := hD
  refine W.widen (k := 1) (n := 900) (Nat.le_of_ble_eq_true rfl) (by show _ + _ ≤ 900; omega) ?_
  refine va_put (D := D) (ci := 10) (v := .ref tv) (ty := .array .byte) (C := RJ4) (T := TJ4) (N := 4) hx hb hts in_J4 tyJ4 tyJ4_ok nmJ4 hown K hP hD hS 0 rfl rfl 0 (by decide) (hts _ q208) (fun _ h9 => h9) rfl (by decide +kernel) rfl rfl (Nat.le_of_ble_eq_true rfl) dJ3_init_14 (fun H locs hP hD hS => ?_)
  have hP : va_P D vwCl [(tb, .inr (10, [.ref tv, .int (nI 0), .int (nI 0), .int (nI 0)])), (tv, .inl (dA 2, 16, .inl (fun _ => 0)))] H := hP
  have hD : va_D A [(tb, .inr (10, [.ref tv, .int (nI 0), .int (nI 0), .int (nI 0)])), (tv, .inl (dA 2, 16, .inl (fun _ => 0)))] := hD
  refine lv_aload_n hx hb dJ3_init_17 rfl (lv_at hl 0 rfl) ?_
  refine lv_iconst (v := nI 0) hx hb dJ3_init_18 (by decide) ?_
  refine va_put (D := D) (ci := 10) (v := .int (nI 0)) (ty := .byte) (C := RJ4) (T := TJ4) (N := 4) hx hb hts in_J4 tyJ4 tyJ4_ok nmJ4 hown K hP hD hS 0 rfl rfl 1 (by decide) (hts _ q209) (fun _ h9 => h9) rfl (by decide +kernel) rfl rfl (Nat.le_of_ble_eq_true rfl) dJ3_init_19 (fun H locs hP hD hS => ?_)
  have hP : va_P D vwCl [(tb, .inr (10, [.ref tv, .int (nI 0), .int (nI 0), .int (nI 0)])), (tv, .inl (dA 2, 16, .inl (fun _ => 0)))] H := hP
  have hD : va_D A [(tb, .inr (10, [.ref tv, .int (nI 0), .int (nI 0), .int (nI 0)])), (tv, .inl (dA 2, 16, .inl (fun _ => 0)))] := hD
  refine lv_goto (tgt := 38) hx hb dJ3_init_22 (by decide) ?_
  exact x_evret tv hx hb hrt hlk rfl trivial hP hD hS dJ3_init_38 (Nat.le_of_ble_eq_true rfl) (Nat.le_of_ble_eq_true rfl)

set_option maxHeartbeats 4000000 in
theorem xt_sini (l : Launch) (D : va_G) (dA : Nat → ClassId) (E : Nat) (ad : Nat → Nat) (sz0 mi : Nat) (tb : Nat) (hup : Up sz0 ([(tb, .inr (10, [.null, .int (nI 0), .int (nI 0), .int (nI 0)]))])) : EX l yJ4_init cJ4_init 1 none 2 80 1 900 [.ref tb] (G1 D dA E ad sz0 mi) D ([(tb, .inr (10, [.null, .int (nI 0), .int (nI 0), .int (nI 0)]))]) (fun _ => True) (S := Nat) (fun _ _ => True) (fun _ => none) (fun u => [(tb, .inr (10, [.ref u, .int (nI 0), .int (nI 0), .int (nI 0)])), (u, .inl (dA 2, 16, .inl (fun _ => 0)))]) := by
  refine ex_of (by decide) (Nat.le_of_ble_eq_true rfl) ?_
  intro p e s m below meth c A S hrt hlk hnm G hA hAe hΦ H locs hP hD hS ls hl
  obtain ⟨hx, hb, hml, hown, hts⟩ := id S
  have K := G.1.1
  have hA0 := up_A hup G.1.2.2.2.2.2.2 hAe
  have hP : va_P D vwCl [(tb, .inr (10, [.null, .int (nI 0), .int (nI 0), .int (nI 0)]))] H := hP
  have hD : va_D A [(tb, .inr (10, [.null, .int (nI 0), .int (nI 0), .int (nI 0)]))] := hD
  have hl : lv_has ls 1 [(0, .ref tb)] := hl
  refine lv_aload_n hx hb dJ4_init_0 rfl (lv_at hl 0 rfl) ?_
  refine lv_bipush (v := nI 16) hx hb dJ4_init_1 (by decide) ?_
  refine x_ecall (wr := []) (va_runI (As := [.int (nI 16)]) (rest := []) S (xt_ini l D dA E ad sz0 mi tb (up_D hA0 hD) H.size) (cwI 1 hts (lw_meth q197) rfl rfl rfl (hts _ q65) (hts _ q195) (hts _ q196) rfl (by decide +kernel) ⟨Nat.le_of_ble_eq_true rfl, Nat.le_of_ble_eq_true rfl⟩) ⟨pe_blind g1_bl _, pe_pre (g1_mv G (low_of hS hA0 G.1.2.2.2.2.2.2) hS.1) hP hD trivial _⟩ rfl rfl hl.1 rfl (lv_room (Nat.le_of_ble_eq_true rfl)) dJ4_init_3 ⟨Nat.le_of_ble_eq_true rfl, Nat.le_of_ble_eq_true rfl⟩) hP hD hS hA [0] [] rfl rfl (by decide) (by decide) (fun tv H locs hΨ hP hD hS hkp hsz hDn => ?_)
  have hP : va_P D vwCl [(tb, .inr (10, [.ref tv, .int (nI 0), .int (nI 0), .int (nI 0)])), (tv, .inl (dA 2, 16, .inl (fun _ => 0)))] H := hP
  have hD : va_D A [(tb, .inr (10, [.ref tv, .int (nI 0), .int (nI 0), .int (nI 0)])), (tv, .inl (dA 2, 16, .inl (fun _ => 0)))] := hD
  refine W.widen (k := 1) (n := 900) (Nat.le_of_ble_eq_true rfl) (Nat.le_of_ble_eq_true rfl) ?_
  exact x_evret tv hx hb hrt hlk rfl trivial hP hD hS dJ4_init_6 (Nat.le_of_ble_eq_true rfl) (Nat.le_of_ble_eq_true rfl)

/-! texts in one form -/
theorem xv_len (l : Launch) (D : va_G) (dA : Nat → ClassId) (E : Nat) (ad : Nat → Nat) (sz0 mi : Nat) (tb : Nat) (u : TU) (mb : Int32) (ln : Nat) (ch : Nat → Nat) (htx : TxOk u ch ln) : RO l yJ4_length cJ4_length 1 (some .int) 1 40 [.ref tb] (G1 D dA E ad sz0 mi) (fun H => va_P D vwCl (tW dA tb u mb ln) H) (some (.int (nI ln))) := by
  obtain ⟨co, tv, c0, bt⟩ := u
  cases co with
  | false => exact ro_mono (xt_len0 l D dA E ad sz0 mi tb tv mb ln) (fun H h => h.sub [0] rfl)
  | true => exact ro_mono (xt_len1 l D dA E ad sz0 mi tb tv mb ln) (fun H h => h.sub [0] rfl)
theorem xv_ch (l : Launch) (D : va_G) (dA : Nat → ClassId) (E : Nat) (ad : Nat → Nat) (sz0 mi : Nat) (tb : Nat) (u : TU) (mb : Int32) (ln : Nat) (ch : Nat → Nat) (htx : TxOk u ch ln) (k0 : Nat) (hk0 : k0 < ln) : RO l yJ4_charAt cJ4_charAt 2 (some .char) 3 120 [.ref tb, .int (nI k0)] (G1 D dA E ad sz0 mi) (fun H => va_P D vwCl (tW dA tb u mb ln) H) (some (.int (nI (ch k0)))) := by
  obtain ⟨co, tv, c0, bt⟩ := u
  obtain ⟨h1, h2, h3, h4⟩ := htx
  cases co with
  | false => exact xt_ch0 l D dA E ad sz0 mi tb tv mb ln c0 bt h1 ch (h3 rfl) h2 k0 hk0
  | true => exact xt_ch1 l D dA E ad sz0 mi tb tv mb ln c0 bt h1 ch (h4 rfl) h2 k0 hk0
theorem xv_app (l : Launch) (D : va_G) (dA : Nat → ClassId) (E : Nat) (ad : Nat → Nat) (sz0 mi : Nat) (tb : Nat) (u : TU) (mb : Int32) (ln : Nat) (ch : Nat → Nat) (htx : TxOk u ch ln) (hln : ln < 60) (x0 : Nat) (hx0 : x0 < 65536) (hup : Up sz0 (tW dA tb u mb ln)) : EX l yJ4_append cJ4_append 2 (some (.object "java/lang/StringBuilder")) 7 280 2 1800 [.ref tb, .int (nI x0)] (G1 D dA E ad sz0 mi) D (tW dA tb u mb ln) (fun _ => True) (S := TU) (fun u _ => TxOk u (upS ch ln x0) (ln + 1)) (fun _ => some (.ref tb)) (fun u => tW dA tb u mb (ln + 1)) := by
  obtain ⟨co, tv, c0, bt⟩ := u
  obtain ⟨h1, h2, h3, h4⟩ := htx
  cases co with
  | false => exact xt_sap0 l D dA E ad sz0 mi tb tv mb ln c0 bt h1 ch (h3 rfl) ⟨h2, hln⟩ x0 hx0 hup
  | true => exact xt_sap1 l D dA E ad sz0 mi tb tv mb ln c0 bt h1 ch (h4 rfl) ⟨h2, hln⟩ x0 hx0 hup
theorem xv_sl (l : Launch) (D : va_G) (dA : Nat → ClassId) (E : Nat) (ad : Nat → Nat) (sz0 mi : Nat) (tb : Nat) (u : TU) (mb : Int32) (ln : Nat) (ch : Nat → Nat) (htx : TxOk u ch ln) (hln : ln < 2 ^ 31) (hup : Up sz0 (tW dA tb u mb ln)) : EX l yJ4_setLength cJ4_setLength 2 none 5 200 1 900 [.ref tb, .int (nI 0)] (G1 D dA E ad sz0 mi) D (tW dA tb u mb ln) (fun _ => True) (S := Int32) (fun _ _ => True) (fun _ => none) (fun b => tW dA tb u b 0) := by
  obtain ⟨co, tv, c0, bt⟩ := u
  obtain ⟨h1, h2, h3, h4⟩ := htx
  cases co with
  | false => exact xt_sl0 l D dA E ad sz0 mi tb tv mb ln c0 bt h1 hln hup
  | true => exact xt_sl1 l D dA E ad sz0 mi tb tv mb ln c0 bt h1 hln hup
theorem txOk_0 {u : TU} {ch : Nat → Nat} {ln : Nat} (h : TxOk u ch ln) (ch' : Nat → Nat) : TxOk u ch' 0 := by
  obtain ⟨h1, h2, h3, h4⟩ := h
  exact ⟨h1, Nat.zero_le _, fun e => ⟨(h3 e).1, fun i hi => by omega⟩, fun e => ⟨(h4 e).1, fun i hi => by omega⟩⟩
theorem txOk_i (tv : Nat) (ch : Nat → Nat) : TxOk (false, tv, 16, fun _ => 0) ch 0 := ⟨⟨(by decide : 0 < 16), (by decide : 16 ≤ 200)⟩, Nat.zero_le _, (fun _ => ⟨byOk_0, fun i hi => by omega⟩), (fun h => by cases h)⟩

