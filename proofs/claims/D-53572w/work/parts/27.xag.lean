def isK2 (row : Nat → Int32) (pl : Nat) : Bool := if nI (mMany pl) ≤ row 2 then false else true
def isK4 (row : Nat → Int32) (n cu pl : Nat) : Bool := if mMissed row n cu pl = none then false else true
def agI (row : Nat → Int32) (n cu pl : Nat) : Nat := if isK2 row pl = true then 1 else if mExcl row n pl = true then 2 else if isK4 row n cu pl = true then 3 else 0
theorem agI_lt (row : Nat → Int32) (n cu pl : Nat) : agI row n cu pl < 4 := by
  unfold agI
  split
  · decide
  · split
    · decide
    · split <;> decide
theorem allowed_eq (row : Nat → Int32) (n pl : Nat) : mAllowed row n pl = if isK2 row pl = true then false else if mExcl row n pl = true then false else true := by
  unfold mAllowed isK2
  by_cases h : nI (mMany pl) ≤ row 2
  · have e : (if nI (mMany pl) ≤ row 2 then false else true) = false := if_pos h
    rw [if_neg (Int32.not_lt.mpr h), e]; rfl
  · have e : (if nI (mMany pl) ≤ row 2 then false else true) = true := if_neg h
    rw [if_pos (Int32.not_le.mp h), e]; rfl
theorem feas_eq (row : Nat → Int32) (n cu pl : Nat) : mFeas row n cu pl = decide (agI row n cu pl = 0) := by
  unfold mFeas agI
  rw [allowed_eq]
  unfold isK4
  by_cases h1 : isK2 row pl = true
  · simp [h1]
  · by_cases h2 : mExcl row n pl = true
    · simp [h1, h2]
    · by_cases h3 : mMissed row n cu pl = none
      · simp [h1, h2, h3]
      · simp [h1, h2, h3]
theorem feas_leaf {ad : Nat → Nat} (hi : ∀ i j, i < 4 → j < 4 → ad i = ad j → i = j) {k : Nat} (hk : k < 4) (h : some (ad k) = some (ad 0)) : nI 1 = bI (decide (k = 0)) := by
  rw [hi k 0 hk (by decide) (Option.some.inj h)]; rfl
theorem feas_leaf0 {ad : Nat → Nat} {k : Nat} (h : ¬ some (ad k) = some (ad 0)) : nI 0 = bI (decide (k = 0)) := by
  rw [decide_eq_false (fun e => h (by rw [e]))]; rfl
theorem g0_recv {D : va_G} {dA : Nat → ClassId} {E : Nat} {ad : Nat → Nat} {sz0 : Nat} {s : State} (G : G0 D dA E ad sz0 s) (k : Nat) (hk : k < 4) : ∃ cell : Cell, s.heap[ad k]? = some cell ∧ cell.vm.isStatics = false ∧ s.vm.findClass (agC.getD k "") = some cell.cls := by
  obtain ⟨cell, h1, h2, h3, -⟩ := (G.2.2.2.2.1.2.2.1 k hk).2.1
  exact ⟨cell, h1, h2, h3⟩
set_option maxHeartbeats 4000000 in
theorem xr_ordinal (l : Launch) (D : va_G) (dA : Nat → ClassId) (E : Nat) (ad : Nat → Nat) (sz0 : Nat) (k : Nat) (hk : k < 4) : RO l yJ13_ordinal cJ13_ordinal 1 (some .int) 0 0 [.ref (ad k)] (G0 D dA E ad sz0) (fun _ => True) (some (.int (nI k))) := by
  refine ro_of (by decide) (Nat.le_of_ble_eq_true rfl) ?_
  intro p e s m below meth c S hrt hlk G _ ls hl
  obtain ⟨hx, hb, hml, hown, hts⟩ := id S
  have hl : lv_has ls 1 [(0, .ref (ad k))] := hl
  refine lv_aload_n hx hb dJ13_ordinal_0 rfl (lv_at hl 0 rfl) ?_
  refine vk_getf (A := fun q => sz0 ≤ q) (v := .int (nI k)) hx hb ((G.2.2.2.2.1.2.2.1 k hk).2.2) va_S.rf hown (hts _ q1408) (fun _ h9 => h9) dJ13_ordinal_1 ?_
  exact x_iret hx hb hrt hlk rfl dJ13_ordinal_4

set_option maxHeartbeats 4000000 in
theorem xb_is2 (l : Launch) (D : va_G) (dA : Nat → ClassId) (E : Nat) (ad : Nat → Nat) (sz0 : Nat) (la lp lx ld lr : Nat) (row : Nat → Int32) {n cu : Nat} (hn : n ≤ 7) (hcu : cu ≤ 8) (t pl : Nat) (hp : pl < 128) : ROb l yX11_is cX11_is 3 (some .boolean) 1 40 [.ref t, .ref la, .int (nI pl)] (G0 D dA E ad sz0) (fun H => va_P D vwCl (lW dA la lp lx ld lr row n cu) H) (some (.int (bI (isK2 row pl)))) := by
  intro p e s m below meth c S hrt hlk G hP ls hl
  obtain ⟨hx, hb, hml, hown, hts⟩ := id S
  have K := G.1
  have hP : va_P D vwCl [(la, .inr (2, [.ref lp, .ref lx, .ref ld, .ref lr, .int (nI n), .int (nI cu), .int (row 2)])), (lp, .inl (dA 0, 7, .inl (fun k => row (6 + k)))), (lx, .inl (dA 0, 7, .inl (fun k => row (77 + k)))), (ld, .inl (dA 0, 8, .inl (fun k => row (13 + k)))), (lr, .inl (dA 0, 56, .inl (fun k => row (21 + k))))] s.heap := hP
  have hl : lv_has ls 3 [(0, .ref t), (1, .ref la), (2, .int (nI pl))] := hl
  refine lv_iload_n hx hb dX11_is_0 rfl (lv_at hl 2 rfl) ?_
  refine x_ret (va_runS (As := [.int (nI pl)]) (rest := []) S (xr_bitCount l pl (by omega)) (va_cwS 1 hts (lw_S q467 q432 q76 q433) rfl rfl rfl hdJ12_bitCount ⟨Nat.le_of_ble_eq_true rfl, Nat.le_of_ble_eq_true rfl⟩) ⟨bb_blind tt_bl _, tt_pre _⟩ rfl rfl hl.1 rfl (lv_room (Nat.le_of_ble_eq_true rfl)) dX11_is_1 ⟨Nat.le_refl _, Nat.le_refl _⟩) ?_
  refine lv_aload_n hx hb dX11_is_4 rfl (lv_at hl 1 rfl) ?_
  refine va_getN (D := D) (ci := 2) (C := RX2) (T := TX2) (N := 7) hx hb hts in_X2 hown K hP 0 rfl rfl 6 (by decide) (va_Nw.use rfl (G.2.1 _ q127 rfl)) (fun _ h9 => h9) rfl dX11_is_5 ?_
  refine lv_icmp_le (tgt := 15) hx hb dX11_is_8 (by decide) (fun h_1 => ?_) (fun h_1 => ?_)
  · refine lv_iconst (v := nI 0) hx hb dX11_is_15 (by decide) ?_
    exact x_zret hx hb hrt hlk (by rw [isK2, if_pos h_1]; rfl) dX11_is_16
  · refine lv_iconst (v := nI 1) hx hb dX11_is_11 (by decide) ?_
    refine lv_goto (tgt := 16) hx hb dX11_is_12 (by decide) ?_
    exact x_zret hx hb hrt hlk (by rw [isK2, if_neg h_1]; rfl) dX11_is_16

set_option maxHeartbeats 4000000 in
theorem xb_is30 (l : Launch) (D : va_G) (dA : Nat → ClassId) (E : Nat) (ad : Nat → Nat) (sz0 : Nat) (la lp lx ld lr : Nat) (row : Nat → Int32) {n cu : Nat} (hn : n ≤ 7) (hcu : cu ≤ 8) (t pl : Nat) (hp : pl < 128) : ROb l yX10_is cX10_is 4 (some .boolean) 1 40 [.ref t, .ref la, .int (nI pl)] (G0 D dA E ad sz0) (fun H => va_P D vwCl (lW dA la lp lx ld lr row n cu) H) (some (.int (bI (fst (lExP row pl) n 0).isSome))) := by
  intro p e s m below meth c S hrt hlk G hP ls hl
  obtain ⟨hx, hb, hml, hown, hts⟩ := id S
  have K := G.1
  have hP : va_P D vwCl [(la, .inr (2, [.ref lp, .ref lx, .ref ld, .ref lr, .int (nI n), .int (nI cu), .int (row 2)])), (lp, .inl (dA 0, 7, .inl (fun k => row (6 + k)))), (lx, .inl (dA 0, 7, .inl (fun k => row (77 + k)))), (ld, .inl (dA 0, 8, .inl (fun k => row (13 + k)))), (lr, .inl (dA 0, 56, .inl (fun k => row (21 + k))))] s.heap := hP
  have hl : lv_has ls 4 [(0, .ref t), (1, .ref la), (2, .int (nI pl))] := hl
  refine lv_iconst (v := nI 0) hx hb dX10_is_0 (by decide) ?_
  refine lv_istore_n (lv' := [(3, .int (nI 0)), (0, .ref t), (1, .ref la), (2, .int (nI pl))]) hx hb dX10_is_1 rfl hl (by decide) rfl (fun ls hl => ?_)
  refine lpF (lExP row pl) n (fun k ls => lv_has ls 4 [(0, .ref t), (1, .ref la), (2, .int (nI pl)), (3, .int (nI k))]) (fun a ls => W p l e (rmR 1 40) s m ([.ref t, .ref la, .int (nI pl)]).toArray below meth c s.heap [] 0 0 (MQ below (QRet (some (.int (bI (a).isSome)))) ([.ref t, .ref la, .int (nI pl)]).toArray s 0 0 (fun _ => False)) (F0 m 2 ls [])) ?_ ?_ ls (lv_sub hl [1, 2, 3, 0] rfl)
  · intro k ls v_3 hk_1 hl hv_2 ih
    have hl : lv_has ls 4 [(0, .ref t), (1, .ref la), (2, .int (nI pl)), (3, .int (nI k))] := hl
    show W p l e (rmR 1 40) s m ([.ref t, .ref la, .int (nI pl)]).toArray below meth c s.heap [] 0 0 (MQ below (QRet (some (.int (bI (v_3).isSome)))) ([.ref t, .ref la, .int (nI pl)]).toArray s 0 0 (fun _ => False)) (F0 m 2 ls [])
    refine lv_iload_n hx hb dX10_is_2 rfl (lv_at hl 3 rfl) ?_
    refine lv_aload_n hx hb dX10_is_3 rfl (lv_at hl 1 rfl) ?_
    refine va_getN (D := D) (ci := 2) (C := RX2) (T := TX2) (N := 7) hx hb hts in_X2 hown K hP 0 rfl rfl 4 (by decide) (va_Nw.use rfl (G.2.1 _ q118 rfl)) (fun _ h9 => h9) rfl dX10_is_4 ?_
    refine lv_icmp_ge (tgt := 37) hx hb dX10_is_7 (by decide) (fun h => absurd h (nI_ge hk_1 (by omega))) (fun _ => ?_)
    refine lv_iload_n hx hb dX10_is_10 rfl (lv_at hl 2 rfl) ?_
    refine lv_iload_n hx hb dX10_is_11 rfl (lv_at hl 3 rfl) ?_
    refine x_ret (va_runSN (As := [.int (nI pl), .int (nI k)]) (rest := []) S (xr_has l pl k (by omega) (by omega)) ⟨va_cnB 2 hts (lw_meth q430) rfl rfl rfl (G.2.1 _ q471 rfl) (hts _ q59) hdX0_has ⟨Nat.le_of_ble_eq_true rfl, Nat.le_of_ble_eq_true rfl⟩, hts _ q429, trivial⟩ ⟨bb_blind tt_bl _, tt_pre _⟩ rfl rfl hl.1 rfl (lv_room (Nat.le_of_ble_eq_true rfl)) dX10_is_12 ⟨Nat.le_refl _, Nat.le_refl _⟩) ?_
    refine x_ifb_eq (tgt := 31) hx hb dX10_is_15 (by decide) (fun h_5 => ?_) (fun h_5 => ?_)
    · refine lv_iinc (v := nI (k + 1)) (lv' := [(3, .int (nI (k + 1))), (0, .ref t), (1, .ref la), (2, .int (nI pl))]) hx hb dX10_is_31 hl (k := 3) rfl (nI_1 k) (by decide) rfl (fun ls hl => ?_)
      refine lv_goto (tgt := 2) hx hb dX10_is_34 (by decide) ?_
      refine ih (by simp [lExP, h_5]) ls ?_
      show lv_has ls 4 [(0, .ref t), (1, .ref la), (2, .int (nI pl)), (3, .int (nI (k + 1)))]
      exact lv_sub hl [1, 2, 3, 0] rfl
    · refine lv_aload_n hx hb dX10_is_18 rfl (lv_at hl 1 rfl) ?_
      refine va_getN (D := D) (ci := 2) (C := RX2) (T := TX2) (N := 7) hx hb hts in_X2 hown K hP 0 rfl rfl 1 (by decide) (va_Nw.use rfl (G.2.1 _ q111 rfl)) (fun _ h9 => h9) rfl dX10_is_19 ?_
      refine lv_iload_n hx hb dX10_is_22 rfl (lv_at hl 3 rfl) ?_
      refine x_iald hx hb K hP 2 0 rfl rfl k rfl (by omega) (by decide) rfl dX10_is_23 ?_
      refine lv_iload_n hx hb dX10_is_24 rfl (lv_at hl 2 rfl) ?_
      refine lv_iand hx hb dX10_is_25 ?_
      refine lv_if_eq (tgt := 31) hx hb dX10_is_26 (by decide) (fun h_6 => ?_) (fun h_6 => ?_)
      · refine lv_iinc (v := nI (k + 1)) (lv' := [(3, .int (nI (k + 1))), (0, .ref t), (1, .ref la), (2, .int (nI pl))]) hx hb dX10_is_31 hl (k := 3) rfl (nI_1 k) (by decide) rfl (fun ls hl => ?_)
        refine lv_goto (tgt := 2) hx hb dX10_is_34 (by decide) ?_
        refine ih (by simp [lExP, h_5, h_6]) ls ?_
        show lv_has ls 4 [(0, .ref t), (1, .ref la), (2, .int (nI pl)), (3, .int (nI (k + 1)))]
        exact lv_sub hl [1, 2, 3, 0] rfl
      · refine lv_iconst (v := nI 1) hx hb dX10_is_29 (by decide) ?_
        exact x_zret hx hb hrt hlk (by rw [hv_2 (by simp [lExP, h_5, h_6])]; rfl) dX10_is_30
  · intro ls hl
    have hl : lv_has ls 4 [(0, .ref t), (1, .ref la), (2, .int (nI pl)), (3, .int (nI n))] := hl
    show W p l e (rmR 1 40) s m ([.ref t, .ref la, .int (nI pl)]).toArray below meth c s.heap [] 0 0 (MQ below (QRet (some (.int (bI (none).isSome)))) ([.ref t, .ref la, .int (nI pl)]).toArray s 0 0 (fun _ => False)) (F0 m 2 ls [])
    refine lv_iload_n hx hb dX10_is_2 rfl (lv_at hl 3 rfl) ?_
    refine lv_aload_n hx hb dX10_is_3 rfl (lv_at hl 1 rfl) ?_
    refine va_getN (D := D) (ci := 2) (C := RX2) (T := TX2) (N := 7) hx hb hts in_X2 hown K hP 0 rfl rfl 4 (by decide) (va_Nw.use rfl (G.2.1 _ q118 rfl)) (fun _ h9 => h9) rfl dX10_is_4 ?_
    refine lv_icmp_ge (tgt := 37) hx hb dX10_is_7 (by decide) (fun _ => ?_) (fun h => absurd (nI_le (by omega) (by omega)) h)
    refine lv_iconst (v := nI 0) hx hb dX10_is_37 (by decide) ?_
    exact x_zret hx hb hrt hlk rfl dX10_is_38

theorem xb_is3 (l : Launch) (D : va_G) (dA : Nat → ClassId) (E : Nat) (ad : Nat → Nat) (sz0 : Nat) (la lp lx ld lr : Nat) (row : Nat → Int32) {n cu : Nat} (hn : n ≤ 7) (hcu : cu ≤ 8) (t pl : Nat) (hp : pl < 128) : ROb l yX10_is cX10_is 4 (some .boolean) 1 40 [.ref t, .ref la, .int (nI pl)] (G0 D dA E ad sz0) (fun H => va_P D vwCl (lW dA la lp lx ld lr row n cu) H) (some (.int (bI (mExcl row n pl)))) := by
  rw [← excl_eq]
  exact xb_is30 l D dA E ad sz0 la lp lx ld lr row hn hcu t pl hp

set_option maxHeartbeats 4000000 in
theorem xb_is4 (l : Launch) (D : va_G) (dA : Nat → ClassId) (E : Nat) (ad : Nat → Nat) (sz0 : Nat) (la lp lx ld lr : Nat) (row : Nat → Int32) {n cu : Nat} (hn : n ≤ 7) (hcu : cu ≤ 8) (t pl : Nat) (hp : pl < 128) : ROb l yX13_is cX13_is 3 (some .boolean) 3 120 [.ref t, .ref la, .int (nI pl)] (G0 D dA E ad sz0) (fun H => va_P D vwCl (lW dA la lp lx ld lr row n cu) H) (some (.int (bI (isK4 row n cu pl)))) := by
  intro p e s m below meth c S hrt hlk G hP ls hl
  obtain ⟨hx, hb, hml, hown, hts⟩ := id S
  have K := G.1
  have hP : va_P D vwCl [(la, .inr (2, [.ref lp, .ref lx, .ref ld, .ref lr, .int (nI n), .int (nI cu), .int (row 2)])), (lp, .inl (dA 0, 7, .inl (fun k => row (6 + k)))), (lx, .inl (dA 0, 7, .inl (fun k => row (77 + k)))), (ld, .inl (dA 0, 8, .inl (fun k => row (13 + k)))), (lr, .inl (dA 0, 56, .inl (fun k => row (21 + k))))] s.heap := hP
  have hl : lv_has ls 3 [(0, .ref t), (1, .ref la), (2, .int (nI pl))] := hl
  refine lv_aload_n hx hb dX13_is_0 rfl (lv_at hl 1 rfl) ?_
  refine lv_iload_n hx hb dX13_is_1 rfl (lv_at hl 2 rfl) ?_
  refine x_ret (va_runV (As := [.int (nI pl)]) (rest := []) S (xr_lost l D dA E ad sz0 la lp lx ld lr row hn hcu pl (by omega)) (cwV 1 hts (lw_V q475 q476 q477 q61 q478) rfl rfl rfl hdX2_lost ⟨Nat.le_of_ble_eq_true rfl, Nat.le_of_ble_eq_true rfl⟩) ⟨bb_blind g0_bl _, va_recv K hP (ci := 2) (q0 := 0) rfl rfl, bb_pre (g0_mv G (fun _ _ => rfl) (Nat.le_refl _)) hP _⟩ rfl rfl hl.1 rfl (lv_room (Nat.le_of_ble_eq_true rfl)) dX13_is_2 ⟨Nat.le_refl _, Nat.le_refl _⟩) ?_
  refine lv_bipush (v := -5) hx hb dX13_is_5 (by decide) ?_
  refine x_icmpo_eq (tgt := 14) hx hb dX13_is_7 (by decide) (fun b hb => by have := mMissed_lt hb; omega) (fun h_1 => ?_) (fun v_2 h_1 => ?_)
  · refine lv_iconst (v := nI 0) hx hb dX13_is_14 (by decide) ?_
    exact x_zret hx hb hrt hlk (by rw [isK4, if_pos h_1]; rfl) dX13_is_15
  · refine lv_iconst (v := nI 1) hx hb dX13_is_10 (by decide) ?_
    refine lv_goto (tgt := 15) hx hb dX13_is_11 (by decide) ?_
    exact x_zret hx hb hrt hlk (by rw [isK4, if_neg (by rw [h_1]; exact fun h => by cases h)]; rfl) dX13_is_15

set_option maxHeartbeats 4000000 in
theorem xr_against (l : Launch) (D : va_G) (dA : Nat → ClassId) (E : Nat) (ad : Nat → Nat) (sz0 : Nat) (la lp lx ld lr : Nat) (row : Nat → Int32) {n cu : Nat} (hn : n ≤ 7) (hcu : cu ≤ 8) (pl : Nat) (hp : pl < 128) : RO l yX2_against cX2_against 2 (some (.object "SiteCuts$Against")) 5 200 [.ref la, .int (nI pl)] (G0 D dA E ad sz0) (fun H => va_P D vwCl (lW dA la lp lx ld lr row n cu) H) (some (.ref (ad (agI row n cu pl)))) := by
  refine ro_of (by decide) (Nat.le_of_ble_eq_true rfl) ?_
  intro p e s m below meth c S hrt hlk G hP ls hl
  obtain ⟨hx, hb, hml, hown, hts⟩ := id S
  have K := G.1
  have hP : va_P D vwCl [(la, .inr (2, [.ref lp, .ref lx, .ref ld, .ref lr, .int (nI n), .int (nI cu), .int (row 2)])), (lp, .inl (dA 0, 7, .inl (fun k => row (6 + k)))), (lx, .inl (dA 0, 7, .inl (fun k => row (77 + k)))), (ld, .inl (dA 0, 8, .inl (fun k => row (13 + k)))), (lr, .inl (dA 0, 56, .inl (fun k => row (21 + k))))] s.heap := hP
  have hl : lv_has ls 2 [(0, .ref la), (1, .int (nI pl))] := hl
  refine va_gets (A := fun q => sz0 ≤ q) (v := .ref (ad 1)) hx hb ((G.2.2.2.2.1.2.2.1 1 (by decide)).1) va_S.rf hown (hts _ q456) (fun _ h9 => h9) dX2_against_0 ?_
  refine lv_aload_n hx hb dX2_against_3 rfl (lv_at hl 0 rfl) ?_
  refine lv_iload_n hx hb dX2_against_4 rfl (lv_at hl 1 rfl) ?_
  refine x_ret (x_runUB (x := ⟨"SiteCuts$Against", "is", "(LSiteCuts$Land;I)Z"⟩) (y := yX11_is) (owner := "SiteCuts$Against") (C := "SiteCuts$Against$2") (n := 2) (mc := 0) (ms := 0) (As := [.ref la, .int (nI pl)]) (rest := []) S (back_ro (xb_is2 l D dA E ad sz0 la lp lx ld lr row hn hcu (ad 1) pl (by omega)) (by decide) (Nat.le_of_ble_eq_true rfl) hx (Nat.le_of_ble_eq_true rfl) (Nat.le_of_ble_eq_true rfl) hts q466 g0_bl) (hts _ q458) (hts _ q460) (va_Decl.abs (G.2.1 _ q459 rfl)) (by decide) (hts _ q464) (hts _ q465) (hts _ q466) (by decide +kernel) ⟨bb_blind g0_bl _, g0_recv G 1 (by decide), bb_pre (g0_mv G (fun _ _ => rfl) (Nat.le_refl _)) hP _⟩ rfl rfl hl.1 rfl (lv_room (Nat.le_of_ble_eq_true rfl)) dX2_against_5 ⟨Nat.le_refl _, Nat.le_refl _⟩) ?_
  refine x_ifb_eq (tgt := 15) hx hb dX2_against_8 (by decide) (fun h_1 => ?_) (fun h_1 => ?_)
  · refine va_gets (A := fun q => sz0 ≤ q) (v := .ref (ad 2)) hx hb ((G.2.2.2.2.1.2.2.1 2 (by decide)).1) va_S.rf hown (hts _ q485) (fun _ h9 => h9) dX2_against_15 ?_
    refine lv_aload_n hx hb dX2_against_18 rfl (lv_at hl 0 rfl) ?_
    refine lv_iload_n hx hb dX2_against_19 rfl (lv_at hl 1 rfl) ?_
    refine x_ret (x_runUB (x := ⟨"SiteCuts$Against", "is", "(LSiteCuts$Land;I)Z"⟩) (y := yX10_is) (owner := "SiteCuts$Against") (C := "SiteCuts$Against$3") (n := 2) (mc := 0) (ms := 0) (As := [.ref la, .int (nI pl)]) (rest := []) S (back_ro (xb_is3 l D dA E ad sz0 la lp lx ld lr row hn hcu (ad 2) pl (by omega)) (by decide) (Nat.le_of_ble_eq_true rfl) hx (Nat.le_of_ble_eq_true rfl) (Nat.le_of_ble_eq_true rfl) hts q470 g0_bl) (hts _ q458) (hts _ q460) (va_Decl.abs (G.2.1 _ q459 rfl)) (by decide) (hts _ q468) (hts _ q469) (hts _ q470) (by decide +kernel) ⟨bb_blind g0_bl _, g0_recv G 2 (by decide), bb_pre (g0_mv G (fun _ _ => rfl) (Nat.le_refl _)) hP _⟩ rfl rfl hl.1 rfl (lv_room (Nat.le_of_ble_eq_true rfl)) dX2_against_20 ⟨Nat.le_refl _, Nat.le_refl _⟩) ?_
    refine x_ifb_eq (tgt := 30) hx hb dX2_against_23 (by decide) (fun h_2 => ?_) (fun h_2 => ?_)
    · refine va_gets (A := fun q => sz0 ≤ q) (v := .ref (ad 3)) hx hb ((G.2.2.2.2.1.2.2.1 3 (by decide)).1) va_S.rf hown (hts _ q940) (fun _ h9 => h9) dX2_against_30 ?_
      refine lv_aload_n hx hb dX2_against_33 rfl (lv_at hl 0 rfl) ?_
      refine lv_iload_n hx hb dX2_against_34 rfl (lv_at hl 1 rfl) ?_
      refine x_ret (x_runUB (x := ⟨"SiteCuts$Against", "is", "(LSiteCuts$Land;I)Z"⟩) (y := yX13_is) (owner := "SiteCuts$Against") (C := "SiteCuts$Against$4") (n := 2) (mc := 0) (ms := 0) (As := [.ref la, .int (nI pl)]) (rest := []) S (back_ro (xb_is4 l D dA E ad sz0 la lp lx ld lr row hn hcu (ad 3) pl (by omega)) (by decide) (Nat.le_of_ble_eq_true rfl) hx (Nat.le_of_ble_eq_true rfl) (Nat.le_of_ble_eq_true rfl) hts q474 g0_bl) (hts _ q458) (hts _ q460) (va_Decl.abs (G.2.1 _ q459 rfl)) (by decide) (hts _ q472) (hts _ q473) (hts _ q474) (by decide +kernel) ⟨bb_blind g0_bl _, g0_recv G 3 (by decide), bb_pre (g0_mv G (fun _ _ => rfl) (Nat.le_refl _)) hP _⟩ rfl rfl hl.1 rfl (lv_room (Nat.le_of_ble_eq_true rfl)) dX2_against_35 ⟨Nat.le_refl _, Nat.le_refl _⟩) ?_
      refine x_ifb_eq (tgt := 47) hx hb dX2_against_38 (by decide) (fun h_3 => ?_) (fun h_3 => ?_)
      · refine va_gets (A := fun q => sz0 ≤ q) (v := .ref (ad 0)) hx hb ((G.2.2.2.2.1.2.2.1 0 (by decide)).1) va_S.rf hown (hts _ q942) (fun _ h9 => h9) dX2_against_47 ?_
        exact x_aret hx hb hrt (Or.inl ⟨_, rfl⟩) hlk (by rw [show agI row n cu pl = 0 from (by simp [agI, h_1, h_2, h_3])]) dX2_against_50
      · refine va_gets (A := fun q => sz0 ≤ q) (v := .ref (ad 3)) hx hb ((G.2.2.2.2.1.2.2.1 3 (by decide)).1) va_S.rf hown (hts _ q940) (fun _ h9 => h9) dX2_against_41 ?_
        refine lv_goto (tgt := 50) hx hb dX2_against_44 (by decide) ?_
        exact x_aret hx hb hrt (Or.inl ⟨_, rfl⟩) hlk (by rw [show agI row n cu pl = 3 from (by simp [agI, h_1, h_2, h_3])]) dX2_against_50
    · refine va_gets (A := fun q => sz0 ≤ q) (v := .ref (ad 2)) hx hb ((G.2.2.2.2.1.2.2.1 2 (by decide)).1) va_S.rf hown (hts _ q485) (fun _ h9 => h9) dX2_against_26 ?_
      exact x_aret hx hb hrt (Or.inl ⟨_, rfl⟩) hlk (by rw [show agI row n cu pl = 2 from (by simp [agI, h_1, h_2])]) dX2_against_29
  · refine va_gets (A := fun q => sz0 ≤ q) (v := .ref (ad 1)) hx hb ((G.2.2.2.2.1.2.2.1 1 (by decide)).1) va_S.rf hown (hts _ q456) (fun _ h9 => h9) dX2_against_11 ?_
    exact x_aret hx hb hrt (Or.inl ⟨_, rfl⟩) hlk (by rw [show agI row n cu pl = 1 from (by simp [agI, h_1])]) dX2_against_14

set_option maxHeartbeats 4000000 in
theorem xr_isAllowed (l : Launch) (D : va_G) (dA : Nat → ClassId) (E : Nat) (ad : Nat → Nat) (sz0 : Nat) (la lp lx ld lr : Nat) (row : Nat → Int32) {n cu : Nat} (hn : n ≤ 7) (hcu : cu ≤ 8) (pl : Nat) (hp : pl < 128) : RO l yX2_isAllowed cX2_isAllowed 2 (some .boolean) 2 80 [.ref la, .int (nI pl)] (G0 D dA E ad sz0) (fun H => va_P D vwCl (lW dA la lp lx ld lr row n cu) H) (some (.int (bI (mAllowed row n pl)))) := by
  refine ro_of (by decide) (Nat.le_of_ble_eq_true rfl) ?_
  intro p e s m below meth c S hrt hlk G hP ls hl
  obtain ⟨hx, hb, hml, hown, hts⟩ := id S
  have K := G.1
  have hP : va_P D vwCl [(la, .inr (2, [.ref lp, .ref lx, .ref ld, .ref lr, .int (nI n), .int (nI cu), .int (row 2)])), (lp, .inl (dA 0, 7, .inl (fun k => row (6 + k)))), (lx, .inl (dA 0, 7, .inl (fun k => row (77 + k)))), (ld, .inl (dA 0, 8, .inl (fun k => row (13 + k)))), (lr, .inl (dA 0, 56, .inl (fun k => row (21 + k))))] s.heap := hP
  have hl : lv_has ls 2 [(0, .ref la), (1, .int (nI pl))] := hl
  refine va_gets (A := fun q => sz0 ≤ q) (v := .ref (ad 1)) hx hb ((G.2.2.2.2.1.2.2.1 1 (by decide)).1) va_S.rf hown (hts _ q456) (fun _ h9 => h9) dX2_isAllowed_0 ?_
  refine lv_aload_n hx hb dX2_isAllowed_3 rfl (lv_at hl 0 rfl) ?_
  refine lv_iload_n hx hb dX2_isAllowed_4 rfl (lv_at hl 1 rfl) ?_
  refine x_ret (x_runUB (x := ⟨"SiteCuts$Against", "is", "(LSiteCuts$Land;I)Z"⟩) (y := yX11_is) (owner := "SiteCuts$Against") (C := "SiteCuts$Against$2") (n := 2) (mc := 0) (ms := 0) (As := [.ref la, .int (nI pl)]) (rest := []) S (back_ro (xb_is2 l D dA E ad sz0 la lp lx ld lr row hn hcu (ad 1) pl (by omega)) (by decide) (Nat.le_of_ble_eq_true rfl) hx (Nat.le_of_ble_eq_true rfl) (Nat.le_of_ble_eq_true rfl) hts q466 g0_bl) (hts _ q458) (hts _ q460) (va_Decl.abs (G.2.1 _ q459 rfl)) (by decide) (hts _ q464) (hts _ q465) (hts _ q466) (by decide +kernel) ⟨bb_blind g0_bl _, g0_recv G 1 (by decide), bb_pre (g0_mv G (fun _ _ => rfl) (Nat.le_refl _)) hP _⟩ rfl rfl hl.1 rfl (lv_room (Nat.le_of_ble_eq_true rfl)) dX2_isAllowed_5 ⟨Nat.le_refl _, Nat.le_refl _⟩) ?_
  refine x_ifb_ne (tgt := 26) hx hb dX2_isAllowed_8 (by decide) (fun h_1 => ?_) (fun h_1 => ?_)
  · refine lv_iconst (v := nI 0) hx hb dX2_isAllowed_26 (by decide) ?_
    exact x_zret hx hb hrt hlk (by rw [allowed_eq]; simp [h_1]; rfl) dX2_isAllowed_27
  · refine va_gets (A := fun q => sz0 ≤ q) (v := .ref (ad 2)) hx hb ((G.2.2.2.2.1.2.2.1 2 (by decide)).1) va_S.rf hown (hts _ q485) (fun _ h9 => h9) dX2_isAllowed_11 ?_
    refine lv_aload_n hx hb dX2_isAllowed_14 rfl (lv_at hl 0 rfl) ?_
    refine lv_iload_n hx hb dX2_isAllowed_15 rfl (lv_at hl 1 rfl) ?_
    refine x_ret (x_runUB (x := ⟨"SiteCuts$Against", "is", "(LSiteCuts$Land;I)Z"⟩) (y := yX10_is) (owner := "SiteCuts$Against") (C := "SiteCuts$Against$3") (n := 2) (mc := 0) (ms := 0) (As := [.ref la, .int (nI pl)]) (rest := []) S (back_ro (xb_is3 l D dA E ad sz0 la lp lx ld lr row hn hcu (ad 2) pl (by omega)) (by decide) (Nat.le_of_ble_eq_true rfl) hx (Nat.le_of_ble_eq_true rfl) (Nat.le_of_ble_eq_true rfl) hts q470 g0_bl) (hts _ q458) (hts _ q460) (va_Decl.abs (G.2.1 _ q459 rfl)) (by decide) (hts _ q468) (hts _ q469) (hts _ q470) (by decide +kernel) ⟨bb_blind g0_bl _, g0_recv G 2 (by decide), bb_pre (g0_mv G (fun _ _ => rfl) (Nat.le_refl _)) hP _⟩ rfl rfl hl.1 rfl (lv_room (Nat.le_of_ble_eq_true rfl)) dX2_isAllowed_16 ⟨Nat.le_refl _, Nat.le_refl _⟩) ?_
    refine x_ifb_ne (tgt := 26) hx hb dX2_isAllowed_19 (by decide) (fun h_2 => ?_) (fun h_2 => ?_)
    · refine lv_iconst (v := nI 0) hx hb dX2_isAllowed_26 (by decide) ?_
      exact x_zret hx hb hrt hlk (by rw [allowed_eq]; simp [h_1, h_2]; rfl) dX2_isAllowed_27
    · refine lv_iconst (v := nI 1) hx hb dX2_isAllowed_22 (by decide) ?_
      refine lv_goto (tgt := 27) hx hb dX2_isAllowed_23 (by decide) ?_
      exact x_zret hx hb hrt hlk (by rw [allowed_eq]; simp [h_1, h_2]; rfl) dX2_isAllowed_27

set_option maxHeartbeats 4000000 in
theorem xr_isFeasible (l : Launch) (D : va_G) (dA : Nat → ClassId) (E : Nat) (ad : Nat → Nat) (sz0 : Nat) (la lp lx ld lr : Nat) (row : Nat → Int32) {n cu : Nat} (hn : n ≤ 7) (hcu : cu ≤ 8) (pl : Nat) (hp : pl < 128) : RO l yX2_isFeasible cX2_isFeasible 2 (some .boolean) 6 240 [.ref la, .int (nI pl)] (G0 D dA E ad sz0) (fun H => va_P D vwCl (lW dA la lp lx ld lr row n cu) H) (some (.int (bI (mFeas row n cu pl)))) := by
  refine ro_of (by decide) (Nat.le_of_ble_eq_true rfl) ?_
  intro p e s m below meth c S hrt hlk G hP ls hl
  obtain ⟨hx, hb, hml, hown, hts⟩ := id S
  have K := G.1
  have hP : va_P D vwCl [(la, .inr (2, [.ref lp, .ref lx, .ref ld, .ref lr, .int (nI n), .int (nI cu), .int (row 2)])), (lp, .inl (dA 0, 7, .inl (fun k => row (6 + k)))), (lx, .inl (dA 0, 7, .inl (fun k => row (77 + k)))), (ld, .inl (dA 0, 8, .inl (fun k => row (13 + k)))), (lr, .inl (dA 0, 56, .inl (fun k => row (21 + k))))] s.heap := hP
  have hl : lv_has ls 2 [(0, .ref la), (1, .int (nI pl))] := hl
  refine lv_aload_n hx hb dX2_isFeasible_0 rfl (lv_at hl 0 rfl) ?_
  refine lv_iload_n hx hb dX2_isFeasible_1 rfl (lv_at hl 1 rfl) ?_
  refine x_ret (va_runV (As := [.int (nI pl)]) (rest := []) S (xr_against l D dA E ad sz0 la lp lx ld lr row hn hcu pl (by omega)) (cwV 1 hts (lw_V q999 q937 q938 q61 q939) rfl rfl rfl hdX2_against ⟨Nat.le_of_ble_eq_true rfl, Nat.le_of_ble_eq_true rfl⟩) ⟨bb_blind g0_bl _, va_recv K hP (ci := 2) (q0 := 0) rfl rfl, bb_pre (g0_mv G (fun _ _ => rfl) (Nat.le_refl _)) hP _⟩ rfl rfl hl.1 rfl (lv_room (Nat.le_of_ble_eq_true rfl)) dX2_isFeasible_2 ⟨Nat.le_refl _, Nat.le_refl _⟩) ?_
  refine va_gets (A := fun q => sz0 ≤ q) (v := .ref (ad 0)) hx hb ((G.2.2.2.2.1.2.2.1 0 (by decide)).1) va_S.rf hown (hts _ q942) (fun _ h9 => h9) dX2_isFeasible_5 ?_
  refine lv_acmp_ne (rx := some (ad (agI row n cu pl))) (ry := some (ad 0)) (tgt := 15) hx hb dX2_isFeasible_8 (by decide) (fun h_1 => ?_) (fun h_1 => ?_)
  · refine lv_iconst (v := nI 0) hx hb dX2_isFeasible_15 (by decide) ?_
    exact x_zret hx hb hrt hlk (by rw [feas_eq]; exact feas_leaf0 h_1) dX2_isFeasible_16
  · refine lv_iconst (v := nI 1) hx hb dX2_isFeasible_11 (by decide) ?_
    refine lv_goto (tgt := 16) hx hb dX2_isFeasible_12 (by decide) ?_
    exact x_zret hx hb hrt hlk (by rw [feas_eq]; exact feas_leaf G.2.2.2.2.2.1 (agI_lt row n cu pl) h_1) dX2_isFeasible_16

