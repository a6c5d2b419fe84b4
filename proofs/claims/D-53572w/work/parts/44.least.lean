set_option maxHeartbeats 4000000 in
theorem xs_least (l : Launch) (D : va_G) (dA : Nat → ClassId) (E : Nat) (ad : Nat → Nat) (sz0 mi : Nat) (lc : Nat → ClassId) (sa la lp lx ld lr lq : Nat) (row : Nat → Int32) {n cu : Nat} (hn : n ≤ 7) (hcu : cu ≤ 8) (bs sp md : Int32) (d2 q2 p2 : Nat) (f2 : Nat → Option Nat) (FZ : va_W) (hq : q2 ≤ p2 ∧ p2 ≤ 64) (hco : CutsOk dA FZ row cu q2 f2) (j1 j2 dJ loJ : Nat) (al : Nat → Bool) (pr : Nat → Int32) (Ψ0 : Heap → Prop) (hj : JO l yJu (G2 D dA E ad sz0 mi lc) (fun H => (va_P D vwCl (stR dA sa la lp lx ld lr lq row n cu bs sp md d2 q2 p2 f2) H ∧ va_P D vwCl FZ H) ∧ Ψ0 H) dJ loJ j1 (fun pl => pl < 2 ^ n) (fun pl => bI (al pl))) (hpr : JO l yPr (G2 D dA E ad sz0 mi lc) (fun H => (va_P D vwCl (stR dA sa la lp lx ld lr lq row n cu bs sp md d2 q2 p2 f2) H ∧ va_P D vwCl FZ H) ∧ Ψ0 H) dJ loJ j2 (fun pl => pl < 2 ^ n ∧ al pl = true) pr) (hdJ : dJ ≤ 9) (hloJ : loJ ≤ 379) : RO l yX1_least cX1_least 7 (some .int) 10 400 [.ref sa, .ref j1, .ref j2] (G2 D dA E ad sz0 mi lc) (fun H => (va_P D vwCl (stR dA sa la lp lx ld lr lq row n cu bs sp md d2 q2 p2 f2) H ∧ va_P D vwCl FZ H) ∧ Ψ0 H) (some (.int (oI (gLeast al pr (2 ^ n))))) := by
  refine ro_of (by decide) (Nat.le_of_ble_eq_true rfl) ?_
  intro p e s m below meth c S hrt hlk G hP ls hl
  obtain ⟨hx, hb, hml, hown, hts⟩ := id S
  have hΦ := hP
  obtain ⟨⟨hP, hF⟩, hψ⟩ := hP
  have hP : va_P D vwCl [(sa, .inr (1, [.ref la, .ref lq, .int bs, .int sp])), (la, .inr (2, [.ref lp, .ref lx, .ref ld, .ref lr, .int (nI n), .int (nI cu), .int (row 2)])), (lp, .inl (dA 0, 7, .inl (fun k => row (6 + k)))), (lx, .inl (dA 0, 7, .inl (fun k => row (77 + k)))), (ld, .inl (dA 0, 8, .inl (fun k => row (13 + k)))), (lr, .inl (dA 0, 56, .inl (fun k => row (21 + k)))), (lq, .inr (4, [.int md, .ref d2, .int (nI q2)])), (d2, .inl (dA 1, p2, .inr (.inr (.inr (.inr f2)))))] s.heap := hP
  have K := G.1.1.1
  have h2n := pow7 hn
  have hl : lv_has ls 7 [(0, .ref sa), (1, .ref j1), (2, .ref j2)] := hl
  refine lv_bipush (v := -5) hx hb dX1_least_0 (by decide) ?_
  refine lv_istore_n (lv' := [(3, .int (-5)), (0, .ref sa), (1, .ref j1), (2, .ref j2)]) hx hb dX1_least_2 rfl hl (by decide) rfl (fun ls hl => ?_)
  refine lv_iconst (v := nI 0) hx hb dX1_least_3 (by decide) ?_
  refine lv_istore (lv' := [(4, .int (nI 0)), (3, .int (-5)), (0, .ref sa), (1, .ref j1), (2, .ref j2)]) hx hb dX1_least_4 hl (by decide) rfl (fun ls hl => ?_)
  refine lv_iconst (v := nI 0) hx hb dX1_least_6 (by decide) ?_
  refine lv_istore (lv' := [(5, .int (nI 0)), (4, .int (nI 0)), (3, .int (-5)), (0, .ref sa), (1, .ref j1), (2, .ref j2)]) hx hb dX1_least_7 hl (by decide) rfl (fun ls hl => ?_)
  refine lpI (gLS al pr) (none, nI 0) (2 ^ n) (fun k a ls => lv_has ls 7 [(0, .ref sa), (1, .ref j1), (2, .ref j2), (3, .int (oI ((a).1))), (4, .int ((a).2)), (5, .int (nI k))]) (fun ls => W p l e (rmR 10 400) s m ([.ref sa, .ref j1, .ref j2]).toArray below meth c s.heap [] 0 0 (MQ below (QRet (some (.int (oI (gLeast al pr (2 ^ n)))))) ([.ref sa, .ref j1, .ref j2]).toArray s 0 0 (fun _ => False)) (F0 m 9 ls [])) ?_ ?_ ls (lv_sub hl [3, 4, 5, 2, 1, 0] rfl)
  · intro k ls hk_1 hl ih
    have hbd := gLS_lt al pr k
    generalize iter (gLS al pr) k 0 (none, nI 0) = a at *
    have hl : lv_has ls 7 [(0, .ref sa), (1, .ref j1), (2, .ref j2), (3, .int (oI ((a).1))), (4, .int ((a).2)), (5, .int (nI k))] := hl
    show W p l e (rmR 10 400) s m ([.ref sa, .ref j1, .ref j2]).toArray below meth c s.heap [] 0 0 (MQ below (QRet (some (.int (oI (gLeast al pr (2 ^ n)))))) ([.ref sa, .ref j1, .ref j2]).toArray s 0 0 (fun _ => False)) (F0 m 9 ls [])
    refine lv_iload hx hb dX1_least_9 (lv_at hl 5 rfl) ?_
    refine lv_aload_n hx hb dX1_least_11 rfl (lv_at hl 0 rfl) ?_
    refine va_get (D := D) (ci := 1) (C := RX1) (T := TX1) (N := 4) hx hb hts in_X1 hown K hP 0 rfl rfl 0 (by decide) (hts _ q171) (fun _ h9 => h9) rfl dX1_least_12 ?_
    refine x_ret (va_runV (As := []) (rest := [.int (nI k)]) S (xr_plans l D dA E ad sz0 la lp lx ld lr row hn hcu) (cwV 0 hts (lw_V q589 q590 q591 q61 q592) rfl rfl rfl hdX2_plans ⟨Nat.le_of_ble_eq_true rfl, Nat.le_of_ble_eq_true rfl⟩) ⟨bb_blind g0_bl _, va_recv K hP (ci := 2) (q0 := 1) rfl rfl, bb_pre (g0_mv G.1.1 (fun _ _ => rfl) (Nat.le_refl _)) (hP.sub [1, 2, 3, 4, 5] rfl) _⟩ rfl rfl hl.1 rfl (lv_room (Nat.le_of_ble_eq_true rfl)) dX1_least_15 ⟨Nat.le_refl _, Nat.le_refl _⟩) ?_
    refine lv_icmp_ge (tgt := 74) hx hb dX1_least_18 (by decide) (fun h => absurd h (nI_ge hk_1 (by omega))) (fun _ => ?_)
    refine lv_aload_n hx hb dX1_least_21 rfl (lv_at hl 1 rfl) ?_
    refine lv_iload hx hb dX1_least_22 (lv_at hl 5 rfl) ?_
    refine x_ret5 (hj k (by omega) p e _ s m _ below meth c s.heap [] 0 0 _ _ _ _ _ [] _ ls S q594 G (g2_mv G (fun _ _ => rfl) (Nat.le_refl _)) hΦ (by show dJ + 1 ≤ 10; omega) (by show 21 + loJ ≤ 400; omega) ⟨Nat.le_refl _, Nat.le_refl _⟩ hl.1 (Nat.le_of_ble_eq_true rfl) dX1_least_24) ?_
    refine x_ifb_ne (tgt := 35) hx hb dX1_least_29 (by decide) (fun h_3 => ?_) (fun h_3 => ?_)
    · refine lv_aload_n hx hb dX1_least_35 rfl (lv_at hl 2 rfl) ?_
      refine lv_iload hx hb dX1_least_36 (lv_at hl 5 rfl) ?_
      refine x_ret5 (hpr k ⟨by omega, h_3⟩ p e _ s m _ below meth c s.heap [] 0 0 _ _ _ _ _ [] _ ls S q598 G (g2_mv G (fun _ _ => rfl) (Nat.le_refl _)) hΦ (by show dJ + 1 ≤ 10; omega) (by show 21 + loJ ≤ 400; omega) ⟨Nat.le_refl _, Nat.le_refl _⟩ hl.1 (Nat.le_of_ble_eq_true rfl) dX1_least_38) ?_
      refine lv_istore (lv' := [(6, .int (pr k)), (0, .ref sa), (1, .ref j1), (2, .ref j2), (3, .int (oI ((a).1))), (4, .int ((a).2)), (5, .int (nI k))]) hx hb dX1_least_43 hl (by decide) rfl (fun ls hl => ?_)
      refine lv_iload_n hx hb dX1_least_45 rfl (lv_at hl 4 rfl) ?_
      refine lv_bipush (v := -5) hx hb dX1_least_46 (by decide) ?_
      refine x_icmpo_eq (tgt := 61) hx hb dX1_least_48 (by decide) (fun b hb => Nat.lt_trans (hbd b hb) (by omega)) (fun h_4 => ?_) (fun v_5 h_4 => ?_)
      · refine lv_iload hx hb dX1_least_61 (lv_at hl 6 rfl) ?_
        refine lv_istore_n (lv' := [(3, .int (nI k)), (6, .int (pr k)), (0, .ref sa), (1, .ref j1), (2, .ref j2), (4, .int ((a).2)), (5, .int (nI k))]) hx hb dX1_least_63 rfl hl (by decide) rfl (fun ls hl => ?_)
        refine lv_iload hx hb dX1_least_64 (lv_at hl 1 rfl) ?_
        refine lv_istore (lv' := [(4, .int (pr k)), (3, .int (nI k)), (6, .int (pr k)), (0, .ref sa), (1, .ref j1), (2, .ref j2), (5, .int (nI k))]) hx hb dX1_least_66 hl (by decide) rfl (fun ls hl => ?_)
        refine lv_iinc (v := nI (k + 1)) (lv' := [(5, .int (nI (k + 1))), (4, .int (pr k)), (3, .int (nI k)), (6, .int (pr k)), (0, .ref sa), (1, .ref j1), (2, .ref j2)]) hx hb dX1_least_68 hl (k := 6) rfl (nI_1 k) (by decide) rfl (fun ls hl => ?_)
        refine lv_goto (tgt := 9) hx hb dX1_least_71 (by decide) ?_
        refine ih ls ?_
        show lv_has ls 7 [(0, .ref sa), (1, .ref j1), (2, .ref j2), (3, .int (oI (((gLS al pr) k a).1))), (4, .int (((gLS al pr) k a).2)), (5, .int (nI (k + 1)))]
        rw [show oI (((gLS al pr) k a).1) = nI k from (by simp [gLS, oI_s, oI_n, h_3, h_4])]
        rw [show ((gLS al pr) k a).2 = pr k from (by simp [gLS, oI_s, oI_n, h_3, h_4])]
        exact lv_sub hl [4, 5, 6, 2, 1, 0] rfl
      · refine lv_iload hx hb dX1_least_51 (lv_at hl 0 rfl) ?_
        refine lv_iload hx hb dX1_least_53 (lv_at hl 5 rfl) ?_
        refine lv_icmp_lt (tgt := 61) hx hb dX1_least_55 (by decide) (fun h_6 => ?_) (fun h_6 => ?_)
        · refine lv_iload hx hb dX1_least_61 (lv_at hl 6 rfl) ?_
          refine lv_istore_n (lv' := [(3, .int (nI k)), (6, .int (pr k)), (0, .ref sa), (1, .ref j1), (2, .ref j2), (4, .int ((a).2)), (5, .int (nI k))]) hx hb dX1_least_63 rfl hl (by decide) rfl (fun ls hl => ?_)
          refine lv_iload hx hb dX1_least_64 (lv_at hl 1 rfl) ?_
          refine lv_istore (lv' := [(4, .int (pr k)), (3, .int (nI k)), (6, .int (pr k)), (0, .ref sa), (1, .ref j1), (2, .ref j2), (5, .int (nI k))]) hx hb dX1_least_66 hl (by decide) rfl (fun ls hl => ?_)
          refine lv_iinc (v := nI (k + 1)) (lv' := [(5, .int (nI (k + 1))), (4, .int (pr k)), (3, .int (nI k)), (6, .int (pr k)), (0, .ref sa), (1, .ref j1), (2, .ref j2)]) hx hb dX1_least_68 hl (k := 6) rfl (nI_1 k) (by decide) rfl (fun ls hl => ?_)
          refine lv_goto (tgt := 9) hx hb dX1_least_71 (by decide) ?_
          refine ih ls ?_
          show lv_has ls 7 [(0, .ref sa), (1, .ref j1), (2, .ref j2), (3, .int (oI (((gLS al pr) k a).1))), (4, .int (((gLS al pr) k a).2)), (5, .int (nI (k + 1)))]
          rw [show oI (((gLS al pr) k a).1) = nI k from (by simp [gLS, oI_s, oI_n, h_3, h_4, h_6, Int32.not_le.mpr h_6])]
          rw [show ((gLS al pr) k a).2 = pr k from (by simp [gLS, oI_s, oI_n, h_3, h_4, h_6, Int32.not_le.mpr h_6])]
          exact lv_sub hl [4, 5, 6, 2, 1, 0] rfl
        · refine lv_goto (tgt := 68) hx hb dX1_least_58 (by decide) ?_
          refine lv_iinc (v := nI (k + 1)) (lv' := [(5, .int (nI (k + 1))), (6, .int (pr k)), (0, .ref sa), (1, .ref j1), (2, .ref j2), (3, .int (oI ((a).1))), (4, .int ((a).2))]) hx hb dX1_least_68 hl (k := 6) rfl (nI_1 k) (by decide) rfl (fun ls hl => ?_)
          refine lv_goto (tgt := 9) hx hb dX1_least_71 (by decide) ?_
          refine ih ls ?_
          show lv_has ls 7 [(0, .ref sa), (1, .ref j1), (2, .ref j2), (3, .int (oI (((gLS al pr) k a).1))), (4, .int (((gLS al pr) k a).2)), (5, .int (nI (k + 1)))]
          rw [show oI (((gLS al pr) k a).1) = oI ((a).1) from (by simp [gLS, oI_s, oI_n, h_3, h_4, h_6, Int32.not_lt.mp h_6])]
          rw [show ((gLS al pr) k a).2 = (a).2 from (by simp [gLS, oI_s, oI_n, h_3, h_4, h_6, Int32.not_lt.mp h_6])]
          exact lv_sub hl [2, 3, 4, 5, 6, 0] rfl
    · refine lv_goto (tgt := 68) hx hb dX1_least_32 (by decide) ?_
      refine lv_iinc (v := nI (k + 1)) (lv' := [(5, .int (nI (k + 1))), (0, .ref sa), (1, .ref j1), (2, .ref j2), (3, .int (oI ((a).1))), (4, .int ((a).2))]) hx hb dX1_least_68 hl (k := 5) rfl (nI_1 k) (by decide) rfl (fun ls hl => ?_)
      refine lv_goto (tgt := 9) hx hb dX1_least_71 (by decide) ?_
      refine ih ls ?_
      show lv_has ls 7 [(0, .ref sa), (1, .ref j1), (2, .ref j2), (3, .int (oI (((gLS al pr) k a).1))), (4, .int (((gLS al pr) k a).2)), (5, .int (nI (k + 1)))]
      rw [show oI (((gLS al pr) k a).1) = oI ((a).1) from (by simp [gLS, oI_s, oI_n, h_3])]
      rw [show ((gLS al pr) k a).2 = (a).2 from (by simp [gLS, oI_s, oI_n, h_3])]
      exact lv_sub hl [1, 2, 3, 4, 5, 0] rfl
  · intro ls hl
    have hl : lv_has ls 7 [(0, .ref sa), (1, .ref j1), (2, .ref j2), (3, .int (oI ((iter (gLS al pr) (2 ^ n) 0 (none, nI 0)).1))), (4, .int ((iter (gLS al pr) (2 ^ n) 0 (none, nI 0)).2)), (5, .int (nI (2 ^ n)))] := hl
    show W p l e (rmR 10 400) s m ([.ref sa, .ref j1, .ref j2]).toArray below meth c s.heap [] 0 0 (MQ below (QRet (some (.int (oI (gLeast al pr (2 ^ n)))))) ([.ref sa, .ref j1, .ref j2]).toArray s 0 0 (fun _ => False)) (F0 m 9 ls [])
    refine lv_iload hx hb dX1_least_9 (lv_at hl 5 rfl) ?_
    refine lv_aload_n hx hb dX1_least_11 rfl (lv_at hl 0 rfl) ?_
    refine va_get (D := D) (ci := 1) (C := RX1) (T := TX1) (N := 4) hx hb hts in_X1 hown K hP 0 rfl rfl 0 (by decide) (hts _ q171) (fun _ h9 => h9) rfl dX1_least_12 ?_
    refine x_ret (va_runV (As := []) (rest := [.int (nI (2 ^ n))]) S (xr_plans l D dA E ad sz0 la lp lx ld lr row hn hcu) (cwV 0 hts (lw_V q589 q590 q591 q61 q592) rfl rfl rfl hdX2_plans ⟨Nat.le_of_ble_eq_true rfl, Nat.le_of_ble_eq_true rfl⟩) ⟨bb_blind g0_bl _, va_recv K hP (ci := 2) (q0 := 1) rfl rfl, bb_pre (g0_mv G.1.1 (fun _ _ => rfl) (Nat.le_refl _)) (hP.sub [1, 2, 3, 4, 5] rfl) _⟩ rfl rfl hl.1 rfl (lv_room (Nat.le_of_ble_eq_true rfl)) dX1_least_15 ⟨Nat.le_refl _, Nat.le_refl _⟩) ?_
    refine lv_icmp_ge (tgt := 74) hx hb dX1_least_18 (by decide) (fun _ => ?_) (fun h => absurd (nI_le (by omega) (by omega)) h)
    refine lv_iload_n hx hb dX1_least_74 rfl (lv_at hl 3 rfl) ?_
    exact x_iret hx hb hrt hlk rfl dX1_least_75

set_option maxHeartbeats 4000000 in
theorem xr_count (l : Launch) (D : va_G) (dA : Nat → ClassId) (E : Nat) (ad : Nat → Nat) (sz0 mi : Nat) (lc : Nat → ClassId) (la lp lx ld lr : Nat) (row : Nat → Int32) {n cu : Nat} (hn : n ≤ 7) (hcu : cu ≤ 8) (j1 dJ loJ : Nat) (al : Nat → Bool) (Ψ0 : Heap → Prop) (hj : JO l yJu (G2 D dA E ad sz0 mi lc) (fun H => va_P D vwCl (lW dA la lp lx ld lr row n cu) H ∧ Ψ0 H) dJ loJ j1 (fun pl => pl < 2 ^ n) (fun pl => bI (al pl))) (hdJ : dJ ≤ 9) (hloJ : loJ ≤ 379) : RO l yX2_count cX2_count 4 (some .int) 10 400 [.ref la, .ref j1] (G2 D dA E ad sz0 mi lc) (fun H => va_P D vwCl (lW dA la lp lx ld lr row n cu) H ∧ Ψ0 H) (some (.int (nI (gCount al (2 ^ n))))) := by
  refine ro_of (by decide) (Nat.le_of_ble_eq_true rfl) ?_
  intro p e s m below meth c S hrt hlk G hP ls hl
  obtain ⟨hx, hb, hml, hown, hts⟩ := id S
  have hΦ := hP
  obtain ⟨hP, hψ⟩ := hP
  have hP : va_P D vwCl [(la, .inr (2, [.ref lp, .ref lx, .ref ld, .ref lr, .int (nI n), .int (nI cu), .int (row 2)])), (lp, .inl (dA 0, 7, .inl (fun k => row (6 + k)))), (lx, .inl (dA 0, 7, .inl (fun k => row (77 + k)))), (ld, .inl (dA 0, 8, .inl (fun k => row (13 + k)))), (lr, .inl (dA 0, 56, .inl (fun k => row (21 + k))))] s.heap := hP
  have K := G.1.1.1
  have h2n := pow7 hn
  have hl : lv_has ls 4 [(0, .ref la), (1, .ref j1)] := hl
  refine lv_iconst (v := nI 0) hx hb dX2_count_0 (by decide) ?_
  refine lv_istore_n (lv' := [(2, .int (nI 0)), (0, .ref la), (1, .ref j1)]) hx hb dX2_count_1 rfl hl (by decide) rfl (fun ls hl => ?_)
  refine lv_iconst (v := nI 0) hx hb dX2_count_2 (by decide) ?_
  refine lv_istore_n (lv' := [(3, .int (nI 0)), (2, .int (nI 0)), (0, .ref la), (1, .ref j1)]) hx hb dX2_count_3 rfl hl (by decide) rfl (fun ls hl => ?_)
  refine lpI (fun k a => a + (if al k = true then 1 else 0)) 0 (2 ^ n) (fun k a ls => lv_has ls 4 [(0, .ref la), (1, .ref j1), (2, .int (nI a)), (3, .int (nI k))]) (fun ls => W p l e (rmR 10 400) s m ([.ref la, .ref j1]).toArray below meth c s.heap [] 0 0 (MQ below (QRet (some (.int (nI (gCount al (2 ^ n)))))) ([.ref la, .ref j1]).toArray s 0 0 (fun _ => False)) (F0 m 4 ls [])) ?_ ?_ ls (lv_sub hl [2, 3, 1, 0] rfl)
  · intro k ls hk_1 hl ih
    generalize iter (fun k a => a + (if al k = true then 1 else 0)) k 0 0 = a at *
    have hl : lv_has ls 4 [(0, .ref la), (1, .ref j1), (2, .int (nI a)), (3, .int (nI k))] := hl
    show W p l e (rmR 10 400) s m ([.ref la, .ref j1]).toArray below meth c s.heap [] 0 0 (MQ below (QRet (some (.int (nI (gCount al (2 ^ n)))))) ([.ref la, .ref j1]).toArray s 0 0 (fun _ => False)) (F0 m 4 ls [])
    refine lv_iload_n hx hb dX2_count_4 rfl (lv_at hl 3 rfl) ?_
    refine lv_aload_n hx hb dX2_count_5 rfl (lv_at hl 0 rfl) ?_
    refine x_ret (va_runV (As := []) (rest := [.int (nI k)]) S (xr_plans l D dA E ad sz0 la lp lx ld lr row hn hcu) (cwV 0 hts (lw_V q1005 q590 q591 q61 q592) rfl rfl rfl hdX2_plans ⟨Nat.le_of_ble_eq_true rfl, Nat.le_of_ble_eq_true rfl⟩) ⟨bb_blind g0_bl _, va_recv K hP (ci := 2) (q0 := 0) rfl rfl, bb_pre (g0_mv G.1.1 (fun _ _ => rfl) (Nat.le_refl _)) hP _⟩ rfl rfl hl.1 rfl (lv_room (Nat.le_of_ble_eq_true rfl)) dX2_count_6 ⟨Nat.le_refl _, Nat.le_refl _⟩) ?_
    refine lv_icmp_ge (tgt := 36) hx hb dX2_count_9 (by decide) (fun h => absurd h (nI_ge hk_1 (by omega))) (fun _ => ?_)
    refine lv_iload_n hx hb dX2_count_12 rfl (lv_at hl 2 rfl) ?_
    refine lv_aload_n hx hb dX2_count_13 rfl (lv_at hl 1 rfl) ?_
    refine lv_iload_n hx hb dX2_count_14 rfl (lv_at hl 3 rfl) ?_
    refine x_ret5 (hj k (by omega) p e _ s m _ below meth c s.heap [] 0 0 _ _ _ _ _ [.int (nI a)] _ ls S q1007 G (g2_mv G (fun _ _ => rfl) (Nat.le_refl _)) hΦ (by show dJ + 1 ≤ 10; omega) (by show 21 + loJ ≤ 400; omega) ⟨Nat.le_refl _, Nat.le_refl _⟩ hl.1 (Nat.le_of_ble_eq_true rfl) dX2_count_15) ?_
    refine x_ifb_eq (tgt := 27) hx hb dX2_count_20 (by decide) (fun h_3 => ?_) (fun h_3 => ?_)
    · refine lv_iconst (v := nI 0) hx hb dX2_count_27 (by decide) ?_
      refine x_addN hx hb dX2_count_28 ?_
      refine lv_istore_n (lv' := [(2, .int (nI (a + 0))), (0, .ref la), (1, .ref j1), (3, .int (nI k))]) hx hb dX2_count_29 rfl hl (by decide) rfl (fun ls hl => ?_)
      refine lv_iinc (v := nI (k + 1)) (lv' := [(3, .int (nI (k + 1))), (2, .int (nI (a + 0))), (0, .ref la), (1, .ref j1)]) hx hb dX2_count_30 hl (k := 3) rfl (nI_1 k) (by decide) rfl (fun ls hl => ?_)
      refine lv_goto (tgt := 4) hx hb dX2_count_33 (by decide) ?_
      refine ih ls ?_
      show lv_has ls 4 [(0, .ref la), (1, .ref j1), (2, .int (nI ((fun k a => a + (if al k = true then 1 else 0)) k a))), (3, .int (nI (k + 1)))]
      rw [show nI ((fun k a => a + (if al k = true then 1 else 0)) k a) = nI (a + 0) from (by simp [h_3])]
      exact lv_sub hl [2, 3, 1, 0] rfl
    · refine lv_iconst (v := nI 1) hx hb dX2_count_23 (by decide) ?_
      refine lv_goto (tgt := 28) hx hb dX2_count_24 (by decide) ?_
      refine x_addN hx hb dX2_count_28 ?_
      refine lv_istore_n (lv' := [(2, .int (nI (a + 1))), (0, .ref la), (1, .ref j1), (3, .int (nI k))]) hx hb dX2_count_29 rfl hl (by decide) rfl (fun ls hl => ?_)
      refine lv_iinc (v := nI (k + 1)) (lv' := [(3, .int (nI (k + 1))), (2, .int (nI (a + 1))), (0, .ref la), (1, .ref j1)]) hx hb dX2_count_30 hl (k := 3) rfl (nI_1 k) (by decide) rfl (fun ls hl => ?_)
      refine lv_goto (tgt := 4) hx hb dX2_count_33 (by decide) ?_
      refine ih ls ?_
      show lv_has ls 4 [(0, .ref la), (1, .ref j1), (2, .int (nI ((fun k a => a + (if al k = true then 1 else 0)) k a))), (3, .int (nI (k + 1)))]
      rw [show nI ((fun k a => a + (if al k = true then 1 else 0)) k a) = nI (a + 1) from (by simp [h_3])]
      exact lv_sub hl [2, 3, 1, 0] rfl
  · intro ls hl
    have hl : lv_has ls 4 [(0, .ref la), (1, .ref j1), (2, .int (nI (gCount al (2 ^ n)))), (3, .int (nI (2 ^ n)))] := hl
    show W p l e (rmR 10 400) s m ([.ref la, .ref j1]).toArray below meth c s.heap [] 0 0 (MQ below (QRet (some (.int (nI (gCount al (2 ^ n)))))) ([.ref la, .ref j1]).toArray s 0 0 (fun _ => False)) (F0 m 4 ls [])
    refine lv_iload_n hx hb dX2_count_4 rfl (lv_at hl 3 rfl) ?_
    refine lv_aload_n hx hb dX2_count_5 rfl (lv_at hl 0 rfl) ?_
    refine x_ret (va_runV (As := []) (rest := [.int (nI (2 ^ n))]) S (xr_plans l D dA E ad sz0 la lp lx ld lr row hn hcu) (cwV 0 hts (lw_V q1005 q590 q591 q61 q592) rfl rfl rfl hdX2_plans ⟨Nat.le_of_ble_eq_true rfl, Nat.le_of_ble_eq_true rfl⟩) ⟨bb_blind g0_bl _, va_recv K hP (ci := 2) (q0 := 0) rfl rfl, bb_pre (g0_mv G.1.1 (fun _ _ => rfl) (Nat.le_refl _)) hP _⟩ rfl rfl hl.1 rfl (lv_room (Nat.le_of_ble_eq_true rfl)) dX2_count_6 ⟨Nat.le_refl _, Nat.le_refl _⟩) ?_
    refine lv_icmp_ge (tgt := 36) hx hb dX2_count_9 (by decide) (fun _ => ?_) (fun h => absurd (nI_le (by omega) (by omega)) h)
    refine lv_iload_n hx hb dX2_count_36 rfl (lv_at hl 2 rfl) ?_
    exact x_iret hx hb hrt hlk rfl dX2_count_37

