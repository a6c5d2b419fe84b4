/-! contracts told anew; lists in one form -/
theorem met_mono {l : Launch} {y : MethodName} {ws : List Cond} {rm : Room} {Pc Pc' : Array Value → State → Prop} {Qc Qc' : Array Value → State → Outcome → State → Prop} {mc ms : Nat} {free : Addr → Prop} (h : Met l y ws rm Pc Qc mc ms free) (hP : ∀ a s, Pc' a s → Pc a s) (hQ : ∀ a st o t, Qc a st o t → Qc' a st o t) : Met l y ws rm Pc' Qc' mc ms free := by
  intro p e h1 h2 h3 s m args below h4 h5 h6 h7
  obtain ⟨n, o, a1, a2, a3, a4⟩ := h p e h1 h2 h3 s m args below h4 h5 (hP _ _ h6) h7
  exact ⟨n, o, a1, a2, a3, hQ _ _ _ _ a4.1, a4.2⟩
theorem ex_mono {l : Launch} {y : MethodName} {cc : ByteArray} {nL : Nat} {ret : Option FieldType} {d lo mc ms : Nat} {as : List Value} {Γ Γ' : State → Prop} {D : va_G} {W0 : va_W} {Φ Φ' : Heap → Prop} {S S' : Type} {Ψ : S → Heap → Prop} {v : S → Option Value} {W1 : S → va_W} {Ψ' : S' → Heap → Prop} {v' : S' → Option Value} {W1' : S' → va_W}
    (h : EX l y cc nL ret d lo mc ms as Γ D W0 Φ Ψ v W1) (F : S → S') (hΓ : ∀ U, Γ' U → Γ U) (hΦ : ∀ H, Φ' H → Φ H) (hv : ∀ u, v' (F u) = v u) (hΨ : ∀ u H, Ψ u H → Ψ' (F u) H) (hW : ∀ u, W1' (F u) = W1 u) : EX l y cc nL ret d lo mc ms as Γ' D W0 Φ' Ψ' v' W1' := by
  intro sz
  refine met_mono (h sz) (fun a s hp => ⟨hp.1, hΓ _ hp.2.1, hp.2.2.1, hp.2.2.2.1, hp.2.2.2.2.1, hΦ _ hp.2.2.2.2.2⟩) (fun a st o t hq => ?_)
  obtain ⟨u, h1, h2, h3, h4, h5⟩ := hq
  exact ⟨F u, by rw [hv]; exact h1, hΨ u _ h2, by rw [hW]; exact h3, by rw [hW]; exact h4, h5⟩
theorem up_at {f : Nat → Option Nat} {k : Nat} {x : Option Nat} : va_up f k x k = x := by unfold va_up; exact if_pos rfl
theorem up_ne {f : Nat → Option Nat} {k i : Nat} {x : Option Nat} (h : i ≠ k) : va_up f k x i = f i := by unfold va_up; exact if_neg h

set_option maxHeartbeats 4000000 in
theorem xu_addE (l : Launch) (D : va_G) (dA : Nat → ClassId) (E : Nat) (ad : Nat → Nat) (sz0 mi : Nat) (lq : Nat) (md : Int32) (FZ : va_W) (x0 : Nat) (hox : OkEl FZ x0) (hup : Up sz0 ([(lq, .inr (4, [.int md, .ref E, .int (nI 0)]))])) (hap : Apart FZ ([(lq, .inr (4, [.int md, .ref E, .int (nI 0)]))])) : EX l yJ2_add cJ2_add 2 (some .boolean) 6 240 1 64 [.ref lq, .ref x0] (G1 D dA E ad sz0 mi) D ([(lq, .inr (4, [.int md, .ref E, .int (nI 0)]))]) (fun H => va_P D vwCl FZ H) (S := Nat) (fun _ _ => True) (fun _ => some (.int (bI true))) (fun u => [(lq, .inr (4, [.int (md + nI 1), .ref u, .int (nI 1)])), (u, .inl (dA 1, max 10 1, .inr (.inr (.inr (.inr (va_up (fun _ => none) 0 (some x0)))))))]) := by
  refine ex_of (by decide) (Nat.le_of_ble_eq_true rfl) ?_
  intro p e s m below meth c A S hrt hlk hnm G hA hAe hΦ H locs hP hD hS ls hl
  obtain ⟨hx, hb, hml, hown, hts⟩ := id S
  have K := G.1.1
  have hA0 := up_A hup G.1.2.2.2.2.2.2 hAe
  have hFA := ap_A hΦ hap hAe
  have hP : va_P D vwCl [(lq, .inr (4, [.int md, .ref E, .int (nI 0)]))] H := hP
  have hD : va_D A [(lq, .inr (4, [.int md, .ref E, .int (nI 0)]))] := hD
  have hl : lv_has ls 2 [(0, .ref lq), (1, .ref x0)] := hl
  refine lv_aload_n hx hb dJ2_add_0 rfl (lv_at hl 0 rfl) ?_
  refine lv_dup hx hb dJ2_add_1 rfl ?_
  refine va_get (D := D) (ci := 4) (C := RJ2) (T := TJ2) (N := 3) hx hb hts in_J2 hown K hP 0 rfl rfl 0 (by decide) (hts _ q162) (fun x9 h9 => u_same (hts _ q163) x9 h9) rfl dJ2_add_2 ?_
  refine lv_iconst (v := nI 1) hx hb dJ2_add_5 (by decide) ?_
  refine lv_iadd hx hb dJ2_add_6 ?_
  refine va_put (D := D) (ci := 4) (v := .int (md + (nI 1))) (ty := .int) (C := RJ2) (T := TJ2) (N := 3) hx hb hts in_J2 tyJ2 tyJ2_ok nmJ2 hown K hP hD hS 0 rfl rfl 0 (by decide) (hts _ q162) (fun x9 h9 => u_same (hts _ q163) x9 h9) rfl (by decide +kernel) rfl rfl (Nat.le_of_ble_eq_true rfl) dJ2_add_7 (fun H locs hP hD hS => ?_)
  have hP : va_P D vwCl [(lq, .inr (4, [.int (md + (nI 1)), .ref E, .int (nI 0)]))] H := hP
  have hD : va_D A [(lq, .inr (4, [.int (md + (nI 1)), .ref E, .int (nI 0)]))] := hD
  refine lv_aload_n hx hb dJ2_add_10 rfl (lv_at hl 0 rfl) ?_
  refine lv_aload_n hx hb dJ2_add_11 rfl (lv_at hl 1 rfl) ?_
  refine lv_aload_n hx hb dJ2_add_12 rfl (lv_at hl 0 rfl) ?_
  refine va_get (D := D) (ci := 4) (C := RJ2) (T := TJ2) (N := 3) hx hb hts in_J2 hown K hP 0 rfl rfl 1 (by decide) (hts _ q159) (fun _ h9 => h9) rfl dJ2_add_13 ?_
  refine lv_aload_n hx hb dJ2_add_16 rfl (lv_at hl 0 rfl) ?_
  refine va_get (D := D) (ci := 4) (C := RJ2) (T := TJ2) (N := 3) hx hb hts in_J2 hown K hP 0 rfl rfl 2 (by decide) (hts _ q160) (fun _ h9 => h9) rfl dJ2_add_17 ?_
  refine x_ecall (wr := []) (va_runV (As := [.ref x0, .ref E, .int (nI 0)]) (rest := []) S (xl_add2E l D dA E ad sz0 mi lq (md + nI 1) FZ x0 hox (up_D hA0 hD) (apart_D hFA hD) H.size) (cwV 3 hts (lw_V q384 q386 qs4 q64 q387) rfl rfl rfl hdJ2_add_2 ⟨Nat.le_of_ble_eq_true rfl, Nat.le_of_ble_eq_true rfl⟩) ⟨pe_blind g1_bl _, va_recv K hP (ci := 4) (q0 := 0) rfl rfl, pe_pre (g1_mv G (low_of hS hA0 G.1.2.2.2.2.2.2) hS.1) hP hD (fz_S hΦ hFA hS) _⟩ rfl rfl hl.1 rfl (lv_room (Nat.le_of_ble_eq_true rfl)) dJ2_add_20 ⟨Nat.le_of_ble_eq_true rfl, Nat.le_of_ble_eq_true rfl⟩) hP hD hS hA [0] [] rfl rfl (by decide) (by decide) (fun d1 H locs hΨ hP hD hS hkp hsz hDn => ?_)
  have hP : va_P D vwCl [(lq, .inr (4, [.int (md + nI 1), .ref d1, .int (nI 1)])), (d1, .inl (dA 1, max 10 1, .inr (.inr (.inr (.inr (va_up (fun _ => none) 0 (some x0)))))))] H := hP
  have hD : va_D A [(lq, .inr (4, [.int (md + nI 1), .ref d1, .int (nI 1)])), (d1, .inl (dA 1, max 10 1, .inr (.inr (.inr (.inr (va_up (fun _ => none) 0 (some x0)))))))] := hD
  refine W.widen (k := 1) (n := 64) (Nat.le_of_ble_eq_true rfl) (Nat.le_of_ble_eq_true rfl) ?_
  refine lv_iconst (v := nI 1) hx hb dJ2_add_23 (by decide) ?_
  refine x_top (y := bI true) rfl ?_
  exact x_ezret d1 hx hb hrt hlk rfl trivial hP hD hS dJ2_add_24 (Nat.le_of_ble_eq_true rfl) (Nat.le_of_ble_eq_true rfl)

set_option maxHeartbeats 4000000 in
theorem xu_addA (l : Launch) (D : va_G) (dA : Nat → ClassId) (E : Nat) (ad : Nat → Nat) (sz0 mi : Nat) (lq : Nat) (md : Int32) (da ct cp : Nat) (fe : Nat → Option Nat) (FZ : va_W) (hcp : ct < cp ∧ cp ≤ 64) (x0 : Nat) (hox : OkEl FZ x0) (hup : Up sz0 ([(lq, .inr (4, [.int md, .ref da, .int (nI ct)])), (da, .inl (dA 1, cp, .inr (.inr (.inr (.inr fe)))))])) (hap : Apart FZ ([(lq, .inr (4, [.int md, .ref da, .int (nI ct)])), (da, .inl (dA 1, cp, .inr (.inr (.inr (.inr fe)))))])) : EX l yJ2_add cJ2_add 2 (some .boolean) 6 240 1 64 [.ref lq, .ref x0] (G1 D dA E ad sz0 mi) D ([(lq, .inr (4, [.int md, .ref da, .int (nI ct)])), (da, .inl (dA 1, cp, .inr (.inr (.inr (.inr fe)))))]) (fun H => va_P D vwCl FZ H) (S := Unit) (fun _ _ => True) (fun _ => some (.int (bI true))) (fun _ => [(lq, .inr (4, [.int (md + nI 1), .ref da, .int (nI (ct + 1))])), (da, .inl (dA 1, cp, .inr (.inr (.inr (.inr (va_up fe ct (some x0)))))))]) := by
  refine ex_of (by decide) (Nat.le_of_ble_eq_true rfl) ?_
  intro p e s m below meth c A S hrt hlk hnm G hA hAe hΦ H locs hP hD hS ls hl
  obtain ⟨hx, hb, hml, hown, hts⟩ := id S
  have K := G.1.1
  have hA0 := up_A hup G.1.2.2.2.2.2.2 hAe
  have hFA := ap_A hΦ hap hAe
  have hP : va_P D vwCl [(lq, .inr (4, [.int md, .ref da, .int (nI ct)])), (da, .inl (dA 1, cp, .inr (.inr (.inr (.inr fe)))))] H := hP
  have hD : va_D A [(lq, .inr (4, [.int md, .ref da, .int (nI ct)])), (da, .inl (dA 1, cp, .inr (.inr (.inr (.inr fe)))))] := hD
  have hl : lv_has ls 2 [(0, .ref lq), (1, .ref x0)] := hl
  refine lv_aload_n hx hb dJ2_add_0 rfl (lv_at hl 0 rfl) ?_
  refine lv_dup hx hb dJ2_add_1 rfl ?_
  refine va_get (D := D) (ci := 4) (C := RJ2) (T := TJ2) (N := 3) hx hb hts in_J2 hown K hP 0 rfl rfl 0 (by decide) (hts _ q162) (fun x9 h9 => u_same (hts _ q163) x9 h9) rfl dJ2_add_2 ?_
  refine lv_iconst (v := nI 1) hx hb dJ2_add_5 (by decide) ?_
  refine lv_iadd hx hb dJ2_add_6 ?_
  refine va_put (D := D) (ci := 4) (v := .int (md + (nI 1))) (ty := .int) (C := RJ2) (T := TJ2) (N := 3) hx hb hts in_J2 tyJ2 tyJ2_ok nmJ2 hown K hP hD hS 0 rfl rfl 0 (by decide) (hts _ q162) (fun x9 h9 => u_same (hts _ q163) x9 h9) rfl (by decide +kernel) rfl rfl (Nat.le_of_ble_eq_true rfl) dJ2_add_7 (fun H locs hP hD hS => ?_)
  have hP : va_P D vwCl [(lq, .inr (4, [.int (md + (nI 1)), .ref da, .int (nI ct)])), (da, .inl (dA 1, cp, .inr (.inr (.inr (.inr fe)))))] H := hP
  have hD : va_D A [(lq, .inr (4, [.int (md + (nI 1)), .ref da, .int (nI ct)])), (da, .inl (dA 1, cp, .inr (.inr (.inr (.inr fe)))))] := hD
  refine lv_aload_n hx hb dJ2_add_10 rfl (lv_at hl 0 rfl) ?_
  refine lv_aload_n hx hb dJ2_add_11 rfl (lv_at hl 1 rfl) ?_
  refine lv_aload_n hx hb dJ2_add_12 rfl (lv_at hl 0 rfl) ?_
  refine va_get (D := D) (ci := 4) (C := RJ2) (T := TJ2) (N := 3) hx hb hts in_J2 hown K hP 0 rfl rfl 1 (by decide) (hts _ q159) (fun _ h9 => h9) rfl dJ2_add_13 ?_
  refine lv_aload_n hx hb dJ2_add_16 rfl (lv_at hl 0 rfl) ?_
  refine va_get (D := D) (ci := 4) (C := RJ2) (T := TJ2) (N := 3) hx hb hts in_J2 hown K hP 0 rfl rfl 2 (by decide) (hts _ q160) (fun _ h9 => h9) rfl dJ2_add_17 ?_
  refine x_ecall (wr := []) (va_runV (As := [.ref x0, .ref da, .int (nI ct)]) (rest := []) S (xl_add2A l D dA E ad sz0 mi lq (md + nI 1) da ct cp fe FZ hcp x0 hox (up_D hA0 hD) (apart_D hFA hD) H.size) (cwV 3 hts (lw_V q384 q386 qs4 q64 q387) rfl rfl rfl hdJ2_add_2 ⟨Nat.le_of_ble_eq_true rfl, Nat.le_of_ble_eq_true rfl⟩) ⟨pe_blind g1_bl _, va_recv K hP (ci := 4) (q0 := 0) rfl rfl, pe_pre (g1_mv G (low_of hS hA0 G.1.2.2.2.2.2.2) hS.1) hP hD (fz_S hΦ hFA hS) _⟩ rfl rfl hl.1 rfl (lv_room (Nat.le_of_ble_eq_true rfl)) dJ2_add_20 ⟨Nat.le_of_ble_eq_true rfl, Nat.le_of_ble_eq_true rfl⟩) hP hD hS hA [0, 1] [] rfl rfl (by decide) (by decide) (fun _u H locs hΨ hP hD hS hkp hsz hDn => ?_)
  have hP : va_P D vwCl [(lq, .inr (4, [.int (md + nI 1), .ref da, .int (nI (ct + 1))])), (da, .inl (dA 1, cp, .inr (.inr (.inr (.inr (va_up fe ct (some x0)))))))] H := hP
  have hD : va_D A [(lq, .inr (4, [.int (md + nI 1), .ref da, .int (nI (ct + 1))])), (da, .inl (dA 1, cp, .inr (.inr (.inr (.inr (va_up fe ct (some x0)))))))] := hD
  refine W.widen (k := 0) (n := 0) (Nat.le_of_ble_eq_true rfl) (Nat.le_of_ble_eq_true rfl) ?_
  refine lv_iconst (v := nI 1) hx hb dJ2_add_23 (by decide) ?_
  refine x_top (y := bI true) rfl ?_
  exact x_ezret () hx hb hrt hlk rfl trivial hP hD hS dJ2_add_24 (Nat.le_of_ble_eq_true rfl) (Nat.le_of_ble_eq_true rfl)

set_option maxHeartbeats 4000000 in
theorem xu_frm (l : Launch) (D : va_G) (dA : Nat → ClassId) (E : Nat) (ad : Nat → Nat) (sz0 mi : Nat) (lq : Nat) (md : Int32) (da ct cp : Nat) (fe : Nat → Option Nat) (FZ : va_W) (k0 : Nat) (hk0 : k0 < ct) (hcp : ct ≤ cp ∧ cp ≤ 64) (hel : ∀ i, i < ct → ∀ y, fe i = some y → OkEl FZ y) (hup : Up sz0 ([(lq, .inr (4, [.int md, .ref da, .int (nI ct)])), (da, .inl (dA 1, cp, .inr (.inr (.inr (.inr fe)))))])) (hap : Apart FZ ([(lq, .inr (4, [.int md, .ref da, .int (nI ct)])), (da, .inl (dA 1, cp, .inr (.inr (.inr (.inr fe)))))])) : EX l yJ2_fastRemove cJ2_fastRemove 4 none 1 40 0 0 [.ref lq, .ref da, .int (nI k0)] (G1 D dA E ad sz0 mi) D ([(lq, .inr (4, [.int md, .ref da, .int (nI ct)])), (da, .inl (dA 1, cp, .inr (.inr (.inr (.inr fe)))))]) (fun H => va_P D vwCl FZ H) (S := Unit) (fun _ _ => True) (fun _ => none) (fun _ => [(lq, .inr (4, [.int (md + nI 1), .ref da, .int (nI (ct - 1))])), (da, .inl (dA 1, cp, .inr (.inr (.inr (.inr (va_up (va_cpy fe fe (k0 + 1) k0 (ct - 1 - k0)) (ct - 1) none))))))]) := by
  refine ex_of (by decide) (Nat.le_of_ble_eq_true rfl) ?_
  intro p e s m below meth c A S hrt hlk hnm G hA hAe hΦ H locs hP hD hS ls hl
  obtain ⟨hx, hb, hml, hown, hts⟩ := id S
  have K := G.1.1
  have hA0 := up_A hup G.1.2.2.2.2.2.2 hAe
  have hFA := ap_A hΦ hap hAe
  have hP : va_P D vwCl [(lq, .inr (4, [.int md, .ref da, .int (nI ct)])), (da, .inl (dA 1, cp, .inr (.inr (.inr (.inr fe)))))] H := hP
  have hD : va_D A [(lq, .inr (4, [.int md, .ref da, .int (nI ct)])), (da, .inl (dA 1, cp, .inr (.inr (.inr (.inr fe)))))] := hD
  have hl : lv_has ls 4 [(0, .ref lq), (1, .ref da), (2, .int (nI k0))] := hl
  refine lv_aload_n hx hb dJ2_fastRemove_0 rfl (lv_at hl 0 rfl) ?_
  refine lv_dup hx hb dJ2_fastRemove_1 rfl ?_
  refine va_get (D := D) (ci := 4) (C := RJ2) (T := TJ2) (N := 3) hx hb hts in_J2 hown K hP 0 rfl rfl 0 (by decide) (hts _ q162) (fun x9 h9 => u_same (hts _ q163) x9 h9) rfl dJ2_fastRemove_2 ?_
  refine lv_iconst (v := nI 1) hx hb dJ2_fastRemove_5 (by decide) ?_
  refine lv_iadd hx hb dJ2_fastRemove_6 ?_
  refine va_put (D := D) (ci := 4) (v := .int (md + (nI 1))) (ty := .int) (C := RJ2) (T := TJ2) (N := 3) hx hb hts in_J2 tyJ2 tyJ2_ok nmJ2 hown K hP hD hS 0 rfl rfl 0 (by decide) (hts _ q162) (fun x9 h9 => u_same (hts _ q163) x9 h9) rfl (by decide +kernel) rfl rfl (Nat.le_of_ble_eq_true rfl) dJ2_fastRemove_7 (fun H locs hP hD hS => ?_)
  have hP : va_P D vwCl [(lq, .inr (4, [.int (md + (nI 1)), .ref da, .int (nI ct)])), (da, .inl (dA 1, cp, .inr (.inr (.inr (.inr fe)))))] H := hP
  have hD : va_D A [(lq, .inr (4, [.int (md + (nI 1)), .ref da, .int (nI ct)])), (da, .inl (dA 1, cp, .inr (.inr (.inr (.inr fe)))))] := hD
  refine lv_aload_n hx hb dJ2_fastRemove_10 rfl (lv_at hl 0 rfl) ?_
  refine va_get (D := D) (ci := 4) (C := RJ2) (T := TJ2) (N := 3) hx hb hts in_J2 hown K hP 0 rfl rfl 2 (by decide) (hts _ q160) (fun _ h9 => h9) rfl dJ2_fastRemove_11 ?_
  refine lv_iconst (v := nI 1) hx hb dJ2_fastRemove_14 (by decide) ?_
  refine lv_isub hx hb dJ2_fastRemove_15 ?_
  refine x_top (y := nI (ct - 1)) (sub_nI (by omega)) ?_
  refine lv_dup hx hb dJ2_fastRemove_16 rfl ?_
  refine lv_istore_n (lv' := [(3, .int (nI (ct - 1))), (0, .ref lq), (1, .ref da), (2, .int (nI k0))]) hx hb dJ2_fastRemove_17 rfl hl (by decide) rfl (fun ls hl => ?_)
  refine lv_iload_n hx hb dJ2_fastRemove_18 rfl (lv_at hl 3 rfl) ?_
  refine x_icmpn_le (tgt := 34) hx hb dJ2_fastRemove_19 (by decide) (by omega) (by omega) (fun h_1 => ?_) (fun h_1 => ?_)
  · refine lv_aload_n hx hb dJ2_fastRemove_34 rfl (lv_at hl 2 rfl) ?_
    refine lv_aload_n hx hb dJ2_fastRemove_35 rfl (lv_at hl 1 rfl) ?_
    refine lv_iload_n hx hb dJ2_fastRemove_36 rfl (lv_at hl 0 rfl) ?_
    refine lv_dup_x1 hx hb dJ2_fastRemove_37 rfl rfl ?_
    refine va_put (D := D) (ci := 4) (v := .int (nI (ct - 1))) (ty := .int) (C := RJ2) (T := TJ2) (N := 3) hx hb hts in_J2 tyJ2 tyJ2_ok nmJ2 hown K hP hD hS 0 rfl rfl 2 (by decide) (hts _ q160) (fun _ h9 => h9) rfl (by decide +kernel) rfl rfl (Nat.le_of_ble_eq_true rfl) dJ2_fastRemove_38 (fun H locs hP hD hS => ?_)
    have hP : va_P D vwCl [(lq, .inr (4, [.int (md + (nI 1)), .ref da, .int (nI (ct - 1))])), (da, .inl (dA 1, cp, .inr (.inr (.inr (.inr fe)))))] H := hP
    have hD : va_D A [(lq, .inr (4, [.int (md + (nI 1)), .ref da, .int (nI (ct - 1))])), (da, .inl (dA 1, cp, .inr (.inr (.inr (.inr fe)))))] := hD
    refine lv_null hx hb dJ2_fastRemove_41 ?_
    refine x_aastN hx hb K hP hD hS 1 rfl (ct - 1) (by omega) (by omega) dJ2_fastRemove_42 (fun H locs hP hD hS => ?_)
    have hP : va_P D vwCl [(lq, .inr (4, [.int (md + (nI 1)), .ref da, .int (nI (ct - 1))])), (da, .inl (dA 1, cp, .inr (.inr (.inr (.inr (va_up fe (ct - 1) none))))))] H := hP
    have hD : va_D A [(lq, .inr (4, [.int (md + (nI 1)), .ref da, .int (nI (ct - 1))])), (da, .inl (dA 1, cp, .inr (.inr (.inr (.inr (va_up fe (ct - 1) none))))))] := hD
    rw [show va_up fe (ct - 1) none = va_up (va_cpy fe fe (k0 + 1) k0 (ct - 1 - k0)) (ct - 1) none from by rw [cpy_nil (by omega)]] at hP hD
    exact x_evret () hx hb hrt hlk rfl trivial hP hD hS dJ2_fastRemove_43 (Nat.le_of_ble_eq_true rfl) (Nat.le_of_ble_eq_true rfl)
  · refine lv_aload_n hx hb dJ2_fastRemove_22 rfl (lv_at hl 2 rfl) ?_
    refine lv_iload_n hx hb dJ2_fastRemove_23 rfl (lv_at hl 3 rfl) ?_
    refine lv_iconst (v := nI 1) hx hb dJ2_fastRemove_24 (by decide) ?_
    refine x_addN hx hb dJ2_fastRemove_25 ?_
    refine lv_aload_n hx hb dJ2_fastRemove_26 rfl (lv_at hl 2 rfl) ?_
    refine lv_iload_n hx hb dJ2_fastRemove_27 rfl (lv_at hl 3 rfl) ?_
    refine lv_iload_n hx hb dJ2_fastRemove_28 rfl (lv_at hl 0 rfl) ?_
    refine lv_iload_n hx hb dJ2_fastRemove_29 rfl (lv_at hl 3 rfl) ?_
    refine lv_isub hx hb dJ2_fastRemove_30 ?_
    refine x_top (y := nI (ct - 1 - k0)) (sub_nI (by omega)) ?_
    refine x_copyQ hx hb (hml.trans hl.1.symm) hown (hts _ q329) (hts _ q260) (hts _ q259) (hts _ q70) K hP hD hS 1 1 rfl rfl (k0 + 1) k0 (ct - 1 - k0) (by omega) (by omega) (by omega) (by omega) (fun i hi y hy => any_of G.1 (fz_S hΦ hFA hS) (hel _ (by omega) y hy)) (Nat.le_of_ble_eq_true rfl) (Nat.le_of_ble_eq_true rfl) dJ2_fastRemove_31 (fun H locs hP hD hS => ?_)
    have hP : va_P D vwCl [(lq, .inr (4, [.int (md + (nI 1)), .ref da, .int (nI ct)])), (da, .inl (dA 1, cp, .inr (.inr (.inr (.inr (va_cpy fe fe (k0 + 1) k0 (ct - 1 - k0)))))))] H := hP
    have hD : va_D A [(lq, .inr (4, [.int (md + (nI 1)), .ref da, .int (nI ct)])), (da, .inl (dA 1, cp, .inr (.inr (.inr (.inr (va_cpy fe fe (k0 + 1) k0 (ct - 1 - k0)))))))] := hD
    refine lv_aload_n hx hb dJ2_fastRemove_34 rfl (lv_at hl 2 rfl) ?_
    refine lv_aload_n hx hb dJ2_fastRemove_35 rfl (lv_at hl 1 rfl) ?_
    refine lv_iload_n hx hb dJ2_fastRemove_36 rfl (lv_at hl 0 rfl) ?_
    refine lv_dup_x1 hx hb dJ2_fastRemove_37 rfl rfl ?_
    refine va_put (D := D) (ci := 4) (v := .int (nI (ct - 1))) (ty := .int) (C := RJ2) (T := TJ2) (N := 3) hx hb hts in_J2 tyJ2 tyJ2_ok nmJ2 hown K hP hD hS 0 rfl rfl 2 (by decide) (hts _ q160) (fun _ h9 => h9) rfl (by decide +kernel) rfl rfl (Nat.le_of_ble_eq_true rfl) dJ2_fastRemove_38 (fun H locs hP hD hS => ?_)
    have hP : va_P D vwCl [(lq, .inr (4, [.int (md + (nI 1)), .ref da, .int (nI (ct - 1))])), (da, .inl (dA 1, cp, .inr (.inr (.inr (.inr (va_cpy fe fe (k0 + 1) k0 (ct - 1 - k0)))))))] H := hP
    have hD : va_D A [(lq, .inr (4, [.int (md + (nI 1)), .ref da, .int (nI (ct - 1))])), (da, .inl (dA 1, cp, .inr (.inr (.inr (.inr (va_cpy fe fe (k0 + 1) k0 (ct - 1 - k0)))))))] := hD
    refine lv_null hx hb dJ2_fastRemove_41 ?_
    refine x_aastN hx hb K hP hD hS 1 rfl (ct - 1) (by omega) (by omega) dJ2_fastRemove_42 (fun H locs hP hD hS => ?_)
    have hP : va_P D vwCl [(lq, .inr (4, [.int (md + (nI 1)), .ref da, .int (nI (ct - 1))])), (da, .inl (dA 1, cp, .inr (.inr (.inr (.inr (va_up (va_cpy fe fe (k0 + 1) k0 (ct - 1 - k0)) (ct - 1) none))))))] H := hP
    have hD : va_D A [(lq, .inr (4, [.int (md + (nI 1)), .ref da, .int (nI (ct - 1))])), (da, .inl (dA 1, cp, .inr (.inr (.inr (.inr (va_up (va_cpy fe fe (k0 + 1) k0 (ct - 1 - k0)) (ct - 1) none))))))] := hD
    exact x_evret () hx hb hrt hlk rfl trivial hP hD hS dJ2_fastRemove_43 (Nat.le_of_ble_eq_true rfl) (Nat.le_of_ble_eq_true rfl)

set_option maxHeartbeats 4000000 in
theorem xu_removeA (l : Launch) (D : va_G) (dA : Nat → ClassId) (E : Nat) (ad : Nat → Nat) (sz0 mi : Nat) (lq : Nat) (md : Int32) (da ct cp : Nat) (fe : Nat → Option Nat) (FZ : va_W) (k0 : Nat) (hk0 : k0 < ct) (hcp : ct ≤ cp ∧ cp ≤ 64) (hel : ∀ i, i < ct → ∀ y, fe i = some y → OkEl FZ y) (y0 : Nat) (hy0 : fe k0 = some y0) (hup : Up sz0 ([(lq, .inr (4, [.int md, .ref da, .int (nI ct)])), (da, .inl (dA 1, cp, .inr (.inr (.inr (.inr fe)))))])) (hap : Apart FZ ([(lq, .inr (4, [.int md, .ref da, .int (nI ct)])), (da, .inl (dA 1, cp, .inr (.inr (.inr (.inr fe)))))])) : EX l yJ2_remove cJ2_remove 4 (some (.object "java/lang/Object")) 2 80 0 0 [.ref lq, .int (nI k0)] (G1 D dA E ad sz0 mi) D ([(lq, .inr (4, [.int md, .ref da, .int (nI ct)])), (da, .inl (dA 1, cp, .inr (.inr (.inr (.inr fe)))))]) (fun H => va_P D vwCl FZ H) (S := Unit) (fun _ _ => True) (fun _ => some (.ref y0)) (fun _ => [(lq, .inr (4, [.int (md + nI 1), .ref da, .int (nI (ct - 1))])), (da, .inl (dA 1, cp, .inr (.inr (.inr (.inr (va_up (va_cpy fe fe (k0 + 1) k0 (ct - 1 - k0)) (ct - 1) none))))))]) := by
  refine ex_of (by decide) (Nat.le_of_ble_eq_true rfl) ?_
  intro p e s m below meth c A S hrt hlk hnm G hA hAe hΦ H locs hP hD hS ls hl
  obtain ⟨hx, hb, hml, hown, hts⟩ := id S
  have K := G.1.1
  have hA0 := up_A hup G.1.2.2.2.2.2.2 hAe
  have hFA := ap_A hΦ hap hAe
  have hP : va_P D vwCl [(lq, .inr (4, [.int md, .ref da, .int (nI ct)])), (da, .inl (dA 1, cp, .inr (.inr (.inr (.inr fe)))))] H := hP
  have hD : va_D A [(lq, .inr (4, [.int md, .ref da, .int (nI ct)])), (da, .inl (dA 1, cp, .inr (.inr (.inr (.inr fe)))))] := hD
  have hl : lv_has ls 4 [(0, .ref lq), (1, .int (nI k0))] := hl
  refine lv_iload_n hx hb dJ2_remove_0 rfl (lv_at hl 1 rfl) ?_
  refine lv_aload_n hx hb dJ2_remove_1 rfl (lv_at hl 0 rfl) ?_
  refine va_get (D := D) (ci := 4) (C := RJ2) (T := TJ2) (N := 3) hx hb hts in_J2 hown K hP 0 rfl rfl 2 (by decide) (hts _ q160) (fun _ h9 => h9) rfl dJ2_remove_2 ?_
  refine x_ret (va_runS (As := [.int (nI k0), .int (nI ct)]) (rest := []) S (xl_oci l k0 ct (by omega) (by omega)) (va_cwS 2 hts (lw_S q365 q366 q74 q367) rfl rfl rfl hdJ10_checkIndex ⟨Nat.le_of_ble_eq_true rfl, Nat.le_of_ble_eq_true rfl⟩) ⟨bb_blind tt_bl _, tt_pre _⟩ rfl rfl hl.1 rfl (lv_room (Nat.le_of_ble_eq_true rfl)) dJ2_remove_5 ⟨by omega, by omega⟩) ?_
  refine lv_pop hx hb dJ2_remove_8 rfl ?_
  refine lv_aload_n hx hb dJ2_remove_9 rfl (lv_at hl 0 rfl) ?_
  refine va_get (D := D) (ci := 4) (C := RJ2) (T := TJ2) (N := 3) hx hb hts in_J2 hown K hP 0 rfl rfl 1 (by decide) (hts _ q159) (fun _ h9 => h9) rfl dJ2_remove_10 ?_
  refine lv_astore_n (lv' := [(2, .ref da), (0, .ref lq), (1, .int (nI k0))]) hx hb dJ2_remove_13 rfl hl (by decide) rfl (fun ls hl => ?_)
  refine lv_aload_n hx hb dJ2_remove_14 rfl (lv_at hl 0 rfl) ?_
  refine lv_iload_n hx hb dJ2_remove_15 rfl (lv_at hl 2 rfl) ?_
  refine x_aald (y := y0) hx hb K hP 1 rfl k0 (by omega) (by omega) hy0 dJ2_remove_16 ?_
  refine lv_astore_n (lv' := [(3, .ref y0), (2, .ref da), (0, .ref lq), (1, .int (nI k0))]) hx hb dJ2_remove_17 rfl hl (by decide) rfl (fun ls hl => ?_)
  refine lv_aload_n hx hb dJ2_remove_18 rfl (lv_at hl 2 rfl) ?_
  refine lv_aload_n hx hb dJ2_remove_19 rfl (lv_at hl 1 rfl) ?_
  refine lv_iload_n hx hb dJ2_remove_20 rfl (lv_at hl 3 rfl) ?_
  refine x_ecall (wr := []) (va_runV (As := [.ref da, .int (nI k0)]) (rest := []) S (xu_frm l D dA E ad sz0 mi lq md da ct cp fe FZ k0 hk0 hcp hel (up_D hA0 hD) (apart_D hFA hD) H.size) (cwV 2 hts (lw_V q371 q373 qs3 q64 q374) rfl rfl rfl hdJ2_fastRemove ⟨Nat.le_of_ble_eq_true rfl, Nat.le_of_ble_eq_true rfl⟩) ⟨pe_blind g1_bl _, va_recv K hP (ci := 4) (q0 := 0) rfl rfl, pe_pre (g1_mv G (low_of hS hA0 G.1.2.2.2.2.2.2) hS.1) hP hD (fz_S hΦ hFA hS) _⟩ rfl rfl hl.1 rfl (lv_room (Nat.le_of_ble_eq_true rfl)) dJ2_remove_21 ⟨Nat.le_of_ble_eq_true rfl, Nat.le_of_ble_eq_true rfl⟩) hP hD hS hA [0, 1] [] rfl rfl (by decide) (by decide) (fun _u H locs hΨ hP hD hS hkp hsz hDn => ?_)
  have hP : va_P D vwCl [(lq, .inr (4, [.int (md + nI 1), .ref da, .int (nI (ct - 1))])), (da, .inl (dA 1, cp, .inr (.inr (.inr (.inr (va_up (va_cpy fe fe (k0 + 1) k0 (ct - 1 - k0)) (ct - 1) none))))))] H := hP
  have hD : va_D A [(lq, .inr (4, [.int (md + nI 1), .ref da, .int (nI (ct - 1))])), (da, .inl (dA 1, cp, .inr (.inr (.inr (.inr (va_up (va_cpy fe fe (k0 + 1) k0 (ct - 1 - k0)) (ct - 1) none))))))] := hD
  refine W.widen (k := 0) (n := 0) (Nat.le_of_ble_eq_true rfl) (Nat.le_of_ble_eq_true rfl) ?_
  refine lv_aload_n hx hb dJ2_remove_24 rfl (lv_at hl 0 rfl) ?_
  exact x_earet () hx hb hrt (Or.inl ⟨_, rfl⟩) hlk rfl trivial hP hD hS dJ2_remove_25 (Nat.le_of_ble_eq_true rfl) (Nat.le_of_ble_eq_true rfl)

/-- List.add on a list of any form -/
theorem xu_add (l : Launch) (D : va_G) (dA : Nat → ClassId) (E : Nat) (ad : Nat → Nat) (sz0 mi : Nat) (lq : Nat) (md : Int32) (ct : Nat) (ob : Option (Nat × Nat)) (fe : Nat → Option Nat) (FZ : va_W) (hlo : LOk ob ct) (hct : ct ≤ 42) (hel : ∀ i, i < ct → ∀ y, fe i = some y → OkEl FZ y) (x0 : Nat) (hox : OkEl FZ x0) (hup : Up sz0 (lsW dA E lq md ct ob fe)) (hap : Apart FZ (lsW dA E lq md ct ob fe)) :
    EX l yJ2_add cJ2_add 2 (some .boolean) 6 240 1 64 [.ref lq, .ref x0] (G1 D dA E ad sz0 mi) D (lsW dA E lq md ct ob fe) (fun H => va_P D vwCl FZ H) (S := Option (Nat × Nat) × (Nat → Option Nat)) (fun u _ => LOk u.1 (ct + 1) ∧ (∀ i, i < ct → u.2 i = fe i) ∧ u.2 ct = some x0) (fun _ => some (.int (bI true))) (fun u => lsW dA E lq (md + nI 1) (ct + 1) u.1 u.2) := by
  cases ob with
  | none =>
    have h0 : ct = 0 := hlo.1 rfl
    subst h0
    exact ex_mono (xu_addE l D dA E ad sz0 mi lq md FZ x0 hox hup hap) (fun u => (some (u, max 10 1), va_up (fun _ => none) 0 (some x0))) (fun _ h => h) (fun _ h => h) (fun _ => rfl) (fun u H _ => ⟨⟨(fun h => by cases h), (fun dc h => by cases h; exact ⟨(by decide : 0 + 1 ≤ max 10 1), (by decide : max 10 1 ≤ 64), (by decide : 10 ≤ max 10 1)⟩)⟩, (fun i hi => by omega), (up_at (f := fun _ => none) (k := 0) (x := some x0))⟩) (fun _ => rfl)
  | some dc =>
    obtain ⟨da, cp⟩ := dc
    obtain ⟨h1, h2, h3⟩ := hlo.2 _ rfl
    dsimp only at h1 h2 h3
    by_cases hf : ct < cp
    · exact ex_mono (xu_addA l D dA E ad sz0 mi lq md da ct cp fe FZ ⟨hf, h2⟩ x0 hox hup hap) (fun _ => (some (da, cp), va_up fe ct (some x0))) (fun _ h => h) (fun _ h => h) (fun _ => rfl) (fun u H _ => ⟨⟨(fun h => by cases h), (fun dc h => by cases h; exact ⟨hf, h2, h3⟩)⟩, (fun i hi => up_ne (by omega)), up_at⟩) (fun _ => rfl)
    · have e : ct = cp := by omega
      subst e
      refine ex_mono (xl_addF l D dA E ad sz0 mi lq md da ct fe FZ ⟨hct, by omega⟩ hel x0 hox hup hap) (fun u => (some (u, ct + max (ct + 1 - ct) (ct / 2)), va_up (va_cpy fe (fun _ => none) 0 0 (min ct (ct + max (ct + 1 - ct) (ct / 2)))) ct (some x0))) (fun _ h => h) (fun _ h => h) (fun _ => rfl) (fun u H _ => ⟨⟨(fun h => by cases h), (fun dc h => by cases h; exact ⟨by dsimp only; omega, by dsimp only; omega, by dsimp only; omega⟩)⟩, (fun i hi => ?_), up_at⟩) (fun _ => rfl)
      dsimp only
      rw [up_ne (by omega), cpy_in (by omega)]
/-- List.clear -/
theorem xu_clear (l : Launch) (D : va_G) (dA : Nat → ClassId) (E : Nat) (ad : Nat → Nat) (sz0 mi : Nat) (lq : Nat) (md : Int32) (ct : Nat) (ob : Option (Nat × Nat)) (fe : Nat → Option Nat) (hlo : LOk ob ct) (hup : Up sz0 (lsW dA E lq md ct ob fe)) :
    EX l yJ2_clear cJ2_clear 4 none 0 0 0 0 [.ref lq] (G1 D dA E ad sz0 mi) D (lsW dA E lq md ct ob fe) (fun _ => True) (S := Nat → Option Nat) (fun _ _ => True) (fun _ => none) (fun u => lsW dA E lq (md + nI 1) 0 ob u) := by
  cases ob with
  | none =>
    have h0 : ct = 0 := hlo.1 rfl
    subst h0
    exact ex_mono (xl_clearE l D dA E ad sz0 mi lq md hup) (fun _ => fun _ => none) (fun _ h => h) (fun _ h => h) (fun _ => rfl) (fun u H _ => trivial) (fun _ => rfl)
  | some dc =>
    obtain ⟨da, cp⟩ := dc
    obtain ⟨h1, h2, h3⟩ := hlo.2 _ rfl
    exact ex_mono (xl_clearA l D dA E ad sz0 mi lq md da ct cp fe ⟨h1, h2⟩ hup) (fun _ => iter (fun k g => va_up g k none) ct 0 fe) (fun _ h => h) (fun _ h => h) (fun _ => rfl) (fun u H _ => trivial) (fun _ => rfl)
/-- List.remove -/
theorem xu_remove (l : Launch) (D : va_G) (dA : Nat → ClassId) (E : Nat) (ad : Nat → Nat) (sz0 mi : Nat) (lq : Nat) (md : Int32) (ct : Nat) (ob : Option (Nat × Nat)) (fe : Nat → Option Nat) (FZ : va_W) (hlo : LOk ob ct) (hel : ∀ i, i < ct → ∀ y, fe i = some y → OkEl FZ y) (k0 y0 : Nat) (hk0 : k0 < ct) (hy0 : fe k0 = some y0) (hup : Up sz0 (lsW dA E lq md ct ob fe)) (hap : Apart FZ (lsW dA E lq md ct ob fe)) :
    EX l yJ2_remove cJ2_remove 4 (some (.object "java/lang/Object")) 2 80 0 0 [.ref lq, .int (nI k0)] (G1 D dA E ad sz0 mi) D (lsW dA E lq md ct ob fe) (fun H => va_P D vwCl FZ H) (S := Nat → Option Nat) (fun u _ => (∀ i, i < k0 → u i = fe i) ∧ ∀ i, k0 ≤ i → i < ct - 1 → u i = fe (i + 1)) (fun _ => some (.ref y0)) (fun u => lsW dA E lq (md + nI 1) (ct - 1) ob u) := by
  cases ob with
  | none =>
    have h0 : ct = 0 := hlo.1 rfl
    omega
  | some dc =>
    obtain ⟨da, cp⟩ := dc
    obtain ⟨h1, h2, h3⟩ := hlo.2 _ rfl
    refine ex_mono (xu_removeA l D dA E ad sz0 mi lq md da ct cp fe FZ k0 hk0 ⟨h1, h2⟩ hel y0 hy0 hup hap) (fun _ => va_up (va_cpy fe fe (k0 + 1) k0 (ct - 1 - k0)) (ct - 1) none) (fun _ h => h) (fun _ h => h) (fun _ => rfl) (fun u H _ => ⟨fun i hi => ?_, fun i h4 h5 => ?_⟩) (fun _ => rfl)
    · rw [up_ne (by omega)]
      unfold va_cpy
      exact if_neg (by omega)
    · rw [up_ne (by omega)]
      unfold va_cpy
      rw [if_pos (by omega)]
      congr 1
      omega

