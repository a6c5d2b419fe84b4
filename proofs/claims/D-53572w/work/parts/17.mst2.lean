set_option maxHeartbeats 4000000 in
theorem mw_step (l : Launch) (D : va_G) (dA : Nat → ClassId) (h0 hr hp ha hf ht hd : Nat) (row past aside bef txt rd : Nat → Int32) (hs : Nat) (ias : Bool) (ln pa : Nat)  {n cu q : Nat} (w : MWf row n cu q) (hhs : hs ≤ 4) (bst : Option Nat) (hB : BstOk row n cu bst)  : WR l yX3_step cX3_step 2 (some .int) 6 240 0 0 [.ref h0] D dA (mW dA h0 hr hp ha hf ht hd row past aside bef txt rd hs ias ln pa) (some (.int (msRes row n cu q))) (mW dA h0 hr hp ha hf ht hd (msRow row n cu q bst) (bif okSt row n cu q then recP past row hs else past) aside row txt rd (bif okSt row n cu q then recH hs else hs) ias ln pa) := by
  refine wr_of (by decide) (Nat.le_of_ble_eq_true rfl) ?_
  intro p e s m below meth c A S hrt hlk K hA hAe H locs hP hD hS ls hl
  obtain ⟨hx, hb, hml, hown, hts⟩ := id S
  have hP : va_P D vwCl [(h0, .inr (3, [.ref hr, .ref hp, .ref ha, .ref hf, .int (nI hs), .int (bI ias), .ref ht, .int (nI ln), .int (nI pa), .ref hd])), (hr, .inl (dA 0, 444, .inl row)), (hp, .inl (dA 0, 1776, .inl past)), (ha, .inl (dA 0, 444, .inl aside)), (hf, .inl (dA 0, 444, .inl bef)), (ht, .inl (dA 3, 60, .inl txt)), (hd, .inl (dA 0, 8, .inl rd))] H := hP
  have hD : va_D A [(h0, .inr (3, [.ref hr, .ref hp, .ref ha, .ref hf, .int (nI hs), .int (bI ias), .ref ht, .int (nI ln), .int (nI pa), .ref hd])), (hr, .inl (dA 0, 444, .inl row)), (hp, .inl (dA 0, 1776, .inl past)), (ha, .inl (dA 0, 444, .inl aside)), (hf, .inl (dA 0, 444, .inl bef)), (ht, .inl (dA 3, 60, .inl txt)), (hd, .inl (dA 0, 8, .inl rd))] := hD
  have hl : lv_has ls 2 [(0, .ref h0)] := hl
  refine lv_aload_n hx hb dX3_step_0 rfl (lv_at hl 0 rfl) ?_
  refine x_wcall (wr := []) (va_runV (As := []) (rest := []) S ((mw_remember l D dA h0 hr hp ha hf ht hd row past aside bef txt rd hs ias ln pa ) H.size) (cwV 0 hts (lw_V q1123 q1125 qs25 q69 q1126) rfl rfl rfl hdX3_remember ⟨Nat.le_of_ble_eq_true rfl, Nat.le_of_ble_eq_true rfl⟩) ⟨pw_blind _, va_recv K hP (ci := 3) (q0 := 0) rfl rfl, pw_pre K hP hD _⟩ rfl rfl hl.1 rfl (lv_room (Nat.le_of_ble_eq_true rfl)) dX3_step_1 ⟨Nat.le_of_ble_eq_true rfl, Nat.le_of_ble_eq_true rfl⟩) hP hD hS hA [0, 1, 2, 3, 4, 5, 6] [] rfl rfl (by decide) (by decide) (fun H locs hP hD hS hkp => ?_)
  have hP : va_P D vwCl [(h0, .inr (3, [.ref hr, .ref hp, .ref ha, .ref hf, .int (nI hs), .int (bI ias), .ref ht, .int (nI ln), .int (nI pa), .ref hd])), (hr, .inl (dA 0, 444, .inl row)), (hp, .inl (dA 0, 1776, .inl past)), (ha, .inl (dA 0, 444, .inl aside)), (hf, .inl (dA 0, 444, .inl row)), (ht, .inl (dA 3, 60, .inl txt)), (hd, .inl (dA 0, 8, .inl rd))] H := hP
  have hD : va_D A [(h0, .inr (3, [.ref hr, .ref hp, .ref ha, .ref hf, .int (nI hs), .int (bI ias), .ref ht, .int (nI ln), .int (nI pa), .ref hd])), (hr, .inl (dA 0, 444, .inl row)), (hp, .inl (dA 0, 1776, .inl past)), (ha, .inl (dA 0, 444, .inl aside)), (hf, .inl (dA 0, 444, .inl row)), (ht, .inl (dA 3, 60, .inl txt)), (hd, .inl (dA 0, 8, .inl rd))] := hD
  refine lv_aload_n hx hb dX3_step_4 rfl (lv_at hl 0 rfl) ?_
  refine x_wcall (wr := []) (va_runV (As := []) (rest := []) S ((mw_makeStep l D dA h0 hr hp ha hf ht hd row past aside row txt rd hs ias ln pa w bst hB.1 hB.2) H.size) (cwV 0 hts (lw_V q1191 q1193 qs31 q69 q1194) rfl rfl rfl hdX3_makeStep ⟨Nat.le_of_ble_eq_true rfl, Nat.le_of_ble_eq_true rfl⟩) ⟨pw_blind _, va_recv K hP (ci := 3) (q0 := 0) rfl rfl, pw_pre K hP hD _⟩ rfl rfl hl.1 rfl (lv_room (Nat.le_of_ble_eq_true rfl)) dX3_step_5 ⟨Nat.le_of_ble_eq_true rfl, Nat.le_of_ble_eq_true rfl⟩) hP hD hS hA [0, 1, 2, 3, 4, 5, 6] [] rfl rfl (by decide) (by decide) (fun H locs hP hD hS hkp => ?_)
  have hP : va_P D vwCl [(h0, .inr (3, [.ref hr, .ref hp, .ref ha, .ref hf, .int (nI hs), .int (bI ias), .ref ht, .int (nI ln), .int (nI pa), .ref hd])), (hr, .inl (dA 0, 444, .inl (msRow row n cu q bst))), (hp, .inl (dA 0, 1776, .inl past)), (ha, .inl (dA 0, 444, .inl aside)), (hf, .inl (dA 0, 444, .inl row)), (ht, .inl (dA 3, 60, .inl txt)), (hd, .inl (dA 0, 8, .inl rd))] H := hP
  have hD : va_D A [(h0, .inr (3, [.ref hr, .ref hp, .ref ha, .ref hf, .int (nI hs), .int (bI ias), .ref ht, .int (nI ln), .int (nI pa), .ref hd])), (hr, .inl (dA 0, 444, .inl (msRow row n cu q bst))), (hp, .inl (dA 0, 1776, .inl past)), (ha, .inl (dA 0, 444, .inl aside)), (hf, .inl (dA 0, 444, .inl row)), (ht, .inl (dA 3, 60, .inl txt)), (hd, .inl (dA 0, 8, .inl rd))] := hD
  refine lv_istore_n (lv' := [(1, .int (msRes row n cu q)), (0, .ref h0)]) hx hb dX3_step_8 rfl hl (by decide) rfl (fun ls hl => ?_)
  refine lv_iload_n hx hb dX3_step_9 rfl (lv_at hl 0 rfl) ?_
  refine lv_if_lt (tgt := 17) hx hb dX3_step_10 (by decide) (fun h_1 => ?_) (fun h_1 => ?_)
  · refine lv_iload_n hx hb dX3_step_17 rfl (lv_at hl 0 rfl) ?_
    rw [show okSt row n cu q = false from (by simp [okSt, h_1])]
    exact x_viret hx hb hrt hlk rfl hP hD hS dX3_step_18 (Nat.le_of_ble_eq_true rfl) (Nat.le_of_ble_eq_true rfl)
  · refine lv_aload_n hx hb dX3_step_13 rfl (lv_at hl 1 rfl) ?_
    refine x_wcall (wr := []) (va_runV (As := []) (rest := []) S ((mw_record l D dA h0 hr hp ha hf ht hd (msRow row n cu q bst) past aside row txt rd hs ias ln pa hhs) H.size) (cwV 0 hts (lw_V q1127 q1129 qs26 q69 q1130) rfl rfl rfl hdX3_record ⟨Nat.le_of_ble_eq_true rfl, Nat.le_of_ble_eq_true rfl⟩) ⟨pw_blind _, va_recv K hP (ci := 3) (q0 := 0) rfl rfl, pw_pre K hP hD _⟩ rfl rfl hl.1 rfl (lv_room (Nat.le_of_ble_eq_true rfl)) dX3_step_14 ⟨Nat.le_of_ble_eq_true rfl, Nat.le_of_ble_eq_true rfl⟩) hP hD hS hA [0, 1, 2, 3, 4, 5, 6] [] rfl rfl (by decide) (by decide) (fun H locs hP hD hS hkp => ?_)
    have hP : va_P D vwCl [(h0, .inr (3, [.ref hr, .ref hp, .ref ha, .ref hf, .int (nI (recH hs)), .int (bI ias), .ref ht, .int (nI ln), .int (nI pa), .ref hd])), (hr, .inl (dA 0, 444, .inl (msRow row n cu q bst))), (hp, .inl (dA 0, 1776, .inl (recP past row hs))), (ha, .inl (dA 0, 444, .inl aside)), (hf, .inl (dA 0, 444, .inl row)), (ht, .inl (dA 3, 60, .inl txt)), (hd, .inl (dA 0, 8, .inl rd))] H := hP
    have hD : va_D A [(h0, .inr (3, [.ref hr, .ref hp, .ref ha, .ref hf, .int (nI (recH hs)), .int (bI ias), .ref ht, .int (nI ln), .int (nI pa), .ref hd])), (hr, .inl (dA 0, 444, .inl (msRow row n cu q bst))), (hp, .inl (dA 0, 1776, .inl (recP past row hs))), (ha, .inl (dA 0, 444, .inl aside)), (hf, .inl (dA 0, 444, .inl row)), (ht, .inl (dA 3, 60, .inl txt)), (hd, .inl (dA 0, 8, .inl rd))] := hD
    refine lv_iload_n hx hb dX3_step_17 rfl (lv_at hl 0 rfl) ?_
    rw [show okSt row n cu q = true from (by simp [okSt, h_1])]
    exact x_viret hx hb hrt hlk rfl hP hD hS dX3_step_18 (Nat.le_of_ble_eq_true rfl) (Nat.le_of_ble_eq_true rfl)

set_option maxHeartbeats 4000000 in
theorem mw_solve (l : Launch) (D : va_G) (dA : Nat → ClassId) (h0 hr hp ha hf ht hd : Nat) (row past aside bef txt rd : Nat → Int32) (hs : Nat) (ias : Bool) (ln pa : Nat)  {n cu q : Nat} (w : MWf row n cu q) (hhs : hs ≤ 4) (bst : Option Nat) (hB : BstOk row n cu bst)  : WR l yX3_solve cX3_solve 4 (some .int) 6 240 0 0 [.ref h0] D dA (mW dA h0 hr hp ha hf ht hd row past aside bef txt rd hs ias ln pa) (some (.int (bif okSv (slv n cu (40 - q) row q bst 0) then (slv n cu (40 - q) row q bst 0).1 3 - nI q else (slv n cu (40 - q) row q bst 0).2.1))) (mW dA h0 hr hp ha hf ht hd (bif okSv (slv n cu (40 - q) row q bst 0) then (slv n cu (40 - q) row q bst 0).1 else row) (bif okSv (slv n cu (40 - q) row q bst 0) then recP past row hs else past) aside row txt rd (bif okSv (slv n cu (40 - q) row q bst 0) then recH hs else hs) ias ln pa) := by
  refine wr_of (by decide) (Nat.le_of_ble_eq_true rfl) ?_
  intro p e s m below meth c A S hrt hlk K hA hAe H locs hP hD hS ls hl
  obtain ⟨hx, hb, hml, hown, hts⟩ := id S
  obtain ⟨e0, hn, e1, hcu, e3, hq, hray⟩ := id w
  generalize hSV : slv n cu (40 - q) row q bst 0 = SV
  have hP : va_P D vwCl [(h0, .inr (3, [.ref hr, .ref hp, .ref ha, .ref hf, .int (nI hs), .int (bI ias), .ref ht, .int (nI ln), .int (nI pa), .ref hd])), (hr, .inl (dA 0, 444, .inl row)), (hp, .inl (dA 0, 1776, .inl past)), (ha, .inl (dA 0, 444, .inl aside)), (hf, .inl (dA 0, 444, .inl bef)), (ht, .inl (dA 3, 60, .inl txt)), (hd, .inl (dA 0, 8, .inl rd))] H := hP
  have hD : va_D A [(h0, .inr (3, [.ref hr, .ref hp, .ref ha, .ref hf, .int (nI hs), .int (bI ias), .ref ht, .int (nI ln), .int (nI pa), .ref hd])), (hr, .inl (dA 0, 444, .inl row)), (hp, .inl (dA 0, 1776, .inl past)), (ha, .inl (dA 0, 444, .inl aside)), (hf, .inl (dA 0, 444, .inl bef)), (ht, .inl (dA 3, 60, .inl txt)), (hd, .inl (dA 0, 8, .inl rd))] := hD
  have hl : lv_has ls 4 [(0, .ref h0)] := hl
  refine lv_aload_n hx hb dX3_solve_0 rfl (lv_at hl 0 rfl) ?_
  refine x_wcall (wr := []) (va_runV (As := []) (rest := []) S ((mw_remember l D dA h0 hr hp ha hf ht hd row past aside bef txt rd hs ias ln pa ) H.size) (cwV 0 hts (lw_V q1123 q1125 qs25 q69 q1126) rfl rfl rfl hdX3_remember ⟨Nat.le_of_ble_eq_true rfl, Nat.le_of_ble_eq_true rfl⟩) ⟨pw_blind _, va_recv K hP (ci := 3) (q0 := 0) rfl rfl, pw_pre K hP hD _⟩ rfl rfl hl.1 rfl (lv_room (Nat.le_of_ble_eq_true rfl)) dX3_solve_1 ⟨Nat.le_of_ble_eq_true rfl, Nat.le_of_ble_eq_true rfl⟩) hP hD hS hA [0, 1, 2, 3, 4, 5, 6] [] rfl rfl (by decide) (by decide) (fun H locs hP hD hS hkp => ?_)
  have hP : va_P D vwCl [(h0, .inr (3, [.ref hr, .ref hp, .ref ha, .ref hf, .int (nI hs), .int (bI ias), .ref ht, .int (nI ln), .int (nI pa), .ref hd])), (hr, .inl (dA 0, 444, .inl row)), (hp, .inl (dA 0, 1776, .inl past)), (ha, .inl (dA 0, 444, .inl aside)), (hf, .inl (dA 0, 444, .inl row)), (ht, .inl (dA 3, 60, .inl txt)), (hd, .inl (dA 0, 8, .inl rd))] H := hP
  have hD : va_D A [(h0, .inr (3, [.ref hr, .ref hp, .ref ha, .ref hf, .int (nI hs), .int (bI ias), .ref ht, .int (nI ln), .int (nI pa), .ref hd])), (hr, .inl (dA 0, 444, .inl row)), (hp, .inl (dA 0, 1776, .inl past)), (ha, .inl (dA 0, 444, .inl aside)), (hf, .inl (dA 0, 444, .inl row)), (ht, .inl (dA 3, 60, .inl txt)), (hd, .inl (dA 0, 8, .inl rd))] := hD
  refine lv_aload_n hx hb dX3_solve_4 rfl (lv_at hl 0 rfl) ?_
  refine va_get (D := D) (ci := 3) (C := RX3) (T := TX3) (N := 10) hx hb hts in_X3 hown K hP 0 rfl rfl 0 (by decide) (hts _ q1075) (fun _ h9 => h9) rfl dX3_solve_5 ?_
  refine lv_iconst (v := nI 3) hx hb dX3_solve_8 (by decide) ?_
  refine x_iald hx hb K hP 1 0 rfl rfl 3 rfl (by omega) (by decide) e3 dX3_solve_9 ?_
  refine lv_istore_n (lv' := [(1, .int (nI q)), (0, .ref h0)]) hx hb dX3_solve_10 rfl hl (by decide) rfl (fun ls hl => ?_)
  refine lv_iconst (v := nI 0) hx hb dX3_solve_11 (by decide) ?_
  refine lv_istore_n (lv' := [(2, .int (nI 0)), (1, .int (nI q)), (0, .ref h0)]) hx hb dX3_solve_12 rfl hl (by decide) rfl (fun ls hl => ?_)
  refine lv_aload_n hx hb dX3_solve_13 rfl (lv_at hl 2 rfl) ?_
  refine x_wcall (wr := []) (va_runV (As := []) (rest := []) S ((mw_makeStep l D dA h0 hr hp ha hf ht hd row past aside row txt rd hs ias ln pa w bst hB.1 hB.2) H.size) (cwV 0 hts (lw_V q1191 q1193 qs31 q69 q1194) rfl rfl rfl hdX3_makeStep ⟨Nat.le_of_ble_eq_true rfl, Nat.le_of_ble_eq_true rfl⟩) ⟨pw_blind _, va_recv K hP (ci := 3) (q0 := 0) rfl rfl, pw_pre K hP hD _⟩ rfl rfl hl.1 rfl (lv_room (Nat.le_of_ble_eq_true rfl)) dX3_solve_14 ⟨Nat.le_of_ble_eq_true rfl, Nat.le_of_ble_eq_true rfl⟩) hP hD hS hA [0, 1, 2, 3, 4, 5, 6] [] rfl rfl (by decide) (by decide) (fun H locs hP hD hS hkp => ?_)
  have hP : va_P D vwCl [(h0, .inr (3, [.ref hr, .ref hp, .ref ha, .ref hf, .int (nI hs), .int (bI ias), .ref ht, .int (nI ln), .int (nI pa), .ref hd])), (hr, .inl (dA 0, 444, .inl (msRow row n cu q bst))), (hp, .inl (dA 0, 1776, .inl past)), (ha, .inl (dA 0, 444, .inl aside)), (hf, .inl (dA 0, 444, .inl row)), (ht, .inl (dA 3, 60, .inl txt)), (hd, .inl (dA 0, 8, .inl rd))] H := hP
  have hD : va_D A [(h0, .inr (3, [.ref hr, .ref hp, .ref ha, .ref hf, .int (nI hs), .int (bI ias), .ref ht, .int (nI ln), .int (nI pa), .ref hd])), (hr, .inl (dA 0, 444, .inl (msRow row n cu q bst))), (hp, .inl (dA 0, 1776, .inl past)), (ha, .inl (dA 0, 444, .inl aside)), (hf, .inl (dA 0, 444, .inl row)), (ht, .inl (dA 3, 60, .inl txt)), (hd, .inl (dA 0, 8, .inl rd))] := hD
  refine lv_istore_n (lv' := [(3, .int (msRes row n cu q)), (2, .int (nI 0)), (1, .int (nI q)), (0, .ref h0)]) hx hb dX3_solve_17 rfl hl (by decide) rfl (fun ls hl => ?_)
  have key : ∀ (f : Nat) (r1 : Nat → Int32) (q1 : Nat) (b1 : Option Nat) (k : Nat), f + q1 = 40 → k ≤ q1 → MWf r1 n cu q1 → BstOk r1 n cu b1 → slv n cu f r1 q1 b1 k = SV → ∀ (ls : Array Slot) (H : Heap) (locs : List Loc), lv_has ls 4 [(0, .ref h0), (1, .int (nI q)), (2, .int (nI k)), (3, .int (msRes r1 n cu q1))] → va_P D vwCl [(h0, .inr (3, [.ref hr, .ref hp, .ref ha, .ref hf, .int (nI hs), .int (bI ias), .ref ht, .int (nI ln), .int (nI pa), .ref hd])), (hr, .inl (dA 0, 444, .inl (msRow r1 n cu q1 b1))), (hp, .inl (dA 0, 1776, .inl past)), (ha, .inl (dA 0, 444, .inl aside)), (hf, .inl (dA 0, 444, .inl row)), (ht, .inl (dA 3, 60, .inl txt)), (hd, .inl (dA 0, 8, .inl rd))] H → va_D A [(h0, .inr (3, [.ref hr, .ref hp, .ref ha, .ref hf, .int (nI hs), .int (bI ias), .ref ht, .int (nI ln), .int (nI pa), .ref hd])), (hr, .inl (dA 0, 444, .inl (msRow r1 n cu q1 b1))), (hp, .inl (dA 0, 1776, .inl past)), (ha, .inl (dA 0, 444, .inl aside)), (hf, .inl (dA 0, 444, .inl row)), (ht, .inl (dA 3, 60, .inl txt)), (hd, .inl (dA 0, 8, .inl rd))] → va_S A s.heap H locs → W p l e (rmW 6 240 0 0) s m ([.ref h0]).toArray below meth c H locs 0 0 (MQ below (QW (some (.int (bif okSv SV then SV.1 3 - nI q else SV.2.1))) D (mW dA h0 hr hp ha hf ht hd (bif okSv SV then SV.1 else row) (bif okSv SV then recP past row hs else past) aside row txt rd (bif okSv SV then recH hs else hs) ias ln pa) A) ([.ref h0]).toArray s 0 0 A) (F0 m 18 ls []) := by
    intro f
    induction f with
    | zero =>
      intro r1 q1 b1 k hfq hk0 w1 hB1 hSV ls H locs hl hP hD hS
      have hl : lv_has ls 4 [(0, .ref h0), (1, .int (nI q)), (2, .int (nI k)), (3, .int (msRes r1 n cu q1))] := hl
      have hP : va_P D vwCl [(h0, .inr (3, [.ref hr, .ref hp, .ref ha, .ref hf, .int (nI hs), .int (bI ias), .ref ht, .int (nI ln), .int (nI pa), .ref hd])), (hr, .inl (dA 0, 444, .inl (msRow r1 n cu q1 b1))), (hp, .inl (dA 0, 1776, .inl past)), (ha, .inl (dA 0, 444, .inl aside)), (hf, .inl (dA 0, 444, .inl row)), (ht, .inl (dA 3, 60, .inl txt)), (hd, .inl (dA 0, 8, .inl rd))] H := hP
      have hD : va_D A [(h0, .inr (3, [.ref hr, .ref hp, .ref ha, .ref hf, .int (nI hs), .int (bI ias), .ref ht, .int (nI ln), .int (nI pa), .ref hd])), (hr, .inl (dA 0, 444, .inl (msRow r1 n cu q1 b1))), (hp, .inl (dA 0, 1776, .inl past)), (ha, .inl (dA 0, 444, .inl aside)), (hf, .inl (dA 0, 444, .inl row)), (ht, .inl (dA 3, 60, .inl txt)), (hd, .inl (dA 0, 8, .inl rd))] := hD
      refine lv_iload_n hx hb dX3_solve_18 rfl (lv_at hl 3 rfl) ?_
      refine lv_if_lt (tgt := 38) hx hb dX3_solve_19 (by decide) (fun h_1 => ?_) (fun h_1 => ?_)
      · rw [slv_neg _ _ h_1] at hSV
        refine lv_iload_n hx hb dX3_solve_38 rfl (lv_at hl 3 rfl) ?_
        refine lv_bipush (v := -3) hx hb dX3_solve_39 (by decide) ?_
        refine lv_icmp_eq (tgt := 54) hx hb dX3_solve_41 (by decide) (fun h_2 => ?_) (fun h_2 => ?_)
        · refine lv_aload_n hx hb dX3_solve_54 rfl (lv_at hl 0 rfl) ?_
          refine x_wcall (wr := []) (va_runV (As := []) (rest := []) S ((mw_goBack l D dA h0 hr hp ha hf ht hd (msRow r1 n cu q1 b1) past aside row txt rd hs ias ln pa ) H.size) (cwV 0 hts (lw_V q1255 q1257 qs46 q69 q1258) rfl rfl rfl hdX3_goBack ⟨Nat.le_of_ble_eq_true rfl, Nat.le_of_ble_eq_true rfl⟩) ⟨pw_blind _, va_recv K hP (ci := 3) (q0 := 0) rfl rfl, pw_pre K hP hD _⟩ rfl rfl hl.1 rfl (lv_room (Nat.le_of_ble_eq_true rfl)) dX3_solve_55 ⟨Nat.le_of_ble_eq_true rfl, Nat.le_of_ble_eq_true rfl⟩) hP hD hS hA [0, 1, 2, 3, 4, 5, 6] [] rfl rfl (by decide) (by decide) (fun H locs hP hD hS hkp => ?_)
          have hP : va_P D vwCl [(h0, .inr (3, [.ref hr, .ref hp, .ref ha, .ref hf, .int (nI hs), .int (bI ias), .ref ht, .int (nI ln), .int (nI pa), .ref hd])), (hr, .inl (dA 0, 444, .inl row)), (hp, .inl (dA 0, 1776, .inl past)), (ha, .inl (dA 0, 444, .inl aside)), (hf, .inl (dA 0, 444, .inl row)), (ht, .inl (dA 3, 60, .inl txt)), (hd, .inl (dA 0, 8, .inl rd))] H := hP
          have hD : va_D A [(h0, .inr (3, [.ref hr, .ref hp, .ref ha, .ref hf, .int (nI hs), .int (bI ias), .ref ht, .int (nI ln), .int (nI pa), .ref hd])), (hr, .inl (dA 0, 444, .inl row)), (hp, .inl (dA 0, 1776, .inl past)), (ha, .inl (dA 0, 444, .inl aside)), (hf, .inl (dA 0, 444, .inl row)), (ht, .inl (dA 3, 60, .inl txt)), (hd, .inl (dA 0, 8, .inl rd))] := hD
          refine lv_iload_n hx hb dX3_solve_58 rfl (lv_at hl 3 rfl) ?_
          rw [show okSv SV = false from (by rw [← hSV]; simp (decide := true) [okSv, h_1, h_2])]
          exact x_viret hx hb hrt hlk (by rw [← hSV]; rfl) hP hD hS dX3_solve_59 (Nat.le_of_ble_eq_true rfl) (Nat.le_of_ble_eq_true rfl)
        · refine lv_iload_n hx hb dX3_solve_44 rfl (lv_at hl 3 rfl) ?_
          refine lv_bipush (v := -4) hx hb dX3_solve_45 (by decide) ?_
          refine lv_icmp_ne (tgt := 60) hx hb dX3_solve_47 (by decide) (fun h_3 => ?_) (fun h_3 => ?_)
          · refine lv_aload_n hx hb dX3_solve_60 rfl (lv_at hl 0 rfl) ?_
            refine x_wcall (wr := []) (va_runV (As := []) (rest := []) S ((mw_record l D dA h0 hr hp ha hf ht hd (msRow r1 n cu q1 b1) past aside row txt rd hs ias ln pa hhs) H.size) (cwV 0 hts (lw_V q1127 q1129 qs26 q69 q1130) rfl rfl rfl hdX3_record ⟨Nat.le_of_ble_eq_true rfl, Nat.le_of_ble_eq_true rfl⟩) ⟨pw_blind _, va_recv K hP (ci := 3) (q0 := 0) rfl rfl, pw_pre K hP hD _⟩ rfl rfl hl.1 rfl (lv_room (Nat.le_of_ble_eq_true rfl)) dX3_solve_61 ⟨Nat.le_of_ble_eq_true rfl, Nat.le_of_ble_eq_true rfl⟩) hP hD hS hA [0, 1, 2, 3, 4, 5, 6] [] rfl rfl (by decide) (by decide) (fun H locs hP hD hS hkp => ?_)
            have hP : va_P D vwCl [(h0, .inr (3, [.ref hr, .ref hp, .ref ha, .ref hf, .int (nI (recH hs)), .int (bI ias), .ref ht, .int (nI ln), .int (nI pa), .ref hd])), (hr, .inl (dA 0, 444, .inl (msRow r1 n cu q1 b1))), (hp, .inl (dA 0, 1776, .inl (recP past row hs))), (ha, .inl (dA 0, 444, .inl aside)), (hf, .inl (dA 0, 444, .inl row)), (ht, .inl (dA 3, 60, .inl txt)), (hd, .inl (dA 0, 8, .inl rd))] H := hP
            have hD : va_D A [(h0, .inr (3, [.ref hr, .ref hp, .ref ha, .ref hf, .int (nI (recH hs)), .int (bI ias), .ref ht, .int (nI ln), .int (nI pa), .ref hd])), (hr, .inl (dA 0, 444, .inl (msRow r1 n cu q1 b1))), (hp, .inl (dA 0, 1776, .inl (recP past row hs))), (ha, .inl (dA 0, 444, .inl aside)), (hf, .inl (dA 0, 444, .inl row)), (ht, .inl (dA 3, 60, .inl txt)), (hd, .inl (dA 0, 8, .inl rd))] := hD
            refine lv_aload_n hx hb dX3_solve_64 rfl (lv_at hl 0 rfl) ?_
            refine va_get (D := D) (ci := 3) (C := RX3) (T := TX3) (N := 10) hx hb hts in_X3 hown K hP 0 rfl rfl 0 (by decide) (hts _ q1075) (fun _ h9 => h9) rfl dX3_solve_65 ?_
            refine lv_iconst (v := nI 3) hx hb dX3_solve_68 (by decide) ?_
            refine x_iald hx hb K hP 1 0 rfl rfl 3 rfl (by omega) (by decide) rfl dX3_solve_69 ?_
            refine lv_iload_n hx hb dX3_solve_70 rfl (lv_at hl 1 rfl) ?_
            refine lv_isub hx hb dX3_solve_71 ?_
            rw [show okSv SV = true from (by rw [← hSV]; simp (decide := true) [okSv, h_1, h_2, h_3])]
            rw [show SV.1 = msRow r1 n cu q1 b1 from by rw [← hSV]]
            exact x_viret hx hb hrt hlk rfl hP hD hS dX3_solve_72 (Nat.le_of_ble_eq_true rfl) (Nat.le_of_ble_eq_true rfl)
          · refine lv_iload_n hx hb dX3_solve_50 rfl (lv_at hl 2 rfl) ?_
            refine x_ifn_ne (tgt := 60) hx hb dX3_solve_51 (by decide) (by omega) (fun h_4 => ?_) (fun h_4 => ?_)
            · refine lv_aload_n hx hb dX3_solve_60 rfl (lv_at hl 0 rfl) ?_
              refine x_wcall (wr := []) (va_runV (As := []) (rest := []) S ((mw_record l D dA h0 hr hp ha hf ht hd (msRow r1 n cu q1 b1) past aside row txt rd hs ias ln pa hhs) H.size) (cwV 0 hts (lw_V q1127 q1129 qs26 q69 q1130) rfl rfl rfl hdX3_record ⟨Nat.le_of_ble_eq_true rfl, Nat.le_of_ble_eq_true rfl⟩) ⟨pw_blind _, va_recv K hP (ci := 3) (q0 := 0) rfl rfl, pw_pre K hP hD _⟩ rfl rfl hl.1 rfl (lv_room (Nat.le_of_ble_eq_true rfl)) dX3_solve_61 ⟨Nat.le_of_ble_eq_true rfl, Nat.le_of_ble_eq_true rfl⟩) hP hD hS hA [0, 1, 2, 3, 4, 5, 6] [] rfl rfl (by decide) (by decide) (fun H locs hP hD hS hkp => ?_)
              have hP : va_P D vwCl [(h0, .inr (3, [.ref hr, .ref hp, .ref ha, .ref hf, .int (nI (recH hs)), .int (bI ias), .ref ht, .int (nI ln), .int (nI pa), .ref hd])), (hr, .inl (dA 0, 444, .inl (msRow r1 n cu q1 b1))), (hp, .inl (dA 0, 1776, .inl (recP past row hs))), (ha, .inl (dA 0, 444, .inl aside)), (hf, .inl (dA 0, 444, .inl row)), (ht, .inl (dA 3, 60, .inl txt)), (hd, .inl (dA 0, 8, .inl rd))] H := hP
              have hD : va_D A [(h0, .inr (3, [.ref hr, .ref hp, .ref ha, .ref hf, .int (nI (recH hs)), .int (bI ias), .ref ht, .int (nI ln), .int (nI pa), .ref hd])), (hr, .inl (dA 0, 444, .inl (msRow r1 n cu q1 b1))), (hp, .inl (dA 0, 1776, .inl (recP past row hs))), (ha, .inl (dA 0, 444, .inl aside)), (hf, .inl (dA 0, 444, .inl row)), (ht, .inl (dA 3, 60, .inl txt)), (hd, .inl (dA 0, 8, .inl rd))] := hD
              refine lv_aload_n hx hb dX3_solve_64 rfl (lv_at hl 0 rfl) ?_
              refine va_get (D := D) (ci := 3) (C := RX3) (T := TX3) (N := 10) hx hb hts in_X3 hown K hP 0 rfl rfl 0 (by decide) (hts _ q1075) (fun _ h9 => h9) rfl dX3_solve_65 ?_
              refine lv_iconst (v := nI 3) hx hb dX3_solve_68 (by decide) ?_
              refine x_iald hx hb K hP 1 0 rfl rfl 3 rfl (by omega) (by decide) rfl dX3_solve_69 ?_
              refine lv_iload_n hx hb dX3_solve_70 rfl (lv_at hl 1 rfl) ?_
              refine lv_isub hx hb dX3_solve_71 ?_
              rw [show okSv SV = true from (by rw [← hSV]; simp (decide := true) [okSv, h_1, h_2, h_3, h_4])]
              rw [show SV.1 = msRow r1 n cu q1 b1 from by rw [← hSV]]
              exact x_viret hx hb hrt hlk rfl hP hD hS dX3_solve_72 (Nat.le_of_ble_eq_true rfl) (Nat.le_of_ble_eq_true rfl)
            · refine lv_aload_n hx hb dX3_solve_54 rfl (lv_at hl 0 rfl) ?_
              refine x_wcall (wr := []) (va_runV (As := []) (rest := []) S ((mw_goBack l D dA h0 hr hp ha hf ht hd (msRow r1 n cu q1 b1) past aside row txt rd hs ias ln pa ) H.size) (cwV 0 hts (lw_V q1255 q1257 qs46 q69 q1258) rfl rfl rfl hdX3_goBack ⟨Nat.le_of_ble_eq_true rfl, Nat.le_of_ble_eq_true rfl⟩) ⟨pw_blind _, va_recv K hP (ci := 3) (q0 := 0) rfl rfl, pw_pre K hP hD _⟩ rfl rfl hl.1 rfl (lv_room (Nat.le_of_ble_eq_true rfl)) dX3_solve_55 ⟨Nat.le_of_ble_eq_true rfl, Nat.le_of_ble_eq_true rfl⟩) hP hD hS hA [0, 1, 2, 3, 4, 5, 6] [] rfl rfl (by decide) (by decide) (fun H locs hP hD hS hkp => ?_)
              have hP : va_P D vwCl [(h0, .inr (3, [.ref hr, .ref hp, .ref ha, .ref hf, .int (nI hs), .int (bI ias), .ref ht, .int (nI ln), .int (nI pa), .ref hd])), (hr, .inl (dA 0, 444, .inl row)), (hp, .inl (dA 0, 1776, .inl past)), (ha, .inl (dA 0, 444, .inl aside)), (hf, .inl (dA 0, 444, .inl row)), (ht, .inl (dA 3, 60, .inl txt)), (hd, .inl (dA 0, 8, .inl rd))] H := hP
              have hD : va_D A [(h0, .inr (3, [.ref hr, .ref hp, .ref ha, .ref hf, .int (nI hs), .int (bI ias), .ref ht, .int (nI ln), .int (nI pa), .ref hd])), (hr, .inl (dA 0, 444, .inl row)), (hp, .inl (dA 0, 1776, .inl past)), (ha, .inl (dA 0, 444, .inl aside)), (hf, .inl (dA 0, 444, .inl row)), (ht, .inl (dA 3, 60, .inl txt)), (hd, .inl (dA 0, 8, .inl rd))] := hD
              refine lv_iload_n hx hb dX3_solve_58 rfl (lv_at hl 3 rfl) ?_
              rw [show okSv SV = false from (by rw [← hSV]; simp (decide := true) [okSv, h_1, h_2, h_3, h_4])]
              exact x_viret hx hb hrt hlk (by rw [← hSV]; rfl) hP hD hS dX3_solve_59 (Nat.le_of_ble_eq_true rfl) (Nat.le_of_ble_eq_true rfl)
      · refine lv_iload_n hx hb dX3_solve_22 rfl (lv_at hl 3 rfl) ?_
        refine lv_iconst (v := nI 2) hx hb dX3_solve_23 (by decide) ?_
        refine lv_icmp_eq (tgt := 38) hx hb dX3_solve_24 (by decide) (fun h_5 => ?_) (fun h_5 => ?_)
        · rw [slv_two _ _ h_5] at hSV
          refine lv_iload_n hx hb dX3_solve_38 rfl (lv_at hl 3 rfl) ?_
          refine lv_bipush (v := -3) hx hb dX3_solve_39 (by decide) ?_
          refine lv_icmp_eq (tgt := 54) hx hb dX3_solve_41 (by decide) (fun h_6 => ?_) (fun h_6 => ?_)
          · exact absurd (h_5.symm.trans h_6) (by decide)
          · refine lv_iload_n hx hb dX3_solve_44 rfl (lv_at hl 3 rfl) ?_
            refine lv_bipush (v := -4) hx hb dX3_solve_45 (by decide) ?_
            refine lv_icmp_ne (tgt := 60) hx hb dX3_solve_47 (by decide) (fun h_7 => ?_) (fun h_7 => ?_)
            · refine lv_aload_n hx hb dX3_solve_60 rfl (lv_at hl 0 rfl) ?_
              refine x_wcall (wr := []) (va_runV (As := []) (rest := []) S ((mw_record l D dA h0 hr hp ha hf ht hd (msRow r1 n cu q1 b1) past aside row txt rd hs ias ln pa hhs) H.size) (cwV 0 hts (lw_V q1127 q1129 qs26 q69 q1130) rfl rfl rfl hdX3_record ⟨Nat.le_of_ble_eq_true rfl, Nat.le_of_ble_eq_true rfl⟩) ⟨pw_blind _, va_recv K hP (ci := 3) (q0 := 0) rfl rfl, pw_pre K hP hD _⟩ rfl rfl hl.1 rfl (lv_room (Nat.le_of_ble_eq_true rfl)) dX3_solve_61 ⟨Nat.le_of_ble_eq_true rfl, Nat.le_of_ble_eq_true rfl⟩) hP hD hS hA [0, 1, 2, 3, 4, 5, 6] [] rfl rfl (by decide) (by decide) (fun H locs hP hD hS hkp => ?_)
              have hP : va_P D vwCl [(h0, .inr (3, [.ref hr, .ref hp, .ref ha, .ref hf, .int (nI (recH hs)), .int (bI ias), .ref ht, .int (nI ln), .int (nI pa), .ref hd])), (hr, .inl (dA 0, 444, .inl (msRow r1 n cu q1 b1))), (hp, .inl (dA 0, 1776, .inl (recP past row hs))), (ha, .inl (dA 0, 444, .inl aside)), (hf, .inl (dA 0, 444, .inl row)), (ht, .inl (dA 3, 60, .inl txt)), (hd, .inl (dA 0, 8, .inl rd))] H := hP
              have hD : va_D A [(h0, .inr (3, [.ref hr, .ref hp, .ref ha, .ref hf, .int (nI (recH hs)), .int (bI ias), .ref ht, .int (nI ln), .int (nI pa), .ref hd])), (hr, .inl (dA 0, 444, .inl (msRow r1 n cu q1 b1))), (hp, .inl (dA 0, 1776, .inl (recP past row hs))), (ha, .inl (dA 0, 444, .inl aside)), (hf, .inl (dA 0, 444, .inl row)), (ht, .inl (dA 3, 60, .inl txt)), (hd, .inl (dA 0, 8, .inl rd))] := hD
              refine lv_aload_n hx hb dX3_solve_64 rfl (lv_at hl 0 rfl) ?_
              refine va_get (D := D) (ci := 3) (C := RX3) (T := TX3) (N := 10) hx hb hts in_X3 hown K hP 0 rfl rfl 0 (by decide) (hts _ q1075) (fun _ h9 => h9) rfl dX3_solve_65 ?_
              refine lv_iconst (v := nI 3) hx hb dX3_solve_68 (by decide) ?_
              refine x_iald hx hb K hP 1 0 rfl rfl 3 rfl (by omega) (by decide) rfl dX3_solve_69 ?_
              refine lv_iload_n hx hb dX3_solve_70 rfl (lv_at hl 1 rfl) ?_
              refine lv_isub hx hb dX3_solve_71 ?_
              rw [show okSv SV = true from (by rw [← hSV]; simp (decide := true) [okSv, h_1, h_5, h_6, h_7])]
              rw [show SV.1 = msRow r1 n cu q1 b1 from by rw [← hSV]]
              exact x_viret hx hb hrt hlk rfl hP hD hS dX3_solve_72 (Nat.le_of_ble_eq_true rfl) (Nat.le_of_ble_eq_true rfl)
            · exact absurd (h_5.symm.trans h_7) (by decide)
        · obtain ⟨hq4, w2, hB2⟩ := ms_next w1 hB1 h_1 h_5
          refine lv_iinc (v := nI (k + 1)) (lv' := [(2, .int (nI (k + 1))), (0, .ref h0), (1, .int (nI q)), (3, .int (msRes r1 n cu q1))]) hx hb dX3_solve_27 hl (k := 2) rfl (nI_1 k) (by decide) rfl (fun ls hl => ?_)
          refine lv_aload_n hx hb dX3_solve_30 rfl (lv_at hl 1 rfl) ?_
          refine x_wcall (wr := []) (va_runV (As := []) (rest := []) S ((mw_makeStep l D dA h0 hr hp ha hf ht hd (msRow r1 n cu q1 b1) past aside row txt rd hs ias ln pa w2 (msBst r1 n cu q1 b1) hB2.1 hB2.2) H.size) (cwV 0 hts (lw_V q1191 q1193 qs31 q69 q1194) rfl rfl rfl hdX3_makeStep ⟨Nat.le_of_ble_eq_true rfl, Nat.le_of_ble_eq_true rfl⟩) ⟨pw_blind _, va_recv K hP (ci := 3) (q0 := 0) rfl rfl, pw_pre K hP hD _⟩ rfl rfl hl.1 rfl (lv_room (Nat.le_of_ble_eq_true rfl)) dX3_solve_31 ⟨Nat.le_of_ble_eq_true rfl, Nat.le_of_ble_eq_true rfl⟩) hP hD hS hA [0, 1, 2, 3, 4, 5, 6] [] rfl rfl (by decide) (by decide) (fun H locs hP hD hS hkp => ?_)
          have hP : va_P D vwCl [(h0, .inr (3, [.ref hr, .ref hp, .ref ha, .ref hf, .int (nI hs), .int (bI ias), .ref ht, .int (nI ln), .int (nI pa), .ref hd])), (hr, .inl (dA 0, 444, .inl (msRow (msRow r1 n cu q1 b1) n cu (q1 + 1) (msBst r1 n cu q1 b1)))), (hp, .inl (dA 0, 1776, .inl past)), (ha, .inl (dA 0, 444, .inl aside)), (hf, .inl (dA 0, 444, .inl row)), (ht, .inl (dA 3, 60, .inl txt)), (hd, .inl (dA 0, 8, .inl rd))] H := hP
          have hD : va_D A [(h0, .inr (3, [.ref hr, .ref hp, .ref ha, .ref hf, .int (nI hs), .int (bI ias), .ref ht, .int (nI ln), .int (nI pa), .ref hd])), (hr, .inl (dA 0, 444, .inl (msRow (msRow r1 n cu q1 b1) n cu (q1 + 1) (msBst r1 n cu q1 b1)))), (hp, .inl (dA 0, 1776, .inl past)), (ha, .inl (dA 0, 444, .inl aside)), (hf, .inl (dA 0, 444, .inl row)), (ht, .inl (dA 3, 60, .inl txt)), (hd, .inl (dA 0, 8, .inl rd))] := hD
          refine lv_istore_n (lv' := [(3, .int (msRes (msRow r1 n cu q1 b1) n cu (q1 + 1))), (2, .int (nI (k + 1))), (0, .ref h0), (1, .int (nI q))]) hx hb dX3_solve_34 rfl hl (by decide) rfl (fun ls hl => ?_)
          refine lv_goto (tgt := 18) hx hb dX3_solve_35 (by decide) ?_
          exact absurd hq4 (by omega)
    | succ f ih =>
      intro r1 q1 b1 k hfq hk0 w1 hB1 hSV ls H locs hl hP hD hS
      have hl : lv_has ls 4 [(0, .ref h0), (1, .int (nI q)), (2, .int (nI k)), (3, .int (msRes r1 n cu q1))] := hl
      have hP : va_P D vwCl [(h0, .inr (3, [.ref hr, .ref hp, .ref ha, .ref hf, .int (nI hs), .int (bI ias), .ref ht, .int (nI ln), .int (nI pa), .ref hd])), (hr, .inl (dA 0, 444, .inl (msRow r1 n cu q1 b1))), (hp, .inl (dA 0, 1776, .inl past)), (ha, .inl (dA 0, 444, .inl aside)), (hf, .inl (dA 0, 444, .inl row)), (ht, .inl (dA 3, 60, .inl txt)), (hd, .inl (dA 0, 8, .inl rd))] H := hP
      have hD : va_D A [(h0, .inr (3, [.ref hr, .ref hp, .ref ha, .ref hf, .int (nI hs), .int (bI ias), .ref ht, .int (nI ln), .int (nI pa), .ref hd])), (hr, .inl (dA 0, 444, .inl (msRow r1 n cu q1 b1))), (hp, .inl (dA 0, 1776, .inl past)), (ha, .inl (dA 0, 444, .inl aside)), (hf, .inl (dA 0, 444, .inl row)), (ht, .inl (dA 3, 60, .inl txt)), (hd, .inl (dA 0, 8, .inl rd))] := hD
      refine lv_iload_n hx hb dX3_solve_18 rfl (lv_at hl 3 rfl) ?_
      refine lv_if_lt (tgt := 38) hx hb dX3_solve_19 (by decide) (fun h_8 => ?_) (fun h_8 => ?_)
      · rw [slv_neg _ _ h_8] at hSV
        refine lv_iload_n hx hb dX3_solve_38 rfl (lv_at hl 3 rfl) ?_
        refine lv_bipush (v := -3) hx hb dX3_solve_39 (by decide) ?_
        refine lv_icmp_eq (tgt := 54) hx hb dX3_solve_41 (by decide) (fun h_9 => ?_) (fun h_9 => ?_)
        · refine lv_aload_n hx hb dX3_solve_54 rfl (lv_at hl 0 rfl) ?_
          refine x_wcall (wr := []) (va_runV (As := []) (rest := []) S ((mw_goBack l D dA h0 hr hp ha hf ht hd (msRow r1 n cu q1 b1) past aside row txt rd hs ias ln pa ) H.size) (cwV 0 hts (lw_V q1255 q1257 qs46 q69 q1258) rfl rfl rfl hdX3_goBack ⟨Nat.le_of_ble_eq_true rfl, Nat.le_of_ble_eq_true rfl⟩) ⟨pw_blind _, va_recv K hP (ci := 3) (q0 := 0) rfl rfl, pw_pre K hP hD _⟩ rfl rfl hl.1 rfl (lv_room (Nat.le_of_ble_eq_true rfl)) dX3_solve_55 ⟨Nat.le_of_ble_eq_true rfl, Nat.le_of_ble_eq_true rfl⟩) hP hD hS hA [0, 1, 2, 3, 4, 5, 6] [] rfl rfl (by decide) (by decide) (fun H locs hP hD hS hkp => ?_)
          have hP : va_P D vwCl [(h0, .inr (3, [.ref hr, .ref hp, .ref ha, .ref hf, .int (nI hs), .int (bI ias), .ref ht, .int (nI ln), .int (nI pa), .ref hd])), (hr, .inl (dA 0, 444, .inl row)), (hp, .inl (dA 0, 1776, .inl past)), (ha, .inl (dA 0, 444, .inl aside)), (hf, .inl (dA 0, 444, .inl row)), (ht, .inl (dA 3, 60, .inl txt)), (hd, .inl (dA 0, 8, .inl rd))] H := hP
          have hD : va_D A [(h0, .inr (3, [.ref hr, .ref hp, .ref ha, .ref hf, .int (nI hs), .int (bI ias), .ref ht, .int (nI ln), .int (nI pa), .ref hd])), (hr, .inl (dA 0, 444, .inl row)), (hp, .inl (dA 0, 1776, .inl past)), (ha, .inl (dA 0, 444, .inl aside)), (hf, .inl (dA 0, 444, .inl row)), (ht, .inl (dA 3, 60, .inl txt)), (hd, .inl (dA 0, 8, .inl rd))] := hD
          refine lv_iload_n hx hb dX3_solve_58 rfl (lv_at hl 3 rfl) ?_
          rw [show okSv SV = false from (by rw [← hSV]; simp (decide := true) [okSv, h_8, h_9])]
          exact x_viret hx hb hrt hlk (by rw [← hSV]; rfl) hP hD hS dX3_solve_59 (Nat.le_of_ble_eq_true rfl) (Nat.le_of_ble_eq_true rfl)
        · refine lv_iload_n hx hb dX3_solve_44 rfl (lv_at hl 3 rfl) ?_
          refine lv_bipush (v := -4) hx hb dX3_solve_45 (by decide) ?_
          refine lv_icmp_ne (tgt := 60) hx hb dX3_solve_47 (by decide) (fun h_10 => ?_) (fun h_10 => ?_)
          · refine lv_aload_n hx hb dX3_solve_60 rfl (lv_at hl 0 rfl) ?_
            refine x_wcall (wr := []) (va_runV (As := []) (rest := []) S ((mw_record l D dA h0 hr hp ha hf ht hd (msRow r1 n cu q1 b1) past aside row txt rd hs ias ln pa hhs) H.size) (cwV 0 hts (lw_V q1127 q1129 qs26 q69 q1130) rfl rfl rfl hdX3_record ⟨Nat.le_of_ble_eq_true rfl, Nat.le_of_ble_eq_true rfl⟩) ⟨pw_blind _, va_recv K hP (ci := 3) (q0 := 0) rfl rfl, pw_pre K hP hD _⟩ rfl rfl hl.1 rfl (lv_room (Nat.le_of_ble_eq_true rfl)) dX3_solve_61 ⟨Nat.le_of_ble_eq_true rfl, Nat.le_of_ble_eq_true rfl⟩) hP hD hS hA [0, 1, 2, 3, 4, 5, 6] [] rfl rfl (by decide) (by decide) (fun H locs hP hD hS hkp => ?_)
            have hP : va_P D vwCl [(h0, .inr (3, [.ref hr, .ref hp, .ref ha, .ref hf, .int (nI (recH hs)), .int (bI ias), .ref ht, .int (nI ln), .int (nI pa), .ref hd])), (hr, .inl (dA 0, 444, .inl (msRow r1 n cu q1 b1))), (hp, .inl (dA 0, 1776, .inl (recP past row hs))), (ha, .inl (dA 0, 444, .inl aside)), (hf, .inl (dA 0, 444, .inl row)), (ht, .inl (dA 3, 60, .inl txt)), (hd, .inl (dA 0, 8, .inl rd))] H := hP
            have hD : va_D A [(h0, .inr (3, [.ref hr, .ref hp, .ref ha, .ref hf, .int (nI (recH hs)), .int (bI ias), .ref ht, .int (nI ln), .int (nI pa), .ref hd])), (hr, .inl (dA 0, 444, .inl (msRow r1 n cu q1 b1))), (hp, .inl (dA 0, 1776, .inl (recP past row hs))), (ha, .inl (dA 0, 444, .inl aside)), (hf, .inl (dA 0, 444, .inl row)), (ht, .inl (dA 3, 60, .inl txt)), (hd, .inl (dA 0, 8, .inl rd))] := hD
            refine lv_aload_n hx hb dX3_solve_64 rfl (lv_at hl 0 rfl) ?_
            refine va_get (D := D) (ci := 3) (C := RX3) (T := TX3) (N := 10) hx hb hts in_X3 hown K hP 0 rfl rfl 0 (by decide) (hts _ q1075) (fun _ h9 => h9) rfl dX3_solve_65 ?_
            refine lv_iconst (v := nI 3) hx hb dX3_solve_68 (by decide) ?_
            refine x_iald hx hb K hP 1 0 rfl rfl 3 rfl (by omega) (by decide) rfl dX3_solve_69 ?_
            refine lv_iload_n hx hb dX3_solve_70 rfl (lv_at hl 1 rfl) ?_
            refine lv_isub hx hb dX3_solve_71 ?_
            rw [show okSv SV = true from (by rw [← hSV]; simp (decide := true) [okSv, h_8, h_9, h_10])]
            rw [show SV.1 = msRow r1 n cu q1 b1 from by rw [← hSV]]
            exact x_viret hx hb hrt hlk rfl hP hD hS dX3_solve_72 (Nat.le_of_ble_eq_true rfl) (Nat.le_of_ble_eq_true rfl)
          · refine lv_iload_n hx hb dX3_solve_50 rfl (lv_at hl 2 rfl) ?_
            refine x_ifn_ne (tgt := 60) hx hb dX3_solve_51 (by decide) (by omega) (fun h_11 => ?_) (fun h_11 => ?_)
            · refine lv_aload_n hx hb dX3_solve_60 rfl (lv_at hl 0 rfl) ?_
              refine x_wcall (wr := []) (va_runV (As := []) (rest := []) S ((mw_record l D dA h0 hr hp ha hf ht hd (msRow r1 n cu q1 b1) past aside row txt rd hs ias ln pa hhs) H.size) (cwV 0 hts (lw_V q1127 q1129 qs26 q69 q1130) rfl rfl rfl hdX3_record ⟨Nat.le_of_ble_eq_true rfl, Nat.le_of_ble_eq_true rfl⟩) ⟨pw_blind _, va_recv K hP (ci := 3) (q0 := 0) rfl rfl, pw_pre K hP hD _⟩ rfl rfl hl.1 rfl (lv_room (Nat.le_of_ble_eq_true rfl)) dX3_solve_61 ⟨Nat.le_of_ble_eq_true rfl, Nat.le_of_ble_eq_true rfl⟩) hP hD hS hA [0, 1, 2, 3, 4, 5, 6] [] rfl rfl (by decide) (by decide) (fun H locs hP hD hS hkp => ?_)
              have hP : va_P D vwCl [(h0, .inr (3, [.ref hr, .ref hp, .ref ha, .ref hf, .int (nI (recH hs)), .int (bI ias), .ref ht, .int (nI ln), .int (nI pa), .ref hd])), (hr, .inl (dA 0, 444, .inl (msRow r1 n cu q1 b1))), (hp, .inl (dA 0, 1776, .inl (recP past row hs))), (ha, .inl (dA 0, 444, .inl aside)), (hf, .inl (dA 0, 444, .inl row)), (ht, .inl (dA 3, 60, .inl txt)), (hd, .inl (dA 0, 8, .inl rd))] H := hP
              have hD : va_D A [(h0, .inr (3, [.ref hr, .ref hp, .ref ha, .ref hf, .int (nI (recH hs)), .int (bI ias), .ref ht, .int (nI ln), .int (nI pa), .ref hd])), (hr, .inl (dA 0, 444, .inl (msRow r1 n cu q1 b1))), (hp, .inl (dA 0, 1776, .inl (recP past row hs))), (ha, .inl (dA 0, 444, .inl aside)), (hf, .inl (dA 0, 444, .inl row)), (ht, .inl (dA 3, 60, .inl txt)), (hd, .inl (dA 0, 8, .inl rd))] := hD
              refine lv_aload_n hx hb dX3_solve_64 rfl (lv_at hl 0 rfl) ?_
              refine va_get (D := D) (ci := 3) (C := RX3) (T := TX3) (N := 10) hx hb hts in_X3 hown K hP 0 rfl rfl 0 (by decide) (hts _ q1075) (fun _ h9 => h9) rfl dX3_solve_65 ?_
              refine lv_iconst (v := nI 3) hx hb dX3_solve_68 (by decide) ?_
              refine x_iald hx hb K hP 1 0 rfl rfl 3 rfl (by omega) (by decide) rfl dX3_solve_69 ?_
              refine lv_iload_n hx hb dX3_solve_70 rfl (lv_at hl 1 rfl) ?_
              refine lv_isub hx hb dX3_solve_71 ?_
              rw [show okSv SV = true from (by rw [← hSV]; simp (decide := true) [okSv, h_8, h_9, h_10, h_11])]
              rw [show SV.1 = msRow r1 n cu q1 b1 from by rw [← hSV]]
              exact x_viret hx hb hrt hlk rfl hP hD hS dX3_solve_72 (Nat.le_of_ble_eq_true rfl) (Nat.le_of_ble_eq_true rfl)
            · refine lv_aload_n hx hb dX3_solve_54 rfl (lv_at hl 0 rfl) ?_
              refine x_wcall (wr := []) (va_runV (As := []) (rest := []) S ((mw_goBack l D dA h0 hr hp ha hf ht hd (msRow r1 n cu q1 b1) past aside row txt rd hs ias ln pa ) H.size) (cwV 0 hts (lw_V q1255 q1257 qs46 q69 q1258) rfl rfl rfl hdX3_goBack ⟨Nat.le_of_ble_eq_true rfl, Nat.le_of_ble_eq_true rfl⟩) ⟨pw_blind _, va_recv K hP (ci := 3) (q0 := 0) rfl rfl, pw_pre K hP hD _⟩ rfl rfl hl.1 rfl (lv_room (Nat.le_of_ble_eq_true rfl)) dX3_solve_55 ⟨Nat.le_of_ble_eq_true rfl, Nat.le_of_ble_eq_true rfl⟩) hP hD hS hA [0, 1, 2, 3, 4, 5, 6] [] rfl rfl (by decide) (by decide) (fun H locs hP hD hS hkp => ?_)
              have hP : va_P D vwCl [(h0, .inr (3, [.ref hr, .ref hp, .ref ha, .ref hf, .int (nI hs), .int (bI ias), .ref ht, .int (nI ln), .int (nI pa), .ref hd])), (hr, .inl (dA 0, 444, .inl row)), (hp, .inl (dA 0, 1776, .inl past)), (ha, .inl (dA 0, 444, .inl aside)), (hf, .inl (dA 0, 444, .inl row)), (ht, .inl (dA 3, 60, .inl txt)), (hd, .inl (dA 0, 8, .inl rd))] H := hP
              have hD : va_D A [(h0, .inr (3, [.ref hr, .ref hp, .ref ha, .ref hf, .int (nI hs), .int (bI ias), .ref ht, .int (nI ln), .int (nI pa), .ref hd])), (hr, .inl (dA 0, 444, .inl row)), (hp, .inl (dA 0, 1776, .inl past)), (ha, .inl (dA 0, 444, .inl aside)), (hf, .inl (dA 0, 444, .inl row)), (ht, .inl (dA 3, 60, .inl txt)), (hd, .inl (dA 0, 8, .inl rd))] := hD
              refine lv_iload_n hx hb dX3_solve_58 rfl (lv_at hl 3 rfl) ?_
              rw [show okSv SV = false from (by rw [← hSV]; simp (decide := true) [okSv, h_8, h_9, h_10, h_11])]
              exact x_viret hx hb hrt hlk (by rw [← hSV]; rfl) hP hD hS dX3_solve_59 (Nat.le_of_ble_eq_true rfl) (Nat.le_of_ble_eq_true rfl)
      · refine lv_iload_n hx hb dX3_solve_22 rfl (lv_at hl 3 rfl) ?_
        refine lv_iconst (v := nI 2) hx hb dX3_solve_23 (by decide) ?_
        refine lv_icmp_eq (tgt := 38) hx hb dX3_solve_24 (by decide) (fun h_12 => ?_) (fun h_12 => ?_)
        · rw [slv_two _ _ h_12] at hSV
          refine lv_iload_n hx hb dX3_solve_38 rfl (lv_at hl 3 rfl) ?_
          refine lv_bipush (v := -3) hx hb dX3_solve_39 (by decide) ?_
          refine lv_icmp_eq (tgt := 54) hx hb dX3_solve_41 (by decide) (fun h_13 => ?_) (fun h_13 => ?_)
          · exact absurd (h_12.symm.trans h_13) (by decide)
          · refine lv_iload_n hx hb dX3_solve_44 rfl (lv_at hl 3 rfl) ?_
            refine lv_bipush (v := -4) hx hb dX3_solve_45 (by decide) ?_
            refine lv_icmp_ne (tgt := 60) hx hb dX3_solve_47 (by decide) (fun h_14 => ?_) (fun h_14 => ?_)
            · refine lv_aload_n hx hb dX3_solve_60 rfl (lv_at hl 0 rfl) ?_
              refine x_wcall (wr := []) (va_runV (As := []) (rest := []) S ((mw_record l D dA h0 hr hp ha hf ht hd (msRow r1 n cu q1 b1) past aside row txt rd hs ias ln pa hhs) H.size) (cwV 0 hts (lw_V q1127 q1129 qs26 q69 q1130) rfl rfl rfl hdX3_record ⟨Nat.le_of_ble_eq_true rfl, Nat.le_of_ble_eq_true rfl⟩) ⟨pw_blind _, va_recv K hP (ci := 3) (q0 := 0) rfl rfl, pw_pre K hP hD _⟩ rfl rfl hl.1 rfl (lv_room (Nat.le_of_ble_eq_true rfl)) dX3_solve_61 ⟨Nat.le_of_ble_eq_true rfl, Nat.le_of_ble_eq_true rfl⟩) hP hD hS hA [0, 1, 2, 3, 4, 5, 6] [] rfl rfl (by decide) (by decide) (fun H locs hP hD hS hkp => ?_)
              have hP : va_P D vwCl [(h0, .inr (3, [.ref hr, .ref hp, .ref ha, .ref hf, .int (nI (recH hs)), .int (bI ias), .ref ht, .int (nI ln), .int (nI pa), .ref hd])), (hr, .inl (dA 0, 444, .inl (msRow r1 n cu q1 b1))), (hp, .inl (dA 0, 1776, .inl (recP past row hs))), (ha, .inl (dA 0, 444, .inl aside)), (hf, .inl (dA 0, 444, .inl row)), (ht, .inl (dA 3, 60, .inl txt)), (hd, .inl (dA 0, 8, .inl rd))] H := hP
              have hD : va_D A [(h0, .inr (3, [.ref hr, .ref hp, .ref ha, .ref hf, .int (nI (recH hs)), .int (bI ias), .ref ht, .int (nI ln), .int (nI pa), .ref hd])), (hr, .inl (dA 0, 444, .inl (msRow r1 n cu q1 b1))), (hp, .inl (dA 0, 1776, .inl (recP past row hs))), (ha, .inl (dA 0, 444, .inl aside)), (hf, .inl (dA 0, 444, .inl row)), (ht, .inl (dA 3, 60, .inl txt)), (hd, .inl (dA 0, 8, .inl rd))] := hD
              refine lv_aload_n hx hb dX3_solve_64 rfl (lv_at hl 0 rfl) ?_
              refine va_get (D := D) (ci := 3) (C := RX3) (T := TX3) (N := 10) hx hb hts in_X3 hown K hP 0 rfl rfl 0 (by decide) (hts _ q1075) (fun _ h9 => h9) rfl dX3_solve_65 ?_
              refine lv_iconst (v := nI 3) hx hb dX3_solve_68 (by decide) ?_
              refine x_iald hx hb K hP 1 0 rfl rfl 3 rfl (by omega) (by decide) rfl dX3_solve_69 ?_
              refine lv_iload_n hx hb dX3_solve_70 rfl (lv_at hl 1 rfl) ?_
              refine lv_isub hx hb dX3_solve_71 ?_
              rw [show okSv SV = true from (by rw [← hSV]; simp (decide := true) [okSv, h_8, h_12, h_13, h_14])]
              rw [show SV.1 = msRow r1 n cu q1 b1 from by rw [← hSV]]
              exact x_viret hx hb hrt hlk rfl hP hD hS dX3_solve_72 (Nat.le_of_ble_eq_true rfl) (Nat.le_of_ble_eq_true rfl)
            · exact absurd (h_12.symm.trans h_14) (by decide)
        · obtain ⟨hq4, w2, hB2⟩ := ms_next w1 hB1 h_8 h_12
          refine lv_iinc (v := nI (k + 1)) (lv' := [(2, .int (nI (k + 1))), (0, .ref h0), (1, .int (nI q)), (3, .int (msRes r1 n cu q1))]) hx hb dX3_solve_27 hl (k := 2) rfl (nI_1 k) (by decide) rfl (fun ls hl => ?_)
          refine lv_aload_n hx hb dX3_solve_30 rfl (lv_at hl 1 rfl) ?_
          refine x_wcall (wr := []) (va_runV (As := []) (rest := []) S ((mw_makeStep l D dA h0 hr hp ha hf ht hd (msRow r1 n cu q1 b1) past aside row txt rd hs ias ln pa w2 (msBst r1 n cu q1 b1) hB2.1 hB2.2) H.size) (cwV 0 hts (lw_V q1191 q1193 qs31 q69 q1194) rfl rfl rfl hdX3_makeStep ⟨Nat.le_of_ble_eq_true rfl, Nat.le_of_ble_eq_true rfl⟩) ⟨pw_blind _, va_recv K hP (ci := 3) (q0 := 0) rfl rfl, pw_pre K hP hD _⟩ rfl rfl hl.1 rfl (lv_room (Nat.le_of_ble_eq_true rfl)) dX3_solve_31 ⟨Nat.le_of_ble_eq_true rfl, Nat.le_of_ble_eq_true rfl⟩) hP hD hS hA [0, 1, 2, 3, 4, 5, 6] [] rfl rfl (by decide) (by decide) (fun H locs hP hD hS hkp => ?_)
          have hP : va_P D vwCl [(h0, .inr (3, [.ref hr, .ref hp, .ref ha, .ref hf, .int (nI hs), .int (bI ias), .ref ht, .int (nI ln), .int (nI pa), .ref hd])), (hr, .inl (dA 0, 444, .inl (msRow (msRow r1 n cu q1 b1) n cu (q1 + 1) (msBst r1 n cu q1 b1)))), (hp, .inl (dA 0, 1776, .inl past)), (ha, .inl (dA 0, 444, .inl aside)), (hf, .inl (dA 0, 444, .inl row)), (ht, .inl (dA 3, 60, .inl txt)), (hd, .inl (dA 0, 8, .inl rd))] H := hP
          have hD : va_D A [(h0, .inr (3, [.ref hr, .ref hp, .ref ha, .ref hf, .int (nI hs), .int (bI ias), .ref ht, .int (nI ln), .int (nI pa), .ref hd])), (hr, .inl (dA 0, 444, .inl (msRow (msRow r1 n cu q1 b1) n cu (q1 + 1) (msBst r1 n cu q1 b1)))), (hp, .inl (dA 0, 1776, .inl past)), (ha, .inl (dA 0, 444, .inl aside)), (hf, .inl (dA 0, 444, .inl row)), (ht, .inl (dA 3, 60, .inl txt)), (hd, .inl (dA 0, 8, .inl rd))] := hD
          refine lv_istore_n (lv' := [(3, .int (msRes (msRow r1 n cu q1 b1) n cu (q1 + 1))), (2, .int (nI (k + 1))), (0, .ref h0), (1, .int (nI q))]) hx hb dX3_solve_34 rfl hl (by decide) rfl (fun ls hl => ?_)
          refine lv_goto (tgt := 18) hx hb dX3_solve_35 (by decide) ?_
          exact ih (msRow r1 n cu q1 b1) (q1 + 1) (msBst r1 n cu q1 b1) (k + 1) (by omega) (by omega) w2 hB2 (by rw [← hSV, slv_go _ _ h_8 h_12]) ls H locs (lv_sub hl [2, 3, 1, 0] rfl) hP hD hS
  exact key (40 - q) row q bst 0 (by omega) (Nat.zero_le _) w hB hSV ls H locs (lv_sub hl [3, 2, 1, 0] rfl) hP hD hS

set_option maxHeartbeats 4000000 in
theorem mw_dropOne (l : Launch) (D : va_G) (dA : Nat → ClassId) (h0 hr hp ha hf ht hd : Nat) (row past aside bef txt rd : Nat → Int32) (hs : Nat) (ias : Bool) (ln pa : Nat) {n cu q : Nat} (w : MWf row n cu q) (kc : Nat) (hkc : kc < q) : WR l yX3_dropOne cX3_dropOne 3 none 0 0 0 0 [.ref h0, .int (nI kc)] D dA (mW dA h0 hr hp ha hf ht hd row past aside bef txt rd hs ias ln pa) none (mW dA h0 hr hp ha hf ht hd (dOne row q kc) past aside bef txt rd hs ias ln pa) := by
  refine wr_of (by decide) (Nat.le_of_ble_eq_true rfl) ?_
  intro p e s m below meth c A S hrt hlk K hA hAe H locs hP hD hS ls hl
  obtain ⟨hx, hb, hml, hown, hts⟩ := id S
  obtain ⟨e0, hn, e1, hcu, e3, hq, hray⟩ := id w
  have hP : va_P D vwCl [(h0, .inr (3, [.ref hr, .ref hp, .ref ha, .ref hf, .int (nI hs), .int (bI ias), .ref ht, .int (nI ln), .int (nI pa), .ref hd])), (hr, .inl (dA 0, 444, .inl row)), (hp, .inl (dA 0, 1776, .inl past)), (ha, .inl (dA 0, 444, .inl aside)), (hf, .inl (dA 0, 444, .inl bef)), (ht, .inl (dA 3, 60, .inl txt)), (hd, .inl (dA 0, 8, .inl rd))] H := hP
  have hD : va_D A [(h0, .inr (3, [.ref hr, .ref hp, .ref ha, .ref hf, .int (nI hs), .int (bI ias), .ref ht, .int (nI ln), .int (nI pa), .ref hd])), (hr, .inl (dA 0, 444, .inl row)), (hp, .inl (dA 0, 1776, .inl past)), (ha, .inl (dA 0, 444, .inl aside)), (hf, .inl (dA 0, 444, .inl bef)), (ht, .inl (dA 3, 60, .inl txt)), (hd, .inl (dA 0, 8, .inl rd))] := hD
  have hl : lv_has ls 3 [(0, .ref h0), (1, .int (nI kc))] := hl
  refine lv_bipush (v := nI 84) hx hb dX3_dropOne_0 (by decide) ?_
  refine lv_bipush (v := nI 9) hx hb dX3_dropOne_2 (by decide) ?_
  refine lv_iload_n hx hb dX3_dropOne_4 rfl (lv_at hl 1 rfl) ?_
  refine x_mulN hx hb dX3_dropOne_5 ?_
  refine x_addN hx hb dX3_dropOne_6 ?_
  refine lv_istore_n (lv' := [(2, .int (nI (84 + (9 * kc)))), (0, .ref h0), (1, .int (nI kc))]) hx hb dX3_dropOne_7 rfl hl (by decide) rfl (fun ls hl => ?_)
  refine lpW (fun i g => upd g (84 + 9 * kc + i) (if 444 ≤ 84 + 9 * kc + i + 9 then nI 0 else g (84 + 9 * kc + i + 9))) row (444 - (84 + 9 * kc)) (fun i g ls H locs => lv_has ls 3 [(0, .ref h0), (1, .int (nI kc)), (2, .int (nI (84 + (9 * kc) + i)))] ∧ va_P D vwCl [(h0, .inr (3, [.ref hr, .ref hp, .ref ha, .ref hf, .int (nI hs), .int (bI ias), .ref ht, .int (nI ln), .int (nI pa), .ref hd])), (hr, .inl (dA 0, 444, .inl g)), (hp, .inl (dA 0, 1776, .inl past)), (ha, .inl (dA 0, 444, .inl aside)), (hf, .inl (dA 0, 444, .inl bef)), (ht, .inl (dA 3, 60, .inl txt)), (hd, .inl (dA 0, 8, .inl rd))] H ∧ va_D A [(h0, .inr (3, [.ref hr, .ref hp, .ref ha, .ref hf, .int (nI hs), .int (bI ias), .ref ht, .int (nI ln), .int (nI pa), .ref hd])), (hr, .inl (dA 0, 444, .inl g)), (hp, .inl (dA 0, 1776, .inl past)), (ha, .inl (dA 0, 444, .inl aside)), (hf, .inl (dA 0, 444, .inl bef)), (ht, .inl (dA 3, 60, .inl txt)), (hd, .inl (dA 0, 8, .inl rd))] ∧ va_S A s.heap H locs) (fun ls H locs => W p l e (rmW 0 0 0 0) s m ([.ref h0, .int (nI kc)]).toArray below meth c H locs 0 0 (MQ below (QW none D (mW dA h0 hr hp ha hf ht hd (dOne row q kc) past aside bef txt rd hs ias ln pa) A) ([.ref h0, .int (nI kc)]).toArray s 0 0 A) (F0 m 8 ls [])) ?_ ?_ ls H locs ⟨lv_sub hl [1, 2, 0] rfl, hP, hD, hS⟩
  · intro i ls H locs hk_1 hI ih
    generalize iter (fun i g => upd g (84 + 9 * kc + i) (if 444 ≤ 84 + 9 * kc + i + 9 then nI 0 else g (84 + 9 * kc + i + 9))) i 0 row = g at *
    obtain ⟨hl, hP, hD, hS⟩ := hI
    have hl : lv_has ls 3 [(0, .ref h0), (1, .int (nI kc)), (2, .int (nI (84 + (9 * kc) + i)))] := hl
    have hP : va_P D vwCl [(h0, .inr (3, [.ref hr, .ref hp, .ref ha, .ref hf, .int (nI hs), .int (bI ias), .ref ht, .int (nI ln), .int (nI pa), .ref hd])), (hr, .inl (dA 0, 444, .inl g)), (hp, .inl (dA 0, 1776, .inl past)), (ha, .inl (dA 0, 444, .inl aside)), (hf, .inl (dA 0, 444, .inl bef)), (ht, .inl (dA 3, 60, .inl txt)), (hd, .inl (dA 0, 8, .inl rd))] H := hP
    have hD : va_D A [(h0, .inr (3, [.ref hr, .ref hp, .ref ha, .ref hf, .int (nI hs), .int (bI ias), .ref ht, .int (nI ln), .int (nI pa), .ref hd])), (hr, .inl (dA 0, 444, .inl g)), (hp, .inl (dA 0, 1776, .inl past)), (ha, .inl (dA 0, 444, .inl aside)), (hf, .inl (dA 0, 444, .inl bef)), (ht, .inl (dA 3, 60, .inl txt)), (hd, .inl (dA 0, 8, .inl rd))] := hD
    show W p l e (rmW 0 0 0 0) s m ([.ref h0, .int (nI kc)]).toArray below meth c H locs 0 0 (MQ below (QW none D (mW dA h0 hr hp ha hf ht hd (dOne row q kc) past aside bef txt rd hs ias ln pa) A) ([.ref h0, .int (nI kc)]).toArray s 0 0 A) (F0 m 8 ls [])
    refine lv_iload_n hx hb dX3_dropOne_8 rfl (lv_at hl 2 rfl) ?_
    refine lv_sipush (v := nI 444) hx hb dX3_dropOne_9 (by decide) ?_
    refine lv_icmp_ge (tgt := 50) hx hb dX3_dropOne_12 (by decide) (fun h => absurd h (nI_ge (show 84 + (9 * kc) + i < 444 by omega) (by omega))) (fun _ => ?_)
    refine lv_aload_n hx hb dX3_dropOne_15 rfl (lv_at hl 0 rfl) ?_
    refine va_get (D := D) (ci := 3) (C := RX3) (T := TX3) (N := 10) hx hb hts in_X3 hown K hP 0 rfl rfl 0 (by decide) (hts _ q1075) (fun _ h9 => h9) rfl dX3_dropOne_16 ?_
    refine lv_iload_n hx hb dX3_dropOne_19 rfl (lv_at hl 2 rfl) ?_
    refine lv_iload_n hx hb dX3_dropOne_20 rfl (lv_at hl 2 rfl) ?_
    refine lv_bipush (v := nI 9) hx hb dX3_dropOne_21 (by decide) ?_
    refine x_addN hx hb dX3_dropOne_23 ?_
    refine lv_sipush (v := nI 444) hx hb dX3_dropOne_24 (by decide) ?_
    refine x_icmpn_ge (tgt := 42) hx hb dX3_dropOne_27 (by decide) (by omega) (by omega) (fun h_3 => ?_) (fun h_3 => ?_)
    · refine lv_iconst (v := nI 0) hx hb dX3_dropOne_42 (by decide) ?_
      refine x_iast hx hb K hP hD hS 1 0 rfl rfl (84 + (9 * kc) + i) rfl (by omega) (by decide) dX3_dropOne_43 (fun H locs hP hD hS => ?_)
      have hP : va_P D vwCl [(h0, .inr (3, [.ref hr, .ref hp, .ref ha, .ref hf, .int (nI hs), .int (bI ias), .ref ht, .int (nI ln), .int (nI pa), .ref hd])), (hr, .inl (dA 0, 444, .inl (upd g (84 + (9 * kc) + i) (nI 0)))), (hp, .inl (dA 0, 1776, .inl past)), (ha, .inl (dA 0, 444, .inl aside)), (hf, .inl (dA 0, 444, .inl bef)), (ht, .inl (dA 3, 60, .inl txt)), (hd, .inl (dA 0, 8, .inl rd))] H := hP
      have hD : va_D A [(h0, .inr (3, [.ref hr, .ref hp, .ref ha, .ref hf, .int (nI hs), .int (bI ias), .ref ht, .int (nI ln), .int (nI pa), .ref hd])), (hr, .inl (dA 0, 444, .inl (upd g (84 + (9 * kc) + i) (nI 0)))), (hp, .inl (dA 0, 1776, .inl past)), (ha, .inl (dA 0, 444, .inl aside)), (hf, .inl (dA 0, 444, .inl bef)), (ht, .inl (dA 3, 60, .inl txt)), (hd, .inl (dA 0, 8, .inl rd))] := hD
      refine lv_iinc (v := nI ((84 + (9 * kc) + i) + 1)) (lv' := [(2, .int (nI ((84 + (9 * kc) + i) + 1))), (0, .ref h0), (1, .int (nI kc))]) hx hb dX3_dropOne_44 hl (k := 2) rfl (nI_1 (84 + (9 * kc) + i)) (by decide) rfl (fun ls hl => ?_)
      refine lv_goto (tgt := 8) hx hb dX3_dropOne_47 (by decide) ?_
      rw [show (nI 0) = (if 444 ≤ 84 + 9 * kc + i + 9 then nI 0 else g (84 + 9 * kc + i + 9)) from (if_pos h_3).symm] at hP hD
      refine ih ls H locs ⟨?_, hP, hD, hS⟩
      show lv_has ls 3 [(0, .ref h0), (1, .int (nI kc)), (2, .int (nI (84 + (9 * kc) + (i + 1))))]
      rw [show nI (84 + (9 * kc) + (i + 1)) = nI ((84 + (9 * kc) + i) + 1) from rfl]
      exact lv_sub hl [1, 2, 0] rfl
    · refine lv_aload_n hx hb dX3_dropOne_30 rfl (lv_at hl 0 rfl) ?_
      refine va_get (D := D) (ci := 3) (C := RX3) (T := TX3) (N := 10) hx hb hts in_X3 hown K hP 0 rfl rfl 0 (by decide) (hts _ q1075) (fun _ h9 => h9) rfl dX3_dropOne_31 ?_
      refine lv_iload_n hx hb dX3_dropOne_34 rfl (lv_at hl 2 rfl) ?_
      refine lv_bipush (v := nI 9) hx hb dX3_dropOne_35 (by decide) ?_
      refine x_addN hx hb dX3_dropOne_37 ?_
      refine x_iald hx hb K hP 1 0 rfl rfl ((84 + (9 * kc) + i) + 9) rfl (by omega) (by decide) rfl dX3_dropOne_38 ?_
      refine lv_goto (tgt := 43) hx hb dX3_dropOne_39 (by decide) ?_
      refine x_iast hx hb K hP hD hS 1 0 rfl rfl (84 + (9 * kc) + i) rfl (by omega) (by decide) dX3_dropOne_43 (fun H locs hP hD hS => ?_)
      have hP : va_P D vwCl [(h0, .inr (3, [.ref hr, .ref hp, .ref ha, .ref hf, .int (nI hs), .int (bI ias), .ref ht, .int (nI ln), .int (nI pa), .ref hd])), (hr, .inl (dA 0, 444, .inl (upd g (84 + (9 * kc) + i) (g ((84 + (9 * kc) + i) + 9))))), (hp, .inl (dA 0, 1776, .inl past)), (ha, .inl (dA 0, 444, .inl aside)), (hf, .inl (dA 0, 444, .inl bef)), (ht, .inl (dA 3, 60, .inl txt)), (hd, .inl (dA 0, 8, .inl rd))] H := hP
      have hD : va_D A [(h0, .inr (3, [.ref hr, .ref hp, .ref ha, .ref hf, .int (nI hs), .int (bI ias), .ref ht, .int (nI ln), .int (nI pa), .ref hd])), (hr, .inl (dA 0, 444, .inl (upd g (84 + (9 * kc) + i) (g ((84 + (9 * kc) + i) + 9))))), (hp, .inl (dA 0, 1776, .inl past)), (ha, .inl (dA 0, 444, .inl aside)), (hf, .inl (dA 0, 444, .inl bef)), (ht, .inl (dA 3, 60, .inl txt)), (hd, .inl (dA 0, 8, .inl rd))] := hD
      refine lv_iinc (v := nI ((84 + (9 * kc) + i) + 1)) (lv' := [(2, .int (nI ((84 + (9 * kc) + i) + 1))), (0, .ref h0), (1, .int (nI kc))]) hx hb dX3_dropOne_44 hl (k := 2) rfl (nI_1 (84 + (9 * kc) + i)) (by decide) rfl (fun ls hl => ?_)
      refine lv_goto (tgt := 8) hx hb dX3_dropOne_47 (by decide) ?_
      rw [show (g ((84 + (9 * kc) + i) + 9)) = (if 444 ≤ 84 + 9 * kc + i + 9 then nI 0 else g (84 + 9 * kc + i + 9)) from (if_neg (Nat.not_le.mpr h_3)).symm] at hP hD
      refine ih ls H locs ⟨?_, hP, hD, hS⟩
      show lv_has ls 3 [(0, .ref h0), (1, .int (nI kc)), (2, .int (nI (84 + (9 * kc) + (i + 1))))]
      rw [show nI (84 + (9 * kc) + (i + 1)) = nI ((84 + (9 * kc) + i) + 1) from rfl]
      exact lv_sub hl [1, 2, 0] rfl
  · intro ls H locs hI
    obtain ⟨hl, hP, hD, hS⟩ := hI
    rw [dr_iter] at hP hD
    obtain ⟨hP, hD⟩ := arr_cg2 (dOneR row kc) 1 hP hD rfl (fun j hj => by
      simp only [dOneR]
      by_cases h1 : 84 + 9 * kc ≤ j
      · rw [if_pos (by omega : 84 + 9 * kc ≤ j ∧ j < 84 + 9 * kc + (444 - (84 + 9 * kc))), if_pos h1]
      · rw [if_neg (by omega), if_neg h1])
    have hl : lv_has ls 3 [(0, .ref h0), (1, .int (nI kc)), (2, .int (nI (84 + (9 * kc) + (444 - (84 + 9 * kc)))))] := hl
    have hP : va_P D vwCl [(h0, .inr (3, [.ref hr, .ref hp, .ref ha, .ref hf, .int (nI hs), .int (bI ias), .ref ht, .int (nI ln), .int (nI pa), .ref hd])), (hr, .inl (dA 0, 444, .inl (dOneR row kc))), (hp, .inl (dA 0, 1776, .inl past)), (ha, .inl (dA 0, 444, .inl aside)), (hf, .inl (dA 0, 444, .inl bef)), (ht, .inl (dA 3, 60, .inl txt)), (hd, .inl (dA 0, 8, .inl rd))] H := hP
    have hD : va_D A [(h0, .inr (3, [.ref hr, .ref hp, .ref ha, .ref hf, .int (nI hs), .int (bI ias), .ref ht, .int (nI ln), .int (nI pa), .ref hd])), (hr, .inl (dA 0, 444, .inl (dOneR row kc))), (hp, .inl (dA 0, 1776, .inl past)), (ha, .inl (dA 0, 444, .inl aside)), (hf, .inl (dA 0, 444, .inl bef)), (ht, .inl (dA 3, 60, .inl txt)), (hd, .inl (dA 0, 8, .inl rd))] := hD
    show W p l e (rmW 0 0 0 0) s m ([.ref h0, .int (nI kc)]).toArray below meth c H locs 0 0 (MQ below (QW none D (mW dA h0 hr hp ha hf ht hd (dOne row q kc) past aside bef txt rd hs ias ln pa) A) ([.ref h0, .int (nI kc)]).toArray s 0 0 A) (F0 m 8 ls [])
    refine lv_iload_n hx hb dX3_dropOne_8 rfl (lv_at hl 2 rfl) ?_
    refine lv_sipush (v := nI 444) hx hb dX3_dropOne_9 (by decide) ?_
    refine lv_icmp_ge (tgt := 50) hx hb dX3_dropOne_12 (by decide) (fun _ => ?_) (fun h => absurd (nI_le (by omega) (by omega)) h)
    refine lv_aload_n hx hb dX3_dropOne_50 rfl (lv_at hl 0 rfl) ?_
    refine va_get (D := D) (ci := 3) (C := RX3) (T := TX3) (N := 10) hx hb hts in_X3 hown K hP 0 rfl rfl 0 (by decide) (hts _ q1075) (fun _ h9 => h9) rfl dX3_dropOne_51 ?_
    refine lv_iconst (v := nI 3) hx hb dX3_dropOne_54 (by decide) ?_
    refine lv_dup2_11 hx hb dX3_dropOne_55 rfl rfl ?_
    refine x_iald (v := nI q) hx hb K hP 1 0 rfl rfl 3 rfl (by omega) (by decide) (by simp only [dOneR]; rw [if_neg (by omega)]; exact e3) dX3_dropOne_56 ?_
    refine lv_iconst (v := nI 1) hx hb dX3_dropOne_57 (by decide) ?_
    refine lv_isub hx hb dX3_dropOne_58 ?_
    refine x_top (y := nI (q - 1)) (pk_sub (by omega)) ?_
    refine x_iast hx hb K hP hD hS 1 0 rfl rfl 3 rfl (by omega) (by decide) dX3_dropOne_59 (fun H locs hP hD hS => ?_)
    have hP : va_P D vwCl [(h0, .inr (3, [.ref hr, .ref hp, .ref ha, .ref hf, .int (nI hs), .int (bI ias), .ref ht, .int (nI ln), .int (nI pa), .ref hd])), (hr, .inl (dA 0, 444, .inl (upd (dOneR row kc) 3 (nI (q - 1))))), (hp, .inl (dA 0, 1776, .inl past)), (ha, .inl (dA 0, 444, .inl aside)), (hf, .inl (dA 0, 444, .inl bef)), (ht, .inl (dA 3, 60, .inl txt)), (hd, .inl (dA 0, 8, .inl rd))] H := hP
    have hD : va_D A [(h0, .inr (3, [.ref hr, .ref hp, .ref ha, .ref hf, .int (nI hs), .int (bI ias), .ref ht, .int (nI ln), .int (nI pa), .ref hd])), (hr, .inl (dA 0, 444, .inl (upd (dOneR row kc) 3 (nI (q - 1))))), (hp, .inl (dA 0, 1776, .inl past)), (ha, .inl (dA 0, 444, .inl aside)), (hf, .inl (dA 0, 444, .inl bef)), (ht, .inl (dA 3, 60, .inl txt)), (hd, .inl (dA 0, 8, .inl rd))] := hD
    exact x_vvret hx hb hrt hlk hP hD hS dX3_dropOne_60 (Nat.le_of_ble_eq_true rfl) (Nat.le_of_ble_eq_true rfl)

set_option maxHeartbeats 4000000 in
theorem mw_drop (l : Launch) (D : va_G) (dA : Nat → ClassId) (h0 hr hp ha hf ht hd : Nat) (row past aside bef txt rd : Nat → Int32) (hs : Nat) (ias : Bool) (ln pa : Nat) (x : Int32) {n cu q : Nat} (w : MWf row n cu q) (hhs : hs ≤ 4) : WR l yX3_drop cX3_drop 2 (some .int) 2 80 0 0 [.ref h0, .int x] D dA (mW dA h0 hr hp ha hf ht hd row past aside bef txt rd hs ias ln pa) (some (.int (rDrop q x))) (mW dA h0 hr hp ha hf ht hd (bif okDr q x then dOne row q (cN x) else row) (bif okDr q x then recP past row hs else past) aside (bif okDr q x then row else bef) txt rd (bif okDr q x then recH hs else hs) ias ln pa) := by
  refine wr_of (by decide) (Nat.le_of_ble_eq_true rfl) ?_
  intro p e s m below meth c A S hrt hlk K hA hAe H locs hP hD hS ls hl
  obtain ⟨hx, hb, hml, hown, hts⟩ := id S
  obtain ⟨e0, hn, e1, hcu, e3, hq, hray⟩ := id w
  have hP : va_P D vwCl [(h0, .inr (3, [.ref hr, .ref hp, .ref ha, .ref hf, .int (nI hs), .int (bI ias), .ref ht, .int (nI ln), .int (nI pa), .ref hd])), (hr, .inl (dA 0, 444, .inl row)), (hp, .inl (dA 0, 1776, .inl past)), (ha, .inl (dA 0, 444, .inl aside)), (hf, .inl (dA 0, 444, .inl bef)), (ht, .inl (dA 3, 60, .inl txt)), (hd, .inl (dA 0, 8, .inl rd))] H := hP
  have hD : va_D A [(h0, .inr (3, [.ref hr, .ref hp, .ref ha, .ref hf, .int (nI hs), .int (bI ias), .ref ht, .int (nI ln), .int (nI pa), .ref hd])), (hr, .inl (dA 0, 444, .inl row)), (hp, .inl (dA 0, 1776, .inl past)), (ha, .inl (dA 0, 444, .inl aside)), (hf, .inl (dA 0, 444, .inl bef)), (ht, .inl (dA 3, 60, .inl txt)), (hd, .inl (dA 0, 8, .inl rd))] := hD
  have hl : lv_has ls 2 [(0, .ref h0), (1, .int x)] := hl
  refine lv_aload_n hx hb dX3_drop_0 rfl (lv_at hl 0 rfl) ?_
  refine lv_iload_n hx hb dX3_drop_1 rfl (lv_at hl 1 rfl) ?_
  refine x_ret (va_runV (As := [.int x]) (rest := []) S (mr_noCut l D dA h0 hr [.ref hp, .ref ha, .ref hf, .int (nI hs), .int (bI ias), .ref ht, .int (nI ln), .int (nI pa), .ref hd] row w x) (cwV 1 hts (lw_V q1263 q1265 qs47 q69 q1266) rfl rfl rfl hdX3_noCut ⟨Nat.le_of_ble_eq_true rfl, Nat.le_of_ble_eq_true rfl⟩) ⟨bb_blind ka_bl _, va_recv K hP (ci := 3) (q0 := 0) rfl rfl, ka_pre K (hP.sub [0, 1] rfl) _⟩ rfl rfl hl.1 rfl (lv_room (Nat.le_of_ble_eq_true rfl)) dX3_drop_2 ⟨by omega, by omega⟩) ?_
  refine x_ifb_eq (tgt := 10) hx hb dX3_drop_5 (by decide) (fun h_1 => ?_) (fun h_1 => ?_)
  · obtain ⟨kc, hkc, rfl⟩ := mNo_f (by omega) h_1
    have ckc : (nI kc).toNatClampNeg = kc := nI_clamp (by omega)
    refine lv_aload_n hx hb dX3_drop_10 rfl (lv_at hl 0 rfl) ?_
    refine x_wcall (wr := []) (va_runV (As := []) (rest := []) S ((mw_begin l D dA h0 hr hp ha hf ht hd row past aside bef txt rd hs ias ln pa hhs) H.size) (cwV 0 hts (lw_V q1119 q1121 qs24 q69 q1122) rfl rfl rfl hdX3_begin ⟨Nat.le_of_ble_eq_true rfl, Nat.le_of_ble_eq_true rfl⟩) ⟨pw_blind _, va_recv K hP (ci := 3) (q0 := 0) rfl rfl, pw_pre K hP hD _⟩ rfl rfl hl.1 rfl (lv_room (Nat.le_of_ble_eq_true rfl)) dX3_drop_11 ⟨Nat.le_of_ble_eq_true rfl, Nat.le_of_ble_eq_true rfl⟩) hP hD hS hA [0, 1, 2, 3, 4, 5, 6] [] rfl rfl (by decide) (by decide) (fun H locs hP hD hS hkp => ?_)
    have hP : va_P D vwCl [(h0, .inr (3, [.ref hr, .ref hp, .ref ha, .ref hf, .int (nI (recH hs)), .int (bI ias), .ref ht, .int (nI ln), .int (nI pa), .ref hd])), (hr, .inl (dA 0, 444, .inl row)), (hp, .inl (dA 0, 1776, .inl (recP past row hs))), (ha, .inl (dA 0, 444, .inl aside)), (hf, .inl (dA 0, 444, .inl row)), (ht, .inl (dA 3, 60, .inl txt)), (hd, .inl (dA 0, 8, .inl rd))] H := hP
    have hD : va_D A [(h0, .inr (3, [.ref hr, .ref hp, .ref ha, .ref hf, .int (nI (recH hs)), .int (bI ias), .ref ht, .int (nI ln), .int (nI pa), .ref hd])), (hr, .inl (dA 0, 444, .inl row)), (hp, .inl (dA 0, 1776, .inl (recP past row hs))), (ha, .inl (dA 0, 444, .inl aside)), (hf, .inl (dA 0, 444, .inl row)), (ht, .inl (dA 3, 60, .inl txt)), (hd, .inl (dA 0, 8, .inl rd))] := hD
    refine lv_aload_n hx hb dX3_drop_14 rfl (lv_at hl 0 rfl) ?_
    refine lv_iload_n hx hb dX3_drop_15 rfl (lv_at hl 1 rfl) ?_
    refine x_wcall (wr := []) (va_runV (As := [.int (nI kc)]) (rest := []) S ((mw_dropOne l D dA h0 hr hp ha hf ht hd row (recP past row hs) aside row txt rd (recH hs) ias ln pa w kc (by omega)) H.size) (cwV 1 hts (lw_V q1267 q1269 qs48 q69 q1270) rfl rfl rfl hdX3_dropOne ⟨Nat.le_of_ble_eq_true rfl, Nat.le_of_ble_eq_true rfl⟩) ⟨pw_blind _, va_recv K hP (ci := 3) (q0 := 0) rfl rfl, pw_pre K hP hD _⟩ rfl rfl hl.1 rfl (lv_room (Nat.le_of_ble_eq_true rfl)) dX3_drop_16 ⟨Nat.le_of_ble_eq_true rfl, Nat.le_of_ble_eq_true rfl⟩) hP hD hS hA [0, 1, 2, 3, 4, 5, 6] [] rfl rfl (by decide) (by decide) (fun H locs hP hD hS hkp => ?_)
    have hP : va_P D vwCl [(h0, .inr (3, [.ref hr, .ref hp, .ref ha, .ref hf, .int (nI (recH hs)), .int (bI ias), .ref ht, .int (nI ln), .int (nI pa), .ref hd])), (hr, .inl (dA 0, 444, .inl (dOne row q kc))), (hp, .inl (dA 0, 1776, .inl (recP past row hs))), (ha, .inl (dA 0, 444, .inl aside)), (hf, .inl (dA 0, 444, .inl row)), (ht, .inl (dA 3, 60, .inl txt)), (hd, .inl (dA 0, 8, .inl rd))] H := hP
    have hD : va_D A [(h0, .inr (3, [.ref hr, .ref hp, .ref ha, .ref hf, .int (nI (recH hs)), .int (bI ias), .ref ht, .int (nI ln), .int (nI pa), .ref hd])), (hr, .inl (dA 0, 444, .inl (dOne row q kc))), (hp, .inl (dA 0, 1776, .inl (recP past row hs))), (ha, .inl (dA 0, 444, .inl aside)), (hf, .inl (dA 0, 444, .inl row)), (ht, .inl (dA 3, 60, .inl txt)), (hd, .inl (dA 0, 8, .inl rd))] := hD
    refine lv_aload_n hx hb dX3_drop_19 rfl (lv_at hl 0 rfl) ?_
    refine va_get (D := D) (ci := 3) (C := RX3) (T := TX3) (N := 10) hx hb hts in_X3 hown K hP 0 rfl rfl 0 (by decide) (hts _ q1075) (fun _ h9 => h9) rfl dX3_drop_20 ?_
    refine lv_iconst (v := nI 3) hx hb dX3_drop_23 (by decide) ?_
    refine x_iald (v := nI (q - 1)) hx hb K hP 1 0 rfl rfl 3 rfl (by omega) (by decide) (by simp only [dOne, pk_us]) dX3_drop_24 ?_
    rw [show okDr q (nI kc) = true from (by simp [okDr, h_1, ckc])]
    simp only [cN, ckc]
    exact x_viret hx hb hrt hlk (by simp [rDrop, h_1, ckc]) hP hD hS dX3_drop_25 (Nat.le_of_ble_eq_true rfl) (Nat.le_of_ble_eq_true rfl)
  · refine lv_iconst (v := -1) hx hb dX3_drop_8 (by decide) ?_
    rw [show okDr q x = false from (by simp [okDr, h_1])]
    exact x_viret hx hb hrt hlk (by simp [rDrop, h_1]) hP hD hS dX3_drop_9 (Nat.le_of_ble_eq_true rfl) (Nat.le_of_ble_eq_true rfl)

set_option maxHeartbeats 4000000 in
theorem mw_type (l : Launch) (D : va_G) (dA : Nat → ClassId) (h0 hr hp ha hf ht hd : Nat) (row past aside bef txt rd : Nat → Int32) (hs : Nat) (ias : Bool) (ln pa : Nat) (x : Int32) (hch : vp_nar .char x = x) (hln : ln ≤ 60) : WR l yX3_type cX3_type 2 (some .int) 0 0 0 0 [.ref h0, .int x] D dA (mW dA h0 hr hp ha hf ht hd row past aside bef txt rd hs ias ln pa) (some (.int (rTy ln))) (mW dA h0 hr hp ha hf ht hd row past aside bef (bif okTy ln then upd txt ln x else txt) rd hs ias (bif okTy ln then ln + 1 else ln) pa) := by
  refine wr_of (by decide) (Nat.le_of_ble_eq_true rfl) ?_
  intro p e s m below meth c A S hrt hlk K hA hAe H locs hP hD hS ls hl
  obtain ⟨hx, hb, hml, hown, hts⟩ := id S
  have hP : va_P D vwCl [(h0, .inr (3, [.ref hr, .ref hp, .ref ha, .ref hf, .int (nI hs), .int (bI ias), .ref ht, .int (nI ln), .int (nI pa), .ref hd])), (hr, .inl (dA 0, 444, .inl row)), (hp, .inl (dA 0, 1776, .inl past)), (ha, .inl (dA 0, 444, .inl aside)), (hf, .inl (dA 0, 444, .inl bef)), (ht, .inl (dA 3, 60, .inl txt)), (hd, .inl (dA 0, 8, .inl rd))] H := hP
  have hD : va_D A [(h0, .inr (3, [.ref hr, .ref hp, .ref ha, .ref hf, .int (nI hs), .int (bI ias), .ref ht, .int (nI ln), .int (nI pa), .ref hd])), (hr, .inl (dA 0, 444, .inl row)), (hp, .inl (dA 0, 1776, .inl past)), (ha, .inl (dA 0, 444, .inl aside)), (hf, .inl (dA 0, 444, .inl bef)), (ht, .inl (dA 3, 60, .inl txt)), (hd, .inl (dA 0, 8, .inl rd))] := hD
  have hl : lv_has ls 2 [(0, .ref h0), (1, .int x)] := hl
  refine lv_aload_n hx hb dX3_type_0 rfl (lv_at hl 0 rfl) ?_
  refine va_get (D := D) (ci := 3) (C := RX3) (T := TX3) (N := 10) hx hb hts in_X3 hown K hP 0 rfl rfl 7 (by decide) (hts _ q1082) (fun _ h9 => h9) rfl dX3_type_1 ?_
  refine lv_bipush (v := nI 60) hx hb dX3_type_4 (by decide) ?_
  refine x_icmpn_ne (tgt := 12) hx hb dX3_type_6 (by decide) (by omega) (by omega) (fun h_1 => ?_) (fun h_1 => ?_)
  · refine lv_aload_n hx hb dX3_type_12 rfl (lv_at hl 0 rfl) ?_
    refine va_get (D := D) (ci := 3) (C := RX3) (T := TX3) (N := 10) hx hb hts in_X3 hown K hP 0 rfl rfl 6 (by decide) (hts _ q1081) (fun _ h9 => h9) rfl dX3_type_13 ?_
    refine lv_aload_n hx hb dX3_type_16 rfl (lv_at hl 0 rfl) ?_
    refine va_get (D := D) (ci := 3) (C := RX3) (T := TX3) (N := 10) hx hb hts in_X3 hown K hP 0 rfl rfl 7 (by decide) (hts _ q1082) (fun _ h9 => h9) rfl dX3_type_17 ?_
    refine lv_iload_n hx hb dX3_type_20 rfl (lv_at hl 1 rfl) ?_
    refine x_cast hx hb K hP hD hS 5 3 rfl rfl ln rfl (by omega) (by decide) hch dX3_type_21 (fun H locs hP hD hS => ?_)
    have hP : va_P D vwCl [(h0, .inr (3, [.ref hr, .ref hp, .ref ha, .ref hf, .int (nI hs), .int (bI ias), .ref ht, .int (nI ln), .int (nI pa), .ref hd])), (hr, .inl (dA 0, 444, .inl row)), (hp, .inl (dA 0, 1776, .inl past)), (ha, .inl (dA 0, 444, .inl aside)), (hf, .inl (dA 0, 444, .inl bef)), (ht, .inl (dA 3, 60, .inl (upd txt ln x))), (hd, .inl (dA 0, 8, .inl rd))] H := hP
    have hD : va_D A [(h0, .inr (3, [.ref hr, .ref hp, .ref ha, .ref hf, .int (nI hs), .int (bI ias), .ref ht, .int (nI ln), .int (nI pa), .ref hd])), (hr, .inl (dA 0, 444, .inl row)), (hp, .inl (dA 0, 1776, .inl past)), (ha, .inl (dA 0, 444, .inl aside)), (hf, .inl (dA 0, 444, .inl bef)), (ht, .inl (dA 3, 60, .inl (upd txt ln x))), (hd, .inl (dA 0, 8, .inl rd))] := hD
    refine lv_aload_n hx hb dX3_type_22 rfl (lv_at hl 0 rfl) ?_
    refine lv_dup hx hb dX3_type_23 rfl ?_
    refine va_get (D := D) (ci := 3) (C := RX3) (T := TX3) (N := 10) hx hb hts in_X3 hown K hP 0 rfl rfl 7 (by decide) (hts _ q1082) (fun _ h9 => h9) rfl dX3_type_24 ?_
    refine lv_iconst (v := nI 1) hx hb dX3_type_27 (by decide) ?_
    refine x_addN hx hb dX3_type_28 ?_
    refine va_put (D := D) (ci := 3) (v := .int (nI (ln + 1))) (ty := .int) (C := RX3) (T := TX3) (N := 10) hx hb hts in_X3 tyX3 tyX3_ok nmX3 hown K hP hD hS 0 rfl rfl 7 (by decide) (hts _ q1082) (fun _ h9 => h9) rfl (by decide +kernel) rfl rfl (Nat.le_of_ble_eq_true rfl) dX3_type_29 (fun H locs hP hD hS => ?_)
    have hP : va_P D vwCl [(h0, .inr (3, [.ref hr, .ref hp, .ref ha, .ref hf, .int (nI hs), .int (bI ias), .ref ht, .int (nI (ln + 1)), .int (nI pa), .ref hd])), (hr, .inl (dA 0, 444, .inl row)), (hp, .inl (dA 0, 1776, .inl past)), (ha, .inl (dA 0, 444, .inl aside)), (hf, .inl (dA 0, 444, .inl bef)), (ht, .inl (dA 3, 60, .inl (upd txt ln x))), (hd, .inl (dA 0, 8, .inl rd))] H := hP
    have hD : va_D A [(h0, .inr (3, [.ref hr, .ref hp, .ref ha, .ref hf, .int (nI hs), .int (bI ias), .ref ht, .int (nI (ln + 1)), .int (nI pa), .ref hd])), (hr, .inl (dA 0, 444, .inl row)), (hp, .inl (dA 0, 1776, .inl past)), (ha, .inl (dA 0, 444, .inl aside)), (hf, .inl (dA 0, 444, .inl bef)), (ht, .inl (dA 3, 60, .inl (upd txt ln x))), (hd, .inl (dA 0, 8, .inl rd))] := hD
    refine lv_aload_n hx hb dX3_type_32 rfl (lv_at hl 0 rfl) ?_
    refine va_get (D := D) (ci := 3) (C := RX3) (T := TX3) (N := 10) hx hb hts in_X3 hown K hP 0 rfl rfl 7 (by decide) (hts _ q1082) (fun _ h9 => h9) rfl dX3_type_33 ?_
    rw [show okTy ln = true from (by simp [okTy, h_1])]
    exact x_viret hx hb hrt hlk (by simp [rTy, h_1]) hP hD hS dX3_type_36 (Nat.le_of_ble_eq_true rfl) (Nat.le_of_ble_eq_true rfl)
  · refine lv_bipush (v := -3) hx hb dX3_type_9 (by decide) ?_
    rw [show okTy ln = false from (by simp [okTy, h_1])]
    exact x_viret hx hb hrt hlk (by simp [rTy, h_1]) hP hD hS dX3_type_11 (Nat.le_of_ble_eq_true rfl) (Nat.le_of_ble_eq_true rfl)

set_option maxHeartbeats 4000000 in
theorem mw_clearText (l : Launch) (D : va_G) (dA : Nat → ClassId) (h0 hr hp ha hf ht hd : Nat) (row past aside bef txt rd : Nat → Int32) (hs : Nat) (ias : Bool) (ln pa : Nat)  : WR l yX3_clearText cX3_clearText 2 (some .int) 0 0 0 0 [.ref h0] D dA (mW dA h0 hr hp ha hf ht hd row past aside bef txt rd hs ias ln pa) (some (.int (nI ln))) (mW dA h0 hr hp ha hf ht hd row past aside bef txt rd hs ias 0 pa) := by
  refine wr_of (by decide) (Nat.le_of_ble_eq_true rfl) ?_
  intro p e s m below meth c A S hrt hlk K hA hAe H locs hP hD hS ls hl
  obtain ⟨hx, hb, hml, hown, hts⟩ := id S
  have hP : va_P D vwCl [(h0, .inr (3, [.ref hr, .ref hp, .ref ha, .ref hf, .int (nI hs), .int (bI ias), .ref ht, .int (nI ln), .int (nI pa), .ref hd])), (hr, .inl (dA 0, 444, .inl row)), (hp, .inl (dA 0, 1776, .inl past)), (ha, .inl (dA 0, 444, .inl aside)), (hf, .inl (dA 0, 444, .inl bef)), (ht, .inl (dA 3, 60, .inl txt)), (hd, .inl (dA 0, 8, .inl rd))] H := hP
  have hD : va_D A [(h0, .inr (3, [.ref hr, .ref hp, .ref ha, .ref hf, .int (nI hs), .int (bI ias), .ref ht, .int (nI ln), .int (nI pa), .ref hd])), (hr, .inl (dA 0, 444, .inl row)), (hp, .inl (dA 0, 1776, .inl past)), (ha, .inl (dA 0, 444, .inl aside)), (hf, .inl (dA 0, 444, .inl bef)), (ht, .inl (dA 3, 60, .inl txt)), (hd, .inl (dA 0, 8, .inl rd))] := hD
  have hl : lv_has ls 2 [(0, .ref h0)] := hl
  refine lv_aload_n hx hb dX3_clearText_0 rfl (lv_at hl 0 rfl) ?_
  refine va_get (D := D) (ci := 3) (C := RX3) (T := TX3) (N := 10) hx hb hts in_X3 hown K hP 0 rfl rfl 7 (by decide) (hts _ q1082) (fun _ h9 => h9) rfl dX3_clearText_1 ?_
  refine lv_istore_n (lv' := [(1, .int (nI ln)), (0, .ref h0)]) hx hb dX3_clearText_4 rfl hl (by decide) rfl (fun ls hl => ?_)
  refine lv_aload_n hx hb dX3_clearText_5 rfl (lv_at hl 1 rfl) ?_
  refine lv_iconst (v := nI 0) hx hb dX3_clearText_6 (by decide) ?_
  refine va_put (D := D) (ci := 3) (v := .int (nI 0)) (ty := .int) (C := RX3) (T := TX3) (N := 10) hx hb hts in_X3 tyX3 tyX3_ok nmX3 hown K hP hD hS 0 rfl rfl 7 (by decide) (hts _ q1082) (fun _ h9 => h9) rfl (by decide +kernel) rfl rfl (Nat.le_of_ble_eq_true rfl) dX3_clearText_7 (fun H locs hP hD hS => ?_)
  have hP : va_P D vwCl [(h0, .inr (3, [.ref hr, .ref hp, .ref ha, .ref hf, .int (nI hs), .int (bI ias), .ref ht, .int (nI 0), .int (nI pa), .ref hd])), (hr, .inl (dA 0, 444, .inl row)), (hp, .inl (dA 0, 1776, .inl past)), (ha, .inl (dA 0, 444, .inl aside)), (hf, .inl (dA 0, 444, .inl bef)), (ht, .inl (dA 3, 60, .inl txt)), (hd, .inl (dA 0, 8, .inl rd))] H := hP
  have hD : va_D A [(h0, .inr (3, [.ref hr, .ref hp, .ref ha, .ref hf, .int (nI hs), .int (bI ias), .ref ht, .int (nI 0), .int (nI pa), .ref hd])), (hr, .inl (dA 0, 444, .inl row)), (hp, .inl (dA 0, 1776, .inl past)), (ha, .inl (dA 0, 444, .inl aside)), (hf, .inl (dA 0, 444, .inl bef)), (ht, .inl (dA 3, 60, .inl txt)), (hd, .inl (dA 0, 8, .inl rd))] := hD
  refine lv_iload_n hx hb dX3_clearText_10 rfl (lv_at hl 0 rfl) ?_
  exact x_viret hx hb hrt hlk rfl hP hD hS dX3_clearText_11 (Nat.le_of_ble_eq_true rfl) (Nat.le_of_ble_eq_true rfl)

set_option maxHeartbeats 4000000 in
theorem mw_dropLoose (l : Launch) (D : va_G) (dA : Nat → ClassId) (h0 hr hp ha hf ht hd : Nat) (row past aside bef txt rd : Nat → Int32) (hs : Nat) (ias : Bool) (ln pa : Nat) {n cu q : Nat} (w : MWf row n cu q) (hhs : hs ≤ 4) : WR l yX3_dropLoose cX3_dropLoose 5 (some .int) 5 200 0 0 [.ref h0] D dA (mW dA h0 hr hp ha hf ht hd row past aside bef txt rd hs ias ln pa) (some (.int (rDl row n cu q))) (mW dA h0 hr hp ha hf ht hd (bif okDl row n cu q then dlRow row n cu q else row) (bif okDl row n cu q then recP past row hs else past) aside (bif okDl row n cu q then row else bef) txt rd (bif okDl row n cu q then recH hs else hs) ias ln pa) := by
  refine wr_of (by decide) (Nat.le_of_ble_eq_true rfl) ?_
  intro p e s m below meth c A S hrt hlk K hA hAe H locs hP hD hS ls hl
  obtain ⟨hx, hb, hml, hown, hts⟩ := id S
  obtain ⟨e0, hn, e1, hcu, e3, hq, hray⟩ := id w
  have h2n := pow7 hn
  have hP : va_P D vwCl [(h0, .inr (3, [.ref hr, .ref hp, .ref ha, .ref hf, .int (nI hs), .int (bI ias), .ref ht, .int (nI ln), .int (nI pa), .ref hd])), (hr, .inl (dA 0, 444, .inl row)), (hp, .inl (dA 0, 1776, .inl past)), (ha, .inl (dA 0, 444, .inl aside)), (hf, .inl (dA 0, 444, .inl bef)), (ht, .inl (dA 3, 60, .inl txt)), (hd, .inl (dA 0, 8, .inl rd))] H := hP
  have hD : va_D A [(h0, .inr (3, [.ref hr, .ref hp, .ref ha, .ref hf, .int (nI hs), .int (bI ias), .ref ht, .int (nI ln), .int (nI pa), .ref hd])), (hr, .inl (dA 0, 444, .inl row)), (hp, .inl (dA 0, 1776, .inl past)), (ha, .inl (dA 0, 444, .inl aside)), (hf, .inl (dA 0, 444, .inl bef)), (ht, .inl (dA 3, 60, .inl txt)), (hd, .inl (dA 0, 8, .inl rd))] := hD
  have hl : lv_has ls 5 [(0, .ref h0)] := hl
  refine lv_aload_n hx hb dX3_dropLoose_0 rfl (lv_at hl 0 rfl) ?_
  refine x_ret (va_runV (As := []) (rest := []) S (mr_masterPlan l D dA h0 hr [.ref hp, .ref ha, .ref hf, .int (nI hs), .int (bI ias), .ref ht, .int (nI ln), .int (nI pa), .ref hd] row w) (cwV 0 hts (lw_V q1195 q1197 qs32 q69 q1198) rfl rfl rfl hdX3_masterPlan ⟨Nat.le_of_ble_eq_true rfl, Nat.le_of_ble_eq_true rfl⟩) ⟨bb_blind ka_bl _, va_recv K hP (ci := 3) (q0 := 0) rfl rfl, ka_pre K (hP.sub [0, 1] rfl) _⟩ rfl rfl hl.1 rfl (lv_room (Nat.le_of_ble_eq_true rfl)) dX3_dropLoose_1 ⟨by omega, by omega⟩) ?_
  refine lv_istore_n (lv' := [(1, .int (oI (mMaster row n cu q))), (0, .ref h0)]) hx hb dX3_dropLoose_4 rfl hl (by decide) rfl (fun ls hl => ?_)
  refine lv_iload_n hx hb dX3_dropLoose_5 rfl (lv_at hl 0 rfl) ?_
  refine x_ifo_ge (tgt := 12) hx hb dX3_dropLoose_6 (by decide) (fun b hb => by have := mMaster_lt hb; omega) (fun pl h_1 => ?_) (fun h_1 => ?_)
  · have hpl := mMaster_lt h_1
    refine lv_aload_n hx hb dX3_dropLoose_12 rfl (lv_at hl 1 rfl) ?_
    refine lv_iload_n hx hb dX3_dropLoose_13 rfl (lv_at hl 0 rfl) ?_
    refine x_top (y := nI pl) (by rw [h_1]; rfl) ?_
    refine x_ret (va_runV (As := [.int (nI pl)]) (rest := []) S (mr_guess l D dA h0 hr [.ref hp, .ref ha, .ref hf, .int (nI hs), .int (bI ias), .ref ht, .int (nI ln), .int (nI pa), .ref hd] row w pl (by omega)) (cwV 1 hts (lw_V q1223 q1225 qs39 q69 q1226) rfl rfl rfl hdX3_guess ⟨Nat.le_of_ble_eq_true rfl, Nat.le_of_ble_eq_true rfl⟩) ⟨bb_blind ka_bl _, va_recv K hP (ci := 3) (q0 := 0) rfl rfl, ka_pre K (hP.sub [0, 1] rfl) _⟩ rfl rfl hl.1 rfl (lv_room (Nat.le_of_ble_eq_true rfl)) dX3_dropLoose_14 ⟨by omega, by omega⟩) ?_
    refine lv_aload_n hx hb dX3_dropLoose_17 rfl (lv_at hl 1 rfl) ?_
    refine lv_iload_n hx hb dX3_dropLoose_18 rfl (lv_at hl 0 rfl) ?_
    refine x_top (y := nI pl) (by rw [h_1]; rfl) ?_
    refine x_ret (va_runV (As := [.int (nI pl)]) (rest := [.int (mGuess row n cu q pl)]) S (mr_prices l D dA h0 hr [.ref hp, .ref ha, .ref hf, .int (nI hs), .int (bI ias), .ref ht, .int (nI ln), .int (nI pa), .ref hd] row w pl (by omega)) (cwV 1 hts (lw_V q1235 q1237 qs42 q69 q1238) rfl rfl rfl hdX3_prices ⟨Nat.le_of_ble_eq_true rfl, Nat.le_of_ble_eq_true rfl⟩) ⟨bb_blind ka_bl _, va_recv K hP (ci := 3) (q0 := 0) rfl rfl, ka_pre K (hP.sub [0, 1] rfl) _⟩ rfl rfl hl.1 rfl (lv_room (Nat.le_of_ble_eq_true rfl)) dX3_dropLoose_19 ⟨by omega, by omega⟩) ?_
    refine lv_isub hx hb dX3_dropLoose_22 ?_
    refine lv_istore_n (lv' := [(2, .int ((mGuess row n cu q pl) - (mPrices row n pl))), (1, .int (oI (mMaster row n cu q))), (0, .ref h0)]) hx hb dX3_dropLoose_23 rfl hl (by decide) rfl (fun ls hl => ?_)
    refine lv_iconst (v := nI 0) hx hb dX3_dropLoose_24 (by decide) ?_
    refine lv_istore_n (lv' := [(3, .int (nI 0)), (2, .int ((mGuess row n cu q pl) - (mPrices row n pl))), (1, .int (oI (mMaster row n cu q))), (0, .ref h0)]) hx hb dX3_dropLoose_25 rfl hl (by decide) rfl (fun ls hl => ?_)
    refine lv_iconst (v := nI 0) hx hb dX3_dropLoose_26 (by decide) ?_
    refine lv_istore (lv' := [(4, .int (nI 0)), (3, .int (nI 0)), (2, .int ((mGuess row n cu q pl) - (mPrices row n pl))), (1, .int (oI (mMaster row n cu q))), (0, .ref h0)]) hx hb dX3_dropLoose_27 hl (by decide) rfl (fun ls hl => ?_)
    have hl : lv_has ls 5 [(0, .ref h0), (1, .int (oI (mMaster row n cu q))), (2, .int ((mGuess row n cu q pl) - (mPrices row n pl))), (3, .int (nI 0)), (4, .int (nI 0))] := lv_sub hl [4, 3, 2, 1, 0] rfl
    rw [h_1] at hl
    have hl : lv_has ls 5 [(0, .ref h0), (1, .int (nI pl)), (2, .int ((mGuess row n cu q pl) - (mPrices row n pl))), (3, .int (nI 0)), (4, .int (nI 0))] := hl
    refine lpW (dlC row n cu pl ((mGuess row n cu q pl) - (mPrices row n pl))) 0 q (fun k z ls H locs => lv_has ls 5 [(0, .ref h0), (1, .int (nI pl)), (2, .int ((mGuess row n cu q pl) - (mPrices row n pl))), (3, .int (nI z)), (4, .int (nI k))] ∧ va_P D vwCl [(h0, .inr (3, [.ref hr, .ref hp, .ref ha, .ref hf, .int (nI hs), .int (bI ias), .ref ht, .int (nI ln), .int (nI pa), .ref hd])), (hr, .inl (dA 0, 444, .inl row)), (hp, .inl (dA 0, 1776, .inl past)), (ha, .inl (dA 0, 444, .inl aside)), (hf, .inl (dA 0, 444, .inl bef)), (ht, .inl (dA 3, 60, .inl txt)), (hd, .inl (dA 0, 8, .inl rd))] H ∧ va_D A [(h0, .inr (3, [.ref hr, .ref hp, .ref ha, .ref hf, .int (nI hs), .int (bI ias), .ref ht, .int (nI ln), .int (nI pa), .ref hd])), (hr, .inl (dA 0, 444, .inl row)), (hp, .inl (dA 0, 1776, .inl past)), (ha, .inl (dA 0, 444, .inl aside)), (hf, .inl (dA 0, 444, .inl bef)), (ht, .inl (dA 3, 60, .inl txt)), (hd, .inl (dA 0, 8, .inl rd))] ∧ va_S A s.heap H locs) (fun ls H locs => W p l e (rmW 5 200 0 0) s m ([.ref h0]).toArray below meth c H locs 0 0 (MQ below (QW (some (.int (rDl row n cu q))) D (mW dA h0 hr hp ha hf ht hd (bif okDl row n cu q then dlRow row n cu q else row) (bif okDl row n cu q then recP past row hs else past) aside (bif okDl row n cu q then row else bef) txt rd (bif okDl row n cu q then recH hs else hs) ias ln pa) A) ([.ref h0]).toArray s 0 0 A) (F0 m 29 ls [])) ?_ ?_ ls H locs ⟨lv_sub hl [0, 1, 2, 3, 4] rfl, hP, hD, hS⟩
    · intro k ls H locs hk_2 hI ih
      generalize iter (dlC row n cu pl ((mGuess row n cu q pl) - (mPrices row n pl))) k 0 0 = z at *
      obtain ⟨hl, hP, hD, hS⟩ := hI
      have hl : lv_has ls 5 [(0, .ref h0), (1, .int (nI pl)), (2, .int ((mGuess row n cu q pl) - (mPrices row n pl))), (3, .int (nI z)), (4, .int (nI k))] := hl
      have hP : va_P D vwCl [(h0, .inr (3, [.ref hr, .ref hp, .ref ha, .ref hf, .int (nI hs), .int (bI ias), .ref ht, .int (nI ln), .int (nI pa), .ref hd])), (hr, .inl (dA 0, 444, .inl row)), (hp, .inl (dA 0, 1776, .inl past)), (ha, .inl (dA 0, 444, .inl aside)), (hf, .inl (dA 0, 444, .inl bef)), (ht, .inl (dA 3, 60, .inl txt)), (hd, .inl (dA 0, 8, .inl rd))] H := hP
      have hD : va_D A [(h0, .inr (3, [.ref hr, .ref hp, .ref ha, .ref hf, .int (nI hs), .int (bI ias), .ref ht, .int (nI ln), .int (nI pa), .ref hd])), (hr, .inl (dA 0, 444, .inl row)), (hp, .inl (dA 0, 1776, .inl past)), (ha, .inl (dA 0, 444, .inl aside)), (hf, .inl (dA 0, 444, .inl bef)), (ht, .inl (dA 3, 60, .inl txt)), (hd, .inl (dA 0, 8, .inl rd))] := hD
      show W p l e (rmW 5 200 0 0) s m ([.ref h0]).toArray below meth c H locs 0 0 (MQ below (QW (some (.int (rDl row n cu q))) D (mW dA h0 hr hp ha hf ht hd (bif okDl row n cu q then dlRow row n cu q else row) (bif okDl row n cu q then recP past row hs else past) aside (bif okDl row n cu q then row else bef) txt rd (bif okDl row n cu q then recH hs else hs) ias ln pa) A) ([.ref h0]).toArray s 0 0 A) (F0 m 29 ls [])
      refine lv_iload hx hb dX3_dropLoose_29 (lv_at hl 4 rfl) ?_
      refine lv_aload_n hx hb dX3_dropLoose_31 rfl (lv_at hl 0 rfl) ?_
      refine va_get (D := D) (ci := 3) (C := RX3) (T := TX3) (N := 10) hx hb hts in_X3 hown K hP 0 rfl rfl 0 (by decide) (hts _ q1075) (fun _ h9 => h9) rfl dX3_dropLoose_32 ?_
      refine lv_iconst (v := nI 3) hx hb dX3_dropLoose_35 (by decide) ?_
      refine x_iald hx hb K hP 1 0 rfl rfl 3 rfl (by omega) (by decide) e3 dX3_dropLoose_36 ?_
      refine lv_icmp_ge (tgt := 65) hx hb dX3_dropLoose_37 (by decide) (fun h => absurd h (nI_ge hk_2 (by omega))) (fun _ => ?_)
      refine lv_iload_n hx hb dX3_dropLoose_40 rfl (lv_at hl 3 rfl) ?_
      refine lv_aload_n hx hb dX3_dropLoose_41 rfl (lv_at hl 0 rfl) ?_
      refine lv_iload hx hb dX3_dropLoose_42 (lv_at hl 4 rfl) ?_
      refine lv_iload_n hx hb dX3_dropLoose_44 rfl (lv_at hl 1 rfl) ?_
      refine lv_iload_n hx hb dX3_dropLoose_45 rfl (lv_at hl 2 rfl) ?_
      refine x_ret (va_runV (As := [.int (nI k), .int (nI pl), .int ((mGuess row n cu q pl) - (mPrices row n pl))]) (rest := [.int (nI z)]) S (mr_isLoose l D dA h0 hr [.ref hp, .ref ha, .ref hf, .int (nI hs), .int (bI ias), .ref ht, .int (nI ln), .int (nI pa), .ref hd] row w k pl ((mGuess row n cu q pl) - (mPrices row n pl)) (by omega) (by omega)) (cwV 3 hts (lw_V q1275 q1277 qs49 q69 q1278) rfl rfl rfl hdX3_isLoose ⟨Nat.le_of_ble_eq_true rfl, Nat.le_of_ble_eq_true rfl⟩) ⟨bb_blind ka_bl _, va_recv K hP (ci := 3) (q0 := 0) rfl rfl, ka_pre K (hP.sub [0, 1] rfl) _⟩ rfl rfl hl.1 rfl (lv_room (Nat.le_of_ble_eq_true rfl)) dX3_dropLoose_46 ⟨by omega, by omega⟩) ?_
      refine x_ifb_eq (tgt := 56) hx hb dX3_dropLoose_49 (by decide) (fun h_4 => ?_) (fun h_4 => ?_)
      · refine lv_iconst (v := nI 0) hx hb dX3_dropLoose_56 (by decide) ?_
        refine x_addN hx hb dX3_dropLoose_57 ?_
        refine lv_istore_n (lv' := [(3, .int (nI (z + 0))), (0, .ref h0), (1, .int (nI pl)), (2, .int ((mGuess row n cu q pl) - (mPrices row n pl))), (4, .int (nI k))]) hx hb dX3_dropLoose_58 rfl hl (by decide) rfl (fun ls hl => ?_)
        refine lv_iinc (v := nI (k + 1)) (lv' := [(4, .int (nI (k + 1))), (3, .int (nI (z + 0))), (0, .ref h0), (1, .int (nI pl)), (2, .int ((mGuess row n cu q pl) - (mPrices row n pl)))]) hx hb dX3_dropLoose_59 hl (k := 4) rfl (nI_1 k) (by decide) rfl (fun ls hl => ?_)
        refine lv_goto (tgt := 29) hx hb dX3_dropLoose_62 (by decide) ?_
        refine ih ls H locs ⟨?_, hP, hD, hS⟩
        show lv_has ls 5 [(0, .ref h0), (1, .int (nI pl)), (2, .int ((mGuess row n cu q pl) - (mPrices row n pl))), (3, .int (nI ((dlC row n cu pl ((mGuess row n cu q pl) - (mPrices row n pl))) k z))), (4, .int (nI (k + 1)))]
        rw [show nI ((dlC row n cu pl ((mGuess row n cu q pl) - (mPrices row n pl))) k z) = nI (z + 0) from (by simp [dlC, h_4])]
        exact lv_sub hl [2, 3, 4, 1, 0] rfl
      · refine lv_iconst (v := nI 1) hx hb dX3_dropLoose_52 (by decide) ?_
        refine lv_goto (tgt := 57) hx hb dX3_dropLoose_53 (by decide) ?_
        refine x_addN hx hb dX3_dropLoose_57 ?_
        refine lv_istore_n (lv' := [(3, .int (nI (z + 1))), (0, .ref h0), (1, .int (nI pl)), (2, .int ((mGuess row n cu q pl) - (mPrices row n pl))), (4, .int (nI k))]) hx hb dX3_dropLoose_58 rfl hl (by decide) rfl (fun ls hl => ?_)
        refine lv_iinc (v := nI (k + 1)) (lv' := [(4, .int (nI (k + 1))), (3, .int (nI (z + 1))), (0, .ref h0), (1, .int (nI pl)), (2, .int ((mGuess row n cu q pl) - (mPrices row n pl)))]) hx hb dX3_dropLoose_59 hl (k := 4) rfl (nI_1 k) (by decide) rfl (fun ls hl => ?_)
        refine lv_goto (tgt := 29) hx hb dX3_dropLoose_62 (by decide) ?_
        refine ih ls H locs ⟨?_, hP, hD, hS⟩
        show lv_has ls 5 [(0, .ref h0), (1, .int (nI pl)), (2, .int ((mGuess row n cu q pl) - (mPrices row n pl))), (3, .int (nI ((dlC row n cu pl ((mGuess row n cu q pl) - (mPrices row n pl))) k z))), (4, .int (nI (k + 1)))]
        rw [show nI ((dlC row n cu pl ((mGuess row n cu q pl) - (mPrices row n pl))) k z) = nI (z + 1) from (by simp [dlC, h_4])]
        exact lv_sub hl [2, 3, 4, 1, 0] rfl
    · intro ls H locs hI
      obtain ⟨hl, hP, hD, hS⟩ := hI
      have hl : lv_has ls 5 [(0, .ref h0), (1, .int (nI pl)), (2, .int ((mGuess row n cu q pl) - (mPrices row n pl))), (3, .int (nI (dlN row n cu q pl ((mGuess row n cu q pl) - (mPrices row n pl))))), (4, .int (nI q))] := hl
      have hP : va_P D vwCl [(h0, .inr (3, [.ref hr, .ref hp, .ref ha, .ref hf, .int (nI hs), .int (bI ias), .ref ht, .int (nI ln), .int (nI pa), .ref hd])), (hr, .inl (dA 0, 444, .inl row)), (hp, .inl (dA 0, 1776, .inl past)), (ha, .inl (dA 0, 444, .inl aside)), (hf, .inl (dA 0, 444, .inl bef)), (ht, .inl (dA 3, 60, .inl txt)), (hd, .inl (dA 0, 8, .inl rd))] H := hP
      have hD : va_D A [(h0, .inr (3, [.ref hr, .ref hp, .ref ha, .ref hf, .int (nI hs), .int (bI ias), .ref ht, .int (nI ln), .int (nI pa), .ref hd])), (hr, .inl (dA 0, 444, .inl row)), (hp, .inl (dA 0, 1776, .inl past)), (ha, .inl (dA 0, 444, .inl aside)), (hf, .inl (dA 0, 444, .inl bef)), (ht, .inl (dA 3, 60, .inl txt)), (hd, .inl (dA 0, 8, .inl rd))] := hD
      show W p l e (rmW 5 200 0 0) s m ([.ref h0]).toArray below meth c H locs 0 0 (MQ below (QW (some (.int (rDl row n cu q))) D (mW dA h0 hr hp ha hf ht hd (bif okDl row n cu q then dlRow row n cu q else row) (bif okDl row n cu q then recP past row hs else past) aside (bif okDl row n cu q then row else bef) txt rd (bif okDl row n cu q then recH hs else hs) ias ln pa) A) ([.ref h0]).toArray s 0 0 A) (F0 m 29 ls [])
      refine lv_iload hx hb dX3_dropLoose_29 (lv_at hl 4 rfl) ?_
      refine lv_aload_n hx hb dX3_dropLoose_31 rfl (lv_at hl 0 rfl) ?_
      refine va_get (D := D) (ci := 3) (C := RX3) (T := TX3) (N := 10) hx hb hts in_X3 hown K hP 0 rfl rfl 0 (by decide) (hts _ q1075) (fun _ h9 => h9) rfl dX3_dropLoose_32 ?_
      refine lv_iconst (v := nI 3) hx hb dX3_dropLoose_35 (by decide) ?_
      refine x_iald hx hb K hP 1 0 rfl rfl 3 rfl (by omega) (by decide) e3 dX3_dropLoose_36 ?_
      refine lv_icmp_ge (tgt := 65) hx hb dX3_dropLoose_37 (by decide) (fun _ => ?_) (fun h => absurd (nI_le (by omega) (by omega)) h)
      refine lv_iload_n hx hb dX3_dropLoose_65 rfl (lv_at hl 3 rfl) ?_
      refine x_ifn_ne (tgt := 72) hx hb dX3_dropLoose_66 (by decide) (by have : dlN row n cu q pl ((mGuess row n cu q pl) - (mPrices row n pl)) ≤ q * 1 := iter_le 1 (fun k a => by unfold dlC; split <;> omega) q; omega) (fun h_6 => ?_) (fun h_6 => ?_)
      · refine lv_aload_n hx hb dX3_dropLoose_72 rfl (lv_at hl 0 rfl) ?_
        refine x_wcall (wr := []) (va_runV (As := []) (rest := []) S ((mw_begin l D dA h0 hr hp ha hf ht hd row past aside bef txt rd hs ias ln pa hhs) H.size) (cwV 0 hts (lw_V q1119 q1121 qs24 q69 q1122) rfl rfl rfl hdX3_begin ⟨Nat.le_of_ble_eq_true rfl, Nat.le_of_ble_eq_true rfl⟩) ⟨pw_blind _, va_recv K hP (ci := 3) (q0 := 0) rfl rfl, pw_pre K hP hD _⟩ rfl rfl hl.1 rfl (lv_room (Nat.le_of_ble_eq_true rfl)) dX3_dropLoose_73 ⟨Nat.le_of_ble_eq_true rfl, Nat.le_of_ble_eq_true rfl⟩) hP hD hS hA [0, 1, 2, 3, 4, 5, 6] [] rfl rfl (by decide) (by decide) (fun H locs hP hD hS hkp => ?_)
        have hP : va_P D vwCl [(h0, .inr (3, [.ref hr, .ref hp, .ref ha, .ref hf, .int (nI (recH hs)), .int (bI ias), .ref ht, .int (nI ln), .int (nI pa), .ref hd])), (hr, .inl (dA 0, 444, .inl row)), (hp, .inl (dA 0, 1776, .inl (recP past row hs))), (ha, .inl (dA 0, 444, .inl aside)), (hf, .inl (dA 0, 444, .inl row)), (ht, .inl (dA 3, 60, .inl txt)), (hd, .inl (dA 0, 8, .inl rd))] H := hP
        have hD : va_D A [(h0, .inr (3, [.ref hr, .ref hp, .ref ha, .ref hf, .int (nI (recH hs)), .int (bI ias), .ref ht, .int (nI ln), .int (nI pa), .ref hd])), (hr, .inl (dA 0, 444, .inl row)), (hp, .inl (dA 0, 1776, .inl (recP past row hs))), (ha, .inl (dA 0, 444, .inl aside)), (hf, .inl (dA 0, 444, .inl row)), (ht, .inl (dA 3, 60, .inl txt)), (hd, .inl (dA 0, 8, .inl rd))] := hD
        refine lv_aload_n hx hb dX3_dropLoose_76 rfl (lv_at hl 0 rfl) ?_
        refine va_get (D := D) (ci := 3) (C := RX3) (T := TX3) (N := 10) hx hb hts in_X3 hown K hP 0 rfl rfl 0 (by decide) (hts _ q1075) (fun _ h9 => h9) rfl dX3_dropLoose_77 ?_
        refine lv_iconst (v := nI 3) hx hb dX3_dropLoose_80 (by decide) ?_
        refine x_iald hx hb K hP 1 0 rfl rfl 3 rfl (by omega) (by decide) e3 dX3_dropLoose_81 ?_
        refine lv_iconst (v := nI 1) hx hb dX3_dropLoose_82 (by decide) ?_
        refine lv_isub hx hb dX3_dropLoose_83 ?_
        refine lv_istore (lv' := [(4, .int ((nI q) - (nI 1))), (0, .ref h0), (1, .int (nI pl)), (2, .int ((mGuess row n cu q pl) - (mPrices row n pl))), (3, .int (nI (dlN row n cu q pl ((mGuess row n cu q pl) - (mPrices row n pl)))))]) hx hb dX3_dropLoose_84 hl (by decide) rfl (fun ls hl => ?_)
        refine lpW (dlS n cu q pl ((mGuess row n cu q pl) - (mPrices row n pl))) (row, q) q (fun k z ls H locs => lv_has ls 5 [(0, .ref h0), (1, .int (nI pl)), (2, .int ((mGuess row n cu q pl) - (mPrices row n pl))), (3, .int (nI (dlN row n cu q pl ((mGuess row n cu q pl) - (mPrices row n pl))))), (4, .int ((nI (q - k)) - (nI 1)))] ∧ va_P D vwCl [(h0, .inr (3, [.ref hr, .ref hp, .ref ha, .ref hf, .int (nI (recH hs)), .int (bI ias), .ref ht, .int (nI ln), .int (nI pa), .ref hd])), (hr, .inl (dA 0, 444, .inl ((z).1))), (hp, .inl (dA 0, 1776, .inl (recP past row hs))), (ha, .inl (dA 0, 444, .inl aside)), (hf, .inl (dA 0, 444, .inl row)), (ht, .inl (dA 3, 60, .inl txt)), (hd, .inl (dA 0, 8, .inl rd))] H ∧ va_D A [(h0, .inr (3, [.ref hr, .ref hp, .ref ha, .ref hf, .int (nI (recH hs)), .int (bI ias), .ref ht, .int (nI ln), .int (nI pa), .ref hd])), (hr, .inl (dA 0, 444, .inl ((z).1))), (hp, .inl (dA 0, 1776, .inl (recP past row hs))), (ha, .inl (dA 0, 444, .inl aside)), (hf, .inl (dA 0, 444, .inl row)), (ht, .inl (dA 3, 60, .inl txt)), (hd, .inl (dA 0, 8, .inl rd))] ∧ va_S A s.heap H locs) (fun ls H locs => W p l e (rmW 5 200 0 0) s m ([.ref h0]).toArray below meth c H locs 0 0 (MQ below (QW (some (.int (rDl row n cu q))) D (mW dA h0 hr hp ha hf ht hd (bif okDl row n cu q then dlRow row n cu q else row) (bif okDl row n cu q then recP past row hs else past) aside (bif okDl row n cu q then row else bef) txt rd (bif okDl row n cu q then recH hs else hs) ias ln pa) A) ([.ref h0]).toArray s 0 0 A) (F0 m 86 ls [])) ?_ ?_ ls H locs ⟨lv_sub hl [1, 2, 3, 4, 0] rfl, hP, hD, hS⟩
        · intro k ls H locs hk_7 hI ih
          obtain ⟨wz, hz⟩ := dl_wf (pl := pl) (ab := (mGuess row n cu q pl) - (mPrices row n pl)) w k (by omega)
          generalize iter (dlS n cu q pl ((mGuess row n cu q pl) - (mPrices row n pl))) k 0 (row, q) = z at *
          obtain ⟨hl, hP, hD, hS⟩ := hI
          have hl : lv_has ls 5 [(0, .ref h0), (1, .int (nI pl)), (2, .int ((mGuess row n cu q pl) - (mPrices row n pl))), (3, .int (nI (dlN row n cu q pl ((mGuess row n cu q pl) - (mPrices row n pl))))), (4, .int ((nI (q - k)) - (nI 1)))] := hl
          have hP : va_P D vwCl [(h0, .inr (3, [.ref hr, .ref hp, .ref ha, .ref hf, .int (nI (recH hs)), .int (bI ias), .ref ht, .int (nI ln), .int (nI pa), .ref hd])), (hr, .inl (dA 0, 444, .inl ((z).1))), (hp, .inl (dA 0, 1776, .inl (recP past row hs))), (ha, .inl (dA 0, 444, .inl aside)), (hf, .inl (dA 0, 444, .inl row)), (ht, .inl (dA 3, 60, .inl txt)), (hd, .inl (dA 0, 8, .inl rd))] H := hP
          have hD : va_D A [(h0, .inr (3, [.ref hr, .ref hp, .ref ha, .ref hf, .int (nI (recH hs)), .int (bI ias), .ref ht, .int (nI ln), .int (nI pa), .ref hd])), (hr, .inl (dA 0, 444, .inl ((z).1))), (hp, .inl (dA 0, 1776, .inl (recP past row hs))), (ha, .inl (dA 0, 444, .inl aside)), (hf, .inl (dA 0, 444, .inl row)), (ht, .inl (dA 3, 60, .inl txt)), (hd, .inl (dA 0, 8, .inl rd))] := hD
          rw [show (nI (q - k)) - (nI 1) = nI (q - 1 - k) from by rw [pk_sub (by omega)]; congr 1; omega] at hl
          have hl : lv_has ls 5 [(0, .ref h0), (1, .int (nI pl)), (2, .int ((mGuess row n cu q pl) - (mPrices row n pl))), (3, .int (nI (dlN row n cu q pl ((mGuess row n cu q pl) - (mPrices row n pl))))), (4, .int (nI (q - 1 - k)))] := hl
          show W p l e (rmW 5 200 0 0) s m ([.ref h0]).toArray below meth c H locs 0 0 (MQ below (QW (some (.int (rDl row n cu q))) D (mW dA h0 hr hp ha hf ht hd (bif okDl row n cu q then dlRow row n cu q else row) (bif okDl row n cu q then recP past row hs else past) aside (bif okDl row n cu q then row else bef) txt rd (bif okDl row n cu q then recH hs else hs) ias ln pa) A) ([.ref h0]).toArray s 0 0 A) (F0 m 86 ls [])
          refine lv_iload hx hb dX3_dropLoose_86 (lv_at hl 4 rfl) ?_
          refine lv_if_lt (tgt := 114) hx hb dX3_dropLoose_88 (by decide) (fun h => absurd h (nI_pos (n := q - 1 - k) (by omega))) (fun _ => ?_)
          refine lv_aload_n hx hb dX3_dropLoose_91 rfl (lv_at hl 0 rfl) ?_
          refine lv_iload hx hb dX3_dropLoose_92 (lv_at hl 4 rfl) ?_
          refine lv_iload_n hx hb dX3_dropLoose_94 rfl (lv_at hl 1 rfl) ?_
          refine lv_iload_n hx hb dX3_dropLoose_95 rfl (lv_at hl 2 rfl) ?_
          refine x_ret (va_runV (As := [.int (nI (q - 1 - k)), .int (nI pl), .int ((mGuess row n cu q pl) - (mPrices row n pl))]) (rest := []) S (mr_isLoose l D dA h0 hr [.ref hp, .ref ha, .ref hf, .int (nI (recH hs)), .int (bI ias), .ref ht, .int (nI ln), .int (nI pa), .ref hd] ((z).1) wz (q - 1 - k) pl ((mGuess row n cu q pl) - (mPrices row n pl)) (by omega) (by omega)) (cwV 3 hts (lw_V q1275 q1277 qs49 q69 q1278) rfl rfl rfl hdX3_isLoose ⟨Nat.le_of_ble_eq_true rfl, Nat.le_of_ble_eq_true rfl⟩) ⟨bb_blind ka_bl _, va_recv K hP (ci := 3) (q0 := 0) rfl rfl, ka_pre K (hP.sub [0, 1] rfl) _⟩ rfl rfl hl.1 rfl (lv_room (Nat.le_of_ble_eq_true rfl)) dX3_dropLoose_96 ⟨by omega, by omega⟩) ?_
          refine x_ifb_eq (tgt := 108) hx hb dX3_dropLoose_99 (by decide) (fun h_9 => ?_) (fun h_9 => ?_)
          · refine lv_iinc (v := (nI (q - (k + 1))) - (nI 1)) (lv' := [(4, .int ((nI (q - (k + 1))) - (nI 1))), (0, .ref h0), (1, .int (nI pl)), (2, .int ((mGuess row n cu q pl) - (mPrices row n pl))), (3, .int (nI (dlN row n cu q pl ((mGuess row n cu q pl) - (mPrices row n pl)))))]) hx hb dX3_dropLoose_108 hl (k := 4) rfl (dl_dec (by omega)) (by decide) rfl (fun ls hl => ?_)
            refine lv_goto (tgt := 86) hx hb dX3_dropLoose_111 (by decide) ?_
            have hst : dlS n cu q pl ((mGuess row n cu q pl) - (mPrices row n pl)) k z = z := if_neg (by rw [h_9]; decide)
            rw [show ((z).1) = (dlS n cu q pl ((mGuess row n cu q pl) - (mPrices row n pl)) k z).1 from (by rw [hst])] at hP hD
            refine ih ls H locs ⟨?_, hP, hD, hS⟩
            show lv_has ls 5 [(0, .ref h0), (1, .int (nI pl)), (2, .int ((mGuess row n cu q pl) - (mPrices row n pl))), (3, .int (nI (dlN row n cu q pl ((mGuess row n cu q pl) - (mPrices row n pl))))), (4, .int ((nI (q - (k + 1))) - (nI 1)))]
            exact lv_sub hl [1, 2, 3, 4, 0] rfl
          · refine lv_aload_n hx hb dX3_dropLoose_102 rfl (lv_at hl 0 rfl) ?_
            refine lv_iload hx hb dX3_dropLoose_103 (lv_at hl 4 rfl) ?_
            refine x_wcall (wr := []) (va_runV (As := [.int (nI (q - 1 - k))]) (rest := []) S ((mw_dropOne l D dA h0 hr hp ha hf ht hd ((z).1) (recP past row hs) aside row txt rd (recH hs) ias ln pa wz (q - 1 - k) (by omega)) H.size) (cwV 1 hts (lw_V q1267 q1269 qs48 q69 q1270) rfl rfl rfl hdX3_dropOne ⟨Nat.le_of_ble_eq_true rfl, Nat.le_of_ble_eq_true rfl⟩) ⟨pw_blind _, va_recv K hP (ci := 3) (q0 := 0) rfl rfl, pw_pre K hP hD _⟩ rfl rfl hl.1 rfl (lv_room (Nat.le_of_ble_eq_true rfl)) dX3_dropLoose_105 ⟨Nat.le_of_ble_eq_true rfl, Nat.le_of_ble_eq_true rfl⟩) hP hD hS hA [0, 1, 2, 3, 4, 5, 6] [] rfl rfl (by decide) (by decide) (fun H locs hP hD hS hkp => ?_)
            have hP : va_P D vwCl [(h0, .inr (3, [.ref hr, .ref hp, .ref ha, .ref hf, .int (nI (recH hs)), .int (bI ias), .ref ht, .int (nI ln), .int (nI pa), .ref hd])), (hr, .inl (dA 0, 444, .inl (dOne ((z).1) z.2 (q - 1 - k)))), (hp, .inl (dA 0, 1776, .inl (recP past row hs))), (ha, .inl (dA 0, 444, .inl aside)), (hf, .inl (dA 0, 444, .inl row)), (ht, .inl (dA 3, 60, .inl txt)), (hd, .inl (dA 0, 8, .inl rd))] H := hP
            have hD : va_D A [(h0, .inr (3, [.ref hr, .ref hp, .ref ha, .ref hf, .int (nI (recH hs)), .int (bI ias), .ref ht, .int (nI ln), .int (nI pa), .ref hd])), (hr, .inl (dA 0, 444, .inl (dOne ((z).1) z.2 (q - 1 - k)))), (hp, .inl (dA 0, 1776, .inl (recP past row hs))), (ha, .inl (dA 0, 444, .inl aside)), (hf, .inl (dA 0, 444, .inl row)), (ht, .inl (dA 3, 60, .inl txt)), (hd, .inl (dA 0, 8, .inl rd))] := hD
            refine lv_iinc (v := (nI (q - (k + 1))) - (nI 1)) (lv' := [(4, .int ((nI (q - (k + 1))) - (nI 1))), (0, .ref h0), (1, .int (nI pl)), (2, .int ((mGuess row n cu q pl) - (mPrices row n pl))), (3, .int (nI (dlN row n cu q pl ((mGuess row n cu q pl) - (mPrices row n pl)))))]) hx hb dX3_dropLoose_108 hl (k := 4) rfl (dl_dec (by omega)) (by decide) rfl (fun ls hl => ?_)
            refine lv_goto (tgt := 86) hx hb dX3_dropLoose_111 (by decide) ?_
            have hst : dlS n cu q pl ((mGuess row n cu q pl) - (mPrices row n pl)) k z = (dOne z.1 z.2 (q - 1 - k), z.2 - 1) := if_pos h_9
            rw [show (dOne ((z).1) z.2 (q - 1 - k)) = (dlS n cu q pl ((mGuess row n cu q pl) - (mPrices row n pl)) k z).1 from (by rw [hst])] at hP hD
            refine ih ls H locs ⟨?_, hP, hD, hS⟩
            show lv_has ls 5 [(0, .ref h0), (1, .int (nI pl)), (2, .int ((mGuess row n cu q pl) - (mPrices row n pl))), (3, .int (nI (dlN row n cu q pl ((mGuess row n cu q pl) - (mPrices row n pl))))), (4, .int ((nI (q - (k + 1))) - (nI 1)))]
            exact lv_sub hl [1, 2, 3, 4, 0] rfl
        · intro ls H locs hI
          obtain ⟨hl, hP, hD, hS⟩ := hI
          have hl : lv_has ls 5 [(0, .ref h0), (1, .int (nI pl)), (2, .int ((mGuess row n cu q pl) - (mPrices row n pl))), (3, .int (nI (dlN row n cu q pl ((mGuess row n cu q pl) - (mPrices row n pl))))), (4, .int ((nI (q - q)) - (nI 1)))] := hl
          have hP : va_P D vwCl [(h0, .inr (3, [.ref hr, .ref hp, .ref ha, .ref hf, .int (nI (recH hs)), .int (bI ias), .ref ht, .int (nI ln), .int (nI pa), .ref hd])), (hr, .inl (dA 0, 444, .inl ((dlR row n cu q pl ((mGuess row n cu q pl) - (mPrices row n pl))).1))), (hp, .inl (dA 0, 1776, .inl (recP past row hs))), (ha, .inl (dA 0, 444, .inl aside)), (hf, .inl (dA 0, 444, .inl row)), (ht, .inl (dA 3, 60, .inl txt)), (hd, .inl (dA 0, 8, .inl rd))] H := hP
          have hD : va_D A [(h0, .inr (3, [.ref hr, .ref hp, .ref ha, .ref hf, .int (nI (recH hs)), .int (bI ias), .ref ht, .int (nI ln), .int (nI pa), .ref hd])), (hr, .inl (dA 0, 444, .inl ((dlR row n cu q pl ((mGuess row n cu q pl) - (mPrices row n pl))).1))), (hp, .inl (dA 0, 1776, .inl (recP past row hs))), (ha, .inl (dA 0, 444, .inl aside)), (hf, .inl (dA 0, 444, .inl row)), (ht, .inl (dA 3, 60, .inl txt)), (hd, .inl (dA 0, 8, .inl rd))] := hD
          rw [show (nI (q - q)) - (nI 1) = -1 from by rw [Nat.sub_self]; rfl] at hl
          have hl : lv_has ls 5 [(0, .ref h0), (1, .int (nI pl)), (2, .int ((mGuess row n cu q pl) - (mPrices row n pl))), (3, .int (nI (dlN row n cu q pl ((mGuess row n cu q pl) - (mPrices row n pl))))), (4, .int (-1))] := hl
          show W p l e (rmW 5 200 0 0) s m ([.ref h0]).toArray below meth c H locs 0 0 (MQ below (QW (some (.int (rDl row n cu q))) D (mW dA h0 hr hp ha hf ht hd (bif okDl row n cu q then dlRow row n cu q else row) (bif okDl row n cu q then recP past row hs else past) aside (bif okDl row n cu q then row else bef) txt rd (bif okDl row n cu q then recH hs else hs) ias ln pa) A) ([.ref h0]).toArray s 0 0 A) (F0 m 86 ls [])
          refine lv_iload hx hb dX3_dropLoose_86 (lv_at hl 4 rfl) ?_
          refine lv_if_lt (tgt := 114) hx hb dX3_dropLoose_88 (by decide) (fun _ => ?_) (fun h => absurd (by decide) h)
          refine lv_iload_n hx hb dX3_dropLoose_114 rfl (lv_at hl 3 rfl) ?_
          rw [show okDl row n cu q = true from (by simp [okDl, dlAb, h_1, h_6])]
          rw [show dlRow row n cu q = (dlR row n cu q pl ((mGuess row n cu q pl) - (mPrices row n pl))).1 from (by simp [dlRow, dlAb, h_1, h_6])]
          exact x_viret hx hb hrt hlk (by simp [rDl, dlAb, h_1, h_6]) hP hD hS dX3_dropLoose_115 (Nat.le_of_ble_eq_true rfl) (Nat.le_of_ble_eq_true rfl)
      · refine lv_bipush (v := -5) hx hb dX3_dropLoose_69 (by decide) ?_
        rw [show okDl row n cu q = false from (by simp [okDl, dlAb, h_1, h_6])]
        exact x_viret hx hb hrt hlk (by simp [rDl, dlAb, h_1, h_6]) hP hD hS dX3_dropLoose_71 (Nat.le_of_ble_eq_true rfl) (Nat.le_of_ble_eq_true rfl)
  · refine lv_bipush (v := -4) hx hb dX3_dropLoose_9 (by decide) ?_
    rw [show okDl row n cu q = false from (by simp [okDl, dlAb, h_1])]
    exact x_viret hx hb hrt hlk (by simp [rDl, dlAb, h_1]) hP hD hS dX3_dropLoose_11 (Nat.le_of_ble_eq_true rfl) (Nat.le_of_ble_eq_true rfl)

