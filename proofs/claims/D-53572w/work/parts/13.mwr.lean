set_option maxHeartbeats 4000000 in
theorem mw_remember (l : Launch) (D : va_G) (dA : Nat → ClassId) (h0 hr hp ha hf ht hd : Nat) (row past aside bef txt rd : Nat → Int32) (hs : Nat) (ias : Bool) (ln pa : Nat)  : WR l yX3_remember cX3_remember 2 none 0 0 0 0 [.ref h0] D dA (mW dA h0 hr hp ha hf ht hd row past aside bef txt rd hs ias ln pa) none (mW dA h0 hr hp ha hf ht hd row past aside row txt rd hs ias ln pa) := by
  refine wr_of (by decide) (Nat.le_of_ble_eq_true rfl) ?_
  intro p e s m below meth c A S hrt hlk K hA hAe H locs hP hD hS ls hl
  obtain ⟨hx, hb, hml, hown, hts⟩ := id S
  have hP : va_P D vwCl [(h0, .inr (3, [.ref hr, .ref hp, .ref ha, .ref hf, .int (nI hs), .int (bI ias), .ref ht, .int (nI ln), .int (nI pa), .ref hd])), (hr, .inl (dA 0, 444, .inl row)), (hp, .inl (dA 0, 1776, .inl past)), (ha, .inl (dA 0, 444, .inl aside)), (hf, .inl (dA 0, 444, .inl bef)), (ht, .inl (dA 3, 60, .inl txt)), (hd, .inl (dA 0, 8, .inl rd))] H := hP
  have hD : va_D A [(h0, .inr (3, [.ref hr, .ref hp, .ref ha, .ref hf, .int (nI hs), .int (bI ias), .ref ht, .int (nI ln), .int (nI pa), .ref hd])), (hr, .inl (dA 0, 444, .inl row)), (hp, .inl (dA 0, 1776, .inl past)), (ha, .inl (dA 0, 444, .inl aside)), (hf, .inl (dA 0, 444, .inl bef)), (ht, .inl (dA 3, 60, .inl txt)), (hd, .inl (dA 0, 8, .inl rd))] := hD
  have hl : lv_has ls 2 [(0, .ref h0)] := hl
  refine lv_iconst (v := nI 0) hx hb dX3_remember_0 (by decide) ?_
  refine lv_istore_n (lv' := [(1, .int (nI 0)), (0, .ref h0)]) hx hb dX3_remember_1 rfl hl (by decide) rfl (fun ls hl => ?_)
  refine lpW (fun k g => upd g k (row k)) bef 444 (fun k g ls H locs => lv_has ls 2 [(0, .ref h0), (1, .int (nI k))] ∧ va_P D vwCl [(h0, .inr (3, [.ref hr, .ref hp, .ref ha, .ref hf, .int (nI hs), .int (bI ias), .ref ht, .int (nI ln), .int (nI pa), .ref hd])), (hr, .inl (dA 0, 444, .inl row)), (hp, .inl (dA 0, 1776, .inl past)), (ha, .inl (dA 0, 444, .inl aside)), (hf, .inl (dA 0, 444, .inl g)), (ht, .inl (dA 3, 60, .inl txt)), (hd, .inl (dA 0, 8, .inl rd))] H ∧ va_D A [(h0, .inr (3, [.ref hr, .ref hp, .ref ha, .ref hf, .int (nI hs), .int (bI ias), .ref ht, .int (nI ln), .int (nI pa), .ref hd])), (hr, .inl (dA 0, 444, .inl row)), (hp, .inl (dA 0, 1776, .inl past)), (ha, .inl (dA 0, 444, .inl aside)), (hf, .inl (dA 0, 444, .inl g)), (ht, .inl (dA 3, 60, .inl txt)), (hd, .inl (dA 0, 8, .inl rd))] ∧ va_S A s.heap H locs) (fun ls H locs => W p l e (rmW 0 0 0 0) s m ([.ref h0]).toArray below meth c H locs 0 0 (MQ below (QW none D (mW dA h0 hr hp ha hf ht hd row past aside row txt rd hs ias ln pa) A) ([.ref h0]).toArray s 0 0 A) (F0 m 2 ls [])) ?_ ?_ ls H locs ⟨lv_sub hl [1, 0] rfl, hP, hD, hS⟩
  · intro k ls H locs hk_1 hI ih
    generalize iter (fun k g => upd g k (row k)) k 0 bef = g at *
    obtain ⟨hl, hP, hD, hS⟩ := hI
    have hl : lv_has ls 2 [(0, .ref h0), (1, .int (nI k))] := hl
    have hP : va_P D vwCl [(h0, .inr (3, [.ref hr, .ref hp, .ref ha, .ref hf, .int (nI hs), .int (bI ias), .ref ht, .int (nI ln), .int (nI pa), .ref hd])), (hr, .inl (dA 0, 444, .inl row)), (hp, .inl (dA 0, 1776, .inl past)), (ha, .inl (dA 0, 444, .inl aside)), (hf, .inl (dA 0, 444, .inl g)), (ht, .inl (dA 3, 60, .inl txt)), (hd, .inl (dA 0, 8, .inl rd))] H := hP
    have hD : va_D A [(h0, .inr (3, [.ref hr, .ref hp, .ref ha, .ref hf, .int (nI hs), .int (bI ias), .ref ht, .int (nI ln), .int (nI pa), .ref hd])), (hr, .inl (dA 0, 444, .inl row)), (hp, .inl (dA 0, 1776, .inl past)), (ha, .inl (dA 0, 444, .inl aside)), (hf, .inl (dA 0, 444, .inl g)), (ht, .inl (dA 3, 60, .inl txt)), (hd, .inl (dA 0, 8, .inl rd))] := hD
    show W p l e (rmW 0 0 0 0) s m ([.ref h0]).toArray below meth c H locs 0 0 (MQ below (QW none D (mW dA h0 hr hp ha hf ht hd row past aside row txt rd hs ias ln pa) A) ([.ref h0]).toArray s 0 0 A) (F0 m 2 ls [])
    refine lv_iload_n hx hb dX3_remember_2 rfl (lv_at hl 1 rfl) ?_
    refine lv_sipush (v := nI 444) hx hb dX3_remember_3 (by decide) ?_
    refine lv_icmp_ge (tgt := 27) hx hb dX3_remember_6 (by decide) (fun h => absurd h (nI_ge hk_1 (by omega))) (fun _ => ?_)
    refine lv_aload_n hx hb dX3_remember_9 rfl (lv_at hl 0 rfl) ?_
    refine va_get (D := D) (ci := 3) (C := RX3) (T := TX3) (N := 10) hx hb hts in_X3 hown K hP 0 rfl rfl 3 (by decide) (hts _ q1078) (fun _ h9 => h9) rfl dX3_remember_10 ?_
    refine lv_iload_n hx hb dX3_remember_13 rfl (lv_at hl 1 rfl) ?_
    refine lv_aload_n hx hb dX3_remember_14 rfl (lv_at hl 0 rfl) ?_
    refine va_get (D := D) (ci := 3) (C := RX3) (T := TX3) (N := 10) hx hb hts in_X3 hown K hP 0 rfl rfl 0 (by decide) (hts _ q1075) (fun _ h9 => h9) rfl dX3_remember_15 ?_
    refine lv_iload_n hx hb dX3_remember_18 rfl (lv_at hl 1 rfl) ?_
    refine x_iald hx hb K hP 1 0 rfl rfl k rfl (by omega) (by decide) rfl dX3_remember_19 ?_
    refine x_iast hx hb K hP hD hS 4 0 rfl rfl k rfl (by omega) (by decide) dX3_remember_20 (fun H locs hP hD hS => ?_)
    have hP : va_P D vwCl [(h0, .inr (3, [.ref hr, .ref hp, .ref ha, .ref hf, .int (nI hs), .int (bI ias), .ref ht, .int (nI ln), .int (nI pa), .ref hd])), (hr, .inl (dA 0, 444, .inl row)), (hp, .inl (dA 0, 1776, .inl past)), (ha, .inl (dA 0, 444, .inl aside)), (hf, .inl (dA 0, 444, .inl (upd g k (row k)))), (ht, .inl (dA 3, 60, .inl txt)), (hd, .inl (dA 0, 8, .inl rd))] H := hP
    have hD : va_D A [(h0, .inr (3, [.ref hr, .ref hp, .ref ha, .ref hf, .int (nI hs), .int (bI ias), .ref ht, .int (nI ln), .int (nI pa), .ref hd])), (hr, .inl (dA 0, 444, .inl row)), (hp, .inl (dA 0, 1776, .inl past)), (ha, .inl (dA 0, 444, .inl aside)), (hf, .inl (dA 0, 444, .inl (upd g k (row k)))), (ht, .inl (dA 3, 60, .inl txt)), (hd, .inl (dA 0, 8, .inl rd))] := hD
    refine lv_iinc (v := nI (k + 1)) (lv' := [(1, .int (nI (k + 1))), (0, .ref h0)]) hx hb dX3_remember_21 hl (k := 1) rfl (nI_1 k) (by decide) rfl (fun ls hl => ?_)
    refine lv_goto (tgt := 2) hx hb dX3_remember_24 (by decide) ?_
    refine ih ls H locs ⟨?_, hP, hD, hS⟩
    show lv_has ls 2 [(0, .ref h0), (1, .int (nI (k + 1)))]
    exact lv_sub hl [1, 0] rfl
  · intro ls H locs hI
    obtain ⟨hl, hP, hD, hS⟩ := hI
    rw [cp0_iter] at hP hD
    obtain ⟨hP, hD⟩ := arr_cg2 row 4 hP hD rfl (fun j hj => if_pos hj)
    have hl : lv_has ls 2 [(0, .ref h0), (1, .int (nI 444))] := hl
    have hP : va_P D vwCl [(h0, .inr (3, [.ref hr, .ref hp, .ref ha, .ref hf, .int (nI hs), .int (bI ias), .ref ht, .int (nI ln), .int (nI pa), .ref hd])), (hr, .inl (dA 0, 444, .inl row)), (hp, .inl (dA 0, 1776, .inl past)), (ha, .inl (dA 0, 444, .inl aside)), (hf, .inl (dA 0, 444, .inl row)), (ht, .inl (dA 3, 60, .inl txt)), (hd, .inl (dA 0, 8, .inl rd))] H := hP
    have hD : va_D A [(h0, .inr (3, [.ref hr, .ref hp, .ref ha, .ref hf, .int (nI hs), .int (bI ias), .ref ht, .int (nI ln), .int (nI pa), .ref hd])), (hr, .inl (dA 0, 444, .inl row)), (hp, .inl (dA 0, 1776, .inl past)), (ha, .inl (dA 0, 444, .inl aside)), (hf, .inl (dA 0, 444, .inl row)), (ht, .inl (dA 3, 60, .inl txt)), (hd, .inl (dA 0, 8, .inl rd))] := hD
    show W p l e (rmW 0 0 0 0) s m ([.ref h0]).toArray below meth c H locs 0 0 (MQ below (QW none D (mW dA h0 hr hp ha hf ht hd row past aside row txt rd hs ias ln pa) A) ([.ref h0]).toArray s 0 0 A) (F0 m 2 ls [])
    refine lv_iload_n hx hb dX3_remember_2 rfl (lv_at hl 1 rfl) ?_
    refine lv_sipush (v := nI 444) hx hb dX3_remember_3 (by decide) ?_
    refine lv_icmp_ge (tgt := 27) hx hb dX3_remember_6 (by decide) (fun _ => ?_) (fun h => absurd (by decide) h)
    exact x_vvret hx hb hrt hlk hP hD hS dX3_remember_27 (Nat.le_of_ble_eq_true rfl) (Nat.le_of_ble_eq_true rfl)

set_option maxHeartbeats 4000000 in
theorem mw_goBack (l : Launch) (D : va_G) (dA : Nat → ClassId) (h0 hr hp ha hf ht hd : Nat) (row past aside bef txt rd : Nat → Int32) (hs : Nat) (ias : Bool) (ln pa : Nat)  : WR l yX3_goBack cX3_goBack 2 none 0 0 0 0 [.ref h0] D dA (mW dA h0 hr hp ha hf ht hd row past aside bef txt rd hs ias ln pa) none (mW dA h0 hr hp ha hf ht hd bef past aside bef txt rd hs ias ln pa) := by
  refine wr_of (by decide) (Nat.le_of_ble_eq_true rfl) ?_
  intro p e s m below meth c A S hrt hlk K hA hAe H locs hP hD hS ls hl
  obtain ⟨hx, hb, hml, hown, hts⟩ := id S
  have hP : va_P D vwCl [(h0, .inr (3, [.ref hr, .ref hp, .ref ha, .ref hf, .int (nI hs), .int (bI ias), .ref ht, .int (nI ln), .int (nI pa), .ref hd])), (hr, .inl (dA 0, 444, .inl row)), (hp, .inl (dA 0, 1776, .inl past)), (ha, .inl (dA 0, 444, .inl aside)), (hf, .inl (dA 0, 444, .inl bef)), (ht, .inl (dA 3, 60, .inl txt)), (hd, .inl (dA 0, 8, .inl rd))] H := hP
  have hD : va_D A [(h0, .inr (3, [.ref hr, .ref hp, .ref ha, .ref hf, .int (nI hs), .int (bI ias), .ref ht, .int (nI ln), .int (nI pa), .ref hd])), (hr, .inl (dA 0, 444, .inl row)), (hp, .inl (dA 0, 1776, .inl past)), (ha, .inl (dA 0, 444, .inl aside)), (hf, .inl (dA 0, 444, .inl bef)), (ht, .inl (dA 3, 60, .inl txt)), (hd, .inl (dA 0, 8, .inl rd))] := hD
  have hl : lv_has ls 2 [(0, .ref h0)] := hl
  refine lv_iconst (v := nI 0) hx hb dX3_goBack_0 (by decide) ?_
  refine lv_istore_n (lv' := [(1, .int (nI 0)), (0, .ref h0)]) hx hb dX3_goBack_1 rfl hl (by decide) rfl (fun ls hl => ?_)
  refine lpW (fun k g => upd g k (bef k)) row 444 (fun k g ls H locs => lv_has ls 2 [(0, .ref h0), (1, .int (nI k))] ∧ va_P D vwCl [(h0, .inr (3, [.ref hr, .ref hp, .ref ha, .ref hf, .int (nI hs), .int (bI ias), .ref ht, .int (nI ln), .int (nI pa), .ref hd])), (hr, .inl (dA 0, 444, .inl g)), (hp, .inl (dA 0, 1776, .inl past)), (ha, .inl (dA 0, 444, .inl aside)), (hf, .inl (dA 0, 444, .inl bef)), (ht, .inl (dA 3, 60, .inl txt)), (hd, .inl (dA 0, 8, .inl rd))] H ∧ va_D A [(h0, .inr (3, [.ref hr, .ref hp, .ref ha, .ref hf, .int (nI hs), .int (bI ias), .ref ht, .int (nI ln), .int (nI pa), .ref hd])), (hr, .inl (dA 0, 444, .inl g)), (hp, .inl (dA 0, 1776, .inl past)), (ha, .inl (dA 0, 444, .inl aside)), (hf, .inl (dA 0, 444, .inl bef)), (ht, .inl (dA 3, 60, .inl txt)), (hd, .inl (dA 0, 8, .inl rd))] ∧ va_S A s.heap H locs) (fun ls H locs => W p l e (rmW 0 0 0 0) s m ([.ref h0]).toArray below meth c H locs 0 0 (MQ below (QW none D (mW dA h0 hr hp ha hf ht hd bef past aside bef txt rd hs ias ln pa) A) ([.ref h0]).toArray s 0 0 A) (F0 m 2 ls [])) ?_ ?_ ls H locs ⟨lv_sub hl [1, 0] rfl, hP, hD, hS⟩
  · intro k ls H locs hk_1 hI ih
    generalize iter (fun k g => upd g k (bef k)) k 0 row = g at *
    obtain ⟨hl, hP, hD, hS⟩ := hI
    have hl : lv_has ls 2 [(0, .ref h0), (1, .int (nI k))] := hl
    have hP : va_P D vwCl [(h0, .inr (3, [.ref hr, .ref hp, .ref ha, .ref hf, .int (nI hs), .int (bI ias), .ref ht, .int (nI ln), .int (nI pa), .ref hd])), (hr, .inl (dA 0, 444, .inl g)), (hp, .inl (dA 0, 1776, .inl past)), (ha, .inl (dA 0, 444, .inl aside)), (hf, .inl (dA 0, 444, .inl bef)), (ht, .inl (dA 3, 60, .inl txt)), (hd, .inl (dA 0, 8, .inl rd))] H := hP
    have hD : va_D A [(h0, .inr (3, [.ref hr, .ref hp, .ref ha, .ref hf, .int (nI hs), .int (bI ias), .ref ht, .int (nI ln), .int (nI pa), .ref hd])), (hr, .inl (dA 0, 444, .inl g)), (hp, .inl (dA 0, 1776, .inl past)), (ha, .inl (dA 0, 444, .inl aside)), (hf, .inl (dA 0, 444, .inl bef)), (ht, .inl (dA 3, 60, .inl txt)), (hd, .inl (dA 0, 8, .inl rd))] := hD
    show W p l e (rmW 0 0 0 0) s m ([.ref h0]).toArray below meth c H locs 0 0 (MQ below (QW none D (mW dA h0 hr hp ha hf ht hd bef past aside bef txt rd hs ias ln pa) A) ([.ref h0]).toArray s 0 0 A) (F0 m 2 ls [])
    refine lv_iload_n hx hb dX3_goBack_2 rfl (lv_at hl 1 rfl) ?_
    refine lv_sipush (v := nI 444) hx hb dX3_goBack_3 (by decide) ?_
    refine lv_icmp_ge (tgt := 27) hx hb dX3_goBack_6 (by decide) (fun h => absurd h (nI_ge hk_1 (by omega))) (fun _ => ?_)
    refine lv_aload_n hx hb dX3_goBack_9 rfl (lv_at hl 0 rfl) ?_
    refine va_get (D := D) (ci := 3) (C := RX3) (T := TX3) (N := 10) hx hb hts in_X3 hown K hP 0 rfl rfl 0 (by decide) (hts _ q1075) (fun _ h9 => h9) rfl dX3_goBack_10 ?_
    refine lv_iload_n hx hb dX3_goBack_13 rfl (lv_at hl 1 rfl) ?_
    refine lv_aload_n hx hb dX3_goBack_14 rfl (lv_at hl 0 rfl) ?_
    refine va_get (D := D) (ci := 3) (C := RX3) (T := TX3) (N := 10) hx hb hts in_X3 hown K hP 0 rfl rfl 3 (by decide) (hts _ q1078) (fun _ h9 => h9) rfl dX3_goBack_15 ?_
    refine lv_iload_n hx hb dX3_goBack_18 rfl (lv_at hl 1 rfl) ?_
    refine x_iald hx hb K hP 4 0 rfl rfl k rfl (by omega) (by decide) rfl dX3_goBack_19 ?_
    refine x_iast hx hb K hP hD hS 1 0 rfl rfl k rfl (by omega) (by decide) dX3_goBack_20 (fun H locs hP hD hS => ?_)
    have hP : va_P D vwCl [(h0, .inr (3, [.ref hr, .ref hp, .ref ha, .ref hf, .int (nI hs), .int (bI ias), .ref ht, .int (nI ln), .int (nI pa), .ref hd])), (hr, .inl (dA 0, 444, .inl (upd g k (bef k)))), (hp, .inl (dA 0, 1776, .inl past)), (ha, .inl (dA 0, 444, .inl aside)), (hf, .inl (dA 0, 444, .inl bef)), (ht, .inl (dA 3, 60, .inl txt)), (hd, .inl (dA 0, 8, .inl rd))] H := hP
    have hD : va_D A [(h0, .inr (3, [.ref hr, .ref hp, .ref ha, .ref hf, .int (nI hs), .int (bI ias), .ref ht, .int (nI ln), .int (nI pa), .ref hd])), (hr, .inl (dA 0, 444, .inl (upd g k (bef k)))), (hp, .inl (dA 0, 1776, .inl past)), (ha, .inl (dA 0, 444, .inl aside)), (hf, .inl (dA 0, 444, .inl bef)), (ht, .inl (dA 3, 60, .inl txt)), (hd, .inl (dA 0, 8, .inl rd))] := hD
    refine lv_iinc (v := nI (k + 1)) (lv' := [(1, .int (nI (k + 1))), (0, .ref h0)]) hx hb dX3_goBack_21 hl (k := 1) rfl (nI_1 k) (by decide) rfl (fun ls hl => ?_)
    refine lv_goto (tgt := 2) hx hb dX3_goBack_24 (by decide) ?_
    refine ih ls H locs ⟨?_, hP, hD, hS⟩
    show lv_has ls 2 [(0, .ref h0), (1, .int (nI (k + 1)))]
    exact lv_sub hl [1, 0] rfl
  · intro ls H locs hI
    obtain ⟨hl, hP, hD, hS⟩ := hI
    rw [cp0_iter] at hP hD
    obtain ⟨hP, hD⟩ := arr_cg2 bef 1 hP hD rfl (fun j hj => if_pos hj)
    have hl : lv_has ls 2 [(0, .ref h0), (1, .int (nI 444))] := hl
    have hP : va_P D vwCl [(h0, .inr (3, [.ref hr, .ref hp, .ref ha, .ref hf, .int (nI hs), .int (bI ias), .ref ht, .int (nI ln), .int (nI pa), .ref hd])), (hr, .inl (dA 0, 444, .inl bef)), (hp, .inl (dA 0, 1776, .inl past)), (ha, .inl (dA 0, 444, .inl aside)), (hf, .inl (dA 0, 444, .inl bef)), (ht, .inl (dA 3, 60, .inl txt)), (hd, .inl (dA 0, 8, .inl rd))] H := hP
    have hD : va_D A [(h0, .inr (3, [.ref hr, .ref hp, .ref ha, .ref hf, .int (nI hs), .int (bI ias), .ref ht, .int (nI ln), .int (nI pa), .ref hd])), (hr, .inl (dA 0, 444, .inl bef)), (hp, .inl (dA 0, 1776, .inl past)), (ha, .inl (dA 0, 444, .inl aside)), (hf, .inl (dA 0, 444, .inl bef)), (ht, .inl (dA 3, 60, .inl txt)), (hd, .inl (dA 0, 8, .inl rd))] := hD
    show W p l e (rmW 0 0 0 0) s m ([.ref h0]).toArray below meth c H locs 0 0 (MQ below (QW none D (mW dA h0 hr hp ha hf ht hd bef past aside bef txt rd hs ias ln pa) A) ([.ref h0]).toArray s 0 0 A) (F0 m 2 ls [])
    refine lv_iload_n hx hb dX3_goBack_2 rfl (lv_at hl 1 rfl) ?_
    refine lv_sipush (v := nI 444) hx hb dX3_goBack_3 (by decide) ?_
    refine lv_icmp_ge (tgt := 27) hx hb dX3_goBack_6 (by decide) (fun _ => ?_) (fun h => absurd (by decide) h)
    exact x_vvret hx hb hrt hlk hP hD hS dX3_goBack_27 (Nat.le_of_ble_eq_true rfl) (Nat.le_of_ble_eq_true rfl)

set_option maxHeartbeats 4000000 in
theorem mw_record (l : Launch) (D : va_G) (dA : Nat → ClassId) (h0 hr hp ha hf ht hd : Nat) (row past aside bef txt rd : Nat → Int32) (hs : Nat) (ias : Bool) (ln pa : Nat) (hhs : hs ≤ 4) : WR l yX3_record cX3_record 2 none 0 0 0 0 [.ref h0] D dA (mW dA h0 hr hp ha hf ht hd row past aside bef txt rd hs ias ln pa) none (mW dA h0 hr hp ha hf ht hd row (recP past bef hs) aside bef txt rd (recH hs) ias ln pa) := by
  refine wr_of (by decide) (Nat.le_of_ble_eq_true rfl) ?_
  intro p e s m below meth c A S hrt hlk K hA hAe H locs hP hD hS ls hl
  obtain ⟨hx, hb, hml, hown, hts⟩ := id S
  have hP : va_P D vwCl [(h0, .inr (3, [.ref hr, .ref hp, .ref ha, .ref hf, .int (nI hs), .int (bI ias), .ref ht, .int (nI ln), .int (nI pa), .ref hd])), (hr, .inl (dA 0, 444, .inl row)), (hp, .inl (dA 0, 1776, .inl past)), (ha, .inl (dA 0, 444, .inl aside)), (hf, .inl (dA 0, 444, .inl bef)), (ht, .inl (dA 3, 60, .inl txt)), (hd, .inl (dA 0, 8, .inl rd))] H := hP
  have hD : va_D A [(h0, .inr (3, [.ref hr, .ref hp, .ref ha, .ref hf, .int (nI hs), .int (bI ias), .ref ht, .int (nI ln), .int (nI pa), .ref hd])), (hr, .inl (dA 0, 444, .inl row)), (hp, .inl (dA 0, 1776, .inl past)), (ha, .inl (dA 0, 444, .inl aside)), (hf, .inl (dA 0, 444, .inl bef)), (ht, .inl (dA 3, 60, .inl txt)), (hd, .inl (dA 0, 8, .inl rd))] := hD
  have hl : lv_has ls 2 [(0, .ref h0)] := hl
  refine lv_aload_n hx hb dX3_record_0 rfl (lv_at hl 0 rfl) ?_
  refine va_get (D := D) (ci := 3) (C := RX3) (T := TX3) (N := 10) hx hb hts in_X3 hown K hP 0 rfl rfl 4 (by decide) (hts _ q1079) (fun _ h9 => h9) rfl dX3_record_1 ?_
  refine lv_iconst (v := nI 4) hx hb dX3_record_4 (by decide) ?_
  refine lv_icmp_ne (tgt := 49) hx hb dX3_record_5 (by decide) (fun h_1 => ?_) (fun h_1 => ?_)
  · have hne : ¬ hs = 4 := fun q => h_1 (by rw [q])
    refine lv_iconst (v := nI 0) hx hb dX3_record_49 (by decide) ?_
    refine lv_istore_n (lv' := [(1, .int (nI 0)), (0, .ref h0)]) hx hb dX3_record_50 rfl hl (by decide) rfl (fun ls hl => ?_)
    refine lpW (fun k g => upd g (444 * hs + k) (bef k)) past 444 (fun k g ls H locs => lv_has ls 2 [(0, .ref h0), (1, .int (nI k))] ∧ va_P D vwCl [(h0, .inr (3, [.ref hr, .ref hp, .ref ha, .ref hf, .int (nI hs), .int (bI ias), .ref ht, .int (nI ln), .int (nI pa), .ref hd])), (hr, .inl (dA 0, 444, .inl row)), (hp, .inl (dA 0, 1776, .inl g)), (ha, .inl (dA 0, 444, .inl aside)), (hf, .inl (dA 0, 444, .inl bef)), (ht, .inl (dA 3, 60, .inl txt)), (hd, .inl (dA 0, 8, .inl rd))] H ∧ va_D A [(h0, .inr (3, [.ref hr, .ref hp, .ref ha, .ref hf, .int (nI hs), .int (bI ias), .ref ht, .int (nI ln), .int (nI pa), .ref hd])), (hr, .inl (dA 0, 444, .inl row)), (hp, .inl (dA 0, 1776, .inl g)), (ha, .inl (dA 0, 444, .inl aside)), (hf, .inl (dA 0, 444, .inl bef)), (ht, .inl (dA 3, 60, .inl txt)), (hd, .inl (dA 0, 8, .inl rd))] ∧ va_S A s.heap H locs) (fun ls H locs => W p l e (rmW 0 0 0 0) s m ([.ref h0]).toArray below meth c H locs 0 0 (MQ below (QW none D (mW dA h0 hr hp ha hf ht hd row (recP past bef hs) aside bef txt rd (recH hs) ias ln pa) A) ([.ref h0]).toArray s 0 0 A) (F0 m 51 ls [])) ?_ ?_ ls H locs ⟨lv_sub hl [1, 0] rfl, hP, hD, hS⟩
    · intro k ls H locs hk_2 hI ih
      generalize iter (fun k g => upd g (444 * hs + k) (bef k)) k 0 past = g at *
      obtain ⟨hl, hP, hD, hS⟩ := hI
      have hl : lv_has ls 2 [(0, .ref h0), (1, .int (nI k))] := hl
      have hP : va_P D vwCl [(h0, .inr (3, [.ref hr, .ref hp, .ref ha, .ref hf, .int (nI hs), .int (bI ias), .ref ht, .int (nI ln), .int (nI pa), .ref hd])), (hr, .inl (dA 0, 444, .inl row)), (hp, .inl (dA 0, 1776, .inl g)), (ha, .inl (dA 0, 444, .inl aside)), (hf, .inl (dA 0, 444, .inl bef)), (ht, .inl (dA 3, 60, .inl txt)), (hd, .inl (dA 0, 8, .inl rd))] H := hP
      have hD : va_D A [(h0, .inr (3, [.ref hr, .ref hp, .ref ha, .ref hf, .int (nI hs), .int (bI ias), .ref ht, .int (nI ln), .int (nI pa), .ref hd])), (hr, .inl (dA 0, 444, .inl row)), (hp, .inl (dA 0, 1776, .inl g)), (ha, .inl (dA 0, 444, .inl aside)), (hf, .inl (dA 0, 444, .inl bef)), (ht, .inl (dA 3, 60, .inl txt)), (hd, .inl (dA 0, 8, .inl rd))] := hD
      show W p l e (rmW 0 0 0 0) s m ([.ref h0]).toArray below meth c H locs 0 0 (MQ below (QW none D (mW dA h0 hr hp ha hf ht hd row (recP past bef hs) aside bef txt rd (recH hs) ias ln pa) A) ([.ref h0]).toArray s 0 0 A) (F0 m 51 ls [])
      refine lv_iload_n hx hb dX3_record_51 rfl (lv_at hl 1 rfl) ?_
      refine lv_sipush (v := nI 444) hx hb dX3_record_52 (by decide) ?_
      refine lv_icmp_ge (tgt := 85) hx hb dX3_record_55 (by decide) (fun h => absurd h (nI_ge hk_2 (by omega))) (fun _ => ?_)
      refine lv_aload_n hx hb dX3_record_58 rfl (lv_at hl 0 rfl) ?_
      refine va_get (D := D) (ci := 3) (C := RX3) (T := TX3) (N := 10) hx hb hts in_X3 hown K hP 0 rfl rfl 1 (by decide) (hts _ q1076) (fun _ h9 => h9) rfl dX3_record_59 ?_
      refine lv_sipush (v := nI 444) hx hb dX3_record_62 (by decide) ?_
      refine lv_aload_n hx hb dX3_record_65 rfl (lv_at hl 0 rfl) ?_
      refine va_get (D := D) (ci := 3) (C := RX3) (T := TX3) (N := 10) hx hb hts in_X3 hown K hP 0 rfl rfl 4 (by decide) (hts _ q1079) (fun _ h9 => h9) rfl dX3_record_66 ?_
      refine x_mulN hx hb dX3_record_69 ?_
      refine lv_iload_n hx hb dX3_record_70 rfl (lv_at hl 1 rfl) ?_
      refine x_addN hx hb dX3_record_71 ?_
      refine lv_aload_n hx hb dX3_record_72 rfl (lv_at hl 0 rfl) ?_
      refine va_get (D := D) (ci := 3) (C := RX3) (T := TX3) (N := 10) hx hb hts in_X3 hown K hP 0 rfl rfl 3 (by decide) (hts _ q1078) (fun _ h9 => h9) rfl dX3_record_73 ?_
      refine lv_iload_n hx hb dX3_record_76 rfl (lv_at hl 1 rfl) ?_
      refine x_iald hx hb K hP 4 0 rfl rfl k rfl (by omega) (by decide) rfl dX3_record_77 ?_
      refine x_iast hx hb K hP hD hS 2 0 rfl rfl ((444 * hs) + k) rfl (by omega) (by decide) dX3_record_78 (fun H locs hP hD hS => ?_)
      have hP : va_P D vwCl [(h0, .inr (3, [.ref hr, .ref hp, .ref ha, .ref hf, .int (nI hs), .int (bI ias), .ref ht, .int (nI ln), .int (nI pa), .ref hd])), (hr, .inl (dA 0, 444, .inl row)), (hp, .inl (dA 0, 1776, .inl (upd g ((444 * hs) + k) (bef k)))), (ha, .inl (dA 0, 444, .inl aside)), (hf, .inl (dA 0, 444, .inl bef)), (ht, .inl (dA 3, 60, .inl txt)), (hd, .inl (dA 0, 8, .inl rd))] H := hP
      have hD : va_D A [(h0, .inr (3, [.ref hr, .ref hp, .ref ha, .ref hf, .int (nI hs), .int (bI ias), .ref ht, .int (nI ln), .int (nI pa), .ref hd])), (hr, .inl (dA 0, 444, .inl row)), (hp, .inl (dA 0, 1776, .inl (upd g ((444 * hs) + k) (bef k)))), (ha, .inl (dA 0, 444, .inl aside)), (hf, .inl (dA 0, 444, .inl bef)), (ht, .inl (dA 3, 60, .inl txt)), (hd, .inl (dA 0, 8, .inl rd))] := hD
      refine lv_iinc (v := nI (k + 1)) (lv' := [(1, .int (nI (k + 1))), (0, .ref h0)]) hx hb dX3_record_79 hl (k := 1) rfl (nI_1 k) (by decide) rfl (fun ls hl => ?_)
      refine lv_goto (tgt := 51) hx hb dX3_record_82 (by decide) ?_
      refine ih ls H locs ⟨?_, hP, hD, hS⟩
      show lv_has ls 2 [(0, .ref h0), (1, .int (nI (k + 1)))]
      exact lv_sub hl [1, 0] rfl
    · intro ls H locs hI
      obtain ⟨hl, hP, hD, hS⟩ := hI
      rw [cp_iter] at hP hD
      have hl : lv_has ls 2 [(0, .ref h0), (1, .int (nI 444))] := hl
      have hP : va_P D vwCl [(h0, .inr (3, [.ref hr, .ref hp, .ref ha, .ref hf, .int (nI hs), .int (bI ias), .ref ht, .int (nI ln), .int (nI pa), .ref hd])), (hr, .inl (dA 0, 444, .inl row)), (hp, .inl (dA 0, 1776, .inl (fun j => if 444 * hs ≤ j ∧ j < 444 * hs + 444 then bef (j - 444 * hs) else past j))), (ha, .inl (dA 0, 444, .inl aside)), (hf, .inl (dA 0, 444, .inl bef)), (ht, .inl (dA 3, 60, .inl txt)), (hd, .inl (dA 0, 8, .inl rd))] H := hP
      have hD : va_D A [(h0, .inr (3, [.ref hr, .ref hp, .ref ha, .ref hf, .int (nI hs), .int (bI ias), .ref ht, .int (nI ln), .int (nI pa), .ref hd])), (hr, .inl (dA 0, 444, .inl row)), (hp, .inl (dA 0, 1776, .inl (fun j => if 444 * hs ≤ j ∧ j < 444 * hs + 444 then bef (j - 444 * hs) else past j))), (ha, .inl (dA 0, 444, .inl aside)), (hf, .inl (dA 0, 444, .inl bef)), (ht, .inl (dA 3, 60, .inl txt)), (hd, .inl (dA 0, 8, .inl rd))] := hD
      show W p l e (rmW 0 0 0 0) s m ([.ref h0]).toArray below meth c H locs 0 0 (MQ below (QW none D (mW dA h0 hr hp ha hf ht hd row (recP past bef hs) aside bef txt rd (recH hs) ias ln pa) A) ([.ref h0]).toArray s 0 0 A) (F0 m 51 ls [])
      refine lv_iload_n hx hb dX3_record_51 rfl (lv_at hl 1 rfl) ?_
      refine lv_sipush (v := nI 444) hx hb dX3_record_52 (by decide) ?_
      refine lv_icmp_ge (tgt := 85) hx hb dX3_record_55 (by decide) (fun _ => ?_) (fun h => absurd (by decide) h)
      refine lv_aload_n hx hb dX3_record_85 rfl (lv_at hl 0 rfl) ?_
      refine lv_dup hx hb dX3_record_86 rfl ?_
      refine va_get (D := D) (ci := 3) (C := RX3) (T := TX3) (N := 10) hx hb hts in_X3 hown K hP 0 rfl rfl 4 (by decide) (hts _ q1079) (fun _ h9 => h9) rfl dX3_record_87 ?_
      refine lv_iconst (v := nI 1) hx hb dX3_record_90 (by decide) ?_
      refine x_addN hx hb dX3_record_91 ?_
      refine va_put (D := D) (ci := 3) (v := .int (nI (hs + 1))) (ty := .int) (C := RX3) (T := TX3) (N := 10) hx hb hts in_X3 tyX3 tyX3_ok nmX3 hown K hP hD hS 0 rfl rfl 4 (by decide) (hts _ q1079) (fun _ h9 => h9) rfl (by decide +kernel) rfl rfl (Nat.le_of_ble_eq_true rfl) dX3_record_92 (fun H locs hP hD hS => ?_)
      have hP : va_P D vwCl [(h0, .inr (3, [.ref hr, .ref hp, .ref ha, .ref hf, .int (nI (hs + 1)), .int (bI ias), .ref ht, .int (nI ln), .int (nI pa), .ref hd])), (hr, .inl (dA 0, 444, .inl row)), (hp, .inl (dA 0, 1776, .inl (fun j => if 444 * hs ≤ j ∧ j < 444 * hs + 444 then bef (j - 444 * hs) else past j))), (ha, .inl (dA 0, 444, .inl aside)), (hf, .inl (dA 0, 444, .inl bef)), (ht, .inl (dA 3, 60, .inl txt)), (hd, .inl (dA 0, 8, .inl rd))] H := hP
      have hD : va_D A [(h0, .inr (3, [.ref hr, .ref hp, .ref ha, .ref hf, .int (nI (hs + 1)), .int (bI ias), .ref ht, .int (nI ln), .int (nI pa), .ref hd])), (hr, .inl (dA 0, 444, .inl row)), (hp, .inl (dA 0, 1776, .inl (fun j => if 444 * hs ≤ j ∧ j < 444 * hs + 444 then bef (j - 444 * hs) else past j))), (ha, .inl (dA 0, 444, .inl aside)), (hf, .inl (dA 0, 444, .inl bef)), (ht, .inl (dA 3, 60, .inl txt)), (hd, .inl (dA 0, 8, .inl rd))] := hD
      have eF0 : recH hs = hs + 1 := by rw [recH, if_neg hne]
      rw [eF0]
      have eF1 : recP past bef hs = fun j => if 444 * hs ≤ j ∧ j < 444 * hs + 444 then bef (j - 444 * hs) else past j := by rw [recP, if_neg hne]
      rw [eF1]
      exact x_vvret hx hb hrt hlk hP hD hS dX3_record_95 (Nat.le_of_ble_eq_true rfl) (Nat.le_of_ble_eq_true rfl)
  · have heq : hs = 4 := (nI_eq (by omega) (by decide)).mp h_1
    refine lv_iconst (v := nI 0) hx hb dX3_record_8 (by decide) ?_
    refine lv_istore_n (lv' := [(1, .int (nI 0)), (0, .ref h0)]) hx hb dX3_record_9 rfl hl (by decide) rfl (fun ls hl => ?_)
    refine lpW (fun k g => upd g k (g (444 + k))) past 1332 (fun k g ls H locs => lv_has ls 2 [(0, .ref h0), (1, .int (nI k))] ∧ va_P D vwCl [(h0, .inr (3, [.ref hr, .ref hp, .ref ha, .ref hf, .int (nI hs), .int (bI ias), .ref ht, .int (nI ln), .int (nI pa), .ref hd])), (hr, .inl (dA 0, 444, .inl row)), (hp, .inl (dA 0, 1776, .inl g)), (ha, .inl (dA 0, 444, .inl aside)), (hf, .inl (dA 0, 444, .inl bef)), (ht, .inl (dA 3, 60, .inl txt)), (hd, .inl (dA 0, 8, .inl rd))] H ∧ va_D A [(h0, .inr (3, [.ref hr, .ref hp, .ref ha, .ref hf, .int (nI hs), .int (bI ias), .ref ht, .int (nI ln), .int (nI pa), .ref hd])), (hr, .inl (dA 0, 444, .inl row)), (hp, .inl (dA 0, 1776, .inl g)), (ha, .inl (dA 0, 444, .inl aside)), (hf, .inl (dA 0, 444, .inl bef)), (ht, .inl (dA 3, 60, .inl txt)), (hd, .inl (dA 0, 8, .inl rd))] ∧ va_S A s.heap H locs) (fun ls H locs => W p l e (rmW 0 0 0 0) s m ([.ref h0]).toArray below meth c H locs 0 0 (MQ below (QW none D (mW dA h0 hr hp ha hf ht hd row (recP past bef hs) aside bef txt rd (recH hs) ias ln pa) A) ([.ref h0]).toArray s 0 0 A) (F0 m 10 ls [])) ?_ ?_ ls H locs ⟨lv_sub hl [1, 0] rfl, hP, hD, hS⟩
    · intro k ls H locs hk_5 hI ih
      generalize iter (fun k g => upd g k (g (444 + k))) k 0 past = g at *
      obtain ⟨hl, hP, hD, hS⟩ := hI
      have hl : lv_has ls 2 [(0, .ref h0), (1, .int (nI k))] := hl
      have hP : va_P D vwCl [(h0, .inr (3, [.ref hr, .ref hp, .ref ha, .ref hf, .int (nI hs), .int (bI ias), .ref ht, .int (nI ln), .int (nI pa), .ref hd])), (hr, .inl (dA 0, 444, .inl row)), (hp, .inl (dA 0, 1776, .inl g)), (ha, .inl (dA 0, 444, .inl aside)), (hf, .inl (dA 0, 444, .inl bef)), (ht, .inl (dA 3, 60, .inl txt)), (hd, .inl (dA 0, 8, .inl rd))] H := hP
      have hD : va_D A [(h0, .inr (3, [.ref hr, .ref hp, .ref ha, .ref hf, .int (nI hs), .int (bI ias), .ref ht, .int (nI ln), .int (nI pa), .ref hd])), (hr, .inl (dA 0, 444, .inl row)), (hp, .inl (dA 0, 1776, .inl g)), (ha, .inl (dA 0, 444, .inl aside)), (hf, .inl (dA 0, 444, .inl bef)), (ht, .inl (dA 3, 60, .inl txt)), (hd, .inl (dA 0, 8, .inl rd))] := hD
      show W p l e (rmW 0 0 0 0) s m ([.ref h0]).toArray below meth c H locs 0 0 (MQ below (QW none D (mW dA h0 hr hp ha hf ht hd row (recP past bef hs) aside bef txt rd (recH hs) ias ln pa) A) ([.ref h0]).toArray s 0 0 A) (F0 m 10 ls [])
      refine lv_iload_n hx hb dX3_record_10 rfl (lv_at hl 1 rfl) ?_
      refine lv_sipush (v := nI 1332) hx hb dX3_record_11 (by decide) ?_
      refine lv_icmp_ge (tgt := 39) hx hb dX3_record_14 (by decide) (fun h => absurd h (nI_ge hk_5 (by omega))) (fun _ => ?_)
      refine lv_aload_n hx hb dX3_record_17 rfl (lv_at hl 0 rfl) ?_
      refine va_get (D := D) (ci := 3) (C := RX3) (T := TX3) (N := 10) hx hb hts in_X3 hown K hP 0 rfl rfl 1 (by decide) (hts _ q1076) (fun _ h9 => h9) rfl dX3_record_18 ?_
      refine lv_iload_n hx hb dX3_record_21 rfl (lv_at hl 1 rfl) ?_
      refine lv_aload_n hx hb dX3_record_22 rfl (lv_at hl 0 rfl) ?_
      refine va_get (D := D) (ci := 3) (C := RX3) (T := TX3) (N := 10) hx hb hts in_X3 hown K hP 0 rfl rfl 1 (by decide) (hts _ q1076) (fun _ h9 => h9) rfl dX3_record_23 ?_
      refine lv_sipush (v := nI 444) hx hb dX3_record_26 (by decide) ?_
      refine lv_iload_n hx hb dX3_record_29 rfl (lv_at hl 1 rfl) ?_
      refine x_addN hx hb dX3_record_30 ?_
      refine x_iald hx hb K hP 2 0 rfl rfl (444 + k) rfl (by omega) (by decide) rfl dX3_record_31 ?_
      refine x_iast hx hb K hP hD hS 2 0 rfl rfl k rfl (by omega) (by decide) dX3_record_32 (fun H locs hP hD hS => ?_)
      have hP : va_P D vwCl [(h0, .inr (3, [.ref hr, .ref hp, .ref ha, .ref hf, .int (nI hs), .int (bI ias), .ref ht, .int (nI ln), .int (nI pa), .ref hd])), (hr, .inl (dA 0, 444, .inl row)), (hp, .inl (dA 0, 1776, .inl (upd g k (g (444 + k))))), (ha, .inl (dA 0, 444, .inl aside)), (hf, .inl (dA 0, 444, .inl bef)), (ht, .inl (dA 3, 60, .inl txt)), (hd, .inl (dA 0, 8, .inl rd))] H := hP
      have hD : va_D A [(h0, .inr (3, [.ref hr, .ref hp, .ref ha, .ref hf, .int (nI hs), .int (bI ias), .ref ht, .int (nI ln), .int (nI pa), .ref hd])), (hr, .inl (dA 0, 444, .inl row)), (hp, .inl (dA 0, 1776, .inl (upd g k (g (444 + k))))), (ha, .inl (dA 0, 444, .inl aside)), (hf, .inl (dA 0, 444, .inl bef)), (ht, .inl (dA 3, 60, .inl txt)), (hd, .inl (dA 0, 8, .inl rd))] := hD
      refine lv_iinc (v := nI (k + 1)) (lv' := [(1, .int (nI (k + 1))), (0, .ref h0)]) hx hb dX3_record_33 hl (k := 1) rfl (nI_1 k) (by decide) rfl (fun ls hl => ?_)
      refine lv_goto (tgt := 10) hx hb dX3_record_36 (by decide) ?_
      refine ih ls H locs ⟨?_, hP, hD, hS⟩
      show lv_has ls 2 [(0, .ref h0), (1, .int (nI (k + 1)))]
      exact lv_sub hl [1, 0] rfl
    · intro ls H locs hI
      obtain ⟨hl, hP, hD, hS⟩ := hI
      rw [sh_iter] at hP hD
      have hl : lv_has ls 2 [(0, .ref h0), (1, .int (nI 1332))] := hl
      have hP : va_P D vwCl [(h0, .inr (3, [.ref hr, .ref hp, .ref ha, .ref hf, .int (nI hs), .int (bI ias), .ref ht, .int (nI ln), .int (nI pa), .ref hd])), (hr, .inl (dA 0, 444, .inl row)), (hp, .inl (dA 0, 1776, .inl (fun j => if j < 1332 then past (444 + j) else past j))), (ha, .inl (dA 0, 444, .inl aside)), (hf, .inl (dA 0, 444, .inl bef)), (ht, .inl (dA 3, 60, .inl txt)), (hd, .inl (dA 0, 8, .inl rd))] H := hP
      have hD : va_D A [(h0, .inr (3, [.ref hr, .ref hp, .ref ha, .ref hf, .int (nI hs), .int (bI ias), .ref ht, .int (nI ln), .int (nI pa), .ref hd])), (hr, .inl (dA 0, 444, .inl row)), (hp, .inl (dA 0, 1776, .inl (fun j => if j < 1332 then past (444 + j) else past j))), (ha, .inl (dA 0, 444, .inl aside)), (hf, .inl (dA 0, 444, .inl bef)), (ht, .inl (dA 3, 60, .inl txt)), (hd, .inl (dA 0, 8, .inl rd))] := hD
      show W p l e (rmW 0 0 0 0) s m ([.ref h0]).toArray below meth c H locs 0 0 (MQ below (QW none D (mW dA h0 hr hp ha hf ht hd row (recP past bef hs) aside bef txt rd (recH hs) ias ln pa) A) ([.ref h0]).toArray s 0 0 A) (F0 m 10 ls [])
      refine lv_iload_n hx hb dX3_record_10 rfl (lv_at hl 1 rfl) ?_
      refine lv_sipush (v := nI 1332) hx hb dX3_record_11 (by decide) ?_
      refine lv_icmp_ge (tgt := 39) hx hb dX3_record_14 (by decide) (fun _ => ?_) (fun h => absurd (by decide) h)
      refine lv_aload_n hx hb dX3_record_39 rfl (lv_at hl 0 rfl) ?_
      refine lv_dup hx hb dX3_record_40 rfl ?_
      refine va_get (D := D) (ci := 3) (C := RX3) (T := TX3) (N := 10) hx hb hts in_X3 hown K hP 0 rfl rfl 4 (by decide) (hts _ q1079) (fun _ h9 => h9) rfl dX3_record_41 ?_
      refine lv_iconst (v := nI 1) hx hb dX3_record_44 (by decide) ?_
      refine lv_isub hx hb dX3_record_45 ?_
      refine x_top (y := nI 3) (by rw [heq]; rfl) ?_
      refine va_put (D := D) (ci := 3) (v := .int (nI 3)) (ty := .int) (C := RX3) (T := TX3) (N := 10) hx hb hts in_X3 tyX3 tyX3_ok nmX3 hown K hP hD hS 0 rfl rfl 4 (by decide) (hts _ q1079) (fun _ h9 => h9) rfl (by decide +kernel) rfl rfl (Nat.le_of_ble_eq_true rfl) dX3_record_46 (fun H locs hP hD hS => ?_)
      have hP : va_P D vwCl [(h0, .inr (3, [.ref hr, .ref hp, .ref ha, .ref hf, .int (nI 3), .int (bI ias), .ref ht, .int (nI ln), .int (nI pa), .ref hd])), (hr, .inl (dA 0, 444, .inl row)), (hp, .inl (dA 0, 1776, .inl (fun j => if j < 1332 then past (444 + j) else past j))), (ha, .inl (dA 0, 444, .inl aside)), (hf, .inl (dA 0, 444, .inl bef)), (ht, .inl (dA 3, 60, .inl txt)), (hd, .inl (dA 0, 8, .inl rd))] H := hP
      have hD : va_D A [(h0, .inr (3, [.ref hr, .ref hp, .ref ha, .ref hf, .int (nI 3), .int (bI ias), .ref ht, .int (nI ln), .int (nI pa), .ref hd])), (hr, .inl (dA 0, 444, .inl row)), (hp, .inl (dA 0, 1776, .inl (fun j => if j < 1332 then past (444 + j) else past j))), (ha, .inl (dA 0, 444, .inl aside)), (hf, .inl (dA 0, 444, .inl bef)), (ht, .inl (dA 3, 60, .inl txt)), (hd, .inl (dA 0, 8, .inl rd))] := hD
      refine lv_iconst (v := nI 0) hx hb dX3_record_49 (by decide) ?_
      refine lv_istore_n (lv' := [(1, .int (nI 0)), (0, .ref h0)]) hx hb dX3_record_50 rfl hl (by decide) rfl (fun ls hl => ?_)
      refine lpW (fun k g => upd g (444 * 3 + k) (bef k)) (fun j => if j < 1332 then past (444 + j) else past j) 444 (fun k g ls H locs => lv_has ls 2 [(0, .ref h0), (1, .int (nI k))] ∧ va_P D vwCl [(h0, .inr (3, [.ref hr, .ref hp, .ref ha, .ref hf, .int (nI 3), .int (bI ias), .ref ht, .int (nI ln), .int (nI pa), .ref hd])), (hr, .inl (dA 0, 444, .inl row)), (hp, .inl (dA 0, 1776, .inl g)), (ha, .inl (dA 0, 444, .inl aside)), (hf, .inl (dA 0, 444, .inl bef)), (ht, .inl (dA 3, 60, .inl txt)), (hd, .inl (dA 0, 8, .inl rd))] H ∧ va_D A [(h0, .inr (3, [.ref hr, .ref hp, .ref ha, .ref hf, .int (nI 3), .int (bI ias), .ref ht, .int (nI ln), .int (nI pa), .ref hd])), (hr, .inl (dA 0, 444, .inl row)), (hp, .inl (dA 0, 1776, .inl g)), (ha, .inl (dA 0, 444, .inl aside)), (hf, .inl (dA 0, 444, .inl bef)), (ht, .inl (dA 3, 60, .inl txt)), (hd, .inl (dA 0, 8, .inl rd))] ∧ va_S A s.heap H locs) (fun ls H locs => W p l e (rmW 0 0 0 0) s m ([.ref h0]).toArray below meth c H locs 0 0 (MQ below (QW none D (mW dA h0 hr hp ha hf ht hd row (recP past bef hs) aside bef txt rd (recH hs) ias ln pa) A) ([.ref h0]).toArray s 0 0 A) (F0 m 51 ls [])) ?_ ?_ ls H locs ⟨lv_sub hl [1, 0] rfl, hP, hD, hS⟩
      · intro k ls H locs hk_8 hI ih
        generalize iter (fun k g => upd g (444 * 3 + k) (bef k)) k 0 (fun j => if j < 1332 then past (444 + j) else past j) = g at *
        obtain ⟨hl, hP, hD, hS⟩ := hI
        have hl : lv_has ls 2 [(0, .ref h0), (1, .int (nI k))] := hl
        have hP : va_P D vwCl [(h0, .inr (3, [.ref hr, .ref hp, .ref ha, .ref hf, .int (nI 3), .int (bI ias), .ref ht, .int (nI ln), .int (nI pa), .ref hd])), (hr, .inl (dA 0, 444, .inl row)), (hp, .inl (dA 0, 1776, .inl g)), (ha, .inl (dA 0, 444, .inl aside)), (hf, .inl (dA 0, 444, .inl bef)), (ht, .inl (dA 3, 60, .inl txt)), (hd, .inl (dA 0, 8, .inl rd))] H := hP
        have hD : va_D A [(h0, .inr (3, [.ref hr, .ref hp, .ref ha, .ref hf, .int (nI 3), .int (bI ias), .ref ht, .int (nI ln), .int (nI pa), .ref hd])), (hr, .inl (dA 0, 444, .inl row)), (hp, .inl (dA 0, 1776, .inl g)), (ha, .inl (dA 0, 444, .inl aside)), (hf, .inl (dA 0, 444, .inl bef)), (ht, .inl (dA 3, 60, .inl txt)), (hd, .inl (dA 0, 8, .inl rd))] := hD
        show W p l e (rmW 0 0 0 0) s m ([.ref h0]).toArray below meth c H locs 0 0 (MQ below (QW none D (mW dA h0 hr hp ha hf ht hd row (recP past bef hs) aside bef txt rd (recH hs) ias ln pa) A) ([.ref h0]).toArray s 0 0 A) (F0 m 51 ls [])
        refine lv_iload_n hx hb dX3_record_51 rfl (lv_at hl 1 rfl) ?_
        refine lv_sipush (v := nI 444) hx hb dX3_record_52 (by decide) ?_
        refine lv_icmp_ge (tgt := 85) hx hb dX3_record_55 (by decide) (fun h => absurd h (nI_ge hk_8 (by omega))) (fun _ => ?_)
        refine lv_aload_n hx hb dX3_record_58 rfl (lv_at hl 0 rfl) ?_
        refine va_get (D := D) (ci := 3) (C := RX3) (T := TX3) (N := 10) hx hb hts in_X3 hown K hP 0 rfl rfl 1 (by decide) (hts _ q1076) (fun _ h9 => h9) rfl dX3_record_59 ?_
        refine lv_sipush (v := nI 444) hx hb dX3_record_62 (by decide) ?_
        refine lv_aload_n hx hb dX3_record_65 rfl (lv_at hl 0 rfl) ?_
        refine va_get (D := D) (ci := 3) (C := RX3) (T := TX3) (N := 10) hx hb hts in_X3 hown K hP 0 rfl rfl 4 (by decide) (hts _ q1079) (fun _ h9 => h9) rfl dX3_record_66 ?_
        refine x_mulN hx hb dX3_record_69 ?_
        refine lv_iload_n hx hb dX3_record_70 rfl (lv_at hl 1 rfl) ?_
        refine x_addN hx hb dX3_record_71 ?_
        refine lv_aload_n hx hb dX3_record_72 rfl (lv_at hl 0 rfl) ?_
        refine va_get (D := D) (ci := 3) (C := RX3) (T := TX3) (N := 10) hx hb hts in_X3 hown K hP 0 rfl rfl 3 (by decide) (hts _ q1078) (fun _ h9 => h9) rfl dX3_record_73 ?_
        refine lv_iload_n hx hb dX3_record_76 rfl (lv_at hl 1 rfl) ?_
        refine x_iald hx hb K hP 4 0 rfl rfl k rfl (by omega) (by decide) rfl dX3_record_77 ?_
        refine x_iast hx hb K hP hD hS 2 0 rfl rfl ((444 * 3) + k) rfl (by omega) (by decide) dX3_record_78 (fun H locs hP hD hS => ?_)
        have hP : va_P D vwCl [(h0, .inr (3, [.ref hr, .ref hp, .ref ha, .ref hf, .int (nI 3), .int (bI ias), .ref ht, .int (nI ln), .int (nI pa), .ref hd])), (hr, .inl (dA 0, 444, .inl row)), (hp, .inl (dA 0, 1776, .inl (upd g ((444 * 3) + k) (bef k)))), (ha, .inl (dA 0, 444, .inl aside)), (hf, .inl (dA 0, 444, .inl bef)), (ht, .inl (dA 3, 60, .inl txt)), (hd, .inl (dA 0, 8, .inl rd))] H := hP
        have hD : va_D A [(h0, .inr (3, [.ref hr, .ref hp, .ref ha, .ref hf, .int (nI 3), .int (bI ias), .ref ht, .int (nI ln), .int (nI pa), .ref hd])), (hr, .inl (dA 0, 444, .inl row)), (hp, .inl (dA 0, 1776, .inl (upd g ((444 * 3) + k) (bef k)))), (ha, .inl (dA 0, 444, .inl aside)), (hf, .inl (dA 0, 444, .inl bef)), (ht, .inl (dA 3, 60, .inl txt)), (hd, .inl (dA 0, 8, .inl rd))] := hD
        refine lv_iinc (v := nI (k + 1)) (lv' := [(1, .int (nI (k + 1))), (0, .ref h0)]) hx hb dX3_record_79 hl (k := 1) rfl (nI_1 k) (by decide) rfl (fun ls hl => ?_)
        refine lv_goto (tgt := 51) hx hb dX3_record_82 (by decide) ?_
        refine ih ls H locs ⟨?_, hP, hD, hS⟩
        show lv_has ls 2 [(0, .ref h0), (1, .int (nI (k + 1)))]
        exact lv_sub hl [1, 0] rfl
      · intro ls H locs hI
        obtain ⟨hl, hP, hD, hS⟩ := hI
        rw [cp_iter] at hP hD
        have hl : lv_has ls 2 [(0, .ref h0), (1, .int (nI 444))] := hl
        have hP : va_P D vwCl [(h0, .inr (3, [.ref hr, .ref hp, .ref ha, .ref hf, .int (nI 3), .int (bI ias), .ref ht, .int (nI ln), .int (nI pa), .ref hd])), (hr, .inl (dA 0, 444, .inl row)), (hp, .inl (dA 0, 1776, .inl (fun j => if 444 * 3 ≤ j ∧ j < 444 * 3 + 444 then bef (j - 444 * 3) else (fun j => if j < 1332 then past (444 + j) else past j) j))), (ha, .inl (dA 0, 444, .inl aside)), (hf, .inl (dA 0, 444, .inl bef)), (ht, .inl (dA 3, 60, .inl txt)), (hd, .inl (dA 0, 8, .inl rd))] H := hP
        have hD : va_D A [(h0, .inr (3, [.ref hr, .ref hp, .ref ha, .ref hf, .int (nI 3), .int (bI ias), .ref ht, .int (nI ln), .int (nI pa), .ref hd])), (hr, .inl (dA 0, 444, .inl row)), (hp, .inl (dA 0, 1776, .inl (fun j => if 444 * 3 ≤ j ∧ j < 444 * 3 + 444 then bef (j - 444 * 3) else (fun j => if j < 1332 then past (444 + j) else past j) j))), (ha, .inl (dA 0, 444, .inl aside)), (hf, .inl (dA 0, 444, .inl bef)), (ht, .inl (dA 3, 60, .inl txt)), (hd, .inl (dA 0, 8, .inl rd))] := hD
        show W p l e (rmW 0 0 0 0) s m ([.ref h0]).toArray below meth c H locs 0 0 (MQ below (QW none D (mW dA h0 hr hp ha hf ht hd row (recP past bef hs) aside bef txt rd (recH hs) ias ln pa) A) ([.ref h0]).toArray s 0 0 A) (F0 m 51 ls [])
        refine lv_iload_n hx hb dX3_record_51 rfl (lv_at hl 1 rfl) ?_
        refine lv_sipush (v := nI 444) hx hb dX3_record_52 (by decide) ?_
        refine lv_icmp_ge (tgt := 85) hx hb dX3_record_55 (by decide) (fun _ => ?_) (fun h => absurd (by decide) h)
        refine lv_aload_n hx hb dX3_record_85 rfl (lv_at hl 0 rfl) ?_
        refine lv_dup hx hb dX3_record_86 rfl ?_
        refine va_get (D := D) (ci := 3) (C := RX3) (T := TX3) (N := 10) hx hb hts in_X3 hown K hP 0 rfl rfl 4 (by decide) (hts _ q1079) (fun _ h9 => h9) rfl dX3_record_87 ?_
        refine lv_iconst (v := nI 1) hx hb dX3_record_90 (by decide) ?_
        refine x_addN hx hb dX3_record_91 ?_
        refine va_put (D := D) (ci := 3) (v := .int (nI (3 + 1))) (ty := .int) (C := RX3) (T := TX3) (N := 10) hx hb hts in_X3 tyX3 tyX3_ok nmX3 hown K hP hD hS 0 rfl rfl 4 (by decide) (hts _ q1079) (fun _ h9 => h9) rfl (by decide +kernel) rfl rfl (Nat.le_of_ble_eq_true rfl) dX3_record_92 (fun H locs hP hD hS => ?_)
        have hP : va_P D vwCl [(h0, .inr (3, [.ref hr, .ref hp, .ref ha, .ref hf, .int (nI (3 + 1)), .int (bI ias), .ref ht, .int (nI ln), .int (nI pa), .ref hd])), (hr, .inl (dA 0, 444, .inl row)), (hp, .inl (dA 0, 1776, .inl (fun j => if 444 * 3 ≤ j ∧ j < 444 * 3 + 444 then bef (j - 444 * 3) else (fun j => if j < 1332 then past (444 + j) else past j) j))), (ha, .inl (dA 0, 444, .inl aside)), (hf, .inl (dA 0, 444, .inl bef)), (ht, .inl (dA 3, 60, .inl txt)), (hd, .inl (dA 0, 8, .inl rd))] H := hP
        have hD : va_D A [(h0, .inr (3, [.ref hr, .ref hp, .ref ha, .ref hf, .int (nI (3 + 1)), .int (bI ias), .ref ht, .int (nI ln), .int (nI pa), .ref hd])), (hr, .inl (dA 0, 444, .inl row)), (hp, .inl (dA 0, 1776, .inl (fun j => if 444 * 3 ≤ j ∧ j < 444 * 3 + 444 then bef (j - 444 * 3) else (fun j => if j < 1332 then past (444 + j) else past j) j))), (ha, .inl (dA 0, 444, .inl aside)), (hf, .inl (dA 0, 444, .inl bef)), (ht, .inl (dA 3, 60, .inl txt)), (hd, .inl (dA 0, 8, .inl rd))] := hD
        have eF0 : recH hs = 3 + 1 := by rw [recH, if_pos heq]
        rw [eF0]
        obtain ⟨hP, hD⟩ := arr_cg2 (recP past bef hs) 2 hP hD rfl (fun j hj => by
          rw [recP, if_pos heq]
          dsimp only
          by_cases h1 : j < 1332
          · rw [if_neg (by omega), if_pos h1, if_pos h1]
          · rw [if_pos (by omega), if_neg h1])
        exact x_vvret hx hb hrt hlk hP hD hS dX3_record_95 (Nat.le_of_ble_eq_true rfl) (Nat.le_of_ble_eq_true rfl)

set_option maxHeartbeats 4000000 in
theorem mw_begin (l : Launch) (D : va_G) (dA : Nat → ClassId) (h0 hr hp ha hf ht hd : Nat) (row past aside bef txt rd : Nat → Int32) (hs : Nat) (ias : Bool) (ln pa : Nat) (hhs : hs ≤ 4) : WR l yX3_begin cX3_begin 1 none 1 40 0 0 [.ref h0] D dA (mW dA h0 hr hp ha hf ht hd row past aside bef txt rd hs ias ln pa) none (mW dA h0 hr hp ha hf ht hd row (recP past row hs) aside row txt rd (recH hs) ias ln pa) := by
  refine wr_of (by decide) (Nat.le_of_ble_eq_true rfl) ?_
  intro p e s m below meth c A S hrt hlk K hA hAe H locs hP hD hS ls hl
  obtain ⟨hx, hb, hml, hown, hts⟩ := id S
  have hP : va_P D vwCl [(h0, .inr (3, [.ref hr, .ref hp, .ref ha, .ref hf, .int (nI hs), .int (bI ias), .ref ht, .int (nI ln), .int (nI pa), .ref hd])), (hr, .inl (dA 0, 444, .inl row)), (hp, .inl (dA 0, 1776, .inl past)), (ha, .inl (dA 0, 444, .inl aside)), (hf, .inl (dA 0, 444, .inl bef)), (ht, .inl (dA 3, 60, .inl txt)), (hd, .inl (dA 0, 8, .inl rd))] H := hP
  have hD : va_D A [(h0, .inr (3, [.ref hr, .ref hp, .ref ha, .ref hf, .int (nI hs), .int (bI ias), .ref ht, .int (nI ln), .int (nI pa), .ref hd])), (hr, .inl (dA 0, 444, .inl row)), (hp, .inl (dA 0, 1776, .inl past)), (ha, .inl (dA 0, 444, .inl aside)), (hf, .inl (dA 0, 444, .inl bef)), (ht, .inl (dA 3, 60, .inl txt)), (hd, .inl (dA 0, 8, .inl rd))] := hD
  have hl : lv_has ls 1 [(0, .ref h0)] := hl
  refine lv_aload_n hx hb dX3_begin_0 rfl (lv_at hl 0 rfl) ?_
  refine x_wcall (wr := []) (va_runV (As := []) (rest := []) S ((mw_remember l D dA h0 hr hp ha hf ht hd row past aside bef txt rd hs ias ln pa ) H.size) (cwV 0 hts (lw_V q1123 q1125 qs25 q69 q1126) rfl rfl rfl hdX3_remember ⟨Nat.le_of_ble_eq_true rfl, Nat.le_of_ble_eq_true rfl⟩) ⟨pw_blind _, va_recv K hP (ci := 3) (q0 := 0) rfl rfl, pw_pre K hP hD _⟩ rfl rfl hl.1 rfl (lv_room (Nat.le_of_ble_eq_true rfl)) dX3_begin_1 ⟨Nat.le_of_ble_eq_true rfl, Nat.le_of_ble_eq_true rfl⟩) hP hD hS hA [0, 1, 2, 3, 4, 5, 6] [] rfl rfl (by decide) (by decide) (fun H locs hP hD hS hkp => ?_)
  have hP : va_P D vwCl [(h0, .inr (3, [.ref hr, .ref hp, .ref ha, .ref hf, .int (nI hs), .int (bI ias), .ref ht, .int (nI ln), .int (nI pa), .ref hd])), (hr, .inl (dA 0, 444, .inl row)), (hp, .inl (dA 0, 1776, .inl past)), (ha, .inl (dA 0, 444, .inl aside)), (hf, .inl (dA 0, 444, .inl row)), (ht, .inl (dA 3, 60, .inl txt)), (hd, .inl (dA 0, 8, .inl rd))] H := hP
  have hD : va_D A [(h0, .inr (3, [.ref hr, .ref hp, .ref ha, .ref hf, .int (nI hs), .int (bI ias), .ref ht, .int (nI ln), .int (nI pa), .ref hd])), (hr, .inl (dA 0, 444, .inl row)), (hp, .inl (dA 0, 1776, .inl past)), (ha, .inl (dA 0, 444, .inl aside)), (hf, .inl (dA 0, 444, .inl row)), (ht, .inl (dA 3, 60, .inl txt)), (hd, .inl (dA 0, 8, .inl rd))] := hD
  refine lv_aload_n hx hb dX3_begin_4 rfl (lv_at hl 0 rfl) ?_
  refine x_wcall (wr := []) (va_runV (As := []) (rest := []) S ((mw_record l D dA h0 hr hp ha hf ht hd row past aside row txt rd hs ias ln pa hhs) H.size) (cwV 0 hts (lw_V q1127 q1129 qs26 q69 q1130) rfl rfl rfl hdX3_record ⟨Nat.le_of_ble_eq_true rfl, Nat.le_of_ble_eq_true rfl⟩) ⟨pw_blind _, va_recv K hP (ci := 3) (q0 := 0) rfl rfl, pw_pre K hP hD _⟩ rfl rfl hl.1 rfl (lv_room (Nat.le_of_ble_eq_true rfl)) dX3_begin_5 ⟨Nat.le_of_ble_eq_true rfl, Nat.le_of_ble_eq_true rfl⟩) hP hD hS hA [0, 1, 2, 3, 4, 5, 6] [] rfl rfl (by decide) (by decide) (fun H locs hP hD hS hkp => ?_)
  have hP : va_P D vwCl [(h0, .inr (3, [.ref hr, .ref hp, .ref ha, .ref hf, .int (nI (recH hs)), .int (bI ias), .ref ht, .int (nI ln), .int (nI pa), .ref hd])), (hr, .inl (dA 0, 444, .inl row)), (hp, .inl (dA 0, 1776, .inl (recP past row hs))), (ha, .inl (dA 0, 444, .inl aside)), (hf, .inl (dA 0, 444, .inl row)), (ht, .inl (dA 3, 60, .inl txt)), (hd, .inl (dA 0, 8, .inl rd))] H := hP
  have hD : va_D A [(h0, .inr (3, [.ref hr, .ref hp, .ref ha, .ref hf, .int (nI (recH hs)), .int (bI ias), .ref ht, .int (nI ln), .int (nI pa), .ref hd])), (hr, .inl (dA 0, 444, .inl row)), (hp, .inl (dA 0, 1776, .inl (recP past row hs))), (ha, .inl (dA 0, 444, .inl aside)), (hf, .inl (dA 0, 444, .inl row)), (ht, .inl (dA 3, 60, .inl txt)), (hd, .inl (dA 0, 8, .inl rd))] := hD
  exact x_vvret hx hb hrt hlk hP hD hS dX3_begin_8 (Nat.le_of_ble_eq_true rfl) (Nat.le_of_ble_eq_true rfl)

set_option maxHeartbeats 4000000 in
theorem mw_undo (l : Launch) (D : va_G) (dA : Nat → ClassId) (h0 hr hp ha hf ht hd : Nat) (row past aside bef txt rd : Nat → Int32) (hs : Nat) (ias : Bool) (ln pa : Nat) (hhs : hs ≤ 4) : WR l yX3_undo cX3_undo 2 (some .int) 0 0 0 0 [.ref h0] D dA (mW dA h0 hr hp ha hf ht hd row past aside bef txt rd hs ias ln pa) (some (.int (rUndo hs))) (mW dA h0 hr hp ha hf ht hd (undoR row past hs) past aside bef txt rd (hs - 1) ias ln pa) := by
  refine wr_of (by decide) (Nat.le_of_ble_eq_true rfl) ?_
  intro p e s m below meth c A S hrt hlk K hA hAe H locs hP hD hS ls hl
  obtain ⟨hx, hb, hml, hown, hts⟩ := id S
  have hP : va_P D vwCl [(h0, .inr (3, [.ref hr, .ref hp, .ref ha, .ref hf, .int (nI hs), .int (bI ias), .ref ht, .int (nI ln), .int (nI pa), .ref hd])), (hr, .inl (dA 0, 444, .inl row)), (hp, .inl (dA 0, 1776, .inl past)), (ha, .inl (dA 0, 444, .inl aside)), (hf, .inl (dA 0, 444, .inl bef)), (ht, .inl (dA 3, 60, .inl txt)), (hd, .inl (dA 0, 8, .inl rd))] H := hP
  have hD : va_D A [(h0, .inr (3, [.ref hr, .ref hp, .ref ha, .ref hf, .int (nI hs), .int (bI ias), .ref ht, .int (nI ln), .int (nI pa), .ref hd])), (hr, .inl (dA 0, 444, .inl row)), (hp, .inl (dA 0, 1776, .inl past)), (ha, .inl (dA 0, 444, .inl aside)), (hf, .inl (dA 0, 444, .inl bef)), (ht, .inl (dA 3, 60, .inl txt)), (hd, .inl (dA 0, 8, .inl rd))] := hD
  have hl : lv_has ls 2 [(0, .ref h0)] := hl
  refine lv_aload_n hx hb dX3_undo_0 rfl (lv_at hl 0 rfl) ?_
  refine va_get (D := D) (ci := 3) (C := RX3) (T := TX3) (N := 10) hx hb hts in_X3 hown K hP 0 rfl rfl 4 (by decide) (hts _ q1079) (fun _ h9 => h9) rfl dX3_undo_1 ?_
  refine x_ifn_ne (tgt := 10) hx hb dX3_undo_4 (by decide) (by omega) (fun h_1 => ?_) (fun h_1 => ?_)
  · have hne : ¬ hs = 0 := h_1
    refine lv_aload_n hx hb dX3_undo_10 rfl (lv_at hl 0 rfl) ?_
    refine lv_dup hx hb dX3_undo_11 rfl ?_
    refine va_get (D := D) (ci := 3) (C := RX3) (T := TX3) (N := 10) hx hb hts in_X3 hown K hP 0 rfl rfl 4 (by decide) (hts _ q1079) (fun _ h9 => h9) rfl dX3_undo_12 ?_
    refine lv_iconst (v := nI 1) hx hb dX3_undo_15 (by decide) ?_
    refine lv_isub hx hb dX3_undo_16 ?_
    refine x_top (y := nI (hs - 1)) (pk_sub (by omega)) ?_
    refine va_put (D := D) (ci := 3) (v := .int (nI (hs - 1))) (ty := .int) (C := RX3) (T := TX3) (N := 10) hx hb hts in_X3 tyX3 tyX3_ok nmX3 hown K hP hD hS 0 rfl rfl 4 (by decide) (hts _ q1079) (fun _ h9 => h9) rfl (by decide +kernel) rfl rfl (Nat.le_of_ble_eq_true rfl) dX3_undo_17 (fun H locs hP hD hS => ?_)
    have hP : va_P D vwCl [(h0, .inr (3, [.ref hr, .ref hp, .ref ha, .ref hf, .int (nI (hs - 1)), .int (bI ias), .ref ht, .int (nI ln), .int (nI pa), .ref hd])), (hr, .inl (dA 0, 444, .inl row)), (hp, .inl (dA 0, 1776, .inl past)), (ha, .inl (dA 0, 444, .inl aside)), (hf, .inl (dA 0, 444, .inl bef)), (ht, .inl (dA 3, 60, .inl txt)), (hd, .inl (dA 0, 8, .inl rd))] H := hP
    have hD : va_D A [(h0, .inr (3, [.ref hr, .ref hp, .ref ha, .ref hf, .int (nI (hs - 1)), .int (bI ias), .ref ht, .int (nI ln), .int (nI pa), .ref hd])), (hr, .inl (dA 0, 444, .inl row)), (hp, .inl (dA 0, 1776, .inl past)), (ha, .inl (dA 0, 444, .inl aside)), (hf, .inl (dA 0, 444, .inl bef)), (ht, .inl (dA 3, 60, .inl txt)), (hd, .inl (dA 0, 8, .inl rd))] := hD
    refine lv_iconst (v := nI 0) hx hb dX3_undo_20 (by decide) ?_
    refine lv_istore_n (lv' := [(1, .int (nI 0)), (0, .ref h0)]) hx hb dX3_undo_21 rfl hl (by decide) rfl (fun ls hl => ?_)
    refine lpW (fun k g => upd g k (past (444 * (hs - 1) + k))) row 444 (fun k g ls H locs => lv_has ls 2 [(0, .ref h0), (1, .int (nI k))] ∧ va_P D vwCl [(h0, .inr (3, [.ref hr, .ref hp, .ref ha, .ref hf, .int (nI (hs - 1)), .int (bI ias), .ref ht, .int (nI ln), .int (nI pa), .ref hd])), (hr, .inl (dA 0, 444, .inl g)), (hp, .inl (dA 0, 1776, .inl past)), (ha, .inl (dA 0, 444, .inl aside)), (hf, .inl (dA 0, 444, .inl bef)), (ht, .inl (dA 3, 60, .inl txt)), (hd, .inl (dA 0, 8, .inl rd))] H ∧ va_D A [(h0, .inr (3, [.ref hr, .ref hp, .ref ha, .ref hf, .int (nI (hs - 1)), .int (bI ias), .ref ht, .int (nI ln), .int (nI pa), .ref hd])), (hr, .inl (dA 0, 444, .inl g)), (hp, .inl (dA 0, 1776, .inl past)), (ha, .inl (dA 0, 444, .inl aside)), (hf, .inl (dA 0, 444, .inl bef)), (ht, .inl (dA 3, 60, .inl txt)), (hd, .inl (dA 0, 8, .inl rd))] ∧ va_S A s.heap H locs) (fun ls H locs => W p l e (rmW 0 0 0 0) s m ([.ref h0]).toArray below meth c H locs 0 0 (MQ below (QW (some (.int (rUndo hs))) D (mW dA h0 hr hp ha hf ht hd (undoR row past hs) past aside bef txt rd (hs - 1) ias ln pa) A) ([.ref h0]).toArray s 0 0 A) (F0 m 22 ls [])) ?_ ?_ ls H locs ⟨lv_sub hl [1, 0] rfl, hP, hD, hS⟩
    · intro k ls H locs hk_2 hI ih
      generalize iter (fun k g => upd g k (past (444 * (hs - 1) + k))) k 0 row = g at *
      obtain ⟨hl, hP, hD, hS⟩ := hI
      have hl : lv_has ls 2 [(0, .ref h0), (1, .int (nI k))] := hl
      have hP : va_P D vwCl [(h0, .inr (3, [.ref hr, .ref hp, .ref ha, .ref hf, .int (nI (hs - 1)), .int (bI ias), .ref ht, .int (nI ln), .int (nI pa), .ref hd])), (hr, .inl (dA 0, 444, .inl g)), (hp, .inl (dA 0, 1776, .inl past)), (ha, .inl (dA 0, 444, .inl aside)), (hf, .inl (dA 0, 444, .inl bef)), (ht, .inl (dA 3, 60, .inl txt)), (hd, .inl (dA 0, 8, .inl rd))] H := hP
      have hD : va_D A [(h0, .inr (3, [.ref hr, .ref hp, .ref ha, .ref hf, .int (nI (hs - 1)), .int (bI ias), .ref ht, .int (nI ln), .int (nI pa), .ref hd])), (hr, .inl (dA 0, 444, .inl g)), (hp, .inl (dA 0, 1776, .inl past)), (ha, .inl (dA 0, 444, .inl aside)), (hf, .inl (dA 0, 444, .inl bef)), (ht, .inl (dA 3, 60, .inl txt)), (hd, .inl (dA 0, 8, .inl rd))] := hD
      show W p l e (rmW 0 0 0 0) s m ([.ref h0]).toArray below meth c H locs 0 0 (MQ below (QW (some (.int (rUndo hs))) D (mW dA h0 hr hp ha hf ht hd (undoR row past hs) past aside bef txt rd (hs - 1) ias ln pa) A) ([.ref h0]).toArray s 0 0 A) (F0 m 22 ls [])
      refine lv_iload_n hx hb dX3_undo_22 rfl (lv_at hl 1 rfl) ?_
      refine lv_sipush (v := nI 444) hx hb dX3_undo_23 (by decide) ?_
      refine lv_icmp_ge (tgt := 56) hx hb dX3_undo_26 (by decide) (fun h => absurd h (nI_ge hk_2 (by omega))) (fun _ => ?_)
      refine lv_aload_n hx hb dX3_undo_29 rfl (lv_at hl 0 rfl) ?_
      refine va_get (D := D) (ci := 3) (C := RX3) (T := TX3) (N := 10) hx hb hts in_X3 hown K hP 0 rfl rfl 0 (by decide) (hts _ q1075) (fun _ h9 => h9) rfl dX3_undo_30 ?_
      refine lv_iload_n hx hb dX3_undo_33 rfl (lv_at hl 1 rfl) ?_
      refine lv_aload_n hx hb dX3_undo_34 rfl (lv_at hl 0 rfl) ?_
      refine va_get (D := D) (ci := 3) (C := RX3) (T := TX3) (N := 10) hx hb hts in_X3 hown K hP 0 rfl rfl 1 (by decide) (hts _ q1076) (fun _ h9 => h9) rfl dX3_undo_35 ?_
      refine lv_sipush (v := nI 444) hx hb dX3_undo_38 (by decide) ?_
      refine lv_aload_n hx hb dX3_undo_41 rfl (lv_at hl 0 rfl) ?_
      refine va_get (D := D) (ci := 3) (C := RX3) (T := TX3) (N := 10) hx hb hts in_X3 hown K hP 0 rfl rfl 4 (by decide) (hts _ q1079) (fun _ h9 => h9) rfl dX3_undo_42 ?_
      refine x_mulN hx hb dX3_undo_45 ?_
      refine lv_iload_n hx hb dX3_undo_46 rfl (lv_at hl 1 rfl) ?_
      refine x_addN hx hb dX3_undo_47 ?_
      refine x_iald hx hb K hP 2 0 rfl rfl ((444 * (hs - 1)) + k) rfl (by omega) (by decide) rfl dX3_undo_48 ?_
      refine x_iast hx hb K hP hD hS 1 0 rfl rfl k rfl (by omega) (by decide) dX3_undo_49 (fun H locs hP hD hS => ?_)
      have hP : va_P D vwCl [(h0, .inr (3, [.ref hr, .ref hp, .ref ha, .ref hf, .int (nI (hs - 1)), .int (bI ias), .ref ht, .int (nI ln), .int (nI pa), .ref hd])), (hr, .inl (dA 0, 444, .inl (upd g k (past ((444 * (hs - 1)) + k))))), (hp, .inl (dA 0, 1776, .inl past)), (ha, .inl (dA 0, 444, .inl aside)), (hf, .inl (dA 0, 444, .inl bef)), (ht, .inl (dA 3, 60, .inl txt)), (hd, .inl (dA 0, 8, .inl rd))] H := hP
      have hD : va_D A [(h0, .inr (3, [.ref hr, .ref hp, .ref ha, .ref hf, .int (nI (hs - 1)), .int (bI ias), .ref ht, .int (nI ln), .int (nI pa), .ref hd])), (hr, .inl (dA 0, 444, .inl (upd g k (past ((444 * (hs - 1)) + k))))), (hp, .inl (dA 0, 1776, .inl past)), (ha, .inl (dA 0, 444, .inl aside)), (hf, .inl (dA 0, 444, .inl bef)), (ht, .inl (dA 3, 60, .inl txt)), (hd, .inl (dA 0, 8, .inl rd))] := hD
      refine lv_iinc (v := nI (k + 1)) (lv' := [(1, .int (nI (k + 1))), (0, .ref h0)]) hx hb dX3_undo_50 hl (k := 1) rfl (nI_1 k) (by decide) rfl (fun ls hl => ?_)
      refine lv_goto (tgt := 22) hx hb dX3_undo_53 (by decide) ?_
      refine ih ls H locs ⟨?_, hP, hD, hS⟩
      show lv_has ls 2 [(0, .ref h0), (1, .int (nI (k + 1)))]
      exact lv_sub hl [1, 0] rfl
    · intro ls H locs hI
      obtain ⟨hl, hP, hD, hS⟩ := hI
      rw [cp0_iter (fun k => past (444 * (hs - 1) + k))] at hP hD
      obtain ⟨hP, hD⟩ := arr_cg2 (fun k => past (444 * (hs - 1) + k)) 1 hP hD rfl (fun j hj => if_pos hj)
      have hl : lv_has ls 2 [(0, .ref h0), (1, .int (nI 444))] := hl
      have hP : va_P D vwCl [(h0, .inr (3, [.ref hr, .ref hp, .ref ha, .ref hf, .int (nI (hs - 1)), .int (bI ias), .ref ht, .int (nI ln), .int (nI pa), .ref hd])), (hr, .inl (dA 0, 444, .inl (fun k => past (444 * (hs - 1) + k)))), (hp, .inl (dA 0, 1776, .inl past)), (ha, .inl (dA 0, 444, .inl aside)), (hf, .inl (dA 0, 444, .inl bef)), (ht, .inl (dA 3, 60, .inl txt)), (hd, .inl (dA 0, 8, .inl rd))] H := hP
      have hD : va_D A [(h0, .inr (3, [.ref hr, .ref hp, .ref ha, .ref hf, .int (nI (hs - 1)), .int (bI ias), .ref ht, .int (nI ln), .int (nI pa), .ref hd])), (hr, .inl (dA 0, 444, .inl (fun k => past (444 * (hs - 1) + k)))), (hp, .inl (dA 0, 1776, .inl past)), (ha, .inl (dA 0, 444, .inl aside)), (hf, .inl (dA 0, 444, .inl bef)), (ht, .inl (dA 3, 60, .inl txt)), (hd, .inl (dA 0, 8, .inl rd))] := hD
      show W p l e (rmW 0 0 0 0) s m ([.ref h0]).toArray below meth c H locs 0 0 (MQ below (QW (some (.int (rUndo hs))) D (mW dA h0 hr hp ha hf ht hd (undoR row past hs) past aside bef txt rd (hs - 1) ias ln pa) A) ([.ref h0]).toArray s 0 0 A) (F0 m 22 ls [])
      refine lv_iload_n hx hb dX3_undo_22 rfl (lv_at hl 1 rfl) ?_
      refine lv_sipush (v := nI 444) hx hb dX3_undo_23 (by decide) ?_
      refine lv_icmp_ge (tgt := 56) hx hb dX3_undo_26 (by decide) (fun _ => ?_) (fun h => absurd (by decide) h)
      refine lv_aload_n hx hb dX3_undo_56 rfl (lv_at hl 0 rfl) ?_
      refine va_get (D := D) (ci := 3) (C := RX3) (T := TX3) (N := 10) hx hb hts in_X3 hown K hP 0 rfl rfl 4 (by decide) (hts _ q1079) (fun _ h9 => h9) rfl dX3_undo_57 ?_
      have eF0 : undoR row past hs = fun k => past (444 * (hs - 1) + k) := by rw [undoR, if_neg hne]
      rw [eF0]
      exact x_viret hx hb hrt hlk (by rw [rUndo, if_neg hne]) hP hD hS dX3_undo_60 (Nat.le_of_ble_eq_true rfl) (Nat.le_of_ble_eq_true rfl)
  · have heq : hs = 0 := h_1
    refine lv_bipush (v := -5) hx hb dX3_undo_7 (by decide) ?_
    have eF0 : undoR row past hs = row := by rw [undoR, if_pos heq]
    rw [eF0]
    have eF1 : hs - 1 = hs := by omega
    rw [eF1]
    exact x_viret hx hb hrt hlk (by rw [rUndo, if_pos heq]) hP hD hS dX3_undo_9 (Nat.le_of_ble_eq_true rfl) (Nat.le_of_ble_eq_true rfl)

set_option maxHeartbeats 4000000 in
theorem mw_keep (l : Launch) (D : va_G) (dA : Nat → ClassId) (h0 hr hp ha hf ht hd : Nat) (row past aside bef txt rd : Nat → Int32) (hs : Nat) (ias : Bool) (ln pa : Nat)  : WR l yX3_keep cX3_keep 2 (some .int) 0 0 0 0 [.ref h0] D dA (mW dA h0 hr hp ha hf ht hd row past aside bef txt rd hs ias ln pa) (some (.int (row 3))) (mW dA h0 hr hp ha hf ht hd row past row bef txt rd hs true ln pa) := by
  refine wr_of (by decide) (Nat.le_of_ble_eq_true rfl) ?_
  intro p e s m below meth c A S hrt hlk K hA hAe H locs hP hD hS ls hl
  obtain ⟨hx, hb, hml, hown, hts⟩ := id S
  have hP : va_P D vwCl [(h0, .inr (3, [.ref hr, .ref hp, .ref ha, .ref hf, .int (nI hs), .int (bI ias), .ref ht, .int (nI ln), .int (nI pa), .ref hd])), (hr, .inl (dA 0, 444, .inl row)), (hp, .inl (dA 0, 1776, .inl past)), (ha, .inl (dA 0, 444, .inl aside)), (hf, .inl (dA 0, 444, .inl bef)), (ht, .inl (dA 3, 60, .inl txt)), (hd, .inl (dA 0, 8, .inl rd))] H := hP
  have hD : va_D A [(h0, .inr (3, [.ref hr, .ref hp, .ref ha, .ref hf, .int (nI hs), .int (bI ias), .ref ht, .int (nI ln), .int (nI pa), .ref hd])), (hr, .inl (dA 0, 444, .inl row)), (hp, .inl (dA 0, 1776, .inl past)), (ha, .inl (dA 0, 444, .inl aside)), (hf, .inl (dA 0, 444, .inl bef)), (ht, .inl (dA 3, 60, .inl txt)), (hd, .inl (dA 0, 8, .inl rd))] := hD
  have hl : lv_has ls 2 [(0, .ref h0)] := hl
  refine lv_iconst (v := nI 0) hx hb dX3_keep_0 (by decide) ?_
  refine lv_istore_n (lv' := [(1, .int (nI 0)), (0, .ref h0)]) hx hb dX3_keep_1 rfl hl (by decide) rfl (fun ls hl => ?_)
  refine lpW (fun k g => upd g k (row k)) aside 444 (fun k g ls H locs => lv_has ls 2 [(0, .ref h0), (1, .int (nI k))] ∧ va_P D vwCl [(h0, .inr (3, [.ref hr, .ref hp, .ref ha, .ref hf, .int (nI hs), .int (bI ias), .ref ht, .int (nI ln), .int (nI pa), .ref hd])), (hr, .inl (dA 0, 444, .inl row)), (hp, .inl (dA 0, 1776, .inl past)), (ha, .inl (dA 0, 444, .inl g)), (hf, .inl (dA 0, 444, .inl bef)), (ht, .inl (dA 3, 60, .inl txt)), (hd, .inl (dA 0, 8, .inl rd))] H ∧ va_D A [(h0, .inr (3, [.ref hr, .ref hp, .ref ha, .ref hf, .int (nI hs), .int (bI ias), .ref ht, .int (nI ln), .int (nI pa), .ref hd])), (hr, .inl (dA 0, 444, .inl row)), (hp, .inl (dA 0, 1776, .inl past)), (ha, .inl (dA 0, 444, .inl g)), (hf, .inl (dA 0, 444, .inl bef)), (ht, .inl (dA 3, 60, .inl txt)), (hd, .inl (dA 0, 8, .inl rd))] ∧ va_S A s.heap H locs) (fun ls H locs => W p l e (rmW 0 0 0 0) s m ([.ref h0]).toArray below meth c H locs 0 0 (MQ below (QW (some (.int (row 3))) D (mW dA h0 hr hp ha hf ht hd row past row bef txt rd hs true ln pa) A) ([.ref h0]).toArray s 0 0 A) (F0 m 2 ls [])) ?_ ?_ ls H locs ⟨lv_sub hl [1, 0] rfl, hP, hD, hS⟩
  · intro k ls H locs hk_1 hI ih
    generalize iter (fun k g => upd g k (row k)) k 0 aside = g at *
    obtain ⟨hl, hP, hD, hS⟩ := hI
    have hl : lv_has ls 2 [(0, .ref h0), (1, .int (nI k))] := hl
    have hP : va_P D vwCl [(h0, .inr (3, [.ref hr, .ref hp, .ref ha, .ref hf, .int (nI hs), .int (bI ias), .ref ht, .int (nI ln), .int (nI pa), .ref hd])), (hr, .inl (dA 0, 444, .inl row)), (hp, .inl (dA 0, 1776, .inl past)), (ha, .inl (dA 0, 444, .inl g)), (hf, .inl (dA 0, 444, .inl bef)), (ht, .inl (dA 3, 60, .inl txt)), (hd, .inl (dA 0, 8, .inl rd))] H := hP
    have hD : va_D A [(h0, .inr (3, [.ref hr, .ref hp, .ref ha, .ref hf, .int (nI hs), .int (bI ias), .ref ht, .int (nI ln), .int (nI pa), .ref hd])), (hr, .inl (dA 0, 444, .inl row)), (hp, .inl (dA 0, 1776, .inl past)), (ha, .inl (dA 0, 444, .inl g)), (hf, .inl (dA 0, 444, .inl bef)), (ht, .inl (dA 3, 60, .inl txt)), (hd, .inl (dA 0, 8, .inl rd))] := hD
    show W p l e (rmW 0 0 0 0) s m ([.ref h0]).toArray below meth c H locs 0 0 (MQ below (QW (some (.int (row 3))) D (mW dA h0 hr hp ha hf ht hd row past row bef txt rd hs true ln pa) A) ([.ref h0]).toArray s 0 0 A) (F0 m 2 ls [])
    refine lv_iload_n hx hb dX3_keep_2 rfl (lv_at hl 1 rfl) ?_
    refine lv_sipush (v := nI 444) hx hb dX3_keep_3 (by decide) ?_
    refine lv_icmp_ge (tgt := 27) hx hb dX3_keep_6 (by decide) (fun h => absurd h (nI_ge hk_1 (by omega))) (fun _ => ?_)
    refine lv_aload_n hx hb dX3_keep_9 rfl (lv_at hl 0 rfl) ?_
    refine va_get (D := D) (ci := 3) (C := RX3) (T := TX3) (N := 10) hx hb hts in_X3 hown K hP 0 rfl rfl 2 (by decide) (hts _ q1077) (fun _ h9 => h9) rfl dX3_keep_10 ?_
    refine lv_iload_n hx hb dX3_keep_13 rfl (lv_at hl 1 rfl) ?_
    refine lv_aload_n hx hb dX3_keep_14 rfl (lv_at hl 0 rfl) ?_
    refine va_get (D := D) (ci := 3) (C := RX3) (T := TX3) (N := 10) hx hb hts in_X3 hown K hP 0 rfl rfl 0 (by decide) (hts _ q1075) (fun _ h9 => h9) rfl dX3_keep_15 ?_
    refine lv_iload_n hx hb dX3_keep_18 rfl (lv_at hl 1 rfl) ?_
    refine x_iald hx hb K hP 1 0 rfl rfl k rfl (by omega) (by decide) rfl dX3_keep_19 ?_
    refine x_iast hx hb K hP hD hS 3 0 rfl rfl k rfl (by omega) (by decide) dX3_keep_20 (fun H locs hP hD hS => ?_)
    have hP : va_P D vwCl [(h0, .inr (3, [.ref hr, .ref hp, .ref ha, .ref hf, .int (nI hs), .int (bI ias), .ref ht, .int (nI ln), .int (nI pa), .ref hd])), (hr, .inl (dA 0, 444, .inl row)), (hp, .inl (dA 0, 1776, .inl past)), (ha, .inl (dA 0, 444, .inl (upd g k (row k)))), (hf, .inl (dA 0, 444, .inl bef)), (ht, .inl (dA 3, 60, .inl txt)), (hd, .inl (dA 0, 8, .inl rd))] H := hP
    have hD : va_D A [(h0, .inr (3, [.ref hr, .ref hp, .ref ha, .ref hf, .int (nI hs), .int (bI ias), .ref ht, .int (nI ln), .int (nI pa), .ref hd])), (hr, .inl (dA 0, 444, .inl row)), (hp, .inl (dA 0, 1776, .inl past)), (ha, .inl (dA 0, 444, .inl (upd g k (row k)))), (hf, .inl (dA 0, 444, .inl bef)), (ht, .inl (dA 3, 60, .inl txt)), (hd, .inl (dA 0, 8, .inl rd))] := hD
    refine lv_iinc (v := nI (k + 1)) (lv' := [(1, .int (nI (k + 1))), (0, .ref h0)]) hx hb dX3_keep_21 hl (k := 1) rfl (nI_1 k) (by decide) rfl (fun ls hl => ?_)
    refine lv_goto (tgt := 2) hx hb dX3_keep_24 (by decide) ?_
    refine ih ls H locs ⟨?_, hP, hD, hS⟩
    show lv_has ls 2 [(0, .ref h0), (1, .int (nI (k + 1)))]
    exact lv_sub hl [1, 0] rfl
  · intro ls H locs hI
    obtain ⟨hl, hP, hD, hS⟩ := hI
    rw [cp0_iter] at hP hD
    obtain ⟨hP, hD⟩ := arr_cg2 row 3 hP hD rfl (fun j hj => if_pos hj)
    have hl : lv_has ls 2 [(0, .ref h0), (1, .int (nI 444))] := hl
    have hP : va_P D vwCl [(h0, .inr (3, [.ref hr, .ref hp, .ref ha, .ref hf, .int (nI hs), .int (bI ias), .ref ht, .int (nI ln), .int (nI pa), .ref hd])), (hr, .inl (dA 0, 444, .inl row)), (hp, .inl (dA 0, 1776, .inl past)), (ha, .inl (dA 0, 444, .inl row)), (hf, .inl (dA 0, 444, .inl bef)), (ht, .inl (dA 3, 60, .inl txt)), (hd, .inl (dA 0, 8, .inl rd))] H := hP
    have hD : va_D A [(h0, .inr (3, [.ref hr, .ref hp, .ref ha, .ref hf, .int (nI hs), .int (bI ias), .ref ht, .int (nI ln), .int (nI pa), .ref hd])), (hr, .inl (dA 0, 444, .inl row)), (hp, .inl (dA 0, 1776, .inl past)), (ha, .inl (dA 0, 444, .inl row)), (hf, .inl (dA 0, 444, .inl bef)), (ht, .inl (dA 3, 60, .inl txt)), (hd, .inl (dA 0, 8, .inl rd))] := hD
    show W p l e (rmW 0 0 0 0) s m ([.ref h0]).toArray below meth c H locs 0 0 (MQ below (QW (some (.int (row 3))) D (mW dA h0 hr hp ha hf ht hd row past row bef txt rd hs true ln pa) A) ([.ref h0]).toArray s 0 0 A) (F0 m 2 ls [])
    refine lv_iload_n hx hb dX3_keep_2 rfl (lv_at hl 1 rfl) ?_
    refine lv_sipush (v := nI 444) hx hb dX3_keep_3 (by decide) ?_
    refine lv_icmp_ge (tgt := 27) hx hb dX3_keep_6 (by decide) (fun _ => ?_) (fun h => absurd (by decide) h)
    refine lv_aload_n hx hb dX3_keep_27 rfl (lv_at hl 0 rfl) ?_
    refine lv_iconst (v := nI 1) hx hb dX3_keep_28 (by decide) ?_
    refine x_top (y := bI true) rfl ?_
    refine va_put (D := D) (ci := 3) (v := .int (bI true)) (ty := .boolean) (C := RX3) (T := TX3) (N := 10) hx hb hts in_X3 tyX3 tyX3_ok nmX3 hown K hP hD hS 0 rfl rfl 5 (by decide) (hts _ q1080) (fun _ h9 => h9) rfl (by decide +kernel) (narrow_bI _) (fits_bI _) (Nat.le_of_ble_eq_true rfl) dX3_keep_29 (fun H locs hP hD hS => ?_)
    have hP : va_P D vwCl [(h0, .inr (3, [.ref hr, .ref hp, .ref ha, .ref hf, .int (nI hs), .int (bI true), .ref ht, .int (nI ln), .int (nI pa), .ref hd])), (hr, .inl (dA 0, 444, .inl row)), (hp, .inl (dA 0, 1776, .inl past)), (ha, .inl (dA 0, 444, .inl row)), (hf, .inl (dA 0, 444, .inl bef)), (ht, .inl (dA 3, 60, .inl txt)), (hd, .inl (dA 0, 8, .inl rd))] H := hP
    have hD : va_D A [(h0, .inr (3, [.ref hr, .ref hp, .ref ha, .ref hf, .int (nI hs), .int (bI true), .ref ht, .int (nI ln), .int (nI pa), .ref hd])), (hr, .inl (dA 0, 444, .inl row)), (hp, .inl (dA 0, 1776, .inl past)), (ha, .inl (dA 0, 444, .inl row)), (hf, .inl (dA 0, 444, .inl bef)), (ht, .inl (dA 3, 60, .inl txt)), (hd, .inl (dA 0, 8, .inl rd))] := hD
    refine lv_aload_n hx hb dX3_keep_32 rfl (lv_at hl 0 rfl) ?_
    refine va_get (D := D) (ci := 3) (C := RX3) (T := TX3) (N := 10) hx hb hts in_X3 hown K hP 0 rfl rfl 0 (by decide) (hts _ q1075) (fun _ h9 => h9) rfl dX3_keep_33 ?_
    refine lv_iconst (v := nI 3) hx hb dX3_keep_36 (by decide) ?_
    refine x_iald hx hb K hP 1 0 rfl rfl 3 rfl (by omega) (by decide) rfl dX3_keep_37 ?_
    exact x_viret hx hb hrt hlk rfl hP hD hS dX3_keep_38 (Nat.le_of_ble_eq_true rfl) (Nat.le_of_ble_eq_true rfl)

set_option maxHeartbeats 4000000 in
theorem mw_restore (l : Launch) (D : va_G) (dA : Nat → ClassId) (h0 hr hp ha hf ht hd : Nat) (row past aside bef txt rd : Nat → Int32) (hs : Nat) (ias : Bool) (ln pa : Nat) (hhs : hs ≤ 4) : WR l yX3_restore cX3_restore 2 (some .int) 2 80 0 0 [.ref h0] D dA (mW dA h0 hr hp ha hf ht hd row past aside bef txt rd hs ias ln pa) (some (.int (bif ias then aside 3 else -5))) (mW dA h0 hr hp ha hf ht hd (bif ias then aside else row) (bif ias then recP past row hs else past) aside (bif ias then row else bef) txt rd (bif ias then recH hs else hs) ias ln pa) := by
  refine wr_of (by decide) (Nat.le_of_ble_eq_true rfl) ?_
  intro p e s m below meth c A S hrt hlk K hA hAe H locs hP hD hS ls hl
  obtain ⟨hx, hb, hml, hown, hts⟩ := id S
  have hP : va_P D vwCl [(h0, .inr (3, [.ref hr, .ref hp, .ref ha, .ref hf, .int (nI hs), .int (bI ias), .ref ht, .int (nI ln), .int (nI pa), .ref hd])), (hr, .inl (dA 0, 444, .inl row)), (hp, .inl (dA 0, 1776, .inl past)), (ha, .inl (dA 0, 444, .inl aside)), (hf, .inl (dA 0, 444, .inl bef)), (ht, .inl (dA 3, 60, .inl txt)), (hd, .inl (dA 0, 8, .inl rd))] H := hP
  have hD : va_D A [(h0, .inr (3, [.ref hr, .ref hp, .ref ha, .ref hf, .int (nI hs), .int (bI ias), .ref ht, .int (nI ln), .int (nI pa), .ref hd])), (hr, .inl (dA 0, 444, .inl row)), (hp, .inl (dA 0, 1776, .inl past)), (ha, .inl (dA 0, 444, .inl aside)), (hf, .inl (dA 0, 444, .inl bef)), (ht, .inl (dA 3, 60, .inl txt)), (hd, .inl (dA 0, 8, .inl rd))] := hD
  have hl : lv_has ls 2 [(0, .ref h0)] := hl
  refine lv_aload_n hx hb dX3_restore_0 rfl (lv_at hl 0 rfl) ?_
  refine va_get (D := D) (ci := 3) (C := RX3) (T := TX3) (N := 10) hx hb hts in_X3 hown K hP 0 rfl rfl 5 (by decide) (hts _ q1080) (fun _ h9 => h9) rfl dX3_restore_1 ?_
  refine x_ifb_ne (tgt := 10) hx hb dX3_restore_4 (by decide) (fun h_1 => ?_) (fun h_1 => ?_)
  · subst h_1
    refine lv_aload_n hx hb dX3_restore_10 rfl (lv_at hl 0 rfl) ?_
    refine x_wcall (wr := []) (va_runV (As := []) (rest := []) S ((mw_begin l D dA h0 hr hp ha hf ht hd row past aside bef txt rd hs true ln pa hhs) H.size) (cwV 0 hts (lw_V q1119 q1121 qs24 q69 q1122) rfl rfl rfl hdX3_begin ⟨Nat.le_of_ble_eq_true rfl, Nat.le_of_ble_eq_true rfl⟩) ⟨pw_blind _, va_recv K hP (ci := 3) (q0 := 0) rfl rfl, pw_pre K hP hD _⟩ rfl rfl hl.1 rfl (lv_room (Nat.le_of_ble_eq_true rfl)) dX3_restore_11 ⟨Nat.le_of_ble_eq_true rfl, Nat.le_of_ble_eq_true rfl⟩) hP hD hS hA [0, 1, 2, 3, 4, 5, 6] [] rfl rfl (by decide) (by decide) (fun H locs hP hD hS hkp => ?_)
    have hP : va_P D vwCl [(h0, .inr (3, [.ref hr, .ref hp, .ref ha, .ref hf, .int (nI (recH hs)), .int (bI true), .ref ht, .int (nI ln), .int (nI pa), .ref hd])), (hr, .inl (dA 0, 444, .inl row)), (hp, .inl (dA 0, 1776, .inl (recP past row hs))), (ha, .inl (dA 0, 444, .inl aside)), (hf, .inl (dA 0, 444, .inl row)), (ht, .inl (dA 3, 60, .inl txt)), (hd, .inl (dA 0, 8, .inl rd))] H := hP
    have hD : va_D A [(h0, .inr (3, [.ref hr, .ref hp, .ref ha, .ref hf, .int (nI (recH hs)), .int (bI true), .ref ht, .int (nI ln), .int (nI pa), .ref hd])), (hr, .inl (dA 0, 444, .inl row)), (hp, .inl (dA 0, 1776, .inl (recP past row hs))), (ha, .inl (dA 0, 444, .inl aside)), (hf, .inl (dA 0, 444, .inl row)), (ht, .inl (dA 3, 60, .inl txt)), (hd, .inl (dA 0, 8, .inl rd))] := hD
    refine lv_iconst (v := nI 0) hx hb dX3_restore_14 (by decide) ?_
    refine lv_istore_n (lv' := [(1, .int (nI 0)), (0, .ref h0)]) hx hb dX3_restore_15 rfl hl (by decide) rfl (fun ls hl => ?_)
    refine lpW (fun k g => upd g k (aside k)) row 444 (fun k g ls H locs => lv_has ls 2 [(0, .ref h0), (1, .int (nI k))] ∧ va_P D vwCl [(h0, .inr (3, [.ref hr, .ref hp, .ref ha, .ref hf, .int (nI (recH hs)), .int (bI true), .ref ht, .int (nI ln), .int (nI pa), .ref hd])), (hr, .inl (dA 0, 444, .inl g)), (hp, .inl (dA 0, 1776, .inl (recP past row hs))), (ha, .inl (dA 0, 444, .inl aside)), (hf, .inl (dA 0, 444, .inl row)), (ht, .inl (dA 3, 60, .inl txt)), (hd, .inl (dA 0, 8, .inl rd))] H ∧ va_D A [(h0, .inr (3, [.ref hr, .ref hp, .ref ha, .ref hf, .int (nI (recH hs)), .int (bI true), .ref ht, .int (nI ln), .int (nI pa), .ref hd])), (hr, .inl (dA 0, 444, .inl g)), (hp, .inl (dA 0, 1776, .inl (recP past row hs))), (ha, .inl (dA 0, 444, .inl aside)), (hf, .inl (dA 0, 444, .inl row)), (ht, .inl (dA 3, 60, .inl txt)), (hd, .inl (dA 0, 8, .inl rd))] ∧ va_S A s.heap H locs) (fun ls H locs => W p l e (rmW 2 80 0 0) s m ([.ref h0]).toArray below meth c H locs 0 0 (MQ below (QW (some (.int (bif true then aside 3 else -5))) D (mW dA h0 hr hp ha hf ht hd (bif true then aside else row) (bif true then recP past row hs else past) aside (bif true then row else bef) txt rd (bif true then recH hs else hs) true ln pa) A) ([.ref h0]).toArray s 0 0 A) (F0 m 16 ls [])) ?_ ?_ ls H locs ⟨lv_sub hl [1, 0] rfl, hP, hD, hS⟩
    · intro k ls H locs hk_2 hI ih
      generalize iter (fun k g => upd g k (aside k)) k 0 row = g at *
      obtain ⟨hl, hP, hD, hS⟩ := hI
      have hl : lv_has ls 2 [(0, .ref h0), (1, .int (nI k))] := hl
      have hP : va_P D vwCl [(h0, .inr (3, [.ref hr, .ref hp, .ref ha, .ref hf, .int (nI (recH hs)), .int (bI true), .ref ht, .int (nI ln), .int (nI pa), .ref hd])), (hr, .inl (dA 0, 444, .inl g)), (hp, .inl (dA 0, 1776, .inl (recP past row hs))), (ha, .inl (dA 0, 444, .inl aside)), (hf, .inl (dA 0, 444, .inl row)), (ht, .inl (dA 3, 60, .inl txt)), (hd, .inl (dA 0, 8, .inl rd))] H := hP
      have hD : va_D A [(h0, .inr (3, [.ref hr, .ref hp, .ref ha, .ref hf, .int (nI (recH hs)), .int (bI true), .ref ht, .int (nI ln), .int (nI pa), .ref hd])), (hr, .inl (dA 0, 444, .inl g)), (hp, .inl (dA 0, 1776, .inl (recP past row hs))), (ha, .inl (dA 0, 444, .inl aside)), (hf, .inl (dA 0, 444, .inl row)), (ht, .inl (dA 3, 60, .inl txt)), (hd, .inl (dA 0, 8, .inl rd))] := hD
      show W p l e (rmW 2 80 0 0) s m ([.ref h0]).toArray below meth c H locs 0 0 (MQ below (QW (some (.int (bif true then aside 3 else -5))) D (mW dA h0 hr hp ha hf ht hd (bif true then aside else row) (bif true then recP past row hs else past) aside (bif true then row else bef) txt rd (bif true then recH hs else hs) true ln pa) A) ([.ref h0]).toArray s 0 0 A) (F0 m 16 ls [])
      refine lv_iload_n hx hb dX3_restore_16 rfl (lv_at hl 1 rfl) ?_
      refine lv_sipush (v := nI 444) hx hb dX3_restore_17 (by decide) ?_
      refine lv_icmp_ge (tgt := 41) hx hb dX3_restore_20 (by decide) (fun h => absurd h (nI_ge hk_2 (by omega))) (fun _ => ?_)
      refine lv_aload_n hx hb dX3_restore_23 rfl (lv_at hl 0 rfl) ?_
      refine va_get (D := D) (ci := 3) (C := RX3) (T := TX3) (N := 10) hx hb hts in_X3 hown K hP 0 rfl rfl 0 (by decide) (hts _ q1075) (fun _ h9 => h9) rfl dX3_restore_24 ?_
      refine lv_iload_n hx hb dX3_restore_27 rfl (lv_at hl 1 rfl) ?_
      refine lv_aload_n hx hb dX3_restore_28 rfl (lv_at hl 0 rfl) ?_
      refine va_get (D := D) (ci := 3) (C := RX3) (T := TX3) (N := 10) hx hb hts in_X3 hown K hP 0 rfl rfl 2 (by decide) (hts _ q1077) (fun _ h9 => h9) rfl dX3_restore_29 ?_
      refine lv_iload_n hx hb dX3_restore_32 rfl (lv_at hl 1 rfl) ?_
      refine x_iald hx hb K hP 3 0 rfl rfl k rfl (by omega) (by decide) rfl dX3_restore_33 ?_
      refine x_iast hx hb K hP hD hS 1 0 rfl rfl k rfl (by omega) (by decide) dX3_restore_34 (fun H locs hP hD hS => ?_)
      have hP : va_P D vwCl [(h0, .inr (3, [.ref hr, .ref hp, .ref ha, .ref hf, .int (nI (recH hs)), .int (bI true), .ref ht, .int (nI ln), .int (nI pa), .ref hd])), (hr, .inl (dA 0, 444, .inl (upd g k (aside k)))), (hp, .inl (dA 0, 1776, .inl (recP past row hs))), (ha, .inl (dA 0, 444, .inl aside)), (hf, .inl (dA 0, 444, .inl row)), (ht, .inl (dA 3, 60, .inl txt)), (hd, .inl (dA 0, 8, .inl rd))] H := hP
      have hD : va_D A [(h0, .inr (3, [.ref hr, .ref hp, .ref ha, .ref hf, .int (nI (recH hs)), .int (bI true), .ref ht, .int (nI ln), .int (nI pa), .ref hd])), (hr, .inl (dA 0, 444, .inl (upd g k (aside k)))), (hp, .inl (dA 0, 1776, .inl (recP past row hs))), (ha, .inl (dA 0, 444, .inl aside)), (hf, .inl (dA 0, 444, .inl row)), (ht, .inl (dA 3, 60, .inl txt)), (hd, .inl (dA 0, 8, .inl rd))] := hD
      refine lv_iinc (v := nI (k + 1)) (lv' := [(1, .int (nI (k + 1))), (0, .ref h0)]) hx hb dX3_restore_35 hl (k := 1) rfl (nI_1 k) (by decide) rfl (fun ls hl => ?_)
      refine lv_goto (tgt := 16) hx hb dX3_restore_38 (by decide) ?_
      refine ih ls H locs ⟨?_, hP, hD, hS⟩
      show lv_has ls 2 [(0, .ref h0), (1, .int (nI (k + 1)))]
      exact lv_sub hl [1, 0] rfl
    · intro ls H locs hI
      obtain ⟨hl, hP, hD, hS⟩ := hI
      rw [cp0_iter] at hP hD
      obtain ⟨hP, hD⟩ := arr_cg2 aside 1 hP hD rfl (fun j hj => if_pos hj)
      have hl : lv_has ls 2 [(0, .ref h0), (1, .int (nI 444))] := hl
      have hP : va_P D vwCl [(h0, .inr (3, [.ref hr, .ref hp, .ref ha, .ref hf, .int (nI (recH hs)), .int (bI true), .ref ht, .int (nI ln), .int (nI pa), .ref hd])), (hr, .inl (dA 0, 444, .inl aside)), (hp, .inl (dA 0, 1776, .inl (recP past row hs))), (ha, .inl (dA 0, 444, .inl aside)), (hf, .inl (dA 0, 444, .inl row)), (ht, .inl (dA 3, 60, .inl txt)), (hd, .inl (dA 0, 8, .inl rd))] H := hP
      have hD : va_D A [(h0, .inr (3, [.ref hr, .ref hp, .ref ha, .ref hf, .int (nI (recH hs)), .int (bI true), .ref ht, .int (nI ln), .int (nI pa), .ref hd])), (hr, .inl (dA 0, 444, .inl aside)), (hp, .inl (dA 0, 1776, .inl (recP past row hs))), (ha, .inl (dA 0, 444, .inl aside)), (hf, .inl (dA 0, 444, .inl row)), (ht, .inl (dA 3, 60, .inl txt)), (hd, .inl (dA 0, 8, .inl rd))] := hD
      show W p l e (rmW 2 80 0 0) s m ([.ref h0]).toArray below meth c H locs 0 0 (MQ below (QW (some (.int (bif true then aside 3 else -5))) D (mW dA h0 hr hp ha hf ht hd (bif true then aside else row) (bif true then recP past row hs else past) aside (bif true then row else bef) txt rd (bif true then recH hs else hs) true ln pa) A) ([.ref h0]).toArray s 0 0 A) (F0 m 16 ls [])
      refine lv_iload_n hx hb dX3_restore_16 rfl (lv_at hl 1 rfl) ?_
      refine lv_sipush (v := nI 444) hx hb dX3_restore_17 (by decide) ?_
      refine lv_icmp_ge (tgt := 41) hx hb dX3_restore_20 (by decide) (fun _ => ?_) (fun h => absurd (by decide) h)
      refine lv_aload_n hx hb dX3_restore_41 rfl (lv_at hl 0 rfl) ?_
      refine va_get (D := D) (ci := 3) (C := RX3) (T := TX3) (N := 10) hx hb hts in_X3 hown K hP 0 rfl rfl 0 (by decide) (hts _ q1075) (fun _ h9 => h9) rfl dX3_restore_42 ?_
      refine lv_iconst (v := nI 3) hx hb dX3_restore_45 (by decide) ?_
      refine x_iald hx hb K hP 1 0 rfl rfl 3 rfl (by omega) (by decide) rfl dX3_restore_46 ?_
      exact x_viret hx hb hrt hlk rfl hP hD hS dX3_restore_47 (Nat.le_of_ble_eq_true rfl) (Nat.le_of_ble_eq_true rfl)
  · subst h_1
    refine lv_bipush (v := -5) hx hb dX3_restore_7 (by decide) ?_
    exact x_viret hx hb hrt hlk rfl hP hD hS dX3_restore_9 (Nat.le_of_ble_eq_true rfl) (Nat.le_of_ble_eq_true rfl)

set_option maxHeartbeats 4000000 in
theorem mw_dropAll (l : Launch) (D : va_G) (dA : Nat → ClassId) (h0 hr hp ha hf ht hd : Nat) (row past aside bef txt rd : Nat → Int32) (hs : Nat) (ias : Bool) (ln pa : Nat)  : WR l yX3_dropAll cX3_dropAll 2 none 0 0 0 0 [.ref h0] D dA (mW dA h0 hr hp ha hf ht hd row past aside bef txt rd hs ias ln pa) none (mW dA h0 hr hp ha hf ht hd (dropA row) past aside bef txt rd hs ias ln pa) := by
  refine wr_of (by decide) (Nat.le_of_ble_eq_true rfl) ?_
  intro p e s m below meth c A S hrt hlk K hA hAe H locs hP hD hS ls hl
  obtain ⟨hx, hb, hml, hown, hts⟩ := id S
  have hP : va_P D vwCl [(h0, .inr (3, [.ref hr, .ref hp, .ref ha, .ref hf, .int (nI hs), .int (bI ias), .ref ht, .int (nI ln), .int (nI pa), .ref hd])), (hr, .inl (dA 0, 444, .inl row)), (hp, .inl (dA 0, 1776, .inl past)), (ha, .inl (dA 0, 444, .inl aside)), (hf, .inl (dA 0, 444, .inl bef)), (ht, .inl (dA 3, 60, .inl txt)), (hd, .inl (dA 0, 8, .inl rd))] H := hP
  have hD : va_D A [(h0, .inr (3, [.ref hr, .ref hp, .ref ha, .ref hf, .int (nI hs), .int (bI ias), .ref ht, .int (nI ln), .int (nI pa), .ref hd])), (hr, .inl (dA 0, 444, .inl row)), (hp, .inl (dA 0, 1776, .inl past)), (ha, .inl (dA 0, 444, .inl aside)), (hf, .inl (dA 0, 444, .inl bef)), (ht, .inl (dA 3, 60, .inl txt)), (hd, .inl (dA 0, 8, .inl rd))] := hD
  have hl : lv_has ls 2 [(0, .ref h0)] := hl
  refine lv_aload_n hx hb dX3_dropAll_0 rfl (lv_at hl 0 rfl) ?_
  refine va_get (D := D) (ci := 3) (C := RX3) (T := TX3) (N := 10) hx hb hts in_X3 hown K hP 0 rfl rfl 0 (by decide) (hts _ q1075) (fun _ h9 => h9) rfl dX3_dropAll_1 ?_
  refine lv_iconst (v := nI 3) hx hb dX3_dropAll_4 (by decide) ?_
  refine lv_iconst (v := nI 0) hx hb dX3_dropAll_5 (by decide) ?_
  refine x_iast hx hb K hP hD hS 1 0 rfl rfl 3 rfl (by omega) (by decide) dX3_dropAll_6 (fun H locs hP hD hS => ?_)
  have hP : va_P D vwCl [(h0, .inr (3, [.ref hr, .ref hp, .ref ha, .ref hf, .int (nI hs), .int (bI ias), .ref ht, .int (nI ln), .int (nI pa), .ref hd])), (hr, .inl (dA 0, 444, .inl (upd row 3 (nI 0)))), (hp, .inl (dA 0, 1776, .inl past)), (ha, .inl (dA 0, 444, .inl aside)), (hf, .inl (dA 0, 444, .inl bef)), (ht, .inl (dA 3, 60, .inl txt)), (hd, .inl (dA 0, 8, .inl rd))] H := hP
  have hD : va_D A [(h0, .inr (3, [.ref hr, .ref hp, .ref ha, .ref hf, .int (nI hs), .int (bI ias), .ref ht, .int (nI ln), .int (nI pa), .ref hd])), (hr, .inl (dA 0, 444, .inl (upd row 3 (nI 0)))), (hp, .inl (dA 0, 1776, .inl past)), (ha, .inl (dA 0, 444, .inl aside)), (hf, .inl (dA 0, 444, .inl bef)), (ht, .inl (dA 3, 60, .inl txt)), (hd, .inl (dA 0, 8, .inl rd))] := hD
  refine lv_aload_n hx hb dX3_dropAll_7 rfl (lv_at hl 0 rfl) ?_
  refine va_get (D := D) (ci := 3) (C := RX3) (T := TX3) (N := 10) hx hb hts in_X3 hown K hP 0 rfl rfl 0 (by decide) (hts _ q1075) (fun _ h9 => h9) rfl dX3_dropAll_8 ?_
  refine lv_iconst (v := nI 4) hx hb dX3_dropAll_11 (by decide) ?_
  refine lv_bipush (v := -5) hx hb dX3_dropAll_12 (by decide) ?_
  refine x_iast hx hb K hP hD hS 1 0 rfl rfl 4 rfl (by omega) (by decide) dX3_dropAll_14 (fun H locs hP hD hS => ?_)
  have hP : va_P D vwCl [(h0, .inr (3, [.ref hr, .ref hp, .ref ha, .ref hf, .int (nI hs), .int (bI ias), .ref ht, .int (nI ln), .int (nI pa), .ref hd])), (hr, .inl (dA 0, 444, .inl (upd (upd row 3 (nI 0)) 4 (-5)))), (hp, .inl (dA 0, 1776, .inl past)), (ha, .inl (dA 0, 444, .inl aside)), (hf, .inl (dA 0, 444, .inl bef)), (ht, .inl (dA 3, 60, .inl txt)), (hd, .inl (dA 0, 8, .inl rd))] H := hP
  have hD : va_D A [(h0, .inr (3, [.ref hr, .ref hp, .ref ha, .ref hf, .int (nI hs), .int (bI ias), .ref ht, .int (nI ln), .int (nI pa), .ref hd])), (hr, .inl (dA 0, 444, .inl (upd (upd row 3 (nI 0)) 4 (-5)))), (hp, .inl (dA 0, 1776, .inl past)), (ha, .inl (dA 0, 444, .inl aside)), (hf, .inl (dA 0, 444, .inl bef)), (ht, .inl (dA 3, 60, .inl txt)), (hd, .inl (dA 0, 8, .inl rd))] := hD
  refine lv_bipush (v := nI 84) hx hb dX3_dropAll_15 (by decide) ?_
  refine lv_istore_n (lv' := [(1, .int (nI 84)), (0, .ref h0)]) hx hb dX3_dropAll_17 rfl hl (by decide) rfl (fun ls hl => ?_)
  refine lpW (fun k g => upd g (84 + k) (nI 0)) (upd (upd row 3 (nI 0)) 4 (-5)) 360 (fun k g ls H locs => lv_has ls 2 [(0, .ref h0), (1, .int (nI (84 + k)))] ∧ va_P D vwCl [(h0, .inr (3, [.ref hr, .ref hp, .ref ha, .ref hf, .int (nI hs), .int (bI ias), .ref ht, .int (nI ln), .int (nI pa), .ref hd])), (hr, .inl (dA 0, 444, .inl g)), (hp, .inl (dA 0, 1776, .inl past)), (ha, .inl (dA 0, 444, .inl aside)), (hf, .inl (dA 0, 444, .inl bef)), (ht, .inl (dA 3, 60, .inl txt)), (hd, .inl (dA 0, 8, .inl rd))] H ∧ va_D A [(h0, .inr (3, [.ref hr, .ref hp, .ref ha, .ref hf, .int (nI hs), .int (bI ias), .ref ht, .int (nI ln), .int (nI pa), .ref hd])), (hr, .inl (dA 0, 444, .inl g)), (hp, .inl (dA 0, 1776, .inl past)), (ha, .inl (dA 0, 444, .inl aside)), (hf, .inl (dA 0, 444, .inl bef)), (ht, .inl (dA 3, 60, .inl txt)), (hd, .inl (dA 0, 8, .inl rd))] ∧ va_S A s.heap H locs) (fun ls H locs => W p l e (rmW 0 0 0 0) s m ([.ref h0]).toArray below meth c H locs 0 0 (MQ below (QW none D (mW dA h0 hr hp ha hf ht hd (dropA row) past aside bef txt rd hs ias ln pa) A) ([.ref h0]).toArray s 0 0 A) (F0 m 18 ls [])) ?_ ?_ ls H locs ⟨lv_sub hl [1, 0] rfl, hP, hD, hS⟩
  · intro k ls H locs hk_1 hI ih
    generalize iter (fun k g => upd g (84 + k) (nI 0)) k 0 (upd (upd row 3 (nI 0)) 4 (-5)) = g at *
    obtain ⟨hl, hP, hD, hS⟩ := hI
    have hl : lv_has ls 2 [(0, .ref h0), (1, .int (nI (84 + k)))] := hl
    have hP : va_P D vwCl [(h0, .inr (3, [.ref hr, .ref hp, .ref ha, .ref hf, .int (nI hs), .int (bI ias), .ref ht, .int (nI ln), .int (nI pa), .ref hd])), (hr, .inl (dA 0, 444, .inl g)), (hp, .inl (dA 0, 1776, .inl past)), (ha, .inl (dA 0, 444, .inl aside)), (hf, .inl (dA 0, 444, .inl bef)), (ht, .inl (dA 3, 60, .inl txt)), (hd, .inl (dA 0, 8, .inl rd))] H := hP
    have hD : va_D A [(h0, .inr (3, [.ref hr, .ref hp, .ref ha, .ref hf, .int (nI hs), .int (bI ias), .ref ht, .int (nI ln), .int (nI pa), .ref hd])), (hr, .inl (dA 0, 444, .inl g)), (hp, .inl (dA 0, 1776, .inl past)), (ha, .inl (dA 0, 444, .inl aside)), (hf, .inl (dA 0, 444, .inl bef)), (ht, .inl (dA 3, 60, .inl txt)), (hd, .inl (dA 0, 8, .inl rd))] := hD
    show W p l e (rmW 0 0 0 0) s m ([.ref h0]).toArray below meth c H locs 0 0 (MQ below (QW none D (mW dA h0 hr hp ha hf ht hd (dropA row) past aside bef txt rd hs ias ln pa) A) ([.ref h0]).toArray s 0 0 A) (F0 m 18 ls [])
    refine lv_iload_n hx hb dX3_dropAll_18 rfl (lv_at hl 1 rfl) ?_
    refine lv_sipush (v := nI 444) hx hb dX3_dropAll_19 (by decide) ?_
    refine lv_icmp_ge (tgt := 38) hx hb dX3_dropAll_22 (by decide) (fun h => absurd h (nI_ge (show 84 + k < 444 by omega) (by omega))) (fun _ => ?_)
    refine lv_aload_n hx hb dX3_dropAll_25 rfl (lv_at hl 0 rfl) ?_
    refine va_get (D := D) (ci := 3) (C := RX3) (T := TX3) (N := 10) hx hb hts in_X3 hown K hP 0 rfl rfl 0 (by decide) (hts _ q1075) (fun _ h9 => h9) rfl dX3_dropAll_26 ?_
    refine lv_iload_n hx hb dX3_dropAll_29 rfl (lv_at hl 1 rfl) ?_
    refine lv_iconst (v := nI 0) hx hb dX3_dropAll_30 (by decide) ?_
    refine x_iast hx hb K hP hD hS 1 0 rfl rfl (84 + k) rfl (by omega) (by decide) dX3_dropAll_31 (fun H locs hP hD hS => ?_)
    have hP : va_P D vwCl [(h0, .inr (3, [.ref hr, .ref hp, .ref ha, .ref hf, .int (nI hs), .int (bI ias), .ref ht, .int (nI ln), .int (nI pa), .ref hd])), (hr, .inl (dA 0, 444, .inl (upd g (84 + k) (nI 0)))), (hp, .inl (dA 0, 1776, .inl past)), (ha, .inl (dA 0, 444, .inl aside)), (hf, .inl (dA 0, 444, .inl bef)), (ht, .inl (dA 3, 60, .inl txt)), (hd, .inl (dA 0, 8, .inl rd))] H := hP
    have hD : va_D A [(h0, .inr (3, [.ref hr, .ref hp, .ref ha, .ref hf, .int (nI hs), .int (bI ias), .ref ht, .int (nI ln), .int (nI pa), .ref hd])), (hr, .inl (dA 0, 444, .inl (upd g (84 + k) (nI 0)))), (hp, .inl (dA 0, 1776, .inl past)), (ha, .inl (dA 0, 444, .inl aside)), (hf, .inl (dA 0, 444, .inl bef)), (ht, .inl (dA 3, 60, .inl txt)), (hd, .inl (dA 0, 8, .inl rd))] := hD
    refine lv_iinc (v := nI ((84 + k) + 1)) (lv' := [(1, .int (nI ((84 + k) + 1))), (0, .ref h0)]) hx hb dX3_dropAll_32 hl (k := 1) rfl (nI_1 (84 + k)) (by decide) rfl (fun ls hl => ?_)
    refine lv_goto (tgt := 18) hx hb dX3_dropAll_35 (by decide) ?_
    refine ih ls H locs ⟨?_, hP, hD, hS⟩
    show lv_has ls 2 [(0, .ref h0), (1, .int (nI (84 + (k + 1))))]
    rw [show nI (84 + (k + 1)) = nI ((84 + k) + 1) from rfl]
    exact lv_sub hl [1, 0] rfl
  · intro ls H locs hI
    obtain ⟨hl, hP, hD, hS⟩ := hI
    rw [cp_iter (fun _ => nI 0)] at hP hD
    obtain ⟨hP, hD⟩ := arr_cg2 (dropA row) 1 hP hD rfl (fun j hj => by
      simp only [dropA, upd]
      by_cases h1 : 84 ≤ j
      · rw [if_pos (by omega), if_neg (by omega), if_neg (by omega), if_pos h1]
      · rw [if_neg (by omega)]
        by_cases h2 : j = 4
        · subst h2; rfl
        · rw [if_neg h2]; by_cases h3 : j = 3
          · rw [if_pos h3, if_pos h3]
          · rw [if_neg h3, if_neg h3, if_neg h2, if_neg h1])
    have hl : lv_has ls 2 [(0, .ref h0), (1, .int (nI (84 + 360)))] := hl
    have hP : va_P D vwCl [(h0, .inr (3, [.ref hr, .ref hp, .ref ha, .ref hf, .int (nI hs), .int (bI ias), .ref ht, .int (nI ln), .int (nI pa), .ref hd])), (hr, .inl (dA 0, 444, .inl (dropA row))), (hp, .inl (dA 0, 1776, .inl past)), (ha, .inl (dA 0, 444, .inl aside)), (hf, .inl (dA 0, 444, .inl bef)), (ht, .inl (dA 3, 60, .inl txt)), (hd, .inl (dA 0, 8, .inl rd))] H := hP
    have hD : va_D A [(h0, .inr (3, [.ref hr, .ref hp, .ref ha, .ref hf, .int (nI hs), .int (bI ias), .ref ht, .int (nI ln), .int (nI pa), .ref hd])), (hr, .inl (dA 0, 444, .inl (dropA row))), (hp, .inl (dA 0, 1776, .inl past)), (ha, .inl (dA 0, 444, .inl aside)), (hf, .inl (dA 0, 444, .inl bef)), (ht, .inl (dA 3, 60, .inl txt)), (hd, .inl (dA 0, 8, .inl rd))] := hD
    show W p l e (rmW 0 0 0 0) s m ([.ref h0]).toArray below meth c H locs 0 0 (MQ below (QW none D (mW dA h0 hr hp ha hf ht hd (dropA row) past aside bef txt rd hs ias ln pa) A) ([.ref h0]).toArray s 0 0 A) (F0 m 18 ls [])
    refine lv_iload_n hx hb dX3_dropAll_18 rfl (lv_at hl 1 rfl) ?_
    refine lv_sipush (v := nI 444) hx hb dX3_dropAll_19 (by decide) ?_
    refine lv_icmp_ge (tgt := 38) hx hb dX3_dropAll_22 (by decide) (fun _ => ?_) (fun h => absurd (nI_le (by omega) (by omega)) h)
    exact x_vvret hx hb hrt hlk hP hD hS dX3_dropAll_38 (Nat.le_of_ble_eq_true rfl) (Nat.le_of_ble_eq_true rfl)

set_option maxHeartbeats 4000000 in
theorem mw_change (l : Launch) (D : va_G) (dA : Nat → ClassId) (h0 hr hp ha hf ht hd : Nat) (row past aside bef txt rd : Nat → Int32) (hs : Nat) (ias : Bool) (ln pa : Nat) (pl : Nat) (v : Int32) {n cu q : Nat} (w : MWf row n cu q) (hhs : hs ≤ 4) (hpl : pl < 444) : WR l yX3_change cX3_change 4 (some .int) 2 80 0 0 [.ref h0, .int (nI pl), .int v] D dA (mW dA h0 hr hp ha hf ht hd row past aside bef txt rd hs ias ln pa) (some (.int (rCh row pl v))) (mW dA h0 hr hp ha hf ht hd (bif okCh row pl v then dropA (upd row pl v) else row) (bif okCh row pl v then recP past row hs else past) aside (bif okCh row pl v then row else bef) txt rd (bif okCh row pl v then recH hs else hs) ias ln pa) := by
  refine wr_of (by decide) (Nat.le_of_ble_eq_true rfl) ?_
  intro p e s m below meth c A S hrt hlk K hA hAe H locs hP hD hS ls hl
  obtain ⟨hx, hb, hml, hown, hts⟩ := id S
  obtain ⟨e0, hn, e1, hcu, e3, hq, hray⟩ := id w
  have hP : va_P D vwCl [(h0, .inr (3, [.ref hr, .ref hp, .ref ha, .ref hf, .int (nI hs), .int (bI ias), .ref ht, .int (nI ln), .int (nI pa), .ref hd])), (hr, .inl (dA 0, 444, .inl row)), (hp, .inl (dA 0, 1776, .inl past)), (ha, .inl (dA 0, 444, .inl aside)), (hf, .inl (dA 0, 444, .inl bef)), (ht, .inl (dA 3, 60, .inl txt)), (hd, .inl (dA 0, 8, .inl rd))] H := hP
  have hD : va_D A [(h0, .inr (3, [.ref hr, .ref hp, .ref ha, .ref hf, .int (nI hs), .int (bI ias), .ref ht, .int (nI ln), .int (nI pa), .ref hd])), (hr, .inl (dA 0, 444, .inl row)), (hp, .inl (dA 0, 1776, .inl past)), (ha, .inl (dA 0, 444, .inl aside)), (hf, .inl (dA 0, 444, .inl bef)), (ht, .inl (dA 3, 60, .inl txt)), (hd, .inl (dA 0, 8, .inl rd))] := hD
  have hl : lv_has ls 4 [(0, .ref h0), (1, .int (nI pl)), (2, .int v)] := hl
  refine lv_aload_n hx hb dX3_change_0 rfl (lv_at hl 0 rfl) ?_
  refine va_get (D := D) (ci := 3) (C := RX3) (T := TX3) (N := 10) hx hb hts in_X3 hown K hP 0 rfl rfl 0 (by decide) (hts _ q1075) (fun _ h9 => h9) rfl dX3_change_1 ?_
  refine lv_iload_n hx hb dX3_change_4 rfl (lv_at hl 1 rfl) ?_
  refine x_iald hx hb K hP 1 0 rfl rfl pl rfl (by omega) (by decide) rfl dX3_change_5 ?_
  refine lv_istore_n (lv' := [(3, .int (row pl)), (0, .ref h0), (1, .int (nI pl)), (2, .int v)]) hx hb dX3_change_6 rfl hl (by decide) rfl (fun ls hl => ?_)
  refine lv_iload_n hx hb dX3_change_7 rfl (lv_at hl 0 rfl) ?_
  refine lv_iload_n hx hb dX3_change_8 rfl (lv_at hl 3 rfl) ?_
  refine lv_icmp_ne (tgt := 15) hx hb dX3_change_9 (by decide) (fun h_1 => ?_) (fun h_1 => ?_)
  · refine lv_aload_n hx hb dX3_change_15 rfl (lv_at hl 1 rfl) ?_
    refine x_wcall (wr := []) (va_runV (As := []) (rest := []) S ((mw_begin l D dA h0 hr hp ha hf ht hd row past aside bef txt rd hs ias ln pa hhs) H.size) (cwV 0 hts (lw_V q1119 q1121 qs24 q69 q1122) rfl rfl rfl hdX3_begin ⟨Nat.le_of_ble_eq_true rfl, Nat.le_of_ble_eq_true rfl⟩) ⟨pw_blind _, va_recv K hP (ci := 3) (q0 := 0) rfl rfl, pw_pre K hP hD _⟩ rfl rfl hl.1 rfl (lv_room (Nat.le_of_ble_eq_true rfl)) dX3_change_16 ⟨Nat.le_of_ble_eq_true rfl, Nat.le_of_ble_eq_true rfl⟩) hP hD hS hA [0, 1, 2, 3, 4, 5, 6] [] rfl rfl (by decide) (by decide) (fun H locs hP hD hS hkp => ?_)
    have hP : va_P D vwCl [(h0, .inr (3, [.ref hr, .ref hp, .ref ha, .ref hf, .int (nI (recH hs)), .int (bI ias), .ref ht, .int (nI ln), .int (nI pa), .ref hd])), (hr, .inl (dA 0, 444, .inl row)), (hp, .inl (dA 0, 1776, .inl (recP past row hs))), (ha, .inl (dA 0, 444, .inl aside)), (hf, .inl (dA 0, 444, .inl row)), (ht, .inl (dA 3, 60, .inl txt)), (hd, .inl (dA 0, 8, .inl rd))] H := hP
    have hD : va_D A [(h0, .inr (3, [.ref hr, .ref hp, .ref ha, .ref hf, .int (nI (recH hs)), .int (bI ias), .ref ht, .int (nI ln), .int (nI pa), .ref hd])), (hr, .inl (dA 0, 444, .inl row)), (hp, .inl (dA 0, 1776, .inl (recP past row hs))), (ha, .inl (dA 0, 444, .inl aside)), (hf, .inl (dA 0, 444, .inl row)), (ht, .inl (dA 3, 60, .inl txt)), (hd, .inl (dA 0, 8, .inl rd))] := hD
    refine lv_aload_n hx hb dX3_change_19 rfl (lv_at hl 1 rfl) ?_
    refine va_get (D := D) (ci := 3) (C := RX3) (T := TX3) (N := 10) hx hb hts in_X3 hown K hP 0 rfl rfl 0 (by decide) (hts _ q1075) (fun _ h9 => h9) rfl dX3_change_20 ?_
    refine lv_iload_n hx hb dX3_change_23 rfl (lv_at hl 2 rfl) ?_
    refine lv_iload_n hx hb dX3_change_24 rfl (lv_at hl 3 rfl) ?_
    refine x_iast hx hb K hP hD hS 1 0 rfl rfl pl rfl (by omega) (by decide) dX3_change_25 (fun H locs hP hD hS => ?_)
    have hP : va_P D vwCl [(h0, .inr (3, [.ref hr, .ref hp, .ref ha, .ref hf, .int (nI (recH hs)), .int (bI ias), .ref ht, .int (nI ln), .int (nI pa), .ref hd])), (hr, .inl (dA 0, 444, .inl (upd row pl v))), (hp, .inl (dA 0, 1776, .inl (recP past row hs))), (ha, .inl (dA 0, 444, .inl aside)), (hf, .inl (dA 0, 444, .inl row)), (ht, .inl (dA 3, 60, .inl txt)), (hd, .inl (dA 0, 8, .inl rd))] H := hP
    have hD : va_D A [(h0, .inr (3, [.ref hr, .ref hp, .ref ha, .ref hf, .int (nI (recH hs)), .int (bI ias), .ref ht, .int (nI ln), .int (nI pa), .ref hd])), (hr, .inl (dA 0, 444, .inl (upd row pl v))), (hp, .inl (dA 0, 1776, .inl (recP past row hs))), (ha, .inl (dA 0, 444, .inl aside)), (hf, .inl (dA 0, 444, .inl row)), (ht, .inl (dA 3, 60, .inl txt)), (hd, .inl (dA 0, 8, .inl rd))] := hD
    refine lv_aload_n hx hb dX3_change_26 rfl (lv_at hl 1 rfl) ?_
    refine x_wcall (wr := []) (va_runV (As := []) (rest := []) S ((mw_dropAll l D dA h0 hr hp ha hf ht hd (upd row pl v) (recP past row hs) aside row txt rd (recH hs) ias ln pa ) H.size) (cwV 0 hts (lw_V q1138 q1140 qs27 q69 q1141) rfl rfl rfl hdX3_dropAll ⟨Nat.le_of_ble_eq_true rfl, Nat.le_of_ble_eq_true rfl⟩) ⟨pw_blind _, va_recv K hP (ci := 3) (q0 := 0) rfl rfl, pw_pre K hP hD _⟩ rfl rfl hl.1 rfl (lv_room (Nat.le_of_ble_eq_true rfl)) dX3_change_27 ⟨Nat.le_of_ble_eq_true rfl, Nat.le_of_ble_eq_true rfl⟩) hP hD hS hA [0, 1, 2, 3, 4, 5, 6] [] rfl rfl (by decide) (by decide) (fun H locs hP hD hS hkp => ?_)
    have hP : va_P D vwCl [(h0, .inr (3, [.ref hr, .ref hp, .ref ha, .ref hf, .int (nI (recH hs)), .int (bI ias), .ref ht, .int (nI ln), .int (nI pa), .ref hd])), (hr, .inl (dA 0, 444, .inl (dropA (upd row pl v)))), (hp, .inl (dA 0, 1776, .inl (recP past row hs))), (ha, .inl (dA 0, 444, .inl aside)), (hf, .inl (dA 0, 444, .inl row)), (ht, .inl (dA 3, 60, .inl txt)), (hd, .inl (dA 0, 8, .inl rd))] H := hP
    have hD : va_D A [(h0, .inr (3, [.ref hr, .ref hp, .ref ha, .ref hf, .int (nI (recH hs)), .int (bI ias), .ref ht, .int (nI ln), .int (nI pa), .ref hd])), (hr, .inl (dA 0, 444, .inl (dropA (upd row pl v)))), (hp, .inl (dA 0, 1776, .inl (recP past row hs))), (ha, .inl (dA 0, 444, .inl aside)), (hf, .inl (dA 0, 444, .inl row)), (ht, .inl (dA 3, 60, .inl txt)), (hd, .inl (dA 0, 8, .inl rd))] := hD
    refine lv_iload_n hx hb dX3_change_30 rfl (lv_at hl 0 rfl) ?_
    rw [show okCh row pl v = true from (by simp [okCh, h_1])]
    exact x_viret hx hb hrt hlk (by simp [rCh, h_1]) hP hD hS dX3_change_31 (Nat.le_of_ble_eq_true rfl) (Nat.le_of_ble_eq_true rfl)
  · refine lv_bipush (v := -5) hx hb dX3_change_12 (by decide) ?_
    rw [show okCh row pl v = false from (by simp [okCh, h_1])]
    exact x_viret hx hb hrt hlk (by simp [rCh, h_1]) hP hD hS dX3_change_14 (Nat.le_of_ble_eq_true rfl) (Nat.le_of_ble_eq_true rfl)

set_option maxHeartbeats 4000000 in
theorem mw_addSite (l : Launch) (D : va_G) (dA : Nat → ClassId) (h0 hr hp ha hf ht hd : Nat) (row past aside bef txt rd : Nat → Int32) (hs : Nat) (ias : Bool) (ln pa : Nat) (x : Int32) {n cu q : Nat} (w : MWf row n cu q) (hhs : hs ≤ 4)  : WR l yX3_addSite cX3_addSite 3 (some .int) 2 80 0 0 [.ref h0, .int x] D dA (mW dA h0 hr hp ha hf ht hd row past aside bef txt rd hs ias ln pa) (some (.int (rAS n x))) (mW dA h0 hr hp ha hf ht hd (bif okAS n x then dropA (upd (upd row (6 + n) x) 0 (nI (n + 1))) else row) (bif okAS n x then recP past row hs else past) aside (bif okAS n x then row else bef) txt rd (bif okAS n x then recH hs else hs) ias ln pa) := by
  refine wr_of (by decide) (Nat.le_of_ble_eq_true rfl) ?_
  intro p e s m below meth c A S hrt hlk K hA hAe H locs hP hD hS ls hl
  obtain ⟨hx, hb, hml, hown, hts⟩ := id S
  obtain ⟨e0, hn, e1, hcu, e3, hq, hray⟩ := id w
  have hP : va_P D vwCl [(h0, .inr (3, [.ref hr, .ref hp, .ref ha, .ref hf, .int (nI hs), .int (bI ias), .ref ht, .int (nI ln), .int (nI pa), .ref hd])), (hr, .inl (dA 0, 444, .inl row)), (hp, .inl (dA 0, 1776, .inl past)), (ha, .inl (dA 0, 444, .inl aside)), (hf, .inl (dA 0, 444, .inl bef)), (ht, .inl (dA 3, 60, .inl txt)), (hd, .inl (dA 0, 8, .inl rd))] H := hP
  have hD : va_D A [(h0, .inr (3, [.ref hr, .ref hp, .ref ha, .ref hf, .int (nI hs), .int (bI ias), .ref ht, .int (nI ln), .int (nI pa), .ref hd])), (hr, .inl (dA 0, 444, .inl row)), (hp, .inl (dA 0, 1776, .inl past)), (ha, .inl (dA 0, 444, .inl aside)), (hf, .inl (dA 0, 444, .inl bef)), (ht, .inl (dA 3, 60, .inl txt)), (hd, .inl (dA 0, 8, .inl rd))] := hD
  have hl : lv_has ls 3 [(0, .ref h0), (1, .int x)] := hl
  refine lv_iload_n hx hb dX3_addSite_0 rfl (lv_at hl 1 rfl) ?_
  refine lv_iconst (v := nI 0) hx hb dX3_addSite_1 (by decide) ?_
  refine lv_sipush (v := nI 999) hx hb dX3_addSite_2 (by decide) ?_
  refine x_ret (va_runS (As := [.int x, .int (nI 0), .int (nI 999)]) (rest := []) S (mr_in l x (nI 0) (nI 999)) (va_cwS 3 hts (lw_S q1135 q1136 q69 q1137) rfl rfl rfl hdX3_in ⟨Nat.le_of_ble_eq_true rfl, Nat.le_of_ble_eq_true rfl⟩) ⟨bb_blind tt_bl _, tt_pre _⟩ rfl rfl hl.1 rfl (lv_room (Nat.le_of_ble_eq_true rfl)) dX3_addSite_5 ⟨by omega, by omega⟩) ?_
  refine x_ifb_ne (tgt := 14) hx hb dX3_addSite_8 (by decide) (fun h_1 => ?_) (fun h_1 => ?_)
  · refine lv_aload_n hx hb dX3_addSite_14 rfl (lv_at hl 0 rfl) ?_
    refine va_get (D := D) (ci := 3) (C := RX3) (T := TX3) (N := 10) hx hb hts in_X3 hown K hP 0 rfl rfl 0 (by decide) (hts _ q1075) (fun _ h9 => h9) rfl dX3_addSite_15 ?_
    refine lv_iconst (v := nI 0) hx hb dX3_addSite_18 (by decide) ?_
    refine x_iald hx hb K hP 1 0 rfl rfl 0 rfl (by omega) (by decide) e0 dX3_addSite_19 ?_
    refine lv_istore_n (lv' := [(2, .int (nI n)), (0, .ref h0), (1, .int x)]) hx hb dX3_addSite_20 rfl hl (by decide) rfl (fun ls hl => ?_)
    refine lv_iload_n hx hb dX3_addSite_21 rfl (lv_at hl 0 rfl) ?_
    refine lv_bipush (v := nI 7) hx hb dX3_addSite_22 (by decide) ?_
    refine lv_icmp_ne (tgt := 30) hx hb dX3_addSite_24 (by decide) (fun h_2 => ?_) (fun h_2 => ?_)
    · have h7 : ¬ n = 7 := fun q => h_2 (by rw [q])
      refine lv_aload_n hx hb dX3_addSite_30 rfl (lv_at hl 1 rfl) ?_
      refine x_wcall (wr := []) (va_runV (As := []) (rest := []) S ((mw_begin l D dA h0 hr hp ha hf ht hd row past aside bef txt rd hs ias ln pa hhs) H.size) (cwV 0 hts (lw_V q1119 q1121 qs24 q69 q1122) rfl rfl rfl hdX3_begin ⟨Nat.le_of_ble_eq_true rfl, Nat.le_of_ble_eq_true rfl⟩) ⟨pw_blind _, va_recv K hP (ci := 3) (q0 := 0) rfl rfl, pw_pre K hP hD _⟩ rfl rfl hl.1 rfl (lv_room (Nat.le_of_ble_eq_true rfl)) dX3_addSite_31 ⟨Nat.le_of_ble_eq_true rfl, Nat.le_of_ble_eq_true rfl⟩) hP hD hS hA [0, 1, 2, 3, 4, 5, 6] [] rfl rfl (by decide) (by decide) (fun H locs hP hD hS hkp => ?_)
      have hP : va_P D vwCl [(h0, .inr (3, [.ref hr, .ref hp, .ref ha, .ref hf, .int (nI (recH hs)), .int (bI ias), .ref ht, .int (nI ln), .int (nI pa), .ref hd])), (hr, .inl (dA 0, 444, .inl row)), (hp, .inl (dA 0, 1776, .inl (recP past row hs))), (ha, .inl (dA 0, 444, .inl aside)), (hf, .inl (dA 0, 444, .inl row)), (ht, .inl (dA 3, 60, .inl txt)), (hd, .inl (dA 0, 8, .inl rd))] H := hP
      have hD : va_D A [(h0, .inr (3, [.ref hr, .ref hp, .ref ha, .ref hf, .int (nI (recH hs)), .int (bI ias), .ref ht, .int (nI ln), .int (nI pa), .ref hd])), (hr, .inl (dA 0, 444, .inl row)), (hp, .inl (dA 0, 1776, .inl (recP past row hs))), (ha, .inl (dA 0, 444, .inl aside)), (hf, .inl (dA 0, 444, .inl row)), (ht, .inl (dA 3, 60, .inl txt)), (hd, .inl (dA 0, 8, .inl rd))] := hD
      refine lv_aload_n hx hb dX3_addSite_34 rfl (lv_at hl 1 rfl) ?_
      refine va_get (D := D) (ci := 3) (C := RX3) (T := TX3) (N := 10) hx hb hts in_X3 hown K hP 0 rfl rfl 0 (by decide) (hts _ q1075) (fun _ h9 => h9) rfl dX3_addSite_35 ?_
      refine lv_bipush (v := nI 6) hx hb dX3_addSite_38 (by decide) ?_
      refine lv_iload_n hx hb dX3_addSite_40 rfl (lv_at hl 0 rfl) ?_
      refine x_addN hx hb dX3_addSite_41 ?_
      refine lv_iload_n hx hb dX3_addSite_42 rfl (lv_at hl 2 rfl) ?_
      refine x_iast hx hb K hP hD hS 1 0 rfl rfl (6 + n) rfl (by omega) (by decide) dX3_addSite_43 (fun H locs hP hD hS => ?_)
      have hP : va_P D vwCl [(h0, .inr (3, [.ref hr, .ref hp, .ref ha, .ref hf, .int (nI (recH hs)), .int (bI ias), .ref ht, .int (nI ln), .int (nI pa), .ref hd])), (hr, .inl (dA 0, 444, .inl (upd row (6 + n) x))), (hp, .inl (dA 0, 1776, .inl (recP past row hs))), (ha, .inl (dA 0, 444, .inl aside)), (hf, .inl (dA 0, 444, .inl row)), (ht, .inl (dA 3, 60, .inl txt)), (hd, .inl (dA 0, 8, .inl rd))] H := hP
      have hD : va_D A [(h0, .inr (3, [.ref hr, .ref hp, .ref ha, .ref hf, .int (nI (recH hs)), .int (bI ias), .ref ht, .int (nI ln), .int (nI pa), .ref hd])), (hr, .inl (dA 0, 444, .inl (upd row (6 + n) x))), (hp, .inl (dA 0, 1776, .inl (recP past row hs))), (ha, .inl (dA 0, 444, .inl aside)), (hf, .inl (dA 0, 444, .inl row)), (ht, .inl (dA 3, 60, .inl txt)), (hd, .inl (dA 0, 8, .inl rd))] := hD
      refine lv_aload_n hx hb dX3_addSite_44 rfl (lv_at hl 1 rfl) ?_
      refine va_get (D := D) (ci := 3) (C := RX3) (T := TX3) (N := 10) hx hb hts in_X3 hown K hP 0 rfl rfl 0 (by decide) (hts _ q1075) (fun _ h9 => h9) rfl dX3_addSite_45 ?_
      refine lv_iconst (v := nI 0) hx hb dX3_addSite_48 (by decide) ?_
      refine lv_dup2_11 hx hb dX3_addSite_49 rfl rfl ?_
      refine x_iald (v := nI n) hx hb K hP 1 0 rfl rfl 0 rfl (by omega) (by decide) (by rw [pk_un (by omega)]; exact e0) dX3_addSite_50 ?_
      refine lv_iconst (v := nI 1) hx hb dX3_addSite_51 (by decide) ?_
      refine x_addN hx hb dX3_addSite_52 ?_
      refine x_iast hx hb K hP hD hS 1 0 rfl rfl 0 rfl (by omega) (by decide) dX3_addSite_53 (fun H locs hP hD hS => ?_)
      have hP : va_P D vwCl [(h0, .inr (3, [.ref hr, .ref hp, .ref ha, .ref hf, .int (nI (recH hs)), .int (bI ias), .ref ht, .int (nI ln), .int (nI pa), .ref hd])), (hr, .inl (dA 0, 444, .inl (upd (upd row (6 + n) x) 0 (nI (n + 1))))), (hp, .inl (dA 0, 1776, .inl (recP past row hs))), (ha, .inl (dA 0, 444, .inl aside)), (hf, .inl (dA 0, 444, .inl row)), (ht, .inl (dA 3, 60, .inl txt)), (hd, .inl (dA 0, 8, .inl rd))] H := hP
      have hD : va_D A [(h0, .inr (3, [.ref hr, .ref hp, .ref ha, .ref hf, .int (nI (recH hs)), .int (bI ias), .ref ht, .int (nI ln), .int (nI pa), .ref hd])), (hr, .inl (dA 0, 444, .inl (upd (upd row (6 + n) x) 0 (nI (n + 1))))), (hp, .inl (dA 0, 1776, .inl (recP past row hs))), (ha, .inl (dA 0, 444, .inl aside)), (hf, .inl (dA 0, 444, .inl row)), (ht, .inl (dA 3, 60, .inl txt)), (hd, .inl (dA 0, 8, .inl rd))] := hD
      refine lv_aload_n hx hb dX3_addSite_54 rfl (lv_at hl 1 rfl) ?_
      refine x_wcall (wr := []) (va_runV (As := []) (rest := []) S ((mw_dropAll l D dA h0 hr hp ha hf ht hd (upd (upd row (6 + n) x) 0 (nI (n + 1))) (recP past row hs) aside row txt rd (recH hs) ias ln pa ) H.size) (cwV 0 hts (lw_V q1138 q1140 qs27 q69 q1141) rfl rfl rfl hdX3_dropAll ⟨Nat.le_of_ble_eq_true rfl, Nat.le_of_ble_eq_true rfl⟩) ⟨pw_blind _, va_recv K hP (ci := 3) (q0 := 0) rfl rfl, pw_pre K hP hD _⟩ rfl rfl hl.1 rfl (lv_room (Nat.le_of_ble_eq_true rfl)) dX3_addSite_55 ⟨Nat.le_of_ble_eq_true rfl, Nat.le_of_ble_eq_true rfl⟩) hP hD hS hA [0, 1, 2, 3, 4, 5, 6] [] rfl rfl (by decide) (by decide) (fun H locs hP hD hS hkp => ?_)
      have hP : va_P D vwCl [(h0, .inr (3, [.ref hr, .ref hp, .ref ha, .ref hf, .int (nI (recH hs)), .int (bI ias), .ref ht, .int (nI ln), .int (nI pa), .ref hd])), (hr, .inl (dA 0, 444, .inl (dropA (upd (upd row (6 + n) x) 0 (nI (n + 1)))))), (hp, .inl (dA 0, 1776, .inl (recP past row hs))), (ha, .inl (dA 0, 444, .inl aside)), (hf, .inl (dA 0, 444, .inl row)), (ht, .inl (dA 3, 60, .inl txt)), (hd, .inl (dA 0, 8, .inl rd))] H := hP
      have hD : va_D A [(h0, .inr (3, [.ref hr, .ref hp, .ref ha, .ref hf, .int (nI (recH hs)), .int (bI ias), .ref ht, .int (nI ln), .int (nI pa), .ref hd])), (hr, .inl (dA 0, 444, .inl (dropA (upd (upd row (6 + n) x) 0 (nI (n + 1)))))), (hp, .inl (dA 0, 1776, .inl (recP past row hs))), (ha, .inl (dA 0, 444, .inl aside)), (hf, .inl (dA 0, 444, .inl row)), (ht, .inl (dA 3, 60, .inl txt)), (hd, .inl (dA 0, 8, .inl rd))] := hD
      refine lv_iload_n hx hb dX3_addSite_58 rfl (lv_at hl 0 rfl) ?_
      rw [show okAS n x = true from (by simp [okAS, h_1, h_2, h7])]
      exact x_viret hx hb hrt hlk (by simp [rAS, h_1, h_2, h7]) hP hD hS dX3_addSite_59 (Nat.le_of_ble_eq_true rfl) (Nat.le_of_ble_eq_true rfl)
    · have h7 : n = 7 := (nI_eq (by omega) (by decide)).mp h_2
      refine lv_bipush (v := -3) hx hb dX3_addSite_27 (by decide) ?_
      rw [show okAS n x = false from (by simp [okAS, h_1, h_2, h7])]
      exact x_viret hx hb hrt hlk (by simp [rAS, h_1, h_2, h7]) hP hD hS dX3_addSite_29 (Nat.le_of_ble_eq_true rfl) (Nat.le_of_ble_eq_true rfl)
  · refine lv_bipush (v := -2) hx hb dX3_addSite_11 (by decide) ?_
    rw [show okAS n x = false from (by simp [okAS, h_1])]
    exact x_viret hx hb hrt hlk (by simp [rAS, h_1]) hP hD hS dX3_addSite_13 (Nat.le_of_ble_eq_true rfl) (Nat.le_of_ble_eq_true rfl)

set_option maxHeartbeats 4000000 in
theorem mw_addCustomer (l : Launch) (D : va_G) (dA : Nat → ClassId) (h0 hr hp ha hf ht hd : Nat) (row past aside bef txt rd : Nat → Int32) (hs : Nat) (ias : Bool) (ln pa : Nat) (x : Int32) {n cu q : Nat} (w : MWf row n cu q) (hhs : hs ≤ 4)  : WR l yX3_addCustomer cX3_addCustomer 3 (some .int) 2 80 0 0 [.ref h0, .int x] D dA (mW dA h0 hr hp ha hf ht hd row past aside bef txt rd hs ias ln pa) (some (.int (rAC cu x))) (mW dA h0 hr hp ha hf ht hd (bif okAC cu x then dropA (upd (upd row (13 + cu) x) 1 (nI (cu + 1))) else row) (bif okAC cu x then recP past row hs else past) aside (bif okAC cu x then row else bef) txt rd (bif okAC cu x then recH hs else hs) ias ln pa) := by
  refine wr_of (by decide) (Nat.le_of_ble_eq_true rfl) ?_
  intro p e s m below meth c A S hrt hlk K hA hAe H locs hP hD hS ls hl
  obtain ⟨hx, hb, hml, hown, hts⟩ := id S
  obtain ⟨e0, hn, e1, hcu, e3, hq, hray⟩ := id w
  have hP : va_P D vwCl [(h0, .inr (3, [.ref hr, .ref hp, .ref ha, .ref hf, .int (nI hs), .int (bI ias), .ref ht, .int (nI ln), .int (nI pa), .ref hd])), (hr, .inl (dA 0, 444, .inl row)), (hp, .inl (dA 0, 1776, .inl past)), (ha, .inl (dA 0, 444, .inl aside)), (hf, .inl (dA 0, 444, .inl bef)), (ht, .inl (dA 3, 60, .inl txt)), (hd, .inl (dA 0, 8, .inl rd))] H := hP
  have hD : va_D A [(h0, .inr (3, [.ref hr, .ref hp, .ref ha, .ref hf, .int (nI hs), .int (bI ias), .ref ht, .int (nI ln), .int (nI pa), .ref hd])), (hr, .inl (dA 0, 444, .inl row)), (hp, .inl (dA 0, 1776, .inl past)), (ha, .inl (dA 0, 444, .inl aside)), (hf, .inl (dA 0, 444, .inl bef)), (ht, .inl (dA 3, 60, .inl txt)), (hd, .inl (dA 0, 8, .inl rd))] := hD
  have hl : lv_has ls 3 [(0, .ref h0), (1, .int x)] := hl
  refine lv_iload_n hx hb dX3_addCustomer_0 rfl (lv_at hl 1 rfl) ?_
  refine lv_iconst (v := nI 1) hx hb dX3_addCustomer_1 (by decide) ?_
  refine lv_bipush (v := nI 20) hx hb dX3_addCustomer_2 (by decide) ?_
  refine x_ret (va_runS (As := [.int x, .int (nI 1), .int (nI 20)]) (rest := []) S (mr_in l x (nI 1) (nI 20)) (va_cwS 3 hts (lw_S q1135 q1136 q69 q1137) rfl rfl rfl hdX3_in ⟨Nat.le_of_ble_eq_true rfl, Nat.le_of_ble_eq_true rfl⟩) ⟨bb_blind tt_bl _, tt_pre _⟩ rfl rfl hl.1 rfl (lv_room (Nat.le_of_ble_eq_true rfl)) dX3_addCustomer_4 ⟨by omega, by omega⟩) ?_
  refine x_ifb_ne (tgt := 13) hx hb dX3_addCustomer_7 (by decide) (fun h_1 => ?_) (fun h_1 => ?_)
  · refine lv_aload_n hx hb dX3_addCustomer_13 rfl (lv_at hl 0 rfl) ?_
    refine va_get (D := D) (ci := 3) (C := RX3) (T := TX3) (N := 10) hx hb hts in_X3 hown K hP 0 rfl rfl 0 (by decide) (hts _ q1075) (fun _ h9 => h9) rfl dX3_addCustomer_14 ?_
    refine lv_iconst (v := nI 1) hx hb dX3_addCustomer_17 (by decide) ?_
    refine x_iald hx hb K hP 1 0 rfl rfl 1 rfl (by omega) (by decide) e1 dX3_addCustomer_18 ?_
    refine lv_istore_n (lv' := [(2, .int (nI cu)), (0, .ref h0), (1, .int x)]) hx hb dX3_addCustomer_19 rfl hl (by decide) rfl (fun ls hl => ?_)
    refine lv_iload_n hx hb dX3_addCustomer_20 rfl (lv_at hl 0 rfl) ?_
    refine lv_bipush (v := nI 8) hx hb dX3_addCustomer_21 (by decide) ?_
    refine lv_icmp_ne (tgt := 29) hx hb dX3_addCustomer_23 (by decide) (fun h_2 => ?_) (fun h_2 => ?_)
    · have h7 : ¬ cu = 8 := fun q => h_2 (by rw [q])
      refine lv_aload_n hx hb dX3_addCustomer_29 rfl (lv_at hl 1 rfl) ?_
      refine x_wcall (wr := []) (va_runV (As := []) (rest := []) S ((mw_begin l D dA h0 hr hp ha hf ht hd row past aside bef txt rd hs ias ln pa hhs) H.size) (cwV 0 hts (lw_V q1119 q1121 qs24 q69 q1122) rfl rfl rfl hdX3_begin ⟨Nat.le_of_ble_eq_true rfl, Nat.le_of_ble_eq_true rfl⟩) ⟨pw_blind _, va_recv K hP (ci := 3) (q0 := 0) rfl rfl, pw_pre K hP hD _⟩ rfl rfl hl.1 rfl (lv_room (Nat.le_of_ble_eq_true rfl)) dX3_addCustomer_30 ⟨Nat.le_of_ble_eq_true rfl, Nat.le_of_ble_eq_true rfl⟩) hP hD hS hA [0, 1, 2, 3, 4, 5, 6] [] rfl rfl (by decide) (by decide) (fun H locs hP hD hS hkp => ?_)
      have hP : va_P D vwCl [(h0, .inr (3, [.ref hr, .ref hp, .ref ha, .ref hf, .int (nI (recH hs)), .int (bI ias), .ref ht, .int (nI ln), .int (nI pa), .ref hd])), (hr, .inl (dA 0, 444, .inl row)), (hp, .inl (dA 0, 1776, .inl (recP past row hs))), (ha, .inl (dA 0, 444, .inl aside)), (hf, .inl (dA 0, 444, .inl row)), (ht, .inl (dA 3, 60, .inl txt)), (hd, .inl (dA 0, 8, .inl rd))] H := hP
      have hD : va_D A [(h0, .inr (3, [.ref hr, .ref hp, .ref ha, .ref hf, .int (nI (recH hs)), .int (bI ias), .ref ht, .int (nI ln), .int (nI pa), .ref hd])), (hr, .inl (dA 0, 444, .inl row)), (hp, .inl (dA 0, 1776, .inl (recP past row hs))), (ha, .inl (dA 0, 444, .inl aside)), (hf, .inl (dA 0, 444, .inl row)), (ht, .inl (dA 3, 60, .inl txt)), (hd, .inl (dA 0, 8, .inl rd))] := hD
      refine lv_aload_n hx hb dX3_addCustomer_33 rfl (lv_at hl 1 rfl) ?_
      refine va_get (D := D) (ci := 3) (C := RX3) (T := TX3) (N := 10) hx hb hts in_X3 hown K hP 0 rfl rfl 0 (by decide) (hts _ q1075) (fun _ h9 => h9) rfl dX3_addCustomer_34 ?_
      refine lv_bipush (v := nI 13) hx hb dX3_addCustomer_37 (by decide) ?_
      refine lv_iload_n hx hb dX3_addCustomer_39 rfl (lv_at hl 0 rfl) ?_
      refine x_addN hx hb dX3_addCustomer_40 ?_
      refine lv_iload_n hx hb dX3_addCustomer_41 rfl (lv_at hl 2 rfl) ?_
      refine x_iast hx hb K hP hD hS 1 0 rfl rfl (13 + cu) rfl (by omega) (by decide) dX3_addCustomer_42 (fun H locs hP hD hS => ?_)
      have hP : va_P D vwCl [(h0, .inr (3, [.ref hr, .ref hp, .ref ha, .ref hf, .int (nI (recH hs)), .int (bI ias), .ref ht, .int (nI ln), .int (nI pa), .ref hd])), (hr, .inl (dA 0, 444, .inl (upd row (13 + cu) x))), (hp, .inl (dA 0, 1776, .inl (recP past row hs))), (ha, .inl (dA 0, 444, .inl aside)), (hf, .inl (dA 0, 444, .inl row)), (ht, .inl (dA 3, 60, .inl txt)), (hd, .inl (dA 0, 8, .inl rd))] H := hP
      have hD : va_D A [(h0, .inr (3, [.ref hr, .ref hp, .ref ha, .ref hf, .int (nI (recH hs)), .int (bI ias), .ref ht, .int (nI ln), .int (nI pa), .ref hd])), (hr, .inl (dA 0, 444, .inl (upd row (13 + cu) x))), (hp, .inl (dA 0, 1776, .inl (recP past row hs))), (ha, .inl (dA 0, 444, .inl aside)), (hf, .inl (dA 0, 444, .inl row)), (ht, .inl (dA 3, 60, .inl txt)), (hd, .inl (dA 0, 8, .inl rd))] := hD
      refine lv_aload_n hx hb dX3_addCustomer_43 rfl (lv_at hl 1 rfl) ?_
      refine va_get (D := D) (ci := 3) (C := RX3) (T := TX3) (N := 10) hx hb hts in_X3 hown K hP 0 rfl rfl 0 (by decide) (hts _ q1075) (fun _ h9 => h9) rfl dX3_addCustomer_44 ?_
      refine lv_iconst (v := nI 1) hx hb dX3_addCustomer_47 (by decide) ?_
      refine lv_dup2_11 hx hb dX3_addCustomer_48 rfl rfl ?_
      refine x_iald (v := nI cu) hx hb K hP 1 0 rfl rfl 1 rfl (by omega) (by decide) (by rw [pk_un (by omega)]; exact e1) dX3_addCustomer_49 ?_
      refine lv_iconst (v := nI 1) hx hb dX3_addCustomer_50 (by decide) ?_
      refine x_addN hx hb dX3_addCustomer_51 ?_
      refine x_iast hx hb K hP hD hS 1 0 rfl rfl 1 rfl (by omega) (by decide) dX3_addCustomer_52 (fun H locs hP hD hS => ?_)
      have hP : va_P D vwCl [(h0, .inr (3, [.ref hr, .ref hp, .ref ha, .ref hf, .int (nI (recH hs)), .int (bI ias), .ref ht, .int (nI ln), .int (nI pa), .ref hd])), (hr, .inl (dA 0, 444, .inl (upd (upd row (13 + cu) x) 1 (nI (cu + 1))))), (hp, .inl (dA 0, 1776, .inl (recP past row hs))), (ha, .inl (dA 0, 444, .inl aside)), (hf, .inl (dA 0, 444, .inl row)), (ht, .inl (dA 3, 60, .inl txt)), (hd, .inl (dA 0, 8, .inl rd))] H := hP
      have hD : va_D A [(h0, .inr (3, [.ref hr, .ref hp, .ref ha, .ref hf, .int (nI (recH hs)), .int (bI ias), .ref ht, .int (nI ln), .int (nI pa), .ref hd])), (hr, .inl (dA 0, 444, .inl (upd (upd row (13 + cu) x) 1 (nI (cu + 1))))), (hp, .inl (dA 0, 1776, .inl (recP past row hs))), (ha, .inl (dA 0, 444, .inl aside)), (hf, .inl (dA 0, 444, .inl row)), (ht, .inl (dA 3, 60, .inl txt)), (hd, .inl (dA 0, 8, .inl rd))] := hD
      refine lv_aload_n hx hb dX3_addCustomer_53 rfl (lv_at hl 1 rfl) ?_
      refine x_wcall (wr := []) (va_runV (As := []) (rest := []) S ((mw_dropAll l D dA h0 hr hp ha hf ht hd (upd (upd row (13 + cu) x) 1 (nI (cu + 1))) (recP past row hs) aside row txt rd (recH hs) ias ln pa ) H.size) (cwV 0 hts (lw_V q1138 q1140 qs27 q69 q1141) rfl rfl rfl hdX3_dropAll ⟨Nat.le_of_ble_eq_true rfl, Nat.le_of_ble_eq_true rfl⟩) ⟨pw_blind _, va_recv K hP (ci := 3) (q0 := 0) rfl rfl, pw_pre K hP hD _⟩ rfl rfl hl.1 rfl (lv_room (Nat.le_of_ble_eq_true rfl)) dX3_addCustomer_54 ⟨Nat.le_of_ble_eq_true rfl, Nat.le_of_ble_eq_true rfl⟩) hP hD hS hA [0, 1, 2, 3, 4, 5, 6] [] rfl rfl (by decide) (by decide) (fun H locs hP hD hS hkp => ?_)
      have hP : va_P D vwCl [(h0, .inr (3, [.ref hr, .ref hp, .ref ha, .ref hf, .int (nI (recH hs)), .int (bI ias), .ref ht, .int (nI ln), .int (nI pa), .ref hd])), (hr, .inl (dA 0, 444, .inl (dropA (upd (upd row (13 + cu) x) 1 (nI (cu + 1)))))), (hp, .inl (dA 0, 1776, .inl (recP past row hs))), (ha, .inl (dA 0, 444, .inl aside)), (hf, .inl (dA 0, 444, .inl row)), (ht, .inl (dA 3, 60, .inl txt)), (hd, .inl (dA 0, 8, .inl rd))] H := hP
      have hD : va_D A [(h0, .inr (3, [.ref hr, .ref hp, .ref ha, .ref hf, .int (nI (recH hs)), .int (bI ias), .ref ht, .int (nI ln), .int (nI pa), .ref hd])), (hr, .inl (dA 0, 444, .inl (dropA (upd (upd row (13 + cu) x) 1 (nI (cu + 1)))))), (hp, .inl (dA 0, 1776, .inl (recP past row hs))), (ha, .inl (dA 0, 444, .inl aside)), (hf, .inl (dA 0, 444, .inl row)), (ht, .inl (dA 3, 60, .inl txt)), (hd, .inl (dA 0, 8, .inl rd))] := hD
      refine lv_iload_n hx hb dX3_addCustomer_57 rfl (lv_at hl 0 rfl) ?_
      rw [show okAC cu x = true from (by simp [okAC, h_1, h_2, h7])]
      exact x_viret hx hb hrt hlk (by simp [rAC, h_1, h_2, h7]) hP hD hS dX3_addCustomer_58 (Nat.le_of_ble_eq_true rfl) (Nat.le_of_ble_eq_true rfl)
    · have h7 : cu = 8 := (nI_eq (by omega) (by decide)).mp h_2
      refine lv_bipush (v := -3) hx hb dX3_addCustomer_26 (by decide) ?_
      rw [show okAC cu x = false from (by simp [okAC, h_1, h_2, h7])]
      exact x_viret hx hb hrt hlk (by simp [rAC, h_1, h_2, h7]) hP hD hS dX3_addCustomer_28 (Nat.le_of_ble_eq_true rfl) (Nat.le_of_ble_eq_true rfl)
  · refine lv_bipush (v := -2) hx hb dX3_addCustomer_10 (by decide) ?_
    rw [show okAC cu x = false from (by simp [okAC, h_1])]
    exact x_viret hx hb hrt hlk (by simp [rAC, h_1]) hP hD hS dX3_addCustomer_12 (Nat.le_of_ble_eq_true rfl) (Nat.le_of_ble_eq_true rfl)

set_option maxHeartbeats 4000000 in
theorem mw_setPrice (l : Launch) (D : va_G) (dA : Nat → ClassId) (h0 hr hp ha hf ht hd : Nat) (row past aside bef txt rd : Nat → Int32) (hs : Nat) (ias : Bool) (ln pa : Nat) (x y : Int32) {n cu q : Nat} (w : MWf row n cu q) (hhs : hs ≤ 4)  : WR l yX3_setPrice cX3_setPrice 3 (some .int) 3 120 0 0 [.ref h0, .int x, .int y] D dA (mW dA h0 hr hp ha hf ht hd row past aside bef txt rd hs ias ln pa) (some (.int (rSP row n x y))) (mW dA h0 hr hp ha hf ht hd (bif okSP row n x y then dropA (upd row (6 + cN x) y) else row) (bif okSP row n x y then recP past row hs else past) aside (bif okSP row n x y then row else bef) txt rd (bif okSP row n x y then recH hs else hs) ias ln pa) := by
  refine wr_of (by decide) (Nat.le_of_ble_eq_true rfl) ?_
  intro p e s m below meth c A S hrt hlk K hA hAe H locs hP hD hS ls hl
  obtain ⟨hx, hb, hml, hown, hts⟩ := id S
  obtain ⟨e0, hn, e1, hcu, e3, hq, hray⟩ := id w
  have hP : va_P D vwCl [(h0, .inr (3, [.ref hr, .ref hp, .ref ha, .ref hf, .int (nI hs), .int (bI ias), .ref ht, .int (nI ln), .int (nI pa), .ref hd])), (hr, .inl (dA 0, 444, .inl row)), (hp, .inl (dA 0, 1776, .inl past)), (ha, .inl (dA 0, 444, .inl aside)), (hf, .inl (dA 0, 444, .inl bef)), (ht, .inl (dA 3, 60, .inl txt)), (hd, .inl (dA 0, 8, .inl rd))] H := hP
  have hD : va_D A [(h0, .inr (3, [.ref hr, .ref hp, .ref ha, .ref hf, .int (nI hs), .int (bI ias), .ref ht, .int (nI ln), .int (nI pa), .ref hd])), (hr, .inl (dA 0, 444, .inl row)), (hp, .inl (dA 0, 1776, .inl past)), (ha, .inl (dA 0, 444, .inl aside)), (hf, .inl (dA 0, 444, .inl bef)), (ht, .inl (dA 3, 60, .inl txt)), (hd, .inl (dA 0, 8, .inl rd))] := hD
  have hl : lv_has ls 3 [(0, .ref h0), (1, .int x), (2, .int y)] := hl
  refine lv_aload_n hx hb dX3_setPrice_0 rfl (lv_at hl 0 rfl) ?_
  refine lv_iload_n hx hb dX3_setPrice_1 rfl (lv_at hl 1 rfl) ?_
  refine x_ret (va_runV (As := [.int x]) (rest := []) S (mr_noSite l D dA h0 hr [.ref hp, .ref ha, .ref hf, .int (nI hs), .int (bI ias), .ref ht, .int (nI ln), .int (nI pa), .ref hd] row w x) (cwV 1 hts (lw_V q1150 q1152 qs28 q69 q1153) rfl rfl rfl hdX3_noSite ⟨Nat.le_of_ble_eq_true rfl, Nat.le_of_ble_eq_true rfl⟩) ⟨bb_blind ka_bl _, va_recv K hP (ci := 3) (q0 := 0) rfl rfl, ka_pre K (hP.sub [0, 1] rfl) _⟩ rfl rfl hl.1 rfl (lv_room (Nat.le_of_ble_eq_true rfl)) dX3_setPrice_2 ⟨by omega, by omega⟩) ?_
  refine x_ifb_eq (tgt := 10) hx hb dX3_setPrice_5 (by decide) (fun h_1 => ?_) (fun h_1 => ?_)
  · obtain ⟨j, hj, rfl⟩ := mNo_f (by omega) h_1
    have cj : (nI j).toNatClampNeg = j := nI_clamp (by omega)
    refine lv_iload_n hx hb dX3_setPrice_10 rfl (lv_at hl 2 rfl) ?_
    refine lv_iconst (v := nI 0) hx hb dX3_setPrice_11 (by decide) ?_
    refine lv_sipush (v := nI 999) hx hb dX3_setPrice_12 (by decide) ?_
    refine x_ret (va_runS (As := [.int y, .int (nI 0), .int (nI 999)]) (rest := []) S (mr_in l y (nI 0) (nI 999)) (va_cwS 3 hts (lw_S q1135 q1136 q69 q1137) rfl rfl rfl hdX3_in ⟨Nat.le_of_ble_eq_true rfl, Nat.le_of_ble_eq_true rfl⟩) ⟨bb_blind tt_bl _, tt_pre _⟩ rfl rfl hl.1 rfl (lv_room (Nat.le_of_ble_eq_true rfl)) dX3_setPrice_15 ⟨by omega, by omega⟩) ?_
    refine x_ifb_eq (tgt := 33) hx hb dX3_setPrice_18 (by decide) (fun h_2 => ?_) (fun h_2 => ?_)
    · refine lv_bipush (v := -2) hx hb dX3_setPrice_33 (by decide) ?_
      rw [show okSP row n (nI j) y = false from (by simp [okSP, h_1, cj, h_2])]
      exact x_viret hx hb hrt hlk (by simp [rSP, h_1, cj, h_2]) hP hD hS dX3_setPrice_35 (Nat.le_of_ble_eq_true rfl) (Nat.le_of_ble_eq_true rfl)
    · refine lv_aload_n hx hb dX3_setPrice_21 rfl (lv_at hl 0 rfl) ?_
      refine lv_bipush (v := nI 6) hx hb dX3_setPrice_22 (by decide) ?_
      refine lv_iload_n hx hb dX3_setPrice_24 rfl (lv_at hl 1 rfl) ?_
      refine x_addN hx hb dX3_setPrice_25 ?_
      refine lv_iload_n hx hb dX3_setPrice_26 rfl (lv_at hl 2 rfl) ?_
      refine x_wcall (wr := []) (va_runV (As := [.int (nI (6 + j)), .int y]) (rest := []) S ((mw_change l D dA h0 hr hp ha hf ht hd row past aside bef txt rd hs ias ln pa (6 + j) y w hhs (by omega)) H.size) (cwV 2 hts (lw_V q1154 q1156 qs29 q69 q1157) rfl rfl rfl hdX3_change ⟨Nat.le_of_ble_eq_true rfl, Nat.le_of_ble_eq_true rfl⟩) ⟨pw_blind _, va_recv K hP (ci := 3) (q0 := 0) rfl rfl, pw_pre K hP hD _⟩ rfl rfl hl.1 rfl (lv_room (Nat.le_of_ble_eq_true rfl)) dX3_setPrice_27 ⟨Nat.le_of_ble_eq_true rfl, Nat.le_of_ble_eq_true rfl⟩) hP hD hS hA [0, 1, 2, 3, 4, 5, 6] [] rfl rfl (by decide) (by decide) (fun H locs hP hD hS hkp => ?_)
      have hP : va_P D vwCl [(h0, .inr (3, [.ref hr, .ref hp, .ref ha, .ref hf, .int (nI (bif okCh row (6 + j) y then recH hs else hs)), .int (bI ias), .ref ht, .int (nI ln), .int (nI pa), .ref hd])), (hr, .inl (dA 0, 444, .inl (bif okCh row (6 + j) y then dropA (upd row (6 + j) y) else row))), (hp, .inl (dA 0, 1776, .inl (bif okCh row (6 + j) y then recP past row hs else past))), (ha, .inl (dA 0, 444, .inl aside)), (hf, .inl (dA 0, 444, .inl (bif okCh row (6 + j) y then row else bef))), (ht, .inl (dA 3, 60, .inl txt)), (hd, .inl (dA 0, 8, .inl rd))] H := hP
      have hD : va_D A [(h0, .inr (3, [.ref hr, .ref hp, .ref ha, .ref hf, .int (nI (bif okCh row (6 + j) y then recH hs else hs)), .int (bI ias), .ref ht, .int (nI ln), .int (nI pa), .ref hd])), (hr, .inl (dA 0, 444, .inl (bif okCh row (6 + j) y then dropA (upd row (6 + j) y) else row))), (hp, .inl (dA 0, 1776, .inl (bif okCh row (6 + j) y then recP past row hs else past))), (ha, .inl (dA 0, 444, .inl aside)), (hf, .inl (dA 0, 444, .inl (bif okCh row (6 + j) y then row else bef))), (ht, .inl (dA 3, 60, .inl txt)), (hd, .inl (dA 0, 8, .inl rd))] := hD
      refine lv_goto (tgt := 35) hx hb dX3_setPrice_30 (by decide) ?_
      rw [show okSP row n (nI j) y = okCh row (6 + j) y from (by simp [okSP, h_1, cj, h_2])]
      simp only [cj]
      exact x_viret hx hb hrt hlk (by simp [rSP, h_1, cj, h_2]) hP hD hS dX3_setPrice_35 (Nat.le_of_ble_eq_true rfl) (Nat.le_of_ble_eq_true rfl)
  · refine lv_iconst (v := -1) hx hb dX3_setPrice_8 (by decide) ?_
    rw [show okSP row n x y = false from (by simp [okSP, h_1])]
    exact x_viret hx hb hrt hlk (by simp [rSP, h_1]) hP hD hS dX3_setPrice_9 (Nat.le_of_ble_eq_true rfl) (Nat.le_of_ble_eq_true rfl)

set_option maxHeartbeats 4000000 in
theorem mw_setDemand (l : Launch) (D : va_G) (dA : Nat → ClassId) (h0 hr hp ha hf ht hd : Nat) (row past aside bef txt rd : Nat → Int32) (hs : Nat) (ias : Bool) (ln pa : Nat) (x y : Int32) {n cu q : Nat} (w : MWf row n cu q) (hhs : hs ≤ 4)  : WR l yX3_setDemand cX3_setDemand 3 (some .int) 3 120 0 0 [.ref h0, .int x, .int y] D dA (mW dA h0 hr hp ha hf ht hd row past aside bef txt rd hs ias ln pa) (some (.int (rSD row cu x y))) (mW dA h0 hr hp ha hf ht hd (bif okSD row cu x y then dropA (upd row (13 + cN x) y) else row) (bif okSD row cu x y then recP past row hs else past) aside (bif okSD row cu x y then row else bef) txt rd (bif okSD row cu x y then recH hs else hs) ias ln pa) := by
  refine wr_of (by decide) (Nat.le_of_ble_eq_true rfl) ?_
  intro p e s m below meth c A S hrt hlk K hA hAe H locs hP hD hS ls hl
  obtain ⟨hx, hb, hml, hown, hts⟩ := id S
  obtain ⟨e0, hn, e1, hcu, e3, hq, hray⟩ := id w
  have hP : va_P D vwCl [(h0, .inr (3, [.ref hr, .ref hp, .ref ha, .ref hf, .int (nI hs), .int (bI ias), .ref ht, .int (nI ln), .int (nI pa), .ref hd])), (hr, .inl (dA 0, 444, .inl row)), (hp, .inl (dA 0, 1776, .inl past)), (ha, .inl (dA 0, 444, .inl aside)), (hf, .inl (dA 0, 444, .inl bef)), (ht, .inl (dA 3, 60, .inl txt)), (hd, .inl (dA 0, 8, .inl rd))] H := hP
  have hD : va_D A [(h0, .inr (3, [.ref hr, .ref hp, .ref ha, .ref hf, .int (nI hs), .int (bI ias), .ref ht, .int (nI ln), .int (nI pa), .ref hd])), (hr, .inl (dA 0, 444, .inl row)), (hp, .inl (dA 0, 1776, .inl past)), (ha, .inl (dA 0, 444, .inl aside)), (hf, .inl (dA 0, 444, .inl bef)), (ht, .inl (dA 3, 60, .inl txt)), (hd, .inl (dA 0, 8, .inl rd))] := hD
  have hl : lv_has ls 3 [(0, .ref h0), (1, .int x), (2, .int y)] := hl
  refine lv_aload_n hx hb dX3_setDemand_0 rfl (lv_at hl 0 rfl) ?_
  refine lv_iload_n hx hb dX3_setDemand_1 rfl (lv_at hl 1 rfl) ?_
  refine x_ret (va_runV (As := [.int x]) (rest := []) S (mr_noCustomer l D dA h0 hr [.ref hp, .ref ha, .ref hf, .int (nI hs), .int (bI ias), .ref ht, .int (nI ln), .int (nI pa), .ref hd] row w x) (cwV 1 hts (lw_V q1162 q1164 qs30 q69 q1165) rfl rfl rfl hdX3_noCustomer ⟨Nat.le_of_ble_eq_true rfl, Nat.le_of_ble_eq_true rfl⟩) ⟨bb_blind ka_bl _, va_recv K hP (ci := 3) (q0 := 0) rfl rfl, ka_pre K (hP.sub [0, 1] rfl) _⟩ rfl rfl hl.1 rfl (lv_room (Nat.le_of_ble_eq_true rfl)) dX3_setDemand_2 ⟨by omega, by omega⟩) ?_
  refine x_ifb_eq (tgt := 10) hx hb dX3_setDemand_5 (by decide) (fun h_1 => ?_) (fun h_1 => ?_)
  · obtain ⟨j, hj, rfl⟩ := mNo_f (by omega) h_1
    have cj : (nI j).toNatClampNeg = j := nI_clamp (by omega)
    refine lv_iload_n hx hb dX3_setDemand_10 rfl (lv_at hl 2 rfl) ?_
    refine lv_iconst (v := nI 1) hx hb dX3_setDemand_11 (by decide) ?_
    refine lv_bipush (v := nI 20) hx hb dX3_setDemand_12 (by decide) ?_
    refine x_ret (va_runS (As := [.int y, .int (nI 1), .int (nI 20)]) (rest := []) S (mr_in l y (nI 1) (nI 20)) (va_cwS 3 hts (lw_S q1135 q1136 q69 q1137) rfl rfl rfl hdX3_in ⟨Nat.le_of_ble_eq_true rfl, Nat.le_of_ble_eq_true rfl⟩) ⟨bb_blind tt_bl _, tt_pre _⟩ rfl rfl hl.1 rfl (lv_room (Nat.le_of_ble_eq_true rfl)) dX3_setDemand_14 ⟨by omega, by omega⟩) ?_
    refine x_ifb_eq (tgt := 32) hx hb dX3_setDemand_17 (by decide) (fun h_2 => ?_) (fun h_2 => ?_)
    · refine lv_bipush (v := -2) hx hb dX3_setDemand_32 (by decide) ?_
      rw [show okSD row cu (nI j) y = false from (by simp [okSD, h_1, cj, h_2])]
      exact x_viret hx hb hrt hlk (by simp [rSD, h_1, cj, h_2]) hP hD hS dX3_setDemand_34 (Nat.le_of_ble_eq_true rfl) (Nat.le_of_ble_eq_true rfl)
    · refine lv_aload_n hx hb dX3_setDemand_20 rfl (lv_at hl 0 rfl) ?_
      refine lv_bipush (v := nI 13) hx hb dX3_setDemand_21 (by decide) ?_
      refine lv_iload_n hx hb dX3_setDemand_23 rfl (lv_at hl 1 rfl) ?_
      refine x_addN hx hb dX3_setDemand_24 ?_
      refine lv_iload_n hx hb dX3_setDemand_25 rfl (lv_at hl 2 rfl) ?_
      refine x_wcall (wr := []) (va_runV (As := [.int (nI (13 + j)), .int y]) (rest := []) S ((mw_change l D dA h0 hr hp ha hf ht hd row past aside bef txt rd hs ias ln pa (13 + j) y w hhs (by omega)) H.size) (cwV 2 hts (lw_V q1154 q1156 qs29 q69 q1157) rfl rfl rfl hdX3_change ⟨Nat.le_of_ble_eq_true rfl, Nat.le_of_ble_eq_true rfl⟩) ⟨pw_blind _, va_recv K hP (ci := 3) (q0 := 0) rfl rfl, pw_pre K hP hD _⟩ rfl rfl hl.1 rfl (lv_room (Nat.le_of_ble_eq_true rfl)) dX3_setDemand_26 ⟨Nat.le_of_ble_eq_true rfl, Nat.le_of_ble_eq_true rfl⟩) hP hD hS hA [0, 1, 2, 3, 4, 5, 6] [] rfl rfl (by decide) (by decide) (fun H locs hP hD hS hkp => ?_)
      have hP : va_P D vwCl [(h0, .inr (3, [.ref hr, .ref hp, .ref ha, .ref hf, .int (nI (bif okCh row (13 + j) y then recH hs else hs)), .int (bI ias), .ref ht, .int (nI ln), .int (nI pa), .ref hd])), (hr, .inl (dA 0, 444, .inl (bif okCh row (13 + j) y then dropA (upd row (13 + j) y) else row))), (hp, .inl (dA 0, 1776, .inl (bif okCh row (13 + j) y then recP past row hs else past))), (ha, .inl (dA 0, 444, .inl aside)), (hf, .inl (dA 0, 444, .inl (bif okCh row (13 + j) y then row else bef))), (ht, .inl (dA 3, 60, .inl txt)), (hd, .inl (dA 0, 8, .inl rd))] H := hP
      have hD : va_D A [(h0, .inr (3, [.ref hr, .ref hp, .ref ha, .ref hf, .int (nI (bif okCh row (13 + j) y then recH hs else hs)), .int (bI ias), .ref ht, .int (nI ln), .int (nI pa), .ref hd])), (hr, .inl (dA 0, 444, .inl (bif okCh row (13 + j) y then dropA (upd row (13 + j) y) else row))), (hp, .inl (dA 0, 1776, .inl (bif okCh row (13 + j) y then recP past row hs else past))), (ha, .inl (dA 0, 444, .inl aside)), (hf, .inl (dA 0, 444, .inl (bif okCh row (13 + j) y then row else bef))), (ht, .inl (dA 3, 60, .inl txt)), (hd, .inl (dA 0, 8, .inl rd))] := hD
      refine lv_goto (tgt := 34) hx hb dX3_setDemand_29 (by decide) ?_
      rw [show okSD row cu (nI j) y = okCh row (13 + j) y from (by simp [okSD, h_1, cj, h_2])]
      simp only [cj]
      exact x_viret hx hb hrt hlk (by simp [rSD, h_1, cj, h_2]) hP hD hS dX3_setDemand_34 (Nat.le_of_ble_eq_true rfl) (Nat.le_of_ble_eq_true rfl)
  · refine lv_iconst (v := -1) hx hb dX3_setDemand_8 (by decide) ?_
    rw [show okSD row cu x y = false from (by simp [okSD, h_1])]
    exact x_viret hx hb hrt hlk (by simp [rSD, h_1]) hP hD hS dX3_setDemand_9 (Nat.le_of_ble_eq_true rfl) (Nat.le_of_ble_eq_true rfl)

set_option maxHeartbeats 4000000 in
theorem mw_setRoute (l : Launch) (D : va_G) (dA : Nat → ClassId) (h0 hr hp ha hf ht hd : Nat) (row past aside bef txt rd : Nat → Int32) (hs : Nat) (ias : Bool) (ln pa : Nat) (x y z : Int32) {n cu q : Nat} (w : MWf row n cu q) (hhs : hs ≤ 4)  : WR l yX3_setRoute cX3_setRoute 4 (some .int) 3 120 0 0 [.ref h0, .int x, .int y, .int z] D dA (mW dA h0 hr hp ha hf ht hd row past aside bef txt rd hs ias ln pa) (some (.int (rSR row n cu x y z))) (mW dA h0 hr hp ha hf ht hd (bif okSR row n cu x y z then dropA (upd row (21 + 8 * cN x + cN y) z) else row) (bif okSR row n cu x y z then recP past row hs else past) aside (bif okSR row n cu x y z then row else bef) txt rd (bif okSR row n cu x y z then recH hs else hs) ias ln pa) := by
  refine wr_of (by decide) (Nat.le_of_ble_eq_true rfl) ?_
  intro p e s m below meth c A S hrt hlk K hA hAe H locs hP hD hS ls hl
  obtain ⟨hx, hb, hml, hown, hts⟩ := id S
  obtain ⟨e0, hn, e1, hcu, e3, hq, hray⟩ := id w
  have hP : va_P D vwCl [(h0, .inr (3, [.ref hr, .ref hp, .ref ha, .ref hf, .int (nI hs), .int (bI ias), .ref ht, .int (nI ln), .int (nI pa), .ref hd])), (hr, .inl (dA 0, 444, .inl row)), (hp, .inl (dA 0, 1776, .inl past)), (ha, .inl (dA 0, 444, .inl aside)), (hf, .inl (dA 0, 444, .inl bef)), (ht, .inl (dA 3, 60, .inl txt)), (hd, .inl (dA 0, 8, .inl rd))] H := hP
  have hD : va_D A [(h0, .inr (3, [.ref hr, .ref hp, .ref ha, .ref hf, .int (nI hs), .int (bI ias), .ref ht, .int (nI ln), .int (nI pa), .ref hd])), (hr, .inl (dA 0, 444, .inl row)), (hp, .inl (dA 0, 1776, .inl past)), (ha, .inl (dA 0, 444, .inl aside)), (hf, .inl (dA 0, 444, .inl bef)), (ht, .inl (dA 3, 60, .inl txt)), (hd, .inl (dA 0, 8, .inl rd))] := hD
  have hl : lv_has ls 4 [(0, .ref h0), (1, .int x), (2, .int y), (3, .int z)] := hl
  refine lv_aload_n hx hb dX3_setRoute_0 rfl (lv_at hl 0 rfl) ?_
  refine lv_iload_n hx hb dX3_setRoute_1 rfl (lv_at hl 1 rfl) ?_
  refine x_ret (va_runV (As := [.int x]) (rest := []) S (mr_noSite l D dA h0 hr [.ref hp, .ref ha, .ref hf, .int (nI hs), .int (bI ias), .ref ht, .int (nI ln), .int (nI pa), .ref hd] row w x) (cwV 1 hts (lw_V q1150 q1152 qs28 q69 q1153) rfl rfl rfl hdX3_noSite ⟨Nat.le_of_ble_eq_true rfl, Nat.le_of_ble_eq_true rfl⟩) ⟨bb_blind ka_bl _, va_recv K hP (ci := 3) (q0 := 0) rfl rfl, ka_pre K (hP.sub [0, 1] rfl) _⟩ rfl rfl hl.1 rfl (lv_room (Nat.le_of_ble_eq_true rfl)) dX3_setRoute_2 ⟨by omega, by omega⟩) ?_
  refine x_ifb_ne (tgt := 16) hx hb dX3_setRoute_5 (by decide) (fun h_1 => ?_) (fun h_1 => ?_)
  · refine lv_iconst (v := -1) hx hb dX3_setRoute_16 (by decide) ?_
    rw [show okSR row n cu x y z = false from (by simp [okSR, h_1])]
    exact x_viret hx hb hrt hlk (by simp [rSR, h_1]) hP hD hS dX3_setRoute_17 (Nat.le_of_ble_eq_true rfl) (Nat.le_of_ble_eq_true rfl)
  · obtain ⟨i, hi, rfl⟩ := mNo_f (by omega) h_1
    have ci : (nI i).toNatClampNeg = i := nI_clamp (by omega)
    refine lv_aload_n hx hb dX3_setRoute_8 rfl (lv_at hl 0 rfl) ?_
    refine lv_iload_n hx hb dX3_setRoute_9 rfl (lv_at hl 2 rfl) ?_
    refine x_ret (va_runV (As := [.int y]) (rest := []) S (mr_noCustomer l D dA h0 hr [.ref hp, .ref ha, .ref hf, .int (nI hs), .int (bI ias), .ref ht, .int (nI ln), .int (nI pa), .ref hd] row w y) (cwV 1 hts (lw_V q1162 q1164 qs30 q69 q1165) rfl rfl rfl hdX3_noCustomer ⟨Nat.le_of_ble_eq_true rfl, Nat.le_of_ble_eq_true rfl⟩) ⟨bb_blind ka_bl _, va_recv K hP (ci := 3) (q0 := 0) rfl rfl, ka_pre K (hP.sub [0, 1] rfl) _⟩ rfl rfl hl.1 rfl (lv_room (Nat.le_of_ble_eq_true rfl)) dX3_setRoute_10 ⟨by omega, by omega⟩) ?_
    refine x_ifb_eq (tgt := 18) hx hb dX3_setRoute_13 (by decide) (fun h_2 => ?_) (fun h_2 => ?_)
    · obtain ⟨j, hj, rfl⟩ := mNo_f (by omega) h_2
      have cj : (nI j).toNatClampNeg = j := nI_clamp (by omega)
      refine lv_iload_n hx hb dX3_setRoute_18 rfl (lv_at hl 3 rfl) ?_
      refine lv_iconst (v := nI 0) hx hb dX3_setRoute_19 (by decide) ?_
      refine lv_bipush (v := nI 100) hx hb dX3_setRoute_20 (by decide) ?_
      refine x_ret (va_runS (As := [.int z, .int (nI 0), .int (nI 100)]) (rest := []) S (mr_in l z (nI 0) (nI 100)) (va_cwS 3 hts (lw_S q1135 q1136 q69 q1137) rfl rfl rfl hdX3_in ⟨Nat.le_of_ble_eq_true rfl, Nat.le_of_ble_eq_true rfl⟩) ⟨bb_blind tt_bl _, tt_pre _⟩ rfl rfl hl.1 rfl (lv_room (Nat.le_of_ble_eq_true rfl)) dX3_setRoute_22 ⟨by omega, by omega⟩) ?_
      refine x_ifb_eq (tgt := 41) hx hb dX3_setRoute_25 (by decide) (fun h_3 => ?_) (fun h_3 => ?_)
      · refine lv_bipush (v := -2) hx hb dX3_setRoute_41 (by decide) ?_
        rw [show okSR row n cu (nI i) (nI j) z = false from (by simp [okSR, h_1, ci, h_2, cj, h_3])]
        exact x_viret hx hb hrt hlk (by simp [rSR, h_1, ci, h_2, cj, h_3]) hP hD hS dX3_setRoute_43 (Nat.le_of_ble_eq_true rfl) (Nat.le_of_ble_eq_true rfl)
      · refine lv_aload_n hx hb dX3_setRoute_28 rfl (lv_at hl 0 rfl) ?_
        refine lv_iload_n hx hb dX3_setRoute_29 rfl (lv_at hl 1 rfl) ?_
        refine lv_iload_n hx hb dX3_setRoute_30 rfl (lv_at hl 2 rfl) ?_
        refine x_ret (va_runS (As := [.int (nI i), .int (nI j)]) (rest := [.ref h0]) S (mr_route l i j) (va_cwS 2 hts (lw_S q1170 q1171 q69 q1172) rfl rfl rfl hdX3_route ⟨Nat.le_of_ble_eq_true rfl, Nat.le_of_ble_eq_true rfl⟩) ⟨bb_blind tt_bl _, tt_pre _⟩ rfl rfl hl.1 rfl (lv_room (Nat.le_of_ble_eq_true rfl)) dX3_setRoute_31 ⟨by omega, by omega⟩) ?_
        refine lv_iload_n hx hb dX3_setRoute_34 rfl (lv_at hl 3 rfl) ?_
        refine x_wcall (wr := []) (va_runV (As := [.int (nI (21 + 8 * i + j)), .int z]) (rest := []) S ((mw_change l D dA h0 hr hp ha hf ht hd row past aside bef txt rd hs ias ln pa (21 + 8 * i + j) z w hhs (by omega)) H.size) (cwV 2 hts (lw_V q1154 q1156 qs29 q69 q1157) rfl rfl rfl hdX3_change ⟨Nat.le_of_ble_eq_true rfl, Nat.le_of_ble_eq_true rfl⟩) ⟨pw_blind _, va_recv K hP (ci := 3) (q0 := 0) rfl rfl, pw_pre K hP hD _⟩ rfl rfl hl.1 rfl (lv_room (Nat.le_of_ble_eq_true rfl)) dX3_setRoute_35 ⟨Nat.le_of_ble_eq_true rfl, Nat.le_of_ble_eq_true rfl⟩) hP hD hS hA [0, 1, 2, 3, 4, 5, 6] [] rfl rfl (by decide) (by decide) (fun H locs hP hD hS hkp => ?_)
        have hP : va_P D vwCl [(h0, .inr (3, [.ref hr, .ref hp, .ref ha, .ref hf, .int (nI (bif okCh row (21 + 8 * i + j) z then recH hs else hs)), .int (bI ias), .ref ht, .int (nI ln), .int (nI pa), .ref hd])), (hr, .inl (dA 0, 444, .inl (bif okCh row (21 + 8 * i + j) z then dropA (upd row (21 + 8 * i + j) z) else row))), (hp, .inl (dA 0, 1776, .inl (bif okCh row (21 + 8 * i + j) z then recP past row hs else past))), (ha, .inl (dA 0, 444, .inl aside)), (hf, .inl (dA 0, 444, .inl (bif okCh row (21 + 8 * i + j) z then row else bef))), (ht, .inl (dA 3, 60, .inl txt)), (hd, .inl (dA 0, 8, .inl rd))] H := hP
        have hD : va_D A [(h0, .inr (3, [.ref hr, .ref hp, .ref ha, .ref hf, .int (nI (bif okCh row (21 + 8 * i + j) z then recH hs else hs)), .int (bI ias), .ref ht, .int (nI ln), .int (nI pa), .ref hd])), (hr, .inl (dA 0, 444, .inl (bif okCh row (21 + 8 * i + j) z then dropA (upd row (21 + 8 * i + j) z) else row))), (hp, .inl (dA 0, 1776, .inl (bif okCh row (21 + 8 * i + j) z then recP past row hs else past))), (ha, .inl (dA 0, 444, .inl aside)), (hf, .inl (dA 0, 444, .inl (bif okCh row (21 + 8 * i + j) z then row else bef))), (ht, .inl (dA 3, 60, .inl txt)), (hd, .inl (dA 0, 8, .inl rd))] := hD
        refine lv_goto (tgt := 43) hx hb dX3_setRoute_38 (by decide) ?_
        rw [show okSR row n cu (nI i) (nI j) z = okCh row (21 + 8 * i + j) z from (by simp [okSR, h_1, ci, h_2, cj, h_3])]
        simp only [ci, cj]
        exact x_viret hx hb hrt hlk (by simp [rSR, h_1, ci, h_2, cj, h_3]) hP hD hS dX3_setRoute_43 (Nat.le_of_ble_eq_true rfl) (Nat.le_of_ble_eq_true rfl)
    · refine lv_iconst (v := -1) hx hb dX3_setRoute_16 (by decide) ?_
      rw [show okSR row n cu (nI i) y z = false from (by simp [okSR, h_1, ci, h_2])]
      exact x_viret hx hb hrt hlk (by simp [rSR, h_1, ci, h_2]) hP hD hS dX3_setRoute_17 (Nat.le_of_ble_eq_true rfl) (Nat.le_of_ble_eq_true rfl)

set_option maxHeartbeats 4000000 in
theorem mw_setMost (l : Launch) (D : va_G) (dA : Nat → ClassId) (h0 hr hp ha hf ht hd : Nat) (row past aside bef txt rd : Nat → Int32) (hs : Nat) (ias : Bool) (ln pa : Nat) (x : Int32) {n cu q : Nat} (w : MWf row n cu q) (hhs : hs ≤ 4)  : WR l yX3_setMost cX3_setMost 3 (some .int) 2 80 0 0 [.ref h0, .int x] D dA (mW dA h0 hr hp ha hf ht hd row past aside bef txt rd hs ias ln pa) (some (.int (rSM row x))) (mW dA h0 hr hp ha hf ht hd (bif okSM row x then upd (upd row 2 x) 4 (-5) else row) (bif okSM row x then recP past row hs else past) aside (bif okSM row x then row else bef) txt rd (bif okSM row x then recH hs else hs) ias ln pa) := by
  refine wr_of (by decide) (Nat.le_of_ble_eq_true rfl) ?_
  intro p e s m below meth c A S hrt hlk K hA hAe H locs hP hD hS ls hl
  obtain ⟨hx, hb, hml, hown, hts⟩ := id S
  obtain ⟨e0, hn, e1, hcu, e3, hq, hray⟩ := id w
  have hP : va_P D vwCl [(h0, .inr (3, [.ref hr, .ref hp, .ref ha, .ref hf, .int (nI hs), .int (bI ias), .ref ht, .int (nI ln), .int (nI pa), .ref hd])), (hr, .inl (dA 0, 444, .inl row)), (hp, .inl (dA 0, 1776, .inl past)), (ha, .inl (dA 0, 444, .inl aside)), (hf, .inl (dA 0, 444, .inl bef)), (ht, .inl (dA 3, 60, .inl txt)), (hd, .inl (dA 0, 8, .inl rd))] H := hP
  have hD : va_D A [(h0, .inr (3, [.ref hr, .ref hp, .ref ha, .ref hf, .int (nI hs), .int (bI ias), .ref ht, .int (nI ln), .int (nI pa), .ref hd])), (hr, .inl (dA 0, 444, .inl row)), (hp, .inl (dA 0, 1776, .inl past)), (ha, .inl (dA 0, 444, .inl aside)), (hf, .inl (dA 0, 444, .inl bef)), (ht, .inl (dA 3, 60, .inl txt)), (hd, .inl (dA 0, 8, .inl rd))] := hD
  have hl : lv_has ls 3 [(0, .ref h0), (1, .int x)] := hl
  refine lv_iload_n hx hb dX3_setMost_0 rfl (lv_at hl 1 rfl) ?_
  refine lv_iconst (v := nI 1) hx hb dX3_setMost_1 (by decide) ?_
  refine lv_bipush (v := nI 7) hx hb dX3_setMost_2 (by decide) ?_
  refine x_ret (va_runS (As := [.int x, .int (nI 1), .int (nI 7)]) (rest := []) S (mr_in l x (nI 1) (nI 7)) (va_cwS 3 hts (lw_S q1135 q1136 q69 q1137) rfl rfl rfl hdX3_in ⟨Nat.le_of_ble_eq_true rfl, Nat.le_of_ble_eq_true rfl⟩) ⟨bb_blind tt_bl _, tt_pre _⟩ rfl rfl hl.1 rfl (lv_room (Nat.le_of_ble_eq_true rfl)) dX3_setMost_4 ⟨by omega, by omega⟩) ?_
  refine x_ifb_ne (tgt := 13) hx hb dX3_setMost_7 (by decide) (fun h_1 => ?_) (fun h_1 => ?_)
  · refine lv_aload_n hx hb dX3_setMost_13 rfl (lv_at hl 0 rfl) ?_
    refine va_get (D := D) (ci := 3) (C := RX3) (T := TX3) (N := 10) hx hb hts in_X3 hown K hP 0 rfl rfl 0 (by decide) (hts _ q1075) (fun _ h9 => h9) rfl dX3_setMost_14 ?_
    refine lv_iconst (v := nI 2) hx hb dX3_setMost_17 (by decide) ?_
    refine x_iald hx hb K hP 1 0 rfl rfl 2 rfl (by omega) (by decide) rfl dX3_setMost_18 ?_
    refine lv_istore_n (lv' := [(2, .int (row 2)), (0, .ref h0), (1, .int x)]) hx hb dX3_setMost_19 rfl hl (by decide) rfl (fun ls hl => ?_)
    refine lv_iload_n hx hb dX3_setMost_20 rfl (lv_at hl 0 rfl) ?_
    refine lv_iload_n hx hb dX3_setMost_21 rfl (lv_at hl 2 rfl) ?_
    refine lv_icmp_ne (tgt := 28) hx hb dX3_setMost_22 (by decide) (fun h_2 => ?_) (fun h_2 => ?_)
    · refine lv_aload_n hx hb dX3_setMost_28 rfl (lv_at hl 1 rfl) ?_
      refine x_wcall (wr := []) (va_runV (As := []) (rest := []) S ((mw_begin l D dA h0 hr hp ha hf ht hd row past aside bef txt rd hs ias ln pa hhs) H.size) (cwV 0 hts (lw_V q1119 q1121 qs24 q69 q1122) rfl rfl rfl hdX3_begin ⟨Nat.le_of_ble_eq_true rfl, Nat.le_of_ble_eq_true rfl⟩) ⟨pw_blind _, va_recv K hP (ci := 3) (q0 := 0) rfl rfl, pw_pre K hP hD _⟩ rfl rfl hl.1 rfl (lv_room (Nat.le_of_ble_eq_true rfl)) dX3_setMost_29 ⟨Nat.le_of_ble_eq_true rfl, Nat.le_of_ble_eq_true rfl⟩) hP hD hS hA [0, 1, 2, 3, 4, 5, 6] [] rfl rfl (by decide) (by decide) (fun H locs hP hD hS hkp => ?_)
      have hP : va_P D vwCl [(h0, .inr (3, [.ref hr, .ref hp, .ref ha, .ref hf, .int (nI (recH hs)), .int (bI ias), .ref ht, .int (nI ln), .int (nI pa), .ref hd])), (hr, .inl (dA 0, 444, .inl row)), (hp, .inl (dA 0, 1776, .inl (recP past row hs))), (ha, .inl (dA 0, 444, .inl aside)), (hf, .inl (dA 0, 444, .inl row)), (ht, .inl (dA 3, 60, .inl txt)), (hd, .inl (dA 0, 8, .inl rd))] H := hP
      have hD : va_D A [(h0, .inr (3, [.ref hr, .ref hp, .ref ha, .ref hf, .int (nI (recH hs)), .int (bI ias), .ref ht, .int (nI ln), .int (nI pa), .ref hd])), (hr, .inl (dA 0, 444, .inl row)), (hp, .inl (dA 0, 1776, .inl (recP past row hs))), (ha, .inl (dA 0, 444, .inl aside)), (hf, .inl (dA 0, 444, .inl row)), (ht, .inl (dA 3, 60, .inl txt)), (hd, .inl (dA 0, 8, .inl rd))] := hD
      refine lv_aload_n hx hb dX3_setMost_32 rfl (lv_at hl 1 rfl) ?_
      refine va_get (D := D) (ci := 3) (C := RX3) (T := TX3) (N := 10) hx hb hts in_X3 hown K hP 0 rfl rfl 0 (by decide) (hts _ q1075) (fun _ h9 => h9) rfl dX3_setMost_33 ?_
      refine lv_iconst (v := nI 2) hx hb dX3_setMost_36 (by decide) ?_
      refine lv_iload_n hx hb dX3_setMost_37 rfl (lv_at hl 2 rfl) ?_
      refine x_iast hx hb K hP hD hS 1 0 rfl rfl 2 rfl (by omega) (by decide) dX3_setMost_38 (fun H locs hP hD hS => ?_)
      have hP : va_P D vwCl [(h0, .inr (3, [.ref hr, .ref hp, .ref ha, .ref hf, .int (nI (recH hs)), .int (bI ias), .ref ht, .int (nI ln), .int (nI pa), .ref hd])), (hr, .inl (dA 0, 444, .inl (upd row 2 x))), (hp, .inl (dA 0, 1776, .inl (recP past row hs))), (ha, .inl (dA 0, 444, .inl aside)), (hf, .inl (dA 0, 444, .inl row)), (ht, .inl (dA 3, 60, .inl txt)), (hd, .inl (dA 0, 8, .inl rd))] H := hP
      have hD : va_D A [(h0, .inr (3, [.ref hr, .ref hp, .ref ha, .ref hf, .int (nI (recH hs)), .int (bI ias), .ref ht, .int (nI ln), .int (nI pa), .ref hd])), (hr, .inl (dA 0, 444, .inl (upd row 2 x))), (hp, .inl (dA 0, 1776, .inl (recP past row hs))), (ha, .inl (dA 0, 444, .inl aside)), (hf, .inl (dA 0, 444, .inl row)), (ht, .inl (dA 3, 60, .inl txt)), (hd, .inl (dA 0, 8, .inl rd))] := hD
      refine lv_aload_n hx hb dX3_setMost_39 rfl (lv_at hl 1 rfl) ?_
      refine va_get (D := D) (ci := 3) (C := RX3) (T := TX3) (N := 10) hx hb hts in_X3 hown K hP 0 rfl rfl 0 (by decide) (hts _ q1075) (fun _ h9 => h9) rfl dX3_setMost_40 ?_
      refine lv_iconst (v := nI 4) hx hb dX3_setMost_43 (by decide) ?_
      refine lv_bipush (v := -5) hx hb dX3_setMost_44 (by decide) ?_
      refine x_iast hx hb K hP hD hS 1 0 rfl rfl 4 rfl (by omega) (by decide) dX3_setMost_46 (fun H locs hP hD hS => ?_)
      have hP : va_P D vwCl [(h0, .inr (3, [.ref hr, .ref hp, .ref ha, .ref hf, .int (nI (recH hs)), .int (bI ias), .ref ht, .int (nI ln), .int (nI pa), .ref hd])), (hr, .inl (dA 0, 444, .inl (upd (upd row 2 x) 4 (-5)))), (hp, .inl (dA 0, 1776, .inl (recP past row hs))), (ha, .inl (dA 0, 444, .inl aside)), (hf, .inl (dA 0, 444, .inl row)), (ht, .inl (dA 3, 60, .inl txt)), (hd, .inl (dA 0, 8, .inl rd))] H := hP
      have hD : va_D A [(h0, .inr (3, [.ref hr, .ref hp, .ref ha, .ref hf, .int (nI (recH hs)), .int (bI ias), .ref ht, .int (nI ln), .int (nI pa), .ref hd])), (hr, .inl (dA 0, 444, .inl (upd (upd row 2 x) 4 (-5)))), (hp, .inl (dA 0, 1776, .inl (recP past row hs))), (ha, .inl (dA 0, 444, .inl aside)), (hf, .inl (dA 0, 444, .inl row)), (ht, .inl (dA 3, 60, .inl txt)), (hd, .inl (dA 0, 8, .inl rd))] := hD
      refine lv_iload_n hx hb dX3_setMost_47 rfl (lv_at hl 0 rfl) ?_
      rw [show okSM row x = true from (by simp [okSM, h_1, h_2])]
      exact x_viret hx hb hrt hlk (by simp [rSM, h_1, h_2]) hP hD hS dX3_setMost_48 (Nat.le_of_ble_eq_true rfl) (Nat.le_of_ble_eq_true rfl)
    · refine lv_bipush (v := -5) hx hb dX3_setMost_25 (by decide) ?_
      rw [show okSM row x = false from (by simp [okSM, h_1, h_2])]
      exact x_viret hx hb hrt hlk (by simp [rSM, h_1, h_2]) hP hD hS dX3_setMost_27 (Nat.le_of_ble_eq_true rfl) (Nat.le_of_ble_eq_true rfl)
  · refine lv_bipush (v := -2) hx hb dX3_setMost_10 (by decide) ?_
    rw [show okSM row x = false from (by simp [okSM, h_1])]
    exact x_viret hx hb hrt hlk (by simp [rSM, h_1]) hP hD hS dX3_setMost_12 (Nat.le_of_ble_eq_true rfl) (Nat.le_of_ble_eq_true rfl)

set_option maxHeartbeats 4000000 in
theorem mw_exclude (l : Launch) (D : va_G) (dA : Nat → ClassId) (h0 hr hp ha hf ht hd : Nat) (row past aside bef txt rd : Nat → Int32) (hs : Nat) (ias : Bool) (ln pa : Nat) (x y : Int32) (t : Bool) {n cu q : Nat} (w : MWf row n cu q) (hhs : hs ≤ 4) (hex : ∀ s, s < 7 → ∃ x, x < 128 ∧ row (77 + s) = nI x) : WR l yX3_exclude cX3_exclude 4 (some .int) 2 80 0 0 [.ref h0, .int x, .int y, .int (bI t)] D dA (mW dA h0 hr hp ha hf ht hd row past aside bef txt rd hs ias ln pa) (some (.int (rEx row n x y t))) (mW dA h0 hr hp ha hf ht hd (bif okEx row n x y t then exR row (cN x) (cN y) else row) (bif okEx row n x y t then recP past row hs else past) aside (bif okEx row n x y t then row else bef) txt rd (bif okEx row n x y t then recH hs else hs) ias ln pa) := by
  refine wr_of (by decide) (Nat.le_of_ble_eq_true rfl) ?_
  intro p e s m below meth c A S hrt hlk K hA hAe H locs hP hD hS ls hl
  obtain ⟨hx, hb, hml, hown, hts⟩ := id S
  obtain ⟨e0, hn, e1, hcu, e3, hq, hray⟩ := id w
  have hP : va_P D vwCl [(h0, .inr (3, [.ref hr, .ref hp, .ref ha, .ref hf, .int (nI hs), .int (bI ias), .ref ht, .int (nI ln), .int (nI pa), .ref hd])), (hr, .inl (dA 0, 444, .inl row)), (hp, .inl (dA 0, 1776, .inl past)), (ha, .inl (dA 0, 444, .inl aside)), (hf, .inl (dA 0, 444, .inl bef)), (ht, .inl (dA 3, 60, .inl txt)), (hd, .inl (dA 0, 8, .inl rd))] H := hP
  have hD : va_D A [(h0, .inr (3, [.ref hr, .ref hp, .ref ha, .ref hf, .int (nI hs), .int (bI ias), .ref ht, .int (nI ln), .int (nI pa), .ref hd])), (hr, .inl (dA 0, 444, .inl row)), (hp, .inl (dA 0, 1776, .inl past)), (ha, .inl (dA 0, 444, .inl aside)), (hf, .inl (dA 0, 444, .inl bef)), (ht, .inl (dA 3, 60, .inl txt)), (hd, .inl (dA 0, 8, .inl rd))] := hD
  have hl : lv_has ls 4 [(0, .ref h0), (1, .int x), (2, .int y), (3, .int (bI t))] := hl
  refine lv_aload_n hx hb dX3_exclude_0 rfl (lv_at hl 0 rfl) ?_
  refine lv_iload_n hx hb dX3_exclude_1 rfl (lv_at hl 1 rfl) ?_
  refine x_ret (va_runV (As := [.int x]) (rest := []) S (mr_noSite l D dA h0 hr [.ref hp, .ref ha, .ref hf, .int (nI hs), .int (bI ias), .ref ht, .int (nI ln), .int (nI pa), .ref hd] row w x) (cwV 1 hts (lw_V q1150 q1152 qs28 q69 q1153) rfl rfl rfl hdX3_noSite ⟨Nat.le_of_ble_eq_true rfl, Nat.le_of_ble_eq_true rfl⟩) ⟨bb_blind ka_bl _, va_recv K hP (ci := 3) (q0 := 0) rfl rfl, ka_pre K (hP.sub [0, 1] rfl) _⟩ rfl rfl hl.1 rfl (lv_room (Nat.le_of_ble_eq_true rfl)) dX3_exclude_2 ⟨by omega, by omega⟩) ?_
  refine x_ifb_ne (tgt := 16) hx hb dX3_exclude_5 (by decide) (fun h_1 => ?_) (fun h_1 => ?_)
  · refine lv_iconst (v := -1) hx hb dX3_exclude_16 (by decide) ?_
    rw [show okEx row n x y t = false from (by simp [okEx, h_1])]
    exact x_viret hx hb hrt hlk (by simp [rEx, h_1]) hP hD hS dX3_exclude_17 (Nat.le_of_ble_eq_true rfl) (Nat.le_of_ble_eq_true rfl)
  · obtain ⟨i, hi, rfl⟩ := mNo_f (by omega) h_1
    have ci : (nI i).toNatClampNeg = i := nI_clamp (by omega)
    refine lv_aload_n hx hb dX3_exclude_8 rfl (lv_at hl 0 rfl) ?_
    refine lv_iload_n hx hb dX3_exclude_9 rfl (lv_at hl 2 rfl) ?_
    refine x_ret (va_runV (As := [.int y]) (rest := []) S (mr_noSite l D dA h0 hr [.ref hp, .ref ha, .ref hf, .int (nI hs), .int (bI ias), .ref ht, .int (nI ln), .int (nI pa), .ref hd] row w y) (cwV 1 hts (lw_V q1150 q1152 qs28 q69 q1153) rfl rfl rfl hdX3_noSite ⟨Nat.le_of_ble_eq_true rfl, Nat.le_of_ble_eq_true rfl⟩) ⟨bb_blind ka_bl _, va_recv K hP (ci := 3) (q0 := 0) rfl rfl, ka_pre K (hP.sub [0, 1] rfl) _⟩ rfl rfl hl.1 rfl (lv_room (Nat.le_of_ble_eq_true rfl)) dX3_exclude_10 ⟨by omega, by omega⟩) ?_
    refine x_ifb_eq (tgt := 18) hx hb dX3_exclude_13 (by decide) (fun h_2 => ?_) (fun h_2 => ?_)
    · obtain ⟨j, hj, rfl⟩ := mNo_f (by omega) h_2
      have cj : (nI j).toNatClampNeg = j := nI_clamp (by omega)
      obtain ⟨ei, hei, eei⟩ := hex i (by omega)
      obtain ⟨ej, hej, eej⟩ := hex j (by omega)
      have hpi := pow6 (show i ≤ 6 by omega)
      have hpj := pow6 (show j ≤ 6 by omega)
      have cei : (nI ei).toNatClampNeg = ei := nI_clamp (by omega)
      have cej : (nI ej).toNatClampNeg = ej := nI_clamp (by omega)
      refine lv_iload_n hx hb dX3_exclude_18 rfl (lv_at hl 1 rfl) ?_
      refine lv_iload_n hx hb dX3_exclude_19 rfl (lv_at hl 2 rfl) ?_
      refine lv_icmp_ne (tgt := 26) hx hb dX3_exclude_20 (by decide) (fun h_3 => ?_) (fun h_3 => ?_)
      · have hij : ¬ i = j := fun q => h_3 (by rw [q])
        refine lv_aload_n hx hb dX3_exclude_26 rfl (lv_at hl 0 rfl) ?_
        refine va_get (D := D) (ci := 3) (C := RX3) (T := TX3) (N := 10) hx hb hts in_X3 hown K hP 0 rfl rfl 0 (by decide) (hts _ q1075) (fun _ h9 => h9) rfl dX3_exclude_27 ?_
        refine lv_bipush (v := nI 77) hx hb dX3_exclude_30 (by decide) ?_
        refine lv_iload_n hx hb dX3_exclude_32 rfl (lv_at hl 1 rfl) ?_
        refine x_addN hx hb dX3_exclude_33 ?_
        refine x_iald hx hb K hP 1 0 rfl rfl (77 + i) rfl (by omega) (by decide) eei dX3_exclude_34 ?_
        refine lv_iload_n hx hb dX3_exclude_35 rfl (lv_at hl 2 rfl) ?_
        refine x_ret (va_runS (As := [.int (nI ei), .int (nI j)]) (rest := []) S (mr_isIn l ei j (by omega) (by omega)) (va_cwS 2 hts (lw_S q1181 q1182 q69 q1183) rfl rfl rfl hdX3_isIn ⟨Nat.le_of_ble_eq_true rfl, Nat.le_of_ble_eq_true rfl⟩) ⟨bb_blind tt_bl _, tt_pre _⟩ rfl rfl hl.1 rfl (lv_room (Nat.le_of_ble_eq_true rfl)) dX3_exclude_36 ⟨by omega, by omega⟩) ?_
        refine lv_iload_n hx hb dX3_exclude_39 rfl (lv_at hl 3 rfl) ?_
        refine lv_icmp_ne (tgt := 46) hx hb dX3_exclude_40 (by decide) (fun h_4 => ?_) (fun h_4 => ?_)
        · refine lv_aload_n hx hb dX3_exclude_46 rfl (lv_at hl 0 rfl) ?_
          refine x_wcall (wr := []) (va_runV (As := []) (rest := []) S ((mw_begin l D dA h0 hr hp ha hf ht hd row past aside bef txt rd hs ias ln pa hhs) H.size) (cwV 0 hts (lw_V q1119 q1121 qs24 q69 q1122) rfl rfl rfl hdX3_begin ⟨Nat.le_of_ble_eq_true rfl, Nat.le_of_ble_eq_true rfl⟩) ⟨pw_blind _, va_recv K hP (ci := 3) (q0 := 0) rfl rfl, pw_pre K hP hD _⟩ rfl rfl hl.1 rfl (lv_room (Nat.le_of_ble_eq_true rfl)) dX3_exclude_47 ⟨Nat.le_of_ble_eq_true rfl, Nat.le_of_ble_eq_true rfl⟩) hP hD hS hA [0, 1, 2, 3, 4, 5, 6] [] rfl rfl (by decide) (by decide) (fun H locs hP hD hS hkp => ?_)
          have hP : va_P D vwCl [(h0, .inr (3, [.ref hr, .ref hp, .ref ha, .ref hf, .int (nI (recH hs)), .int (bI ias), .ref ht, .int (nI ln), .int (nI pa), .ref hd])), (hr, .inl (dA 0, 444, .inl row)), (hp, .inl (dA 0, 1776, .inl (recP past row hs))), (ha, .inl (dA 0, 444, .inl aside)), (hf, .inl (dA 0, 444, .inl row)), (ht, .inl (dA 3, 60, .inl txt)), (hd, .inl (dA 0, 8, .inl rd))] H := hP
          have hD : va_D A [(h0, .inr (3, [.ref hr, .ref hp, .ref ha, .ref hf, .int (nI (recH hs)), .int (bI ias), .ref ht, .int (nI ln), .int (nI pa), .ref hd])), (hr, .inl (dA 0, 444, .inl row)), (hp, .inl (dA 0, 1776, .inl (recP past row hs))), (ha, .inl (dA 0, 444, .inl aside)), (hf, .inl (dA 0, 444, .inl row)), (ht, .inl (dA 3, 60, .inl txt)), (hd, .inl (dA 0, 8, .inl rd))] := hD
          refine lv_aload_n hx hb dX3_exclude_50 rfl (lv_at hl 0 rfl) ?_
          refine va_get (D := D) (ci := 3) (C := RX3) (T := TX3) (N := 10) hx hb hts in_X3 hown K hP 0 rfl rfl 0 (by decide) (hts _ q1075) (fun _ h9 => h9) rfl dX3_exclude_51 ?_
          refine lv_bipush (v := nI 77) hx hb dX3_exclude_54 (by decide) ?_
          refine lv_iload_n hx hb dX3_exclude_56 rfl (lv_at hl 1 rfl) ?_
          refine x_addN hx hb dX3_exclude_57 ?_
          refine lv_dup2_11 hx hb dX3_exclude_58 rfl rfl ?_
          refine x_iald hx hb K hP 1 0 rfl rfl (77 + i) rfl (by omega) (by decide) eei dX3_exclude_59 ?_
          refine lv_iconst (v := nI 1) hx hb dX3_exclude_60 (by decide) ?_
          refine lv_iload_n hx hb dX3_exclude_61 rfl (lv_at hl 2 rfl) ?_
          refine lv_ishl hx hb dX3_exclude_62 ?_
          refine x_top (y := nI (2 ^ j)) (nx_shl (by omega)) ?_
          refine lv_ixor hx hb dX3_exclude_63 ?_
          refine x_top (y := nI (ei ^^^ (2 ^ j))) (nx_xor _ _) ?_
          refine x_iast hx hb K hP hD hS 1 0 rfl rfl (77 + i) rfl (by omega) (by decide) dX3_exclude_64 (fun H locs hP hD hS => ?_)
          have hP : va_P D vwCl [(h0, .inr (3, [.ref hr, .ref hp, .ref ha, .ref hf, .int (nI (recH hs)), .int (bI ias), .ref ht, .int (nI ln), .int (nI pa), .ref hd])), (hr, .inl (dA 0, 444, .inl (upd row (77 + i) (nI (ei ^^^ (2 ^ j)))))), (hp, .inl (dA 0, 1776, .inl (recP past row hs))), (ha, .inl (dA 0, 444, .inl aside)), (hf, .inl (dA 0, 444, .inl row)), (ht, .inl (dA 3, 60, .inl txt)), (hd, .inl (dA 0, 8, .inl rd))] H := hP
          have hD : va_D A [(h0, .inr (3, [.ref hr, .ref hp, .ref ha, .ref hf, .int (nI (recH hs)), .int (bI ias), .ref ht, .int (nI ln), .int (nI pa), .ref hd])), (hr, .inl (dA 0, 444, .inl (upd row (77 + i) (nI (ei ^^^ (2 ^ j)))))), (hp, .inl (dA 0, 1776, .inl (recP past row hs))), (ha, .inl (dA 0, 444, .inl aside)), (hf, .inl (dA 0, 444, .inl row)), (ht, .inl (dA 3, 60, .inl txt)), (hd, .inl (dA 0, 8, .inl rd))] := hD
          refine lv_aload_n hx hb dX3_exclude_65 rfl (lv_at hl 0 rfl) ?_
          refine va_get (D := D) (ci := 3) (C := RX3) (T := TX3) (N := 10) hx hb hts in_X3 hown K hP 0 rfl rfl 0 (by decide) (hts _ q1075) (fun _ h9 => h9) rfl dX3_exclude_66 ?_
          refine lv_bipush (v := nI 77) hx hb dX3_exclude_69 (by decide) ?_
          refine lv_iload_n hx hb dX3_exclude_71 rfl (lv_at hl 2 rfl) ?_
          refine x_addN hx hb dX3_exclude_72 ?_
          refine lv_dup2_11 hx hb dX3_exclude_73 rfl rfl ?_
          refine x_iald (v := nI ej) hx hb K hP 1 0 rfl rfl (77 + j) rfl (by omega) (by decide) (by rw [pk_un (by omega)]; exact eej) dX3_exclude_74 ?_
          refine lv_iconst (v := nI 1) hx hb dX3_exclude_75 (by decide) ?_
          refine lv_iload_n hx hb dX3_exclude_76 rfl (lv_at hl 1 rfl) ?_
          refine lv_ishl hx hb dX3_exclude_77 ?_
          refine x_top (y := nI (2 ^ i)) (nx_shl (by omega)) ?_
          refine lv_ixor hx hb dX3_exclude_78 ?_
          refine x_top (y := nI (ej ^^^ (2 ^ i))) (nx_xor _ _) ?_
          refine x_iast hx hb K hP hD hS 1 0 rfl rfl (77 + j) rfl (by omega) (by decide) dX3_exclude_79 (fun H locs hP hD hS => ?_)
          have hP : va_P D vwCl [(h0, .inr (3, [.ref hr, .ref hp, .ref ha, .ref hf, .int (nI (recH hs)), .int (bI ias), .ref ht, .int (nI ln), .int (nI pa), .ref hd])), (hr, .inl (dA 0, 444, .inl (upd (upd row (77 + i) (nI (ei ^^^ (2 ^ j)))) (77 + j) (nI (ej ^^^ (2 ^ i)))))), (hp, .inl (dA 0, 1776, .inl (recP past row hs))), (ha, .inl (dA 0, 444, .inl aside)), (hf, .inl (dA 0, 444, .inl row)), (ht, .inl (dA 3, 60, .inl txt)), (hd, .inl (dA 0, 8, .inl rd))] H := hP
          have hD : va_D A [(h0, .inr (3, [.ref hr, .ref hp, .ref ha, .ref hf, .int (nI (recH hs)), .int (bI ias), .ref ht, .int (nI ln), .int (nI pa), .ref hd])), (hr, .inl (dA 0, 444, .inl (upd (upd row (77 + i) (nI (ei ^^^ (2 ^ j)))) (77 + j) (nI (ej ^^^ (2 ^ i)))))), (hp, .inl (dA 0, 1776, .inl (recP past row hs))), (ha, .inl (dA 0, 444, .inl aside)), (hf, .inl (dA 0, 444, .inl row)), (ht, .inl (dA 3, 60, .inl txt)), (hd, .inl (dA 0, 8, .inl rd))] := hD
          refine lv_aload_n hx hb dX3_exclude_80 rfl (lv_at hl 0 rfl) ?_
          refine va_get (D := D) (ci := 3) (C := RX3) (T := TX3) (N := 10) hx hb hts in_X3 hown K hP 0 rfl rfl 0 (by decide) (hts _ q1075) (fun _ h9 => h9) rfl dX3_exclude_81 ?_
          refine lv_iconst (v := nI 4) hx hb dX3_exclude_84 (by decide) ?_
          refine lv_bipush (v := -5) hx hb dX3_exclude_85 (by decide) ?_
          refine x_iast hx hb K hP hD hS 1 0 rfl rfl 4 rfl (by omega) (by decide) dX3_exclude_87 (fun H locs hP hD hS => ?_)
          have hP : va_P D vwCl [(h0, .inr (3, [.ref hr, .ref hp, .ref ha, .ref hf, .int (nI (recH hs)), .int (bI ias), .ref ht, .int (nI ln), .int (nI pa), .ref hd])), (hr, .inl (dA 0, 444, .inl (upd (upd (upd row (77 + i) (nI (ei ^^^ (2 ^ j)))) (77 + j) (nI (ej ^^^ (2 ^ i)))) 4 (-5)))), (hp, .inl (dA 0, 1776, .inl (recP past row hs))), (ha, .inl (dA 0, 444, .inl aside)), (hf, .inl (dA 0, 444, .inl row)), (ht, .inl (dA 3, 60, .inl txt)), (hd, .inl (dA 0, 8, .inl rd))] H := hP
          have hD : va_D A [(h0, .inr (3, [.ref hr, .ref hp, .ref ha, .ref hf, .int (nI (recH hs)), .int (bI ias), .ref ht, .int (nI ln), .int (nI pa), .ref hd])), (hr, .inl (dA 0, 444, .inl (upd (upd (upd row (77 + i) (nI (ei ^^^ (2 ^ j)))) (77 + j) (nI (ej ^^^ (2 ^ i)))) 4 (-5)))), (hp, .inl (dA 0, 1776, .inl (recP past row hs))), (ha, .inl (dA 0, 444, .inl aside)), (hf, .inl (dA 0, 444, .inl row)), (ht, .inl (dA 3, 60, .inl txt)), (hd, .inl (dA 0, 8, .inl rd))] := hD
          refine lv_aload_n hx hb dX3_exclude_88 rfl (lv_at hl 0 rfl) ?_
          refine va_get (D := D) (ci := 3) (C := RX3) (T := TX3) (N := 10) hx hb hts in_X3 hown K hP 0 rfl rfl 0 (by decide) (hts _ q1075) (fun _ h9 => h9) rfl dX3_exclude_89 ?_
          refine lv_bipush (v := nI 77) hx hb dX3_exclude_92 (by decide) ?_
          refine lv_iload_n hx hb dX3_exclude_94 rfl (lv_at hl 1 rfl) ?_
          refine x_addN hx hb dX3_exclude_95 ?_
          refine x_iald (v := nI (ei ^^^ 2 ^ j)) hx hb K hP 1 0 rfl rfl (77 + i) rfl (by omega) (by decide) (by rw [pk_un (by omega), pk_un (by omega), pk_us]) dX3_exclude_96 ?_
          refine x_ret (va_runS (As := [.int (nI (ei ^^^ 2 ^ j))]) (rest := []) S (mr_many l (ei ^^^ 2 ^ j) (Nat.lt_trans (xor128 hei (by omega)) (by decide))) (va_cwS 1 hts (lw_S q1184 q1185 q69 q1186) rfl rfl rfl hdX3_many ⟨Nat.le_of_ble_eq_true rfl, Nat.le_of_ble_eq_true rfl⟩) ⟨bb_blind tt_bl _, tt_pre _⟩ rfl rfl hl.1 rfl (lv_room (Nat.le_of_ble_eq_true rfl)) dX3_exclude_97 ⟨by omega, by omega⟩) ?_
          rw [show okEx row n (nI i) (nI j) t = true from (by simp [okEx, h_1, ci, h_2, cj, eei, eej, cei, cej, h_3, h_4])]
          rw [show exR row (cN (nI i)) (cN (nI j)) = upd (upd (upd row (77 + i) (nI (ei ^^^ (2 ^ j)))) (77 + j) (nI (ej ^^^ (2 ^ i)))) 4 (-5) from (by simp only [exR, cN, ci, cj, eei, eej, cei, cej])]
          exact x_viret hx hb hrt hlk (by simp [rEx, h_1, ci, h_2, cj, eei, eej, cei, cej, h_3, h_4]) hP hD hS dX3_exclude_100 (Nat.le_of_ble_eq_true rfl) (Nat.le_of_ble_eq_true rfl)
        · refine lv_bipush (v := -5) hx hb dX3_exclude_43 (by decide) ?_
          rw [show okEx row n (nI i) (nI j) t = false from (by simp [okEx, h_1, ci, h_2, cj, eei, eej, cei, cej, h_3, h_4])]
          exact x_viret hx hb hrt hlk (by simp [rEx, h_1, ci, h_2, cj, eei, eej, cei, cej, h_3, h_4]) hP hD hS dX3_exclude_45 (Nat.le_of_ble_eq_true rfl) (Nat.le_of_ble_eq_true rfl)
      · refine lv_bipush (v := -2) hx hb dX3_exclude_23 (by decide) ?_
        rw [show okEx row n (nI i) (nI j) t = false from (by simp [okEx, h_1, ci, h_2, cj, eei, eej, cei, cej, h_3])]
        exact x_viret hx hb hrt hlk (by simp [rEx, h_1, ci, h_2, cj, eei, eej, cei, cej, h_3]) hP hD hS dX3_exclude_25 (Nat.le_of_ble_eq_true rfl) (Nat.le_of_ble_eq_true rfl)
    · refine lv_iconst (v := -1) hx hb dX3_exclude_16 (by decide) ?_
      rw [show okEx row n (nI i) y t = false from (by simp [okEx, h_1, ci, h_2])]
      exact x_viret hx hb hrt hlk (by simp [rEx, h_1, ci, h_2]) hP hD hS dX3_exclude_17 (Nat.le_of_ble_eq_true rfl) (Nat.le_of_ble_eq_true rfl)

