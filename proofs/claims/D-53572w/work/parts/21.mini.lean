/-- the model's row at the start -/
def iRow : Nat → Int32 := fun j => if 21 ≤ j ∧ j < 77 then nI 100 else if j = 2 then nI 7 else if j = 4 then -5 else 0
theorem iRow_ok (j : Nat) : (if 21 ≤ j ∧ j < 21 + 56 then nI 100 else upd (upd (fun _ => 0) 2 (nI 7)) 4 (-5) j) = iRow j := by
  by_cases h1 : 21 ≤ j ∧ j < 77
  · have h1' : 21 ≤ j ∧ j < 21 + 56 := h1
    rw [if_pos h1']
    exact (if_pos h1).symm
  · have h1' : ¬ (21 ≤ j ∧ j < 21 + 56) := h1
    rw [if_neg h1']
    refine Eq.trans ?_ (if_neg h1).symm
    by_cases h4 : j = 4
    · subst h4; rfl
    · by_cases h2 : j = 2
      · subst h2; rfl
      · rw [if_neg h2, if_neg h4, pk_un h4, pk_un h2]
set_option maxHeartbeats 4000000 in
theorem mx_init (l : Launch) (D : va_G) (dA : Nat → ClassId) (h0 : Nat) : EX l yX3_init cX3_init 2 none 1 40 6 3176 [.ref h0] (KA D dA) D ([(h0, .inr (3, [.null, .null, .null, .null, .int (nI 0), .int (bI false), .null, .int (nI 0), .int (nI 0), .null]))]) (fun _ => True) (S := Nat × Nat × Nat × Nat × Nat × Nat) (fun _ _ => True) (fun _ => none) (fun u => mW dA h0 u.1 u.2.1 u.2.2.1 u.2.2.2.1 u.2.2.2.2.1 u.2.2.2.2.2 iRow (fun _ => 0) (fun _ => 0) (fun _ => 0) (fun _ => 0) (fun _ => 0) 0 false 0 0) := by
  refine ex_of (by decide) (Nat.le_of_ble_eq_true rfl) ?_
  intro p e s m below meth c A S hrt hlk hnm K hA hAe hΦ H locs hP hD hS ls hl
  obtain ⟨hx, hb, hml, hown, hts⟩ := id S
  have hP : va_P D vwCl [(h0, .inr (3, [.null, .null, .null, .null, .int (nI 0), .int (bI false), .null, .int (nI 0), .int (nI 0), .null]))] H := hP
  have hD : va_D A [(h0, .inr (3, [.null, .null, .null, .null, .int (nI 0), .int (bI false), .null, .int (nI 0), .int (nI 0), .null]))] := hD
  have hl : lv_has ls 2 [(0, .ref h0)] := hl
  refine lv_aload_n hx hb dX3_init_0 rfl (lv_at hl 0 rfl) ?_
  refine W.objInit hx hb hown (hts _ q1074) (hts _ q94) (hts _ q95) rfl (by rw [hml]; exact hl.1) rfl dX3_init_1 (Nat.le_of_ble_eq_true rfl) (Nat.le_of_ble_eq_true rfl) ?_
  refine W.eq (g2 := F0 m 4 ls []) rfl ?_
  refine lv_aload_n hx hb dX3_init_4 rfl (lv_at hl 0 rfl) ?_
  refine lv_sipush (v := nI 444) hx hb dX3_init_5 (by decide) ?_
  refine x_newa (atype := .int) (N := 444) hx hb (hts _ q144) (ty := .int) rfl K hP hD hS hA 0 rfl (fun _ => rfl) rfl (by decide) (by decide) (Nat.le_of_ble_eq_true rfl) (Nat.le_of_ble_eq_true rfl) dX3_init_8 (fun hr H hP hD hS => ?_)
  have hP : va_P D vwCl [(h0, .inr (3, [.null, .null, .null, .null, .int (nI 0), .int (bI false), .null, .int (nI 0), .int (nI 0), .null])), (hr, .inl (dA 0, 444, .inl (fun _ => 0)))] H := hP
  have hD : va_D A [(h0, .inr (3, [.null, .null, .null, .null, .int (nI 0), .int (bI false), .null, .int (nI 0), .int (nI 0), .null])), (hr, .inl (dA 0, 444, .inl (fun _ => 0)))] := hD
  refine W.widen (k := 1) (n := 444) (Nat.le_of_ble_eq_true rfl) (Nat.le_of_ble_eq_true rfl) ?_
  refine va_putF (D := D) (ci := 3) (v := .ref hr) (ty := .array .int) (C := RX3) (T := TX3) (N := 10) hx hb hts in_X3 tyX3 tyX3_ok nmX3 hown K hP hD hS 0 rfl rfl 0 (by decide) (hts _ q1075) (fun _ h9 => h9) rfl hnm rfl (by decide +kernel) rfl rfl (Nat.le_of_ble_eq_true rfl) dX3_init_10 (fun H locs hP hD hS => ?_)
  have hP : va_P D vwCl [(h0, .inr (3, [.ref hr, .null, .null, .null, .int (nI 0), .int (bI false), .null, .int (nI 0), .int (nI 0), .null])), (hr, .inl (dA 0, 444, .inl (fun _ => 0)))] H := hP
  have hD : va_D A [(h0, .inr (3, [.ref hr, .null, .null, .null, .int (nI 0), .int (bI false), .null, .int (nI 0), .int (nI 0), .null])), (hr, .inl (dA 0, 444, .inl (fun _ => 0)))] := hD
  refine lv_aload_n hx hb dX3_init_13 rfl (lv_at hl 0 rfl) ?_
  refine lv_sipush (v := nI 1776) hx hb dX3_init_14 (by decide) ?_
  refine x_newa (atype := .int) (N := 1776) hx hb (hts _ q144) (ty := .int) rfl K hP hD hS hA 0 rfl (fun _ => rfl) rfl (by decide) (by decide) (Nat.le_of_ble_eq_true rfl) (Nat.le_of_ble_eq_true rfl) dX3_init_17 (fun hp H hP hD hS => ?_)
  have hP : va_P D vwCl [(h0, .inr (3, [.ref hr, .null, .null, .null, .int (nI 0), .int (bI false), .null, .int (nI 0), .int (nI 0), .null])), (hr, .inl (dA 0, 444, .inl (fun _ => 0))), (hp, .inl (dA 0, 1776, .inl (fun _ => 0)))] H := hP
  have hD : va_D A [(h0, .inr (3, [.ref hr, .null, .null, .null, .int (nI 0), .int (bI false), .null, .int (nI 0), .int (nI 0), .null])), (hr, .inl (dA 0, 444, .inl (fun _ => 0))), (hp, .inl (dA 0, 1776, .inl (fun _ => 0)))] := hD
  refine W.widen (k := 2) (n := 2220) (Nat.le_of_ble_eq_true rfl) (Nat.le_of_ble_eq_true rfl) ?_
  refine va_putF (D := D) (ci := 3) (v := .ref hp) (ty := .array .int) (C := RX3) (T := TX3) (N := 10) hx hb hts in_X3 tyX3 tyX3_ok nmX3 hown K hP hD hS 0 rfl rfl 1 (by decide) (hts _ q1076) (fun _ h9 => h9) rfl hnm rfl (by decide +kernel) rfl rfl (Nat.le_of_ble_eq_true rfl) dX3_init_19 (fun H locs hP hD hS => ?_)
  have hP : va_P D vwCl [(h0, .inr (3, [.ref hr, .ref hp, .null, .null, .int (nI 0), .int (bI false), .null, .int (nI 0), .int (nI 0), .null])), (hr, .inl (dA 0, 444, .inl (fun _ => 0))), (hp, .inl (dA 0, 1776, .inl (fun _ => 0)))] H := hP
  have hD : va_D A [(h0, .inr (3, [.ref hr, .ref hp, .null, .null, .int (nI 0), .int (bI false), .null, .int (nI 0), .int (nI 0), .null])), (hr, .inl (dA 0, 444, .inl (fun _ => 0))), (hp, .inl (dA 0, 1776, .inl (fun _ => 0)))] := hD
  refine lv_aload_n hx hb dX3_init_22 rfl (lv_at hl 0 rfl) ?_
  refine lv_sipush (v := nI 444) hx hb dX3_init_23 (by decide) ?_
  refine x_newa (atype := .int) (N := 444) hx hb (hts _ q144) (ty := .int) rfl K hP hD hS hA 0 rfl (fun _ => rfl) rfl (by decide) (by decide) (Nat.le_of_ble_eq_true rfl) (Nat.le_of_ble_eq_true rfl) dX3_init_26 (fun ha H hP hD hS => ?_)
  have hP : va_P D vwCl [(h0, .inr (3, [.ref hr, .ref hp, .null, .null, .int (nI 0), .int (bI false), .null, .int (nI 0), .int (nI 0), .null])), (hr, .inl (dA 0, 444, .inl (fun _ => 0))), (hp, .inl (dA 0, 1776, .inl (fun _ => 0))), (ha, .inl (dA 0, 444, .inl (fun _ => 0)))] H := hP
  have hD : va_D A [(h0, .inr (3, [.ref hr, .ref hp, .null, .null, .int (nI 0), .int (bI false), .null, .int (nI 0), .int (nI 0), .null])), (hr, .inl (dA 0, 444, .inl (fun _ => 0))), (hp, .inl (dA 0, 1776, .inl (fun _ => 0))), (ha, .inl (dA 0, 444, .inl (fun _ => 0)))] := hD
  refine W.widen (k := 3) (n := 2664) (Nat.le_of_ble_eq_true rfl) (Nat.le_of_ble_eq_true rfl) ?_
  refine va_putF (D := D) (ci := 3) (v := .ref ha) (ty := .array .int) (C := RX3) (T := TX3) (N := 10) hx hb hts in_X3 tyX3 tyX3_ok nmX3 hown K hP hD hS 0 rfl rfl 2 (by decide) (hts _ q1077) (fun _ h9 => h9) rfl hnm rfl (by decide +kernel) rfl rfl (Nat.le_of_ble_eq_true rfl) dX3_init_28 (fun H locs hP hD hS => ?_)
  have hP : va_P D vwCl [(h0, .inr (3, [.ref hr, .ref hp, .ref ha, .null, .int (nI 0), .int (bI false), .null, .int (nI 0), .int (nI 0), .null])), (hr, .inl (dA 0, 444, .inl (fun _ => 0))), (hp, .inl (dA 0, 1776, .inl (fun _ => 0))), (ha, .inl (dA 0, 444, .inl (fun _ => 0)))] H := hP
  have hD : va_D A [(h0, .inr (3, [.ref hr, .ref hp, .ref ha, .null, .int (nI 0), .int (bI false), .null, .int (nI 0), .int (nI 0), .null])), (hr, .inl (dA 0, 444, .inl (fun _ => 0))), (hp, .inl (dA 0, 1776, .inl (fun _ => 0))), (ha, .inl (dA 0, 444, .inl (fun _ => 0)))] := hD
  refine lv_aload_n hx hb dX3_init_31 rfl (lv_at hl 0 rfl) ?_
  refine lv_sipush (v := nI 444) hx hb dX3_init_32 (by decide) ?_
  refine x_newa (atype := .int) (N := 444) hx hb (hts _ q144) (ty := .int) rfl K hP hD hS hA 0 rfl (fun _ => rfl) rfl (by decide) (by decide) (Nat.le_of_ble_eq_true rfl) (Nat.le_of_ble_eq_true rfl) dX3_init_35 (fun hf H hP hD hS => ?_)
  have hP : va_P D vwCl [(h0, .inr (3, [.ref hr, .ref hp, .ref ha, .null, .int (nI 0), .int (bI false), .null, .int (nI 0), .int (nI 0), .null])), (hr, .inl (dA 0, 444, .inl (fun _ => 0))), (hp, .inl (dA 0, 1776, .inl (fun _ => 0))), (ha, .inl (dA 0, 444, .inl (fun _ => 0))), (hf, .inl (dA 0, 444, .inl (fun _ => 0)))] H := hP
  have hD : va_D A [(h0, .inr (3, [.ref hr, .ref hp, .ref ha, .null, .int (nI 0), .int (bI false), .null, .int (nI 0), .int (nI 0), .null])), (hr, .inl (dA 0, 444, .inl (fun _ => 0))), (hp, .inl (dA 0, 1776, .inl (fun _ => 0))), (ha, .inl (dA 0, 444, .inl (fun _ => 0))), (hf, .inl (dA 0, 444, .inl (fun _ => 0)))] := hD
  refine W.widen (k := 4) (n := 3108) (Nat.le_of_ble_eq_true rfl) (Nat.le_of_ble_eq_true rfl) ?_
  refine va_putF (D := D) (ci := 3) (v := .ref hf) (ty := .array .int) (C := RX3) (T := TX3) (N := 10) hx hb hts in_X3 tyX3 tyX3_ok nmX3 hown K hP hD hS 0 rfl rfl 3 (by decide) (hts _ q1078) (fun _ h9 => h9) rfl hnm rfl (by decide +kernel) rfl rfl (Nat.le_of_ble_eq_true rfl) dX3_init_37 (fun H locs hP hD hS => ?_)
  have hP : va_P D vwCl [(h0, .inr (3, [.ref hr, .ref hp, .ref ha, .ref hf, .int (nI 0), .int (bI false), .null, .int (nI 0), .int (nI 0), .null])), (hr, .inl (dA 0, 444, .inl (fun _ => 0))), (hp, .inl (dA 0, 1776, .inl (fun _ => 0))), (ha, .inl (dA 0, 444, .inl (fun _ => 0))), (hf, .inl (dA 0, 444, .inl (fun _ => 0)))] H := hP
  have hD : va_D A [(h0, .inr (3, [.ref hr, .ref hp, .ref ha, .ref hf, .int (nI 0), .int (bI false), .null, .int (nI 0), .int (nI 0), .null])), (hr, .inl (dA 0, 444, .inl (fun _ => 0))), (hp, .inl (dA 0, 1776, .inl (fun _ => 0))), (ha, .inl (dA 0, 444, .inl (fun _ => 0))), (hf, .inl (dA 0, 444, .inl (fun _ => 0)))] := hD
  refine lv_aload_n hx hb dX3_init_40 rfl (lv_at hl 0 rfl) ?_
  refine lv_bipush (v := nI 60) hx hb dX3_init_41 (by decide) ?_
  refine x_newa (atype := .char) (N := 60) hx hb (hts _ q1106) (ty := .char) rfl K hP hD hS hA 3 rfl (fun _ => rfl) rfl (by decide) (by decide) (Nat.le_of_ble_eq_true rfl) (Nat.le_of_ble_eq_true rfl) dX3_init_43 (fun ht H hP hD hS => ?_)
  have hP : va_P D vwCl [(h0, .inr (3, [.ref hr, .ref hp, .ref ha, .ref hf, .int (nI 0), .int (bI false), .null, .int (nI 0), .int (nI 0), .null])), (hr, .inl (dA 0, 444, .inl (fun _ => 0))), (hp, .inl (dA 0, 1776, .inl (fun _ => 0))), (ha, .inl (dA 0, 444, .inl (fun _ => 0))), (hf, .inl (dA 0, 444, .inl (fun _ => 0))), (ht, .inl (dA 3, 60, .inl (fun _ => 0)))] H := hP
  have hD : va_D A [(h0, .inr (3, [.ref hr, .ref hp, .ref ha, .ref hf, .int (nI 0), .int (bI false), .null, .int (nI 0), .int (nI 0), .null])), (hr, .inl (dA 0, 444, .inl (fun _ => 0))), (hp, .inl (dA 0, 1776, .inl (fun _ => 0))), (ha, .inl (dA 0, 444, .inl (fun _ => 0))), (hf, .inl (dA 0, 444, .inl (fun _ => 0))), (ht, .inl (dA 3, 60, .inl (fun _ => 0)))] := hD
  refine W.widen (k := 5) (n := 3168) (Nat.le_of_ble_eq_true rfl) (Nat.le_of_ble_eq_true rfl) ?_
  refine va_putF (D := D) (ci := 3) (v := .ref ht) (ty := .array .char) (C := RX3) (T := TX3) (N := 10) hx hb hts in_X3 tyX3 tyX3_ok nmX3 hown K hP hD hS 0 rfl rfl 6 (by decide) (hts _ q1081) (fun _ h9 => h9) rfl hnm rfl (by decide +kernel) rfl rfl (Nat.le_of_ble_eq_true rfl) dX3_init_45 (fun H locs hP hD hS => ?_)
  have hP : va_P D vwCl [(h0, .inr (3, [.ref hr, .ref hp, .ref ha, .ref hf, .int (nI 0), .int (bI false), .ref ht, .int (nI 0), .int (nI 0), .null])), (hr, .inl (dA 0, 444, .inl (fun _ => 0))), (hp, .inl (dA 0, 1776, .inl (fun _ => 0))), (ha, .inl (dA 0, 444, .inl (fun _ => 0))), (hf, .inl (dA 0, 444, .inl (fun _ => 0))), (ht, .inl (dA 3, 60, .inl (fun _ => 0)))] H := hP
  have hD : va_D A [(h0, .inr (3, [.ref hr, .ref hp, .ref ha, .ref hf, .int (nI 0), .int (bI false), .ref ht, .int (nI 0), .int (nI 0), .null])), (hr, .inl (dA 0, 444, .inl (fun _ => 0))), (hp, .inl (dA 0, 1776, .inl (fun _ => 0))), (ha, .inl (dA 0, 444, .inl (fun _ => 0))), (hf, .inl (dA 0, 444, .inl (fun _ => 0))), (ht, .inl (dA 3, 60, .inl (fun _ => 0)))] := hD
  refine lv_aload_n hx hb dX3_init_48 rfl (lv_at hl 0 rfl) ?_
  refine lv_bipush (v := nI 8) hx hb dX3_init_49 (by decide) ?_
  refine x_newa (atype := .int) (N := 8) hx hb (hts _ q144) (ty := .int) rfl K hP hD hS hA 0 rfl (fun _ => rfl) rfl (by decide) (by decide) (Nat.le_of_ble_eq_true rfl) (Nat.le_of_ble_eq_true rfl) dX3_init_51 (fun hd H hP hD hS => ?_)
  have hP : va_P D vwCl [(h0, .inr (3, [.ref hr, .ref hp, .ref ha, .ref hf, .int (nI 0), .int (bI false), .ref ht, .int (nI 0), .int (nI 0), .null])), (hr, .inl (dA 0, 444, .inl (fun _ => 0))), (hp, .inl (dA 0, 1776, .inl (fun _ => 0))), (ha, .inl (dA 0, 444, .inl (fun _ => 0))), (hf, .inl (dA 0, 444, .inl (fun _ => 0))), (ht, .inl (dA 3, 60, .inl (fun _ => 0))), (hd, .inl (dA 0, 8, .inl (fun _ => 0)))] H := hP
  have hD : va_D A [(h0, .inr (3, [.ref hr, .ref hp, .ref ha, .ref hf, .int (nI 0), .int (bI false), .ref ht, .int (nI 0), .int (nI 0), .null])), (hr, .inl (dA 0, 444, .inl (fun _ => 0))), (hp, .inl (dA 0, 1776, .inl (fun _ => 0))), (ha, .inl (dA 0, 444, .inl (fun _ => 0))), (hf, .inl (dA 0, 444, .inl (fun _ => 0))), (ht, .inl (dA 3, 60, .inl (fun _ => 0))), (hd, .inl (dA 0, 8, .inl (fun _ => 0)))] := hD
  refine W.widen (k := 6) (n := 3176) (Nat.le_of_ble_eq_true rfl) (Nat.le_of_ble_eq_true rfl) ?_
  refine va_putF (D := D) (ci := 3) (v := .ref hd) (ty := .array .int) (C := RX3) (T := TX3) (N := 10) hx hb hts in_X3 tyX3 tyX3_ok nmX3 hown K hP hD hS 0 rfl rfl 9 (by decide) (hts _ q1084) (fun _ h9 => h9) rfl hnm rfl (by decide +kernel) rfl rfl (Nat.le_of_ble_eq_true rfl) dX3_init_53 (fun H locs hP hD hS => ?_)
  have hP : va_P D vwCl [(h0, .inr (3, [.ref hr, .ref hp, .ref ha, .ref hf, .int (nI 0), .int (bI false), .ref ht, .int (nI 0), .int (nI 0), .ref hd])), (hr, .inl (dA 0, 444, .inl (fun _ => 0))), (hp, .inl (dA 0, 1776, .inl (fun _ => 0))), (ha, .inl (dA 0, 444, .inl (fun _ => 0))), (hf, .inl (dA 0, 444, .inl (fun _ => 0))), (ht, .inl (dA 3, 60, .inl (fun _ => 0))), (hd, .inl (dA 0, 8, .inl (fun _ => 0)))] H := hP
  have hD : va_D A [(h0, .inr (3, [.ref hr, .ref hp, .ref ha, .ref hf, .int (nI 0), .int (bI false), .ref ht, .int (nI 0), .int (nI 0), .ref hd])), (hr, .inl (dA 0, 444, .inl (fun _ => 0))), (hp, .inl (dA 0, 1776, .inl (fun _ => 0))), (ha, .inl (dA 0, 444, .inl (fun _ => 0))), (hf, .inl (dA 0, 444, .inl (fun _ => 0))), (ht, .inl (dA 3, 60, .inl (fun _ => 0))), (hd, .inl (dA 0, 8, .inl (fun _ => 0)))] := hD
  refine lv_aload_n hx hb dX3_init_56 rfl (lv_at hl 0 rfl) ?_
  refine va_get (D := D) (ci := 3) (C := RX3) (T := TX3) (N := 10) hx hb hts in_X3 hown K hP 0 rfl rfl 0 (by decide) (hts _ q1075) (fun _ h9 => h9) rfl dX3_init_57 ?_
  refine lv_iconst (v := nI 2) hx hb dX3_init_60 (by decide) ?_
  refine lv_bipush (v := nI 7) hx hb dX3_init_61 (by decide) ?_
  refine x_iast hx hb K hP hD hS 1 0 rfl rfl 2 rfl (by omega) (by decide) dX3_init_63 (fun H locs hP hD hS => ?_)
  have hP : va_P D vwCl [(h0, .inr (3, [.ref hr, .ref hp, .ref ha, .ref hf, .int (nI 0), .int (bI false), .ref ht, .int (nI 0), .int (nI 0), .ref hd])), (hr, .inl (dA 0, 444, .inl (upd (fun _ => 0) 2 (nI 7)))), (hp, .inl (dA 0, 1776, .inl (fun _ => 0))), (ha, .inl (dA 0, 444, .inl (fun _ => 0))), (hf, .inl (dA 0, 444, .inl (fun _ => 0))), (ht, .inl (dA 3, 60, .inl (fun _ => 0))), (hd, .inl (dA 0, 8, .inl (fun _ => 0)))] H := hP
  have hD : va_D A [(h0, .inr (3, [.ref hr, .ref hp, .ref ha, .ref hf, .int (nI 0), .int (bI false), .ref ht, .int (nI 0), .int (nI 0), .ref hd])), (hr, .inl (dA 0, 444, .inl (upd (fun _ => 0) 2 (nI 7)))), (hp, .inl (dA 0, 1776, .inl (fun _ => 0))), (ha, .inl (dA 0, 444, .inl (fun _ => 0))), (hf, .inl (dA 0, 444, .inl (fun _ => 0))), (ht, .inl (dA 3, 60, .inl (fun _ => 0))), (hd, .inl (dA 0, 8, .inl (fun _ => 0)))] := hD
  refine lv_aload_n hx hb dX3_init_64 rfl (lv_at hl 0 rfl) ?_
  refine va_get (D := D) (ci := 3) (C := RX3) (T := TX3) (N := 10) hx hb hts in_X3 hown K hP 0 rfl rfl 0 (by decide) (hts _ q1075) (fun _ h9 => h9) rfl dX3_init_65 ?_
  refine lv_iconst (v := nI 4) hx hb dX3_init_68 (by decide) ?_
  refine lv_bipush (v := -5) hx hb dX3_init_69 (by decide) ?_
  refine x_iast hx hb K hP hD hS 1 0 rfl rfl 4 rfl (by omega) (by decide) dX3_init_71 (fun H locs hP hD hS => ?_)
  have hP : va_P D vwCl [(h0, .inr (3, [.ref hr, .ref hp, .ref ha, .ref hf, .int (nI 0), .int (bI false), .ref ht, .int (nI 0), .int (nI 0), .ref hd])), (hr, .inl (dA 0, 444, .inl (upd (upd (fun _ => 0) 2 (nI 7)) 4 (-5)))), (hp, .inl (dA 0, 1776, .inl (fun _ => 0))), (ha, .inl (dA 0, 444, .inl (fun _ => 0))), (hf, .inl (dA 0, 444, .inl (fun _ => 0))), (ht, .inl (dA 3, 60, .inl (fun _ => 0))), (hd, .inl (dA 0, 8, .inl (fun _ => 0)))] H := hP
  have hD : va_D A [(h0, .inr (3, [.ref hr, .ref hp, .ref ha, .ref hf, .int (nI 0), .int (bI false), .ref ht, .int (nI 0), .int (nI 0), .ref hd])), (hr, .inl (dA 0, 444, .inl (upd (upd (fun _ => 0) 2 (nI 7)) 4 (-5)))), (hp, .inl (dA 0, 1776, .inl (fun _ => 0))), (ha, .inl (dA 0, 444, .inl (fun _ => 0))), (hf, .inl (dA 0, 444, .inl (fun _ => 0))), (ht, .inl (dA 3, 60, .inl (fun _ => 0))), (hd, .inl (dA 0, 8, .inl (fun _ => 0)))] := hD
  refine lv_iconst (v := nI 0) hx hb dX3_init_72 (by decide) ?_
  refine lv_istore_n (lv' := [(1, .int (nI 0)), (0, .ref h0)]) hx hb dX3_init_73 rfl hl (by decide) rfl (fun ls hl => ?_)
  refine lpW (fun k g => upd g (21 + k) (nI 100)) (upd (upd (fun _ => 0) 2 (nI 7)) 4 (-5)) 56 (fun k g ls H locs => lv_has ls 2 [(0, .ref h0), (1, .int (nI k))] ∧ va_P D vwCl [(h0, .inr (3, [.ref hr, .ref hp, .ref ha, .ref hf, .int (nI 0), .int (bI false), .ref ht, .int (nI 0), .int (nI 0), .ref hd])), (hr, .inl (dA 0, 444, .inl g)), (hp, .inl (dA 0, 1776, .inl (fun _ => 0))), (ha, .inl (dA 0, 444, .inl (fun _ => 0))), (hf, .inl (dA 0, 444, .inl (fun _ => 0))), (ht, .inl (dA 3, 60, .inl (fun _ => 0))), (hd, .inl (dA 0, 8, .inl (fun _ => 0)))] H ∧ va_D A [(h0, .inr (3, [.ref hr, .ref hp, .ref ha, .ref hf, .int (nI 0), .int (bI false), .ref ht, .int (nI 0), .int (nI 0), .ref hd])), (hr, .inl (dA 0, 444, .inl g)), (hp, .inl (dA 0, 1776, .inl (fun _ => 0))), (ha, .inl (dA 0, 444, .inl (fun _ => 0))), (hf, .inl (dA 0, 444, .inl (fun _ => 0))), (ht, .inl (dA 3, 60, .inl (fun _ => 0))), (hd, .inl (dA 0, 8, .inl (fun _ => 0)))] ∧ va_S A s.heap H locs) (fun ls H locs => W p l e (rmW 1 40 6 3176) s m ([.ref h0]).toArray below meth c H locs 6 3176 (MQ below (QE (S := Nat × Nat × Nat × Nat × Nat × Nat) (fun _ _ => True) (fun _ => none) D (fun u => mW dA h0 u.1 u.2.1 u.2.2.1 u.2.2.2.1 u.2.2.2.2.1 u.2.2.2.2.2 iRow (fun _ => 0) (fun _ => 0) (fun _ => 0) (fun _ => 0) (fun _ => 0) 0 false 0 0) A) ([.ref h0]).toArray s 6 3176 A) (F0 m 74 ls [])) ?_ ?_ ls H locs ⟨lv_sub hl [1, 0] rfl, hP, hD, hS⟩
  · intro k ls H locs hk_1 hI ih
    generalize iter (fun k g => upd g (21 + k) (nI 100)) k 0 (upd (upd (fun _ => 0) 2 (nI 7)) 4 (-5)) = g at *
    obtain ⟨hl, hP, hD, hS⟩ := hI
    have hl : lv_has ls 2 [(0, .ref h0), (1, .int (nI k))] := hl
    have hP : va_P D vwCl [(h0, .inr (3, [.ref hr, .ref hp, .ref ha, .ref hf, .int (nI 0), .int (bI false), .ref ht, .int (nI 0), .int (nI 0), .ref hd])), (hr, .inl (dA 0, 444, .inl g)), (hp, .inl (dA 0, 1776, .inl (fun _ => 0))), (ha, .inl (dA 0, 444, .inl (fun _ => 0))), (hf, .inl (dA 0, 444, .inl (fun _ => 0))), (ht, .inl (dA 3, 60, .inl (fun _ => 0))), (hd, .inl (dA 0, 8, .inl (fun _ => 0)))] H := hP
    have hD : va_D A [(h0, .inr (3, [.ref hr, .ref hp, .ref ha, .ref hf, .int (nI 0), .int (bI false), .ref ht, .int (nI 0), .int (nI 0), .ref hd])), (hr, .inl (dA 0, 444, .inl g)), (hp, .inl (dA 0, 1776, .inl (fun _ => 0))), (ha, .inl (dA 0, 444, .inl (fun _ => 0))), (hf, .inl (dA 0, 444, .inl (fun _ => 0))), (ht, .inl (dA 3, 60, .inl (fun _ => 0))), (hd, .inl (dA 0, 8, .inl (fun _ => 0)))] := hD
    show W p l e (rmW 1 40 6 3176) s m ([.ref h0]).toArray below meth c H locs 6 3176 (MQ below (QE (S := Nat × Nat × Nat × Nat × Nat × Nat) (fun _ _ => True) (fun _ => none) D (fun u => mW dA h0 u.1 u.2.1 u.2.2.1 u.2.2.2.1 u.2.2.2.2.1 u.2.2.2.2.2 iRow (fun _ => 0) (fun _ => 0) (fun _ => 0) (fun _ => 0) (fun _ => 0) 0 false 0 0) A) ([.ref h0]).toArray s 6 3176 A) (F0 m 74 ls [])
    refine lv_iload_n hx hb dX3_init_74 rfl (lv_at hl 1 rfl) ?_
    refine lv_bipush (v := nI 56) hx hb dX3_init_75 (by decide) ?_
    refine lv_icmp_ge (tgt := 97) hx hb dX3_init_77 (by decide) (fun h => absurd h (nI_ge hk_1 (by omega))) (fun _ => ?_)
    refine lv_aload_n hx hb dX3_init_80 rfl (lv_at hl 0 rfl) ?_
    refine va_get (D := D) (ci := 3) (C := RX3) (T := TX3) (N := 10) hx hb hts in_X3 hown K hP 0 rfl rfl 0 (by decide) (hts _ q1075) (fun _ h9 => h9) rfl dX3_init_81 ?_
    refine lv_bipush (v := nI 21) hx hb dX3_init_84 (by decide) ?_
    refine lv_iload_n hx hb dX3_init_86 rfl (lv_at hl 1 rfl) ?_
    refine x_addN hx hb dX3_init_87 ?_
    refine lv_bipush (v := nI 100) hx hb dX3_init_88 (by decide) ?_
    refine x_iast hx hb K hP hD hS 1 0 rfl rfl (21 + k) rfl (by omega) (by decide) dX3_init_90 (fun H locs hP hD hS => ?_)
    have hP : va_P D vwCl [(h0, .inr (3, [.ref hr, .ref hp, .ref ha, .ref hf, .int (nI 0), .int (bI false), .ref ht, .int (nI 0), .int (nI 0), .ref hd])), (hr, .inl (dA 0, 444, .inl (upd g (21 + k) (nI 100)))), (hp, .inl (dA 0, 1776, .inl (fun _ => 0))), (ha, .inl (dA 0, 444, .inl (fun _ => 0))), (hf, .inl (dA 0, 444, .inl (fun _ => 0))), (ht, .inl (dA 3, 60, .inl (fun _ => 0))), (hd, .inl (dA 0, 8, .inl (fun _ => 0)))] H := hP
    have hD : va_D A [(h0, .inr (3, [.ref hr, .ref hp, .ref ha, .ref hf, .int (nI 0), .int (bI false), .ref ht, .int (nI 0), .int (nI 0), .ref hd])), (hr, .inl (dA 0, 444, .inl (upd g (21 + k) (nI 100)))), (hp, .inl (dA 0, 1776, .inl (fun _ => 0))), (ha, .inl (dA 0, 444, .inl (fun _ => 0))), (hf, .inl (dA 0, 444, .inl (fun _ => 0))), (ht, .inl (dA 3, 60, .inl (fun _ => 0))), (hd, .inl (dA 0, 8, .inl (fun _ => 0)))] := hD
    refine lv_iinc (v := nI (k + 1)) (lv' := [(1, .int (nI (k + 1))), (0, .ref h0)]) hx hb dX3_init_91 hl (k := 1) rfl (nI_1 k) (by decide) rfl (fun ls hl => ?_)
    refine lv_goto (tgt := 74) hx hb dX3_init_94 (by decide) ?_
    refine ih ls H locs ⟨?_, hP, hD, hS⟩
    show lv_has ls 2 [(0, .ref h0), (1, .int (nI (k + 1)))]
    exact lv_sub hl [1, 0] rfl
  · intro ls H locs hI
    obtain ⟨hl, hP, hD, hS⟩ := hI
    rw [cp_iter (fun _ => nI 100)] at hP hD
    obtain ⟨hP, hD⟩ := arr_cg2 iRow 1 hP hD rfl (fun j hj => iRow_ok j)
    have hl : lv_has ls 2 [(0, .ref h0), (1, .int (nI 56))] := hl
    have hP : va_P D vwCl [(h0, .inr (3, [.ref hr, .ref hp, .ref ha, .ref hf, .int (nI 0), .int (bI false), .ref ht, .int (nI 0), .int (nI 0), .ref hd])), (hr, .inl (dA 0, 444, .inl iRow)), (hp, .inl (dA 0, 1776, .inl (fun _ => 0))), (ha, .inl (dA 0, 444, .inl (fun _ => 0))), (hf, .inl (dA 0, 444, .inl (fun _ => 0))), (ht, .inl (dA 3, 60, .inl (fun _ => 0))), (hd, .inl (dA 0, 8, .inl (fun _ => 0)))] H := hP
    have hD : va_D A [(h0, .inr (3, [.ref hr, .ref hp, .ref ha, .ref hf, .int (nI 0), .int (bI false), .ref ht, .int (nI 0), .int (nI 0), .ref hd])), (hr, .inl (dA 0, 444, .inl iRow)), (hp, .inl (dA 0, 1776, .inl (fun _ => 0))), (ha, .inl (dA 0, 444, .inl (fun _ => 0))), (hf, .inl (dA 0, 444, .inl (fun _ => 0))), (ht, .inl (dA 3, 60, .inl (fun _ => 0))), (hd, .inl (dA 0, 8, .inl (fun _ => 0)))] := hD
    show W p l e (rmW 1 40 6 3176) s m ([.ref h0]).toArray below meth c H locs 6 3176 (MQ below (QE (S := Nat × Nat × Nat × Nat × Nat × Nat) (fun _ _ => True) (fun _ => none) D (fun u => mW dA h0 u.1 u.2.1 u.2.2.1 u.2.2.2.1 u.2.2.2.2.1 u.2.2.2.2.2 iRow (fun _ => 0) (fun _ => 0) (fun _ => 0) (fun _ => 0) (fun _ => 0) 0 false 0 0) A) ([.ref h0]).toArray s 6 3176 A) (F0 m 74 ls [])
    refine lv_iload_n hx hb dX3_init_74 rfl (lv_at hl 1 rfl) ?_
    refine lv_bipush (v := nI 56) hx hb dX3_init_75 (by decide) ?_
    refine lv_icmp_ge (tgt := 97) hx hb dX3_init_77 (by decide) (fun _ => ?_) (fun h => absurd (by decide) h)
    exact x_evret (hr, hp, ha, hf, ht, hd) hx hb hrt hlk rfl trivial hP hD hS dX3_init_97 (Nat.le_of_ble_eq_true rfl) (Nat.le_of_ble_eq_true rfl)

