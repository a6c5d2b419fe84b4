/-! constructors of cuts and lands, Land.copy -/
theorem iRow_100 {j : Nat} (h1 : 21 ≤ j) (h2 : j < 77) : iRow j = nI 100 := if_pos ⟨h1, h2⟩
theorem iRow_0 {j : Nat} (h1 : ¬ (21 ≤ j ∧ j < 77)) (h2 : j ≠ 2) (h4 : j ≠ 4) : iRow j = 0 := by
  unfold iRow
  rw [if_neg h1, if_neg h2, if_neg h4]
theorem cpy_all {f g : Nat → Int32} {n j : Nat} (h : j < n) : va_cpy f g 0 0 n j = f j := by
  unfold va_cpy
  rw [if_pos ⟨Nat.zero_le _, by omega⟩]
  congr 1
  omega
section XV
variable {p : Program} {l : Launch} {e : Env} {R : Room} {s : State} {m : MethodId} {args : Array Value} {below : List Frame} {meth : Method} {c : Code} {H : Heap} {locs : List Loc} {cells slots : Nat} {Q : State → Prop} {cc : ByteArray} {pc : Nat} {ls : Array Slot} {rest st0 : List Value} {D : va_G} {dA : Nat → ClassId} {A : Nat → Prop} {ws : va_W} {a : Nat}
/-- numbers copied out of a row that is only read -/
theorem x_copyX (hexec : p.tables.exec = Jvm.exec) (hb : c.code = cc) (hml : c.maxLocals = ls.size) {own : String} {index : Nat} (hown : s.vm.findClass own = some m.cls) (hlink : (Cond.methodLink own index arraycopyName).before args s = true) (hnat : (Cond.native arraycopyName).before args s = true) (hstat : (Cond.static arraycopyName).before args s = true) (hini : (Cond.initialized "java/lang/System").before args s = true)
    (hK : KA D dA s) (hP : va_P D vwCl ws H) (hD : va_D A ws) (hS : va_S A s.heap H locs) {b0 n0 n1 : Nat} {f g : Nat → Int32} (hc0 : s.heap[b0]? = some (vp_cell (dA 0) (n0, .inl f))) (hbA : ¬ A b0) (q1 : Nat) (ha1 : ws[q1]? = some (a, .inl (dA 0, n1, .inl g)))
    (n : Nat) (hb0 : n0 < 2 ^ 31) (hb1 : n1 < 2 ^ 31) (h4 : n ≤ n0) (h5 : n ≤ n1)
    (hframes : 1 ≤ R.frames) (hlocals : (rest.map fun v => v.category).sum + (nativeFrameWords "java/lang/System" "arraycopy" 5 + 11) ≤ R.locals) (hdg : decode cc pc = .ok (.invokestatic index, 3))
    (kk : ∀ (H1 : Heap) (locs1 : List Loc), va_P D vwCl (ws.set q1 (a, .inl (dA 0, n1, .inl (va_cpy f g 0 0 n)))) H1 → va_D A (ws.set q1 (a, .inl (dA 0, n1, .inl (va_cpy f g 0 0 n)))) → va_S A s.heap H1 locs1 → W p l e R s m args below meth c H1 locs1 cells slots Q (F0 m (pc + 3) ls rest)) : W p l e R s m args below meth c H locs cells slots Q (F0 m pc ls (.int (nI n) :: .int (nI 0) :: .ref a :: .int (nI 0) :: .ref b0 :: rest)) := by
  have e0 : (nI 0).toNatClampNeg = 0 := nI_clamp (by omega)
  have e3 : (nI n).toNatClampNeg = n := nI_clamp (by omega)
  have hX : va_X b0 n0 f s s.heap := ⟨_, hc0, (hK.2 0 _ rfl).1 n0 (fun j => .int (f j)), (fun h => by cases h), arrV_size _ _ _, fun j hj => arrV_read _ _ hj⟩
  refine va_copyx hexec hb hml hown hlink hnat hstat hini hK hP hD hS hX (Array.getElem?_eq_some_iff.mp hc0).1 hbA q1 0 ha1 rfl (nI_pos (by omega)) (nI_pos (by omega)) (nI_pos (by omega)) (by rw [e0, e3]; omega) (by rw [e0, e3]; omega) hframes hlocals hdg ?_
  rw [e0, e3]
  exact kk
end XV

set_option maxHeartbeats 4000000 in
theorem xc_cutR (l : Launch) (D : va_G) (dA : Nat → ClassId) (E : Nat) (ad : Nat → Nat) (sz0 mi : Nat) (ka : Nat) (hup : Up sz0 ([(ka, .inr (6, [.int (nI 0), .int (nI 0)]))])) : EX l yX4_init cX4_init 2 none 1 40 0 0 [.ref ka, .int (nI 0)] (G1 D dA E ad sz0 mi) D ([(ka, .inr (6, [.int (nI 0), .int (nI 0)]))]) (fun _ => True) (S := Unit) (fun _ _ => True) (fun _ => none) (fun _ => [(ka, .inr (6, [.int (nI 0), .int (nI 0)]))]) := by
  refine ex_of (by decide) (Nat.le_of_ble_eq_true rfl) ?_
  intro p e s m below meth c A S hrt hlk hnm G hA hAe hΦ H locs hP hD hS ls hl
  obtain ⟨hx, hb, hml, hown, hts⟩ := id S
  have K := G.1.1
  have hA0 := up_A hup G.1.2.2.2.2.2.2 hAe
  have hP : va_P D vwCl [(ka, .inr (6, [.int (nI 0), .int (nI 0)]))] H := hP
  have hD : va_D A [(ka, .inr (6, [.int (nI 0), .int (nI 0)]))] := hD
  have hl : lv_has ls 2 [(0, .ref ka), (1, .int (nI 0))] := hl
  refine lv_aload_n hx hb dX4_init_0 rfl (lv_at hl 0 rfl) ?_
  refine W.objInit hx hb hown (hts _ q626) (hts _ q94) (hts _ q95) rfl (by rw [hml]; exact hl.1) rfl dX4_init_1 (Nat.le_of_ble_eq_true rfl) (Nat.le_of_ble_eq_true rfl) ?_
  refine W.eq (g2 := F0 m 4 ls []) rfl ?_
  refine lv_aload_n hx hb dX4_init_4 rfl (lv_at hl 0 rfl) ?_
  refine lv_iload_n hx hb dX4_init_5 rfl (lv_at hl 1 rfl) ?_
  refine va_putF (D := D) (ci := 6) (v := .int (nI 0)) (ty := .int) (C := RX6) (T := TX6) (N := 2) hx hb hts in_X6 tyX6 tyX6_ok nmX6 hown K hP hD hS 0 rfl rfl 0 (by decide) (hts _ q628) (fun _ h9 => h9) rfl hnm rfl (by decide +kernel) rfl rfl (Nat.le_of_ble_eq_true rfl) dX4_init_6 (fun H locs hP hD hS => ?_)
  have hP : va_P D vwCl [(ka, .inr (6, [.int (nI 0), .int (nI 0)]))] H := hP
  have hD : va_D A [(ka, .inr (6, [.int (nI 0), .int (nI 0)]))] := hD
  exact x_evret () hx hb hrt hlk rfl trivial hP hD hS dX4_init_9 (Nat.le_of_ble_eq_true rfl) (Nat.le_of_ble_eq_true rfl)

set_option maxHeartbeats 4000000 in
theorem xc_cutP (l : Launch) (D : va_G) (dA : Nat → ClassId) (E : Nat) (ad : Nat → Nat) (sz0 mi : Nat) (ka : Nat) (hup : Up sz0 ([(ka, .inr (5, [.int (nI 0), .null]))])) : EX l yX4_init cX4_init 2 none 1 40 0 0 [.ref ka, .int (nI 1)] (G1 D dA E ad sz0 mi) D ([(ka, .inr (5, [.int (nI 0), .null]))]) (fun _ => True) (S := Unit) (fun _ _ => True) (fun _ => none) (fun _ => [(ka, .inr (5, [.int (nI 1), .null]))]) := by
  refine ex_of (by decide) (Nat.le_of_ble_eq_true rfl) ?_
  intro p e s m below meth c A S hrt hlk hnm G hA hAe hΦ H locs hP hD hS ls hl
  obtain ⟨hx, hb, hml, hown, hts⟩ := id S
  have K := G.1.1
  have hA0 := up_A hup G.1.2.2.2.2.2.2 hAe
  have hP : va_P D vwCl [(ka, .inr (5, [.int (nI 0), .null]))] H := hP
  have hD : va_D A [(ka, .inr (5, [.int (nI 0), .null]))] := hD
  have hl : lv_has ls 2 [(0, .ref ka), (1, .int (nI 1))] := hl
  refine lv_aload_n hx hb dX4_init_0 rfl (lv_at hl 0 rfl) ?_
  refine W.objInit hx hb hown (hts _ q626) (hts _ q94) (hts _ q95) rfl (by rw [hml]; exact hl.1) rfl dX4_init_1 (Nat.le_of_ble_eq_true rfl) (Nat.le_of_ble_eq_true rfl) ?_
  refine W.eq (g2 := F0 m 4 ls []) rfl ?_
  refine lv_aload_n hx hb dX4_init_4 rfl (lv_at hl 0 rfl) ?_
  refine lv_iload_n hx hb dX4_init_5 rfl (lv_at hl 1 rfl) ?_
  refine va_putF (D := D) (ci := 5) (v := .int (nI 1)) (ty := .int) (C := RX5) (T := TX5) (N := 2) hx hb hts in_X5 tyX5 tyX5_ok nmX5 hown K hP hD hS 0 rfl rfl 0 (by decide) (hts _ q628) (fun _ h9 => h9) rfl hnm rfl (by decide +kernel) rfl rfl (Nat.le_of_ble_eq_true rfl) dX4_init_6 (fun H locs hP hD hS => ?_)
  have hP : va_P D vwCl [(ka, .inr (5, [.int (nI 1), .null]))] H := hP
  have hD : va_D A [(ka, .inr (5, [.int (nI 1), .null]))] := hD
  exact x_evret () hx hb hrt hlk rfl trivial hP hD hS dX4_init_9 (Nat.le_of_ble_eq_true rfl) (Nat.le_of_ble_eq_true rfl)

set_option maxHeartbeats 4000000 in
theorem xc_cutT (l : Launch) (D : va_G) (dA : Nat → ClassId) (E : Nat) (ad : Nat → Nat) (sz0 mi : Nat) (ka : Nat) (hup : Up sz0 ([(ka, .inr (9, [.int (nI 0), .null]))])) : EX l yX4_init cX4_init 2 none 1 40 0 0 [.ref ka, .int (nI 1)] (G1 D dA E ad sz0 mi) D ([(ka, .inr (9, [.int (nI 0), .null]))]) (fun _ => True) (S := Unit) (fun _ _ => True) (fun _ => none) (fun _ => [(ka, .inr (9, [.int (nI 1), .null]))]) := by
  refine ex_of (by decide) (Nat.le_of_ble_eq_true rfl) ?_
  intro p e s m below meth c A S hrt hlk hnm G hA hAe hΦ H locs hP hD hS ls hl
  obtain ⟨hx, hb, hml, hown, hts⟩ := id S
  have K := G.1.1
  have hA0 := up_A hup G.1.2.2.2.2.2.2 hAe
  have hP : va_P D vwCl [(ka, .inr (9, [.int (nI 0), .null]))] H := hP
  have hD : va_D A [(ka, .inr (9, [.int (nI 0), .null]))] := hD
  have hl : lv_has ls 2 [(0, .ref ka), (1, .int (nI 1))] := hl
  refine lv_aload_n hx hb dX4_init_0 rfl (lv_at hl 0 rfl) ?_
  refine W.objInit hx hb hown (hts _ q626) (hts _ q94) (hts _ q95) rfl (by rw [hml]; exact hl.1) rfl dX4_init_1 (Nat.le_of_ble_eq_true rfl) (Nat.le_of_ble_eq_true rfl) ?_
  refine W.eq (g2 := F0 m 4 ls []) rfl ?_
  refine lv_aload_n hx hb dX4_init_4 rfl (lv_at hl 0 rfl) ?_
  refine lv_iload_n hx hb dX4_init_5 rfl (lv_at hl 1 rfl) ?_
  refine va_putF (D := D) (ci := 9) (v := .int (nI 1)) (ty := .int) (C := RX9) (T := TX9) (N := 2) hx hb hts in_X9 tyX9 tyX9_ok nmX9 hown K hP hD hS 0 rfl rfl 0 (by decide) (hts _ q628) (fun _ h9 => h9) rfl hnm rfl (by decide +kernel) rfl rfl (Nat.le_of_ble_eq_true rfl) dX4_init_6 (fun H locs hP hD hS => ?_)
  have hP : va_P D vwCl [(ka, .inr (9, [.int (nI 1), .null]))] H := hP
  have hD : va_D A [(ka, .inr (9, [.int (nI 1), .null]))] := hD
  exact x_evret () hx hb hrt hlk rfl trivial hP hD hS dX4_init_9 (Nat.le_of_ble_eq_true rfl) (Nat.le_of_ble_eq_true rfl)

set_option maxHeartbeats 4000000 in
theorem xc_ray (l : Launch) (D : va_G) (dA : Nat → ClassId) (E : Nat) (ad : Nat → Nat) (sz0 mi : Nat) (ka j : Nat) (hup : Up sz0 ([(ka, .inr (6, [.int (nI 0), .int (nI 0)]))])) : EX l yX6_init cX6_init 2 none 2 80 0 0 [.ref ka, .int (nI j)] (G1 D dA E ad sz0 mi) D ([(ka, .inr (6, [.int (nI 0), .int (nI 0)]))]) (fun _ => True) (S := Unit) (fun _ _ => True) (fun _ => none) (fun _ => [(ka, .inr (6, [.int (nI 0), .int (nI j)]))]) := by
  refine ex_of (by decide) (Nat.le_of_ble_eq_true rfl) ?_
  intro p e s m below meth c A S hrt hlk hnm G hA hAe hΦ H locs hP hD hS ls hl
  obtain ⟨hx, hb, hml, hown, hts⟩ := id S
  have K := G.1.1
  have hA0 := up_A hup G.1.2.2.2.2.2.2 hAe
  have hP : va_P D vwCl [(ka, .inr (6, [.int (nI 0), .int (nI 0)]))] H := hP
  have hD : va_D A [(ka, .inr (6, [.int (nI 0), .int (nI 0)]))] := hD
  have hl : lv_has ls 2 [(0, .ref ka), (1, .int (nI j))] := hl
  refine lv_aload_n hx hb dX6_init_0 rfl (lv_at hl 0 rfl) ?_
  refine lv_iconst (v := nI 0) hx hb dX6_init_1 (by decide) ?_
  refine x_ecall (wr := []) (va_runI (As := [.int (nI 0)]) (rest := []) S (xc_cutR l D dA E ad sz0 mi ka (up_D hA0 hD) H.size) (cwI 1 hts (lw_meth q625) rfl rfl rfl (hts _ q79) (hts _ q638) (hts _ q624) rfl (by decide +kernel) ⟨Nat.le_of_ble_eq_true rfl, Nat.le_of_ble_eq_true rfl⟩) ⟨pe_blind g1_bl _, pe_pre (g1_mv G (low_of hS hA0 G.1.2.2.2.2.2.2) hS.1) hP hD trivial _⟩ rfl rfl hl.1 rfl (lv_room (Nat.le_of_ble_eq_true rfl)) dX6_init_2 ⟨Nat.le_of_ble_eq_true rfl, Nat.le_of_ble_eq_true rfl⟩) hP hD hS hA [0] [] rfl rfl (by decide) (by decide) (fun _u H locs hΨ hP hD hS hkp hsz hDn => ?_)
  have hP : va_P D vwCl [(ka, .inr (6, [.int (nI 0), .int (nI 0)]))] H := hP
  have hD : va_D A [(ka, .inr (6, [.int (nI 0), .int (nI 0)]))] := hD
  refine W.widen (k := 0) (n := 0) (Nat.le_of_ble_eq_true rfl) (Nat.le_of_ble_eq_true rfl) ?_
  refine lv_aload_n hx hb dX6_init_5 rfl (lv_at hl 0 rfl) ?_
  refine lv_iload_n hx hb dX6_init_6 rfl (lv_at hl 1 rfl) ?_
  refine va_putF (D := D) (ci := 6) (v := .int (nI j)) (ty := .int) (C := RX6) (T := TX6) (N := 2) hx hb hts in_X6 tyX6 tyX6_ok nmX6 hown K hP hD hS 0 rfl rfl 1 (by decide) (hts _ q639) (fun _ h9 => h9) rfl hnm rfl (by decide +kernel) rfl rfl (Nat.le_of_ble_eq_true rfl) dX6_init_7 (fun H locs hP hD hS => ?_)
  have hP : va_P D vwCl [(ka, .inr (6, [.int (nI 0), .int (nI j)]))] H := hP
  have hD : va_D A [(ka, .inr (6, [.int (nI 0), .int (nI j)]))] := hD
  exact x_evret () hx hb hrt hlk rfl trivial hP hD hS dX6_init_10 (Nat.le_of_ble_eq_true rfl) (Nat.le_of_ble_eq_true rfl)

set_option maxHeartbeats 4000000 in
theorem xc_priceP (l : Launch) (D : va_G) (dA : Nat → ClassId) (E : Nat) (ad : Nat → Nat) (sz0 mi : Nat) (ka kn : Nat) (hup : Up sz0 ([(ka, .inr (5, [.int (nI 0), .null]))])) : EX l yX5_init cX5_init 2 none 2 80 0 0 [.ref ka, .ref kn] (G1 D dA E ad sz0 mi) D ([(ka, .inr (5, [.int (nI 0), .null]))]) (fun _ => True) (S := Unit) (fun _ _ => True) (fun _ => none) (fun _ => [(ka, .inr (5, [.int (nI 1), .ref kn]))]) := by
  refine ex_of (by decide) (Nat.le_of_ble_eq_true rfl) ?_
  intro p e s m below meth c A S hrt hlk hnm G hA hAe hΦ H locs hP hD hS ls hl
  obtain ⟨hx, hb, hml, hown, hts⟩ := id S
  have K := G.1.1
  have hA0 := up_A hup G.1.2.2.2.2.2.2 hAe
  have hP : va_P D vwCl [(ka, .inr (5, [.int (nI 0), .null]))] H := hP
  have hD : va_D A [(ka, .inr (5, [.int (nI 0), .null]))] := hD
  have hl : lv_has ls 2 [(0, .ref ka), (1, .ref kn)] := hl
  refine lv_aload_n hx hb dX5_init_0 rfl (lv_at hl 0 rfl) ?_
  refine lv_iconst (v := nI 1) hx hb dX5_init_1 (by decide) ?_
  refine x_ecall (wr := []) (va_runI (As := [.int (nI 1)]) (rest := []) S (xc_cutP l D dA E ad sz0 mi ka (up_D hA0 hD) H.size) (cwI 1 hts (lw_meth q625) rfl rfl rfl (hts _ q79) (hts _ q623) (hts _ q624) rfl (by decide +kernel) ⟨Nat.le_of_ble_eq_true rfl, Nat.le_of_ble_eq_true rfl⟩) ⟨pe_blind g1_bl _, pe_pre (g1_mv G (low_of hS hA0 G.1.2.2.2.2.2.2) hS.1) hP hD trivial _⟩ rfl rfl hl.1 rfl (lv_room (Nat.le_of_ble_eq_true rfl)) dX5_init_2 ⟨Nat.le_of_ble_eq_true rfl, Nat.le_of_ble_eq_true rfl⟩) hP hD hS hA [0] [] rfl rfl (by decide) (by decide) (fun _u H locs hΨ hP hD hS hkp hsz hDn => ?_)
  have hP : va_P D vwCl [(ka, .inr (5, [.int (nI 1), .null]))] H := hP
  have hD : va_D A [(ka, .inr (5, [.int (nI 1), .null]))] := hD
  refine W.widen (k := 0) (n := 0) (Nat.le_of_ble_eq_true rfl) (Nat.le_of_ble_eq_true rfl) ?_
  refine lv_aload_n hx hb dX5_init_5 rfl (lv_at hl 0 rfl) ?_
  refine lv_aload_n hx hb dX5_init_6 rfl (lv_at hl 1 rfl) ?_
  refine va_putF (D := D) (ci := 5) (v := .ref kn) (ty := .array .int) (C := RX5) (T := TX5) (N := 2) hx hb hts in_X5 tyX5 tyX5_ok nmX5 hown K hP hD hS 0 rfl rfl 1 (by decide) (hts _ q627) (fun _ h9 => h9) rfl hnm rfl (by decide +kernel) rfl rfl (Nat.le_of_ble_eq_true rfl) dX5_init_7 (fun H locs hP hD hS => ?_)
  have hP : va_P D vwCl [(ka, .inr (5, [.int (nI 1), .ref kn]))] H := hP
  have hD : va_D A [(ka, .inr (5, [.int (nI 1), .ref kn]))] := hD
  exact x_evret () hx hb hrt hlk rfl trivial hP hD hS dX5_init_10 (Nat.le_of_ble_eq_true rfl) (Nat.le_of_ble_eq_true rfl)

set_option maxHeartbeats 4000000 in
theorem xc_priceT (l : Launch) (D : va_G) (dA : Nat → ClassId) (E : Nat) (ad : Nat → Nat) (sz0 mi : Nat) (ka kn : Nat) (hup : Up sz0 ([(ka, .inr (9, [.int (nI 0), .null]))])) : EX l yX5_init cX5_init 2 none 2 80 0 0 [.ref ka, .ref kn] (G1 D dA E ad sz0 mi) D ([(ka, .inr (9, [.int (nI 0), .null]))]) (fun _ => True) (S := Unit) (fun _ _ => True) (fun _ => none) (fun _ => [(ka, .inr (9, [.int (nI 1), .ref kn]))]) := by
  refine ex_of (by decide) (Nat.le_of_ble_eq_true rfl) ?_
  intro p e s m below meth c A S hrt hlk hnm G hA hAe hΦ H locs hP hD hS ls hl
  obtain ⟨hx, hb, hml, hown, hts⟩ := id S
  have K := G.1.1
  have hA0 := up_A hup G.1.2.2.2.2.2.2 hAe
  have hP : va_P D vwCl [(ka, .inr (9, [.int (nI 0), .null]))] H := hP
  have hD : va_D A [(ka, .inr (9, [.int (nI 0), .null]))] := hD
  have hl : lv_has ls 2 [(0, .ref ka), (1, .ref kn)] := hl
  refine lv_aload_n hx hb dX5_init_0 rfl (lv_at hl 0 rfl) ?_
  refine lv_iconst (v := nI 1) hx hb dX5_init_1 (by decide) ?_
  refine x_ecall (wr := []) (va_runI (As := [.int (nI 1)]) (rest := []) S (xc_cutT l D dA E ad sz0 mi ka (up_D hA0 hD) H.size) (cwI 1 hts (lw_meth q625) rfl rfl rfl (hts _ q79) (hts _ q623) (hts _ q624) rfl (by decide +kernel) ⟨Nat.le_of_ble_eq_true rfl, Nat.le_of_ble_eq_true rfl⟩) ⟨pe_blind g1_bl _, pe_pre (g1_mv G (low_of hS hA0 G.1.2.2.2.2.2.2) hS.1) hP hD trivial _⟩ rfl rfl hl.1 rfl (lv_room (Nat.le_of_ble_eq_true rfl)) dX5_init_2 ⟨Nat.le_of_ble_eq_true rfl, Nat.le_of_ble_eq_true rfl⟩) hP hD hS hA [0] [] rfl rfl (by decide) (by decide) (fun _u H locs hΨ hP hD hS hkp hsz hDn => ?_)
  have hP : va_P D vwCl [(ka, .inr (9, [.int (nI 1), .null]))] H := hP
  have hD : va_D A [(ka, .inr (9, [.int (nI 1), .null]))] := hD
  refine W.widen (k := 0) (n := 0) (Nat.le_of_ble_eq_true rfl) (Nat.le_of_ble_eq_true rfl) ?_
  refine lv_aload_n hx hb dX5_init_5 rfl (lv_at hl 0 rfl) ?_
  refine lv_aload_n hx hb dX5_init_6 rfl (lv_at hl 1 rfl) ?_
  refine va_putF (D := D) (ci := 9) (v := .ref kn) (ty := .array .int) (C := RX9) (T := TX9) (N := 2) hx hb hts in_X9 tyX9 tyX9_ok nmX9 hown K hP hD hS 0 rfl rfl 1 (by decide) (hts _ q627) (fun _ h9 => h9) rfl hnm rfl (by decide +kernel) rfl rfl (Nat.le_of_ble_eq_true rfl) dX5_init_7 (fun H locs hP hD hS => ?_)
  have hP : va_P D vwCl [(ka, .inr (9, [.int (nI 1), .ref kn]))] H := hP
  have hD : va_D A [(ka, .inr (9, [.int (nI 1), .ref kn]))] := hD
  exact x_evret () hx hb hrt hlk rfl trivial hP hD hS dX5_init_10 (Nat.le_of_ble_eq_true rfl) (Nat.le_of_ble_eq_true rfl)

set_option maxHeartbeats 4000000 in
theorem xc_typed (l : Launch) (D : va_G) (dA : Nat → ClassId) (E : Nat) (ad : Nat → Nat) (sz0 mi : Nat) (ka kn : Nat) (hup : Up sz0 ([(ka, .inr (9, [.int (nI 0), .null]))])) : EX l yX9_init cX9_init 2 none 3 120 0 0 [.ref ka, .ref kn] (G1 D dA E ad sz0 mi) D ([(ka, .inr (9, [.int (nI 0), .null]))]) (fun _ => True) (S := Unit) (fun _ _ => True) (fun _ => none) (fun _ => [(ka, .inr (9, [.int (nI 1), .ref kn]))]) := by
  refine ex_of (by decide) (Nat.le_of_ble_eq_true rfl) ?_
  intro p e s m below meth c A S hrt hlk hnm G hA hAe hΦ H locs hP hD hS ls hl
  obtain ⟨hx, hb, hml, hown, hts⟩ := id S
  have K := G.1.1
  have hA0 := up_A hup G.1.2.2.2.2.2.2 hAe
  have hP : va_P D vwCl [(ka, .inr (9, [.int (nI 0), .null]))] H := hP
  have hD : va_D A [(ka, .inr (9, [.int (nI 0), .null]))] := hD
  have hl : lv_has ls 2 [(0, .ref ka), (1, .ref kn)] := hl
  refine lv_aload_n hx hb dX9_init_0 rfl (lv_at hl 0 rfl) ?_
  refine lv_aload_n hx hb dX9_init_1 rfl (lv_at hl 1 rfl) ?_
  refine x_ecall (wr := []) (va_runI (As := [.ref kn]) (rest := []) S (xc_priceT l D dA E ad sz0 mi ka kn (up_D hA0 hD) H.size) (cwI 1 hts (lw_meth q622) rfl rfl rfl (hts _ q80) (hts _ q789) (hts _ q621) rfl (by decide +kernel) ⟨Nat.le_of_ble_eq_true rfl, Nat.le_of_ble_eq_true rfl⟩) ⟨pe_blind g1_bl _, pe_pre (g1_mv G (low_of hS hA0 G.1.2.2.2.2.2.2) hS.1) hP hD trivial _⟩ rfl rfl hl.1 rfl (lv_room (Nat.le_of_ble_eq_true rfl)) dX9_init_2 ⟨Nat.le_of_ble_eq_true rfl, Nat.le_of_ble_eq_true rfl⟩) hP hD hS hA [0] [] rfl rfl (by decide) (by decide) (fun _u H locs hΨ hP hD hS hkp hsz hDn => ?_)
  have hP : va_P D vwCl [(ka, .inr (9, [.int (nI 1), .ref kn]))] H := hP
  have hD : va_D A [(ka, .inr (9, [.int (nI 1), .ref kn]))] := hD
  refine W.widen (k := 0) (n := 0) (Nat.le_of_ble_eq_true rfl) (Nat.le_of_ble_eq_true rfl) ?_
  exact x_evret () hx hb hrt hlk rfl trivial hP hD hS dX9_init_5 (Nat.le_of_ble_eq_true rfl) (Nat.le_of_ble_eq_true rfl)

set_option maxHeartbeats 4000000 in
theorem xc_land (l : Launch) (D : va_G) (dA : Nat → ClassId) (E : Nat) (ad : Nat → Nat) (sz0 mi : Nat) (la : Nat) (hup : Up sz0 ([(la, .inr (2, [.null, .null, .null, .null, .int (nI 0), .int (nI 0), .int (nI 0)]))])) : EX l yX2_init cX2_init 2 none 1 40 4 78 [.ref la] (G1 D dA E ad sz0 mi) D ([(la, .inr (2, [.null, .null, .null, .null, .int (nI 0), .int (nI 0), .int (nI 0)]))]) (fun _ => True) (S := Nat × Nat × Nat × Nat) (fun _ _ => True) (fun _ => none) (fun u => lW dA la u.1 u.2.1 u.2.2.1 u.2.2.2 iRow 0 0) := by
  refine ex_of (by decide) (Nat.le_of_ble_eq_true rfl) ?_
  intro p e s m below meth c A S hrt hlk hnm G hA hAe hΦ H locs hP hD hS ls hl
  obtain ⟨hx, hb, hml, hown, hts⟩ := id S
  have K := G.1.1
  have hA0 := up_A hup G.1.2.2.2.2.2.2 hAe
  have hP : va_P D vwCl [(la, .inr (2, [.null, .null, .null, .null, .int (nI 0), .int (nI 0), .int (nI 0)]))] H := hP
  have hD : va_D A [(la, .inr (2, [.null, .null, .null, .null, .int (nI 0), .int (nI 0), .int (nI 0)]))] := hD
  have hl : lv_has ls 2 [(0, .ref la)] := hl
  refine lv_aload_n hx hb dX2_init_0 rfl (lv_at hl 0 rfl) ?_
  refine W.objInit hx hb hown (hts _ q107) (hts _ q94) (hts _ q95) rfl (by rw [hml]; exact hl.1) rfl dX2_init_1 (Nat.le_of_ble_eq_true rfl) (Nat.le_of_ble_eq_true rfl) ?_
  refine W.eq (g2 := F0 m 4 ls []) rfl ?_
  refine lv_aload_n hx hb dX2_init_4 rfl (lv_at hl 0 rfl) ?_
  refine lv_bipush (v := nI 7) hx hb dX2_init_5 (by decide) ?_
  refine x_newa (atype := .int) (N := 7) hx hb (hts _ q144) (ty := .int) rfl K hP hD hS hA 0 rfl (fun _ => rfl) rfl (by decide) (by decide) (Nat.le_of_ble_eq_true rfl) (Nat.le_of_ble_eq_true rfl) dX2_init_7 (fun lp H hP hD hS => ?_)
  have hP : va_P D vwCl [(la, .inr (2, [.null, .null, .null, .null, .int (nI 0), .int (nI 0), .int (nI 0)])), (lp, .inl (dA 0, 7, .inl (fun _ => 0)))] H := hP
  have hD : va_D A [(la, .inr (2, [.null, .null, .null, .null, .int (nI 0), .int (nI 0), .int (nI 0)])), (lp, .inl (dA 0, 7, .inl (fun _ => 0)))] := hD
  refine W.widen (k := 1) (n := 7) (Nat.le_of_ble_eq_true rfl) (Nat.le_of_ble_eq_true rfl) ?_
  refine va_putF (D := D) (ci := 2) (v := .ref lp) (ty := .array .int) (C := RX2) (T := TX2) (N := 7) hx hb hts in_X2 tyX2 tyX2_ok nmX2 hown K hP hD hS 0 rfl rfl 0 (by decide) (hts _ q108) (fun _ h9 => h9) rfl hnm rfl (by decide +kernel) rfl rfl (Nat.le_of_ble_eq_true rfl) dX2_init_9 (fun H locs hP hD hS => ?_)
  have hP : va_P D vwCl [(la, .inr (2, [.ref lp, .null, .null, .null, .int (nI 0), .int (nI 0), .int (nI 0)])), (lp, .inl (dA 0, 7, .inl (fun _ => 0)))] H := hP
  have hD : va_D A [(la, .inr (2, [.ref lp, .null, .null, .null, .int (nI 0), .int (nI 0), .int (nI 0)])), (lp, .inl (dA 0, 7, .inl (fun _ => 0)))] := hD
  refine lv_aload_n hx hb dX2_init_12 rfl (lv_at hl 0 rfl) ?_
  refine lv_bipush (v := nI 7) hx hb dX2_init_13 (by decide) ?_
  refine x_newa (atype := .int) (N := 7) hx hb (hts _ q144) (ty := .int) rfl K hP hD hS hA 0 rfl (fun _ => rfl) rfl (by decide) (by decide) (Nat.le_of_ble_eq_true rfl) (Nat.le_of_ble_eq_true rfl) dX2_init_15 (fun lx H hP hD hS => ?_)
  have hP : va_P D vwCl [(la, .inr (2, [.ref lp, .null, .null, .null, .int (nI 0), .int (nI 0), .int (nI 0)])), (lp, .inl (dA 0, 7, .inl (fun _ => 0))), (lx, .inl (dA 0, 7, .inl (fun _ => 0)))] H := hP
  have hD : va_D A [(la, .inr (2, [.ref lp, .null, .null, .null, .int (nI 0), .int (nI 0), .int (nI 0)])), (lp, .inl (dA 0, 7, .inl (fun _ => 0))), (lx, .inl (dA 0, 7, .inl (fun _ => 0)))] := hD
  refine W.widen (k := 2) (n := 14) (Nat.le_of_ble_eq_true rfl) (Nat.le_of_ble_eq_true rfl) ?_
  refine va_putF (D := D) (ci := 2) (v := .ref lx) (ty := .array .int) (C := RX2) (T := TX2) (N := 7) hx hb hts in_X2 tyX2 tyX2_ok nmX2 hown K hP hD hS 0 rfl rfl 1 (by decide) (hts _ q110) (fun _ h9 => h9) rfl hnm rfl (by decide +kernel) rfl rfl (Nat.le_of_ble_eq_true rfl) dX2_init_17 (fun H locs hP hD hS => ?_)
  have hP : va_P D vwCl [(la, .inr (2, [.ref lp, .ref lx, .null, .null, .int (nI 0), .int (nI 0), .int (nI 0)])), (lp, .inl (dA 0, 7, .inl (fun _ => 0))), (lx, .inl (dA 0, 7, .inl (fun _ => 0)))] H := hP
  have hD : va_D A [(la, .inr (2, [.ref lp, .ref lx, .null, .null, .int (nI 0), .int (nI 0), .int (nI 0)])), (lp, .inl (dA 0, 7, .inl (fun _ => 0))), (lx, .inl (dA 0, 7, .inl (fun _ => 0)))] := hD
  refine lv_aload_n hx hb dX2_init_20 rfl (lv_at hl 0 rfl) ?_
  refine lv_bipush (v := nI 8) hx hb dX2_init_21 (by decide) ?_
  refine x_newa (atype := .int) (N := 8) hx hb (hts _ q144) (ty := .int) rfl K hP hD hS hA 0 rfl (fun _ => rfl) rfl (by decide) (by decide) (Nat.le_of_ble_eq_true rfl) (Nat.le_of_ble_eq_true rfl) dX2_init_23 (fun ld H hP hD hS => ?_)
  have hP : va_P D vwCl [(la, .inr (2, [.ref lp, .ref lx, .null, .null, .int (nI 0), .int (nI 0), .int (nI 0)])), (lp, .inl (dA 0, 7, .inl (fun _ => 0))), (lx, .inl (dA 0, 7, .inl (fun _ => 0))), (ld, .inl (dA 0, 8, .inl (fun _ => 0)))] H := hP
  have hD : va_D A [(la, .inr (2, [.ref lp, .ref lx, .null, .null, .int (nI 0), .int (nI 0), .int (nI 0)])), (lp, .inl (dA 0, 7, .inl (fun _ => 0))), (lx, .inl (dA 0, 7, .inl (fun _ => 0))), (ld, .inl (dA 0, 8, .inl (fun _ => 0)))] := hD
  refine W.widen (k := 3) (n := 22) (Nat.le_of_ble_eq_true rfl) (Nat.le_of_ble_eq_true rfl) ?_
  refine va_putF (D := D) (ci := 2) (v := .ref ld) (ty := .array .int) (C := RX2) (T := TX2) (N := 7) hx hb hts in_X2 tyX2 tyX2_ok nmX2 hown K hP hD hS 0 rfl rfl 2 (by decide) (hts _ q113) (fun _ h9 => h9) rfl hnm rfl (by decide +kernel) rfl rfl (Nat.le_of_ble_eq_true rfl) dX2_init_25 (fun H locs hP hD hS => ?_)
  have hP : va_P D vwCl [(la, .inr (2, [.ref lp, .ref lx, .ref ld, .null, .int (nI 0), .int (nI 0), .int (nI 0)])), (lp, .inl (dA 0, 7, .inl (fun _ => 0))), (lx, .inl (dA 0, 7, .inl (fun _ => 0))), (ld, .inl (dA 0, 8, .inl (fun _ => 0)))] H := hP
  have hD : va_D A [(la, .inr (2, [.ref lp, .ref lx, .ref ld, .null, .int (nI 0), .int (nI 0), .int (nI 0)])), (lp, .inl (dA 0, 7, .inl (fun _ => 0))), (lx, .inl (dA 0, 7, .inl (fun _ => 0))), (ld, .inl (dA 0, 8, .inl (fun _ => 0)))] := hD
  refine lv_aload_n hx hb dX2_init_28 rfl (lv_at hl 0 rfl) ?_
  refine lv_bipush (v := nI 56) hx hb dX2_init_29 (by decide) ?_
  refine x_newa (atype := .int) (N := 56) hx hb (hts _ q144) (ty := .int) rfl K hP hD hS hA 0 rfl (fun _ => rfl) rfl (by decide) (by decide) (Nat.le_of_ble_eq_true rfl) (Nat.le_of_ble_eq_true rfl) dX2_init_31 (fun lr H hP hD hS => ?_)
  have hP : va_P D vwCl [(la, .inr (2, [.ref lp, .ref lx, .ref ld, .null, .int (nI 0), .int (nI 0), .int (nI 0)])), (lp, .inl (dA 0, 7, .inl (fun _ => 0))), (lx, .inl (dA 0, 7, .inl (fun _ => 0))), (ld, .inl (dA 0, 8, .inl (fun _ => 0))), (lr, .inl (dA 0, 56, .inl (fun _ => 0)))] H := hP
  have hD : va_D A [(la, .inr (2, [.ref lp, .ref lx, .ref ld, .null, .int (nI 0), .int (nI 0), .int (nI 0)])), (lp, .inl (dA 0, 7, .inl (fun _ => 0))), (lx, .inl (dA 0, 7, .inl (fun _ => 0))), (ld, .inl (dA 0, 8, .inl (fun _ => 0))), (lr, .inl (dA 0, 56, .inl (fun _ => 0)))] := hD
  refine W.widen (k := 4) (n := 78) (Nat.le_of_ble_eq_true rfl) (Nat.le_of_ble_eq_true rfl) ?_
  refine va_putF (D := D) (ci := 2) (v := .ref lr) (ty := .array .int) (C := RX2) (T := TX2) (N := 7) hx hb hts in_X2 tyX2 tyX2_ok nmX2 hown K hP hD hS 0 rfl rfl 3 (by decide) (hts _ q116) (fun _ h9 => h9) rfl hnm rfl (by decide +kernel) rfl rfl (Nat.le_of_ble_eq_true rfl) dX2_init_33 (fun H locs hP hD hS => ?_)
  have hP : va_P D vwCl [(la, .inr (2, [.ref lp, .ref lx, .ref ld, .ref lr, .int (nI 0), .int (nI 0), .int (nI 0)])), (lp, .inl (dA 0, 7, .inl (fun _ => 0))), (lx, .inl (dA 0, 7, .inl (fun _ => 0))), (ld, .inl (dA 0, 8, .inl (fun _ => 0))), (lr, .inl (dA 0, 56, .inl (fun _ => 0)))] H := hP
  have hD : va_D A [(la, .inr (2, [.ref lp, .ref lx, .ref ld, .ref lr, .int (nI 0), .int (nI 0), .int (nI 0)])), (lp, .inl (dA 0, 7, .inl (fun _ => 0))), (lx, .inl (dA 0, 7, .inl (fun _ => 0))), (ld, .inl (dA 0, 8, .inl (fun _ => 0))), (lr, .inl (dA 0, 56, .inl (fun _ => 0)))] := hD
  refine lv_aload_n hx hb dX2_init_36 rfl (lv_at hl 0 rfl) ?_
  refine lv_bipush (v := nI 7) hx hb dX2_init_37 (by decide) ?_
  refine va_put (D := D) (ci := 2) (v := .int (nI 7)) (ty := .int) (C := RX2) (T := TX2) (N := 7) hx hb hts in_X2 tyX2 tyX2_ok nmX2 hown K hP hD hS 0 rfl rfl 6 (by decide) (hts _ q126) (fun _ h9 => h9) rfl (by decide +kernel) rfl rfl (Nat.le_of_ble_eq_true rfl) dX2_init_39 (fun H locs hP hD hS => ?_)
  have hP : va_P D vwCl [(la, .inr (2, [.ref lp, .ref lx, .ref ld, .ref lr, .int (nI 0), .int (nI 0), .int (nI 7)])), (lp, .inl (dA 0, 7, .inl (fun _ => 0))), (lx, .inl (dA 0, 7, .inl (fun _ => 0))), (ld, .inl (dA 0, 8, .inl (fun _ => 0))), (lr, .inl (dA 0, 56, .inl (fun _ => 0)))] H := hP
  have hD : va_D A [(la, .inr (2, [.ref lp, .ref lx, .ref ld, .ref lr, .int (nI 0), .int (nI 0), .int (nI 7)])), (lp, .inl (dA 0, 7, .inl (fun _ => 0))), (lx, .inl (dA 0, 7, .inl (fun _ => 0))), (ld, .inl (dA 0, 8, .inl (fun _ => 0))), (lr, .inl (dA 0, 56, .inl (fun _ => 0)))] := hD
  refine lv_iconst (v := nI 0) hx hb dX2_init_42 (by decide) ?_
  refine lv_istore_n (lv' := [(1, .int (nI 0)), (0, .ref la)]) hx hb dX2_init_43 rfl hl (by decide) rfl (fun ls hl => ?_)
  refine lpW (fun k g => upd g k (nI 100)) (fun _ => 0) 56 (fun k g ls H locs => lv_has ls 2 [(0, .ref la), (1, .int (nI k))] ∧ va_P D vwCl [(la, .inr (2, [.ref lp, .ref lx, .ref ld, .ref lr, .int (nI 0), .int (nI 0), .int (nI 7)])), (lp, .inl (dA 0, 7, .inl (fun _ => 0))), (lx, .inl (dA 0, 7, .inl (fun _ => 0))), (ld, .inl (dA 0, 8, .inl (fun _ => 0))), (lr, .inl (dA 0, 56, .inl g))] H ∧ va_D A [(la, .inr (2, [.ref lp, .ref lx, .ref ld, .ref lr, .int (nI 0), .int (nI 0), .int (nI 7)])), (lp, .inl (dA 0, 7, .inl (fun _ => 0))), (lx, .inl (dA 0, 7, .inl (fun _ => 0))), (ld, .inl (dA 0, 8, .inl (fun _ => 0))), (lr, .inl (dA 0, 56, .inl g))] ∧ va_S A s.heap H locs) (fun ls H locs => W p l e (rmW 1 40 4 78) s m ([.ref la]).toArray below meth c H locs 4 78 (MQ below (QE (S := Nat × Nat × Nat × Nat) (fun _ _ => True) (fun _ => none) D (fun u => lW dA la u.1 u.2.1 u.2.2.1 u.2.2.2 iRow 0 0) A) ([.ref la]).toArray s 4 78 A) (F0 m 44 ls [])) ?_ ?_ ls H locs ⟨lv_sub hl [1, 0] rfl, hP, hD, hS⟩
  · intro k ls H locs hk_1 hI ih
    generalize iter (fun k g => upd g k (nI 100)) k 0 (fun _ => 0) = g at *
    obtain ⟨hl, hP, hD, hS⟩ := hI
    have hl : lv_has ls 2 [(0, .ref la), (1, .int (nI k))] := hl
    have hP : va_P D vwCl [(la, .inr (2, [.ref lp, .ref lx, .ref ld, .ref lr, .int (nI 0), .int (nI 0), .int (nI 7)])), (lp, .inl (dA 0, 7, .inl (fun _ => 0))), (lx, .inl (dA 0, 7, .inl (fun _ => 0))), (ld, .inl (dA 0, 8, .inl (fun _ => 0))), (lr, .inl (dA 0, 56, .inl g))] H := hP
    have hD : va_D A [(la, .inr (2, [.ref lp, .ref lx, .ref ld, .ref lr, .int (nI 0), .int (nI 0), .int (nI 7)])), (lp, .inl (dA 0, 7, .inl (fun _ => 0))), (lx, .inl (dA 0, 7, .inl (fun _ => 0))), (ld, .inl (dA 0, 8, .inl (fun _ => 0))), (lr, .inl (dA 0, 56, .inl g))] := hD
    show W p l e (rmW 1 40 4 78) s m ([.ref la]).toArray below meth c H locs 4 78 (MQ below (QE (S := Nat × Nat × Nat × Nat) (fun _ _ => True) (fun _ => none) D (fun u => lW dA la u.1 u.2.1 u.2.2.1 u.2.2.2 iRow 0 0) A) ([.ref la]).toArray s 4 78 A) (F0 m 44 ls [])
    refine lv_iload_n hx hb dX2_init_44 rfl (lv_at hl 1 rfl) ?_
    refine lv_aload_n hx hb dX2_init_45 rfl (lv_at hl 0 rfl) ?_
    refine va_get (D := D) (ci := 2) (C := RX2) (T := TX2) (N := 7) hx hb hts in_X2 hown K hP 0 rfl rfl 3 (by decide) (hts _ q116) (fun _ h9 => h9) rfl dX2_init_46 ?_
    refine va_alen (v := nI 56) hx hb K hP 4 0 rfl rfl rfl dX2_init_49 ?_
    refine lv_icmp_ge (tgt := 67) hx hb dX2_init_50 (by decide) (fun h => absurd h (nI_ge hk_1 (by omega))) (fun _ => ?_)
    refine lv_aload_n hx hb dX2_init_53 rfl (lv_at hl 0 rfl) ?_
    refine va_get (D := D) (ci := 2) (C := RX2) (T := TX2) (N := 7) hx hb hts in_X2 hown K hP 0 rfl rfl 3 (by decide) (hts _ q116) (fun _ h9 => h9) rfl dX2_init_54 ?_
    refine lv_iload_n hx hb dX2_init_57 rfl (lv_at hl 1 rfl) ?_
    refine lv_bipush (v := nI 100) hx hb dX2_init_58 (by decide) ?_
    refine x_iast hx hb K hP hD hS 4 0 rfl rfl k rfl (by omega) (by decide) dX2_init_60 (fun H locs hP hD hS => ?_)
    have hP : va_P D vwCl [(la, .inr (2, [.ref lp, .ref lx, .ref ld, .ref lr, .int (nI 0), .int (nI 0), .int (nI 7)])), (lp, .inl (dA 0, 7, .inl (fun _ => 0))), (lx, .inl (dA 0, 7, .inl (fun _ => 0))), (ld, .inl (dA 0, 8, .inl (fun _ => 0))), (lr, .inl (dA 0, 56, .inl (upd g k (nI 100))))] H := hP
    have hD : va_D A [(la, .inr (2, [.ref lp, .ref lx, .ref ld, .ref lr, .int (nI 0), .int (nI 0), .int (nI 7)])), (lp, .inl (dA 0, 7, .inl (fun _ => 0))), (lx, .inl (dA 0, 7, .inl (fun _ => 0))), (ld, .inl (dA 0, 8, .inl (fun _ => 0))), (lr, .inl (dA 0, 56, .inl (upd g k (nI 100))))] := hD
    refine lv_iinc (v := nI (k + 1)) (lv' := [(1, .int (nI (k + 1))), (0, .ref la)]) hx hb dX2_init_61 hl (k := 1) rfl (nI_1 k) (by decide) rfl (fun ls hl => ?_)
    refine lv_goto (tgt := 44) hx hb dX2_init_64 (by decide) ?_
    refine ih ls H locs ⟨?_, hP, hD, hS⟩
    show lv_has ls 2 [(0, .ref la), (1, .int (nI (k + 1)))]
    exact lv_sub hl [1, 0] rfl
  · intro ls H locs hI
    obtain ⟨hl, hP, hD, hS⟩ := hI
    rw [cp0_iter (fun _ => nI 100)] at hP hD
    obtain ⟨hP, hD⟩ := arr_cg2 (fun _ => nI 100) 4 hP hD rfl (fun j hj => if_pos hj)
    have hl : lv_has ls 2 [(0, .ref la), (1, .int (nI 56))] := hl
    have hP : va_P D vwCl [(la, .inr (2, [.ref lp, .ref lx, .ref ld, .ref lr, .int (nI 0), .int (nI 0), .int (nI 7)])), (lp, .inl (dA 0, 7, .inl (fun _ => 0))), (lx, .inl (dA 0, 7, .inl (fun _ => 0))), (ld, .inl (dA 0, 8, .inl (fun _ => 0))), (lr, .inl (dA 0, 56, .inl (fun _ => nI 100)))] H := hP
    have hD : va_D A [(la, .inr (2, [.ref lp, .ref lx, .ref ld, .ref lr, .int (nI 0), .int (nI 0), .int (nI 7)])), (lp, .inl (dA 0, 7, .inl (fun _ => 0))), (lx, .inl (dA 0, 7, .inl (fun _ => 0))), (ld, .inl (dA 0, 8, .inl (fun _ => 0))), (lr, .inl (dA 0, 56, .inl (fun _ => nI 100)))] := hD
    show W p l e (rmW 1 40 4 78) s m ([.ref la]).toArray below meth c H locs 4 78 (MQ below (QE (S := Nat × Nat × Nat × Nat) (fun _ _ => True) (fun _ => none) D (fun u => lW dA la u.1 u.2.1 u.2.2.1 u.2.2.2 iRow 0 0) A) ([.ref la]).toArray s 4 78 A) (F0 m 44 ls [])
    refine lv_iload_n hx hb dX2_init_44 rfl (lv_at hl 1 rfl) ?_
    refine lv_aload_n hx hb dX2_init_45 rfl (lv_at hl 0 rfl) ?_
    refine va_get (D := D) (ci := 2) (C := RX2) (T := TX2) (N := 7) hx hb hts in_X2 hown K hP 0 rfl rfl 3 (by decide) (hts _ q116) (fun _ h9 => h9) rfl dX2_init_46 ?_
    refine va_alen (v := nI 56) hx hb K hP 4 0 rfl rfl rfl dX2_init_49 ?_
    refine lv_icmp_ge (tgt := 67) hx hb dX2_init_50 (by decide) (fun _ => ?_) (fun h => absurd (by decide) h)
    obtain ⟨hP, hD⟩ := arr_cg2 (fun k => iRow (6 + k)) 1 hP hD rfl (fun j hj => (iRow_0 (by omega) (by omega) (by omega)).symm)
    obtain ⟨hP, hD⟩ := arr_cg2 (fun k => iRow (77 + k)) 2 hP hD rfl (fun j hj => (iRow_0 (by omega) (by omega) (by omega)).symm)
    obtain ⟨hP, hD⟩ := arr_cg2 (fun k => iRow (13 + k)) 3 hP hD rfl (fun j hj => (iRow_0 (by omega) (by omega) (by omega)).symm)
    obtain ⟨hP, hD⟩ := arr_cg2 (fun k => iRow (21 + k)) 4 hP hD rfl (fun j hj => (iRow_100 (by omega) (by omega)).symm)
    exact x_evret (lp, lx, ld, lr) hx hb hrt hlk rfl trivial hP hD hS dX2_init_67 (Nat.le_of_ble_eq_true rfl) (Nat.le_of_ble_eq_true rfl)

set_option maxHeartbeats 4000000 in
theorem xc_lcopy (l : Launch) (D : va_G) (dA : Nat → ClassId) (E : Nat) (ad : Nat → Nat) (sz0 mi : Nat) (la lp lx ld lr : Nat) (row : Nat → Int32) (n cu : Nat) (hup : Up sz0 ([])) : EX l yX2_copy cX2_copy 2 (some (.object "SiteCuts$Land")) 2 80 5 85 [.ref la] (G1 D dA E ad sz0 mi) D ([]) (fun H => va_P D vwCl [(la, .inr (2, [.ref lp, .ref lx, .ref ld, .ref lr, .int (nI n), .int (nI cu), .int (row 2)])), (lp, .inl (dA 0, 7, .inl (fun k => row (6 + k)))), (lx, .inl (dA 0, 7, .inl (fun k => row (77 + k)))), (ld, .inl (dA 0, 8, .inl (fun k => row (13 + k)))), (lr, .inl (dA 0, 56, .inl (fun k => row (21 + k))))] H) (S := Nat × Nat × Nat × Nat × Nat) (fun _ _ => True) (fun u => some (.ref u.1)) (fun u => lW dA u.1 u.2.1 u.2.2.1 u.2.2.2.1 u.2.2.2.2 row n cu) := by
  refine ex_of (by decide) (Nat.le_of_ble_eq_true rfl) ?_
  intro p e s m below meth c A S hrt hlk hnm G hA hAe hΦ H locs hP hD hS ls hl
  obtain ⟨hx, hb, hml, hown, hts⟩ := id S
  have hsrc := hΦ
  have K := G.1.1
  have hA0 := up_A hup G.1.2.2.2.2.2.2 hAe
  have hsA := ap_A hsrc (fun _ _ _ h => by cases h) hAe
  have hP : va_P D vwCl [] H := hP
  have hD : va_D A [] := hD
  have hl : lv_has ls 2 [(0, .ref la)] := hl
  refine va_new (D := D) (ci := 2) (fs := [.null, .null, .null, .null, .int (nI 0), .int (nI 0), .int (nI 0)]) (C := RX2) (T := TX2) (N := 7) hx hb hts in_X2 tyX2 tyX2_ok hown (hts _ q256) (hts _ q103) (hts _ q61) K hP hD hS hA rfl (fun j hj => by rcases (show j = 0 ∨ j = 1 ∨ j = 2 ∨ j = 3 ∨ j = 4 ∨ j = 5 ∨ j = 6 by omega) with rfl | rfl | rfl | rfl | rfl | rfl | rfl <;> rfl) (Nat.le_of_ble_eq_true rfl) (Nat.le_of_ble_eq_true rfl) dX2_copy_0 (fun la1 H hP hD hS => ?_)
  have hP : va_P D vwCl [(la1, .inr (2, [.null, .null, .null, .null, .int (nI 0), .int (nI 0), .int (nI 0)]))] H := hP
  have hD : va_D A [(la1, .inr (2, [.null, .null, .null, .null, .int (nI 0), .int (nI 0), .int (nI 0)]))] := hD
  refine W.widen (k := 1) (n := 7) (Nat.le_of_ble_eq_true rfl) (Nat.le_of_ble_eq_true rfl) ?_
  refine lv_dup hx hb dX2_copy_3 rfl ?_
  refine x_ecall (wr := []) (va_runI (As := []) (rest := [.ref la1]) S (xc_land l D dA E ad sz0 mi la1 (up_D hA0 hD) H.size) (cwI 0 hts (lw_meth q106) rfl rfl rfl (hts _ q61) (hts _ q257) (hts _ q105) rfl (by decide +kernel) ⟨Nat.le_of_ble_eq_true rfl, Nat.le_of_ble_eq_true rfl⟩) ⟨pe_blind g1_bl _, pe_pre (g1_mv G (low_of hS hA0 G.1.2.2.2.2.2.2) hS.1) hP hD trivial _⟩ rfl rfl hl.1 rfl (lv_room (Nat.le_of_ble_eq_true rfl)) dX2_copy_4 ⟨Nat.le_of_ble_eq_true rfl, Nat.le_of_ble_eq_true rfl⟩) hP hD hS hA [0] [] rfl rfl (by decide) (by decide) (fun u H locs hΨ hP hD hS hkp hsz hDn => ?_)
  obtain ⟨lp1, lx1, ld1, lr1⟩ := u
  have hP : va_P D vwCl [(la1, .inr (2, [.ref lp1, .ref lx1, .ref ld1, .ref lr1, .int (nI 0), .int (nI 0), .int (iRow 2)])), (lp1, .inl (dA 0, 7, .inl (fun k => iRow (6 + k)))), (lx1, .inl (dA 0, 7, .inl (fun k => iRow (77 + k)))), (ld1, .inl (dA 0, 8, .inl (fun k => iRow (13 + k)))), (lr1, .inl (dA 0, 56, .inl (fun k => iRow (21 + k))))] H := hP
  have hD : va_D A [(la1, .inr (2, [.ref lp1, .ref lx1, .ref ld1, .ref lr1, .int (nI 0), .int (nI 0), .int (iRow 2)])), (lp1, .inl (dA 0, 7, .inl (fun k => iRow (6 + k)))), (lx1, .inl (dA 0, 7, .inl (fun k => iRow (77 + k)))), (ld1, .inl (dA 0, 8, .inl (fun k => iRow (13 + k)))), (lr1, .inl (dA 0, 56, .inl (fun k => iRow (21 + k))))] := hD
  refine W.widen (k := 5) (n := 85) (Nat.le_of_ble_eq_true rfl) (Nat.le_of_ble_eq_true rfl) ?_
  refine lv_astore_n (lv' := [(1, .ref la1), (0, .ref la)]) hx hb dX2_copy_7 rfl hl (by decide) rfl (fun ls hl => ?_)
  refine lv_aload_n hx hb dX2_copy_8 rfl (lv_at hl 1 rfl) ?_
  refine va_get (D := D) (ci := 2) (C := RX2) (T := TX2) (N := 7) hx hb hts in_X2 hown K (fz_S hsrc hsA hS) 0 rfl rfl 0 (by decide) (hts _ q108) (fun _ h9 => h9) rfl dX2_copy_9 ?_
  refine lv_iconst (v := nI 0) hx hb dX2_copy_12 (by decide) ?_
  refine lv_aload_n hx hb dX2_copy_13 rfl (lv_at hl 0 rfl) ?_
  refine va_get (D := D) (ci := 2) (C := RX2) (T := TX2) (N := 7) hx hb hts in_X2 hown K hP 0 rfl rfl 0 (by decide) (hts _ q108) (fun _ h9 => h9) rfl dX2_copy_14 ?_
  refine lv_iconst (v := nI 0) hx hb dX2_copy_17 (by decide) ?_
  refine lv_bipush (v := nI 7) hx hb dX2_copy_18 (by decide) ?_
  refine x_copyX hx hb (hml.trans hl.1.symm) hown (hts _ q258) (hts _ q260) (hts _ q259) (hts _ q70) K hP hD hS (hsrc 1 _ rfl) (hsA _ (List.mem_of_getElem? (i := 1) rfl)) 1 rfl 7 (by decide) (by decide) (by decide) (by decide) (Nat.le_of_ble_eq_true rfl) (Nat.le_of_ble_eq_true rfl) dX2_copy_20 (fun H locs hP hD hS => ?_)
  have hP : va_P D vwCl [(la1, .inr (2, [.ref lp1, .ref lx1, .ref ld1, .ref lr1, .int (nI 0), .int (nI 0), .int (iRow 2)])), (lp1, .inl (dA 0, 7, .inl (va_cpy (fun k => row (6 + k)) (fun k => iRow (6 + k)) 0 0 7))), (lx1, .inl (dA 0, 7, .inl (fun k => iRow (77 + k)))), (ld1, .inl (dA 0, 8, .inl (fun k => iRow (13 + k)))), (lr1, .inl (dA 0, 56, .inl (fun k => iRow (21 + k))))] H := hP
  have hD : va_D A [(la1, .inr (2, [.ref lp1, .ref lx1, .ref ld1, .ref lr1, .int (nI 0), .int (nI 0), .int (iRow 2)])), (lp1, .inl (dA 0, 7, .inl (va_cpy (fun k => row (6 + k)) (fun k => iRow (6 + k)) 0 0 7))), (lx1, .inl (dA 0, 7, .inl (fun k => iRow (77 + k)))), (ld1, .inl (dA 0, 8, .inl (fun k => iRow (13 + k)))), (lr1, .inl (dA 0, 56, .inl (fun k => iRow (21 + k))))] := hD
  obtain ⟨hP, hD⟩ := arr_cg2 (fun k => row (6 + k)) 1 hP hD rfl (fun j hj => cpy_all hj)
  have hP : va_P D vwCl [(la1, .inr (2, [.ref lp1, .ref lx1, .ref ld1, .ref lr1, .int (nI 0), .int (nI 0), .int (iRow 2)])), (lp1, .inl (dA 0, 7, .inl (fun k => row (6 + k)))), (lx1, .inl (dA 0, 7, .inl (fun k => iRow (77 + k)))), (ld1, .inl (dA 0, 8, .inl (fun k => iRow (13 + k)))), (lr1, .inl (dA 0, 56, .inl (fun k => iRow (21 + k))))] H := hP
  have hD : va_D A [(la1, .inr (2, [.ref lp1, .ref lx1, .ref ld1, .ref lr1, .int (nI 0), .int (nI 0), .int (iRow 2)])), (lp1, .inl (dA 0, 7, .inl (fun k => row (6 + k)))), (lx1, .inl (dA 0, 7, .inl (fun k => iRow (77 + k)))), (ld1, .inl (dA 0, 8, .inl (fun k => iRow (13 + k)))), (lr1, .inl (dA 0, 56, .inl (fun k => iRow (21 + k))))] := hD
  refine lv_aload_n hx hb dX2_copy_23 rfl (lv_at hl 1 rfl) ?_
  refine va_get (D := D) (ci := 2) (C := RX2) (T := TX2) (N := 7) hx hb hts in_X2 hown K (fz_S hsrc hsA hS) 0 rfl rfl 1 (by decide) (hts _ q110) (fun _ h9 => h9) rfl dX2_copy_24 ?_
  refine lv_iconst (v := nI 0) hx hb dX2_copy_27 (by decide) ?_
  refine lv_aload_n hx hb dX2_copy_28 rfl (lv_at hl 0 rfl) ?_
  refine va_get (D := D) (ci := 2) (C := RX2) (T := TX2) (N := 7) hx hb hts in_X2 hown K hP 0 rfl rfl 1 (by decide) (hts _ q110) (fun _ h9 => h9) rfl dX2_copy_29 ?_
  refine lv_iconst (v := nI 0) hx hb dX2_copy_32 (by decide) ?_
  refine lv_bipush (v := nI 7) hx hb dX2_copy_33 (by decide) ?_
  refine x_copyX hx hb (hml.trans hl.1.symm) hown (hts _ q258) (hts _ q260) (hts _ q259) (hts _ q70) K hP hD hS (hsrc 2 _ rfl) (hsA _ (List.mem_of_getElem? (i := 2) rfl)) 2 rfl 7 (by decide) (by decide) (by decide) (by decide) (Nat.le_of_ble_eq_true rfl) (Nat.le_of_ble_eq_true rfl) dX2_copy_35 (fun H locs hP hD hS => ?_)
  have hP : va_P D vwCl [(la1, .inr (2, [.ref lp1, .ref lx1, .ref ld1, .ref lr1, .int (nI 0), .int (nI 0), .int (iRow 2)])), (lp1, .inl (dA 0, 7, .inl (fun k => row (6 + k)))), (lx1, .inl (dA 0, 7, .inl (va_cpy (fun k => row (77 + k)) (fun k => iRow (77 + k)) 0 0 7))), (ld1, .inl (dA 0, 8, .inl (fun k => iRow (13 + k)))), (lr1, .inl (dA 0, 56, .inl (fun k => iRow (21 + k))))] H := hP
  have hD : va_D A [(la1, .inr (2, [.ref lp1, .ref lx1, .ref ld1, .ref lr1, .int (nI 0), .int (nI 0), .int (iRow 2)])), (lp1, .inl (dA 0, 7, .inl (fun k => row (6 + k)))), (lx1, .inl (dA 0, 7, .inl (va_cpy (fun k => row (77 + k)) (fun k => iRow (77 + k)) 0 0 7))), (ld1, .inl (dA 0, 8, .inl (fun k => iRow (13 + k)))), (lr1, .inl (dA 0, 56, .inl (fun k => iRow (21 + k))))] := hD
  obtain ⟨hP, hD⟩ := arr_cg2 (fun k => row (77 + k)) 2 hP hD rfl (fun j hj => cpy_all hj)
  have hP : va_P D vwCl [(la1, .inr (2, [.ref lp1, .ref lx1, .ref ld1, .ref lr1, .int (nI 0), .int (nI 0), .int (iRow 2)])), (lp1, .inl (dA 0, 7, .inl (fun k => row (6 + k)))), (lx1, .inl (dA 0, 7, .inl (fun k => row (77 + k)))), (ld1, .inl (dA 0, 8, .inl (fun k => iRow (13 + k)))), (lr1, .inl (dA 0, 56, .inl (fun k => iRow (21 + k))))] H := hP
  have hD : va_D A [(la1, .inr (2, [.ref lp1, .ref lx1, .ref ld1, .ref lr1, .int (nI 0), .int (nI 0), .int (iRow 2)])), (lp1, .inl (dA 0, 7, .inl (fun k => row (6 + k)))), (lx1, .inl (dA 0, 7, .inl (fun k => row (77 + k)))), (ld1, .inl (dA 0, 8, .inl (fun k => iRow (13 + k)))), (lr1, .inl (dA 0, 56, .inl (fun k => iRow (21 + k))))] := hD
  refine lv_aload_n hx hb dX2_copy_38 rfl (lv_at hl 1 rfl) ?_
  refine va_get (D := D) (ci := 2) (C := RX2) (T := TX2) (N := 7) hx hb hts in_X2 hown K (fz_S hsrc hsA hS) 0 rfl rfl 2 (by decide) (hts _ q113) (fun _ h9 => h9) rfl dX2_copy_39 ?_
  refine lv_iconst (v := nI 0) hx hb dX2_copy_42 (by decide) ?_
  refine lv_aload_n hx hb dX2_copy_43 rfl (lv_at hl 0 rfl) ?_
  refine va_get (D := D) (ci := 2) (C := RX2) (T := TX2) (N := 7) hx hb hts in_X2 hown K hP 0 rfl rfl 2 (by decide) (hts _ q113) (fun _ h9 => h9) rfl dX2_copy_44 ?_
  refine lv_iconst (v := nI 0) hx hb dX2_copy_47 (by decide) ?_
  refine lv_bipush (v := nI 8) hx hb dX2_copy_48 (by decide) ?_
  refine x_copyX hx hb (hml.trans hl.1.symm) hown (hts _ q258) (hts _ q260) (hts _ q259) (hts _ q70) K hP hD hS (hsrc 3 _ rfl) (hsA _ (List.mem_of_getElem? (i := 3) rfl)) 3 rfl 8 (by decide) (by decide) (by decide) (by decide) (Nat.le_of_ble_eq_true rfl) (Nat.le_of_ble_eq_true rfl) dX2_copy_50 (fun H locs hP hD hS => ?_)
  have hP : va_P D vwCl [(la1, .inr (2, [.ref lp1, .ref lx1, .ref ld1, .ref lr1, .int (nI 0), .int (nI 0), .int (iRow 2)])), (lp1, .inl (dA 0, 7, .inl (fun k => row (6 + k)))), (lx1, .inl (dA 0, 7, .inl (fun k => row (77 + k)))), (ld1, .inl (dA 0, 8, .inl (va_cpy (fun k => row (13 + k)) (fun k => iRow (13 + k)) 0 0 8))), (lr1, .inl (dA 0, 56, .inl (fun k => iRow (21 + k))))] H := hP
  have hD : va_D A [(la1, .inr (2, [.ref lp1, .ref lx1, .ref ld1, .ref lr1, .int (nI 0), .int (nI 0), .int (iRow 2)])), (lp1, .inl (dA 0, 7, .inl (fun k => row (6 + k)))), (lx1, .inl (dA 0, 7, .inl (fun k => row (77 + k)))), (ld1, .inl (dA 0, 8, .inl (va_cpy (fun k => row (13 + k)) (fun k => iRow (13 + k)) 0 0 8))), (lr1, .inl (dA 0, 56, .inl (fun k => iRow (21 + k))))] := hD
  obtain ⟨hP, hD⟩ := arr_cg2 (fun k => row (13 + k)) 3 hP hD rfl (fun j hj => cpy_all hj)
  have hP : va_P D vwCl [(la1, .inr (2, [.ref lp1, .ref lx1, .ref ld1, .ref lr1, .int (nI 0), .int (nI 0), .int (iRow 2)])), (lp1, .inl (dA 0, 7, .inl (fun k => row (6 + k)))), (lx1, .inl (dA 0, 7, .inl (fun k => row (77 + k)))), (ld1, .inl (dA 0, 8, .inl (fun k => row (13 + k)))), (lr1, .inl (dA 0, 56, .inl (fun k => iRow (21 + k))))] H := hP
  have hD : va_D A [(la1, .inr (2, [.ref lp1, .ref lx1, .ref ld1, .ref lr1, .int (nI 0), .int (nI 0), .int (iRow 2)])), (lp1, .inl (dA 0, 7, .inl (fun k => row (6 + k)))), (lx1, .inl (dA 0, 7, .inl (fun k => row (77 + k)))), (ld1, .inl (dA 0, 8, .inl (fun k => row (13 + k)))), (lr1, .inl (dA 0, 56, .inl (fun k => iRow (21 + k))))] := hD
  refine lv_aload_n hx hb dX2_copy_53 rfl (lv_at hl 1 rfl) ?_
  refine va_get (D := D) (ci := 2) (C := RX2) (T := TX2) (N := 7) hx hb hts in_X2 hown K (fz_S hsrc hsA hS) 0 rfl rfl 3 (by decide) (hts _ q116) (fun _ h9 => h9) rfl dX2_copy_54 ?_
  refine lv_iconst (v := nI 0) hx hb dX2_copy_57 (by decide) ?_
  refine lv_aload_n hx hb dX2_copy_58 rfl (lv_at hl 0 rfl) ?_
  refine va_get (D := D) (ci := 2) (C := RX2) (T := TX2) (N := 7) hx hb hts in_X2 hown K hP 0 rfl rfl 3 (by decide) (hts _ q116) (fun _ h9 => h9) rfl dX2_copy_59 ?_
  refine lv_iconst (v := nI 0) hx hb dX2_copy_62 (by decide) ?_
  refine lv_aload_n hx hb dX2_copy_63 rfl (lv_at hl 1 rfl) ?_
  refine va_get (D := D) (ci := 2) (C := RX2) (T := TX2) (N := 7) hx hb hts in_X2 hown K (fz_S hsrc hsA hS) 0 rfl rfl 3 (by decide) (hts _ q116) (fun _ h9 => h9) rfl dX2_copy_64 ?_
  refine va_alen (v := nI 56) hx hb K ((fz_S hsrc hsA hS).sub [4] rfl) 0 0 rfl rfl rfl dX2_copy_67 ?_
  refine x_copyX hx hb (hml.trans hl.1.symm) hown (hts _ q258) (hts _ q260) (hts _ q259) (hts _ q70) K hP hD hS (hsrc 4 _ rfl) (hsA _ (List.mem_of_getElem? (i := 4) rfl)) 4 rfl 56 (by decide) (by decide) (by decide) (by decide) (Nat.le_of_ble_eq_true rfl) (Nat.le_of_ble_eq_true rfl) dX2_copy_68 (fun H locs hP hD hS => ?_)
  have hP : va_P D vwCl [(la1, .inr (2, [.ref lp1, .ref lx1, .ref ld1, .ref lr1, .int (nI 0), .int (nI 0), .int (iRow 2)])), (lp1, .inl (dA 0, 7, .inl (fun k => row (6 + k)))), (lx1, .inl (dA 0, 7, .inl (fun k => row (77 + k)))), (ld1, .inl (dA 0, 8, .inl (fun k => row (13 + k)))), (lr1, .inl (dA 0, 56, .inl (va_cpy (fun k => row (21 + k)) (fun k => iRow (21 + k)) 0 0 56)))] H := hP
  have hD : va_D A [(la1, .inr (2, [.ref lp1, .ref lx1, .ref ld1, .ref lr1, .int (nI 0), .int (nI 0), .int (iRow 2)])), (lp1, .inl (dA 0, 7, .inl (fun k => row (6 + k)))), (lx1, .inl (dA 0, 7, .inl (fun k => row (77 + k)))), (ld1, .inl (dA 0, 8, .inl (fun k => row (13 + k)))), (lr1, .inl (dA 0, 56, .inl (va_cpy (fun k => row (21 + k)) (fun k => iRow (21 + k)) 0 0 56)))] := hD
  obtain ⟨hP, hD⟩ := arr_cg2 (fun k => row (21 + k)) 4 hP hD rfl (fun j hj => cpy_all hj)
  have hP : va_P D vwCl [(la1, .inr (2, [.ref lp1, .ref lx1, .ref ld1, .ref lr1, .int (nI 0), .int (nI 0), .int (iRow 2)])), (lp1, .inl (dA 0, 7, .inl (fun k => row (6 + k)))), (lx1, .inl (dA 0, 7, .inl (fun k => row (77 + k)))), (ld1, .inl (dA 0, 8, .inl (fun k => row (13 + k)))), (lr1, .inl (dA 0, 56, .inl (fun k => row (21 + k))))] H := hP
  have hD : va_D A [(la1, .inr (2, [.ref lp1, .ref lx1, .ref ld1, .ref lr1, .int (nI 0), .int (nI 0), .int (iRow 2)])), (lp1, .inl (dA 0, 7, .inl (fun k => row (6 + k)))), (lx1, .inl (dA 0, 7, .inl (fun k => row (77 + k)))), (ld1, .inl (dA 0, 8, .inl (fun k => row (13 + k)))), (lr1, .inl (dA 0, 56, .inl (fun k => row (21 + k))))] := hD
  refine lv_aload_n hx hb dX2_copy_71 rfl (lv_at hl 0 rfl) ?_
  refine lv_aload_n hx hb dX2_copy_72 rfl (lv_at hl 1 rfl) ?_
  refine va_get (D := D) (ci := 2) (C := RX2) (T := TX2) (N := 7) hx hb hts in_X2 hown K (fz_S hsrc hsA hS) 0 rfl rfl 4 (by decide) (hts _ q119) (fun _ h9 => h9) rfl dX2_copy_73 ?_
  refine va_put (D := D) (ci := 2) (v := .int (nI n)) (ty := .int) (C := RX2) (T := TX2) (N := 7) hx hb hts in_X2 tyX2 tyX2_ok nmX2 hown K hP hD hS 0 rfl rfl 4 (by decide) (hts _ q119) (fun _ h9 => h9) rfl (by decide +kernel) rfl rfl (Nat.le_of_ble_eq_true rfl) dX2_copy_76 (fun H locs hP hD hS => ?_)
  have hP : va_P D vwCl [(la1, .inr (2, [.ref lp1, .ref lx1, .ref ld1, .ref lr1, .int (nI n), .int (nI 0), .int (iRow 2)])), (lp1, .inl (dA 0, 7, .inl (fun k => row (6 + k)))), (lx1, .inl (dA 0, 7, .inl (fun k => row (77 + k)))), (ld1, .inl (dA 0, 8, .inl (fun k => row (13 + k)))), (lr1, .inl (dA 0, 56, .inl (fun k => row (21 + k))))] H := hP
  have hD : va_D A [(la1, .inr (2, [.ref lp1, .ref lx1, .ref ld1, .ref lr1, .int (nI n), .int (nI 0), .int (iRow 2)])), (lp1, .inl (dA 0, 7, .inl (fun k => row (6 + k)))), (lx1, .inl (dA 0, 7, .inl (fun k => row (77 + k)))), (ld1, .inl (dA 0, 8, .inl (fun k => row (13 + k)))), (lr1, .inl (dA 0, 56, .inl (fun k => row (21 + k))))] := hD
  refine lv_aload_n hx hb dX2_copy_79 rfl (lv_at hl 0 rfl) ?_
  refine lv_aload_n hx hb dX2_copy_80 rfl (lv_at hl 1 rfl) ?_
  refine va_get (D := D) (ci := 2) (C := RX2) (T := TX2) (N := 7) hx hb hts in_X2 hown K (fz_S hsrc hsA hS) 0 rfl rfl 5 (by decide) (hts _ q123) (fun _ h9 => h9) rfl dX2_copy_81 ?_
  refine va_put (D := D) (ci := 2) (v := .int (nI cu)) (ty := .int) (C := RX2) (T := TX2) (N := 7) hx hb hts in_X2 tyX2 tyX2_ok nmX2 hown K hP hD hS 0 rfl rfl 5 (by decide) (hts _ q123) (fun _ h9 => h9) rfl (by decide +kernel) rfl rfl (Nat.le_of_ble_eq_true rfl) dX2_copy_84 (fun H locs hP hD hS => ?_)
  have hP : va_P D vwCl [(la1, .inr (2, [.ref lp1, .ref lx1, .ref ld1, .ref lr1, .int (nI n), .int (nI cu), .int (iRow 2)])), (lp1, .inl (dA 0, 7, .inl (fun k => row (6 + k)))), (lx1, .inl (dA 0, 7, .inl (fun k => row (77 + k)))), (ld1, .inl (dA 0, 8, .inl (fun k => row (13 + k)))), (lr1, .inl (dA 0, 56, .inl (fun k => row (21 + k))))] H := hP
  have hD : va_D A [(la1, .inr (2, [.ref lp1, .ref lx1, .ref ld1, .ref lr1, .int (nI n), .int (nI cu), .int (iRow 2)])), (lp1, .inl (dA 0, 7, .inl (fun k => row (6 + k)))), (lx1, .inl (dA 0, 7, .inl (fun k => row (77 + k)))), (ld1, .inl (dA 0, 8, .inl (fun k => row (13 + k)))), (lr1, .inl (dA 0, 56, .inl (fun k => row (21 + k))))] := hD
  refine lv_aload_n hx hb dX2_copy_87 rfl (lv_at hl 0 rfl) ?_
  refine lv_aload_n hx hb dX2_copy_88 rfl (lv_at hl 1 rfl) ?_
  refine va_get (D := D) (ci := 2) (C := RX2) (T := TX2) (N := 7) hx hb hts in_X2 hown K (fz_S hsrc hsA hS) 0 rfl rfl 6 (by decide) (hts _ q126) (fun _ h9 => h9) rfl dX2_copy_89 ?_
  refine va_put (D := D) (ci := 2) (v := .int (row 2)) (ty := .int) (C := RX2) (T := TX2) (N := 7) hx hb hts in_X2 tyX2 tyX2_ok nmX2 hown K hP hD hS 0 rfl rfl 6 (by decide) (hts _ q126) (fun _ h9 => h9) rfl (by decide +kernel) rfl rfl (Nat.le_of_ble_eq_true rfl) dX2_copy_92 (fun H locs hP hD hS => ?_)
  have hP : va_P D vwCl [(la1, .inr (2, [.ref lp1, .ref lx1, .ref ld1, .ref lr1, .int (nI n), .int (nI cu), .int (row 2)])), (lp1, .inl (dA 0, 7, .inl (fun k => row (6 + k)))), (lx1, .inl (dA 0, 7, .inl (fun k => row (77 + k)))), (ld1, .inl (dA 0, 8, .inl (fun k => row (13 + k)))), (lr1, .inl (dA 0, 56, .inl (fun k => row (21 + k))))] H := hP
  have hD : va_D A [(la1, .inr (2, [.ref lp1, .ref lx1, .ref ld1, .ref lr1, .int (nI n), .int (nI cu), .int (row 2)])), (lp1, .inl (dA 0, 7, .inl (fun k => row (6 + k)))), (lx1, .inl (dA 0, 7, .inl (fun k => row (77 + k)))), (ld1, .inl (dA 0, 8, .inl (fun k => row (13 + k)))), (lr1, .inl (dA 0, 56, .inl (fun k => row (21 + k))))] := hD
  refine lv_aload_n hx hb dX2_copy_95 rfl (lv_at hl 0 rfl) ?_
  exact x_earet (la1, lp1, lx1, ld1, lr1) hx hb hrt (Or.inl ⟨_, rfl⟩) hlk rfl trivial hP hD hS dX2_copy_96 (Nat.le_of_ble_eq_true rfl) (Nat.le_of_ble_eq_true rfl)

