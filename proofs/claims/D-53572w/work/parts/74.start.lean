section START
variable {args : Array Value} {s : State}
theorem arr_k {ty : FieldType} (h : (Cond.arrayClass ty).before args s = true) : ∃ c : ClassId, ArrOfT s c ty ∧ s.vm.findClass ("[" ++ ty.toString) = some c := by
  obtain ⟨c, k, comp, h1, h2, h3⟩ := Cond.arrayClass_spec h
  exact ⟨c, fun n z => ⟨fun k h => (by cases h), k, h2, comp, h3⟩, h1⟩
theorem arr_o {C : String} (h : (Cond.arrayOver (.object C)).before args s = true) : ∃ c : ClassId, ArrOfT s c (.object C) ∧ va_RA s c (.object C) := by
  obtain ⟨comp, c, k, h1, -, h2, h3, h4⟩ := Cond.arrayOver_spec h
  exact ⟨c, fun n z => ⟨fun k h => (by cases h), k, h2, comp, h3⟩, k, comp, h2, h3, h1, h4⟩
theorem start_K (hts : ∀ w ∈ lw_all, w.before args s = true) (htb : ∀ w ∈ lw_tbl, w.before args s = true) : ∃ (D : va_G) (dA : Nat → ClassId), KA D dA s := by
  obtain ⟨c0, i0, h0⟩ := u_known (C := RX0) (T := TX0) (N := 4) hts in_X0 (hts _ q89)
  obtain ⟨c1, i1, h1⟩ := u_known (C := RX1) (T := TX1) (N := 4) hts in_X1 (hts _ q97)
  obtain ⟨c2, i2, h2⟩ := u_known (C := RX2) (T := TX2) (N := 7) hts in_X2 (hts _ q103)
  obtain ⟨c3, i3, h3⟩ := u_known (C := RX3) (T := TX3) (N := 10) hts in_X3 (hts _ q1070)
  obtain ⟨c4, i4, h4⟩ := u_known (C := RJ2) (T := TJ2) (N := 3) hts in_J2 (hts _ q146)
  obtain ⟨c5, i5, h5⟩ := u_known (C := RX5) (T := TX5) (N := 2) hts in_X5 (hts _ q619)
  obtain ⟨c6, i6, h6⟩ := u_known (C := RX6) (T := TX6) (N := 2) hts in_X6 (hts _ q634)
  obtain ⟨c7, i7, h7⟩ := u_known (C := RX7) (T := TX7) (N := 2) hts in_X7 (hts _ q656)
  obtain ⟨c8, i8, h8⟩ := u_known (C := RX8) (T := TX8) (N := 7) hts in_X8 (hts _ q717)
  obtain ⟨c9, i9, h9⟩ := u_known (C := RX9) (T := TX9) (N := 2) hts in_X9 (hts _ q785)
  obtain ⟨c10, i10, h10⟩ := u_known (C := RJ4) (T := TJ4) (N := 4) hts in_J4 (hts _ q191)
  obtain ⟨a0, b0, b0'⟩ := arr_k (hts _ q144)
  obtain ⟨a1, b1, b1'⟩ := arr_o (htb _ q307)
  obtain ⟨a2, b2, b2'⟩ := arr_k (hts _ q221)
  obtain ⟨a3, b3, b3'⟩ := arr_k (hts _ q1106)
  refine ⟨(fun c => [c0, c1, c2, c3, c4, c5, c6, c7, c8, c9, c10].getD c c0, fun c => [i0, i1, i2, i3, i4, i5, i6, i7, i8, i9, i10].getD c i0), fun k => [a0, a1, a2, a3].getD k a0, fun c q hq => ?_, fun k q hk => ?_⟩
  · have hc : c < 11 := (List.getElem?_eq_some_iff.mp hq).1
    rcases (show c = 0 ∨ c = 1 ∨ c = 2 ∨ c = 3 ∨ c = 4 ∨ c = 5 ∨ c = 6 ∨ c = 7 ∨ c = 8 ∨ c = 9 ∨ c = 10 by omega) with rfl | rfl | rfl | rfl | rfl | rfl | rfl | rfl | rfl | rfl | rfl
    · cases hq; exact h0
    · cases hq; exact h1
    · cases hq; exact h2
    · cases hq; exact h3
    · cases hq; exact h4
    · cases hq; exact h5
    · cases hq; exact h6
    · cases hq; exact h7
    · cases hq; exact h8
    · cases hq; exact h9
    · cases hq; exact h10
  · have hc : k < 4 := (List.getElem?_eq_some_iff.mp hk).1
    rcases (show k = 0 ∨ k = 1 ∨ k = 2 ∨ k = 3 by omega) with rfl | rfl | rfl | rfl
    · cases hk; exact ⟨b0, b0'⟩
    · cases hk; exact ⟨b1, b1'⟩
    · cases hk; exact ⟨b2, b2'⟩
    · cases hk; exact ⟨b3, b3'⟩
theorem start_NW (htb : ∀ w ∈ lw_tbl, w.before args s = true) : NW s := by
  intro w hw hi
  have h := htb w hw
  cases w <;> first | exact va_Nw.of rfl h | (simp [isNw] at hi; done)
theorem start_AO (htb : ∀ w ∈ lw_tbl, w.before args s = true) : va_AO "java/lang/Object" s := va_AO.of (htb _ q307)
end START
