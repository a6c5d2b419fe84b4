/-! a frozen cut answers the model's record k of the row; a state's list of them -/
def CutOk (dA : Nat → ClassId) (FZ : va_W) (row : Nat → Int32) (cu k ka : Nat) : Prop :=
  (∃ j, j < 8 ∧ row (84 + 9 * k) = nI j ∧ ∀ x ∈ kR ka j, x ∈ FZ) ∨
  (∃ (ci kn : Nat) (nums : Nat → Int32), (ci = 5 ∨ ci = 9) ∧ row (84 + 9 * k) = -5 ∧ (∀ c, c < cu → nums c = row (84 + 9 * k + 1 + c)) ∧ ∀ x ∈ kP dA ci ka kn nums, x ∈ FZ)
def CutsOk (dA : Nat → ClassId) (FZ : va_W) (row : Nat → Int32) (cu q : Nat) (fe : Nat → Option Nat) : Prop := ∀ k, k < q → ∃ ka, fe k = some ka ∧ CutOk dA FZ row cu k ka
theorem CutOk.mono {dA : Nat → ClassId} {FZ FZ' : va_W} {row : Nat → Int32} {cu k ka : Nat} (h : ∀ x ∈ FZ, x ∈ FZ') (ho : CutOk dA FZ row cu k ka) : CutOk dA FZ' row cu k ka := by
  rcases ho with ⟨j, h1, h2, h3⟩ | ⟨ci, kn, nums, h1, h2, h3, h4⟩
  · exact Or.inl ⟨j, h1, h2, fun x hx => h x (h3 x hx)⟩
  · exact Or.inr ⟨ci, kn, nums, h1, h2, h3, fun x hx => h x (h4 x hx)⟩
theorem CutOk.el {dA : Nat → ClassId} {FZ : va_W} {row : Nat → Int32} {cu k ka : Nat} (ho : CutOk dA FZ row cu k ka) : OkEl FZ ka := by
  rcases ho with ⟨j, -, -, h3⟩ | ⟨ci, kn, nums, h1, -, -, h4⟩
  · exact ⟨6, _, h3 _ List.mem_cons_self, Or.inr (Or.inr (Or.inl rfl))⟩
  · refine ⟨ci, _, h4 _ List.mem_cons_self, ?_⟩
    rcases h1 with rfl | rfl
    · exact Or.inr (Or.inl rfl)
    · exact Or.inr (Or.inr (Or.inr rfl))
theorem CutsOk.el {dA : Nat → ClassId} {FZ : va_W} {row : Nat → Int32} {cu q : Nat} {fe : Nat → Option Nat} (h : CutsOk dA FZ row cu q fe) : ∀ i, i < q → ∀ y, fe i = some y → OkEl FZ y := by
  intro i hi y hy
  obtain ⟨ka, h1, h2⟩ := h i hi
  rw [hy] at h1
  cases h1
  exact h2.el
/-- a cut stays what it is if the row's records, the customers and the numbers stay -/
theorem CutOk.row {dA : Nat → ClassId} {FZ : va_W} {row row' : Nat → Int32} {cu k k' ka : Nat} (hr : ∀ i, i < 9 → row' (84 + 9 * k' + i) = row (84 + 9 * k + i)) (hcu : cu ≤ 8) (ho : CutOk dA FZ row cu k ka) : CutOk dA FZ row' cu k' ka := by
  have h0 : row' (84 + 9 * k') = row (84 + 9 * k) := hr 0 (by omega)
  rcases ho with ⟨j, h1, h2, h3⟩ | ⟨ci, kn, nums, h1, h2, h3, h4⟩
  · exact Or.inl ⟨j, h1, h0.trans h2, h3⟩
  · refine Or.inr ⟨ci, kn, nums, h1, h0.trans h2, fun c hc => ?_, h4⟩
    have h9 := hr (1 + c) (by omega)
    rw [← Nat.add_assoc, ← Nat.add_assoc] at h9
    rw [h3 c hc, h9]
/-- a state as it is read -/
theorem stR_of {D : va_G} {dA : Nat → ClassId} {E : Nat} {u : SU} {row : Nat → Int32} {n cu ct : Nat} {H : Heap} (hP : va_P D vwCl (stW dA E u row n cu ct) H) (hE : va_P D vwCl [eC dA E] H) : va_P D vwCl (stR dA u.sa u.la u.lp u.lx u.ld u.lr u.lq row n cu (row 4) (row 5) u.md (dOf E u.ob) ct (pOf u.ob) (fOf u.ob u.fe)) H := by
  obtain ⟨⟨sa, la, lp, lx, ld, lr, lq⟩, md, ob, fe⟩ := u
  cases ob with
  | none =>
    refine vP_iff.mpr (fun x hx => ?_)
    have h : x ∈ stW dA E ((sa, la, lp, lx, ld, lr, lq), md, none, fe) row n cu ct ++ [eC dA E] := hx
    exact vP_iff.mp (vP_app.mpr ⟨hP, hE⟩) x h
  | some dc => exact hP
theorem lOk_r {ob : Option (Nat × Nat)} {ct : Nat} (h : LOk ob ct) : ct ≤ pOf ob ∧ pOf ob ≤ 64 := by
  cases ob with
  | none => exact ⟨by rw [h.1 rfl]; exact Nat.le_refl _, by show 0 ≤ 64; omega⟩
  | some dc => exact ⟨(h.2 dc rfl).1, (h.2 dc rfl).2.1⟩
/-- a list's row as it is read -/
theorem lsR_of {D : va_G} {dA : Nat → ClassId} {E : Nat} {ob : Option (Nat × Nat)} {fe : Nat → Option Nat} {H : Heap} (hT : va_P D vwCl (lsT dA ob fe) H) (hE : va_P D vwCl [eC dA E] H) : va_P D vwCl [(dOf E ob, .inl (dA 1, pOf ob, .inr (.inr (.inr (.inr (fOf ob fe))))))] H := by
  cases ob with
  | none => exact hE
  | some dc => exact hT
