/-! history, snapshot, text: what ties the two worlds -/
def HsOk (dA : Nat → ClassId) (E : Nat) (FZ : va_W) (hs : Nat) (fe : Nat → Option Nat) (past : Nat → Int32) : Prop := ∀ i, i < hs → ∃ (a : Nat) (r : Nat → Int32) (n cu q : Nat), fe i = some a ∧ StOk dA E FZ a r n cu q ∧ FWf r n cu q ∧ ∀ k, k < 444 → past (444 * i + k) = r k
def SnOk (dA : Nat → ClassId) (E : Nat) (FZ : va_W) (snv : Value) (ias : Bool) (aside : Nat → Int32) : Prop := (ias = false ∧ snv = .null) ∨ (ias = true ∧ ∃ (ss : Nat) (r : Nat → Int32) (n cu q : Nat), snv = .ref ss ∧ StOk dA E FZ ss r n cu q ∧ FWf r n cu q ∧ ∀ k, k < 444 → aside k = r k)
def TxT (ut : TU) (ch : Nat → Nat) (ln : Nat) (txt : Nat → Int32) : Prop := TxOk ut ch ln ∧ ln ≤ 60 ∧ (∀ i, i < ln → ch i < 65536) ∧ ∀ i, i < ln → txt i = tI ch i
section TIES
variable {dA : Nat → ClassId} {E : Nat} {FZ FZ' : va_W} {hs : Nat} {fe fe' : Nat → Option Nat} {past : Nat → Int32}
theorem HsOk.mono (hF : ∀ x ∈ FZ, x ∈ FZ') (h : HsOk dA E FZ hs fe past) : HsOk dA E FZ' hs fe past := fun i hi => by
  obtain ⟨a, r, n, cu, q, h1, h2, h3⟩ := h i hi
  exact ⟨a, r, n, cu, q, h1, h2.mono hF, h3⟩
theorem SnOk.mono {snv : Value} {ias : Bool} {aside : Nat → Int32} (hF : ∀ x ∈ FZ, x ∈ FZ') (h : SnOk dA E FZ snv ias aside) : SnOk dA E FZ' snv ias aside := by
  rcases h with h | ⟨h0, ss, r, n, cu, q, h1, h2, h3⟩
  · exact Or.inl h
  · exact Or.inr ⟨h0, ss, r, n, cu, q, h1, h2.mono hF, h3⟩
theorem HsOk.el (h : HsOk dA E FZ hs fe past) : ∀ i, i < hs → ∃ y, fe i = some y ∧ OkEl FZ y := fun i hi => by
  obtain ⟨a, r, n, cu, q, h1, h2, h3⟩ := h i hi
  exact ⟨a, h1, h2.el⟩
theorem HsOk.st (h : HsOk dA E FZ hs fe past) : ∀ i, i < hs → ∃ (y : Nat) (fs : List Value), fe i = some y ∧ (y, .inr (1, fs)) ∈ FZ := fun i hi => by
  obtain ⟨a, r, n, cu, q, h1, ⟨u, hu, -, -, hm⟩, h3⟩ := h i hi
  exact ⟨a, _, h1, by rw [← hu]; exact hm _ List.mem_cons_self⟩
theorem hs_push {sa hs' : Nat} {ob' : Option (Nat × Nat)} {row : Nat → Int32} {n cu q : Nat} (h : HsOk dA E FZ hs fe past) (hhs : hs ≤ 4) (hF : ∀ x ∈ FZ, x ∈ FZ') (hst : StOk dA E FZ' sa row n cu q) (hf : FWf row n cu q) (hp : Pushed hs sa fe hs' ob' fe') : HsOk dA E FZ' hs' fe' (recP past row hs) := by
  obtain ⟨rfl, -, h2, h3⟩ := hp
  intro i hi
  by_cases hl : i + 1 = recH hs
  · refine ⟨sa, row, n, cu, q, by rw [← h3]; congr 1; omega, hst, hf, fun k hk => ?_⟩
    unfold recH at hl
    unfold recP
    by_cases h4 : hs = 4
    · rw [if_pos h4] at hl ⊢
      show (if 444 * i + k < 1332 then _ else _) = _
      rw [if_neg (by omega)]
      exact congrArg row (by omega)
    · rw [if_neg h4] at hl ⊢
      show (if 444 * hs ≤ 444 * i + k ∧ 444 * i + k < 444 * hs + 444 then _ else _) = _
      have : i = hs := by omega
      subst this
      rw [if_pos (by omega)]
      exact congrArg row (by omega)
  · have hb : i + 1 < recH hs := by omega
    have hr : recH hs = if hs = 4 then 4 else hs + 1 := rfl
    by_cases h4 : hs = 4
    · rw [if_pos h4] at hr
      obtain ⟨a, r, n1, cu1, q1, a1, a2, a3, a4⟩ := h (i + 1) (by omega)
      refine ⟨a, r, n1, cu1, q1, by rw [h2 i hb, if_pos h4]; exact a1, a2.mono hF, a3, fun k hk => ?_⟩
      unfold recP
      rw [if_pos h4]
      show (if 444 * i + k < 1332 then _ else _) = _
      rw [if_pos (by omega), ← a4 k hk]
      exact congrArg past (by omega)
    · rw [if_neg h4] at hr
      obtain ⟨a, r, n1, cu1, q1, a1, a2, a3, a4⟩ := h i (by omega)
      refine ⟨a, r, n1, cu1, q1, by rw [h2 i hb, if_neg h4]; exact a1, a2.mono hF, a3, fun k hk => ?_⟩
      unfold recP
      rw [if_neg h4]
      show (if 444 * hs ≤ 444 * i + k ∧ 444 * i + k < 444 * hs + 444 then _ else _) = _
      rw [if_neg (by omega)]
      exact a4 k hk
theorem hs_pop (h : HsOk dA E FZ hs fe past) (hf : ∀ i, i < hs - 1 → fe' i = fe i) : HsOk dA E FZ (hs - 1) fe' past := fun i hi => by
  obtain ⟨a, r, n, cu, q, h1, h2⟩ := h i (by omega)
  exact ⟨a, r, n, cu, q, by rw [hf i hi]; exact h1, h2⟩
theorem hs_0 : HsOk dA E FZ 0 fe past := fun i hi => by omega
theorem recH_4 (h : hs ≤ 4) : recH hs ≤ 4 := by unfold recH; split <;> omega
theorem tx_type {ut ut' : TU} {ch : Nat → Nat} {ln c0 : Nat} {txt : Nat → Int32} (h : TxT ut ch ln txt) (hc : c0 < 65536) (hln : ¬ ln = 60) (h' : TxOk ut' (upS ch ln c0) (ln + 1)) : TxT ut' (upS ch ln c0) (ln + 1) (upd txt ln (nI c0)) := by
  obtain ⟨h1, h2, h3, h4⟩ := h
  refine ⟨h', by omega, fun i hi => ?_, fun i hi => ?_⟩
  · unfold upS
    by_cases e : i = ln
    · rw [if_pos e]; exact hc
    · rw [if_neg e]; exact h3 i (by omega)
  · unfold tI upS
    by_cases e : i = ln
    · subst e; rw [pk_us, if_pos rfl]
    · rw [pk_un e, if_neg e]; exact h4 i (by omega)
end TIES
