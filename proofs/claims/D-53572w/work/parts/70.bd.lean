/-! bounds of numbers: nothing overflows -/
def Ab (m : Nat) (x : Int32) : Prop := -(m : Int) ≤ x.toInt ∧ x.toInt ≤ (m : Int)
theorem ab_mono {m k : Nat} {x : Int32} (h : m ≤ k) (hx : Ab m x) : Ab k x := by
  obtain ⟨h1, h2⟩ := hx
  exact ⟨by omega, by omega⟩
theorem ab_add {m k : Nat} {x y : Int32} (hx : Ab m x) (hy : Ab k y) (h : m + k < 2 ^ 31) : Ab (m + k) (x + y) := by
  obtain ⟨h1, h2⟩ := hx
  obtain ⟨h3, h4⟩ := hy
  unfold Ab
  rw [Int32.toInt_add, Int.bmod_eq_of_le (by omega) (by omega)]
  omega
theorem ab_sub {m k : Nat} {x y : Int32} (hx : Ab m x) (hy : Ab k y) (h : m + k < 2 ^ 31) : Ab (m + k) (x - y) := by
  obtain ⟨h1, h2⟩ := hx
  obtain ⟨h3, h4⟩ := hy
  unfold Ab
  rw [Int32.toInt_sub, Int.bmod_eq_of_le (by omega) (by omega)]
  omega
theorem sub_toInt {m k : Nat} {x y : Int32} (hx : Ab m x) (hy : Ab k y) (h : m + k < 2 ^ 31) : (x - y).toInt = x.toInt - y.toInt := by
  obtain ⟨h1, h2⟩ := hx
  obtain ⟨h3, h4⟩ := hy
  rw [Int32.toInt_sub, Int.bmod_eq_of_le (by omega) (by omega)]
theorem ab_mul {m k : Nat} {x y : Int32} (hx : Ab m x) (hy : Ab k y) (h : m * k < 2 ^ 31) : Ab (m * k) (x * y) := by
  obtain ⟨h1, h2⟩ := hx
  obtain ⟨h3, h4⟩ := hy
  have e1 : x.toInt * y.toInt ≤ (m * k : Nat) := by
    have : (x.toInt * y.toInt).natAbs ≤ m * k := by rw [Int.natAbs_mul]; exact Nat.mul_le_mul (by omega) (by omega)
    omega
  have e2 : -((m * k : Nat) : Int) ≤ x.toInt * y.toInt := by
    have : (x.toInt * y.toInt).natAbs ≤ m * k := by rw [Int.natAbs_mul]; exact Nat.mul_le_mul (by omega) (by omega)
    omega
  unfold Ab
  rw [Int32.toInt_mul, Int.bmod_eq_of_le (by omega) (by omega)]
  exact ⟨e2, e1⟩
theorem ab_nI {a m : Nat} (h : a ≤ m) (hm : m < 2 ^ 31) : Ab m (nI a) := by
  have e : (nI a).toInt = (a : Int) := by
    unfold nI
    rw [Int32.toInt_ofNat_of_lt (by omega)]
  unfold Ab
  rw [e]
  omega
theorem ab_iter {f : Nat → Int32 → Int32} {m : Nat} (hf : ∀ k a b, Ab b a → b + m < 2 ^ 31 → Ab (b + m) (f k a)) {b0 : Nat} {a0 : Int32} (h0 : Ab b0 a0) : ∀ n, b0 + m * n < 2 ^ 31 → Ab (b0 + m * n) (iter f n 0 a0) := by
  intro n
  induction n with
  | zero => intro _; exact h0
  | succ n ih =>
    intro h
    rw [Nat.mul_succ] at h
    rw [iter_s, Nat.mul_succ, ← Nat.add_assoc]
    exact hf _ _ _ (ih (by omega)) (by omega)
