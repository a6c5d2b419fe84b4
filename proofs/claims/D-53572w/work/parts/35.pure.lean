/-! a ray's sum is the model's count -/
theorem bit01 (x k : Nat) : x / 2 ^ k % 2 = if x.testBit k = true then 1 else 0 := by
  rw [nx_tb]
  by_cases h : x / 2 ^ k % 2 = 1
  · rw [if_pos (decide_eq_true h), h]
  · rw [if_neg (by rw [decide_eq_true_eq]; exact h)]
    omega
theorem sumR_eq (row : Nat → Int32) {n : Nat} (hn : n ≤ 7) (j pl : Nat) : xSumR row n j pl = nI (mMany (pl &&& mReach row n j)) := by
  have hb : ∀ s, (pl &&& mReach row n j).testBit s = (pl.testBit s && (decide (s < n) && decide (¬ nI 100 ≤ row (21 + 8 * s + j)))) := by
    intro s
    rw [Nat.testBit_and]
    unfold mReach
    rw [reach_bit]
  generalize hx : pl &&& mReach row n j = x at *
  have k1 : ∀ N, N ≤ n → iter (xSuR row j pl) N 0 (nI 0) = nI (iter (fun k a => a + x / 2 ^ k % 2) N 0 0) := by
    intro N
    induction N with
    | zero => intro _; rw [iter_0, iter_0]
    | succ N ih =>
      intro h
      rw [iter_s, iter_s, ih (by omega), Nat.zero_add, bit01, hb]
      unfold xSuR xRw
      have hN : decide (N < n) = true := decide_eq_true (by omega)
      rw [hN, Bool.true_and]
      cases ht : pl.testBit N with
      | false => rw [if_pos rfl, Bool.false_and, if_neg (by decide), nI_add]
      | true =>
        rw [if_neg (by decide), Bool.true_and]
        by_cases hr : nI 100 ≤ row (21 + 8 * N + j)
        · rw [if_pos hr, if_neg (by rw [decide_eq_true_eq]; exact fun q => q hr), nI_add]
        · rw [if_neg hr, if_pos (decide_eq_true hr), nI_add]
  have k2 : ∀ d, n + d ≤ 7 → iter (fun k a => a + x / 2 ^ k % 2) (n + d) 0 0 = iter (fun k a => a + x / 2 ^ k % 2) n 0 0 := by
    intro d
    induction d with
    | zero => intro _; rfl
    | succ d ih =>
      intro h
      rw [← Nat.add_assoc, iter_s, ih (by omega), Nat.zero_add, bit01, hb]
      have hN : decide (n + d < n) = false := decide_eq_false (by omega)
      rw [hN, Bool.false_and, Bool.and_false, if_neg (by decide), Nat.add_zero]
  unfold xSumR mMany
  rw [k1 n (Nat.le_refl _), ← k2 (7 - n) (by omega), Nat.add_sub_cancel' hn]
