/-! what the model's public readers answer -/
theorem mIn_t {x : Int32} {N : Nat} (hN : N < 2 ^ 31) (h : mIn x (nI 0) (nI N) = true) : ∃ j, j ≤ N ∧ x = nI j := by
  unfold mIn at h
  split at h
  · cases h
  · split at h
    · cases h
    · rename_i h1 h2
      exact nI_of2 (nI_toInt hN) (by rwa [nI_0] at h1) (Int32.not_lt.mp h2)
theorem mIn_j {j N : Nat} (hN : N < 2 ^ 31) (h : j ≤ N) : mIn (nI j) (nI 0) (nI N) = true := by
  unfold mIn
  rw [if_neg (by rw [nI_0]; exact nI_pos (by omega)), if_neg (fun h2 => absurd (Int32.not_lt.mpr (nI_le h hN)) (by simpa using h2))]
theorem mNo_f {x : Int32} {N : Nat} (hN : N < 2 ^ 31) (h : mNo N x = false) : ∃ j, j < N ∧ x = nI j := by
  unfold mNo at h
  split at h
  · rename_i h1
    cases N with
    | zero =>
      unfold mIn at h1
      split at h1
      · cases h1
      · split at h1
        · cases h1
        · rename_i h2 h3
          exfalso
          have e : nI 0 - nI 1 = -1 := by decide
          rw [e] at h3
          rw [nI_0] at h2
          have a1 : ¬ (x.toInt < 0) := fun q => h2 (Int32.lt_iff_toInt_lt.mpr q)
          have a2 : ¬ (-1 < x.toInt) := fun q => h3 (Int32.lt_iff_toInt_lt.mpr q)
          omega
    | succ N =>
      rw [show nI (N + 1) - nI 1 = nI N from by rw [pk_sub (by omega)]; rfl] at h1
      obtain ⟨j, hj, e⟩ := mIn_t (by omega) h1
      exact ⟨j, by omega, e⟩
  · cases h
theorem mNo_j {j N : Nat} (hN : N < 2 ^ 31) (h : j < N) : mNo N (nI j) = false := by
  unfold mNo
  rw [show nI N - nI 1 = nI (N - 1) from pk_sub (by omega), mIn_j (by omega) (by omega)]
  rfl
theorem mNo_c {x : Int32} {N j : Nat} (hN : N < 2 ^ 31) (h : mNo N x = true) (e : x = nI j) : N ≤ j := by
  rcases Nat.lt_or_ge j N with q | q
  · rw [e, mNo_j hN q] at h; cases h
  · exact q
theorem sw_out {x : Int32} {N : Nat} {a : Int} (ha : a = (N : Int) - 1) (h : ∀ j, j < N → ¬ x = nI j) : x.toInt < 0 ∨ a < x.toInt := by
  by_cases h0 : x.toInt < 0
  · exact Or.inl h0
  · right
    obtain ⟨j, hj, e⟩ := nI_of (x := x) (fun q => h0 (Int32.lt_iff_toInt_lt.mp q))
    have : ¬ j < N := fun q => h j q e
    rw [e, nI_toInt hj]
    omega
theorem sw_in (x : Int32) (N : Nat) : (∀ j, j < N → ¬ x = nI j) ∨ ∃ j, j < N ∧ x = nI j := by
  by_cases h : ∃ j, j < N ∧ x = nI j
  · exact Or.inr h
  · exact Or.inl (fun j hj e => h ⟨j, hj, e⟩)
theorem sw5 (x : Int32) : (∀ j, j < 5 → ¬ x = nI j) ∨ x = nI 0 ∨ x = nI 1 ∨ x = nI 2 ∨ x = nI 3 ∨ x = nI 4 := by
  rcases sw_in x 5 with h | ⟨j, hj, e⟩
  · exact Or.inl h
  · right
    have : j = 0 ∨ j = 1 ∨ j = 2 ∨ j = 3 ∨ j = 4 := by omega
    rcases this with rfl | rfl | rfl | rfl | rfl <;> simp [e]
theorem sw10 (x : Int32) : (∀ j, j < 10 → ¬ x = nI j) ∨ x = nI 0 ∨ x = nI 1 ∨ x = nI 2 ∨ x = nI 3 ∨ x = nI 4 ∨ x = nI 5 ∨ x = nI 6 ∨ x = nI 7 ∨ x = nI 8 ∨ x = nI 9 := by
  rcases sw_in x 10 with h | ⟨j, hj, e⟩
  · exact Or.inl h
  · right
    have : j = 0 ∨ j = 1 ∨ j = 2 ∨ j = 3 ∨ j = 4 ∨ j = 5 ∨ j = 6 ∨ j = 7 ∨ j = 8 ∨ j = 9 := by omega
    rcases this with rfl | rfl | rfl | rfl | rfl | rfl | rfl | rfl | rfl | rfl <;> simp [e]
theorem in5 {x : Int32} (h : mIn x (nI 0) (nI 4) = true) : x = nI 0 ∨ x = nI 1 ∨ x = nI 2 ∨ x = nI 3 ∨ x = nI 4 := by
  obtain ⟨j, hj, e⟩ := mIn_t (by decide) h
  have : j = 0 ∨ j = 1 ∨ j = 2 ∨ j = 3 ∨ j = 4 := by omega
  rcases this with rfl | rfl | rfl | rfl | rfl <;> simp [e]
theorem in3 {x : Int32} (h : mIn x (nI 0) (nI 2) = true) : x = nI 0 ∨ x = nI 1 ∨ x = nI 2 := by
  obtain ⟨j, hj, e⟩ := mIn_t (by decide) h
  have : j = 0 ∨ j = 1 ∨ j = 2 := by omega
  rcases this with rfl | rfl | rfl <;> simp [e]
abbrev cN (x : Int32) : Nat := x.toNatClampNeg
def mCost (row : Nat → Int32) (n cu pl : Nat) : Int32 := mPrices row n pl + mRoutes row n cu pl
def rJudge (row : Nat → Int32) (n cu : Nat) (x : Int32) : Int32 := if mNo (2 ^ n) x = true then -2 else if nI (mMany (cN x)) ≤ row 2 then (if mExcl row n (cN x) = true then nI 2 else if mMissed row n cu (cN x) = none then nI 0 else nI 3) else nI 1
def rPlan (row : Nat → Int32) (n cu q : Nat) (x y : Int32) : Int32 := if mNo (2 ^ n) x = true then -2 else if mIn y (nI 0) (nI 4) = false then -2 else if y = nI 0 then (if mMissed row n cu (cN x) = none then mCost row n cu (cN x) else -4) else if y = nI 1 then mPrices row n (cN x) else if y = nI 2 then (if mMissed row n cu (cN x) = none then mRoutes row n cu (cN x) else -4) else if y = nI 3 then mGuess row n cu q (cN x) else nI (mRaysM row n q (cN x))
def rServes (row : Nat → Int32) (n cu : Nat) (x y : Int32) : Int32 := if mNo (2 ^ n) x = true then -2 else if mNo cu y = true then -1 else oI (mServer row n (cN x) (cN y))
def mPbV (row : Nat → Int32) (n cu k : Nat) (t : Bool) (pl : Nat) : Bool := if mRay row k = false then (if t = true then decide (mValue row n cu k pl - mRoutes row n cu pl = 0) else decide (¬ mValue row n cu k pl - mRoutes row n cu pl ≤ 0)) else decide (nI (mAsked row n k pl) = nI (if t = true then 1 else 0))
def mPbS (row : Nat → Int32) (n cu k : Nat) (t : Bool) (pl a : Nat) : Nat := if mFeas row n cu pl = false then a else a + (if mPbV row n cu k t pl = true then 1 else 0)
def mPlansBy (row : Nat → Int32) (n cu k : Nat) (t : Bool) : Nat := iter (mPbS row n cu k t) (2 ^ n) 0 0
def rCut (row : Nat → Int32) (n cu q : Nat) (x y : Int32) : Int32 := if mNo q x = true then -1 else if y = nI 0 then (if mRay row (cN x) = false then nI 1 else nI 0) else if y = nI 1 then (if mRay row (cN x) = false then -5 else row (84 + 9 * cN x)) else if y = nI 2 then (if mRay row (cN x) = false then mValue row n cu (cN x) 0 else nI 1) else if y = nI 3 then nI (mPlansBy row n cu (cN x) false) else if y = nI 4 then nI (mPlansBy row n cu (cN x) true) else -2
def rWeight (row : Nat → Int32) (n cu q : Nat) (x y : Int32) : Int32 := if mNo q x = true then -1 else if mNo n y = true then -1 else if mRay row (cN x) = false then mWeight row cu (cN x) (cN y) else nI (mAsked row n (cN x) (2 ^ cN y))
def rValue (row : Nat → Int32) (n cu q : Nat) (x y : Int32) : Int32 := if mNo q x = true then -1 else if mNo (2 ^ n) y = true then -2 else if mRay row (cN x) = false then 1000000 + mValue row n cu (cN x) (cN y) else nI (mAsked row n (cN x) (cN y))
def rMaster (row : Nat → Int32) (n cu q : Nat) (bst : Option Nat) (x : Int32) : Int32 := if mIn x (nI 0) (nI 4) = false then -2 else if x = nI 0 then oI (mMaster row n cu q) else if x = nI 1 then (match mMaster row n cu q with
  | none => -5
  | some pl => mGuess row n cu q pl) else if x = nI 2 then oI bst else if x = nI 3 then (match bst with
  | none => -5
  | some b => mCost row n cu b) else (match mMaster row n cu q, bst with
  | some pl, some b => mCost row n cu b - mGuess row n cu q pl
  | _, _ => -5)
def mBaS (row : Nat → Int32) (n cu pl : Nat) (a : Option Nat × Int32 × Nat) : Option Nat × Int32 × Nat := if mFeas row n cu pl = false then a else if a.1 = none then (some pl, mCost row n cu pl, a.2.2 + 1) else if a.2.1 ≤ mCost row n cu pl then (a.1, a.2.1, a.2.2 + 1) else (some pl, mCost row n cu pl, a.2.2 + 1)
def mBa (row : Nat → Int32) (n cu : Nat) : Option Nat × Int32 × Nat := iter (mBaS row n cu) (2 ^ n) 0 (none, nI 0, 0)
def rByAll (row : Nat → Int32) (n cu : Nat) (x : Int32) : Int32 := if mIn x (nI 0) (nI 2) = false then -2 else if x = nI 2 then nI (mBa row n cu).2.2 else if (mBa row n cu).1 = none then -5 else if x = 0 then oI (mBa row n cu).1 else (mBa row n cu).2.1
def mRyS (row : Nat → Int32) (k a : Nat) : Nat := a + (if mRay row k = false then 0 else 1)
def mRays (row : Nat → Int32) (q : Nat) : Nat := iter (mRyS row) q 0 0
def mPaS (row : Nat → Int32) (s a : Nat) : Nat := a + mMany (cN (row (77 + s)))
def mPairs (row : Nat → Int32) (n : Nat) : Nat := iter (mPaS row) n 0 0 / 2
def mArS (row : Nat → Int32) (k a : Nat) : Nat := a + (if nI 100 ≤ row (21 + k) then 0 else 1)
def mAllR (row : Nat → Int32) : Nat := iter (mArS row) 56 0 0
def rCount (row : Nat → Int32) (n q : Nat) (sts len : Int32) (x : Int32) : Int32 := if x = nI 0 then row 0 else if x = nI 1 then row 1 else if x = nI 2 then nI (mAllR row) else if x = nI 3 then row 2 else if x = nI 4 then nI (mPairs row n) else if x = nI 5 then row 3 else if x = nI 6 then nI (mRays row q) else if x = nI 7 then row 5 else if x = nI 8 then sts else if x = nI 9 then len else -2
def mLoose (row : Nat → Int32) (n cu k pl : Nat) (ab : Int32) : Bool := if mRay row k = false then (if ab ≤ mValue row n cu k pl then false else true) else if nI (mAsked row n k pl) ≤ nI 1 then false else true
theorem reach_bit (row : Nat → Int32) (c : Nat) : ∀ n s, (iter (mReS row c) n 0 0).testBit s = (decide (s < n) && decide (¬ nI 100 ≤ row (21 + 8 * s + c))) := by
  intro n
  induction n with
  | zero => intro s; simp [iter]
  | succ n ih =>
    intro s
    rw [iter_s, Nat.zero_add]
    have ihs := ih s
    generalize iter (mReS row c) n 0 0 = z at *
    unfold mReS
    rw [Nat.testBit_or, ihs]
    by_cases h1 : s = n
    · subst h1
      by_cases h2 : nI 100 ≤ row (21 + 8 * s + c) <;> simp [h2, Nat.testBit_two_pow_self]
    · by_cases h2 : nI 100 ≤ row (21 + 8 * n + c)
      · rw [if_pos h2, Nat.zero_testBit, Bool.or_false]
        congr 1
        exact decide_eq_decide.mpr (by omega)
      · rw [if_neg h2, Nat.testBit_two_pow, decide_eq_false (p := n = s) (fun q => h1 q.symm), Bool.or_false]
        congr 1
        exact decide_eq_decide.mpr (by omega)
theorem mSvS_1 {row : Nat → Int32} {pl c s : Nat} (h : pl.testBit s = false) (a : Option Nat) : mSvS row pl c s a = a := by
  unfold mSvS
  rw [if_pos h]
theorem mSvS_2 {row : Nat → Int32} {pl c s : Nat} (h : ¬ pl.testBit s = false) (h2 : nI 100 ≤ row (21 + 8 * s + c)) (a : Option Nat) : mSvS row pl c s a = a := by
  unfold mSvS
  rw [if_neg h, if_pos h2]
theorem mSvS_3 {row : Nat → Int32} {pl c s : Nat} (h : ¬ pl.testBit s = false) (h2 : ¬ nI 100 ≤ row (21 + 8 * s + c)) : mSvS row pl c s none = some s := by
  unfold mSvS
  rw [if_neg h, if_neg h2]
theorem mSvS_4 {row : Nat → Int32} {pl c s : Nat} (h : ¬ pl.testBit s = false) (h2 : ¬ nI 100 ≤ row (21 + 8 * s + c)) (b : Nat) : mSvS row pl c s (some b) = if row (21 + 8 * b + c) ≤ row (21 + 8 * s + c) then some b else some s := by
  unfold mSvS
  rw [if_neg h, if_neg h2]
theorem sv_some (row : Nat → Int32) (pl c : Nat) : ∀ n, (∃ b, iter (mSvS row pl c) n 0 none = some b) ↔ ∃ s, s < n ∧ pl.testBit s = true ∧ ¬ nI 100 ≤ row (21 + 8 * s + c) := by
  intro n
  induction n with
  | zero => exact ⟨(fun ⟨b, h⟩ => by cases h), (fun ⟨s, h, _⟩ => by omega)⟩
  | succ n ih =>
    rw [iter_s, Nat.zero_add]
    constructor
    · rintro ⟨b, hb⟩
      by_cases h1 : pl.testBit n = false
      · rw [mSvS_1 h1] at hb
        obtain ⟨s, a1, a2⟩ := ih.mp ⟨b, hb⟩
        exact ⟨s, by omega, a2⟩
      · by_cases h2 : nI 100 ≤ row (21 + 8 * n + c)
        · rw [mSvS_2 h1 h2] at hb
          obtain ⟨s, a1, a2⟩ := ih.mp ⟨b, hb⟩
          exact ⟨s, by omega, a2⟩
        · exact ⟨n, by omega, by simpa using h1, h2⟩
    · rintro ⟨s, a1, a2, a3⟩
      by_cases hs : s = n
      · subst hs
        have a2' : ¬ pl.testBit s = false := by rw [a2]; decide
        cases iter (mSvS row pl c) s 0 none with
        | none => exact ⟨s, mSvS_3 a2' a3⟩
        | some b =>
          rw [mSvS_4 a2' a3]
          split
          · exact ⟨b, rfl⟩
          · exact ⟨s, rfl⟩
      · obtain ⟨b, hb⟩ := ih.mpr ⟨s, by omega, a2, a3⟩
        rcases mSvS_or row pl c n (iter (mSvS row pl c) n 0 none) with e | e
        · exact ⟨b, by rw [e]; exact hb⟩
        · exact ⟨n, e⟩
theorem missP_iff (row : Nat → Int32) (n pl c : Nat) : mMissP row n pl c = false ↔ ∃ b, mServer row n pl c = some b := by
  unfold mMissP mServer
  rw [sv_some]
  rw [decide_eq_false_iff_not]
  constructor
  · intro h
    obtain ⟨s, hs⟩ := Nat.exists_testBit_of_ne_zero h
    rw [Nat.testBit_and, Bool.and_eq_true] at hs
    have h2 := hs.2
    unfold mReach at h2
    rw [reach_bit, Bool.and_eq_true, decide_eq_true_eq, decide_eq_true_eq] at h2
    exact ⟨s, h2.1, hs.1, h2.2⟩
  · rintro ⟨s, h1, h2, h3⟩ h0
    have : (pl &&& mReach row n c).testBit s = true := by
      rw [Nat.testBit_and, Bool.and_eq_true]
      refine ⟨h2, ?_⟩
      unfold mReach
      rw [reach_bit]
      simp [h1, h3]
    rw [h0, Nat.zero_testBit] at this
    cases this
theorem miss_none {row : Nat → Int32} {n cu pl : Nat} (h : mMissed row n cu pl = none) : ∀ c, c < cu → ∃ s, mServer row n pl c = some s := fun c hc => (missP_iff row n pl c).mp ((fst_spec (P := mMissP row n pl) cu 0).2 h c (Nat.zero_le _) (by omega))
theorem feas_miss {row : Nat → Int32} {n cu pl : Nat} (h : mFeas row n cu pl = true) : mMissed row n cu pl = none := by
  unfold mFeas at h
  split at h
  · cases h
  · split at h
    · assumption
    · cases h
theorem mBa_lt (row : Nat → Int32) (n cu : Nat) : ∀ N, (∀ b, (iter (mBaS row n cu) N 0 (none, nI 0, 0)).1 = some b → b < N ∧ mFeas row n cu b = true) ∧ (iter (mBaS row n cu) N 0 (none, nI 0, 0)).2.2 ≤ N := by
  intro N
  induction N with
  | zero => exact ⟨(fun b h => by cases h), Nat.le_refl _⟩
  | succ N ih =>
    rw [iter_s, Nat.zero_add]
    generalize iter (mBaS row n cu) N 0 (none, nI 0, 0) = a at *
    unfold mBaS
    split
    · exact ⟨fun b h => ⟨Nat.lt_succ_of_lt (ih.1 b h).1, (ih.1 b h).2⟩, by omega⟩
    · rename_i hf
      have hf : mFeas row n cu N = true := by simpa using hf
      split
      · exact ⟨(fun b h => by cases h; exact ⟨Nat.lt_succ_self _, hf⟩), by show a.2.2 + 1 ≤ _; omega⟩
      · split
        · exact ⟨fun b h => ⟨Nat.lt_succ_of_lt (ih.1 b h).1, (ih.1 b h).2⟩, by show a.2.2 + 1 ≤ _; omega⟩
        · exact ⟨(fun b h => by cases h; exact ⟨Nat.lt_succ_self _, hf⟩), by show a.2.2 + 1 ≤ _; omega⟩
theorem iter_le {f : Nat → Nat → Nat} (B : Nat) (hf : ∀ k a, f k a ≤ a + B) : ∀ n, iter f n 0 0 ≤ n * B := by
  intro n
  induction n with
  | zero => exact Nat.zero_le _
  | succ n ih =>
    rw [iter_s]
    have := hf (0 + n) (iter f n 0 0)
    rw [Nat.succ_mul]
    omega
theorem pow6 {n : Nat} (h : n ≤ 6) : 2 ^ n ≤ 64 := Nat.pow_le_pow_right (n := 2) (by decide) h
