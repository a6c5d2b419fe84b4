/-! bounds of numbers: nothing overflows -/
def Ab (m : Nat) (x : Int32) : Prop := -(m : Int) ≤ x.toInt ∧ x.toInt ≤ (m : Int)
theorem ab_mono {m k : Nat} {x : Int32} (h : m ≤ k) (hx : Ab m x) : Ab k x := by
  obtain ⟨h1, h2⟩ := hx
  exact ⟨by omega, by omega⟩
theorem ab_add {m k : Nat} {x y : Int32} (hx : Ab m x) (hy : Ab k y) (h : m + k < 2 ^ 31) : Ab (m + k) (x + y) := by
  obtain ⟨h1, h2⟩ := hx
  obtain ⟨h3, h4⟩ := hy
  unfold Ab
  rw [Int32.toInt_add, Int.bmod_eq_of_le (by omega) (by omega)]
  omega
theorem ab_sub {m k : Nat} {x y : Int32} (hx : Ab m x) (hy : Ab k y) (h : m + k < 2 ^ 31) : Ab (m + k) (x - y) := by
  obtain ⟨h1, h2⟩ := hx
  obtain ⟨h3, h4⟩ := hy
  unfold Ab
  rw [Int32.toInt_sub, Int.bmod_eq_of_le (by omega) (by omega)]
  omega
theorem sub_toInt {m k : Nat} {x y : Int32} (hx : Ab m x) (hy : Ab k y) (h : m + k < 2 ^ 31) : (x - y).toInt = x.toInt - y.toInt := by
  obtain ⟨h1, h2⟩ := hx
  obtain ⟨h3, h4⟩ := hy
  rw [Int32.toInt_sub, Int.bmod_eq_of_le (by omega) (by omega)]
theorem ab_mul {m k : Nat} {x y : Int32} (hx : Ab m x) (hy : Ab k y) (h : m * k < 2 ^ 31) : Ab (m * k) (x * y) := by
  obtain ⟨h1, h2⟩ := hx
  obtain ⟨h3, h4⟩ := hy
  have e1 : x.toInt * y.toInt ≤ (m * k : Nat) := by
    have : (x.toInt * y.toInt).natAbs ≤ m * k := by rw [Int.natAbs_mul]; exact Nat.mul_le_mul (by omega) (by omega)
    omega
  have e2 : -((m * k : Nat) : Int) ≤ x.toInt * y.toInt := by
    have : (x.toInt * y.toInt).natAbs ≤ m * k := by rw [Int.natAbs_mul]; exact Nat.mul_le_mul (by omega) (by omega)
    omega
  unfold Ab
  rw [Int32.toInt_mul, Int.bmod_eq_of_le (by omega) (by omega)]
  exact ⟨e2, e1⟩
theorem ab_nI {a m : Nat} (h : a ≤ m) (hm : m < 2 ^ 31) : Ab m (nI a) := by
  have e : (nI a).toInt = (a : Int) := by
    unfold nI
    rw [Int32.toInt_ofNat_of_lt (by omega)]
  unfold Ab
  rw [e]
  omega
theorem ab_iter {f : Nat → Int32 → Int32} {m N : Nat} (hf : ∀ k, k < N → ∀ a b, Ab b a → b + m < 2 ^ 31 → Ab (b + m) (f k a)) {b0 : Nat} {a0 : Int32} (h0 : Ab b0 a0) : ∀ n, n ≤ N → b0 + m * n < 2 ^ 31 → Ab (b0 + m * n) (iter f n 0 a0) := by
  intro n
  induction n with
  | zero => intro _ _; exact h0
  | succ n ih =>
    intro hN h
    rw [Nat.mul_succ] at h
    rw [iter_s, Nat.mul_succ, ← Nat.add_assoc]
    exact hf _ (by omega) _ _ (ih (by omega) (by omega)) (by omega)
/-- the numbers of a row are small -/
def Nb (row : Nat → Int32) (cu q : Nat) : Prop := (∀ j, 13 ≤ j → j < 21 → Ab 20 (row j)) ∧ (∀ j, 21 ≤ j → j < 77 → Ab 100 (row j)) ∧ ∀ k, k < q → ∀ c, c < cu → Ab 200 (row (84 + 9 * k + 1 + c))
theorem server_lt {row : Nat → Int32} {pl c : Nat} : ∀ n s, iter (mSvS row pl c) n 0 none = some s → s < n := by
  intro n
  induction n with
  | zero => intro s h; cases h
  | succ n ih =>
    intro s h
    rw [iter_s, Nat.zero_add] at h
    unfold mSvS at h
    split at h
    · have := ih s h; omega
    · split at h
      · have := ih s h; omega
      · split at h
        · cases h; omega
        · rename_i b hb
          have := ih b hb
          split at h
          · cases h; omega
          · cases h; omega
theorem server_7 {row : Nat → Int32} {n pl c : Nat} (hn : n ≤ 7) : (mServer row n pl c).getD 0 < 7 := by
  cases h : mServer row n pl c with
  | none => decide
  | some s => have := server_lt n s h; show s < 7; omega
section NB
variable {row : Nat → Int32} {n cu q k pl : Nat}
theorem b_const (hb : Nb row cu q) (hcu : cu ≤ 8) (hk : k < q) : Ab 32000 (mConst row cu k) := by
  have := ab_iter (f := mCoS row k) (m := 4000) (N := cu) (fun c hc a b ha h => ab_add ha (ab_mul (m := 20) (k := 200) (hb.1 _ (by omega) (by omega)) (hb.2.2 k hk c hc) (by omega)) h) (b0 := 0) (a0 := nI 0) (ab_nI (Nat.le_refl _) (by decide)) cu (Nat.le_refl _) (by omega)
  exact ab_mono (by omega) this
theorem b_weight (hb : Nb row cu q) (hcu : cu ≤ 8) (hk : k < q) {s : Nat} (hs : s < 7) : Ab 48000 (mWeight row cu k s) := by
  have := ab_iter (f := mWtS row k s) (m := 6000) (N := cu) (fun c hc a b ha h => by
    have h1 : Ab 300 (row (84 + 9 * k + 1 + c) - row (21 + 8 * s + c)) := ab_sub (m := 200) (k := 100) (hb.2.2 k hk c hc) (hb.2.1 _ (by omega) (by omega)) (by omega)
    have h2 : Ab 6000 (row (13 + c) * (row (84 + 9 * k + 1 + c) - row (21 + 8 * s + c))) := ab_mul (m := 20) (k := 300) (hb.1 _ (by omega) (by omega)) h1 (by omega)
    unfold mWtS
    refine ab_add ha ?_ h
    split
    · exact ab_nI (Nat.zero_le _) (by decide)
    · exact h2) (b0 := 0) (a0 := nI 0) (ab_nI (Nat.le_refl _) (by decide)) cu (Nat.le_refl _) (by omega)
  exact ab_mono (by omega) this
theorem b_value (hb : Nb row cu q) (hn : n ≤ 7) (hcu : cu ≤ 8) (hk : k < q) : Ab 368000 (mValue row n cu k pl) := by
  have := ab_iter (f := mVlS row cu k pl) (m := 48000) (N := n) (fun s hs a b ha h => by
    unfold mVlS
    refine ab_sub ha ?_ h
    split
    · exact ab_nI (Nat.zero_le _) (by decide)
    · exact b_weight hb hcu hk (by omega)) (b_const hb hcu hk) n (Nat.le_refl _) (by omega)
  exact ab_mono (by omega) this
theorem b_routes (hb : Nb row cu q) (hn : n ≤ 7) (hcu : cu ≤ 8) : Ab 16000 (mRoutes row n cu pl) := by
  have := ab_iter (f := mRoS row n pl) (m := 2000) (N := cu) (fun c hc a b ha h => by
    have h7 := server_7 (row := row) (pl := pl) (c := c) hn
    exact ab_add ha (ab_mul (m := 20) (k := 100) (hb.1 _ (by omega) (by omega)) (hb.2.1 _ (by omega) (by omega)) (by omega)) h) (b0 := 0) (a0 := nI 0) (ab_nI (Nat.le_refl _) (by decide)) cu (Nat.le_refl _) (by omega)
  exact ab_mono (by omega) this
theorem i_sub0 {x y : Int32} : x - y = 0 ↔ x = y := by
  constructor
  · intro h
    have := congrArg (· + y) h
    simpa using this
  · intro h; rw [h]; exact Int32.sub_self _
theorem i_sub1 {m j : Nat} {x y : Int32} (hx : Ab m x) (hy : Ab j y) (h : m + j < 2 ^ 31) : x - y ≤ 0 ↔ x ≤ y := by
  rw [Int32.le_iff_toInt_le, Int32.le_iff_toInt_le, sub_toInt hx hy h]
  show _ ≤ (0 : Int) ↔ _
  omega
theorem many_7 (x : Nat) : mMany x ≤ 7 := by
  have : ∀ n, iter (fun k a => a + x / 2 ^ k % 2) n 0 0 ≤ n := by
    intro n
    induction n with
    | zero => exact Nat.le_refl _
    | succ n ih =>
      rw [iter_s]
      have := Nat.mod_lt (x / 2 ^ (0 + n)) (show 0 < 2 by decide)
      show _ + _ ≤ _
      omega
  exact this 7
theorem pb_v (hb : Nb row cu q) (hn : n ≤ 7) (hcu : cu ≤ 8) (hk : k < q) (t : Bool) : mPbV row n cu k t pl = bif t then xTi row n cu k pl else xBr row n cu k pl := by
  unfold mPbV xTi xBr
  have h1 := i_sub1 (b_value (pl := pl) hb hn hcu hk) (b_routes (pl := pl) hb hn hcu) (by decide)
  cases hr : mRay row k with
  | false =>
    cases t with
    | true =>
      by_cases h : mValue row n cu k pl = mRoutes row n cu pl
      · simp [h]
      · simp [h, i_sub0]
    | false =>
      by_cases h : mValue row n cu k pl ≤ mRoutes row n cu pl
      · simp [h, h1]
      · simp [h, h1]
  | true =>
    have ha : mAsked row n k pl ≤ 7 := many_7 _
    cases t with
    | true =>
      by_cases h : nI (mAsked row n k pl) = nI 1
      · simp [h]
      · simp [h]
    | false =>
      by_cases h : mAsked row n k pl = 0
      · rw [h]; simp; decide
      · have h2 : nI 1 ≤ nI (mAsked row n k pl) := nI_le (by omega) (by omega)
        have h3 : ¬ nI (mAsked row n k pl) = nI 0 := fun e => h (by have h9 := congrArg Int32.toNatClampNeg e; rwa [nI_clamp (by omega), nI_clamp (by omega)] at h9)
        simp [h2, h3]
theorem plans_by (hb : Nb row cu q) (hn : n ≤ 7) (hcu : cu ≤ 8) (hk : k < q) (t : Bool) : mPlansBy row n cu k t = gCount (xLB row n cu k t) (2 ^ n) := by
  unfold mPlansBy gCount
  refine iter_cg (fun pl _ a => ?_) _
  unfold mPbS xLB
  rw [pb_v hb hn hcu hk]
  cases mFeas row n cu pl with
  | false => rw [if_pos rfl, if_pos rfl]; rfl
  | true => rw [if_neg (show ¬ true = false by decide), if_neg (show ¬ true = false by decide)]
theorem value_0 : mValue row n cu k 0 = mConst row cu k := by
  unfold mValue
  have : ∀ n a, iter (mVlS row cu k 0) n 0 a = a := by
    intro n
    induction n with
    | zero => intro a; rfl
    | succ n ih =>
      intro a
      rw [iter_s, ih]
      unfold mVlS
      rw [Nat.zero_testBit, if_pos rfl]
      show a - 0 = a
      exact Int32.sub_zero _
  exact this n _
theorem cut_tie (w : MWf row n cu q) (hb : Nb row cu q) (x y : Int32) : xCut row n cu q x y = rCut row n cu q x y := by
  obtain ⟨e0, hn, e1, hcu, e3, hq, hray⟩ := id w
  unfold xCut rCut
  cases hx : mNo q x with
  | true => rw [if_pos rfl, if_pos rfl]
  | false =>
    have hk : cN x < q := by
      obtain ⟨j, hj, e⟩ := mNo_f (by omega) hx
      rw [e]
      show (nI j).toNatClampNeg < q
      rw [nI_clamp (by omega)]
      exact hj
    rw [plans_by hb hn hcu hk, plans_by hb hn hcu hk, value_0]
end NB
