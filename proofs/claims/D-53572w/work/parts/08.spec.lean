/-! what the model's readers compute, out of its row -/
def MWf (row : Nat → Int32) (n cu q : Nat) : Prop := row 0 = nI n ∧ n ≤ 7 ∧ row 1 = nI cu ∧ cu ≤ 8 ∧ row 3 = nI q ∧ q ≤ 40 ∧ ∀ k, k < q → row (84 + 9 * k) = -5 ∨ ∃ c, c < 8 ∧ row (84 + 9 * k) = nI c
def mIn (v lo hi : Int32) : Bool := if v < lo then false else if hi < v then false else true
def mMany (x : Nat) : Nat := iter (fun k a => a + x / 2 ^ k % 2) 7 0 0
def mExS (row : Nat → Int32) (pl s : Nat) (a : Bool) : Bool := if a = true then true else if pl.testBit s = false then false else if nI pl &&& row (77 + s) = 0 then false else true
def mExcl (row : Nat → Int32) (n pl : Nat) : Bool := iter (mExS row pl) n 0 false
def mAllowed (row : Nat → Int32) (n pl : Nat) : Bool := if row 2 < nI (mMany pl) then false else if mExcl row n pl = true then false else true
def mReS (row : Nat → Int32) (c s a : Nat) : Nat := a ||| (if nI 100 ≤ row (21 + 8 * s + c) then 0 else 2 ^ s)
def mReach (row : Nat → Int32) (n c : Nat) : Nat := iter (mReS row c) n 0 0
def mMissP (row : Nat → Int32) (n pl c : Nat) : Bool := decide (pl &&& mReach row n c = 0)
def mMissed (row : Nat → Int32) (n cu pl : Nat) : Option Nat := fst (mMissP row n pl) cu 0
def mSvS (row : Nat → Int32) (pl c s : Nat) (a : Option Nat) : Option Nat := if pl.testBit s = false then a else if nI 100 ≤ row (21 + 8 * s + c) then a else match a with
  | none => some s
  | some b => if row (21 + 8 * b + c) ≤ row (21 + 8 * s + c) then some b else some s
def mServer (row : Nat → Int32) (n pl c : Nat) : Option Nat := iter (mSvS row pl c) n 0 none
def mPrS (row : Nat → Int32) (pl s : Nat) (a : Int32) : Int32 := a + (if pl.testBit s = false then nI 0 else row (6 + s))
def mPrices (row : Nat → Int32) (n pl : Nat) : Int32 := iter (mPrS row pl) n 0 (nI 0)
def mRoS (row : Nat → Int32) (n pl c : Nat) (a : Int32) : Int32 := a + row (13 + c) * row (21 + 8 * (mServer row n pl c).getD 0 + c)
def mRoutes (row : Nat → Int32) (n cu pl : Nat) : Int32 := iter (mRoS row n pl) cu 0 (nI 0)
def mFeas (row : Nat → Int32) (n cu pl : Nat) : Bool := if mAllowed row n pl = false then false else if mMissed row n cu pl = none then true else false
def mRay (row : Nat → Int32) (k : Nat) : Bool := if row (84 + 9 * k) < 0 then false else true
def mWtS (row : Nat → Int32) (k s c : Nat) (a : Int32) : Int32 := a + (if row (84 + 9 * k + 1 + c) - row (21 + 8 * s + c) ≤ 0 then nI 0 else row (13 + c) * (row (84 + 9 * k + 1 + c) - row (21 + 8 * s + c)))
def mWeight (row : Nat → Int32) (cu k s : Nat) : Int32 := iter (mWtS row k s) cu 0 (nI 0)
def mCoS (row : Nat → Int32) (k c : Nat) (a : Int32) : Int32 := a + row (13 + c) * row (84 + 9 * k + 1 + c)
def mConst (row : Nat → Int32) (cu k : Nat) : Int32 := iter (mCoS row k) cu 0 (nI 0)
def mVlS (row : Nat → Int32) (cu k pl s : Nat) (a : Int32) : Int32 := a - (if pl.testBit s = false then nI 0 else mWeight row cu k s)
def mValue (row : Nat → Int32) (n cu k pl : Nat) : Int32 := iter (mVlS row cu k pl) n 0 (mConst row cu k)
def mAsked (row : Nat → Int32) (n k pl : Nat) : Nat := mMany (pl &&& mReach row n (row (84 + 9 * k)).toNatClampNeg)
def mRmS (row : Nat → Int32) (n pl k a : Nat) : Nat := a + (if mRay row k = false then 0 else if mAsked row n k pl = 0 then 1 else 0)
def mRaysM (row : Nat → Int32) (n q pl : Nat) : Nat := iter (mRmS row n pl) q 0 0
def mGuV (row : Nat → Int32) (n cu pl k : Nat) : Int32 := if mRay row k = false then mValue row n cu k pl else nI 0
def mGuS (row : Nat → Int32) (n cu pl k : Nat) (a : Int32) : Int32 := if mGuV row n cu pl k ≤ a then a else mGuV row n cu pl k
def mAbove (row : Nat → Int32) (n cu q pl : Nat) : Int32 := iter (mGuS row n cu pl) q 0 (nI 0)
def mGuess (row : Nat → Int32) (n cu q pl : Nat) : Int32 := mPrices row n pl + mAbove row n cu q pl
def mMpS (row : Nat → Int32) (n cu q pl : Nat) (a : Option Nat × Int32) : Option Nat × Int32 := if mAllowed row n pl = false then a else if mRaysM row n q pl = 0 then (if a.1 = none then (some pl, mGuess row n cu q pl) else if a.2 ≤ mGuess row n cu q pl then a else (some pl, mGuess row n cu q pl)) else a
def mMaster (row : Nat → Int32) (n cu q : Nat) : Option Nat := (iter (mMpS row n cu q) (2 ^ n) 0 (none, nI 0)).1
/-- what the model's readers need of the heap: itself and its row -/
abbrev MRo (D : va_G) (dA : Nat → ClassId) (h0 hr : Nat) (fs : List Value) (row : Nat → Int32) (H : Heap) : Prop := va_P D vwCl [(h0, .inr (3, .ref hr :: fs)), (hr, .inl (dA 0, 444, .inl row))] H
theorem iter_lt {f : Nat → Option Nat → Option Nat} (hf : ∀ k a, f k a = a ∨ f k a = some k) : ∀ n b, iter f n 0 none = some b → b < n := by
  intro n
  induction n with
  | zero => intro b h; cases h
  | succ n ih =>
    intro b h
    rw [iter_s, Nat.zero_add] at h
    rcases hf n (iter f n 0 none) with e | e
    · rw [e] at h; exact Nat.lt_succ_of_lt (ih b h)
    · rw [e] at h; cases h; exact Nat.lt_succ_self _
theorem mSvS_or (row : Nat → Int32) (pl c k : Nat) (a : Option Nat) : mSvS row pl c k a = a ∨ mSvS row pl c k a = some k := by
  unfold mSvS
  split
  · exact Or.inl rfl
  · split
    · exact Or.inl rfl
    · cases a with
      | none => exact Or.inr rfl
      | some b =>
        show (if _ then _ else _) = _ ∨ (if _ then _ else _) = _
        split
        · exact Or.inl rfl
        · exact Or.inr rfl
theorem mServer_lt {row : Nat → Int32} {n pl c b : Nat} (h : mServer row n pl c = some b) : b < n := iter_lt (mSvS_or row pl c) n b h
theorem fst_spec {P : Nat → Bool} : ∀ (r k : Nat), (∀ b, fst P r k = some b → k ≤ b ∧ b < k + r ∧ P b = true ∧ ∀ j, k ≤ j → j < b → P j = false) ∧ (fst P r k = none → ∀ j, k ≤ j → j < k + r → P j = false)
  | 0, k => ⟨(fun b h => by cases h), (fun _ j h1 h2 => by omega)⟩
  | r + 1, k => by
    obtain ⟨i1, i2⟩ := fst_spec (P := P) r (k + 1)
    cases hp : P k with
    | true =>
      rw [fst, if_pos hp]
      refine ⟨fun b h => ?_, fun h => by cases h⟩
      cases h
      exact ⟨Nat.le_refl _, by omega, hp, fun j h1 h2 => by omega⟩
    | false =>
      rw [fst, if_neg (by rw [hp]; decide)]
      refine ⟨fun b h => ?_, fun h j h1 h2 => ?_⟩
      · obtain ⟨a1, a2, a3, a4⟩ := i1 b h
        refine ⟨by omega, by omega, a3, fun j h1 h2 => ?_⟩
        by_cases hj : j = k
        · rw [hj]; exact hp
        · exact a4 j (by omega) h2
      · by_cases hj : j = k
        · rw [hj]; exact hp
        · exact i2 h j (by omega) (by omega)
theorem mMissed_lt {row : Nat → Int32} {n cu pl b : Nat} (h : mMissed row n cu pl = some b) : b < cu := by
  have := ((fst_spec (P := mMissP row n pl) cu 0).1 b h).2.1
  omega
theorem mMany_le (x : Nat) : ∀ n, iter (fun k a => a + x / 2 ^ k % 2) n 0 0 ≤ n := by
  intro n
  induction n with
  | zero => exact Nat.le_refl _
  | succ n ih =>
    rw [iter_s]
    have := Nat.mod_lt (x / 2 ^ (0 + n)) (by decide : 0 < 2)
    omega
theorem mMany_7 (x : Nat) : mMany x ≤ 7 := mMany_le x 7
theorem mRmS_le (row : Nat → Int32) (n pl : Nat) : ∀ q, iter (mRmS row n pl) q 0 0 ≤ q := by
  intro q
  induction q with
  | zero => exact Nat.le_refl _
  | succ q ih =>
    rw [iter_s]
    have h1 : ∀ a k, mRmS row n pl k a ≤ a + 1 := by
      intro a k
      unfold mRmS
      split
      · omega
      · split <;> omega
    have := h1 (iter (mRmS row n pl) q 0 0) (0 + q)
    omega
theorem mReach_lt (row : Nat → Int32) (c : Nat) : ∀ n, iter (mReS row c) n 0 0 < 2 ^ n := by
  intro n
  induction n with
  | zero => exact Nat.one_pos
  | succ n ih =>
    rw [iter_s, Nat.zero_add]
    unfold mReS
    refine Nat.or_lt_two_pow (Nat.lt_trans ih (Nat.pow_lt_pow_right (by decide) (Nat.lt_succ_self n))) ?_
    split
    · exact Nat.two_pow_pos _
    · exact Nat.pow_lt_pow_right (by decide) (Nat.lt_succ_self n)
theorem mMpS_or (row : Nat → Int32) (n cu q k : Nat) (a : Option Nat × Int32) : (mMpS row n cu q k a).1 = a.1 ∨ (mMpS row n cu q k a).1 = some k := by
  unfold mMpS
  split
  · exact Or.inl rfl
  · split
    · split
      · exact Or.inr rfl
      · split
        · exact Or.inl rfl
        · exact Or.inr rfl
    · exact Or.inl rfl
theorem mMp_lt (row : Nat → Int32) (n cu q : Nat) : ∀ N b, (iter (mMpS row n cu q) N 0 (none, nI 0)).1 = some b → b < N := by
  intro N
  induction N with
  | zero => intro b h; cases h
  | succ N ih =>
    intro b h
    rw [iter_s, Nat.zero_add] at h
    rcases mMpS_or row n cu q N (iter (mMpS row n cu q) N 0 (none, nI 0)) with e | e
    · rw [e] at h; exact Nat.lt_succ_of_lt (ih b h)
    · rw [e] at h; cases h; exact Nat.lt_succ_self _
theorem mMaster_lt {row : Nat → Int32} {n cu q b : Nat} (h : mMaster row n cu q = some b) : b < 2 ^ n := mMp_lt row n cu q _ b h
theorem bit_t {x k : Nat} (h : nI (x / 2 ^ k % 2) = nI 1) : nI 1 = bI (x.testBit k) := by
  have h1 : x / 2 ^ k % 2 = 1 := (nI_eq (by have := Nat.mod_lt (x / 2 ^ k) (by decide : 0 < 2); omega) (by decide)).mp h
  rw [nx_tb, h1]; rfl
theorem bit_f {x k : Nat} (h : ¬ nI (x / 2 ^ k % 2) = nI 1) : nI 0 = bI (x.testBit k) := by
  rw [nx_tb, decide_eq_false (fun h1 => h (by rw [h1]))]; rfl
def mNo (n : Nat) (x : Int32) : Bool := if mIn x (nI 0) (nI n - nI 1) = true then false else true
theorem ray_of {row : Nat → Int32} {n cu q k : Nat} (w : MWf row n cu q) (hk : k < q) (h : mRay row k = true) : ∃ c, c < 8 ∧ row (84 + 9 * k) = nI c := by
  rcases w.2.2.2.2.2.2 k hk with e | e
  · unfold mRay at h
    rw [e] at h
    exact absurd h (by decide)
  · exact e
