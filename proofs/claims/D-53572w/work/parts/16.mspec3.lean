/-! steps on end, loose cuts, texts -/
def okSt (row : Nat → Int32) (n cu q : Nat) : Bool := if msRes row n cu q < 0 then false else true
def msBst (row : Nat → Int32) (n cu q : Nat) (bst : Option Nat) : Option Nat := match msPlan row n cu q with
  | none => bst
  | some pl => bif msBest row n cu pl bst then some pl else bst
def slv (n cu : Nat) : Nat → (Nat → Int32) → Nat → Option Nat → Nat → (Nat → Int32) × Int32 × Nat
  | 0, row, q, bst, k => (msRow row n cu q bst, msRes row n cu q, k)
  | f + 1, row, q, bst, k => if msRes row n cu q < 0 then (msRow row n cu q bst, msRes row n cu q, k) else if msRes row n cu q = nI 2 then (msRow row n cu q bst, msRes row n cu q, k) else slv n cu f (msRow row n cu q bst) (q + 1) (msBst row n cu q bst) (k + 1)
theorem slv_neg {n cu : Nat} {row : Nat → Int32} {q : Nat} {bst : Option Nat} (f k : Nat) (h : msRes row n cu q < 0) : slv n cu f row q bst k = (msRow row n cu q bst, msRes row n cu q, k) := by
  cases f with
  | zero => rfl
  | succ f => rw [slv, if_pos h]
theorem slv_two {n cu : Nat} {row : Nat → Int32} {q : Nat} {bst : Option Nat} (f k : Nat) (h : msRes row n cu q = nI 2) : slv n cu f row q bst k = (msRow row n cu q bst, msRes row n cu q, k) := by
  cases f with
  | zero => rfl
  | succ f => rw [slv, if_neg (by rw [h]; decide), if_pos h]
theorem slv_go {n cu : Nat} {row : Nat → Int32} {q : Nat} {bst : Option Nat} (f k : Nat) (h : ¬ msRes row n cu q < 0) (h2 : ¬ msRes row n cu q = nI 2) : slv n cu (f + 1) row q bst k = slv n cu f (msRow row n cu q bst) (q + 1) (msBst row n cu q bst) (k + 1) := by
  rw [slv, if_neg h, if_neg h2]
/-- what is asked of the best plan -/
def BstOk (row : Nat → Int32) (n cu : Nat) (bst : Option Nat) : Prop := row 4 = oI bst ∧ ∀ b, bst = some b → b < 2 ^ n ∧ mMissed row n cu b = none
theorem agr_msRow2 (row : Nat → Int32) (n cu pl : Nat) (bst : Option Nat) : Agr (msRow2 row n cu pl bst) row := by
  unfold msRow2
  cases msBest row n cu pl bst with
  | true => exact agr_trans (agr_upd _ _ (Or.inr (Or.inl rfl))) (agr_upd _ _ (Or.inr (Or.inr (Or.inl rfl))))
  | false => exact agr_upd _ _ (Or.inr (Or.inr (Or.inl rfl)))
theorem msRow2_hi {row : Nat → Int32} {n cu pl : Nat} {bst : Option Nat} {j : Nat} (h4 : j ≠ 4) (h5 : j ≠ 5) : msRow2 row n cu pl bst j = row j := by
  unfold msRow2
  cases msBest row n cu pl bst with
  | true => exact (pk_un h4).trans (pk_un h5)
  | false => exact pk_un h5
theorem msRow2_4 {row : Nat → Int32} {n cu pl : Nat} {bst : Option Nat} (e4 : row 4 = oI bst) : msRow2 row n cu pl bst 4 = oI (bif msBest row n cu pl bst then some pl else bst) := by
  unfold msRow2
  cases msBest row n cu pl bst with
  | true => exact pk_us
  | false => exact (pk_un (by decide)).trans e4
theorem msBest_miss {row : Nat → Int32} {n cu pl : Nat} {bst : Option Nat} (h : msBest row n cu pl bst = true) : mMissed row n cu pl = none := by
  unfold msBest at h
  split at h
  · assumption
  · cases h
theorem msPlan_lt {row : Nat → Int32} {n cu q pl : Nat} (h : msPlan row n cu q = some pl) : pl < 2 ^ n := by
  unfold msPlan at h
  split at h
  · cases h
  · exact mMaster_lt h
/-- the row behind a step: agrees with the row ahead, its best is told by msBst -/
theorem ms_agr (row : Nat → Int32) (n cu q : Nat) (bst : Option Nat) : Agr (msRow row n cu q bst) row := by
  unfold msRow
  split
  · exact agr_refl _
  · split
    · exact agr_msRow2 _ _ _ _ _
    · split
      · exact agr_refl _
      · exact agr_trans (agr_upd _ _ (Or.inl rfl)) (agr_trans (agr_cutR _ _ _ _ _) (agr_msRow2 _ _ _ _ _))
theorem ms_bst_pl {row : Nat → Int32} {n cu q pl : Nat} {bst : Option Nat} (hn : n ≤ 7) (hcu : cu ≤ 8) (hB : BstOk row n cu bst) (hp : msPlan row n cu q = some pl) {r : Nat → Int32} (hr : Agr r row) (h4 : r 4 = oI (bif msBest row n cu pl bst then some pl else bst)) : BstOk r n cu (msBst row n cu q bst) := by
  have e : msBst row n cu q bst = bif msBest row n cu pl bst then some pl else bst := by simp only [msBst, hp]
  rw [e]
  refine ⟨h4, fun b hb => ?_⟩
  rw [agr_missed hr hn hcu]
  cases hm : msBest row n cu pl bst with
  | true =>
    rw [hm] at hb
    cases hb
    exact ⟨msPlan_lt hp, msBest_miss hm⟩
  | false =>
    rw [hm] at hb
    exact hB.2 b hb
theorem ms_next {row : Nat → Int32} {n cu q : Nat} {bst : Option Nat} (w : MWf row n cu q) (hB : BstOk row n cu bst) (h : ¬ msRes row n cu q < 0) (h2 : ¬ msRes row n cu q = nI 2) : q < 40 ∧ MWf (msRow row n cu q bst) n cu (q + 1) ∧ BstOk (msRow row n cu q bst) n cu (msBst row n cu q bst) := by
  obtain ⟨e0, hn, e1, hcu, e3, hq, hray⟩ := id w
  unfold msRes at h h2
  cases hp : msPlan row n cu q with
  | none => rw [hp] at h; exact absurd (show (-4 : Int32) < 0 by decide) h
  | some pl =>
    rw [hp] at h h2
    simp only at h h2
    by_cases hs : msSolved row n cu q pl = true
    · rw [if_pos hs] at h2; exact absurd rfl h2
    · rw [if_neg hs] at h
      by_cases h40 : q = 40
      · rw [if_pos h40] at h; exact absurd (by decide) h
      · have hR : msRow row n cu q bst = upd (cutR (msRow2 row n cu pl bst) q (oI (mMissed row n cu pl)) (msVal row n cu pl) cu) 3 (nI (q + 1)) := by simp only [msRow, hp]; rw [if_neg hs, if_neg h40]
        refine ⟨by omega, ?_, ?_⟩
        · have lo : ∀ j, j < 84 + 9 * q → j ≠ 3 → j ≠ 4 → j ≠ 5 → msRow row n cu q bst j = row j := fun j h1 h3 h4 h5 => by
            rw [hR, pk_un h3, cutR_lo h1, msRow2_hi h4 h5]
          refine ⟨(lo 0 (by omega) (by decide) (by decide) (by decide)).trans e0, hn, (lo 1 (by omega) (by decide) (by decide) (by decide)).trans e1, hcu, by rw [hR, pk_us], by omega, fun k hk => ?_⟩
          by_cases hkq : k = q
          · subst hkq
            rw [hR, pk_un (by omega)]
            simp only [cutR, if_pos]
            cases hm : mMissed row n cu pl with
            | none => exact Or.inl rfl
            | some c => exact Or.inr ⟨c, by have := mMissed_lt hm; omega, rfl⟩
          · rw [lo (84 + 9 * k) (by omega) (by omega) (by omega) (by omega)]
            exact hray k (by omega)
        · exact ms_bst_pl hn hcu hB hp (ms_agr row n cu q bst) (by rw [hR, pk_un (by decide), cutR_lo (by omega), msRow2_4 hB.1])
def okSv (S : (Nat → Int32) × Int32 × Nat) : Bool := if S.2.1 = -3 then false else if S.2.1 = -4 then (if S.2.2 = 0 then false else true) else true
def rDrop (q : Nat) (x : Int32) : Int32 := if mNo q x = true then -1 else nI (q - 1)
def okDr (q : Nat) (x : Int32) : Bool := if mNo q x = true then false else true
def dlS (n cu q pl : Nat) (ab : Int32) (i : Nat) (a : (Nat → Int32) × Nat) : (Nat → Int32) × Nat := if mLoose a.1 n cu (q - 1 - i) pl ab = true then (dOne a.1 a.2 (q - 1 - i), a.2 - 1) else a
def dlR (row : Nat → Int32) (n cu q pl : Nat) (ab : Int32) : (Nat → Int32) × Nat := iter (dlS n cu q pl ab) q 0 (row, q)
def dlC (row : Nat → Int32) (n cu pl : Nat) (ab : Int32) (k a : Nat) : Nat := a + (if mLoose row n cu k pl ab = false then 0 else 1)
def dlN (row : Nat → Int32) (n cu q pl : Nat) (ab : Int32) : Nat := iter (dlC row n cu pl ab) q 0 0
def dlAb (row : Nat → Int32) (n cu q pl : Nat) : Int32 := mGuess row n cu q pl - mPrices row n pl
def okDl (row : Nat → Int32) (n cu q : Nat) : Bool := match mMaster row n cu q with
  | none => false
  | some pl => if dlN row n cu q pl (dlAb row n cu q pl) = 0 then false else true
def rDl (row : Nat → Int32) (n cu q : Nat) : Int32 := match mMaster row n cu q with
  | none => -4
  | some pl => if dlN row n cu q pl (dlAb row n cu q pl) = 0 then -5 else nI (dlN row n cu q pl (dlAb row n cu q pl))
def dlRow (row : Nat → Int32) (n cu q : Nat) : Nat → Int32 := match mMaster row n cu q with
  | none => row
  | some pl => (dlR row n cu q pl (dlAb row n cu q pl)).1
theorem dOne_lo {row : Nat → Int32} {q k j : Nat} (h3 : j ≠ 3) (h : j < 84 + 9 * k) : dOne row q k j = row j := by
  simp only [dOne, upd, dOneR]
  rw [if_neg h3, if_neg (by omega)]
theorem dOne_hi {row : Nat → Int32} {q k j : Nat} (h : 84 + 9 * k ≤ j) (h2 : j + 9 < 444) : dOne row q k j = row (j + 9) := by
  simp only [dOne, upd, dOneR]
  rw [if_neg (by omega), if_pos h, if_pos h2]
theorem dOne_wf {row : Nat → Int32} {n cu q k : Nat} (w : MWf row n cu q) (hk : k < q) : MWf (dOne row q k) n cu (q - 1) := by
  obtain ⟨e0, hn, e1, hcu, e3, hq, hray⟩ := w
  refine ⟨(dOne_lo (by decide) (by omega)).trans e0, hn, (dOne_lo (by decide) (by omega)).trans e1, hcu, by simp only [dOne, pk_us], by omega, fun i hi => ?_⟩
  by_cases h : i < k
  · rw [dOne_lo (by omega) (by omega)]
    exact hray i (by omega)
  · rw [dOne_hi (by omega) (by omega), show 84 + 9 * i + 9 = 84 + 9 * (i + 1) by omega]
    exact hray (i + 1) (by omega)
theorem dl_wf {row : Nat → Int32} {n cu q pl : Nat} {ab : Int32} (w : MWf row n cu q) : ∀ i, i ≤ q → MWf (iter (dlS n cu q pl ab) i 0 (row, q)).1 n cu (iter (dlS n cu q pl ab) i 0 (row, q)).2 ∧ q - i ≤ (iter (dlS n cu q pl ab) i 0 (row, q)).2 := by
  intro i
  induction i with
  | zero => intro _; exact ⟨w, by show q - 0 ≤ q; omega⟩
  | succ i ih =>
    intro hi
    obtain ⟨h1, h2⟩ := ih (by omega)
    rw [iter_s, Nat.zero_add]
    generalize iter (dlS n cu q pl ab) i 0 (row, q) = a at *
    unfold dlS
    split
    · exact ⟨dOne_wf h1 (by omega), by show q - (i + 1) ≤ a.2 - 1; omega⟩
    · exact ⟨h1, by omega⟩
def okTy (ln : Nat) : Bool := if ln = 60 then false else true
def rTy (ln : Nat) : Int32 := if ln = 60 then -3 else nI (ln + 1)
def mSees (txt : Nat → Int32) (ln pa : Nat) (lo hi : Int32) : Bool := if ln ≤ pa then false else if mIn (txt pa) lo hi = false then false else true
def rdV (txt : Nat → Int32) (ln pa : Nat) : Int32 × Nat := if txt pa - nI 48 ≤ 0 then (txt pa - nI 48, pa + 1) else if mSees txt ln (pa + 1) (nI 48) (nI 57) = false then (txt pa - nI 48, pa + 1) else (nI 10 * (txt pa - nI 48) + txt (pa + 1) - nI 48, pa + 1 + 1)
def rdP (c pa : Nat) : Nat := if c = 0 then pa else pa + 1
def rdN (txt : Nat → Int32) (ln : Nat) : Nat → Nat → Nat → (Nat → Int32) → Bool × Nat × (Nat → Int32)
  | 0, _, pa, rd => (if pa = ln then true else false, pa, rd)
  | r + 1, c, pa, rd => if c ≠ 0 ∧ mSees txt ln pa (nI 44) (nI 44) = false then (false, pa, rd) else if mSees txt ln (rdP c pa) (nI 48) (nI 57) = false then (false, rdP c pa, rd) else rdN txt ln r (c + 1) (rdV txt ln (rdP c pa)).2 (upd rd c (rdV txt ln (rdP c pa)).1)
theorem mSees_lt {txt : Nat → Int32} {ln pa : Nat} {lo hi : Int32} (h : mSees txt ln pa lo hi = true) : pa < ln := by
  unfold mSees at h
  split at h
  · cases h
  · omega
theorem dl_dec {q k : Nat} (h : k < q) : nI (q - 1 - k) + Int32.ofInt (-1) = nI (q - (k + 1)) - nI 1 := by
  rw [show q - (k + 1) = q - 1 - k by omega]
  have e : Int32.ofInt (-1) = -(nI 1) := by decide
  rw [e, Int32.sub_eq_add_neg]
