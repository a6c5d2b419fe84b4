/-! rows that the two classes reach, kept by every writer -/
def FWf (row : Nat → Int32) (n cu q : Nat) : Prop := MWf row n cu q ∧ (∃ bst, BstOk row n cu bst) ∧ (∀ j, (j = 2 ∨ (6 ≤ j ∧ j < 77)) → ¬ row j < 0) ∧ (∀ s, s < 7 → ∃ x, x < 128 ∧ row (77 + s) = nI x) ∧ RtOk row n cu ∧ Nb row cu q
theorem in_lo {x lo hi : Int32} (h : mIn x lo hi = true) : ¬ x < lo := by
  intro h1; unfold mIn at h; rw [if_pos h1] at h; cases h
theorem in_hi {x lo hi : Int32} (h : mIn x lo hi = true) : ¬ hi < x := by
  intro h1; unfold mIn at h; rw [if_neg (in_lo (lo := lo) (hi := hi) (by unfold mIn; exact h)), if_pos h1] at h; cases h
theorem in_ab {x : Int32} {a b : Nat} (ha : a < 2 ^ 31) (hb : b < 2 ^ 31) (h : mIn x (nI a) (nI b) = true) : Ab b x ∧ ¬ x < 0 := by
  have h1 := in_lo h
  have h2 := in_hi h
  rw [Int32.lt_iff_toInt_lt, nI_toInt ha] at h1
  rw [Int32.lt_iff_toInt_lt, nI_toInt hb] at h2
  refine ⟨⟨by omega, by omega⟩, ?_⟩
  rw [Int32.lt_iff_toInt_lt]
  show ¬ x.toInt < 0
  omega
theorem bst_no {row : Nat → Int32} {n cu : Nat} (h : row 4 = -5) : ∃ bst, BstOk row n cu bst := ⟨none, h, fun _ h => by cases h⟩
theorem fw_drop {r : Nat → Int32} {n cu : Nat} (h0 : r 0 = nI n) (hn : n ≤ 7) (h1 : r 1 = nI cu) (hcu : cu ≤ 8) (hp : ∀ j, (j = 2 ∨ (6 ≤ j ∧ j < 77)) → ¬ r j < 0) (hx : ∀ s, s < 7 → ∃ x, x < 128 ∧ r (77 + s) = nI x) (hr : RtOk r n cu) (hb1 : ∀ j, 13 ≤ j → j < 21 → Ab 20 (r j)) (hb2 : ∀ j, 21 ≤ j → j < 77 → Ab 100 (r j)) : FWf (dropA r) n cu 0 := by
  have ha : ∀ j, j < 84 → j ≠ 3 → j ≠ 4 → dropA r j = r j := fun j h h3 h4 => dropA_at h h3 h4
  refine ⟨⟨(ha 0 (by omega) (by omega) (by omega)).trans h0, hn, (ha 1 (by omega) (by omega) (by omega)).trans h1, hcu, rfl, by omega, fun k hk => by omega⟩, bst_no (dropA_4 r), fun j hj => ?_, fun s hs => ?_, fun s c hs hc h => ?_, fun j h1 h2 => ?_, fun j h1 h2 => ?_, fun k hk => by omega⟩
  · rw [ha j (by omega) (by omega) (by omega)]; exact hp j hj
  · rw [ha (77 + s) (by omega) (by omega) (by omega)]; exact hx s hs
  · rw [ha _ (by omega) (by omega) (by omega)]; exact hr s c hs hc h
  · rw [ha j (by omega) (by omega) (by omega)]; exact hb1 j h1 h2
  · rw [ha j (by omega) (by omega) (by omega)]; exact hb2 j h1 h2
/-- a row whose plain part is another's -/
theorem fw_low {row r : Nat → Int32} {n cu q q' : Nat} (f : FWf row n cu q) (hA : Agr r row) (h3 : r 3 = nI q') (hq : q' ≤ 40) (hh : ∀ k, k < q' → r (84 + 9 * k) = -5 ∨ ∃ c, c < 8 ∧ r (84 + 9 * k) = nI c) (hb : ∃ bst, BstOk r n cu bst) (hc : ∀ k, k < q' → ∀ c, c < cu → Ab 200 (r (84 + 9 * k + 1 + c))) : FWf r n cu q' := by
  obtain ⟨⟨e0, hn, e1, hcu, e3, hq0, hray⟩, hbst, hp, hx, hr, hb1, hb2, hb3⟩ := f
  refine ⟨⟨(hA 0 (by omega)).trans e0, hn, (hA 1 (by omega)).trans e1, hcu, h3, hq, hh⟩, hb, fun j hj => ?_, fun s hs => ?_, fun s c hs hc h => ?_, fun j h1 h2 => ?_, fun j h1 h2 => ?_, hc⟩
  · rw [hA j (by omega)]; exact hp j hj
  · rw [hA (77 + s) (by omega)]; exact hx s hs
  · rw [hA _ (by omega)]; exact hr s c hs hc h
  · rw [hA j (by omega)]; exact hb1 j h1 h2
  · rw [hA j (by omega)]; exact hb2 j h1 h2
theorem fw_init : FWf iRow 0 0 0 := by
  refine ⟨⟨rfl, by omega, rfl, by omega, rfl, by omega, fun k hk => by omega⟩, bst_no rfl, fun j hj => ?_, fun s hs => ⟨0, by omega, ?_⟩, fun s c hs hc h => ?_, fun j h1 h2 => ?_, fun j h1 h2 => ?_, fun k hk => by omega⟩
  · unfold iRow
    split
    · decide
    · split
      · decide
      · rw [if_neg (by omega)]; decide
  · unfold iRow; rw [if_neg (by omega), if_neg (by omega), if_neg (by omega)]; rfl
  · unfold iRow; rw [if_pos (by omega)]; exact Int32.le_refl _
  · unfold iRow; rw [if_neg (by omega), if_neg (by omega), if_neg (by omega)]; exact ab_nI (a := 0) (by omega) (by decide)
  · unfold iRow; rw [if_pos (by omega)]; exact ab_nI (Nat.le_refl _) (by decide)
section FWS
variable {row : Nat → Int32} {n cu q : Nat} {x y z : Int32}
theorem fw_addSite (f : FWf row n cu q) (h : okAS n x = true) : FWf (dropA (upd (upd row (6 + n) x) 0 (nI (n + 1)))) (n + 1) cu 0 := by
  obtain ⟨⟨e0, hn, e1, hcu, e3, hq0, hray⟩, hbst, hp, hx, hr, hb1, hb2, hb3⟩ := f
  have hi : mIn x (nI 0) (nI 999) = true := by
    cases hm : mIn x (nI 0) (nI 999) with
    | true => rfl
    | false => unfold okAS at h; rw [if_pos hm] at h; cases h
  have h7 : ¬ n = 7 := fun h7 => by unfold okAS at h; rw [if_neg (by rw [hi]; decide), if_pos h7] at h; cases h
  have hu : ∀ j, j ≠ 0 → j ≠ 6 + n → upd (upd row (6 + n) x) 0 (nI (n + 1)) j = row j := fun j h1 h2 => by rw [pk_un h1, pk_un h2]
  refine fw_drop pk_us (by omega) (by rw [hu 1 (by omega) (by omega)]; exact e1) hcu (fun j hj => ?_) (fun s hs => by rw [hu _ (by omega) (by omega)]; exact hx s hs) (fun s c hs hc h => by rw [hu _ (by omega) (by omega)]; exact hr s c hs hc (by omega)) (fun j h1 h2 => by rw [hu j (by omega) (by omega)]; exact hb1 j h1 h2) (fun j h1 h2 => by rw [hu j (by omega) (by omega)]; exact hb2 j h1 h2)
  by_cases e : j = 6 + n
  · subst e; rw [pk_un (by omega), pk_us]; exact (in_ab (by decide) (by decide) hi).2
  · rw [hu j (by omega) e]; exact hp j hj
theorem fw_addCustomer (f : FWf row n cu q) (h : okAC cu x = true) : FWf (dropA (upd (upd row (13 + cu) x) 1 (nI (cu + 1)))) n (cu + 1) 0 := by
  obtain ⟨⟨e0, hn, e1, hcu, e3, hq0, hray⟩, hbst, hp, hx, hr, hb1, hb2, hb3⟩ := f
  have hi : mIn x (nI 1) (nI 20) = true := by
    cases hm : mIn x (nI 1) (nI 20) with
    | true => rfl
    | false => unfold okAC at h; rw [if_pos hm] at h; cases h
  have h7 : ¬ cu = 8 := fun h7 => by unfold okAC at h; rw [if_neg (by rw [hi]; decide), if_pos h7] at h; cases h
  have hu : ∀ j, j ≠ 1 → j ≠ 13 + cu → upd (upd row (13 + cu) x) 1 (nI (cu + 1)) j = row j := fun j h1 h2 => by rw [pk_un h1, pk_un h2]
  refine fw_drop (by rw [hu 0 (by omega) (by omega)]; exact e0) hn pk_us (by omega) (fun j hj => ?_) (fun s hs => by rw [hu _ (by omega) (by omega)]; exact hx s hs) (fun s c hs hc h => by rw [hu _ (by omega) (by omega)]; exact hr s c hs hc (by omega)) (fun j h1 h2 => ?_) (fun j h1 h2 => by rw [hu j (by omega) (by omega)]; exact hb2 j h1 h2)
  · by_cases e : j = 13 + cu
    · subst e; rw [pk_un (by omega), pk_us]; exact (in_ab (by decide) (by decide) hi).2
    · rw [hu j (by omega) e]; exact hp j hj
  · by_cases e : j = 13 + cu
    · subst e; rw [pk_un (by omega), pk_us]; exact (in_ab (by decide) (by decide) hi).1
    · rw [hu j (by omega) e]; exact hb1 j h1 h2
/-- one number of the plain part is set, all cuts go -/
theorem fw_set (f : FWf row n cu q) {p : Nat} (hp6 : 6 ≤ p) (hp7 : p < 77) (h0 : ¬ x < 0) (hd : p < 21 → 13 ≤ p → Ab 20 x) (hr1 : 21 ≤ p → Ab 100 x) (hrr : ∀ s c, s < 7 → c < 8 → (n ≤ s ∨ cu ≤ c) → p ≠ 21 + 8 * s + c) : FWf (dropA (upd row p x)) n cu 0 := by
  obtain ⟨⟨e0, hn, e1, hcu, e3, hq0, hray⟩, hbst, hp, hx, hr, hb1, hb2, hb3⟩ := f
  refine fw_drop (by rw [pk_un (by omega)]; exact e0) hn (by rw [pk_un (by omega)]; exact e1) hcu (fun j hj => ?_) (fun s hs => by rw [pk_un (by omega)]; exact hx s hs) (fun s c hs hc h => by rw [pk_un (Ne.symm (hrr s c hs hc h))]; exact hr s c hs hc h) (fun j h1 h2 => ?_) (fun j h1 h2 => ?_)
  · by_cases e : j = p
    · subst e; rw [pk_us]; exact h0
    · rw [pk_un e]; exact hp j hj
  · by_cases e : j = p
    · subst e; rw [pk_us]; exact hd h2 h1
    · rw [pk_un e]; exact hb1 j h1 h2
  · by_cases e : j = p
    · subst e; rw [pk_us]; exact hr1 h1
    · rw [pk_un e]; exact hb2 j h1 h2
theorem fw_setMost (f : FWf row n cu q) (h : okSM row x = true) : FWf (upd (upd row 2 x) 4 (-5)) n cu q := by
  have hi : mIn x (nI 1) (nI 7) = true := by
    cases hm : mIn x (nI 1) (nI 7) with
    | true => rfl
    | false => unfold okSM at h; rw [if_pos hm] at h; cases h
  obtain ⟨⟨e0, hn, e1, hcu, e3, hq0, hray⟩, hbst, hp, hx, hr, hb1, hb2, hb3⟩ := f
  have hu : ∀ j, j ≠ 2 → j ≠ 4 → upd (upd row 2 x) 4 (-5) j = row j := fun j h1 h2 => by rw [pk_un h2, pk_un h1]
  refine ⟨⟨by rw [hu 0 (by omega) (by omega)]; exact e0, hn, by rw [hu 1 (by omega) (by omega)]; exact e1, hcu, by rw [hu 3 (by omega) (by omega)]; exact e3, hq0, fun k hk => by rw [hu _ (by omega) (by omega)]; exact hray k hk⟩, bst_no pk_us, fun j hj => ?_, fun s hs => by rw [hu _ (by omega) (by omega)]; exact hx s hs, fun s c hs hc h => by rw [hu _ (by omega) (by omega)]; exact hr s c hs hc h, fun j h1 h2 => by rw [hu j (by omega) (by omega)]; exact hb1 j h1 h2, fun j h1 h2 => by rw [hu j (by omega) (by omega)]; exact hb2 j h1 h2, fun k hk c hc => by rw [hu _ (by omega) (by omega)]; exact hb3 k hk c hc⟩
  by_cases e : j = 2
  · subst e; rw [pk_un (by omega), pk_us]; exact (in_ab (by decide) (by decide) hi).2
  · rw [hu j e (by omega)]; exact hp j hj
theorem fw_exclude (f : FWf row n cu q) {i j : Nat} (hi : i < 7) (hj : j < 7) : FWf (exR row i j) n cu q := by
  obtain ⟨⟨e0, hn, e1, hcu, e3, hq0, hray⟩, hbst, hp, hx, hr, hb1, hb2, hb3⟩ := f
  have hu : ∀ p, p ≠ 4 → (p < 77 ∨ 84 ≤ p) → exR row i j p = row p := fun p h1 h2 => ex_lo h1 h2 hi hj
  refine ⟨⟨by rw [hu 0 (by omega) (by omega)]; exact e0, hn, by rw [hu 1 (by omega) (by omega)]; exact e1, hcu, by rw [hu 3 (by omega) (by omega)]; exact e3, hq0, fun k hk => by rw [hu _ (by omega) (by omega)]; exact hray k hk⟩, bst_no pk_us, fun p hp9 => by rw [hu p (by omega) (by omega)]; exact hp p hp9, fun s hs => ?_, fun s c hs hc h => by rw [hu _ (by omega) (by omega)]; exact hr s c hs hc h, fun p h1 h2 => by rw [hu p (by omega) (by omega)]; exact hb1 p h1 h2, fun p h1 h2 => by rw [hu p (by omega) (by omega)]; exact hb2 p h1 h2, fun k hk c hc => by rw [hu _ (by omega) (by omega)]; exact hb3 k hk c hc⟩
  have ce : ∀ s, s < 7 → cN (row (77 + s)) < 128 := fun s hs => by
    obtain ⟨v, h1, h2⟩ := hx s hs
    rw [h2]
    show (nI v).toNatClampNeg < 128
    rw [nI_clamp (by omega)]; exact h1
  unfold exR
  rw [pk_un (by omega)]
  by_cases h1 : s = j
  · subst h1; rw [pk_us]; exact ⟨_, xor128 (ce s hs) (Nat.lt_of_le_of_lt (pow6 (show i ≤ 6 by omega)) (by decide)), rfl⟩
  · rw [pk_un (by omega)]
    by_cases h2 : s = i
    · subst h2; rw [pk_us]; exact ⟨_, xor128 (ce s hs) (Nat.lt_of_le_of_lt (pow6 (show j ≤ 6 by omega)) (by decide)), rfl⟩
    · rw [pk_un (by omega)]; exact hx s hs
theorem cN_lt {N : Nat} {x : Int32} (hN : N < 2 ^ 31) (h : mNo N x = false) : cN x < N ∧ x = nI (cN x) := by
  obtain ⟨j, hj, e⟩ := mNo_f hN h
  have : cN x = j := by rw [e]; exact nI_clamp (by omega)
  rw [this]; exact ⟨hj, e⟩
theorem bf {b : Bool} (h : ¬ b = true) : b = false := by cases b with | false => rfl | true => exact absurd rfl h
theorem bt {b : Bool} (h : ¬ b = false) : b = true := by cases b with | true => rfl | false => exact absurd rfl h
theorem fw_setPrice (f : FWf row n cu q) (h : okSP row n x y = true) : FWf (dropA (upd row (6 + cN x) y)) n cu 0 := by
  have h1 : mNo n x = false := bf (fun e => by unfold okSP at h; rw [if_pos e] at h; cases h)
  have h2 : mIn y (nI 0) (nI 999) = true := bt (fun e => by unfold okSP at h; rw [if_neg (by rw [h1]; decide), if_pos e] at h; cases h)
  have hn := f.1.2.1
  have hk := (cN_lt (by omega) h1).1
  exact fw_set f (by omega) (by omega) (in_ab (by decide) (by decide) h2).2 (fun a b => by omega) (fun a => by omega) (fun s c _ _ _ => by omega)
theorem fw_setDemand (f : FWf row n cu q) (h : okSD row cu x y = true) : FWf (dropA (upd row (13 + cN x) y)) n cu 0 := by
  have h1 : mNo cu x = false := bf (fun e => by unfold okSD at h; rw [if_pos e] at h; cases h)
  have h2 : mIn y (nI 1) (nI 20) = true := bt (fun e => by unfold okSD at h; rw [if_neg (by rw [h1]; decide), if_pos e] at h; cases h)
  have hn := f.1.2.2.2.1
  have hk := (cN_lt (by omega) h1).1
  exact fw_set f (by omega) (by omega) (in_ab (by decide) (by decide) h2).2 (fun a b => (in_ab (by decide) (by decide) h2).1) (fun a => by omega) (fun s c _ _ _ => by omega)
theorem fw_setRoute (f : FWf row n cu q) (h : okSR row n cu x y z = true) : FWf (dropA (upd row (21 + 8 * cN x + cN y) z)) n cu 0 := by
  have h1 : mNo n x = false := bf (fun e => by unfold okSR at h; rw [if_pos e] at h; cases h)
  have h3 : mNo cu y = false := bf (fun e => by unfold okSR at h; rw [if_neg (by rw [h1]; decide), if_pos e] at h; cases h)
  have h2 : mIn z (nI 0) (nI 100) = true := bt (fun e => by unfold okSR at h; rw [if_neg (by rw [h1]; decide), if_neg (by rw [h3]; decide), if_pos e] at h; cases h)
  have hn := f.1.2.1
  have hc := f.1.2.2.2.1
  have hk := (cN_lt (by omega) h1).1
  have hj := (cN_lt (by omega) h3).1
  exact fw_set f (by omega) (by omega) (in_ab (by decide) (by decide) h2).2 (fun a b => by omega) (fun a => (in_ab (by decide) (by decide) h2).1) (fun s c h5 h6 h7 => by omega)
theorem fw_dropc (f : FWf row n cu q) {k : Nat} (hk : k < q) : FWf (dOne row q k) n cu (q - 1) := by
  have w' := dOne_wf f.1 hk
  obtain ⟨e0, hn, e1, hcu, e3, hq, hray⟩ := id f.1
  have hA : Agr (dOne row q k) row := fun j hj => dOne_lo (by omega) (by omega)
  obtain ⟨b, hb1, hb2⟩ := f.2.1
  refine fw_low f hA w'.2.2.2.2.1 w'.2.2.2.2.2.1 w'.2.2.2.2.2.2 ⟨b, (dOne_lo (by omega) (by omega)).trans hb1, fun b' hb' => ⟨(hb2 b' hb').1, ?_⟩⟩ (fun k' hk' c hc => ?_)
  · rw [agr_missed hA hn hcu]; exact (hb2 b' hb').2
  · by_cases h : k' < k
    · rw [dOne_lo (by omega) (by omega)]; exact f.2.2.2.2.2.2.2 k' (by omega) c hc
    · rw [dOne_hi (by omega) (by omega), show 84 + 9 * k' + 1 + c + 9 = 84 + 9 * (k' + 1) + 1 + c by omega]; exact f.2.2.2.2.2.2.2 (k' + 1) (by omega) c hc
theorem fw_q {r : Nat → Int32} (f : FWf r n cu q) : cN (r 3) = q := by
  have h := f.1.2.2.2.2
  rw [h.1]
  exact nI_clamp (by omega)
theorem val_ab (f : FWf row n cu q) {pl c : Nat} (hc : c < cu) : Ab 200 (msVal row n cu pl c) := by
  have hn := f.1.2.1
  have hcu := f.1.2.2.2.1
  have h7 := server_7 (row := row) (pl := pl) (c := c) hn
  unfold msVal
  split
  · exact ab_mono (by omega) (f.2.2.2.2.2.2.1 _ (by omega) (by omega))
  · exact ab_nI (Nat.zero_le _) (by decide)
theorem fw_step (f : FWf row n cu q) {bst : Option Nat} (hB : BstOk row n cu bst) : FWf (msRow row n cu q bst) n cu (qNx row n cu q) := by
  obtain ⟨e0, hn, e1, hcu, e3, hq, hray⟩ := id f.1
  cases hp : msPlan row n cu q with
  | none =>
    have e : msRow row n cu q bst = row := by unfold msRow; rw [hp]
    have e2 : msRes row n cu q = -4 := by unfold msRes; rw [hp]
    rw [e, qNx_o (by rw [e2]; decide) (by rw [e2]; decide)]
    exact f
  | some pl =>
    by_cases hs : msSolved row n cu q pl = true
    · have e : msRow row n cu q bst = msRow2 row n cu pl bst := by simp only [msRow, hp]; rw [if_pos hs]
      have e2 : msRes row n cu q = nI 2 := by simp only [msRes, hp]; rw [if_pos hs]
      rw [e, qNx_o (by rw [e2]; decide) (by rw [e2]; decide)]
      exact fw_low f (agr_msRow2 row n cu pl bst) ((msRow2_hi (by decide) (by decide)).trans e3) hq (fun k hk => by rw [msRow2_hi (by omega) (by omega)]; exact hray k hk) ⟨_, ms_bst_pl hn hcu hB hp (agr_msRow2 row n cu pl bst) (msRow2_4 hB.1)⟩ (fun k hk c hc => by rw [msRow2_hi (by omega) (by omega)]; exact f.2.2.2.2.2.2.2 k hk c hc)
    · by_cases h40 : q = 40
      · have e : msRow row n cu q bst = row := by simp only [msRow, hp]; rw [if_neg hs, if_pos h40]
        have e2 : msRes row n cu q = -3 := by simp only [msRes, hp]; rw [if_neg hs, if_pos h40]
        rw [e, qNx_o (by rw [e2]; decide) (by rw [e2]; decide)]
        exact f
      · have e2 : msRes row n cu q = nI 0 ∨ msRes row n cu q = nI 1 := by
          simp only [msRes, hp]
          rw [if_neg hs, if_neg h40]
          split
          · exact Or.inr rfl
          · exact Or.inl rfl
        have hR : msRow row n cu q bst = upd (cutR (msRow2 row n cu pl bst) q (oI (mMissed row n cu pl)) (msVal row n cu pl) cu) 3 (nI (q + 1)) := by simp only [msRow, hp]; rw [if_neg hs, if_neg h40]
        obtain ⟨h9, w', hB'⟩ := ms_next f.1 hB (by rcases e2 with e2 | e2 <;> rw [e2] <;> decide) (by rcases e2 with e2 | e2 <;> rw [e2] <;> decide)
        rw [qNx_s e2]
        refine fw_low f (ms_agr row n cu q bst) w'.2.2.2.2.1 w'.2.2.2.2.2.1 w'.2.2.2.2.2.2 ⟨_, hB'⟩ (fun k hk c hc => ?_)
        rw [hR, pk_un (by omega)]
        by_cases hkq : k = q
        · subst hkq
          unfold cutR
          rw [if_neg (by omega), if_pos (by omega)]
          exact val_ab f (by omega)
        · rw [cutR_lo (by omega), msRow2_hi (by omega) (by omega)]
          exact f.2.2.2.2.2.2.2 k (by omega) c hc
theorem fw_slv : ∀ (m : Nat) (row : Nat → Int32) (q : Nat) (bst : Option Nat) (k : Nat), FWf row n cu q → BstOk row n cu bst → FWf (slv n cu m row q bst k).1 n cu (cN ((slv n cu m row q bst k).1 3)) := by
  intro m
  induction m with
  | zero =>
    intro row q bst k f hB
    have h := fw_step f hB
    show FWf (msRow row n cu q bst) n cu (cN (msRow row n cu q bst 3))
    rw [fw_q h]; exact h
  | succ m ih =>
    intro row q bst k f hB
    by_cases h1 : msRes row n cu q < 0
    · rw [slv_neg _ _ h1]
      have h := fw_step f hB
      show FWf (msRow row n cu q bst) n cu (cN (msRow row n cu q bst 3))
      rw [fw_q h]; exact h
    · by_cases h2 : msRes row n cu q = nI 2
      · rw [slv_two _ _ h2]
        have h := fw_step f hB
        show FWf (msRow row n cu q bst) n cu (cN (msRow row n cu q bst 3))
        rw [fw_q h]; exact h
      · rw [slv_go _ _ h1 h2]
        obtain ⟨h9, w', hB'⟩ := ms_next f.1 hB h1 h2
        have h := fw_step f hB
        have e : qNx row n cu q = q + 1 := by
          have := fw_q h
          rw [w'.2.2.2.2.1] at this
          rw [← this]; exact nI_clamp (by omega)
        rw [e] at h
        exact ih _ _ _ _ h hB'
theorem fw_dropLoose (f : FWf row n cu q) : FWf (dlRow row n cu q) n cu (cN (dlRow row n cu q 3)) := by
  obtain ⟨e0, hn, e1, hcu, e3, hq, hray⟩ := id f.1
  cases hm : mMaster row n cu q with
  | none =>
    have e : dlRow row n cu q = row := by unfold dlRow; rw [hm]
    rw [e, fw_q f]; exact f
  | some pl =>
    rw [dlRow_eq hm]
    obtain ⟨h1, h2, h3, h4⟩ := dl_spec (pl := pl) (ab := mAbove row n cu q pl) f.1
    generalize hr : (dlR row n cu q pl (mAbove row n cu q pl)).1 = r at *
    rw [h1] at h3
    generalize hP : (fun k => mLoose row n cu k pl (mAbove row n cu q pl)) = P at *
    have hl := kpt_len P q
    have hA : Agr r row := fun j hj => h2 j (by omega) (by omega)
    obtain ⟨b, hb1, hb2⟩ := f.2.1
    have key : FWf r n cu (kpt P q).length := by
      refine fw_low f hA h3 (by omega) (fun i hi => ?_) ⟨b, (h2 4 (by decide) (by decide)).trans hb1, fun b' hb' => ⟨(hb2 b' hb').1, ?_⟩⟩ (fun i hi c hc => ?_)
      · have hj := List.getElem?_eq_getElem hi
        have hlt := kpt_lt P q _ (List.getElem_mem hi)
        have := h4 i _ hj 0 (by omega)
        rw [Nat.add_zero, Nat.add_zero] at this
        rw [this]; exact hray _ hlt
      · rw [agr_missed hA hn hcu]; exact (hb2 b' hb').2
      · have hj := List.getElem?_eq_getElem hi
        have hlt := kpt_lt P q _ (List.getElem_mem hi)
        have := h4 i _ hj (1 + c) (by omega)
        rw [← Nat.add_assoc, ← Nat.add_assoc] at this
        rw [this]; exact f.2.2.2.2.2.2.2 _ hlt c hc
    rw [fw_q key]; exact key
theorem fw_readCut (f : FWf row n cu q) (h40 : ¬ q = 40) {nums : Nat → Int32} (hnm : ∀ c, c < cu → Ab 200 (nums c)) : FWf (upd (cutR row q (-5) nums cu) 3 (nI (q + 1))) n cu (q + 1) := by
  obtain ⟨e0, hn, e1, hcu, e3, hq, hray⟩ := id f.1
  have hA : Agr (upd (cutR row q (-5) nums cu) 3 (nI (q + 1))) row := fun j hj => rc_lo (by omega) (by omega)
  obtain ⟨b, hb1, hb2⟩ := f.2.1
  refine fw_low f hA pk_us (by omega) (fun k hk => ?_) ⟨b, (rc_lo (by decide) (by omega)).trans hb1, fun b' hb' => ⟨(hb2 b' hb').1, ?_⟩⟩ (fun k hk c hc => ?_)
  · by_cases hkq : k = q
    · subst hkq; rw [pk_un (by omega)]; unfold cutR; rw [if_pos rfl]; exact Or.inl rfl
    · rw [rc_lo (by omega) (by omega)]; exact hray k (by omega)
  · rw [agr_missed hA hn hcu]; exact (hb2 b' hb').2
  · by_cases hkq : k = q
    · subst hkq; rw [pk_un (by omega)]; unfold cutR; rw [if_neg (by omega), if_pos (by omega)]
      exact hnm _ (by omega)
    · rw [rc_lo (by omega) (by omega)]; exact f.2.2.2.2.2.2.2 k (by omega) c hc
end FWS
