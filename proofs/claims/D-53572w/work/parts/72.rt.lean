/-! what is read of a text: no matter what stood in the array, nor behind the text's end -/
section RDT
variable {txt txt' : Nat → Int32} {ln : Nat}
theorem sees_cg (h : ∀ i, i < ln → txt i = txt' i) (pa : Nat) (lo hi : Int32) : mSees txt ln pa lo hi = mSees txt' ln pa lo hi := by
  unfold mSees
  by_cases h1 : ln ≤ pa
  · rw [if_pos h1, if_pos h1]
  · rw [if_neg h1, if_neg h1, h pa (by omega)]
theorem rdV_cg (h : ∀ i, i < ln → txt i = txt' i) {pa : Nat} (hp : pa < ln) : rdV txt ln pa = rdV txt' ln pa := by
  unfold rdV
  rw [h pa hp, sees_cg h]
  by_cases h1 : txt' pa - nI 48 ≤ 0
  · rw [if_pos h1, if_pos h1]
  · rw [if_neg h1, if_neg h1]
    by_cases h2 : mSees txt' ln (pa + 1) (nI 48) (nI 57) = false
    · rw [if_pos h2, if_pos h2]
    · rw [if_neg h2, if_neg h2, h (pa + 1) (mSees_lt (bt h2))]
theorem rdN_tx (h : ∀ i, i < ln → txt i = txt' i) : ∀ (r c pa : Nat) (rd : Nat → Int32), rdN txt ln r c pa rd = rdN txt' ln r c pa rd := by
  intro r
  induction r with
  | zero => intro c pa rd; rfl
  | succ r ih =>
    intro c pa rd
    rw [rdN, rdN, sees_cg h, sees_cg h]
    by_cases h1 : c ≠ 0 ∧ mSees txt' ln pa (nI 44) (nI 44) = false
    · rw [if_pos h1, if_pos h1]
    · rw [if_neg h1, if_neg h1]
      by_cases h2 : mSees txt' ln (rdP c pa) (nI 48) (nI 57) = false
      · rw [if_pos h2, if_pos h2]
      · rw [if_neg h2, if_neg h2, rdV_cg h (mSees_lt (bt h2)), ih]
theorem rdN_rd : ∀ (r c pa : Nat) (rd rd' : Nat → Int32), (∀ i, i < c → rd i = rd' i) → (rdN txt ln r c pa rd).1 = (rdN txt ln r c pa rd').1 ∧ (rdN txt ln r c pa rd).2.1 = (rdN txt ln r c pa rd').2.1 ∧ ((rdN txt ln r c pa rd).1 = true → ∀ i, i < c + r → (rdN txt ln r c pa rd).2.2 i = (rdN txt ln r c pa rd').2.2 i) := by
  intro r
  induction r with
  | zero => intro c pa rd rd' h; exact ⟨rfl, rfl, fun _ i hi => h i hi⟩
  | succ r ih =>
    intro c pa rd rd' h
    rw [rdN, rdN]
    by_cases h1 : c ≠ 0 ∧ mSees txt ln pa (nI 44) (nI 44) = false
    · rw [if_pos h1, if_pos h1]; exact ⟨rfl, rfl, fun h9 => by cases h9⟩
    · rw [if_neg h1, if_neg h1]
      by_cases h2 : mSees txt ln (rdP c pa) (nI 48) (nI 57) = false
      · rw [if_pos h2, if_pos h2]; exact ⟨rfl, rfl, fun h9 => by cases h9⟩
      · rw [if_neg h2, if_neg h2]
        obtain ⟨a1, a2, a3⟩ := ih (c + 1) (rdV txt ln (rdP c pa)).2 (upd rd c (rdV txt ln (rdP c pa)).1) (upd rd' c (rdV txt ln (rdP c pa)).1) (fun i hi => by
          by_cases e : i = c
          · subst e; rw [pk_us, pk_us]
          · rw [pk_un e, pk_un e]; exact h i (by omega))
        exact ⟨a1, a2, fun h9 i hi => a3 h9 i (by omega)⟩
theorem rdV_ab {pa : Nat} (h : mSees txt ln pa (nI 48) (nI 57) = true) : Ab 200 (rdV txt ln pa).1 := by
  have see : ∀ p, mSees txt ln p (nI 48) (nI 57) = true → mIn (txt p) (nI 48) (nI 57) = true := by
    intro p hp
    unfold mSees at hp
    split at hp
    · cases hp
    · split at hp
      · cases hp
      · rename_i h9
        exact bt h9
  have d1 : Ab 9 (txt pa - nI 48) := by
    have h1 := see pa h
    have h2 := in_lo h1
    have h3 := in_hi h1
    rw [Int32.lt_iff_toInt_lt, nI_toInt (by decide)] at h2 h3
    have e := sub_toInt (in_ab (by decide) (by decide) h1).1 (ab_nI (Nat.le_refl 48) (by decide)) (by decide)
    rw [nI_toInt (by decide)] at e
    exact ⟨by omega, by omega⟩
  unfold rdV
  split
  · exact ab_mono (by omega) d1
  · split
    · exact ab_mono (by omega) d1
    · rename_i h5
      have h1 := (in_ab (by decide) (by decide) (see (pa + 1) (bt h5))).1
      exact ab_mono (m := 10 * 9 + 57 + 48) (by omega) (ab_sub (ab_add (ab_mul (ab_nI (Nat.le_refl 10) (by decide)) d1 (by decide)) h1 (by decide)) (ab_nI (Nat.le_refl 48) (by decide)) (by decide))
theorem rdN_ab : ∀ (r c pa : Nat) (rd : Nat → Int32), (∀ i, i < c → Ab 200 (rd i)) → (rdN txt ln r c pa rd).1 = true → ∀ i, i < c + r → Ab 200 ((rdN txt ln r c pa rd).2.2 i) := by
  intro r
  induction r with
  | zero => intro c pa rd h _ i hi; exact h i hi
  | succ r ih =>
    intro c pa rd h
    rw [rdN]
    by_cases h1 : c ≠ 0 ∧ mSees txt ln pa (nI 44) (nI 44) = false
    · rw [if_pos h1]; intro h9; cases h9
    · rw [if_neg h1]
      by_cases h2 : mSees txt ln (rdP c pa) (nI 48) (nI 57) = false
      · rw [if_pos h2]; intro h9; cases h9
      · rw [if_neg h2]
        intro h9 i hi
        exact ih (c + 1) _ _ (fun j hj => by
          by_cases e : j = c
          · subst e; rw [pk_us]; exact rdV_ab (bt h2)
          · rw [pk_un e]; exact h j (by omega)) h9 i (by omega)
theorem cutR_cg {row v v' : Nat → Int32} {q k : Nat} {hd : Int32} (h : ∀ c, c < k → v c = v' c) : cutR row q hd v k = cutR row q hd v' k := by
  funext j
  unfold cutR
  by_cases h1 : j = 84 + 9 * q
  · rw [if_pos h1, if_pos h1]
  · rw [if_neg h1, if_neg h1]
    by_cases h2 : 84 + 9 * q + 1 ≤ j ∧ j < 84 + 9 * q + 1 + k
    · rw [if_pos h2, if_pos h2]; exact h _ (by omega)
    · rw [if_neg h2, if_neg h2]
/-- the two readings of a text agree -/
theorem rc_tie (h : ∀ i, i < ln → txt i = txt' i) (cu q : Nat) (rd rd' : Nat → Int32) : rRc txt ln cu q rd = rRc txt' ln cu q rd' ∧ okRc txt ln cu q rd = okRc txt' ln cu q rd' := by
  obtain ⟨a1, a2, -⟩ := rdN_rd (txt := txt) (ln := ln) cu 0 0 rd rd' (fun i hi => by omega)
  unfold rRc okRc
  rw [a1, a2, rdN_tx h]
  exact ⟨rfl, rfl⟩
theorem rc_row (h : ∀ i, i < ln → txt i = txt' i) {row : Nat → Int32} {cu q : Nat} {rd rd' : Nat → Int32} (hk : okRc txt ln cu q rd = true) : upd (cutR row q (-5) (rdN txt ln cu 0 0 rd).2.2 cu) 3 (nI (q + 1)) = upd (cutR row q (-5) (rdN txt' ln cu 0 0 rd').2.2 cu) 3 (nI (q + 1)) := by
  have h1 : (rdN txt ln cu 0 0 rd).1 = true := by
    refine bt (fun e => ?_)
    unfold okRc at hk
    rw [e] at hk
    split at hk <;> cases hk
  obtain ⟨-, -, a3⟩ := rdN_rd (txt := txt) (ln := ln) cu 0 0 rd rd' (fun i hi => by omega)
  rw [cutR_cg (fun c hc => a3 h1 c (by omega)), rdN_tx h]
theorem rc_40 {cu q : Nat} {rd : Nat → Int32} (hk : okRc txt ln cu q rd = true) : ¬ q = 40 ∧ (rdN txt ln cu 0 0 rd).1 = true := by
  have h1 : (rdN txt ln cu 0 0 rd).1 = true := by
    refine bt (fun e => ?_)
    unfold okRc at hk
    rw [e] at hk
    split at hk <;> cases hk
  refine ⟨fun e => ?_, h1⟩
  unfold okRc at hk
  rw [h1, if_pos e] at hk
  split at hk <;> simp at hk
end RDT
