theorem loose_cg {r1 r2 : Nat → Int32} {n cu k pl : Nat} {ab : Int32} (hA : Agr r1 r2) (hn : n ≤ 7) (hcu : cu ≤ 8) (hr : ∀ t, t < 9 → r1 (84 + 9 * k + t) = r2 (84 + 9 * k + t)) (hk : mRay r2 k = true → ∃ c, c < 8 ∧ r2 (84 + 9 * k) = nI c) : mLoose r1 n cu k pl ab = mLoose r2 n cu k pl ab := by
  have h0 : r1 (84 + 9 * k) = r2 (84 + 9 * k) := hr 0 (by omega)
  have e1 : mRay r1 k = mRay r2 k := by unfold mRay; rw [h0]
  have hN : ∀ c, c < cu → r1 (84 + 9 * k + 1 + c) = r2 (84 + 9 * k + 1 + c) := fun c hc => by rw [Nat.add_assoc (84 + 9 * k)]; exact hr (1 + c) (by omega)
  have e3 : mConst r1 cu k = mConst r2 cu k := iter_cg (fun c hc a => by unfold mCoS; rw [hN c hc, hA (13 + c) (Or.inr (by omega))]) _
  have e4 : ∀ s, s < n → mWeight r1 cu k s = mWeight r2 cu k s := fun s hs => iter_cg (fun c hc a => by unfold mWtS; rw [hN c hc, hA (13 + c) (Or.inr (by omega)), hA (21 + 8 * s + c) (Or.inr (by omega))]) _
  have e5 : mValue r1 n cu k pl = mValue r2 n cu k pl := by
    unfold mValue
    rw [e3]
    exact iter_cg (fun s hs a => by unfold mVlS; rw [e4 s hs]) _
  unfold mLoose
  rw [e1, e5]
  cases hm : mRay r2 k with
  | false => rw [if_pos rfl, if_pos rfl]
  | true =>
    obtain ⟨c, hc, ec⟩ := hk hm
    have e6 : mAsked r1 n k pl = mAsked r2 n k pl := by
      unfold mAsked
      rw [h0, ec, nI_clamp (by omega), agr_reach hA hn hc]
    rw [e6]
def DlI (row : Nat → Int32) (P : Nat → Bool) (q m : Nat) (a : (Nat → Int32) × Nat) : Prop := ∃ L : List Nat, kpt P q = kpt P m ++ L ∧ a.2 = m + L.length ∧ (∀ j, j ≠ 3 → j < 84 → a.1 j = row j) ∧ a.1 3 = nI a.2 ∧ (∀ k, k < m → ∀ t, t < 9 → a.1 (84 + 9 * k + t) = row (84 + 9 * k + t)) ∧ (∀ x b, L[x]? = some b → ∀ t, t < 9 → a.1 (84 + 9 * (m + x) + t) = row (84 + 9 * b + t)) ∧ m + L.length ≤ q
theorem dl_st {row : Nat → Int32} {P : Nat → Bool} {q k : Nat} {a : (Nat → Int32) × Nat} (hq : q ≤ 40) (h : DlI row P q (k + 1) a) : DlI row P q k (if P k = true then (dOne a.1 a.2 k, a.2 - 1) else a) := by
  obtain ⟨L, h1, h2, h3, h4, h5, h6, h7⟩ := h
  cases hp : P k with
  | true =>
    rw [if_pos rfl]
    rw [kpt_t hp] at h1
    refine ⟨L, h1, by show a.2 - 1 = _; omega, fun j hj hj2 => ?_, ?_, fun k' hk' t ht => ?_, fun i' j' hj' t ht => ?_, by omega⟩
    · show dOne a.1 a.2 k j = _
      rw [dOne_lo hj (by omega)]; exact h3 j hj hj2
    · show dOne a.1 a.2 k 3 = nI (a.2 - 1)
      unfold dOne; exact pk_us
    · show dOne a.1 a.2 k _ = _
      rw [dOne_lo (by omega) (by omega)]; exact h5 k' (by omega) t ht
    · show dOne a.1 a.2 k _ = _
      have hi' := (List.getElem?_eq_some_iff.mp hj').1
      rw [dOne_hi (by omega) (by omega), ← h6 i' j' hj' t ht]
      exact congrArg a.1 (by omega)
  | false =>
    rw [if_neg (by decide)]
    rw [kpt_f hp, List.append_assoc] at h1
    refine ⟨k :: L, h1, by rw [h2, List.length_cons]; omega, h3, h4, fun k' hk' t ht => h5 k' (by omega) t ht, fun i' j' hj' t ht => ?_, by rw [List.length_cons]; omega⟩
    cases i' with
    | zero => cases hj'; exact h5 k (by omega) t ht
    | succ i' =>
      rw [← h6 i' j' hj' t ht]
      exact congrArg a.1 (by omega)
theorem dl_spec {row : Nat → Int32} {n cu q pl : Nat} {ab : Int32} (w : MWf row n cu q) : (dlR row n cu q pl ab).2 = (kpt (fun k => mLoose row n cu k pl ab) q).length ∧ (∀ j, j ≠ 3 → j < 84 → (dlR row n cu q pl ab).1 j = row j) ∧ (dlR row n cu q pl ab).1 3 = nI (dlR row n cu q pl ab).2 ∧ ∀ i j, (kpt (fun k => mLoose row n cu k pl ab) q)[i]? = some j → ∀ t, t < 9 → (dlR row n cu q pl ab).1 (84 + 9 * i + t) = row (84 + 9 * j + t) := by
  obtain ⟨e0, hn, e1, hcu, e3, hq, hray⟩ := id w
  have key : ∀ i, i ≤ q → DlI row (fun k => mLoose row n cu k pl ab) q (q - i) (iter (dlS n cu q pl ab) i 0 (row, q)) := by
    intro i
    induction i with
    | zero => intro _; exact ⟨[], by rw [List.append_nil]; rfl, rfl, fun _ _ _ => rfl, e3, fun _ _ _ _ => rfl, (fun a b h => by cases h), Nat.le_refl _⟩
    | succ i ih =>
      intro hi
      have h := ih (by omega)
      rw [iter_s, Nat.zero_add]
      revert h
      generalize iter (dlS n cu q pl ab) i 0 (row, q) = a
      intro h
      obtain ⟨k, hk⟩ : ∃ k, k = q - 1 - i := ⟨_, rfl⟩
      have ea : q - i = k + 1 := by omega
      have eb : q - (i + 1) = k := by omega
      rw [ea] at h
      rw [eb]
      have hl : mLoose a.1 n cu k pl ab = mLoose row n cu k pl ab := by
        obtain ⟨L, h1, h2, h3, h4, h5, h6, h7⟩ := id h
        exact loose_cg (fun j hj => h3 j (by omega) (by omega)) hn hcu (h5 k (by omega)) (fun hm => ray_of w (by omega) hm)
      have := dl_st hq h
      unfold dlS
      rw [← hk, hl]
      exact this
  obtain ⟨L, h1, h2, h3, h4, h5, h6, h7⟩ := key q (Nat.le_refl _)
  rw [Nat.sub_self] at h1 h2 h6
  have hL : kpt (fun k => mLoose row n cu k pl ab) q = L := by rw [h1]; rfl
  refine ⟨by rw [hL]; unfold dlR; rw [h2, Nat.zero_add], h3, h4, fun i j hj t ht => ?_⟩
  rw [hL] at hj
  have := h6 i j hj t ht
  rw [Nat.zero_add] at this
  exact this
theorem dlC_len (row : Nat → Int32) (n cu pl : Nat) (ab : Int32) : ∀ q, iter (dlC row n cu pl ab) q 0 0 + (kpt (fun k => mLoose row n cu k pl ab) q).length = q := by
  intro q
  induction q with
  | zero => rfl
  | succ q ih =>
    cases h : mLoose row n cu q pl ab with
    | true => rw [dlC_t h, kpt_t (P := fun k => mLoose row n cu k pl ab) h]; omega
    | false => rw [dlC_f h, kpt_f (P := fun k => mLoose row n cu k pl ab) h, List.length_append]; show _ + (_ + 1) = _; omega
theorem dlC_le (row : Nat → Int32) (n cu pl : Nat) (ab : Int32) (q : Nat) : iter (dlC row n cu pl ab) q 0 0 ≤ q := by have := dlC_len row n cu pl ab q; omega
theorem dlAb_eq (row : Nat → Int32) (n cu q pl : Nat) : dlAb row n cu q pl = mAbove row n cu q pl := by
  unfold dlAb mGuess
  rw [Int32.add_comm, Int32.add_sub_cancel]
section DLX
variable {row : Nat → Int32} {n cu q pl : Nat}
theorem okDl_n (h : mMaster row n cu q = none) : okDl row n cu q = false := by unfold okDl; rw [h]
theorem rDl_n (h : mMaster row n cu q = none) : rDl row n cu q = -4 := by unfold rDl; rw [h]
theorem okDl_0 (h : mMaster row n cu q = some pl) (h0 : iter (dlC row n cu pl (mAbove row n cu q pl)) q 0 0 = 0) : okDl row n cu q = false := by
  unfold okDl dlN; rw [h]; dsimp only; rw [dlAb_eq]; exact if_pos h0
theorem rDl_0 (h : mMaster row n cu q = some pl) (h0 : iter (dlC row n cu pl (mAbove row n cu q pl)) q 0 0 = 0) : rDl row n cu q = -5 := by
  unfold rDl dlN; rw [h]; dsimp only; rw [dlAb_eq]; exact if_pos h0
theorem okDl_t (h : mMaster row n cu q = some pl) (h0 : ¬ iter (dlC row n cu pl (mAbove row n cu q pl)) q 0 0 = 0) : okDl row n cu q = true := by
  unfold okDl dlN; rw [h]; dsimp only; rw [dlAb_eq]; exact if_neg h0
theorem rDl_t (h : mMaster row n cu q = some pl) (h0 : ¬ iter (dlC row n cu pl (mAbove row n cu q pl)) q 0 0 = 0) : rDl row n cu q = nI (iter (dlC row n cu pl (mAbove row n cu q pl)) q 0 0) := by
  unfold rDl dlN; rw [h]; dsimp only; rw [dlAb_eq]; exact if_neg h0
theorem dlRow_eq (h : mMaster row n cu q = some pl) : dlRow row n cu q = (dlR row n cu q pl (mAbove row n cu q pl)).1 := by
  unfold dlRow; rw [h]; dsimp only; rw [dlAb_eq]
theorem dl_r (h : mMaster row n cu q = some pl) (h2 : ∀ j, j ≠ 3 → j < 84 → (dlR row n cu q pl (mAbove row n cu q pl)).1 j = row j) {j : Nat} (h3 : j ≠ 3) (hj : j < 84) : dlRow row n cu q j = row j := by rw [dlRow_eq h]; exact h2 j h3 hj
theorem dl_r2 (h : mMaster row n cu q = some pl) {j : Nat} : dlRow row n cu q j = (dlR row n cu q pl (mAbove row n cu q pl)).1 j := by rw [dlRow_eq h]
theorem dl_q (h : mMaster row n cu q = some pl) {L : Nat} (h1 : (dlR row n cu q pl (mAbove row n cu q pl)).2 = L) (h3 : (dlR row n cu q pl (mAbove row n cu q pl)).1 3 = nI (dlR row n cu q pl (mAbove row n cu q pl)).2) (hL : L ≤ 40) : cN (dlRow row n cu q 3) = L := by
  rw [dlRow_eq h]
  unfold cN
  rw [h3, h1, nI_clamp (by omega)]
end DLX
theorem cuts_kp {dA : Nat → ClassId} {FZ FZ' : va_W} {row row' : Nat → Int32} {cu q : Nat} {ob : Option (Nat × Nat)} {fe fe1 fe4 : Nat → Option Nat} {P : Nat → Bool} (hlo : LOk ob q) (h : CutsOk dA FZ row cu q fe) (hcu : cu ≤ 8) (hF : ∀ x ∈ FZ, x ∈ FZ') (h1 : ∀ i, i < q → fe1 i = fOf ob fe i) (h2 : KpOk fe1 fe4 (kpt P q)) (hr : ∀ i j, (kpt P q)[i]? = some j → ∀ t, t < 9 → row' (84 + 9 * i + t) = row (84 + 9 * j + t)) : CutsOk dA FZ' row' cu (kpt P q).length fe4 := by
  have hf := cutsOk_f hlo h
  intro i hi
  have hj := List.getElem?_eq_getElem hi
  have hlt := kpt_lt P q _ (List.getElem_mem hi)
  obtain ⟨ka, a1, a2⟩ := hf _ hlt
  exact ⟨ka, by rw [h2 i _ hj, h1 _ hlt]; exact a1, (a2.mono hF).row (fun t ht => hr i _ hj t ht) hcu⟩

set_option maxHeartbeats 4000000 in
theorem xw_dropLoose (l : Launch) (D : va_G) (dA : Nat → ClassId) (E : Nat) (ad : Nat → Nat) (sz0 mi : Nat) (lc : Nat → ClassId) (x0 hi tb : Nat) (snv : Value) (mh : Int32) (hs : Nat) (obh : Option (Nat × Nat)) (feh : Nat → Option Nat) (hlh : LOk obh hs) (hhs : hs ≤ 4) (FZ : va_W) (hhe : ∀ i, i < hs → ∃ y, feh i = some y ∧ OkEl FZ y) (sa la lp lx ld lr lq : Nat) (row : Nat → Int32) {n cu : Nat} (hn : n ≤ 7) (hcu : cu ≤ 8) (md0 : Int32) (q : Nat) (ob0 : Option (Nat × Nat)) (fe0 : Nat → Option Nat) (hlo0 : LOk ob0 q) (hq40 : q ≤ 40) (hco : CutsOk dA FZ row cu q fe0) (hmem : ∀ x ∈ stW dA E ((sa, la, lp, lx, ld, lr, lq), md0, ob0, fe0) row n cu q, x ∈ FZ) (w : MWf row n cu q) (hup : Up sz0 ((x0, .inr (0, [.ref sa, snv, .ref hi, .ref tb])) :: lsW dA E hi mh hs obh feh)) (hap : Apart FZ ((x0, .inr (0, [.ref sa, snv, .ref hi, .ref tb])) :: lsW dA E hi mh hs obh feh)) : EX l yX0_dropLoose cX0_dropLoose 4 (some .int) 12 3720 80 3400 [.ref x0] (G2 D dA E ad sz0 mi lc) D ((x0, .inr (0, [.ref sa, snv, .ref hi, .ref tb])) :: lsW dA E hi mh hs obh feh) (fun H => va_P D vwCl FZ H) (S := va_W × AO) (fun u _ => WrOk dA E FZ (okDl row n cu q) sa mh hs obh feh (dlRow row n cu q) n cu (cN (dlRow row n cu q 3)) u) (fun _ => some (.int (rDl row n cu q))) (fun u => u.1 ++ ((x0, .inr (0, [.ref u.2.1, snv, .ref hi, .ref tb])) :: lsW dA E hi u.2.2.1 u.2.2.2.1 u.2.2.2.2.1 u.2.2.2.2.2)) := by
  refine ex_of (by decide) (Nat.le_of_ble_eq_true rfl) ?_
  intro p e s m below meth c A S hrt hlk hnm GG hA hAe hΦ H locs hP hD hS ls hl
  obtain ⟨hx, hb, hml, hown, hts⟩ := id S
  have G := GG.1
  have K := G.1.1
  have hA0 := up_A hup G.1.2.2.2.2.2.2 hAe
  have h2n := pow7 hn
  have hFA := ap_A hΦ hap hAe
  have hP : va_P D vwCl ((x0, .inr (0, [.ref sa, snv, .ref hi, .ref tb])) :: ((hi, .inr (4, [.int mh, .ref (dOf E obh), .int (nI hs)])) :: (lsT dA obh feh))) H := hP
  have hD : va_D A ((x0, .inr (0, [.ref sa, snv, .ref hi, .ref tb])) :: ((hi, .inr (4, [.int mh, .ref (dOf E obh), .int (nI hs)])) :: (lsT dA obh feh))) := hD
  have hl : lv_has ls 4 [(0, .ref x0)] := hl
  refine lv_aload_n hx hb dX0_dropLoose_0 rfl (lv_at hl 0 rfl) ?_
  refine va_get (D := D) (ci := 0) (C := RX0) (T := TX0) (N := 4) hx hb hts in_X0 hown K hP 0 rfl rfl 0 (by decide) (hts _ q222) (fun _ h9 => h9) rfl dX0_dropLoose_1 ?_
  refine x_ecallP (va_runV (As := []) (rest := []) S (xs_master l D dA E ad sz0 mi lc sa la lp lx ld lr lq row hn hcu (row 4) (row 5) md0 (dOf E ob0) q (pOf ob0) (fOf ob0 fe0) FZ (lOk_r hlo0) (cutsOk_f hlo0 hco) (fun _ h => by cases h) (fun _ _ _ h => by cases h) H.size) (cwV 0 hts (lw_V q804 q446 q447 q60 q448) rfl rfl rfl hdX1_master ⟨Nat.le_of_ble_eq_true rfl, Nat.le_of_ble_eq_true rfl⟩) ⟨pe_blind g2_bl _, va_recv K (srcF (fz_S hΦ hFA hS) hmem (e_P G.1 (low_of hS hA0 G.1.2.2.2.2.2.2))) (ci := 1) (q0 := 0) rfl rfl, pe_pre (g2_mv GG (low_of hS hA0 G.1.2.2.2.2.2.2) hS.1) (hP.sub [] rfl) (hD.sub [] rfl rfl) ⟨(srcF (fz_S hΦ hFA hS) hmem (e_P G.1 (low_of hS hA0 G.1.2.2.2.2.2.2))), (fz_S hΦ hFA hS)⟩ _⟩ rfl rfl hl.1 rfl (lv_room (Nat.le_of_ble_eq_true rfl)) dX0_dropLoose_4 ⟨Nat.le_of_ble_eq_true rfl, Nat.le_of_ble_eq_true rfl⟩) hP hD hS hA ((x0, .inr (0, [.ref sa, snv, .ref hi, .ref tb])) :: ((hi, .inr (4, [.int mh, .ref (dOf E obh), .int (nI hs)])) :: (lsT dA obh feh))) pm_nil (fun _u H locs hΨ hP hD hS hkp hsz hDn => ?_)
  rw [List.append_nil] at hP hD
  have hP : va_P D vwCl ((x0, .inr (0, [.ref sa, snv, .ref hi, .ref tb])) :: ((hi, .inr (4, [.int mh, .ref (dOf E obh), .int (nI hs)])) :: (lsT dA obh feh))) H := hP
  have hD : va_D A ((x0, .inr (0, [.ref sa, snv, .ref hi, .ref tb])) :: ((hi, .inr (4, [.int mh, .ref (dOf E obh), .int (nI hs)])) :: (lsT dA obh feh))) := hD
  refine W.widen (k := 2) (n := 2) (Nat.le_of_ble_eq_true rfl) (Nat.le_of_ble_eq_true rfl) ?_
  refine lv_istore_n (lv' := [(1, .int (oI (mMaster row n cu q))), (0, .ref x0)]) hx hb dX0_dropLoose_7 rfl hl (by decide) rfl (fun ls hl => ?_)
  refine lv_iload_n hx hb dX0_dropLoose_8 rfl (lv_at hl 0 rfl) ?_
  refine lv_bipush (v := -5) hx hb dX0_dropLoose_9 (by decide) ?_
  refine x_icmpo_ne (tgt := 17) hx hb dX0_dropLoose_11 (by decide) (fun b hb => by have := mMaster_lt hb; omega) (fun pl h_1 => ?_) (fun h_1 => ?_)
  · have hpl := h_1
    have hplt := mMaster_lt h_1
    refine lv_aload_n hx hb dX0_dropLoose_17 rfl (lv_at hl 1 rfl) ?_
    refine va_get (D := D) (ci := 0) (C := RX0) (T := TX0) (N := 4) hx hb hts in_X0 hown K hP 0 rfl rfl 0 (by decide) (hts _ q222) (fun _ h9 => h9) rfl dX0_dropLoose_18 ?_
    refine x_ecallP (va_runV (As := []) (rest := []) S (xs_copy l D dA E ad sz0 mi sa la lp lx ld lr lq row n cu md0 (dOf E ob0) q (pOf ob0) (fOf ob0 fe0) FZ (lOk_r hlo0) (cutsOk_f hlo0 hco).el (fun _ h => by cases h) (fun _ _ _ h => by cases h) H.size) (cwV 0 hts (lw_V q246 q247 q248 q60 q249) rfl rfl rfl hdX1_copy ⟨Nat.le_of_ble_eq_true rfl, Nat.le_of_ble_eq_true rfl⟩) ⟨pe_blind g1_bl _, va_recv K (srcF (fz_S hΦ hFA hS) hmem (e_P G.1 (low_of hS hA0 G.1.2.2.2.2.2.2))) (ci := 1) (q0 := 0) rfl rfl, pe_pre (g1_mv G (low_of hS hA0 G.1.2.2.2.2.2.2) hS.1) (hP.sub [] rfl) (hD.sub [] rfl rfl) ⟨(srcF (fz_S hΦ hFA hS) hmem (e_P G.1 (low_of hS hA0 G.1.2.2.2.2.2.2))), (fz_S hΦ hFA hS)⟩ _⟩ rfl rfl hl.1 rfl (lv_room (Nat.le_of_ble_eq_true rfl)) dX0_dropLoose_21 ⟨Nat.le_of_ble_eq_true rfl, Nat.le_of_ble_eq_true rfl⟩) hP hD hS hA ((x0, .inr (0, [.ref sa, snv, .ref hi, .ref tb])) :: ((hi, .inr (4, [.int mh, .ref (dOf E obh), .int (nI hs)])) :: (lsT dA obh feh))) pm_nil (fun u1 H locs hΨ hP hD hS hkp hsz hDn => ?_)
    obtain ⟨⟨sa1, la1, lp1, lx1, ld1, lr1, lq1⟩, md1, ob1, fe1⟩ := u1
    have hP := vP_perm (pmJ ([[(x0, .inr (0, [.ref sa, snv, .ref hi, .ref tb]))], [(hi, .inr (4, [.int mh, .ref (dOf E obh), .int (nI hs)]))], (lsT dA obh feh)] : List va_W) ([[(sa1, .inr (1, [.ref la1, .ref lq1, .int (row 4), .int (row 5)]))], [(la1, .inr (2, [.ref lp1, .ref lx1, .ref ld1, .ref lr1, .int (nI n), .int (nI cu), .int (row 2)]))], [(lp1, .inl (dA 0, 7, .inl (fun k => row (6 + k))))], [(lx1, .inl (dA 0, 7, .inl (fun k => row (77 + k))))], [(ld1, .inl (dA 0, 8, .inl (fun k => row (13 + k))))], [(lr1, .inl (dA 0, 56, .inl (fun k => row (21 + k))))], [(lq1, .inr (4, [.int md1, .ref (dOf E ob1), .int (nI q)]))], (lsT dA ob1 fe1)] : List va_W) [0, 1, 3, 4, 5, 6, 7, 8, 9, 2, 10] rfl) hP
    have hD := vD_perm (pmJ ([[(x0, .inr (0, [.ref sa, snv, .ref hi, .ref tb]))], [(hi, .inr (4, [.int mh, .ref (dOf E obh), .int (nI hs)]))], (lsT dA obh feh)] : List va_W) ([[(sa1, .inr (1, [.ref la1, .ref lq1, .int (row 4), .int (row 5)]))], [(la1, .inr (2, [.ref lp1, .ref lx1, .ref ld1, .ref lr1, .int (nI n), .int (nI cu), .int (row 2)]))], [(lp1, .inl (dA 0, 7, .inl (fun k => row (6 + k))))], [(lx1, .inl (dA 0, 7, .inl (fun k => row (77 + k))))], [(ld1, .inl (dA 0, 8, .inl (fun k => row (13 + k))))], [(lr1, .inl (dA 0, 56, .inl (fun k => row (21 + k))))], [(lq1, .inr (4, [.int md1, .ref (dOf E ob1), .int (nI q)]))], (lsT dA ob1 fe1)] : List va_W) [0, 1, 3, 4, 5, 6, 7, 8, 9, 2, 10] rfl) hD
    have hP : va_P D vwCl ((x0, .inr (0, [.ref sa, snv, .ref hi, .ref tb])) :: ((hi, .inr (4, [.int mh, .ref (dOf E obh), .int (nI hs)])) :: ((sa1, .inr (1, [.ref la1, .ref lq1, .int (row 4), .int (row 5)])) :: ((la1, .inr (2, [.ref lp1, .ref lx1, .ref ld1, .ref lr1, .int (nI n), .int (nI cu), .int (row 2)])) :: ((lp1, .inl (dA 0, 7, .inl (fun k => row (6 + k)))) :: ((lx1, .inl (dA 0, 7, .inl (fun k => row (77 + k)))) :: ((ld1, .inl (dA 0, 8, .inl (fun k => row (13 + k)))) :: ((lr1, .inl (dA 0, 56, .inl (fun k => row (21 + k)))) :: ((lq1, .inr (4, [.int md1, .ref (dOf E ob1), .int (nI q)])) :: ((lsT dA obh feh) ++ (lsT dA ob1 fe1))))))))))) H := hP
    have hD : va_D A ((x0, .inr (0, [.ref sa, snv, .ref hi, .ref tb])) :: ((hi, .inr (4, [.int mh, .ref (dOf E obh), .int (nI hs)])) :: ((sa1, .inr (1, [.ref la1, .ref lq1, .int (row 4), .int (row 5)])) :: ((la1, .inr (2, [.ref lp1, .ref lx1, .ref ld1, .ref lr1, .int (nI n), .int (nI cu), .int (row 2)])) :: ((lp1, .inl (dA 0, 7, .inl (fun k => row (6 + k)))) :: ((lx1, .inl (dA 0, 7, .inl (fun k => row (77 + k)))) :: ((ld1, .inl (dA 0, 8, .inl (fun k => row (13 + k)))) :: ((lr1, .inl (dA 0, 56, .inl (fun k => row (21 + k)))) :: ((lq1, .inr (4, [.int md1, .ref (dOf E ob1), .int (nI q)])) :: ((lsT dA obh feh) ++ (lsT dA ob1 fe1))))))))))) := hD
    refine W.widen (k := 22) (n := 402) (Nat.le_of_ble_eq_true rfl) (Nat.le_of_ble_eq_true rfl) ?_
    have hΨc : LOk ob1 q ∧ ∀ i, i < q → fe1 i = fOf ob0 fe0 i := hΨ
    refine lv_astore_n (lv' := [(2, .ref sa1), (1, .int (oI (mMaster row n cu q))), (0, .ref x0)]) hx hb dX0_dropLoose_24 rfl hl (by decide) rfl (fun ls hl => ?_)
    refine lv_aload_n hx hb dX0_dropLoose_25 rfl (lv_at hl 0 rfl) ?_
    refine lv_iload_n hx hb dX0_dropLoose_26 rfl (lv_at hl 1 rfl) ?_
    refine x_top (y := nI pl) (by rw [h_1]; rfl) ?_
    have hpm : (((x0, .inr (0, [.ref sa, snv, .ref hi, .ref tb])) :: ((hi, .inr (4, [.int mh, .ref (dOf E obh), .int (nI hs)])) :: ((sa1, .inr (1, [.ref la1, .ref lq1, .int (row 4), .int (row 5)])) :: ((la1, .inr (2, [.ref lp1, .ref lx1, .ref ld1, .ref lr1, .int (nI n), .int (nI cu), .int (row 2)])) :: ((lp1, .inl (dA 0, 7, .inl (fun k => row (6 + k)))) :: ((lx1, .inl (dA 0, 7, .inl (fun k => row (77 + k)))) :: ((ld1, .inl (dA 0, 8, .inl (fun k => row (13 + k)))) :: ((lr1, .inl (dA 0, 56, .inl (fun k => row (21 + k)))) :: ((lq1, .inr (4, [.int md1, .ref (dOf E ob1), .int (nI q)])) :: ((lsT dA obh feh) ++ (lsT dA ob1 fe1))))))))))) : va_W).Perm (((x0, .inr (0, [.ref sa, snv, .ref hi, .ref tb])) :: ((hi, .inr (4, [.int mh, .ref (dOf E obh), .int (nI hs)])) :: (lsT dA obh feh))) ++ ((sa1, .inr (1, [.ref la1, .ref lq1, .int (row 4), .int (row 5)])) :: ((la1, .inr (2, [.ref lp1, .ref lx1, .ref ld1, .ref lr1, .int (nI n), .int (nI cu), .int (row 2)])) :: ((lp1, .inl (dA 0, 7, .inl (fun k => row (6 + k)))) :: ((lx1, .inl (dA 0, 7, .inl (fun k => row (77 + k)))) :: ((ld1, .inl (dA 0, 8, .inl (fun k => row (13 + k)))) :: ((lr1, .inl (dA 0, 56, .inl (fun k => row (21 + k)))) :: ((lq1, .inr (4, [.int md1, .ref (dOf E ob1), .int (nI q)])) :: (lsT dA ob1 fe1))))))))) := pmC ([[(x0, .inr (0, [.ref sa, snv, .ref hi, .ref tb]))], [(hi, .inr (4, [.int mh, .ref (dOf E obh), .int (nI hs)]))], [(sa1, .inr (1, [.ref la1, .ref lq1, .int (row 4), .int (row 5)]))], [(la1, .inr (2, [.ref lp1, .ref lx1, .ref ld1, .ref lr1, .int (nI n), .int (nI cu), .int (row 2)]))], [(lp1, .inl (dA 0, 7, .inl (fun k => row (6 + k))))], [(lx1, .inl (dA 0, 7, .inl (fun k => row (77 + k))))], [(ld1, .inl (dA 0, 8, .inl (fun k => row (13 + k))))], [(lr1, .inl (dA 0, 56, .inl (fun k => row (21 + k))))], [(lq1, .inr (4, [.int md1, .ref (dOf E ob1), .int (nI q)]))], (lsT dA obh feh), (lsT dA ob1 fe1)] : List va_W) [0, 1, 9] [2, 3, 4, 5, 6, 7, 8, 10] rfl
    have hPc := (vP_app.mp (vP_perm hpm hP)).2
    have hDc := vD_right (vD_perm hpm hD)
    have hPc : va_P D vwCl ((sa1, .inr (1, [.ref la1, .ref lq1, .int (row 4), .int (row 5)])) :: ((la1, .inr (2, [.ref lp1, .ref lx1, .ref ld1, .ref lr1, .int (nI n), .int (nI cu), .int (row 2)])) :: ((lp1, .inl (dA 0, 7, .inl (fun k => row (6 + k)))) :: ((lx1, .inl (dA 0, 7, .inl (fun k => row (77 + k)))) :: ((ld1, .inl (dA 0, 8, .inl (fun k => row (13 + k)))) :: ((lr1, .inl (dA 0, 56, .inl (fun k => row (21 + k)))) :: ((lq1, .inr (4, [.int md1, .ref (dOf E ob1), .int (nI q)])) :: (lsT dA ob1 fe1)))))))) H := hPc
    have hDc : va_D A ((sa1, .inr (1, [.ref la1, .ref lq1, .int (row 4), .int (row 5)])) :: ((la1, .inr (2, [.ref lp1, .ref lx1, .ref ld1, .ref lr1, .int (nI n), .int (nI cu), .int (row 2)])) :: ((lp1, .inl (dA 0, 7, .inl (fun k => row (6 + k)))) :: ((lx1, .inl (dA 0, 7, .inl (fun k => row (77 + k)))) :: ((ld1, .inl (dA 0, 8, .inl (fun k => row (13 + k)))) :: ((lr1, .inl (dA 0, 56, .inl (fun k => row (21 + k)))) :: ((lq1, .inr (4, [.int md1, .ref (dOf E ob1), .int (nI q)])) :: (lsT dA ob1 fe1)))))))) := hDc
    refine x_ecallP (va_runV (As := [.int (nI pl)]) (rest := []) S (xs_dropLoose l D dA E ad sz0 mi sa1 la1 lp1 lx1 ld1 lr1 lq1 row hn hcu md1 q ob1 fe1 FZ hΨc.1 hq40 (cuts_cp hlo0 hco hcu (fun _ h => h) (fun _ _ => rfl) hΨc.2) pl (by omega) (fun k => mLoose row n cu k pl (mAbove row n cu q pl)) (fun _ => rfl) (up_D hA0 hDc) (apart_D hFA hDc) H.size) (cwV 1 hts (lw_V q805 q806 q807 q60 q808) rfl rfl rfl hdX1_dropLoose ⟨Nat.le_of_ble_eq_true rfl, Nat.le_of_ble_eq_true rfl⟩) ⟨pe_blind g1_bl _, va_recv K hP (ci := 1) (q0 := 2) rfl rfl, pe_pre (g1_mv G (low_of hS hA0 G.1.2.2.2.2.2.2) hS.1) hPc hDc (fz_S hΦ hFA hS) _⟩ rfl rfl hl.1 rfl (lv_room (Nat.le_of_ble_eq_true rfl)) dX0_dropLoose_27 ⟨Nat.le_of_ble_eq_true rfl, Nat.le_of_ble_eq_true rfl⟩) hP hD hS hA ((x0, .inr (0, [.ref sa, snv, .ref hi, .ref tb])) :: ((hi, .inr (4, [.int mh, .ref (dOf E obh), .int (nI hs)])) :: (lsT dA obh feh))) hpm (fun fe4 H locs hΨ hP hD hS hkp hsz hDn => ?_)
    have hP := vP_perm (pmJ ([[(x0, .inr (0, [.ref sa, snv, .ref hi, .ref tb]))], [(hi, .inr (4, [.int mh, .ref (dOf E obh), .int (nI hs)]))], (lsT dA obh feh)] : List va_W) ([[(sa1, .inr (1, [.ref la1, .ref lq1, .int (row 4), .int (row 5)]))], [(la1, .inr (2, [.ref lp1, .ref lx1, .ref ld1, .ref lr1, .int (nI n), .int (nI cu), .int (row 2)]))], [(lp1, .inl (dA 0, 7, .inl (fun k => row (6 + k))))], [(lx1, .inl (dA 0, 7, .inl (fun k => row (77 + k))))], [(ld1, .inl (dA 0, 8, .inl (fun k => row (13 + k))))], [(lr1, .inl (dA 0, 56, .inl (fun k => row (21 + k))))], [(lq1, .inr (4, [.int (md1 + nI 1 + nI 1), .ref (dOf E ob1), .int (nI ((kpt (fun k => mLoose row n cu k pl (mAbove row n cu q pl)) q).length))]))], (lsT dA ob1 fe4)] : List va_W) [0, 1, 3, 4, 5, 6, 7, 8, 9, 2, 10] rfl) hP
    have hD := vD_perm (pmJ ([[(x0, .inr (0, [.ref sa, snv, .ref hi, .ref tb]))], [(hi, .inr (4, [.int mh, .ref (dOf E obh), .int (nI hs)]))], (lsT dA obh feh)] : List va_W) ([[(sa1, .inr (1, [.ref la1, .ref lq1, .int (row 4), .int (row 5)]))], [(la1, .inr (2, [.ref lp1, .ref lx1, .ref ld1, .ref lr1, .int (nI n), .int (nI cu), .int (row 2)]))], [(lp1, .inl (dA 0, 7, .inl (fun k => row (6 + k))))], [(lx1, .inl (dA 0, 7, .inl (fun k => row (77 + k))))], [(ld1, .inl (dA 0, 8, .inl (fun k => row (13 + k))))], [(lr1, .inl (dA 0, 56, .inl (fun k => row (21 + k))))], [(lq1, .inr (4, [.int (md1 + nI 1 + nI 1), .ref (dOf E ob1), .int (nI ((kpt (fun k => mLoose row n cu k pl (mAbove row n cu q pl)) q).length))]))], (lsT dA ob1 fe4)] : List va_W) [0, 1, 3, 4, 5, 6, 7, 8, 9, 2, 10] rfl) hD
    have hP : va_P D vwCl ((x0, .inr (0, [.ref sa, snv, .ref hi, .ref tb])) :: ((hi, .inr (4, [.int mh, .ref (dOf E obh), .int (nI hs)])) :: ((sa1, .inr (1, [.ref la1, .ref lq1, .int (row 4), .int (row 5)])) :: ((la1, .inr (2, [.ref lp1, .ref lx1, .ref ld1, .ref lr1, .int (nI n), .int (nI cu), .int (row 2)])) :: ((lp1, .inl (dA 0, 7, .inl (fun k => row (6 + k)))) :: ((lx1, .inl (dA 0, 7, .inl (fun k => row (77 + k)))) :: ((ld1, .inl (dA 0, 8, .inl (fun k => row (13 + k)))) :: ((lr1, .inl (dA 0, 56, .inl (fun k => row (21 + k)))) :: ((lq1, .inr (4, [.int (md1 + nI 1 + nI 1), .ref (dOf E ob1), .int (nI ((kpt (fun k => mLoose row n cu k pl (mAbove row n cu q pl)) q).length))])) :: ((lsT dA obh feh) ++ (lsT dA ob1 fe4))))))))))) H := hP
    have hD : va_D A ((x0, .inr (0, [.ref sa, snv, .ref hi, .ref tb])) :: ((hi, .inr (4, [.int mh, .ref (dOf E obh), .int (nI hs)])) :: ((sa1, .inr (1, [.ref la1, .ref lq1, .int (row 4), .int (row 5)])) :: ((la1, .inr (2, [.ref lp1, .ref lx1, .ref ld1, .ref lr1, .int (nI n), .int (nI cu), .int (row 2)])) :: ((lp1, .inl (dA 0, 7, .inl (fun k => row (6 + k)))) :: ((lx1, .inl (dA 0, 7, .inl (fun k => row (77 + k)))) :: ((ld1, .inl (dA 0, 8, .inl (fun k => row (13 + k)))) :: ((lr1, .inl (dA 0, 56, .inl (fun k => row (21 + k)))) :: ((lq1, .inr (4, [.int (md1 + nI 1 + nI 1), .ref (dOf E ob1), .int (nI ((kpt (fun k => mLoose row n cu k pl (mAbove row n cu q pl)) q).length))])) :: ((lsT dA obh feh) ++ (lsT dA ob1 fe4))))))))))) := hD
    refine W.widen (k := 72) (n := 3302) (Nat.le_of_ble_eq_true rfl) (Nat.le_of_ble_eq_true rfl) ?_
    have hΨd : LOk ob1 ((kpt (fun k => mLoose row n cu k pl (mAbove row n cu q pl)) q).length) ∧ KpOk fe1 fe4 (kpt (fun k => mLoose row n cu k pl (mAbove row n cu q pl)) q) := hΨ
    refine lv_istore_n (lv' := [(3, .int (nI (iter (dlC row n cu pl (mAbove row n cu q pl)) q 0 0))), (2, .ref sa1), (1, .int (oI (mMaster row n cu q))), (0, .ref x0)]) hx hb dX0_dropLoose_30 rfl hl (by decide) rfl (fun ls hl => ?_)
    refine lv_iload_n hx hb dX0_dropLoose_31 rfl (lv_at hl 0 rfl) ?_
    refine x_ifn_ne (tgt := 40) hx hb dX0_dropLoose_32 (by decide) (Nat.lt_of_le_of_lt (dlC_le row n cu pl _ q) (by omega)) (fun h_2 => ?_) (fun h_2 => ?_)
    · refine lv_aload_n hx hb dX0_dropLoose_40 rfl (lv_at hl 3 rfl) ?_
      refine lv_aload_n hx hb dX0_dropLoose_41 rfl (lv_at hl 1 rfl) ?_
      refine lv_iload_n hx hb dX0_dropLoose_42 rfl (lv_at hl 0 rfl) ?_
      have hpm : (((x0, .inr (0, [.ref sa, snv, .ref hi, .ref tb])) :: ((hi, .inr (4, [.int mh, .ref (dOf E obh), .int (nI hs)])) :: ((sa1, .inr (1, [.ref la1, .ref lq1, .int (row 4), .int (row 5)])) :: ((la1, .inr (2, [.ref lp1, .ref lx1, .ref ld1, .ref lr1, .int (nI n), .int (nI cu), .int (row 2)])) :: ((lp1, .inl (dA 0, 7, .inl (fun k => row (6 + k)))) :: ((lx1, .inl (dA 0, 7, .inl (fun k => row (77 + k)))) :: ((ld1, .inl (dA 0, 8, .inl (fun k => row (13 + k)))) :: ((lr1, .inl (dA 0, 56, .inl (fun k => row (21 + k)))) :: ((lq1, .inr (4, [.int (md1 + nI 1 + nI 1), .ref (dOf E ob1), .int (nI ((kpt (fun k => mLoose row n cu k pl (mAbove row n cu q pl)) q).length))])) :: ((lsT dA obh feh) ++ (lsT dA ob1 fe4))))))))))) : va_W).Perm (((sa1, .inr (1, [.ref la1, .ref lq1, .int (row 4), .int (row 5)])) :: ((la1, .inr (2, [.ref lp1, .ref lx1, .ref ld1, .ref lr1, .int (nI n), .int (nI cu), .int (row 2)])) :: ((lp1, .inl (dA 0, 7, .inl (fun k => row (6 + k)))) :: ((lx1, .inl (dA 0, 7, .inl (fun k => row (77 + k)))) :: ((ld1, .inl (dA 0, 8, .inl (fun k => row (13 + k)))) :: ((lr1, .inl (dA 0, 56, .inl (fun k => row (21 + k)))) :: ((lq1, .inr (4, [.int (md1 + nI 1 + nI 1), .ref (dOf E ob1), .int (nI ((kpt (fun k => mLoose row n cu k pl (mAbove row n cu q pl)) q).length))])) :: (lsT dA ob1 fe4)))))))) ++ ((x0, .inr (0, [.ref sa, snv, .ref hi, .ref tb])) :: ((hi, .inr (4, [.int mh, .ref (dOf E obh), .int (nI hs)])) :: (lsT dA obh feh)))) := pmC ([[(x0, .inr (0, [.ref sa, snv, .ref hi, .ref tb]))], [(hi, .inr (4, [.int mh, .ref (dOf E obh), .int (nI hs)]))], [(sa1, .inr (1, [.ref la1, .ref lq1, .int (row 4), .int (row 5)]))], [(la1, .inr (2, [.ref lp1, .ref lx1, .ref ld1, .ref lr1, .int (nI n), .int (nI cu), .int (row 2)]))], [(lp1, .inl (dA 0, 7, .inl (fun k => row (6 + k))))], [(lx1, .inl (dA 0, 7, .inl (fun k => row (77 + k))))], [(ld1, .inl (dA 0, 8, .inl (fun k => row (13 + k))))], [(lr1, .inl (dA 0, 56, .inl (fun k => row (21 + k))))], [(lq1, .inr (4, [.int (md1 + nI 1 + nI 1), .ref (dOf E ob1), .int (nI ((kpt (fun k => mLoose row n cu k pl (mAbove row n cu q pl)) q).length))]))], (lsT dA obh feh), (lsT dA ob1 fe4)] : List va_W) [2, 3, 4, 5, 6, 7, 8, 10] [0, 1, 9] rfl
      have hPc := (vP_app.mp (vP_perm hpm hP)).2
      have hDc := vD_right (vD_perm hpm hD)
      have hPc : va_P D vwCl ((x0, .inr (0, [.ref sa, snv, .ref hi, .ref tb])) :: ((hi, .inr (4, [.int mh, .ref (dOf E obh), .int (nI hs)])) :: (lsT dA obh feh))) H := hPc
      have hDc : va_D A ((x0, .inr (0, [.ref sa, snv, .ref hi, .ref tb])) :: ((hi, .inr (4, [.int mh, .ref (dOf E obh), .int (nI hs)])) :: (lsT dA obh feh))) := hDc
      refine x_ecallP (va_runV (As := [.ref sa1, .int (nI (iter (dlC row n cu pl (mAbove row n cu q pl)) q 0 0))]) (rest := []) S (xa_accept l D dA E ad sz0 mi x0 hi tb snv mh hs obh feh hlh hhs FZ hhe sa ⟨1, _, hmem _ List.mem_cons_self, Or.inl rfl⟩ sa1 (nI (iter (dlC row n cu pl (mAbove row n cu q pl)) q 0 0)) (up_D hA0 hDc) (apart_D hFA hDc) H.size) (cwV 2 hts (lw_V q343 q345 qs2 q59 q346) rfl rfl rfl hdX0_accept ⟨Nat.le_of_ble_eq_true rfl, Nat.le_of_ble_eq_true rfl⟩) ⟨pe_blind g1_bl _, va_recv K hP (ci := 0) (q0 := 0) rfl rfl, pe_pre (g1_mv G (low_of hS hA0 G.1.2.2.2.2.2.2) hS.1) hPc hDc (fz_S hΦ hFA hS) _⟩ rfl rfl hl.1 rfl (lv_room (Nat.le_of_ble_eq_true rfl)) dX0_dropLoose_43 ⟨Nat.le_of_ble_eq_true rfl, Nat.le_of_ble_eq_true rfl⟩) hP hD hS hA ((sa1, .inr (1, [.ref la1, .ref lq1, .int (row 4), .int (row 5)])) :: ((la1, .inr (2, [.ref lp1, .ref lx1, .ref ld1, .ref lr1, .int (nI n), .int (nI cu), .int (row 2)])) :: ((lp1, .inl (dA 0, 7, .inl (fun k => row (6 + k)))) :: ((lx1, .inl (dA 0, 7, .inl (fun k => row (77 + k)))) :: ((ld1, .inl (dA 0, 8, .inl (fun k => row (13 + k)))) :: ((lr1, .inl (dA 0, 56, .inl (fun k => row (21 + k)))) :: ((lq1, .inr (4, [.int (md1 + nI 1 + nI 1), .ref (dOf E ob1), .int (nI ((kpt (fun k => mLoose row n cu k pl (mAbove row n cu q pl)) q).length))])) :: (lsT dA ob1 fe4)))))))) hpm (fun u2 H locs hΨ hP hD hS hkp hsz hDn => ?_)
      obtain ⟨sa2, mh2, hs2, obh2, feh2⟩ := u2
      have hP := vP_perm (pmJ ([[(sa1, .inr (1, [.ref la1, .ref lq1, .int (row 4), .int (row 5)]))], [(la1, .inr (2, [.ref lp1, .ref lx1, .ref ld1, .ref lr1, .int (nI n), .int (nI cu), .int (row 2)]))], [(lp1, .inl (dA 0, 7, .inl (fun k => row (6 + k))))], [(lx1, .inl (dA 0, 7, .inl (fun k => row (77 + k))))], [(ld1, .inl (dA 0, 8, .inl (fun k => row (13 + k))))], [(lr1, .inl (dA 0, 56, .inl (fun k => row (21 + k))))], [(lq1, .inr (4, [.int (md1 + nI 1 + nI 1), .ref (dOf E ob1), .int (nI ((kpt (fun k => mLoose row n cu k pl (mAbove row n cu q pl)) q).length))]))], (lsT dA ob1 fe4)] : List va_W) ([[(x0, .inr (0, [.ref sa2, snv, .ref hi, .ref tb]))], [(hi, .inr (4, [.int mh2, .ref (dOf E obh2), .int (nI hs2)]))], (lsT dA obh2 feh2)] : List va_W) [0, 1, 2, 3, 4, 5, 6, 8, 9, 7, 10] rfl) hP
      have hD := vD_perm (pmJ ([[(sa1, .inr (1, [.ref la1, .ref lq1, .int (row 4), .int (row 5)]))], [(la1, .inr (2, [.ref lp1, .ref lx1, .ref ld1, .ref lr1, .int (nI n), .int (nI cu), .int (row 2)]))], [(lp1, .inl (dA 0, 7, .inl (fun k => row (6 + k))))], [(lx1, .inl (dA 0, 7, .inl (fun k => row (77 + k))))], [(ld1, .inl (dA 0, 8, .inl (fun k => row (13 + k))))], [(lr1, .inl (dA 0, 56, .inl (fun k => row (21 + k))))], [(lq1, .inr (4, [.int (md1 + nI 1 + nI 1), .ref (dOf E ob1), .int (nI ((kpt (fun k => mLoose row n cu k pl (mAbove row n cu q pl)) q).length))]))], (lsT dA ob1 fe4)] : List va_W) ([[(x0, .inr (0, [.ref sa2, snv, .ref hi, .ref tb]))], [(hi, .inr (4, [.int mh2, .ref (dOf E obh2), .int (nI hs2)]))], (lsT dA obh2 feh2)] : List va_W) [0, 1, 2, 3, 4, 5, 6, 8, 9, 7, 10] rfl) hD
      have hP : va_P D vwCl ((sa1, .inr (1, [.ref la1, .ref lq1, .int (row 4), .int (row 5)])) :: ((la1, .inr (2, [.ref lp1, .ref lx1, .ref ld1, .ref lr1, .int (nI n), .int (nI cu), .int (row 2)])) :: ((lp1, .inl (dA 0, 7, .inl (fun k => row (6 + k)))) :: ((lx1, .inl (dA 0, 7, .inl (fun k => row (77 + k)))) :: ((ld1, .inl (dA 0, 8, .inl (fun k => row (13 + k)))) :: ((lr1, .inl (dA 0, 56, .inl (fun k => row (21 + k)))) :: ((lq1, .inr (4, [.int (md1 + nI 1 + nI 1), .ref (dOf E ob1), .int (nI ((kpt (fun k => mLoose row n cu k pl (mAbove row n cu q pl)) q).length))])) :: ((x0, .inr (0, [.ref sa2, snv, .ref hi, .ref tb])) :: ((hi, .inr (4, [.int mh2, .ref (dOf E obh2), .int (nI hs2)])) :: ((lsT dA ob1 fe4) ++ (lsT dA obh2 feh2))))))))))) H := hP
      have hD : va_D A ((sa1, .inr (1, [.ref la1, .ref lq1, .int (row 4), .int (row 5)])) :: ((la1, .inr (2, [.ref lp1, .ref lx1, .ref ld1, .ref lr1, .int (nI n), .int (nI cu), .int (row 2)])) :: ((lp1, .inl (dA 0, 7, .inl (fun k => row (6 + k)))) :: ((lx1, .inl (dA 0, 7, .inl (fun k => row (77 + k)))) :: ((ld1, .inl (dA 0, 8, .inl (fun k => row (13 + k)))) :: ((lr1, .inl (dA 0, 56, .inl (fun k => row (21 + k)))) :: ((lq1, .inr (4, [.int (md1 + nI 1 + nI 1), .ref (dOf E ob1), .int (nI ((kpt (fun k => mLoose row n cu k pl (mAbove row n cu q pl)) q).length))])) :: ((x0, .inr (0, [.ref sa2, snv, .ref hi, .ref tb])) :: ((hi, .inr (4, [.int mh2, .ref (dOf E obh2), .int (nI hs2)])) :: ((lsT dA ob1 fe4) ++ (lsT dA obh2 feh2))))))))))) := hD
      refine W.widen (k := 73) (n := 3366) (Nat.le_of_ble_eq_true rfl) (Nat.le_of_ble_eq_true rfl) ?_
      have hΨa : AcOk (nI (iter (dlC row n cu pl (mAbove row n cu q pl)) q 0 0)) sa1 sa mh hs obh feh (sa2, mh2, hs2, obh2, feh2) := hΨ
      have hP := vP_perm (pm1 ([[(sa1, .inr (1, [.ref la1, .ref lq1, .int (row 4), .int (row 5)]))], [(la1, .inr (2, [.ref lp1, .ref lx1, .ref ld1, .ref lr1, .int (nI n), .int (nI cu), .int (row 2)]))], [(lp1, .inl (dA 0, 7, .inl (fun k => row (6 + k))))], [(lx1, .inl (dA 0, 7, .inl (fun k => row (77 + k))))], [(ld1, .inl (dA 0, 8, .inl (fun k => row (13 + k))))], [(lr1, .inl (dA 0, 56, .inl (fun k => row (21 + k))))], [(lq1, .inr (4, [.int (md1 + nI 1 + nI 1), .ref (dOf E ob1), .int (nI ((kpt (fun k => mLoose row n cu k pl (mAbove row n cu q pl)) q).length))]))], [(x0, .inr (0, [.ref sa2, snv, .ref hi, .ref tb]))], [(hi, .inr (4, [.int mh2, .ref (dOf E obh2), .int (nI hs2)]))], (lsT dA ob1 fe4), (lsT dA obh2 feh2)] : List va_W) [0, 1, 2, 3, 4, 5, 6, 9, 7, 8, 10] rfl) hP
      have hD := vD_perm (pm1 ([[(sa1, .inr (1, [.ref la1, .ref lq1, .int (row 4), .int (row 5)]))], [(la1, .inr (2, [.ref lp1, .ref lx1, .ref ld1, .ref lr1, .int (nI n), .int (nI cu), .int (row 2)]))], [(lp1, .inl (dA 0, 7, .inl (fun k => row (6 + k))))], [(lx1, .inl (dA 0, 7, .inl (fun k => row (77 + k))))], [(ld1, .inl (dA 0, 8, .inl (fun k => row (13 + k))))], [(lr1, .inl (dA 0, 56, .inl (fun k => row (21 + k))))], [(lq1, .inr (4, [.int (md1 + nI 1 + nI 1), .ref (dOf E ob1), .int (nI ((kpt (fun k => mLoose row n cu k pl (mAbove row n cu q pl)) q).length))]))], [(x0, .inr (0, [.ref sa2, snv, .ref hi, .ref tb]))], [(hi, .inr (4, [.int mh2, .ref (dOf E obh2), .int (nI hs2)]))], (lsT dA ob1 fe4), (lsT dA obh2 feh2)] : List va_W) [0, 1, 2, 3, 4, 5, 6, 9, 7, 8, 10] rfl) hD
      have hP : va_P D vwCl ((sa1, .inr (1, [.ref la1, .ref lq1, .int (row 4), .int (row 5)])) :: ((la1, .inr (2, [.ref lp1, .ref lx1, .ref ld1, .ref lr1, .int (nI n), .int (nI cu), .int (row 2)])) :: ((lp1, .inl (dA 0, 7, .inl (fun k => row (6 + k)))) :: ((lx1, .inl (dA 0, 7, .inl (fun k => row (77 + k)))) :: ((ld1, .inl (dA 0, 8, .inl (fun k => row (13 + k)))) :: ((lr1, .inl (dA 0, 56, .inl (fun k => row (21 + k)))) :: ((lq1, .inr (4, [.int (md1 + nI 1 + nI 1), .ref (dOf E ob1), .int (nI ((kpt (fun k => mLoose row n cu k pl (mAbove row n cu q pl)) q).length))])) :: ((lsT dA ob1 fe4) ++ ((x0, .inr (0, [.ref sa2, snv, .ref hi, .ref tb])) :: ((hi, .inr (4, [.int mh2, .ref (dOf E obh2), .int (nI hs2)])) :: (lsT dA obh2 feh2))))))))))) H := hP
      have hD : va_D A ((sa1, .inr (1, [.ref la1, .ref lq1, .int (row 4), .int (row 5)])) :: ((la1, .inr (2, [.ref lp1, .ref lx1, .ref ld1, .ref lr1, .int (nI n), .int (nI cu), .int (row 2)])) :: ((lp1, .inl (dA 0, 7, .inl (fun k => row (6 + k)))) :: ((lx1, .inl (dA 0, 7, .inl (fun k => row (77 + k)))) :: ((ld1, .inl (dA 0, 8, .inl (fun k => row (13 + k)))) :: ((lr1, .inl (dA 0, 56, .inl (fun k => row (21 + k)))) :: ((lq1, .inr (4, [.int (md1 + nI 1 + nI 1), .ref (dOf E ob1), .int (nI ((kpt (fun k => mLoose row n cu k pl (mAbove row n cu q pl)) q).length))])) :: ((lsT dA ob1 fe4) ++ ((x0, .inr (0, [.ref sa2, snv, .ref hi, .ref tb])) :: ((hi, .inr (4, [.int mh2, .ref (dOf E obh2), .int (nI hs2)])) :: (lsT dA obh2 feh2))))))))))) := hD
      obtain ⟨hd1, hd2, hd3, hd4⟩ := dl_spec (pl := pl) (ab := mAbove row n cu q pl) w
      obtain ⟨hP, hD⟩ := st_cg (X := ((lq1, .inr (4, [.int (md1 + nI 1 + nI 1), .ref (dOf E ob1), .int (nI ((kpt (fun k => mLoose row n cu k pl (mAbove row n cu q pl)) q).length))])) :: ((lsT dA ob1 fe4) ++ ((x0, .inr (0, [.ref sa2, snv, .ref hi, .ref tb])) :: ((hi, .inr (4, [.int mh2, .ref (dOf E obh2), .int (nI hs2)])) :: (lsT dA obh2 feh2)))))) (dlRow row n cu q) (dl_r hpl hd2 (by decide) (by decide)) (dl_r hpl hd2 (by decide) (by decide)) (dl_r hpl hd2 (by decide) (by decide)) (fun j9 hj => (dl_r hpl hd2 (by omega) (by omega)).symm) (fun j9 hj => (dl_r hpl hd2 (by omega) (by omega)).symm) (fun j9 hj => (dl_r hpl hd2 (by omega) (by omega)).symm) (fun j9 hj => (dl_r hpl hd2 (by omega) (by omega)).symm) hP hD
      exact x_eiret (stW dA E ((sa1, la1, lp1, lx1, ld1, lr1, lq1), md1 + nI 1 + nI 1, ob1, fe4) (dlRow row n cu q) n cu ((kpt (fun k => mLoose row n cu k pl (mAbove row n cu q pl)) q).length), (sa2, mh2, hs2, obh2, feh2)) hx hb hrt hlk (congrArg (fun z => some (Value.int z)) (rDl_t hpl h_2)) (by rw [dl_q hpl hd1 hd3 (Nat.le_trans (kpt_len _ _) hq40)]; exact (wr_yes (okDl_t hpl h_2) hΨa (nI_pos (Nat.lt_of_le_of_lt (dlC_le row n cu pl _ q) (by omega))) (stOk_new0 (u := ((sa1, la1, lp1, lx1, ld1, lr1, lq1), md1 + nI 1 + nI 1, ob1, fe4)) hΨd.1 (cuts_kp hlo0 hco hcu (fun x hx => List.mem_append_right _ hx) hΨc.2 hΨd.2 (fun i j hj t ht => (dl_r2 hpl).trans (hd4 i j hj t ht)))))) hP hD hS dX0_dropLoose_46 (Nat.le_of_ble_eq_true rfl) (Nat.le_of_ble_eq_true rfl)
    · refine lv_bipush (v := -5) hx hb dX0_dropLoose_35 (by decide) ?_
      refine lv_goto (tgt := 46) hx hb dX0_dropLoose_37 (by decide) ?_
      have hP := vP_perm (pm1 ([[(x0, .inr (0, [.ref sa, snv, .ref hi, .ref tb]))], [(hi, .inr (4, [.int mh, .ref (dOf E obh), .int (nI hs)]))], [(sa1, .inr (1, [.ref la1, .ref lq1, .int (row 4), .int (row 5)]))], [(la1, .inr (2, [.ref lp1, .ref lx1, .ref ld1, .ref lr1, .int (nI n), .int (nI cu), .int (row 2)]))], [(lp1, .inl (dA 0, 7, .inl (fun k => row (6 + k))))], [(lx1, .inl (dA 0, 7, .inl (fun k => row (77 + k))))], [(ld1, .inl (dA 0, 8, .inl (fun k => row (13 + k))))], [(lr1, .inl (dA 0, 56, .inl (fun k => row (21 + k))))], [(lq1, .inr (4, [.int (md1 + nI 1 + nI 1), .ref (dOf E ob1), .int (nI ((kpt (fun k => mLoose row n cu k pl (mAbove row n cu q pl)) q).length))]))], (lsT dA obh feh), (lsT dA ob1 fe4)] : List va_W) [2, 3, 4, 5, 6, 7, 8, 10, 0, 1, 9] rfl) hP
      have hD := vD_perm (pm1 ([[(x0, .inr (0, [.ref sa, snv, .ref hi, .ref tb]))], [(hi, .inr (4, [.int mh, .ref (dOf E obh), .int (nI hs)]))], [(sa1, .inr (1, [.ref la1, .ref lq1, .int (row 4), .int (row 5)]))], [(la1, .inr (2, [.ref lp1, .ref lx1, .ref ld1, .ref lr1, .int (nI n), .int (nI cu), .int (row 2)]))], [(lp1, .inl (dA 0, 7, .inl (fun k => row (6 + k))))], [(lx1, .inl (dA 0, 7, .inl (fun k => row (77 + k))))], [(ld1, .inl (dA 0, 8, .inl (fun k => row (13 + k))))], [(lr1, .inl (dA 0, 56, .inl (fun k => row (21 + k))))], [(lq1, .inr (4, [.int (md1 + nI 1 + nI 1), .ref (dOf E ob1), .int (nI ((kpt (fun k => mLoose row n cu k pl (mAbove row n cu q pl)) q).length))]))], (lsT dA obh feh), (lsT dA ob1 fe4)] : List va_W) [2, 3, 4, 5, 6, 7, 8, 10, 0, 1, 9] rfl) hD
      have hP : va_P D vwCl ((sa1, .inr (1, [.ref la1, .ref lq1, .int (row 4), .int (row 5)])) :: ((la1, .inr (2, [.ref lp1, .ref lx1, .ref ld1, .ref lr1, .int (nI n), .int (nI cu), .int (row 2)])) :: ((lp1, .inl (dA 0, 7, .inl (fun k => row (6 + k)))) :: ((lx1, .inl (dA 0, 7, .inl (fun k => row (77 + k)))) :: ((ld1, .inl (dA 0, 8, .inl (fun k => row (13 + k)))) :: ((lr1, .inl (dA 0, 56, .inl (fun k => row (21 + k)))) :: ((lq1, .inr (4, [.int (md1 + nI 1 + nI 1), .ref (dOf E ob1), .int (nI ((kpt (fun k => mLoose row n cu k pl (mAbove row n cu q pl)) q).length))])) :: ((lsT dA ob1 fe4) ++ ((x0, .inr (0, [.ref sa, snv, .ref hi, .ref tb])) :: ((hi, .inr (4, [.int mh, .ref (dOf E obh), .int (nI hs)])) :: (lsT dA obh feh))))))))))) H := hP
      have hD : va_D A ((sa1, .inr (1, [.ref la1, .ref lq1, .int (row 4), .int (row 5)])) :: ((la1, .inr (2, [.ref lp1, .ref lx1, .ref ld1, .ref lr1, .int (nI n), .int (nI cu), .int (row 2)])) :: ((lp1, .inl (dA 0, 7, .inl (fun k => row (6 + k)))) :: ((lx1, .inl (dA 0, 7, .inl (fun k => row (77 + k)))) :: ((ld1, .inl (dA 0, 8, .inl (fun k => row (13 + k)))) :: ((lr1, .inl (dA 0, 56, .inl (fun k => row (21 + k)))) :: ((lq1, .inr (4, [.int (md1 + nI 1 + nI 1), .ref (dOf E ob1), .int (nI ((kpt (fun k => mLoose row n cu k pl (mAbove row n cu q pl)) q).length))])) :: ((lsT dA ob1 fe4) ++ ((x0, .inr (0, [.ref sa, snv, .ref hi, .ref tb])) :: ((hi, .inr (4, [.int mh, .ref (dOf E obh), .int (nI hs)])) :: (lsT dA obh feh))))))))))) := hD
      exact x_eiret (((sa1, .inr (1, [.ref la1, .ref lq1, .int (row 4), .int (row 5)])) :: ((la1, .inr (2, [.ref lp1, .ref lx1, .ref ld1, .ref lr1, .int (nI n), .int (nI cu), .int (row 2)])) :: ((lp1, .inl (dA 0, 7, .inl (fun k => row (6 + k)))) :: ((lx1, .inl (dA 0, 7, .inl (fun k => row (77 + k)))) :: ((ld1, .inl (dA 0, 8, .inl (fun k => row (13 + k)))) :: ((lr1, .inl (dA 0, 56, .inl (fun k => row (21 + k)))) :: ((lq1, .inr (4, [.int (md1 + nI 1 + nI 1), .ref (dOf E ob1), .int (nI ((kpt (fun k => mLoose row n cu k pl (mAbove row n cu q pl)) q).length))])) :: (lsT dA ob1 fe4)))))))), (sa, mh, hs, obh, feh)) hx hb hrt hlk (congrArg (fun z => some (Value.int z)) (rDl_0 hpl h_2)) (wr_no (okDl_0 hpl h_2)) hP hD hS dX0_dropLoose_46 (Nat.le_of_ble_eq_true rfl) (Nat.le_of_ble_eq_true rfl)
  · refine lv_bipush (v := -4) hx hb dX0_dropLoose_14 (by decide) ?_
    exact x_eiret (([] : va_W), (sa, mh, hs, obh, feh)) hx hb hrt hlk (congrArg (fun z => some (Value.int z)) (rDl_n h_1)) (wr_no (okDl_n h_1)) hP hD hS dX0_dropLoose_16 (Nat.le_of_ble_eq_true rfl) (Nat.le_of_ble_eq_true rfl)

