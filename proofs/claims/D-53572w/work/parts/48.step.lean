/-! a step of a state: the plain facts -/
theorem vP_tail {D : va_G} {w1 T : va_W} {H : Heap} (hP : va_P D vwCl (w1 ++ T) H) : va_P D vwCl T H := (vP_app.mp hP).2
theorem pm_nil {ws : va_W} : ws.Perm (ws ++ []) := by rw [List.append_nil]
theorem apart_app {w1 w2 ws : va_W} (h1 : Apart w1 ws) (h2 : Apart w2 ws) : Apart (w1 ++ w2) ws := fun x hx y hy => by
  rcases List.mem_append.mp hx with h | h
  · exact h1 x h y hy
  · exact h2 x h y hy
theorem apart_nd {A : Nat → Prop} {w1 w2 : va_W} (hD : va_D A (w1 ++ w2)) : Apart w1 w2 := by
  intro x hx y hy e
  have h := (vD_iff.mp hD).1
  rw [List.map_append, List.nodup_append] at h
  exact h.2.2 _ (List.mem_map_of_mem hx) _ (List.mem_map_of_mem hy) e
theorem Apart.right {FZ a b : va_W} (h : Apart FZ (a ++ b)) : Apart FZ b := fun x hx y hy => h x hx y (List.mem_append_right _ hy)
theorem cutsOk_f {dA : Nat → ClassId} {FZ : va_W} {row : Nat → Int32} {cu q : Nat} {ob : Option (Nat × Nat)} {fe : Nat → Option Nat} (hlo : LOk ob q) (h : CutsOk dA FZ row cu q fe) : CutsOk dA FZ row cu q (fOf ob fe) := by
  cases ob with
  | none =>
    have h0 := hlo.1 rfl
    intro k hk
    omega
  | some dc => exact h
theorem CutsOk.ex {dA : Nat → ClassId} {FZ FZ' : va_W} {row row' : Nat → Int32} {cu q : Nat} {fe fe' : Nat → Option Nat} (h : CutsOk dA FZ row cu q fe) (hcu : cu ≤ 8) (hF : ∀ x ∈ FZ, x ∈ FZ') (hr : ∀ j, 84 ≤ j → j < 84 + 9 * q → row' j = row j) (hf : ∀ i, i < q → fe' i = fe i) : CutsOk dA FZ' row' cu q fe' := by
  intro k hk
  obtain ⟨ka, h1, h2⟩ := h k hk
  exact ⟨ka, by rw [hf k hk]; exact h1, (h2.mono hF).row (fun i hi => hr _ (by omega) (by omega)) hcu⟩
theorem sb_t1 {row : Nat → Int32} {n cu pl : Nat} {bst : Option Nat} (hm : mMissed row n cu pl = none) (hb : bst = none) : msBest row n cu pl bst = true := by
  unfold msBest
  rw [if_pos hm, hb]
theorem sb_t2 {row : Nat → Int32} {n cu pl b : Nat} {bst : Option Nat} (hm : mMissed row n cu pl = none) (hb : bst = some b) (h : ¬ mCost row n cu b ≤ mCost row n cu pl) : msBest row n cu pl bst = true := by
  unfold msBest
  rw [if_pos hm, hb]
  exact if_neg h
theorem sb_f2 {row : Nat → Int32} {n cu pl b : Nat} {bst : Option Nat} (hm : mMissed row n cu pl = none) (hb : bst = some b) (h : mCost row n cu b ≤ mCost row n cu pl) : msBest row n cu pl bst = false := by
  unfold msBest
  rw [if_pos hm, hb]
  exact if_pos h
theorem sb_f {row : Nat → Int32} {n cu pl j : Nat} {bst : Option Nat} (hm : mMissed row n cu pl = some j) : msBest row n cu pl bst = false := by
  unfold msBest
  rw [if_neg (by rw [hm]; exact fun h => by cases h)]
theorem sv_t {row : Nat → Int32} {n cu q pl : Nat} (hm : mMissed row n cu pl = none) (h : mCost row n cu pl = mGuess row n cu q pl) : msSolved row n cu q pl = true := by
  unfold msSolved
  rw [if_pos hm, if_pos h]
theorem sv_f1 {row : Nat → Int32} {n cu q pl : Nat} (hm : mMissed row n cu pl = none) (h : ¬ mCost row n cu pl = mGuess row n cu q pl) : msSolved row n cu q pl = false := by
  unfold msSolved
  rw [if_pos hm, if_neg h]
theorem sv_f {row : Nat → Int32} {n cu q pl j : Nat} (hm : mMissed row n cu pl = some j) : msSolved row n cu q pl = false := by
  unfold msSolved
  rw [if_neg (by rw [hm]; exact fun h => by cases h)]
theorem sp_0 {row : Nat → Int32} {n cu q : Nat} (h : cu = 0) : msPlan row n cu q = none := by unfold msPlan; exact if_pos h
theorem sp_n {row : Nat → Int32} {n cu q : Nat} {o : Option Nat} (h : ¬ cu = 0) (hm : mMaster row n cu q = o) : msPlan row n cu q = o := by unfold msPlan; rw [if_neg h]; exact hm
theorem sr_4 {row : Nat → Int32} {n cu q : Nat} (h : msPlan row n cu q = none) : msRes row n cu q = -4 := by unfold msRes; rw [h]
theorem sr_2 {row : Nat → Int32} {n cu q pl : Nat} (h : msPlan row n cu q = some pl) (hs : msSolved row n cu q pl = true) : msRes row n cu q = nI 2 := by unfold msRes; rw [h]; exact if_pos hs
theorem sr_3 {row : Nat → Int32} {n cu q pl : Nat} (h : msPlan row n cu q = some pl) (hs : msSolved row n cu q pl = false) (hq : q = 40) : msRes row n cu q = -3 := by
  unfold msRes
  rw [h]
  dsimp only
  rw [if_neg (by rw [hs]; decide), if_pos hq]
theorem sr_1 {row : Nat → Int32} {n cu q pl : Nat} (h : msPlan row n cu q = some pl) (hs : msSolved row n cu q pl = false) (hq : ¬ q = 40) (hm : mMissed row n cu pl = none) : msRes row n cu q = nI 1 := by
  unfold msRes
  rw [h]
  dsimp only
  rw [if_neg (by rw [hs]; decide), if_neg hq, if_pos hm]
theorem sr_0 {row : Nat → Int32} {n cu q pl j : Nat} (h : msPlan row n cu q = some pl) (hs : msSolved row n cu q pl = false) (hq : ¬ q = 40) (hm : mMissed row n cu pl = some j) : msRes row n cu q = nI 0 := by
  unfold msRes
  rw [h]
  dsimp only
  rw [if_neg (by rw [hs]; decide), if_neg hq, if_neg (by rw [hm]; exact fun h => by cases h)]
/-- what a step leaves: the new cells, best, steps, the list -/
abbrev SO : Type := va_W × Int32 × Int32 × Int32 × Option (Nat × Nat) × (Nat → Option Nat) × Nat
def qNx (row : Nat → Int32) (n cu q : Nat) : Nat := if msRes row n cu q = nI 0 ∨ msRes row n cu q = nI 1 then q + 1 else q
def StepOk (dA : Nat → ClassId) (FZ : va_W) (row : Nat → Int32) (n cu q : Nat) (bst : Option Nat) (u : SO) : Prop :=
  msRes row n cu q = -3 ∨ (u.2.1 = msRow row n cu q bst 4 ∧ u.2.2.1 = msRow row n cu q bst 5 ∧ LOk u.2.2.2.2.1 u.2.2.2.2.2.2 ∧ CutsOk dA (u.1 ++ FZ) (msRow row n cu q bst) cu u.2.2.2.2.2.2 u.2.2.2.2.2.1 ∧ u.2.2.2.2.2.2 = qNx row n cu q)
theorem sk_none {dA : Nat → ClassId} {FZ : va_W} {row : Nat → Int32} {n cu q : Nat} {bst : Option Nat} {md : Int32} {ob : Option (Nat × Nat)} {fe : Nat → Option Nat} (h : msPlan row n cu q = none) (hlo : LOk ob q) (hco : CutsOk dA FZ row cu q fe) : StepOk dA FZ row n cu q bst ([], row 4, row 5, md, ob, fe, q) := by
  have e : msRow row n cu q bst = row := by unfold msRow; rw [h]
  refine Or.inr ⟨by rw [e], by rw [e], hlo, by rw [e]; exact hco, ?_⟩
  unfold qNx
  rw [sr_4 h]
  rfl
theorem row2_4 (row : Nat → Int32) (n cu pl : Nat) (bst : Option Nat) : msRow2 row n cu pl bst 4 = bif msBest row n cu pl bst then nI pl else row 4 := by
  unfold msRow2
  cases msBest row n cu pl bst with
  | true => exact pk_us
  | false => exact pk_un (by decide)
theorem row2_5 (row : Nat → Int32) (n cu pl : Nat) (bst : Option Nat) : msRow2 row n cu pl bst 5 = row 5 + nI 1 := by
  unfold msRow2
  cases msBest row n cu pl bst with
  | true => exact (pk_un (by decide)).trans pk_us
  | false => exact pk_us
theorem sk_two {dA : Nat → ClassId} {FZ : va_W} {row : Nat → Int32} {n cu q pl : Nat} {bst : Option Nat} {md : Int32} {ob : Option (Nat × Nat)} {fe : Nat → Option Nat} {bv : Bool} (h : msPlan row n cu q = some pl) (hs : msSolved row n cu q pl = true) (hb : msBest row n cu pl bst = bv) (hcu : cu ≤ 8) (hlo : LOk ob q) (hco : CutsOk dA FZ row cu q fe) : StepOk dA FZ row n cu q bst ([], (bif bv then nI pl else row 4), row 5 + nI 1, md, ob, fe, q) := by
  have e : msRow row n cu q bst = msRow2 row n cu pl bst := by unfold msRow; rw [h]; exact if_pos hs
  refine Or.inr ⟨by rw [e, row2_4, hb], by rw [e, row2_5], hlo, by rw [e]; exact hco.ex hcu (fun x hx => hx) (fun j h1 _ => msRow2_hi (by omega) (by omega)) (fun _ _ => rfl), ?_⟩
  unfold qNx
  rw [sr_2 h hs]
  rfl
theorem msRow_cut {row : Nat → Int32} {n cu q pl : Nat} {bst : Option Nat} (h : msPlan row n cu q = some pl) (hs : msSolved row n cu q pl = false) (hq : ¬ q = 40) : msRow row n cu q bst = upd (cutR (msRow2 row n cu pl bst) q (oI (mMissed row n cu pl)) (msVal row n cu pl) cu) 3 (nI (q + 1)) := by
  unfold msRow
  rw [h]
  dsimp only
  rw [if_neg (by rw [hs]; decide), if_neg hq]
theorem sk_cut {dA : Nat → ClassId} {FZ nw : va_W} {row : Nat → Int32} {n cu q pl ka : Nat} {bst : Option Nat} {md : Int32} {ob' : Option (Nat × Nat)} {fe fe' : Nat → Option Nat} {bv : Bool} (h : msPlan row n cu q = some pl) (hs : msSolved row n cu q pl = false) (hq : ¬ q = 40) (hb : msBest row n cu pl bst = bv) (hcu : cu ≤ 8) (hco : CutsOk dA FZ row cu q fe) (hck : CutOk dA (nw ++ FZ) (msRow row n cu q bst) cu q ka) (hlo : LOk ob' (q + 1)) (hf : ∀ i, i < q → fe' i = fe i) (hk : fe' q = some ka) : StepOk dA FZ row n cu q bst (nw, (bif bv then nI pl else row 4), row 5 + nI 1, md, ob', fe', q + 1) := by
  have e := msRow_cut (bst := bst) h hs hq
  refine Or.inr ⟨?_, ?_, hlo, ?_, ?_⟩
  · rw [e]
    show _ = upd _ 3 _ 4
    rw [pk_un (by decide), cutR_lo (by omega), row2_4, hb]
  · rw [e]
    show _ = upd _ 3 _ 5
    rw [pk_un (by decide), cutR_lo (by omega), row2_5]
  · intro k hk'
    by_cases hkq : k = q
    · subst hkq
      exact ⟨ka, hk, hck⟩
    · obtain ⟨kb, h1, h2⟩ := hco k (by dsimp only at hk'; omega)
      refine ⟨kb, by rw [← h1]; exact hf k (by dsimp only at hk'; omega), (h2.mono (fun x hx => List.mem_append_right _ hx)).row (fun i hi => ?_) hcu⟩
      rw [e, pk_un (by omega), cutR_lo (by dsimp only at hk'; omega), msRow2_hi (by omega) (by omega)]
  · unfold qNx
    cases hm : mMissed row n cu pl with
    | none => rw [sr_1 h hs hq hm, if_pos (Or.inr rfl)]
    | some j => rw [sr_0 h hs hq hm, if_pos (Or.inl rfl)]
theorem ck_ray {dA : Nat → ClassId} {FZ : va_W} {row : Nat → Int32} {n cu q pl j ka : Nat} {bst : Option Nat} (h : msPlan row n cu q = some pl) (hs : msSolved row n cu q pl = false) (hq : ¬ q = 40) (hm : mMissed row n cu pl = some j) (hcu : cu ≤ 8) : CutOk dA (kR ka j ++ FZ) (msRow row n cu q bst) cu q ka := by
  have hj : j < cu := mMissed_lt hm
  refine Or.inl ⟨j, by omega, ?_, fun x hx => List.mem_append_left _ hx⟩
  rw [msRow_cut h hs hq, pk_un (by omega), hm]
  unfold cutR
  exact if_pos rfl
theorem ck_price {dA : Nat → ClassId} {FZ : va_W} {row : Nat → Int32} {n cu q pl ka kn : Nat} {bst : Option Nat} (h : msPlan row n cu q = some pl) (hs : msSolved row n cu q pl = false) (hq : ¬ q = 40) (hm : mMissed row n cu pl = none) : CutOk dA (kP dA 5 ka kn (pNums row n cu pl) ++ FZ) (msRow row n cu q bst) cu q ka := by
  refine Or.inr ⟨5, kn, pNums row n cu pl, Or.inl rfl, ?_, fun c hc => ?_, fun x hx => List.mem_append_left _ hx⟩
  · rw [msRow_cut h hs hq, pk_un (by omega), hm]
    unfold cutR
    exact if_pos rfl
  · rw [msRow_cut h hs hq, pk_un (by omega)]
    unfold cutR pNums msVal
    rw [if_pos hc, if_neg (by omega), if_pos (by omega), if_pos hm]
    rw [show 84 + 9 * q + 1 + c - (84 + 9 * q + 1) = c by omega]
theorem OkEl.of1 {FZ : va_W} {ka ci : Nat} {fs : List Value} {w : va_W} (hc : ci = 1 ∨ ci = 5 ∨ ci = 6 ∨ ci = 9) : OkEl ((ka, .inr (ci, fs)) :: w ++ FZ) ka := ⟨ci, fs, List.mem_append_left _ List.mem_cons_self, hc⟩

set_option maxHeartbeats 4000000 in
theorem xs_step0 (l : Launch) (D : va_G) (dA : Nat → ClassId) (E : Nat) (ad : Nat → Nat) (sz0 mi : Nat) (lc : Nat → ClassId) (sa la lp lx ld lr lq : Nat) (row : Nat → Int32) {n cu : Nat} (hn : n ≤ 7) (hcu : cu ≤ 8) (md : Int32) (q : Nat) (ob : Option (Nat × Nat)) (fe : Nat → Option Nat) (FZ : va_W) (hlo : LOk ob q) (hq : q ≤ 40) (hco : CutsOk dA FZ row cu q fe) (bst : Option Nat) (hB : BstOk row n cu bst) (hup : Up sz0 (stW dA E ((sa, la, lp, lx, ld, lr, lq), md, ob, fe) row n cu q)) (hap : Apart FZ (stW dA E ((sa, la, lp, lx, ld, lr, lq), md, ob, fe) row n cu q)) : EX l yX1_step cX1_step 4 (some .int) 12 3720 5 76 [.ref sa] (G2 D dA E ad sz0 mi lc) D (stW dA E ((sa, la, lp, lx, ld, lr, lq), md, ob, fe) row n cu q) (fun H => va_P D vwCl FZ H) (S := SO) (fun u _ => StepOk dA FZ row n cu q bst u) (fun _ => some (.int (msRes row n cu q))) (fun u => u.1 ++ ((sa, .inr (1, [.ref la, .ref lq, .int u.2.1, .int u.2.2.1])) :: (lW dA la lp lx ld lr row n cu ++ lsW dA E lq u.2.2.2.1 u.2.2.2.2.2.2 u.2.2.2.2.1 u.2.2.2.2.2.1))) := by
  refine ex_of (by decide) (Nat.le_of_ble_eq_true rfl) ?_
  intro p e s m below meth c A S hrt hlk hnm GG hA hAe hΦ H locs hP hD hS ls hl
  obtain ⟨hx, hb, hml, hown, hts⟩ := id S
  have G := GG.1
  have K := G.1.1
  have hA0 := up_A hup G.1.2.2.2.2.2.2 hAe
  have hcf := cutsOk_f hlo hco
  have h2n := pow7 hn
  have hFA := ap_A hΦ hap hAe
  have hP : va_P D vwCl ((sa, .inr (1, [.ref la, .ref lq, .int (row 4), .int (row 5)])) :: (la, .inr (2, [.ref lp, .ref lx, .ref ld, .ref lr, .int (nI n), .int (nI cu), .int (row 2)])) :: (lp, .inl (dA 0, 7, .inl (fun k => row (6 + k)))) :: (lx, .inl (dA 0, 7, .inl (fun k => row (77 + k)))) :: (ld, .inl (dA 0, 8, .inl (fun k => row (13 + k)))) :: (lr, .inl (dA 0, 56, .inl (fun k => row (21 + k)))) :: (lq, .inr (4, [.int md, .ref (dOf E ob), .int (nI q)])) :: lsT dA ob fe) H := hP
  have hD : va_D A ((sa, .inr (1, [.ref la, .ref lq, .int (row 4), .int (row 5)])) :: (la, .inr (2, [.ref lp, .ref lx, .ref ld, .ref lr, .int (nI n), .int (nI cu), .int (row 2)])) :: (lp, .inl (dA 0, 7, .inl (fun k => row (6 + k)))) :: (lx, .inl (dA 0, 7, .inl (fun k => row (77 + k)))) :: (ld, .inl (dA 0, 8, .inl (fun k => row (13 + k)))) :: (lr, .inl (dA 0, 56, .inl (fun k => row (21 + k)))) :: (lq, .inr (4, [.int md, .ref (dOf E ob), .int (nI q)])) :: lsT dA ob fe) := hD
  have hl : lv_has ls 4 [(0, .ref sa)] := hl
  refine lv_aload_n hx hb dX1_step_0 rfl (lv_at hl 0 rfl) ?_
  refine va_get (D := D) (ci := 1) (C := RX1) (T := TX1) (N := 4) hx hb hts in_X1 hown K hP 0 rfl rfl 0 (by decide) (hts _ q171) (fun _ h9 => h9) rfl dX1_step_1 ?_
  refine va_getN (D := D) (ci := 2) (C := RX2) (T := TX2) (N := 7) hx hb hts in_X2 hown K hP 1 rfl rfl 5 (by decide) (va_Nw.use rfl (G.1.2.1 _ q125 rfl)) (fun _ h9 => h9) rfl dX1_step_4 ?_
  refine x_ifn_ne (tgt := 15) hx hb dX1_step_7 (by decide) (by omega) (fun h_1 => ?_) (fun h_1 => ?_)
  · refine lv_aload_n hx hb dX1_step_15 rfl (lv_at hl 0 rfl) ?_
    refine x_ecallP (va_runV (As := []) (rest := []) S (xs_master l D dA E ad sz0 mi lc sa la lp lx ld lr lq row hn hcu (row 4) (row 5) md (dOf E ob) q (pOf ob) (fOf ob fe) FZ (lOk_r hlo) hcf (fun _ h => by cases h) (fun _ _ _ h => by cases h) H.size) (cwV 0 hts (lw_V q445 q446 q447 q60 q448) rfl rfl rfl hdX1_master ⟨Nat.le_of_ble_eq_true rfl, Nat.le_of_ble_eq_true rfl⟩) ⟨pe_blind g2_bl _, va_recv K hP (ci := 1) (q0 := 0) rfl rfl, pe_pre (g2_mv GG (low_of hS hA0 G.1.2.2.2.2.2.2) hS.1) (hP.sub [] rfl) (hD.sub [] rfl rfl) ⟨(vP_app.mpr ⟨hP.sub [0, 1, 2, 3, 4, 5, 6] rfl, lsR_of (vP_tail (w1 := [(sa, .inr (1, [.ref la, .ref lq, .int (row 4), .int (row 5)])), (la, .inr (2, [.ref lp, .ref lx, .ref ld, .ref lr, .int (nI n), .int (nI cu), .int (row 2)])), (lp, .inl (dA 0, 7, .inl (fun k => row (6 + k)))), (lx, .inl (dA 0, 7, .inl (fun k => row (77 + k)))), (ld, .inl (dA 0, 8, .inl (fun k => row (13 + k)))), (lr, .inl (dA 0, 56, .inl (fun k => row (21 + k)))), (lq, .inr (4, [.int md, .ref (dOf E ob), .int (nI q)]))]) (T := lsT dA ob fe) hP) (e_P G.1 (low_of hS hA0 G.1.2.2.2.2.2.2))⟩), (fz_S hΦ hFA hS)⟩ _⟩ rfl rfl hl.1 rfl (lv_room (Nat.le_of_ble_eq_true rfl)) dX1_step_16 ⟨Nat.le_of_ble_eq_true rfl, Nat.le_of_ble_eq_true rfl⟩) hP hD hS hA ((sa, .inr (1, [.ref la, .ref lq, .int (row 4), .int (row 5)])) :: (la, .inr (2, [.ref lp, .ref lx, .ref ld, .ref lr, .int (nI n), .int (nI cu), .int (row 2)])) :: (lp, .inl (dA 0, 7, .inl (fun k => row (6 + k)))) :: (lx, .inl (dA 0, 7, .inl (fun k => row (77 + k)))) :: (ld, .inl (dA 0, 8, .inl (fun k => row (13 + k)))) :: (lr, .inl (dA 0, 56, .inl (fun k => row (21 + k)))) :: (lq, .inr (4, [.int md, .ref (dOf E ob), .int (nI q)])) :: lsT dA ob fe) pm_nil (fun _u H locs hΨ hP hD hS hkp hsz hDn => ?_)
    rw [List.append_nil] at hP hD
    have hP : va_P D vwCl ((sa, .inr (1, [.ref la, .ref lq, .int (row 4), .int (row 5)])) :: (la, .inr (2, [.ref lp, .ref lx, .ref ld, .ref lr, .int (nI n), .int (nI cu), .int (row 2)])) :: (lp, .inl (dA 0, 7, .inl (fun k => row (6 + k)))) :: (lx, .inl (dA 0, 7, .inl (fun k => row (77 + k)))) :: (ld, .inl (dA 0, 8, .inl (fun k => row (13 + k)))) :: (lr, .inl (dA 0, 56, .inl (fun k => row (21 + k)))) :: (lq, .inr (4, [.int md, .ref (dOf E ob), .int (nI q)])) :: lsT dA ob fe) H := hP
    have hD : va_D A ((sa, .inr (1, [.ref la, .ref lq, .int (row 4), .int (row 5)])) :: (la, .inr (2, [.ref lp, .ref lx, .ref ld, .ref lr, .int (nI n), .int (nI cu), .int (row 2)])) :: (lp, .inl (dA 0, 7, .inl (fun k => row (6 + k)))) :: (lx, .inl (dA 0, 7, .inl (fun k => row (77 + k)))) :: (ld, .inl (dA 0, 8, .inl (fun k => row (13 + k)))) :: (lr, .inl (dA 0, 56, .inl (fun k => row (21 + k)))) :: (lq, .inr (4, [.int md, .ref (dOf E ob), .int (nI q)])) :: lsT dA ob fe) := hD
    refine W.widen (k := 2) (n := 2) (Nat.le_of_ble_eq_true rfl) (Nat.le_of_ble_eq_true rfl) ?_
    refine lv_istore_n (lv' := [(1, .int (oI (mMaster row n cu q))), (0, .ref sa)]) hx hb dX1_step_19 rfl hl (by decide) rfl (fun ls hl => ?_)
    refine lv_iload_n hx hb dX1_step_20 rfl (lv_at hl 0 rfl) ?_
    refine lv_bipush (v := -5) hx hb dX1_step_21 (by decide) ?_
    refine x_icmpo_ne (tgt := 29) hx hb dX1_step_23 (by decide) (fun b hb => by have := mMaster_lt hb; omega) (fun pl h_2 => ?_) (fun h_2 => ?_)
    · have hplt := mMaster_lt h_2
      refine lv_aload_n hx hb dX1_step_29 rfl (lv_at hl 1 rfl) ?_
      refine va_get (D := D) (ci := 1) (C := RX1) (T := TX1) (N := 4) hx hb hts in_X1 hown K hP 0 rfl rfl 0 (by decide) (hts _ q171) (fun _ h9 => h9) rfl dX1_step_30 ?_
      refine lv_iload_n hx hb dX1_step_33 rfl (lv_at hl 0 rfl) ?_
      refine x_top (y := nI pl) (by rw [h_2]; rfl) ?_
      refine x_ret (va_runV (As := [.int (nI pl)]) (rest := []) S (xr_lost l D dA E ad sz0 la lp lx ld lr row hn hcu pl (by omega)) (cwV 1 hts (lw_V q601 q476 q477 q61 q478) rfl rfl rfl hdX2_lost ⟨Nat.le_of_ble_eq_true rfl, Nat.le_of_ble_eq_true rfl⟩) ⟨bb_blind g0_bl _, va_recv K hP (ci := 2) (q0 := 1) rfl rfl, bb_pre (g0_mv G.1 (low_of hS hA0 G.1.2.2.2.2.2.2) hS.1) (hP.sub [1, 2, 3, 4, 5] rfl) _⟩ rfl rfl hl.1 rfl (lv_room (Nat.le_of_ble_eq_true rfl)) dX1_step_34 ⟨Nat.le_of_ble_eq_true rfl, Nat.le_of_ble_eq_true rfl⟩) ?_
      refine lv_istore_n (lv' := [(2, .int (oI (mMissed row n cu pl))), (1, .int (oI (mMaster row n cu q))), (0, .ref sa)]) hx hb dX1_step_37 rfl hl (by decide) rfl (fun ls hl => ?_)
      refine lv_iload_n hx hb dX1_step_38 rfl (lv_at hl 0 rfl) ?_
      refine lv_bipush (v := -5) hx hb dX1_step_39 (by decide) ?_
      refine x_icmpo_ne (tgt := 73) hx hb dX1_step_41 (by decide) (fun b hb => by have := mMissed_lt hb; omega) (fun j h_3 => ?_) (fun h_3 => ?_)
      · have hjl := mMissed_lt h_3
        refine lv_iload_n hx hb dX1_step_73 rfl (lv_at hl 0 rfl) ?_
        refine x_top (y := nI j) (by rw [h_3]; rfl) ?_
        refine lv_bipush (v := -5) hx hb dX1_step_74 (by decide) ?_
        refine lv_icmp_ne (tgt := 99) hx hb dX1_step_76 (by decide) (fun _ => ?_) (fun h => absurd h (nI_nm5 (by omega)))
        refine lv_iconst (v := nI 0) hx hb dX1_step_99 (by decide) ?_
        refine lv_istore_n (lv' := [(3, .int (nI 0)), (2, .int (oI (mMissed row n cu pl))), (1, .int (oI (mMaster row n cu q))), (0, .ref sa)]) hx hb dX1_step_100 rfl hl (by decide) rfl (fun ls hl => ?_)
        refine lv_iload_n hx hb dX1_step_101 rfl (lv_at hl 0 rfl) ?_
        refine lv_if_ne (tgt := 122) hx hb dX1_step_102 (by decide) (fun h => absurd h (by decide)) (fun _ => ?_)
        refine lv_aload_n hx hb dX1_step_105 rfl (lv_at hl 3 rfl) ?_
        refine va_get (D := D) (ci := 1) (C := RX1) (T := TX1) (N := 4) hx hb hts in_X1 hown K hP 0 rfl rfl 1 (by decide) (hts _ q173) (fun _ h9 => h9) rfl dX1_step_106 ?_
        refine x_ret5 (va_runF ((K.1 4 _ rfl).2) (As := []) (rest := []) S (xl_size l D dA E ad sz0 mi lq md (.ref (dOf E ob)) q) (va_cwF 0 hts (lw_F (x := ⟨"java/util/List", "size", "()I"⟩) (y := yJ2_size) q492 q351 q353 q64 q355) rfl rfl rfl (fwk_0 G.1.2.2.1) (by decide +kernel) ⟨Nat.le_of_ble_eq_true rfl, Nat.le_of_ble_eq_true rfl⟩) ⟨bb_blind g1_bl _, va_recv K hP (ci := 4) (q0 := 6) rfl rfl, bb_pre (g1_mv G (low_of hS hA0 G.1.2.2.2.2.2.2) hS.1) (hP.sub [6] rfl) _⟩ rfl rfl hl.1 rfl (lv_room (Nat.le_of_ble_eq_true rfl)) dX1_step_109 ⟨Nat.le_of_ble_eq_true rfl, Nat.le_of_ble_eq_true rfl⟩) ?_
        refine lv_bipush (v := nI 40) hx hb dX1_step_114 (by decide) ?_
        refine x_icmpn_ne (tgt := 122) hx hb dX1_step_116 (by decide) (by omega) (by omega) (fun h_5 => ?_) (fun h_5 => ?_)
        · refine lv_aload_n hx hb dX1_step_122 rfl (lv_at hl 3 rfl) ?_
          refine lv_dup hx hb dX1_step_123 rfl ?_
          refine va_get (D := D) (ci := 1) (C := RX1) (T := TX1) (N := 4) hx hb hts in_X1 hown K hP 0 rfl rfl 3 (by decide) (hts _ q177) (fun _ h9 => h9) rfl dX1_step_124 ?_
          refine lv_iconst (v := nI 1) hx hb dX1_step_127 (by decide) ?_
          refine lv_iadd hx hb dX1_step_128 ?_
          refine va_put (D := D) (ci := 1) (v := .int ((row 5) + (nI 1))) (ty := .int) (C := RX1) (T := TX1) (N := 4) hx hb hts in_X1 tyX1 tyX1_ok nmX1 hown K hP hD hS 0 rfl rfl 3 (by decide) (hts _ q177) (fun _ h9 => h9) rfl (by decide +kernel) rfl rfl (Nat.le_of_ble_eq_true rfl) dX1_step_129 (fun H locs hP hD hS => ?_)
          have hP : va_P D vwCl ((sa, .inr (1, [.ref la, .ref lq, .int (row 4), .int ((row 5) + (nI 1))])) :: (la, .inr (2, [.ref lp, .ref lx, .ref ld, .ref lr, .int (nI n), .int (nI cu), .int (row 2)])) :: (lp, .inl (dA 0, 7, .inl (fun k => row (6 + k)))) :: (lx, .inl (dA 0, 7, .inl (fun k => row (77 + k)))) :: (ld, .inl (dA 0, 8, .inl (fun k => row (13 + k)))) :: (lr, .inl (dA 0, 56, .inl (fun k => row (21 + k)))) :: (lq, .inr (4, [.int md, .ref (dOf E ob), .int (nI q)])) :: lsT dA ob fe) H := hP
          have hD : va_D A ((sa, .inr (1, [.ref la, .ref lq, .int (row 4), .int ((row 5) + (nI 1))])) :: (la, .inr (2, [.ref lp, .ref lx, .ref ld, .ref lr, .int (nI n), .int (nI cu), .int (row 2)])) :: (lp, .inl (dA 0, 7, .inl (fun k => row (6 + k)))) :: (lx, .inl (dA 0, 7, .inl (fun k => row (77 + k)))) :: (ld, .inl (dA 0, 8, .inl (fun k => row (13 + k)))) :: (lr, .inl (dA 0, 56, .inl (fun k => row (21 + k)))) :: (lq, .inr (4, [.int md, .ref (dOf E ob), .int (nI q)])) :: lsT dA ob fe) := hD
          refine lv_iload_n hx hb dX1_step_132 rfl (lv_at hl 0 rfl) ?_
          refine lv_if_eq (tgt := 138) hx hb dX1_step_133 (by decide) (fun _ => ?_) (fun h => absurd (by decide) h)
          refine lv_aload_n hx hb dX1_step_138 rfl (lv_at hl 3 rfl) ?_
          refine va_get (D := D) (ci := 1) (C := RX1) (T := TX1) (N := 4) hx hb hts in_X1 hown K hP 0 rfl rfl 1 (by decide) (hts _ q173) (fun _ h9 => h9) rfl dX1_step_139 ?_
          refine lv_iload_n hx hb dX1_step_142 rfl (lv_at hl 1 rfl) ?_
          refine x_top (y := nI j) (by rw [h_3]; rfl) ?_
          refine lv_bipush (v := -5) hx hb dX1_step_143 (by decide) ?_
          refine lv_icmp_ne (tgt := 156) hx hb dX1_step_145 (by decide) (fun _ => ?_) (fun h => absurd h (nI_nm5 (by omega)))
          refine va_new (D := D) (ci := 6) (fs := [.int (nI 0), .int (nI 0)]) (C := RX6) (T := TX6) (N := 2) hx hb hts in_X6 tyX6 tyX6_ok hown (hts _ q633) (hts _ q634) (hts _ q81) K hP hD hS hA rfl (fun j hj => by rcases (show j = 0 ∨ j = 1 by omega) with rfl | rfl <;> rfl) (Nat.le_of_ble_eq_true rfl) (Nat.le_of_ble_eq_true rfl) dX1_step_156 (fun ka H hP hD hS => ?_)
          have hP := vP_perm List.perm_append_comm hP
          have hD := vD_perm List.perm_append_comm hD
          have hP : va_P D vwCl ((ka, .inr (6, [.int (nI 0), .int (nI 0)])) :: (sa, .inr (1, [.ref la, .ref lq, .int (row 4), .int ((row 5) + (nI 1))])) :: (la, .inr (2, [.ref lp, .ref lx, .ref ld, .ref lr, .int (nI n), .int (nI cu), .int (row 2)])) :: (lp, .inl (dA 0, 7, .inl (fun k => row (6 + k)))) :: (lx, .inl (dA 0, 7, .inl (fun k => row (77 + k)))) :: (ld, .inl (dA 0, 8, .inl (fun k => row (13 + k)))) :: (lr, .inl (dA 0, 56, .inl (fun k => row (21 + k)))) :: (lq, .inr (4, [.int md, .ref (dOf E ob), .int (nI q)])) :: lsT dA ob fe) H := hP
          have hD : va_D A ((ka, .inr (6, [.int (nI 0), .int (nI 0)])) :: (sa, .inr (1, [.ref la, .ref lq, .int (row 4), .int ((row 5) + (nI 1))])) :: (la, .inr (2, [.ref lp, .ref lx, .ref ld, .ref lr, .int (nI n), .int (nI cu), .int (row 2)])) :: (lp, .inl (dA 0, 7, .inl (fun k => row (6 + k)))) :: (lx, .inl (dA 0, 7, .inl (fun k => row (77 + k)))) :: (ld, .inl (dA 0, 8, .inl (fun k => row (13 + k)))) :: (lr, .inl (dA 0, 56, .inl (fun k => row (21 + k)))) :: (lq, .inr (4, [.int md, .ref (dOf E ob), .int (nI q)])) :: lsT dA ob fe) := hD
          refine W.widen (k := 3) (n := 4) (Nat.le_of_ble_eq_true rfl) (Nat.le_of_ble_eq_true rfl) ?_
          refine lv_dup hx hb dX1_step_159 rfl ?_
          refine lv_iload_n hx hb dX1_step_160 rfl (lv_at hl 1 rfl) ?_
          refine x_top (y := nI j) (by rw [h_3]; rfl) ?_
          have hDs : va_D A ([(ka, .inr (6, [.int (nI 0), .int (nI 0)]))] ++ ((sa, .inr (1, [.ref la, .ref lq, .int (row 4), .int ((row 5) + (nI 1))])) :: (la, .inr (2, [.ref lp, .ref lx, .ref ld, .ref lr, .int (nI n), .int (nI cu), .int (row 2)])) :: (lp, .inl (dA 0, 7, .inl (fun k => row (6 + k)))) :: (lx, .inl (dA 0, 7, .inl (fun k => row (77 + k)))) :: (ld, .inl (dA 0, 8, .inl (fun k => row (13 + k)))) :: (lr, .inl (dA 0, 56, .inl (fun k => row (21 + k)))) :: (lq, .inr (4, [.int md, .ref (dOf E ob), .int (nI q)])) :: lsT dA ob fe)) := hD
          refine x_ecallP (va_runI (As := [.int (nI j)]) (rest := [.ref ka, .ref lq]) S (xc_ray l D dA E ad sz0 mi ka j (up_D hA0 (vD_left hDs)) H.size) (cwI 1 hts (lw_meth q637) rfl rfl rfl (hts _ q81) (hts _ q635) (hts _ q636) rfl (by decide +kernel) ⟨Nat.le_of_ble_eq_true rfl, Nat.le_of_ble_eq_true rfl⟩) ⟨pe_blind g1_bl _, pe_pre (g1_mv G (low_of hS hA0 G.1.2.2.2.2.2.2) hS.1) (hP.sub [0] rfl) (vD_left hDs) trivial _⟩ rfl rfl hl.1 rfl (lv_room (Nat.le_of_ble_eq_true rfl)) dX1_step_161 ⟨Nat.le_of_ble_eq_true rfl, Nat.le_of_ble_eq_true rfl⟩) hP hD hS hA ((sa, .inr (1, [.ref la, .ref lq, .int (row 4), .int ((row 5) + (nI 1))])) :: (la, .inr (2, [.ref lp, .ref lx, .ref ld, .ref lr, .int (nI n), .int (nI cu), .int (row 2)])) :: (lp, .inl (dA 0, 7, .inl (fun k => row (6 + k)))) :: (lx, .inl (dA 0, 7, .inl (fun k => row (77 + k)))) :: (ld, .inl (dA 0, 8, .inl (fun k => row (13 + k)))) :: (lr, .inl (dA 0, 56, .inl (fun k => row (21 + k)))) :: (lq, .inr (4, [.int md, .ref (dOf E ob), .int (nI q)])) :: lsT dA ob fe) (List.perm_append_comm (l₁ := ([(ka, .inr (6, [.int (nI 0), .int (nI 0)]))] : va_W))) (fun _u H locs hΨ hP hD hS hkp hsz hDn => ?_)
          have hP := vP_perm List.perm_append_comm hP
          have hD := vD_perm List.perm_append_comm hD
          have hP : va_P D vwCl ((ka, .inr (6, [.int (nI 0), .int (nI j)])) :: (sa, .inr (1, [.ref la, .ref lq, .int (row 4), .int ((row 5) + (nI 1))])) :: (la, .inr (2, [.ref lp, .ref lx, .ref ld, .ref lr, .int (nI n), .int (nI cu), .int (row 2)])) :: (lp, .inl (dA 0, 7, .inl (fun k => row (6 + k)))) :: (lx, .inl (dA 0, 7, .inl (fun k => row (77 + k)))) :: (ld, .inl (dA 0, 8, .inl (fun k => row (13 + k)))) :: (lr, .inl (dA 0, 56, .inl (fun k => row (21 + k)))) :: (lq, .inr (4, [.int md, .ref (dOf E ob), .int (nI q)])) :: lsT dA ob fe) H := hP
          have hD : va_D A ((ka, .inr (6, [.int (nI 0), .int (nI j)])) :: (sa, .inr (1, [.ref la, .ref lq, .int (row 4), .int ((row 5) + (nI 1))])) :: (la, .inr (2, [.ref lp, .ref lx, .ref ld, .ref lr, .int (nI n), .int (nI cu), .int (row 2)])) :: (lp, .inl (dA 0, 7, .inl (fun k => row (6 + k)))) :: (lx, .inl (dA 0, 7, .inl (fun k => row (77 + k)))) :: (ld, .inl (dA 0, 8, .inl (fun k => row (13 + k)))) :: (lr, .inl (dA 0, 56, .inl (fun k => row (21 + k)))) :: (lq, .inr (4, [.int md, .ref (dOf E ob), .int (nI q)])) :: lsT dA ob fe) := hD
          refine W.widen (k := 3) (n := 4) (Nat.le_of_ble_eq_true rfl) (Nat.le_of_ble_eq_true rfl) ?_
          have hDs : va_D A ([(ka, .inr (6, [.int (nI 0), .int (nI j)])), (sa, .inr (1, [.ref la, .ref lq, .int (row 4), .int ((row 5) + (nI 1))])), (la, .inr (2, [.ref lp, .ref lx, .ref ld, .ref lr, .int (nI n), .int (nI cu), .int (row 2)])), (lp, .inl (dA 0, 7, .inl (fun k => row (6 + k)))), (lx, .inl (dA 0, 7, .inl (fun k => row (77 + k)))), (ld, .inl (dA 0, 8, .inl (fun k => row (13 + k)))), (lr, .inl (dA 0, 56, .inl (fun k => row (21 + k))))] ++ lsW dA E lq md q ob fe) := hD
          have hPs : va_P D vwCl ([(ka, .inr (6, [.int (nI 0), .int (nI j)])), (sa, .inr (1, [.ref la, .ref lq, .int (row 4), .int ((row 5) + (nI 1))])), (la, .inr (2, [.ref lp, .ref lx, .ref ld, .ref lr, .int (nI n), .int (nI cu), .int (row 2)])), (lp, .inl (dA 0, 7, .inl (fun k => row (6 + k)))), (lx, .inl (dA 0, 7, .inl (fun k => row (77 + k)))), (ld, .inl (dA 0, 8, .inl (fun k => row (13 + k)))), (lr, .inl (dA 0, 56, .inl (fun k => row (21 + k))))] ++ lsW dA E lq md q ob fe) H := hP
          have hFn : va_P D vwCl ([(ka, .inr (6, [.int (nI 0), .int (nI j)]))] ++ FZ) H := vP_app.mpr ⟨hP.sub [0] rfl, (fz_S hΦ hFA hS)⟩
          have hpn : Apart ([(ka, .inr (6, [.int (nI 0), .int (nI j)]))] ++ FZ) (lsW dA E lq md q ob fe) := apart_app (Apart.right (a := [(sa, .inr (1, [.ref la, .ref lq, .int (row 4), .int ((row 5) + (nI 1))])), (la, .inr (2, [.ref lp, .ref lx, .ref ld, .ref lr, .int (nI n), .int (nI cu), .int (row 2)])), (lp, .inl (dA 0, 7, .inl (fun k => row (6 + k)))), (lx, .inl (dA 0, 7, .inl (fun k => row (77 + k)))), (ld, .inl (dA 0, 8, .inl (fun k => row (13 + k)))), (lr, .inl (dA 0, 56, .inl (fun k => row (21 + k))))]) (apart_nd (w1 := [(ka, .inr (6, [.int (nI 0), .int (nI j)]))]) hDs)) (apart_D hFA (vD_right hDs))
          refine x_ecallP5 (va_runF ((K.1 4 _ rfl).2) (As := [.ref ka]) (rest := []) S (xu_add l D dA E ad sz0 mi lq md q ob fe ([(ka, .inr (6, [.int (nI 0), .int (nI j)]))] ++ FZ) hlo (by omega) (fun i hi y hy => OkEl.mono (fun x hx => List.mem_append_right _ hx) (hco.el i hi y hy)) ka (OkEl.of1 (by decide)) (up_D hA0 (vD_right hDs)) hpn H.size) (va_cwF 1 hts (lw_F (x := ⟨"java/util/List", "add", "(Ljava/lang/Object;)Z"⟩) (y := yJ2_add) q645 q379 q381 q64 q383) rfl rfl rfl (fwk_6 G.1.2.2.1) (by decide +kernel) ⟨Nat.le_of_ble_eq_true rfl, Nat.le_of_ble_eq_true rfl⟩) ⟨pe_blind g1_bl _, va_recv K hP (ci := 4) (q0 := 7) rfl rfl, pe_pre (g1_mv G (low_of hS hA0 G.1.2.2.2.2.2.2) hS.1) (vP_app.mp hPs).2 (vD_right hDs) hFn _⟩ rfl rfl hl.1 rfl (lv_room (Nat.le_of_ble_eq_true rfl)) dX1_step_164 ⟨Nat.le_of_ble_eq_true rfl, Nat.le_of_ble_eq_true rfl⟩) hP hD hS hA [(ka, .inr (6, [.int (nI 0), .int (nI j)])), (sa, .inr (1, [.ref la, .ref lq, .int (row 4), .int ((row 5) + (nI 1))])), (la, .inr (2, [.ref lp, .ref lx, .ref ld, .ref lr, .int (nI n), .int (nI cu), .int (row 2)])), (lp, .inl (dA 0, 7, .inl (fun k => row (6 + k)))), (lx, .inl (dA 0, 7, .inl (fun k => row (77 + k)))), (ld, .inl (dA 0, 8, .inl (fun k => row (13 + k)))), (lr, .inl (dA 0, 56, .inl (fun k => row (21 + k))))] (List.Perm.refl _) (fun u1 H locs hΨ hP hD hS hkp hsz hDn => ?_)
          obtain ⟨ob1, fe1⟩ := u1
          have hP : va_P D vwCl ((ka, .inr (6, [.int (nI 0), .int (nI j)])) :: (sa, .inr (1, [.ref la, .ref lq, .int (row 4), .int ((row 5) + (nI 1))])) :: (la, .inr (2, [.ref lp, .ref lx, .ref ld, .ref lr, .int (nI n), .int (nI cu), .int (row 2)])) :: (lp, .inl (dA 0, 7, .inl (fun k => row (6 + k)))) :: (lx, .inl (dA 0, 7, .inl (fun k => row (77 + k)))) :: (ld, .inl (dA 0, 8, .inl (fun k => row (13 + k)))) :: (lr, .inl (dA 0, 56, .inl (fun k => row (21 + k)))) :: (lq, .inr (4, [.int (md + nI 1), .ref (dOf E ob1), .int (nI (q + 1))])) :: lsT dA ob1 fe1) H := hP
          have hD : va_D A ((ka, .inr (6, [.int (nI 0), .int (nI j)])) :: (sa, .inr (1, [.ref la, .ref lq, .int (row 4), .int ((row 5) + (nI 1))])) :: (la, .inr (2, [.ref lp, .ref lx, .ref ld, .ref lr, .int (nI n), .int (nI cu), .int (row 2)])) :: (lp, .inl (dA 0, 7, .inl (fun k => row (6 + k)))) :: (lx, .inl (dA 0, 7, .inl (fun k => row (77 + k)))) :: (ld, .inl (dA 0, 8, .inl (fun k => row (13 + k)))) :: (lr, .inl (dA 0, 56, .inl (fun k => row (21 + k)))) :: (lq, .inr (4, [.int (md + nI 1), .ref (dOf E ob1), .int (nI (q + 1))])) :: lsT dA ob1 fe1) := hD
          refine W.widen (k := 4) (n := 68) (Nat.le_of_ble_eq_true rfl) (Nat.le_of_ble_eq_true rfl) ?_
          have hΨ1 := hΨ
          refine lv_pop hx hb dX1_step_169 rfl ?_
          refine lv_iload_n hx hb dX1_step_170 rfl (lv_at hl 1 rfl) ?_
          refine x_top (y := nI j) (by rw [h_3]; rfl) ?_
          refine lv_bipush (v := -5) hx hb dX1_step_171 (by decide) ?_
          refine lv_icmp_ne (tgt := 180) hx hb dX1_step_173 (by decide) (fun _ => ?_) (fun h => absurd h (nI_nm5 (by omega)))
          refine lv_iconst (v := nI 0) hx hb dX1_step_180 (by decide) ?_
          exact x_eiret ([(ka, .inr (6, [.int (nI 0), .int (nI j)]))], row 4, (row 5) + (nI 1), md + nI 1, ob1, fe1, q + 1) hx hb hrt hlk (by rw [sr_0 (sp_n h_1 h_2) (sv_f h_3) h_5 h_3]) (sk_cut (sp_n h_1 h_2) (sv_f h_3) h_5 (sb_f h_3) hcu hco (ck_ray (sp_n h_1 h_2) (sv_f h_3) h_5 h_3 hcu) hΨ1.1 hΨ1.2.1 hΨ1.2.2) hP hD hS dX1_step_181 (Nat.le_of_ble_eq_true rfl) (Nat.le_of_ble_eq_true rfl)
        · refine lv_bipush (v := -3) hx hb dX1_step_119 (by decide) ?_
          exact x_eiret ([], row 4, row 5, md, ob, fe, q) hx hb hrt hlk (by rw [sr_3 (sp_n h_1 h_2) (sv_f h_3) h_5]) (Or.inl (sr_3 (sp_n h_1 h_2) (sv_f h_3) h_5)) hP hD hS dX1_step_121 (Nat.le_of_ble_eq_true rfl) (Nat.le_of_ble_eq_true rfl)
      · refine lv_aload_n hx hb dX1_step_44 rfl (lv_at hl 2 rfl) ?_
        refine va_get (D := D) (ci := 1) (C := RX1) (T := TX1) (N := 4) hx hb hts in_X1 hown K hP 0 rfl rfl 2 (by decide) (hts _ q175) (fun _ h9 => h9) rfl dX1_step_45 ?_
        refine x_top (y := oI bst) hB.1 ?_
        refine lv_bipush (v := -5) hx hb dX1_step_48 (by decide) ?_
        refine x_icmpo_eq (tgt := 68) hx hb dX1_step_50 (by decide) (fun b hb => by have := (hB.2 b hb).1; omega) (fun h_7 => ?_) (fun b h_7 => ?_)
        · refine lv_aload_n hx hb dX1_step_68 rfl (lv_at hl 2 rfl) ?_
          refine lv_iload_n hx hb dX1_step_69 rfl (lv_at hl 1 rfl) ?_
          refine x_top (y := nI pl) (by rw [h_2]; rfl) ?_
          refine va_put (D := D) (ci := 1) (v := .int (nI pl)) (ty := .int) (C := RX1) (T := TX1) (N := 4) hx hb hts in_X1 tyX1 tyX1_ok nmX1 hown K hP hD hS 0 rfl rfl 2 (by decide) (hts _ q175) (fun _ h9 => h9) rfl (by decide +kernel) rfl rfl (Nat.le_of_ble_eq_true rfl) dX1_step_70 (fun H locs hP hD hS => ?_)
          have hP : va_P D vwCl ((sa, .inr (1, [.ref la, .ref lq, .int (nI pl), .int (row 5)])) :: (la, .inr (2, [.ref lp, .ref lx, .ref ld, .ref lr, .int (nI n), .int (nI cu), .int (row 2)])) :: (lp, .inl (dA 0, 7, .inl (fun k => row (6 + k)))) :: (lx, .inl (dA 0, 7, .inl (fun k => row (77 + k)))) :: (ld, .inl (dA 0, 8, .inl (fun k => row (13 + k)))) :: (lr, .inl (dA 0, 56, .inl (fun k => row (21 + k)))) :: (lq, .inr (4, [.int md, .ref (dOf E ob), .int (nI q)])) :: lsT dA ob fe) H := hP
          have hD : va_D A ((sa, .inr (1, [.ref la, .ref lq, .int (nI pl), .int (row 5)])) :: (la, .inr (2, [.ref lp, .ref lx, .ref ld, .ref lr, .int (nI n), .int (nI cu), .int (row 2)])) :: (lp, .inl (dA 0, 7, .inl (fun k => row (6 + k)))) :: (lx, .inl (dA 0, 7, .inl (fun k => row (77 + k)))) :: (ld, .inl (dA 0, 8, .inl (fun k => row (13 + k)))) :: (lr, .inl (dA 0, 56, .inl (fun k => row (21 + k)))) :: (lq, .inr (4, [.int md, .ref (dOf E ob), .int (nI q)])) :: lsT dA ob fe) := hD
          refine lv_iload_n hx hb dX1_step_73 rfl (lv_at hl 0 rfl) ?_
          refine x_top (y := -5) (by rw [h_3]; rfl) ?_
          refine lv_bipush (v := -5) hx hb dX1_step_74 (by decide) ?_
          refine lv_icmp_ne (tgt := 99) hx hb dX1_step_76 (by decide) (fun h => absurd rfl h) (fun _ => ?_)
          refine lv_aload_n hx hb dX1_step_79 rfl (lv_at hl 2 rfl) ?_
          refine va_get (D := D) (ci := 1) (C := RX1) (T := TX1) (N := 4) hx hb hts in_X1 hown K hP 0 rfl rfl 0 (by decide) (hts _ q171) (fun _ h9 => h9) rfl dX1_step_80 ?_
          refine lv_iload_n hx hb dX1_step_83 rfl (lv_at hl 1 rfl) ?_
          refine x_top (y := nI pl) (by rw [h_2]; rfl) ?_
          refine x_ret (va_runV (As := [.int (nI pl)]) (rest := []) S (xr_cost l D dA E ad sz0 la lp lx ld lr row hn hcu pl (by omega) (miss_none h_3)) (cwV 1 hts (lw_V q602 q603 q604 q61 q605) rfl rfl rfl hdX2_cost ⟨Nat.le_of_ble_eq_true rfl, Nat.le_of_ble_eq_true rfl⟩) ⟨bb_blind g0_bl _, va_recv K hP (ci := 2) (q0 := 1) rfl rfl, bb_pre (g0_mv G.1 (low_of hS hA0 G.1.2.2.2.2.2.2) hS.1) (hP.sub [1, 2, 3, 4, 5] rfl) _⟩ rfl rfl hl.1 rfl (lv_room (Nat.le_of_ble_eq_true rfl)) dX1_step_84 ⟨Nat.le_of_ble_eq_true rfl, Nat.le_of_ble_eq_true rfl⟩) ?_
          refine lv_aload_n hx hb dX1_step_87 rfl (lv_at hl 2 rfl) ?_
          refine lv_iload_n hx hb dX1_step_88 rfl (lv_at hl 1 rfl) ?_
          refine x_top (y := nI pl) (by rw [h_2]; rfl) ?_
          refine x_ret (va_runV (As := [.int (nI pl)]) (rest := [.int (mCost row n cu pl)]) S (xs_guess l D dA E ad sz0 mi sa la lp lx ld lr lq row hn hcu (nI pl) (row 5) md (dOf E ob) q (pOf ob) (fOf ob fe) FZ (lOk_r hlo) hcf pl (by omega)) (cwV 1 hts (lw_V q571 q572 q573 q60 q574) rfl rfl rfl hdX1_guess ⟨Nat.le_of_ble_eq_true rfl, Nat.le_of_ble_eq_true rfl⟩) ⟨bb_blind g1_bl _, va_recv K hP (ci := 1) (q0 := 0) rfl rfl, bb_pre (g1_mv G (low_of hS hA0 G.1.2.2.2.2.2.2) hS.1) ⟨(vP_app.mpr ⟨hP.sub [0, 1, 2, 3, 4, 5, 6] rfl, lsR_of (vP_tail (w1 := [(sa, .inr (1, [.ref la, .ref lq, .int (nI pl), .int (row 5)])), (la, .inr (2, [.ref lp, .ref lx, .ref ld, .ref lr, .int (nI n), .int (nI cu), .int (row 2)])), (lp, .inl (dA 0, 7, .inl (fun k => row (6 + k)))), (lx, .inl (dA 0, 7, .inl (fun k => row (77 + k)))), (ld, .inl (dA 0, 8, .inl (fun k => row (13 + k)))), (lr, .inl (dA 0, 56, .inl (fun k => row (21 + k)))), (lq, .inr (4, [.int md, .ref (dOf E ob), .int (nI q)]))]) (T := lsT dA ob fe) hP) (e_P G.1 (low_of hS hA0 G.1.2.2.2.2.2.2))⟩), (fz_S hΦ hFA hS)⟩ _⟩ rfl rfl hl.1 rfl (lv_room (Nat.le_of_ble_eq_true rfl)) dX1_step_89 ⟨Nat.le_of_ble_eq_true rfl, Nat.le_of_ble_eq_true rfl⟩) ?_
          refine lv_icmp_ne (tgt := 99) hx hb dX1_step_92 (by decide) (fun h_8 => ?_) (fun h_8 => ?_)
          · refine lv_iconst (v := nI 0) hx hb dX1_step_99 (by decide) ?_
            refine lv_istore_n (lv' := [(3, .int (nI 0)), (2, .int (oI (mMissed row n cu pl))), (1, .int (oI (mMaster row n cu q))), (0, .ref sa)]) hx hb dX1_step_100 rfl hl (by decide) rfl (fun ls hl => ?_)
            refine lv_iload_n hx hb dX1_step_101 rfl (lv_at hl 0 rfl) ?_
            refine lv_if_ne (tgt := 122) hx hb dX1_step_102 (by decide) (fun h => absurd h (by decide)) (fun _ => ?_)
            refine lv_aload_n hx hb dX1_step_105 rfl (lv_at hl 3 rfl) ?_
            refine va_get (D := D) (ci := 1) (C := RX1) (T := TX1) (N := 4) hx hb hts in_X1 hown K hP 0 rfl rfl 1 (by decide) (hts _ q173) (fun _ h9 => h9) rfl dX1_step_106 ?_
            refine x_ret5 (va_runF ((K.1 4 _ rfl).2) (As := []) (rest := []) S (xl_size l D dA E ad sz0 mi lq md (.ref (dOf E ob)) q) (va_cwF 0 hts (lw_F (x := ⟨"java/util/List", "size", "()I"⟩) (y := yJ2_size) q492 q351 q353 q64 q355) rfl rfl rfl (fwk_0 G.1.2.2.1) (by decide +kernel) ⟨Nat.le_of_ble_eq_true rfl, Nat.le_of_ble_eq_true rfl⟩) ⟨bb_blind g1_bl _, va_recv K hP (ci := 4) (q0 := 6) rfl rfl, bb_pre (g1_mv G (low_of hS hA0 G.1.2.2.2.2.2.2) hS.1) (hP.sub [6] rfl) _⟩ rfl rfl hl.1 rfl (lv_room (Nat.le_of_ble_eq_true rfl)) dX1_step_109 ⟨Nat.le_of_ble_eq_true rfl, Nat.le_of_ble_eq_true rfl⟩) ?_
            refine lv_bipush (v := nI 40) hx hb dX1_step_114 (by decide) ?_
            refine x_icmpn_ne (tgt := 122) hx hb dX1_step_116 (by decide) (by omega) (by omega) (fun h_10 => ?_) (fun h_10 => ?_)
            · refine lv_aload_n hx hb dX1_step_122 rfl (lv_at hl 3 rfl) ?_
              refine lv_dup hx hb dX1_step_123 rfl ?_
              refine va_get (D := D) (ci := 1) (C := RX1) (T := TX1) (N := 4) hx hb hts in_X1 hown K hP 0 rfl rfl 3 (by decide) (hts _ q177) (fun _ h9 => h9) rfl dX1_step_124 ?_
              refine lv_iconst (v := nI 1) hx hb dX1_step_127 (by decide) ?_
              refine lv_iadd hx hb dX1_step_128 ?_
              refine va_put (D := D) (ci := 1) (v := .int ((row 5) + (nI 1))) (ty := .int) (C := RX1) (T := TX1) (N := 4) hx hb hts in_X1 tyX1 tyX1_ok nmX1 hown K hP hD hS 0 rfl rfl 3 (by decide) (hts _ q177) (fun _ h9 => h9) rfl (by decide +kernel) rfl rfl (Nat.le_of_ble_eq_true rfl) dX1_step_129 (fun H locs hP hD hS => ?_)
              have hP : va_P D vwCl ((sa, .inr (1, [.ref la, .ref lq, .int (nI pl), .int ((row 5) + (nI 1))])) :: (la, .inr (2, [.ref lp, .ref lx, .ref ld, .ref lr, .int (nI n), .int (nI cu), .int (row 2)])) :: (lp, .inl (dA 0, 7, .inl (fun k => row (6 + k)))) :: (lx, .inl (dA 0, 7, .inl (fun k => row (77 + k)))) :: (ld, .inl (dA 0, 8, .inl (fun k => row (13 + k)))) :: (lr, .inl (dA 0, 56, .inl (fun k => row (21 + k)))) :: (lq, .inr (4, [.int md, .ref (dOf E ob), .int (nI q)])) :: lsT dA ob fe) H := hP
              have hD : va_D A ((sa, .inr (1, [.ref la, .ref lq, .int (nI pl), .int ((row 5) + (nI 1))])) :: (la, .inr (2, [.ref lp, .ref lx, .ref ld, .ref lr, .int (nI n), .int (nI cu), .int (row 2)])) :: (lp, .inl (dA 0, 7, .inl (fun k => row (6 + k)))) :: (lx, .inl (dA 0, 7, .inl (fun k => row (77 + k)))) :: (ld, .inl (dA 0, 8, .inl (fun k => row (13 + k)))) :: (lr, .inl (dA 0, 56, .inl (fun k => row (21 + k)))) :: (lq, .inr (4, [.int md, .ref (dOf E ob), .int (nI q)])) :: lsT dA ob fe) := hD
              refine lv_iload_n hx hb dX1_step_132 rfl (lv_at hl 0 rfl) ?_
              refine lv_if_eq (tgt := 138) hx hb dX1_step_133 (by decide) (fun _ => ?_) (fun h => absurd (by decide) h)
              refine lv_aload_n hx hb dX1_step_138 rfl (lv_at hl 3 rfl) ?_
              refine va_get (D := D) (ci := 1) (C := RX1) (T := TX1) (N := 4) hx hb hts in_X1 hown K hP 0 rfl rfl 1 (by decide) (hts _ q173) (fun _ h9 => h9) rfl dX1_step_139 ?_
              refine lv_iload_n hx hb dX1_step_142 rfl (lv_at hl 1 rfl) ?_
              refine x_top (y := -5) (by rw [h_3]; rfl) ?_
              refine lv_bipush (v := -5) hx hb dX1_step_143 (by decide) ?_
              refine lv_icmp_ne (tgt := 156) hx hb dX1_step_145 (by decide) (fun h => absurd rfl h) (fun _ => ?_)
              refine lv_aload_n hx hb dX1_step_148 rfl (lv_at hl 3 rfl) ?_
              refine lv_iload_n hx hb dX1_step_149 rfl (lv_at hl 2 rfl) ?_
              refine x_top (y := nI pl) (by rw [h_2]; rfl) ?_
              refine x_ecallP (va_runV (As := [.int (nI pl)]) (rest := [.ref lq]) S (xs_priceCut l D dA E ad sz0 mi sa la lp lx ld lr lq row hn hcu (nI pl) ((row 5) + (nI 1)) md (dOf E ob) q (pOf ob) (fOf ob fe) pl (by omega) (miss_none h_3) (fun _ h => by cases h) H.size) (cwV 1 hts (lw_V q612 q614 qs11 q60 q615) rfl rfl rfl hdX1_priceCut ⟨Nat.le_of_ble_eq_true rfl, Nat.le_of_ble_eq_true rfl⟩) ⟨pe_blind g1_bl _, va_recv K hP (ci := 1) (q0 := 0) rfl rfl, pe_pre (g1_mv G (low_of hS hA0 G.1.2.2.2.2.2.2) hS.1) (hP.sub [] rfl) (hD.sub [] rfl rfl) (vP_app.mpr ⟨hP.sub [0, 1, 2, 3, 4, 5, 6] rfl, lsR_of (vP_tail (w1 := [(sa, .inr (1, [.ref la, .ref lq, .int (nI pl), .int ((row 5) + (nI 1))])), (la, .inr (2, [.ref lp, .ref lx, .ref ld, .ref lr, .int (nI n), .int (nI cu), .int (row 2)])), (lp, .inl (dA 0, 7, .inl (fun k => row (6 + k)))), (lx, .inl (dA 0, 7, .inl (fun k => row (77 + k)))), (ld, .inl (dA 0, 8, .inl (fun k => row (13 + k)))), (lr, .inl (dA 0, 56, .inl (fun k => row (21 + k)))), (lq, .inr (4, [.int md, .ref (dOf E ob), .int (nI q)]))]) (T := lsT dA ob fe) hP) (e_P G.1 (low_of hS hA0 G.1.2.2.2.2.2.2))⟩) _⟩ rfl rfl hl.1 rfl (lv_room (Nat.le_of_ble_eq_true rfl)) dX1_step_150 ⟨Nat.le_of_ble_eq_true rfl, Nat.le_of_ble_eq_true rfl⟩) hP hD hS hA ((sa, .inr (1, [.ref la, .ref lq, .int (nI pl), .int ((row 5) + (nI 1))])) :: (la, .inr (2, [.ref lp, .ref lx, .ref ld, .ref lr, .int (nI n), .int (nI cu), .int (row 2)])) :: (lp, .inl (dA 0, 7, .inl (fun k => row (6 + k)))) :: (lx, .inl (dA 0, 7, .inl (fun k => row (77 + k)))) :: (ld, .inl (dA 0, 8, .inl (fun k => row (13 + k)))) :: (lr, .inl (dA 0, 56, .inl (fun k => row (21 + k)))) :: (lq, .inr (4, [.int md, .ref (dOf E ob), .int (nI q)])) :: lsT dA ob fe) pm_nil (fun u0 H locs hΨ hP hD hS hkp hsz hDn => ?_)
              obtain ⟨ka, kn⟩ := u0
              have hP := vP_perm List.perm_append_comm hP
              have hD := vD_perm List.perm_append_comm hD
              have hP : va_P D vwCl ((ka, .inr (5, [.int (nI 1), .ref kn])) :: (kn, .inl (dA 0, 8, .inl (pNums row n cu pl))) :: (sa, .inr (1, [.ref la, .ref lq, .int (nI pl), .int ((row 5) + (nI 1))])) :: (la, .inr (2, [.ref lp, .ref lx, .ref ld, .ref lr, .int (nI n), .int (nI cu), .int (row 2)])) :: (lp, .inl (dA 0, 7, .inl (fun k => row (6 + k)))) :: (lx, .inl (dA 0, 7, .inl (fun k => row (77 + k)))) :: (ld, .inl (dA 0, 8, .inl (fun k => row (13 + k)))) :: (lr, .inl (dA 0, 56, .inl (fun k => row (21 + k)))) :: (lq, .inr (4, [.int md, .ref (dOf E ob), .int (nI q)])) :: lsT dA ob fe) H := hP
              have hD : va_D A ((ka, .inr (5, [.int (nI 1), .ref kn])) :: (kn, .inl (dA 0, 8, .inl (pNums row n cu pl))) :: (sa, .inr (1, [.ref la, .ref lq, .int (nI pl), .int ((row 5) + (nI 1))])) :: (la, .inr (2, [.ref lp, .ref lx, .ref ld, .ref lr, .int (nI n), .int (nI cu), .int (row 2)])) :: (lp, .inl (dA 0, 7, .inl (fun k => row (6 + k)))) :: (lx, .inl (dA 0, 7, .inl (fun k => row (77 + k)))) :: (ld, .inl (dA 0, 8, .inl (fun k => row (13 + k)))) :: (lr, .inl (dA 0, 56, .inl (fun k => row (21 + k)))) :: (lq, .inr (4, [.int md, .ref (dOf E ob), .int (nI q)])) :: lsT dA ob fe) := hD
              refine W.widen (k := 4) (n := 12) (Nat.le_of_ble_eq_true rfl) (Nat.le_of_ble_eq_true rfl) ?_
              refine lv_goto (tgt := 164) hx hb dX1_step_153 (by decide) ?_
              have hDs : va_D A ([(ka, .inr (5, [.int (nI 1), .ref kn])), (kn, .inl (dA 0, 8, .inl (pNums row n cu pl))), (sa, .inr (1, [.ref la, .ref lq, .int (nI pl), .int ((row 5) + (nI 1))])), (la, .inr (2, [.ref lp, .ref lx, .ref ld, .ref lr, .int (nI n), .int (nI cu), .int (row 2)])), (lp, .inl (dA 0, 7, .inl (fun k => row (6 + k)))), (lx, .inl (dA 0, 7, .inl (fun k => row (77 + k)))), (ld, .inl (dA 0, 8, .inl (fun k => row (13 + k)))), (lr, .inl (dA 0, 56, .inl (fun k => row (21 + k))))] ++ lsW dA E lq md q ob fe) := hD
              have hPs : va_P D vwCl ([(ka, .inr (5, [.int (nI 1), .ref kn])), (kn, .inl (dA 0, 8, .inl (pNums row n cu pl))), (sa, .inr (1, [.ref la, .ref lq, .int (nI pl), .int ((row 5) + (nI 1))])), (la, .inr (2, [.ref lp, .ref lx, .ref ld, .ref lr, .int (nI n), .int (nI cu), .int (row 2)])), (lp, .inl (dA 0, 7, .inl (fun k => row (6 + k)))), (lx, .inl (dA 0, 7, .inl (fun k => row (77 + k)))), (ld, .inl (dA 0, 8, .inl (fun k => row (13 + k)))), (lr, .inl (dA 0, 56, .inl (fun k => row (21 + k))))] ++ lsW dA E lq md q ob fe) H := hP
              have hFn : va_P D vwCl ([(ka, .inr (5, [.int (nI 1), .ref kn])), (kn, .inl (dA 0, 8, .inl (pNums row n cu pl)))] ++ FZ) H := vP_app.mpr ⟨hP.sub [0, 1] rfl, (fz_S hΦ hFA hS)⟩
              have hpn : Apart ([(ka, .inr (5, [.int (nI 1), .ref kn])), (kn, .inl (dA 0, 8, .inl (pNums row n cu pl)))] ++ FZ) (lsW dA E lq md q ob fe) := apart_app (Apart.right (a := [(sa, .inr (1, [.ref la, .ref lq, .int (nI pl), .int ((row 5) + (nI 1))])), (la, .inr (2, [.ref lp, .ref lx, .ref ld, .ref lr, .int (nI n), .int (nI cu), .int (row 2)])), (lp, .inl (dA 0, 7, .inl (fun k => row (6 + k)))), (lx, .inl (dA 0, 7, .inl (fun k => row (77 + k)))), (ld, .inl (dA 0, 8, .inl (fun k => row (13 + k)))), (lr, .inl (dA 0, 56, .inl (fun k => row (21 + k))))]) (apart_nd (w1 := [(ka, .inr (5, [.int (nI 1), .ref kn])), (kn, .inl (dA 0, 8, .inl (pNums row n cu pl)))]) hDs)) (apart_D hFA (vD_right hDs))
              refine x_ecallP5 (va_runF ((K.1 4 _ rfl).2) (As := [.ref ka]) (rest := []) S (xu_add l D dA E ad sz0 mi lq md q ob fe ([(ka, .inr (5, [.int (nI 1), .ref kn])), (kn, .inl (dA 0, 8, .inl (pNums row n cu pl)))] ++ FZ) hlo (by omega) (fun i hi y hy => OkEl.mono (fun x hx => List.mem_append_right _ hx) (hco.el i hi y hy)) ka (OkEl.of1 (by decide)) (up_D hA0 (vD_right hDs)) hpn H.size) (va_cwF 1 hts (lw_F (x := ⟨"java/util/List", "add", "(Ljava/lang/Object;)Z"⟩) (y := yJ2_add) q645 q379 q381 q64 q383) rfl rfl rfl (fwk_6 G.1.2.2.1) (by decide +kernel) ⟨Nat.le_of_ble_eq_true rfl, Nat.le_of_ble_eq_true rfl⟩) ⟨pe_blind g1_bl _, va_recv K hP (ci := 4) (q0 := 8) rfl rfl, pe_pre (g1_mv G (low_of hS hA0 G.1.2.2.2.2.2.2) hS.1) (vP_app.mp hPs).2 (vD_right hDs) hFn _⟩ rfl rfl hl.1 rfl (lv_room (Nat.le_of_ble_eq_true rfl)) dX1_step_164 ⟨Nat.le_of_ble_eq_true rfl, Nat.le_of_ble_eq_true rfl⟩) hP hD hS hA [(ka, .inr (5, [.int (nI 1), .ref kn])), (kn, .inl (dA 0, 8, .inl (pNums row n cu pl))), (sa, .inr (1, [.ref la, .ref lq, .int (nI pl), .int ((row 5) + (nI 1))])), (la, .inr (2, [.ref lp, .ref lx, .ref ld, .ref lr, .int (nI n), .int (nI cu), .int (row 2)])), (lp, .inl (dA 0, 7, .inl (fun k => row (6 + k)))), (lx, .inl (dA 0, 7, .inl (fun k => row (77 + k)))), (ld, .inl (dA 0, 8, .inl (fun k => row (13 + k)))), (lr, .inl (dA 0, 56, .inl (fun k => row (21 + k))))] (List.Perm.refl _) (fun u1 H locs hΨ hP hD hS hkp hsz hDn => ?_)
              obtain ⟨ob1, fe1⟩ := u1
              have hP : va_P D vwCl ((ka, .inr (5, [.int (nI 1), .ref kn])) :: (kn, .inl (dA 0, 8, .inl (pNums row n cu pl))) :: (sa, .inr (1, [.ref la, .ref lq, .int (nI pl), .int ((row 5) + (nI 1))])) :: (la, .inr (2, [.ref lp, .ref lx, .ref ld, .ref lr, .int (nI n), .int (nI cu), .int (row 2)])) :: (lp, .inl (dA 0, 7, .inl (fun k => row (6 + k)))) :: (lx, .inl (dA 0, 7, .inl (fun k => row (77 + k)))) :: (ld, .inl (dA 0, 8, .inl (fun k => row (13 + k)))) :: (lr, .inl (dA 0, 56, .inl (fun k => row (21 + k)))) :: (lq, .inr (4, [.int (md + nI 1), .ref (dOf E ob1), .int (nI (q + 1))])) :: lsT dA ob1 fe1) H := hP
              have hD : va_D A ((ka, .inr (5, [.int (nI 1), .ref kn])) :: (kn, .inl (dA 0, 8, .inl (pNums row n cu pl))) :: (sa, .inr (1, [.ref la, .ref lq, .int (nI pl), .int ((row 5) + (nI 1))])) :: (la, .inr (2, [.ref lp, .ref lx, .ref ld, .ref lr, .int (nI n), .int (nI cu), .int (row 2)])) :: (lp, .inl (dA 0, 7, .inl (fun k => row (6 + k)))) :: (lx, .inl (dA 0, 7, .inl (fun k => row (77 + k)))) :: (ld, .inl (dA 0, 8, .inl (fun k => row (13 + k)))) :: (lr, .inl (dA 0, 56, .inl (fun k => row (21 + k)))) :: (lq, .inr (4, [.int (md + nI 1), .ref (dOf E ob1), .int (nI (q + 1))])) :: lsT dA ob1 fe1) := hD
              refine W.widen (k := 5) (n := 76) (Nat.le_of_ble_eq_true rfl) (Nat.le_of_ble_eq_true rfl) ?_
              have hΨ1 := hΨ
              refine lv_pop hx hb dX1_step_169 rfl ?_
              refine lv_iload_n hx hb dX1_step_170 rfl (lv_at hl 1 rfl) ?_
              refine x_top (y := -5) (by rw [h_3]; rfl) ?_
              refine lv_bipush (v := -5) hx hb dX1_step_171 (by decide) ?_
              refine lv_icmp_ne (tgt := 180) hx hb dX1_step_173 (by decide) (fun h => absurd rfl h) (fun _ => ?_)
              refine lv_iconst (v := nI 1) hx hb dX1_step_176 (by decide) ?_
              refine lv_goto (tgt := 181) hx hb dX1_step_177 (by decide) ?_
              exact x_eiret ([(ka, .inr (5, [.int (nI 1), .ref kn])), (kn, .inl (dA 0, 8, .inl (pNums row n cu pl)))], nI pl, (row 5) + (nI 1), md + nI 1, ob1, fe1, q + 1) hx hb hrt hlk (by rw [sr_1 (sp_n h_1 h_2) (sv_f1 h_3 h_8) h_10 h_3]) (sk_cut (sp_n h_1 h_2) (sv_f1 h_3 h_8) h_10 (sb_t1 h_3 h_7) hcu hco (ck_price (sp_n h_1 h_2) (sv_f1 h_3 h_8) h_10 h_3) hΨ1.1 hΨ1.2.1 hΨ1.2.2) hP hD hS dX1_step_181 (Nat.le_of_ble_eq_true rfl) (Nat.le_of_ble_eq_true rfl)
            · refine lv_bipush (v := -3) hx hb dX1_step_119 (by decide) ?_
              exact x_eiret ([], nI pl, row 5, md, ob, fe, q) hx hb hrt hlk (by rw [sr_3 (sp_n h_1 h_2) (sv_f1 h_3 h_8) h_10]) (Or.inl (sr_3 (sp_n h_1 h_2) (sv_f1 h_3 h_8) h_10)) hP hD hS dX1_step_121 (Nat.le_of_ble_eq_true rfl) (Nat.le_of_ble_eq_true rfl)
          · refine lv_iconst (v := nI 1) hx hb dX1_step_95 (by decide) ?_
            refine lv_goto (tgt := 100) hx hb dX1_step_96 (by decide) ?_
            refine lv_istore_n (lv' := [(3, .int (nI 1)), (2, .int (oI (mMissed row n cu pl))), (1, .int (oI (mMaster row n cu q))), (0, .ref sa)]) hx hb dX1_step_100 rfl hl (by decide) rfl (fun ls hl => ?_)
            refine lv_iload_n hx hb dX1_step_101 rfl (lv_at hl 0 rfl) ?_
            refine lv_if_ne (tgt := 122) hx hb dX1_step_102 (by decide) (fun _ => ?_) (fun h => absurd h (by decide))
            refine lv_aload_n hx hb dX1_step_122 rfl (lv_at hl 3 rfl) ?_
            refine lv_dup hx hb dX1_step_123 rfl ?_
            refine va_get (D := D) (ci := 1) (C := RX1) (T := TX1) (N := 4) hx hb hts in_X1 hown K hP 0 rfl rfl 3 (by decide) (hts _ q177) (fun _ h9 => h9) rfl dX1_step_124 ?_
            refine lv_iconst (v := nI 1) hx hb dX1_step_127 (by decide) ?_
            refine lv_iadd hx hb dX1_step_128 ?_
            refine va_put (D := D) (ci := 1) (v := .int ((row 5) + (nI 1))) (ty := .int) (C := RX1) (T := TX1) (N := 4) hx hb hts in_X1 tyX1 tyX1_ok nmX1 hown K hP hD hS 0 rfl rfl 3 (by decide) (hts _ q177) (fun _ h9 => h9) rfl (by decide +kernel) rfl rfl (Nat.le_of_ble_eq_true rfl) dX1_step_129 (fun H locs hP hD hS => ?_)
            have hP : va_P D vwCl ((sa, .inr (1, [.ref la, .ref lq, .int (nI pl), .int ((row 5) + (nI 1))])) :: (la, .inr (2, [.ref lp, .ref lx, .ref ld, .ref lr, .int (nI n), .int (nI cu), .int (row 2)])) :: (lp, .inl (dA 0, 7, .inl (fun k => row (6 + k)))) :: (lx, .inl (dA 0, 7, .inl (fun k => row (77 + k)))) :: (ld, .inl (dA 0, 8, .inl (fun k => row (13 + k)))) :: (lr, .inl (dA 0, 56, .inl (fun k => row (21 + k)))) :: (lq, .inr (4, [.int md, .ref (dOf E ob), .int (nI q)])) :: lsT dA ob fe) H := hP
            have hD : va_D A ((sa, .inr (1, [.ref la, .ref lq, .int (nI pl), .int ((row 5) + (nI 1))])) :: (la, .inr (2, [.ref lp, .ref lx, .ref ld, .ref lr, .int (nI n), .int (nI cu), .int (row 2)])) :: (lp, .inl (dA 0, 7, .inl (fun k => row (6 + k)))) :: (lx, .inl (dA 0, 7, .inl (fun k => row (77 + k)))) :: (ld, .inl (dA 0, 8, .inl (fun k => row (13 + k)))) :: (lr, .inl (dA 0, 56, .inl (fun k => row (21 + k)))) :: (lq, .inr (4, [.int md, .ref (dOf E ob), .int (nI q)])) :: lsT dA ob fe) := hD
            refine lv_iload_n hx hb dX1_step_132 rfl (lv_at hl 0 rfl) ?_
            refine lv_if_eq (tgt := 138) hx hb dX1_step_133 (by decide) (fun h => absurd h (by decide)) (fun _ => ?_)
            refine lv_iconst (v := nI 2) hx hb dX1_step_136 (by decide) ?_
            exact x_eiret ([], nI pl, (row 5) + (nI 1), md, ob, fe, q) hx hb hrt hlk (by rw [sr_2 (sp_n h_1 h_2) (sv_t h_3 h_8)]) (sk_two (sp_n h_1 h_2) (sv_t h_3 h_8) (sb_t1 h_3 h_7) hcu hlo hco) hP hD hS dX1_step_137 (Nat.le_of_ble_eq_true rfl) (Nat.le_of_ble_eq_true rfl)
        · refine lv_aload_n hx hb dX1_step_53 rfl (lv_at hl 2 rfl) ?_
          refine va_get (D := D) (ci := 1) (C := RX1) (T := TX1) (N := 4) hx hb hts in_X1 hown K hP 0 rfl rfl 0 (by decide) (hts _ q171) (fun _ h9 => h9) rfl dX1_step_54 ?_
          refine lv_iload_n hx hb dX1_step_57 rfl (lv_at hl 1 rfl) ?_
          refine x_top (y := nI pl) (by rw [h_2]; rfl) ?_
          refine x_ret (va_runV (As := [.int (nI pl)]) (rest := []) S (xr_cost l D dA E ad sz0 la lp lx ld lr row hn hcu pl (by omega) (miss_none h_3)) (cwV 1 hts (lw_V q602 q603 q604 q61 q605) rfl rfl rfl hdX2_cost ⟨Nat.le_of_ble_eq_true rfl, Nat.le_of_ble_eq_true rfl⟩) ⟨bb_blind g0_bl _, va_recv K hP (ci := 2) (q0 := 1) rfl rfl, bb_pre (g0_mv G.1 (low_of hS hA0 G.1.2.2.2.2.2.2) hS.1) (hP.sub [1, 2, 3, 4, 5] rfl) _⟩ rfl rfl hl.1 rfl (lv_room (Nat.le_of_ble_eq_true rfl)) dX1_step_58 ⟨Nat.le_of_ble_eq_true rfl, Nat.le_of_ble_eq_true rfl⟩) ?_
          refine lv_aload_n hx hb dX1_step_61 rfl (lv_at hl 2 rfl) ?_
          refine x_ret (va_runV (As := []) (rest := [.int (mCost row n cu pl)]) S (xs_upper l D dA E ad sz0 mi sa la lp lx ld lr lq row hn hcu (row 4) (row 5) md (dOf E ob) q (pOf ob) (fOf ob fe) FZ (lOk_r hlo) hcf b (hB.1.trans (congrArg oI h_7)) (by have := (hB.2 b h_7).1; omega) (miss_none (hB.2 b h_7).2)) (cwV 0 hts (lw_V q608 q609 q610 q60 q611) rfl rfl rfl hdX1_upper ⟨Nat.le_of_ble_eq_true rfl, Nat.le_of_ble_eq_true rfl⟩) ⟨bb_blind g1_bl _, va_recv K hP (ci := 1) (q0 := 0) rfl rfl, bb_pre (g1_mv G (low_of hS hA0 G.1.2.2.2.2.2.2) hS.1) ⟨(vP_app.mpr ⟨hP.sub [0, 1, 2, 3, 4, 5, 6] rfl, lsR_of (vP_tail (w1 := [(sa, .inr (1, [.ref la, .ref lq, .int (row 4), .int (row 5)])), (la, .inr (2, [.ref lp, .ref lx, .ref ld, .ref lr, .int (nI n), .int (nI cu), .int (row 2)])), (lp, .inl (dA 0, 7, .inl (fun k => row (6 + k)))), (lx, .inl (dA 0, 7, .inl (fun k => row (77 + k)))), (ld, .inl (dA 0, 8, .inl (fun k => row (13 + k)))), (lr, .inl (dA 0, 56, .inl (fun k => row (21 + k)))), (lq, .inr (4, [.int md, .ref (dOf E ob), .int (nI q)]))]) (T := lsT dA ob fe) hP) (e_P G.1 (low_of hS hA0 G.1.2.2.2.2.2.2))⟩), (fz_S hΦ hFA hS)⟩ _⟩ rfl rfl hl.1 rfl (lv_room (Nat.le_of_ble_eq_true rfl)) dX1_step_62 ⟨Nat.le_of_ble_eq_true rfl, Nat.le_of_ble_eq_true rfl⟩) ?_
          refine lv_icmp_ge (tgt := 73) hx hb dX1_step_65 (by decide) (fun h_14 => ?_) (fun h_14 => ?_)
          · refine lv_iload_n hx hb dX1_step_73 rfl (lv_at hl 0 rfl) ?_
            refine x_top (y := -5) (by rw [h_3]; rfl) ?_
            refine lv_bipush (v := -5) hx hb dX1_step_74 (by decide) ?_
            refine lv_icmp_ne (tgt := 99) hx hb dX1_step_76 (by decide) (fun h => absurd rfl h) (fun _ => ?_)
            refine lv_aload_n hx hb dX1_step_79 rfl (lv_at hl 2 rfl) ?_
            refine va_get (D := D) (ci := 1) (C := RX1) (T := TX1) (N := 4) hx hb hts in_X1 hown K hP 0 rfl rfl 0 (by decide) (hts _ q171) (fun _ h9 => h9) rfl dX1_step_80 ?_
            refine lv_iload_n hx hb dX1_step_83 rfl (lv_at hl 1 rfl) ?_
            refine x_top (y := nI pl) (by rw [h_2]; rfl) ?_
            refine x_ret (va_runV (As := [.int (nI pl)]) (rest := []) S (xr_cost l D dA E ad sz0 la lp lx ld lr row hn hcu pl (by omega) (miss_none h_3)) (cwV 1 hts (lw_V q602 q603 q604 q61 q605) rfl rfl rfl hdX2_cost ⟨Nat.le_of_ble_eq_true rfl, Nat.le_of_ble_eq_true rfl⟩) ⟨bb_blind g0_bl _, va_recv K hP (ci := 2) (q0 := 1) rfl rfl, bb_pre (g0_mv G.1 (low_of hS hA0 G.1.2.2.2.2.2.2) hS.1) (hP.sub [1, 2, 3, 4, 5] rfl) _⟩ rfl rfl hl.1 rfl (lv_room (Nat.le_of_ble_eq_true rfl)) dX1_step_84 ⟨Nat.le_of_ble_eq_true rfl, Nat.le_of_ble_eq_true rfl⟩) ?_
            refine lv_aload_n hx hb dX1_step_87 rfl (lv_at hl 2 rfl) ?_
            refine lv_iload_n hx hb dX1_step_88 rfl (lv_at hl 1 rfl) ?_
            refine x_top (y := nI pl) (by rw [h_2]; rfl) ?_
            refine x_ret (va_runV (As := [.int (nI pl)]) (rest := [.int (mCost row n cu pl)]) S (xs_guess l D dA E ad sz0 mi sa la lp lx ld lr lq row hn hcu (row 4) (row 5) md (dOf E ob) q (pOf ob) (fOf ob fe) FZ (lOk_r hlo) hcf pl (by omega)) (cwV 1 hts (lw_V q571 q572 q573 q60 q574) rfl rfl rfl hdX1_guess ⟨Nat.le_of_ble_eq_true rfl, Nat.le_of_ble_eq_true rfl⟩) ⟨bb_blind g1_bl _, va_recv K hP (ci := 1) (q0 := 0) rfl rfl, bb_pre (g1_mv G (low_of hS hA0 G.1.2.2.2.2.2.2) hS.1) ⟨(vP_app.mpr ⟨hP.sub [0, 1, 2, 3, 4, 5, 6] rfl, lsR_of (vP_tail (w1 := [(sa, .inr (1, [.ref la, .ref lq, .int (row 4), .int (row 5)])), (la, .inr (2, [.ref lp, .ref lx, .ref ld, .ref lr, .int (nI n), .int (nI cu), .int (row 2)])), (lp, .inl (dA 0, 7, .inl (fun k => row (6 + k)))), (lx, .inl (dA 0, 7, .inl (fun k => row (77 + k)))), (ld, .inl (dA 0, 8, .inl (fun k => row (13 + k)))), (lr, .inl (dA 0, 56, .inl (fun k => row (21 + k)))), (lq, .inr (4, [.int md, .ref (dOf E ob), .int (nI q)]))]) (T := lsT dA ob fe) hP) (e_P G.1 (low_of hS hA0 G.1.2.2.2.2.2.2))⟩), (fz_S hΦ hFA hS)⟩ _⟩ rfl rfl hl.1 rfl (lv_room (Nat.le_of_ble_eq_true rfl)) dX1_step_89 ⟨Nat.le_of_ble_eq_true rfl, Nat.le_of_ble_eq_true rfl⟩) ?_
            refine lv_icmp_ne (tgt := 99) hx hb dX1_step_92 (by decide) (fun h_15 => ?_) (fun h_15 => ?_)
            · refine lv_iconst (v := nI 0) hx hb dX1_step_99 (by decide) ?_
              refine lv_istore_n (lv' := [(3, .int (nI 0)), (2, .int (oI (mMissed row n cu pl))), (1, .int (oI (mMaster row n cu q))), (0, .ref sa)]) hx hb dX1_step_100 rfl hl (by decide) rfl (fun ls hl => ?_)
              refine lv_iload_n hx hb dX1_step_101 rfl (lv_at hl 0 rfl) ?_
              refine lv_if_ne (tgt := 122) hx hb dX1_step_102 (by decide) (fun h => absurd h (by decide)) (fun _ => ?_)
              refine lv_aload_n hx hb dX1_step_105 rfl (lv_at hl 3 rfl) ?_
              refine va_get (D := D) (ci := 1) (C := RX1) (T := TX1) (N := 4) hx hb hts in_X1 hown K hP 0 rfl rfl 1 (by decide) (hts _ q173) (fun _ h9 => h9) rfl dX1_step_106 ?_
              refine x_ret5 (va_runF ((K.1 4 _ rfl).2) (As := []) (rest := []) S (xl_size l D dA E ad sz0 mi lq md (.ref (dOf E ob)) q) (va_cwF 0 hts (lw_F (x := ⟨"java/util/List", "size", "()I"⟩) (y := yJ2_size) q492 q351 q353 q64 q355) rfl rfl rfl (fwk_0 G.1.2.2.1) (by decide +kernel) ⟨Nat.le_of_ble_eq_true rfl, Nat.le_of_ble_eq_true rfl⟩) ⟨bb_blind g1_bl _, va_recv K hP (ci := 4) (q0 := 6) rfl rfl, bb_pre (g1_mv G (low_of hS hA0 G.1.2.2.2.2.2.2) hS.1) (hP.sub [6] rfl) _⟩ rfl rfl hl.1 rfl (lv_room (Nat.le_of_ble_eq_true rfl)) dX1_step_109 ⟨Nat.le_of_ble_eq_true rfl, Nat.le_of_ble_eq_true rfl⟩) ?_
              refine lv_bipush (v := nI 40) hx hb dX1_step_114 (by decide) ?_
              refine x_icmpn_ne (tgt := 122) hx hb dX1_step_116 (by decide) (by omega) (by omega) (fun h_17 => ?_) (fun h_17 => ?_)
              · refine lv_aload_n hx hb dX1_step_122 rfl (lv_at hl 3 rfl) ?_
                refine lv_dup hx hb dX1_step_123 rfl ?_
                refine va_get (D := D) (ci := 1) (C := RX1) (T := TX1) (N := 4) hx hb hts in_X1 hown K hP 0 rfl rfl 3 (by decide) (hts _ q177) (fun _ h9 => h9) rfl dX1_step_124 ?_
                refine lv_iconst (v := nI 1) hx hb dX1_step_127 (by decide) ?_
                refine lv_iadd hx hb dX1_step_128 ?_
                refine va_put (D := D) (ci := 1) (v := .int ((row 5) + (nI 1))) (ty := .int) (C := RX1) (T := TX1) (N := 4) hx hb hts in_X1 tyX1 tyX1_ok nmX1 hown K hP hD hS 0 rfl rfl 3 (by decide) (hts _ q177) (fun _ h9 => h9) rfl (by decide +kernel) rfl rfl (Nat.le_of_ble_eq_true rfl) dX1_step_129 (fun H locs hP hD hS => ?_)
                have hP : va_P D vwCl ((sa, .inr (1, [.ref la, .ref lq, .int (row 4), .int ((row 5) + (nI 1))])) :: (la, .inr (2, [.ref lp, .ref lx, .ref ld, .ref lr, .int (nI n), .int (nI cu), .int (row 2)])) :: (lp, .inl (dA 0, 7, .inl (fun k => row (6 + k)))) :: (lx, .inl (dA 0, 7, .inl (fun k => row (77 + k)))) :: (ld, .inl (dA 0, 8, .inl (fun k => row (13 + k)))) :: (lr, .inl (dA 0, 56, .inl (fun k => row (21 + k)))) :: (lq, .inr (4, [.int md, .ref (dOf E ob), .int (nI q)])) :: lsT dA ob fe) H := hP
                have hD : va_D A ((sa, .inr (1, [.ref la, .ref lq, .int (row 4), .int ((row 5) + (nI 1))])) :: (la, .inr (2, [.ref lp, .ref lx, .ref ld, .ref lr, .int (nI n), .int (nI cu), .int (row 2)])) :: (lp, .inl (dA 0, 7, .inl (fun k => row (6 + k)))) :: (lx, .inl (dA 0, 7, .inl (fun k => row (77 + k)))) :: (ld, .inl (dA 0, 8, .inl (fun k => row (13 + k)))) :: (lr, .inl (dA 0, 56, .inl (fun k => row (21 + k)))) :: (lq, .inr (4, [.int md, .ref (dOf E ob), .int (nI q)])) :: lsT dA ob fe) := hD
                refine lv_iload_n hx hb dX1_step_132 rfl (lv_at hl 0 rfl) ?_
                refine lv_if_eq (tgt := 138) hx hb dX1_step_133 (by decide) (fun _ => ?_) (fun h => absurd (by decide) h)
                refine lv_aload_n hx hb dX1_step_138 rfl (lv_at hl 3 rfl) ?_
                refine va_get (D := D) (ci := 1) (C := RX1) (T := TX1) (N := 4) hx hb hts in_X1 hown K hP 0 rfl rfl 1 (by decide) (hts _ q173) (fun _ h9 => h9) rfl dX1_step_139 ?_
                refine lv_iload_n hx hb dX1_step_142 rfl (lv_at hl 1 rfl) ?_
                refine x_top (y := -5) (by rw [h_3]; rfl) ?_
                refine lv_bipush (v := -5) hx hb dX1_step_143 (by decide) ?_
                refine lv_icmp_ne (tgt := 156) hx hb dX1_step_145 (by decide) (fun h => absurd rfl h) (fun _ => ?_)
                refine lv_aload_n hx hb dX1_step_148 rfl (lv_at hl 3 rfl) ?_
                refine lv_iload_n hx hb dX1_step_149 rfl (lv_at hl 2 rfl) ?_
                refine x_top (y := nI pl) (by rw [h_2]; rfl) ?_
                refine x_ecallP (va_runV (As := [.int (nI pl)]) (rest := [.ref lq]) S (xs_priceCut l D dA E ad sz0 mi sa la lp lx ld lr lq row hn hcu (row 4) ((row 5) + (nI 1)) md (dOf E ob) q (pOf ob) (fOf ob fe) pl (by omega) (miss_none h_3) (fun _ h => by cases h) H.size) (cwV 1 hts (lw_V q612 q614 qs11 q60 q615) rfl rfl rfl hdX1_priceCut ⟨Nat.le_of_ble_eq_true rfl, Nat.le_of_ble_eq_true rfl⟩) ⟨pe_blind g1_bl _, va_recv K hP (ci := 1) (q0 := 0) rfl rfl, pe_pre (g1_mv G (low_of hS hA0 G.1.2.2.2.2.2.2) hS.1) (hP.sub [] rfl) (hD.sub [] rfl rfl) (vP_app.mpr ⟨hP.sub [0, 1, 2, 3, 4, 5, 6] rfl, lsR_of (vP_tail (w1 := [(sa, .inr (1, [.ref la, .ref lq, .int (row 4), .int ((row 5) + (nI 1))])), (la, .inr (2, [.ref lp, .ref lx, .ref ld, .ref lr, .int (nI n), .int (nI cu), .int (row 2)])), (lp, .inl (dA 0, 7, .inl (fun k => row (6 + k)))), (lx, .inl (dA 0, 7, .inl (fun k => row (77 + k)))), (ld, .inl (dA 0, 8, .inl (fun k => row (13 + k)))), (lr, .inl (dA 0, 56, .inl (fun k => row (21 + k)))), (lq, .inr (4, [.int md, .ref (dOf E ob), .int (nI q)]))]) (T := lsT dA ob fe) hP) (e_P G.1 (low_of hS hA0 G.1.2.2.2.2.2.2))⟩) _⟩ rfl rfl hl.1 rfl (lv_room (Nat.le_of_ble_eq_true rfl)) dX1_step_150 ⟨Nat.le_of_ble_eq_true rfl, Nat.le_of_ble_eq_true rfl⟩) hP hD hS hA ((sa, .inr (1, [.ref la, .ref lq, .int (row 4), .int ((row 5) + (nI 1))])) :: (la, .inr (2, [.ref lp, .ref lx, .ref ld, .ref lr, .int (nI n), .int (nI cu), .int (row 2)])) :: (lp, .inl (dA 0, 7, .inl (fun k => row (6 + k)))) :: (lx, .inl (dA 0, 7, .inl (fun k => row (77 + k)))) :: (ld, .inl (dA 0, 8, .inl (fun k => row (13 + k)))) :: (lr, .inl (dA 0, 56, .inl (fun k => row (21 + k)))) :: (lq, .inr (4, [.int md, .ref (dOf E ob), .int (nI q)])) :: lsT dA ob fe) pm_nil (fun u0 H locs hΨ hP hD hS hkp hsz hDn => ?_)
                obtain ⟨ka, kn⟩ := u0
                have hP := vP_perm List.perm_append_comm hP
                have hD := vD_perm List.perm_append_comm hD
                have hP : va_P D vwCl ((ka, .inr (5, [.int (nI 1), .ref kn])) :: (kn, .inl (dA 0, 8, .inl (pNums row n cu pl))) :: (sa, .inr (1, [.ref la, .ref lq, .int (row 4), .int ((row 5) + (nI 1))])) :: (la, .inr (2, [.ref lp, .ref lx, .ref ld, .ref lr, .int (nI n), .int (nI cu), .int (row 2)])) :: (lp, .inl (dA 0, 7, .inl (fun k => row (6 + k)))) :: (lx, .inl (dA 0, 7, .inl (fun k => row (77 + k)))) :: (ld, .inl (dA 0, 8, .inl (fun k => row (13 + k)))) :: (lr, .inl (dA 0, 56, .inl (fun k => row (21 + k)))) :: (lq, .inr (4, [.int md, .ref (dOf E ob), .int (nI q)])) :: lsT dA ob fe) H := hP
                have hD : va_D A ((ka, .inr (5, [.int (nI 1), .ref kn])) :: (kn, .inl (dA 0, 8, .inl (pNums row n cu pl))) :: (sa, .inr (1, [.ref la, .ref lq, .int (row 4), .int ((row 5) + (nI 1))])) :: (la, .inr (2, [.ref lp, .ref lx, .ref ld, .ref lr, .int (nI n), .int (nI cu), .int (row 2)])) :: (lp, .inl (dA 0, 7, .inl (fun k => row (6 + k)))) :: (lx, .inl (dA 0, 7, .inl (fun k => row (77 + k)))) :: (ld, .inl (dA 0, 8, .inl (fun k => row (13 + k)))) :: (lr, .inl (dA 0, 56, .inl (fun k => row (21 + k)))) :: (lq, .inr (4, [.int md, .ref (dOf E ob), .int (nI q)])) :: lsT dA ob fe) := hD
                refine W.widen (k := 4) (n := 12) (Nat.le_of_ble_eq_true rfl) (Nat.le_of_ble_eq_true rfl) ?_
                refine lv_goto (tgt := 164) hx hb dX1_step_153 (by decide) ?_
                have hDs : va_D A ([(ka, .inr (5, [.int (nI 1), .ref kn])), (kn, .inl (dA 0, 8, .inl (pNums row n cu pl))), (sa, .inr (1, [.ref la, .ref lq, .int (row 4), .int ((row 5) + (nI 1))])), (la, .inr (2, [.ref lp, .ref lx, .ref ld, .ref lr, .int (nI n), .int (nI cu), .int (row 2)])), (lp, .inl (dA 0, 7, .inl (fun k => row (6 + k)))), (lx, .inl (dA 0, 7, .inl (fun k => row (77 + k)))), (ld, .inl (dA 0, 8, .inl (fun k => row (13 + k)))), (lr, .inl (dA 0, 56, .inl (fun k => row (21 + k))))] ++ lsW dA E lq md q ob fe) := hD
                have hPs : va_P D vwCl ([(ka, .inr (5, [.int (nI 1), .ref kn])), (kn, .inl (dA 0, 8, .inl (pNums row n cu pl))), (sa, .inr (1, [.ref la, .ref lq, .int (row 4), .int ((row 5) + (nI 1))])), (la, .inr (2, [.ref lp, .ref lx, .ref ld, .ref lr, .int (nI n), .int (nI cu), .int (row 2)])), (lp, .inl (dA 0, 7, .inl (fun k => row (6 + k)))), (lx, .inl (dA 0, 7, .inl (fun k => row (77 + k)))), (ld, .inl (dA 0, 8, .inl (fun k => row (13 + k)))), (lr, .inl (dA 0, 56, .inl (fun k => row (21 + k))))] ++ lsW dA E lq md q ob fe) H := hP
                have hFn : va_P D vwCl ([(ka, .inr (5, [.int (nI 1), .ref kn])), (kn, .inl (dA 0, 8, .inl (pNums row n cu pl)))] ++ FZ) H := vP_app.mpr ⟨hP.sub [0, 1] rfl, (fz_S hΦ hFA hS)⟩
                have hpn : Apart ([(ka, .inr (5, [.int (nI 1), .ref kn])), (kn, .inl (dA 0, 8, .inl (pNums row n cu pl)))] ++ FZ) (lsW dA E lq md q ob fe) := apart_app (Apart.right (a := [(sa, .inr (1, [.ref la, .ref lq, .int (row 4), .int ((row 5) + (nI 1))])), (la, .inr (2, [.ref lp, .ref lx, .ref ld, .ref lr, .int (nI n), .int (nI cu), .int (row 2)])), (lp, .inl (dA 0, 7, .inl (fun k => row (6 + k)))), (lx, .inl (dA 0, 7, .inl (fun k => row (77 + k)))), (ld, .inl (dA 0, 8, .inl (fun k => row (13 + k)))), (lr, .inl (dA 0, 56, .inl (fun k => row (21 + k))))]) (apart_nd (w1 := [(ka, .inr (5, [.int (nI 1), .ref kn])), (kn, .inl (dA 0, 8, .inl (pNums row n cu pl)))]) hDs)) (apart_D hFA (vD_right hDs))
                refine x_ecallP5 (va_runF ((K.1 4 _ rfl).2) (As := [.ref ka]) (rest := []) S (xu_add l D dA E ad sz0 mi lq md q ob fe ([(ka, .inr (5, [.int (nI 1), .ref kn])), (kn, .inl (dA 0, 8, .inl (pNums row n cu pl)))] ++ FZ) hlo (by omega) (fun i hi y hy => OkEl.mono (fun x hx => List.mem_append_right _ hx) (hco.el i hi y hy)) ka (OkEl.of1 (by decide)) (up_D hA0 (vD_right hDs)) hpn H.size) (va_cwF 1 hts (lw_F (x := ⟨"java/util/List", "add", "(Ljava/lang/Object;)Z"⟩) (y := yJ2_add) q645 q379 q381 q64 q383) rfl rfl rfl (fwk_6 G.1.2.2.1) (by decide +kernel) ⟨Nat.le_of_ble_eq_true rfl, Nat.le_of_ble_eq_true rfl⟩) ⟨pe_blind g1_bl _, va_recv K hP (ci := 4) (q0 := 8) rfl rfl, pe_pre (g1_mv G (low_of hS hA0 G.1.2.2.2.2.2.2) hS.1) (vP_app.mp hPs).2 (vD_right hDs) hFn _⟩ rfl rfl hl.1 rfl (lv_room (Nat.le_of_ble_eq_true rfl)) dX1_step_164 ⟨Nat.le_of_ble_eq_true rfl, Nat.le_of_ble_eq_true rfl⟩) hP hD hS hA [(ka, .inr (5, [.int (nI 1), .ref kn])), (kn, .inl (dA 0, 8, .inl (pNums row n cu pl))), (sa, .inr (1, [.ref la, .ref lq, .int (row 4), .int ((row 5) + (nI 1))])), (la, .inr (2, [.ref lp, .ref lx, .ref ld, .ref lr, .int (nI n), .int (nI cu), .int (row 2)])), (lp, .inl (dA 0, 7, .inl (fun k => row (6 + k)))), (lx, .inl (dA 0, 7, .inl (fun k => row (77 + k)))), (ld, .inl (dA 0, 8, .inl (fun k => row (13 + k)))), (lr, .inl (dA 0, 56, .inl (fun k => row (21 + k))))] (List.Perm.refl _) (fun u1 H locs hΨ hP hD hS hkp hsz hDn => ?_)
                obtain ⟨ob1, fe1⟩ := u1
                have hP : va_P D vwCl ((ka, .inr (5, [.int (nI 1), .ref kn])) :: (kn, .inl (dA 0, 8, .inl (pNums row n cu pl))) :: (sa, .inr (1, [.ref la, .ref lq, .int (row 4), .int ((row 5) + (nI 1))])) :: (la, .inr (2, [.ref lp, .ref lx, .ref ld, .ref lr, .int (nI n), .int (nI cu), .int (row 2)])) :: (lp, .inl (dA 0, 7, .inl (fun k => row (6 + k)))) :: (lx, .inl (dA 0, 7, .inl (fun k => row (77 + k)))) :: (ld, .inl (dA 0, 8, .inl (fun k => row (13 + k)))) :: (lr, .inl (dA 0, 56, .inl (fun k => row (21 + k)))) :: (lq, .inr (4, [.int (md + nI 1), .ref (dOf E ob1), .int (nI (q + 1))])) :: lsT dA ob1 fe1) H := hP
                have hD : va_D A ((ka, .inr (5, [.int (nI 1), .ref kn])) :: (kn, .inl (dA 0, 8, .inl (pNums row n cu pl))) :: (sa, .inr (1, [.ref la, .ref lq, .int (row 4), .int ((row 5) + (nI 1))])) :: (la, .inr (2, [.ref lp, .ref lx, .ref ld, .ref lr, .int (nI n), .int (nI cu), .int (row 2)])) :: (lp, .inl (dA 0, 7, .inl (fun k => row (6 + k)))) :: (lx, .inl (dA 0, 7, .inl (fun k => row (77 + k)))) :: (ld, .inl (dA 0, 8, .inl (fun k => row (13 + k)))) :: (lr, .inl (dA 0, 56, .inl (fun k => row (21 + k)))) :: (lq, .inr (4, [.int (md + nI 1), .ref (dOf E ob1), .int (nI (q + 1))])) :: lsT dA ob1 fe1) := hD
                refine W.widen (k := 5) (n := 76) (Nat.le_of_ble_eq_true rfl) (Nat.le_of_ble_eq_true rfl) ?_
                have hΨ1 := hΨ
                refine lv_pop hx hb dX1_step_169 rfl ?_
                refine lv_iload_n hx hb dX1_step_170 rfl (lv_at hl 1 rfl) ?_
                refine x_top (y := -5) (by rw [h_3]; rfl) ?_
                refine lv_bipush (v := -5) hx hb dX1_step_171 (by decide) ?_
                refine lv_icmp_ne (tgt := 180) hx hb dX1_step_173 (by decide) (fun h => absurd rfl h) (fun _ => ?_)
                refine lv_iconst (v := nI 1) hx hb dX1_step_176 (by decide) ?_
                refine lv_goto (tgt := 181) hx hb dX1_step_177 (by decide) ?_
                exact x_eiret ([(ka, .inr (5, [.int (nI 1), .ref kn])), (kn, .inl (dA 0, 8, .inl (pNums row n cu pl)))], row 4, (row 5) + (nI 1), md + nI 1, ob1, fe1, q + 1) hx hb hrt hlk (by rw [sr_1 (sp_n h_1 h_2) (sv_f1 h_3 h_15) h_17 h_3]) (sk_cut (sp_n h_1 h_2) (sv_f1 h_3 h_15) h_17 (sb_f2 h_3 h_7 h_14) hcu hco (ck_price (sp_n h_1 h_2) (sv_f1 h_3 h_15) h_17 h_3) hΨ1.1 hΨ1.2.1 hΨ1.2.2) hP hD hS dX1_step_181 (Nat.le_of_ble_eq_true rfl) (Nat.le_of_ble_eq_true rfl)
              · refine lv_bipush (v := -3) hx hb dX1_step_119 (by decide) ?_
                exact x_eiret ([], row 4, row 5, md, ob, fe, q) hx hb hrt hlk (by rw [sr_3 (sp_n h_1 h_2) (sv_f1 h_3 h_15) h_17]) (Or.inl (sr_3 (sp_n h_1 h_2) (sv_f1 h_3 h_15) h_17)) hP hD hS dX1_step_121 (Nat.le_of_ble_eq_true rfl) (Nat.le_of_ble_eq_true rfl)
            · refine lv_iconst (v := nI 1) hx hb dX1_step_95 (by decide) ?_
              refine lv_goto (tgt := 100) hx hb dX1_step_96 (by decide) ?_
              refine lv_istore_n (lv' := [(3, .int (nI 1)), (2, .int (oI (mMissed row n cu pl))), (1, .int (oI (mMaster row n cu q))), (0, .ref sa)]) hx hb dX1_step_100 rfl hl (by decide) rfl (fun ls hl => ?_)
              refine lv_iload_n hx hb dX1_step_101 rfl (lv_at hl 0 rfl) ?_
              refine lv_if_ne (tgt := 122) hx hb dX1_step_102 (by decide) (fun _ => ?_) (fun h => absurd h (by decide))
              refine lv_aload_n hx hb dX1_step_122 rfl (lv_at hl 3 rfl) ?_
              refine lv_dup hx hb dX1_step_123 rfl ?_
              refine va_get (D := D) (ci := 1) (C := RX1) (T := TX1) (N := 4) hx hb hts in_X1 hown K hP 0 rfl rfl 3 (by decide) (hts _ q177) (fun _ h9 => h9) rfl dX1_step_124 ?_
              refine lv_iconst (v := nI 1) hx hb dX1_step_127 (by decide) ?_
              refine lv_iadd hx hb dX1_step_128 ?_
              refine va_put (D := D) (ci := 1) (v := .int ((row 5) + (nI 1))) (ty := .int) (C := RX1) (T := TX1) (N := 4) hx hb hts in_X1 tyX1 tyX1_ok nmX1 hown K hP hD hS 0 rfl rfl 3 (by decide) (hts _ q177) (fun _ h9 => h9) rfl (by decide +kernel) rfl rfl (Nat.le_of_ble_eq_true rfl) dX1_step_129 (fun H locs hP hD hS => ?_)
              have hP : va_P D vwCl ((sa, .inr (1, [.ref la, .ref lq, .int (row 4), .int ((row 5) + (nI 1))])) :: (la, .inr (2, [.ref lp, .ref lx, .ref ld, .ref lr, .int (nI n), .int (nI cu), .int (row 2)])) :: (lp, .inl (dA 0, 7, .inl (fun k => row (6 + k)))) :: (lx, .inl (dA 0, 7, .inl (fun k => row (77 + k)))) :: (ld, .inl (dA 0, 8, .inl (fun k => row (13 + k)))) :: (lr, .inl (dA 0, 56, .inl (fun k => row (21 + k)))) :: (lq, .inr (4, [.int md, .ref (dOf E ob), .int (nI q)])) :: lsT dA ob fe) H := hP
              have hD : va_D A ((sa, .inr (1, [.ref la, .ref lq, .int (row 4), .int ((row 5) + (nI 1))])) :: (la, .inr (2, [.ref lp, .ref lx, .ref ld, .ref lr, .int (nI n), .int (nI cu), .int (row 2)])) :: (lp, .inl (dA 0, 7, .inl (fun k => row (6 + k)))) :: (lx, .inl (dA 0, 7, .inl (fun k => row (77 + k)))) :: (ld, .inl (dA 0, 8, .inl (fun k => row (13 + k)))) :: (lr, .inl (dA 0, 56, .inl (fun k => row (21 + k)))) :: (lq, .inr (4, [.int md, .ref (dOf E ob), .int (nI q)])) :: lsT dA ob fe) := hD
              refine lv_iload_n hx hb dX1_step_132 rfl (lv_at hl 0 rfl) ?_
              refine lv_if_eq (tgt := 138) hx hb dX1_step_133 (by decide) (fun h => absurd h (by decide)) (fun _ => ?_)
              refine lv_iconst (v := nI 2) hx hb dX1_step_136 (by decide) ?_
              exact x_eiret ([], row 4, (row 5) + (nI 1), md, ob, fe, q) hx hb hrt hlk (by rw [sr_2 (sp_n h_1 h_2) (sv_t h_3 h_15)]) (sk_two (sp_n h_1 h_2) (sv_t h_3 h_15) (sb_f2 h_3 h_7 h_14) hcu hlo hco) hP hD hS dX1_step_137 (Nat.le_of_ble_eq_true rfl) (Nat.le_of_ble_eq_true rfl)
          · refine lv_aload_n hx hb dX1_step_68 rfl (lv_at hl 2 rfl) ?_
            refine lv_iload_n hx hb dX1_step_69 rfl (lv_at hl 1 rfl) ?_
            refine x_top (y := nI pl) (by rw [h_2]; rfl) ?_
            refine va_put (D := D) (ci := 1) (v := .int (nI pl)) (ty := .int) (C := RX1) (T := TX1) (N := 4) hx hb hts in_X1 tyX1 tyX1_ok nmX1 hown K hP hD hS 0 rfl rfl 2 (by decide) (hts _ q175) (fun _ h9 => h9) rfl (by decide +kernel) rfl rfl (Nat.le_of_ble_eq_true rfl) dX1_step_70 (fun H locs hP hD hS => ?_)
            have hP : va_P D vwCl ((sa, .inr (1, [.ref la, .ref lq, .int (nI pl), .int (row 5)])) :: (la, .inr (2, [.ref lp, .ref lx, .ref ld, .ref lr, .int (nI n), .int (nI cu), .int (row 2)])) :: (lp, .inl (dA 0, 7, .inl (fun k => row (6 + k)))) :: (lx, .inl (dA 0, 7, .inl (fun k => row (77 + k)))) :: (ld, .inl (dA 0, 8, .inl (fun k => row (13 + k)))) :: (lr, .inl (dA 0, 56, .inl (fun k => row (21 + k)))) :: (lq, .inr (4, [.int md, .ref (dOf E ob), .int (nI q)])) :: lsT dA ob fe) H := hP
            have hD : va_D A ((sa, .inr (1, [.ref la, .ref lq, .int (nI pl), .int (row 5)])) :: (la, .inr (2, [.ref lp, .ref lx, .ref ld, .ref lr, .int (nI n), .int (nI cu), .int (row 2)])) :: (lp, .inl (dA 0, 7, .inl (fun k => row (6 + k)))) :: (lx, .inl (dA 0, 7, .inl (fun k => row (77 + k)))) :: (ld, .inl (dA 0, 8, .inl (fun k => row (13 + k)))) :: (lr, .inl (dA 0, 56, .inl (fun k => row (21 + k)))) :: (lq, .inr (4, [.int md, .ref (dOf E ob), .int (nI q)])) :: lsT dA ob fe) := hD
            refine lv_iload_n hx hb dX1_step_73 rfl (lv_at hl 0 rfl) ?_
            refine x_top (y := -5) (by rw [h_3]; rfl) ?_
            refine lv_bipush (v := -5) hx hb dX1_step_74 (by decide) ?_
            refine lv_icmp_ne (tgt := 99) hx hb dX1_step_76 (by decide) (fun h => absurd rfl h) (fun _ => ?_)
            refine lv_aload_n hx hb dX1_step_79 rfl (lv_at hl 2 rfl) ?_
            refine va_get (D := D) (ci := 1) (C := RX1) (T := TX1) (N := 4) hx hb hts in_X1 hown K hP 0 rfl rfl 0 (by decide) (hts _ q171) (fun _ h9 => h9) rfl dX1_step_80 ?_
            refine lv_iload_n hx hb dX1_step_83 rfl (lv_at hl 1 rfl) ?_
            refine x_top (y := nI pl) (by rw [h_2]; rfl) ?_
            refine x_ret (va_runV (As := [.int (nI pl)]) (rest := []) S (xr_cost l D dA E ad sz0 la lp lx ld lr row hn hcu pl (by omega) (miss_none h_3)) (cwV 1 hts (lw_V q602 q603 q604 q61 q605) rfl rfl rfl hdX2_cost ⟨Nat.le_of_ble_eq_true rfl, Nat.le_of_ble_eq_true rfl⟩) ⟨bb_blind g0_bl _, va_recv K hP (ci := 2) (q0 := 1) rfl rfl, bb_pre (g0_mv G.1 (low_of hS hA0 G.1.2.2.2.2.2.2) hS.1) (hP.sub [1, 2, 3, 4, 5] rfl) _⟩ rfl rfl hl.1 rfl (lv_room (Nat.le_of_ble_eq_true rfl)) dX1_step_84 ⟨Nat.le_of_ble_eq_true rfl, Nat.le_of_ble_eq_true rfl⟩) ?_
            refine lv_aload_n hx hb dX1_step_87 rfl (lv_at hl 2 rfl) ?_
            refine lv_iload_n hx hb dX1_step_88 rfl (lv_at hl 1 rfl) ?_
            refine x_top (y := nI pl) (by rw [h_2]; rfl) ?_
            refine x_ret (va_runV (As := [.int (nI pl)]) (rest := [.int (mCost row n cu pl)]) S (xs_guess l D dA E ad sz0 mi sa la lp lx ld lr lq row hn hcu (nI pl) (row 5) md (dOf E ob) q (pOf ob) (fOf ob fe) FZ (lOk_r hlo) hcf pl (by omega)) (cwV 1 hts (lw_V q571 q572 q573 q60 q574) rfl rfl rfl hdX1_guess ⟨Nat.le_of_ble_eq_true rfl, Nat.le_of_ble_eq_true rfl⟩) ⟨bb_blind g1_bl _, va_recv K hP (ci := 1) (q0 := 0) rfl rfl, bb_pre (g1_mv G (low_of hS hA0 G.1.2.2.2.2.2.2) hS.1) ⟨(vP_app.mpr ⟨hP.sub [0, 1, 2, 3, 4, 5, 6] rfl, lsR_of (vP_tail (w1 := [(sa, .inr (1, [.ref la, .ref lq, .int (nI pl), .int (row 5)])), (la, .inr (2, [.ref lp, .ref lx, .ref ld, .ref lr, .int (nI n), .int (nI cu), .int (row 2)])), (lp, .inl (dA 0, 7, .inl (fun k => row (6 + k)))), (lx, .inl (dA 0, 7, .inl (fun k => row (77 + k)))), (ld, .inl (dA 0, 8, .inl (fun k => row (13 + k)))), (lr, .inl (dA 0, 56, .inl (fun k => row (21 + k)))), (lq, .inr (4, [.int md, .ref (dOf E ob), .int (nI q)]))]) (T := lsT dA ob fe) hP) (e_P G.1 (low_of hS hA0 G.1.2.2.2.2.2.2))⟩), (fz_S hΦ hFA hS)⟩ _⟩ rfl rfl hl.1 rfl (lv_room (Nat.le_of_ble_eq_true rfl)) dX1_step_89 ⟨Nat.le_of_ble_eq_true rfl, Nat.le_of_ble_eq_true rfl⟩) ?_
            refine lv_icmp_ne (tgt := 99) hx hb dX1_step_92 (by decide) (fun h_21 => ?_) (fun h_21 => ?_)
            · refine lv_iconst (v := nI 0) hx hb dX1_step_99 (by decide) ?_
              refine lv_istore_n (lv' := [(3, .int (nI 0)), (2, .int (oI (mMissed row n cu pl))), (1, .int (oI (mMaster row n cu q))), (0, .ref sa)]) hx hb dX1_step_100 rfl hl (by decide) rfl (fun ls hl => ?_)
              refine lv_iload_n hx hb dX1_step_101 rfl (lv_at hl 0 rfl) ?_
              refine lv_if_ne (tgt := 122) hx hb dX1_step_102 (by decide) (fun h => absurd h (by decide)) (fun _ => ?_)
              refine lv_aload_n hx hb dX1_step_105 rfl (lv_at hl 3 rfl) ?_
              refine va_get (D := D) (ci := 1) (C := RX1) (T := TX1) (N := 4) hx hb hts in_X1 hown K hP 0 rfl rfl 1 (by decide) (hts _ q173) (fun _ h9 => h9) rfl dX1_step_106 ?_
              refine x_ret5 (va_runF ((K.1 4 _ rfl).2) (As := []) (rest := []) S (xl_size l D dA E ad sz0 mi lq md (.ref (dOf E ob)) q) (va_cwF 0 hts (lw_F (x := ⟨"java/util/List", "size", "()I"⟩) (y := yJ2_size) q492 q351 q353 q64 q355) rfl rfl rfl (fwk_0 G.1.2.2.1) (by decide +kernel) ⟨Nat.le_of_ble_eq_true rfl, Nat.le_of_ble_eq_true rfl⟩) ⟨bb_blind g1_bl _, va_recv K hP (ci := 4) (q0 := 6) rfl rfl, bb_pre (g1_mv G (low_of hS hA0 G.1.2.2.2.2.2.2) hS.1) (hP.sub [6] rfl) _⟩ rfl rfl hl.1 rfl (lv_room (Nat.le_of_ble_eq_true rfl)) dX1_step_109 ⟨Nat.le_of_ble_eq_true rfl, Nat.le_of_ble_eq_true rfl⟩) ?_
              refine lv_bipush (v := nI 40) hx hb dX1_step_114 (by decide) ?_
              refine x_icmpn_ne (tgt := 122) hx hb dX1_step_116 (by decide) (by omega) (by omega) (fun h_23 => ?_) (fun h_23 => ?_)
              · refine lv_aload_n hx hb dX1_step_122 rfl (lv_at hl 3 rfl) ?_
                refine lv_dup hx hb dX1_step_123 rfl ?_
                refine va_get (D := D) (ci := 1) (C := RX1) (T := TX1) (N := 4) hx hb hts in_X1 hown K hP 0 rfl rfl 3 (by decide) (hts _ q177) (fun _ h9 => h9) rfl dX1_step_124 ?_
                refine lv_iconst (v := nI 1) hx hb dX1_step_127 (by decide) ?_
                refine lv_iadd hx hb dX1_step_128 ?_
                refine va_put (D := D) (ci := 1) (v := .int ((row 5) + (nI 1))) (ty := .int) (C := RX1) (T := TX1) (N := 4) hx hb hts in_X1 tyX1 tyX1_ok nmX1 hown K hP hD hS 0 rfl rfl 3 (by decide) (hts _ q177) (fun _ h9 => h9) rfl (by decide +kernel) rfl rfl (Nat.le_of_ble_eq_true rfl) dX1_step_129 (fun H locs hP hD hS => ?_)
                have hP : va_P D vwCl ((sa, .inr (1, [.ref la, .ref lq, .int (nI pl), .int ((row 5) + (nI 1))])) :: (la, .inr (2, [.ref lp, .ref lx, .ref ld, .ref lr, .int (nI n), .int (nI cu), .int (row 2)])) :: (lp, .inl (dA 0, 7, .inl (fun k => row (6 + k)))) :: (lx, .inl (dA 0, 7, .inl (fun k => row (77 + k)))) :: (ld, .inl (dA 0, 8, .inl (fun k => row (13 + k)))) :: (lr, .inl (dA 0, 56, .inl (fun k => row (21 + k)))) :: (lq, .inr (4, [.int md, .ref (dOf E ob), .int (nI q)])) :: lsT dA ob fe) H := hP
                have hD : va_D A ((sa, .inr (1, [.ref la, .ref lq, .int (nI pl), .int ((row 5) + (nI 1))])) :: (la, .inr (2, [.ref lp, .ref lx, .ref ld, .ref lr, .int (nI n), .int (nI cu), .int (row 2)])) :: (lp, .inl (dA 0, 7, .inl (fun k => row (6 + k)))) :: (lx, .inl (dA 0, 7, .inl (fun k => row (77 + k)))) :: (ld, .inl (dA 0, 8, .inl (fun k => row (13 + k)))) :: (lr, .inl (dA 0, 56, .inl (fun k => row (21 + k)))) :: (lq, .inr (4, [.int md, .ref (dOf E ob), .int (nI q)])) :: lsT dA ob fe) := hD
                refine lv_iload_n hx hb dX1_step_132 rfl (lv_at hl 0 rfl) ?_
                refine lv_if_eq (tgt := 138) hx hb dX1_step_133 (by decide) (fun _ => ?_) (fun h => absurd (by decide) h)
                refine lv_aload_n hx hb dX1_step_138 rfl (lv_at hl 3 rfl) ?_
                refine va_get (D := D) (ci := 1) (C := RX1) (T := TX1) (N := 4) hx hb hts in_X1 hown K hP 0 rfl rfl 1 (by decide) (hts _ q173) (fun _ h9 => h9) rfl dX1_step_139 ?_
                refine lv_iload_n hx hb dX1_step_142 rfl (lv_at hl 1 rfl) ?_
                refine x_top (y := -5) (by rw [h_3]; rfl) ?_
                refine lv_bipush (v := -5) hx hb dX1_step_143 (by decide) ?_
                refine lv_icmp_ne (tgt := 156) hx hb dX1_step_145 (by decide) (fun h => absurd rfl h) (fun _ => ?_)
                refine lv_aload_n hx hb dX1_step_148 rfl (lv_at hl 3 rfl) ?_
                refine lv_iload_n hx hb dX1_step_149 rfl (lv_at hl 2 rfl) ?_
                refine x_top (y := nI pl) (by rw [h_2]; rfl) ?_
                refine x_ecallP (va_runV (As := [.int (nI pl)]) (rest := [.ref lq]) S (xs_priceCut l D dA E ad sz0 mi sa la lp lx ld lr lq row hn hcu (nI pl) ((row 5) + (nI 1)) md (dOf E ob) q (pOf ob) (fOf ob fe) pl (by omega) (miss_none h_3) (fun _ h => by cases h) H.size) (cwV 1 hts (lw_V q612 q614 qs11 q60 q615) rfl rfl rfl hdX1_priceCut ⟨Nat.le_of_ble_eq_true rfl, Nat.le_of_ble_eq_true rfl⟩) ⟨pe_blind g1_bl _, va_recv K hP (ci := 1) (q0 := 0) rfl rfl, pe_pre (g1_mv G (low_of hS hA0 G.1.2.2.2.2.2.2) hS.1) (hP.sub [] rfl) (hD.sub [] rfl rfl) (vP_app.mpr ⟨hP.sub [0, 1, 2, 3, 4, 5, 6] rfl, lsR_of (vP_tail (w1 := [(sa, .inr (1, [.ref la, .ref lq, .int (nI pl), .int ((row 5) + (nI 1))])), (la, .inr (2, [.ref lp, .ref lx, .ref ld, .ref lr, .int (nI n), .int (nI cu), .int (row 2)])), (lp, .inl (dA 0, 7, .inl (fun k => row (6 + k)))), (lx, .inl (dA 0, 7, .inl (fun k => row (77 + k)))), (ld, .inl (dA 0, 8, .inl (fun k => row (13 + k)))), (lr, .inl (dA 0, 56, .inl (fun k => row (21 + k)))), (lq, .inr (4, [.int md, .ref (dOf E ob), .int (nI q)]))]) (T := lsT dA ob fe) hP) (e_P G.1 (low_of hS hA0 G.1.2.2.2.2.2.2))⟩) _⟩ rfl rfl hl.1 rfl (lv_room (Nat.le_of_ble_eq_true rfl)) dX1_step_150 ⟨Nat.le_of_ble_eq_true rfl, Nat.le_of_ble_eq_true rfl⟩) hP hD hS hA ((sa, .inr (1, [.ref la, .ref lq, .int (nI pl), .int ((row 5) + (nI 1))])) :: (la, .inr (2, [.ref lp, .ref lx, .ref ld, .ref lr, .int (nI n), .int (nI cu), .int (row 2)])) :: (lp, .inl (dA 0, 7, .inl (fun k => row (6 + k)))) :: (lx, .inl (dA 0, 7, .inl (fun k => row (77 + k)))) :: (ld, .inl (dA 0, 8, .inl (fun k => row (13 + k)))) :: (lr, .inl (dA 0, 56, .inl (fun k => row (21 + k)))) :: (lq, .inr (4, [.int md, .ref (dOf E ob), .int (nI q)])) :: lsT dA ob fe) pm_nil (fun u0 H locs hΨ hP hD hS hkp hsz hDn => ?_)
                obtain ⟨ka, kn⟩ := u0
                have hP := vP_perm List.perm_append_comm hP
                have hD := vD_perm List.perm_append_comm hD
                have hP : va_P D vwCl ((ka, .inr (5, [.int (nI 1), .ref kn])) :: (kn, .inl (dA 0, 8, .inl (pNums row n cu pl))) :: (sa, .inr (1, [.ref la, .ref lq, .int (nI pl), .int ((row 5) + (nI 1))])) :: (la, .inr (2, [.ref lp, .ref lx, .ref ld, .ref lr, .int (nI n), .int (nI cu), .int (row 2)])) :: (lp, .inl (dA 0, 7, .inl (fun k => row (6 + k)))) :: (lx, .inl (dA 0, 7, .inl (fun k => row (77 + k)))) :: (ld, .inl (dA 0, 8, .inl (fun k => row (13 + k)))) :: (lr, .inl (dA 0, 56, .inl (fun k => row (21 + k)))) :: (lq, .inr (4, [.int md, .ref (dOf E ob), .int (nI q)])) :: lsT dA ob fe) H := hP
                have hD : va_D A ((ka, .inr (5, [.int (nI 1), .ref kn])) :: (kn, .inl (dA 0, 8, .inl (pNums row n cu pl))) :: (sa, .inr (1, [.ref la, .ref lq, .int (nI pl), .int ((row 5) + (nI 1))])) :: (la, .inr (2, [.ref lp, .ref lx, .ref ld, .ref lr, .int (nI n), .int (nI cu), .int (row 2)])) :: (lp, .inl (dA 0, 7, .inl (fun k => row (6 + k)))) :: (lx, .inl (dA 0, 7, .inl (fun k => row (77 + k)))) :: (ld, .inl (dA 0, 8, .inl (fun k => row (13 + k)))) :: (lr, .inl (dA 0, 56, .inl (fun k => row (21 + k)))) :: (lq, .inr (4, [.int md, .ref (dOf E ob), .int (nI q)])) :: lsT dA ob fe) := hD
                refine W.widen (k := 4) (n := 12) (Nat.le_of_ble_eq_true rfl) (Nat.le_of_ble_eq_true rfl) ?_
                refine lv_goto (tgt := 164) hx hb dX1_step_153 (by decide) ?_
                have hDs : va_D A ([(ka, .inr (5, [.int (nI 1), .ref kn])), (kn, .inl (dA 0, 8, .inl (pNums row n cu pl))), (sa, .inr (1, [.ref la, .ref lq, .int (nI pl), .int ((row 5) + (nI 1))])), (la, .inr (2, [.ref lp, .ref lx, .ref ld, .ref lr, .int (nI n), .int (nI cu), .int (row 2)])), (lp, .inl (dA 0, 7, .inl (fun k => row (6 + k)))), (lx, .inl (dA 0, 7, .inl (fun k => row (77 + k)))), (ld, .inl (dA 0, 8, .inl (fun k => row (13 + k)))), (lr, .inl (dA 0, 56, .inl (fun k => row (21 + k))))] ++ lsW dA E lq md q ob fe) := hD
                have hPs : va_P D vwCl ([(ka, .inr (5, [.int (nI 1), .ref kn])), (kn, .inl (dA 0, 8, .inl (pNums row n cu pl))), (sa, .inr (1, [.ref la, .ref lq, .int (nI pl), .int ((row 5) + (nI 1))])), (la, .inr (2, [.ref lp, .ref lx, .ref ld, .ref lr, .int (nI n), .int (nI cu), .int (row 2)])), (lp, .inl (dA 0, 7, .inl (fun k => row (6 + k)))), (lx, .inl (dA 0, 7, .inl (fun k => row (77 + k)))), (ld, .inl (dA 0, 8, .inl (fun k => row (13 + k)))), (lr, .inl (dA 0, 56, .inl (fun k => row (21 + k))))] ++ lsW dA E lq md q ob fe) H := hP
                have hFn : va_P D vwCl ([(ka, .inr (5, [.int (nI 1), .ref kn])), (kn, .inl (dA 0, 8, .inl (pNums row n cu pl)))] ++ FZ) H := vP_app.mpr ⟨hP.sub [0, 1] rfl, (fz_S hΦ hFA hS)⟩
                have hpn : Apart ([(ka, .inr (5, [.int (nI 1), .ref kn])), (kn, .inl (dA 0, 8, .inl (pNums row n cu pl)))] ++ FZ) (lsW dA E lq md q ob fe) := apart_app (Apart.right (a := [(sa, .inr (1, [.ref la, .ref lq, .int (nI pl), .int ((row 5) + (nI 1))])), (la, .inr (2, [.ref lp, .ref lx, .ref ld, .ref lr, .int (nI n), .int (nI cu), .int (row 2)])), (lp, .inl (dA 0, 7, .inl (fun k => row (6 + k)))), (lx, .inl (dA 0, 7, .inl (fun k => row (77 + k)))), (ld, .inl (dA 0, 8, .inl (fun k => row (13 + k)))), (lr, .inl (dA 0, 56, .inl (fun k => row (21 + k))))]) (apart_nd (w1 := [(ka, .inr (5, [.int (nI 1), .ref kn])), (kn, .inl (dA 0, 8, .inl (pNums row n cu pl)))]) hDs)) (apart_D hFA (vD_right hDs))
                refine x_ecallP5 (va_runF ((K.1 4 _ rfl).2) (As := [.ref ka]) (rest := []) S (xu_add l D dA E ad sz0 mi lq md q ob fe ([(ka, .inr (5, [.int (nI 1), .ref kn])), (kn, .inl (dA 0, 8, .inl (pNums row n cu pl)))] ++ FZ) hlo (by omega) (fun i hi y hy => OkEl.mono (fun x hx => List.mem_append_right _ hx) (hco.el i hi y hy)) ka (OkEl.of1 (by decide)) (up_D hA0 (vD_right hDs)) hpn H.size) (va_cwF 1 hts (lw_F (x := ⟨"java/util/List", "add", "(Ljava/lang/Object;)Z"⟩) (y := yJ2_add) q645 q379 q381 q64 q383) rfl rfl rfl (fwk_6 G.1.2.2.1) (by decide +kernel) ⟨Nat.le_of_ble_eq_true rfl, Nat.le_of_ble_eq_true rfl⟩) ⟨pe_blind g1_bl _, va_recv K hP (ci := 4) (q0 := 8) rfl rfl, pe_pre (g1_mv G (low_of hS hA0 G.1.2.2.2.2.2.2) hS.1) (vP_app.mp hPs).2 (vD_right hDs) hFn _⟩ rfl rfl hl.1 rfl (lv_room (Nat.le_of_ble_eq_true rfl)) dX1_step_164 ⟨Nat.le_of_ble_eq_true rfl, Nat.le_of_ble_eq_true rfl⟩) hP hD hS hA [(ka, .inr (5, [.int (nI 1), .ref kn])), (kn, .inl (dA 0, 8, .inl (pNums row n cu pl))), (sa, .inr (1, [.ref la, .ref lq, .int (nI pl), .int ((row 5) + (nI 1))])), (la, .inr (2, [.ref lp, .ref lx, .ref ld, .ref lr, .int (nI n), .int (nI cu), .int (row 2)])), (lp, .inl (dA 0, 7, .inl (fun k => row (6 + k)))), (lx, .inl (dA 0, 7, .inl (fun k => row (77 + k)))), (ld, .inl (dA 0, 8, .inl (fun k => row (13 + k)))), (lr, .inl (dA 0, 56, .inl (fun k => row (21 + k))))] (List.Perm.refl _) (fun u1 H locs hΨ hP hD hS hkp hsz hDn => ?_)
                obtain ⟨ob1, fe1⟩ := u1
                have hP : va_P D vwCl ((ka, .inr (5, [.int (nI 1), .ref kn])) :: (kn, .inl (dA 0, 8, .inl (pNums row n cu pl))) :: (sa, .inr (1, [.ref la, .ref lq, .int (nI pl), .int ((row 5) + (nI 1))])) :: (la, .inr (2, [.ref lp, .ref lx, .ref ld, .ref lr, .int (nI n), .int (nI cu), .int (row 2)])) :: (lp, .inl (dA 0, 7, .inl (fun k => row (6 + k)))) :: (lx, .inl (dA 0, 7, .inl (fun k => row (77 + k)))) :: (ld, .inl (dA 0, 8, .inl (fun k => row (13 + k)))) :: (lr, .inl (dA 0, 56, .inl (fun k => row (21 + k)))) :: (lq, .inr (4, [.int (md + nI 1), .ref (dOf E ob1), .int (nI (q + 1))])) :: lsT dA ob1 fe1) H := hP
                have hD : va_D A ((ka, .inr (5, [.int (nI 1), .ref kn])) :: (kn, .inl (dA 0, 8, .inl (pNums row n cu pl))) :: (sa, .inr (1, [.ref la, .ref lq, .int (nI pl), .int ((row 5) + (nI 1))])) :: (la, .inr (2, [.ref lp, .ref lx, .ref ld, .ref lr, .int (nI n), .int (nI cu), .int (row 2)])) :: (lp, .inl (dA 0, 7, .inl (fun k => row (6 + k)))) :: (lx, .inl (dA 0, 7, .inl (fun k => row (77 + k)))) :: (ld, .inl (dA 0, 8, .inl (fun k => row (13 + k)))) :: (lr, .inl (dA 0, 56, .inl (fun k => row (21 + k)))) :: (lq, .inr (4, [.int (md + nI 1), .ref (dOf E ob1), .int (nI (q + 1))])) :: lsT dA ob1 fe1) := hD
                refine W.widen (k := 5) (n := 76) (Nat.le_of_ble_eq_true rfl) (Nat.le_of_ble_eq_true rfl) ?_
                have hΨ1 := hΨ
                refine lv_pop hx hb dX1_step_169 rfl ?_
                refine lv_iload_n hx hb dX1_step_170 rfl (lv_at hl 1 rfl) ?_
                refine x_top (y := -5) (by rw [h_3]; rfl) ?_
                refine lv_bipush (v := -5) hx hb dX1_step_171 (by decide) ?_
                refine lv_icmp_ne (tgt := 180) hx hb dX1_step_173 (by decide) (fun h => absurd rfl h) (fun _ => ?_)
                refine lv_iconst (v := nI 1) hx hb dX1_step_176 (by decide) ?_
                refine lv_goto (tgt := 181) hx hb dX1_step_177 (by decide) ?_
                exact x_eiret ([(ka, .inr (5, [.int (nI 1), .ref kn])), (kn, .inl (dA 0, 8, .inl (pNums row n cu pl)))], nI pl, (row 5) + (nI 1), md + nI 1, ob1, fe1, q + 1) hx hb hrt hlk (by rw [sr_1 (sp_n h_1 h_2) (sv_f1 h_3 h_21) h_23 h_3]) (sk_cut (sp_n h_1 h_2) (sv_f1 h_3 h_21) h_23 (sb_t2 h_3 h_7 h_14) hcu hco (ck_price (sp_n h_1 h_2) (sv_f1 h_3 h_21) h_23 h_3) hΨ1.1 hΨ1.2.1 hΨ1.2.2) hP hD hS dX1_step_181 (Nat.le_of_ble_eq_true rfl) (Nat.le_of_ble_eq_true rfl)
              · refine lv_bipush (v := -3) hx hb dX1_step_119 (by decide) ?_
                exact x_eiret ([], nI pl, row 5, md, ob, fe, q) hx hb hrt hlk (by rw [sr_3 (sp_n h_1 h_2) (sv_f1 h_3 h_21) h_23]) (Or.inl (sr_3 (sp_n h_1 h_2) (sv_f1 h_3 h_21) h_23)) hP hD hS dX1_step_121 (Nat.le_of_ble_eq_true rfl) (Nat.le_of_ble_eq_true rfl)
            · refine lv_iconst (v := nI 1) hx hb dX1_step_95 (by decide) ?_
              refine lv_goto (tgt := 100) hx hb dX1_step_96 (by decide) ?_
              refine lv_istore_n (lv' := [(3, .int (nI 1)), (2, .int (oI (mMissed row n cu pl))), (1, .int (oI (mMaster row n cu q))), (0, .ref sa)]) hx hb dX1_step_100 rfl hl (by decide) rfl (fun ls hl => ?_)
              refine lv_iload_n hx hb dX1_step_101 rfl (lv_at hl 0 rfl) ?_
              refine lv_if_ne (tgt := 122) hx hb dX1_step_102 (by decide) (fun _ => ?_) (fun h => absurd h (by decide))
              refine lv_aload_n hx hb dX1_step_122 rfl (lv_at hl 3 rfl) ?_
              refine lv_dup hx hb dX1_step_123 rfl ?_
              refine va_get (D := D) (ci := 1) (C := RX1) (T := TX1) (N := 4) hx hb hts in_X1 hown K hP 0 rfl rfl 3 (by decide) (hts _ q177) (fun _ h9 => h9) rfl dX1_step_124 ?_
              refine lv_iconst (v := nI 1) hx hb dX1_step_127 (by decide) ?_
              refine lv_iadd hx hb dX1_step_128 ?_
              refine va_put (D := D) (ci := 1) (v := .int ((row 5) + (nI 1))) (ty := .int) (C := RX1) (T := TX1) (N := 4) hx hb hts in_X1 tyX1 tyX1_ok nmX1 hown K hP hD hS 0 rfl rfl 3 (by decide) (hts _ q177) (fun _ h9 => h9) rfl (by decide +kernel) rfl rfl (Nat.le_of_ble_eq_true rfl) dX1_step_129 (fun H locs hP hD hS => ?_)
              have hP : va_P D vwCl ((sa, .inr (1, [.ref la, .ref lq, .int (nI pl), .int ((row 5) + (nI 1))])) :: (la, .inr (2, [.ref lp, .ref lx, .ref ld, .ref lr, .int (nI n), .int (nI cu), .int (row 2)])) :: (lp, .inl (dA 0, 7, .inl (fun k => row (6 + k)))) :: (lx, .inl (dA 0, 7, .inl (fun k => row (77 + k)))) :: (ld, .inl (dA 0, 8, .inl (fun k => row (13 + k)))) :: (lr, .inl (dA 0, 56, .inl (fun k => row (21 + k)))) :: (lq, .inr (4, [.int md, .ref (dOf E ob), .int (nI q)])) :: lsT dA ob fe) H := hP
              have hD : va_D A ((sa, .inr (1, [.ref la, .ref lq, .int (nI pl), .int ((row 5) + (nI 1))])) :: (la, .inr (2, [.ref lp, .ref lx, .ref ld, .ref lr, .int (nI n), .int (nI cu), .int (row 2)])) :: (lp, .inl (dA 0, 7, .inl (fun k => row (6 + k)))) :: (lx, .inl (dA 0, 7, .inl (fun k => row (77 + k)))) :: (ld, .inl (dA 0, 8, .inl (fun k => row (13 + k)))) :: (lr, .inl (dA 0, 56, .inl (fun k => row (21 + k)))) :: (lq, .inr (4, [.int md, .ref (dOf E ob), .int (nI q)])) :: lsT dA ob fe) := hD
              refine lv_iload_n hx hb dX1_step_132 rfl (lv_at hl 0 rfl) ?_
              refine lv_if_eq (tgt := 138) hx hb dX1_step_133 (by decide) (fun h => absurd h (by decide)) (fun _ => ?_)
              refine lv_iconst (v := nI 2) hx hb dX1_step_136 (by decide) ?_
              exact x_eiret ([], nI pl, (row 5) + (nI 1), md, ob, fe, q) hx hb hrt hlk (by rw [sr_2 (sp_n h_1 h_2) (sv_t h_3 h_21)]) (sk_two (sp_n h_1 h_2) (sv_t h_3 h_21) (sb_t2 h_3 h_7 h_14) hcu hlo hco) hP hD hS dX1_step_137 (Nat.le_of_ble_eq_true rfl) (Nat.le_of_ble_eq_true rfl)
    · refine lv_bipush (v := -4) hx hb dX1_step_26 (by decide) ?_
      exact x_eiret ([], row 4, row 5, md, ob, fe, q) hx hb hrt hlk (by rw [sr_4 (sp_n h_1 h_2)]) (sk_none (sp_n h_1 h_2) hlo hco) hP hD hS dX1_step_28 (Nat.le_of_ble_eq_true rfl) (Nat.le_of_ble_eq_true rfl)
  · refine lv_bipush (v := -5) hx hb dX1_step_10 (by decide) ?_
    refine lv_goto (tgt := 19) hx hb dX1_step_12 (by decide) ?_
    refine lv_istore_n (lv' := [(1, .int (-5)), (0, .ref sa)]) hx hb dX1_step_19 rfl hl (by decide) rfl (fun ls hl => ?_)
    refine lv_iload_n hx hb dX1_step_20 rfl (lv_at hl 0 rfl) ?_
    refine lv_bipush (v := -5) hx hb dX1_step_21 (by decide) ?_
    refine lv_icmp_ne (tgt := 29) hx hb dX1_step_23 (by decide) (fun h => absurd rfl h) (fun _ => ?_)
    refine lv_bipush (v := -4) hx hb dX1_step_26 (by decide) ?_
    exact x_eiret ([], row 4, row 5, md, ob, fe, q) hx hb hrt hlk (by rw [sr_4 (sp_0 h_1)]) (sk_none (sp_0 h_1) hlo hco) hP hD hS dX1_step_28 (Nat.le_of_ble_eq_true rfl) (Nat.le_of_ble_eq_true rfl)

