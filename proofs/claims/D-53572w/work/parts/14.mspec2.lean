/-! steps, cuts, texts: what the model's writers do -/
section XN
variable {p : Program} {l : Launch} {e : Env} {R : Room} {s : State} {m : MethodId} {args : Array Value} {below : List Frame} {meth : Method} {c : Code} {H : Heap} {locs : List Loc} {cells slots : Nat} {Q : State → Prop} {cc : ByteArray} {pc : Nat} {ls : Array Slot} {rest st0 : List Value}
theorem x_icmpn_ge {a b : Nat} (hexec : p.tables.exec = Jvm.exec) (hb : c.code = cc) {off : Int} {tgt : Nat} (hdg : decode cc pc = .ok (.if_icmp .ge off, 3)) (ht : (pc : Int) + off = (tgt : Int)) (ha : a < 2 ^ 31) (hbb : b < 2 ^ 31)
    (kt : b ≤ a → W p l e R s m args below meth c H locs cells slots Q (F0 m tgt ls rest)) (kf : a < b → W p l e R s m args below meth c H locs cells slots Q (F0 m (pc + 3) ls rest)) : W p l e R s m args below meth c H locs cells slots Q (F0 m pc ls (.int (nI b) :: .int (nI a) :: rest)) :=
  lv_icmp_ge hexec hb hdg ht (fun h => kt ((nI_leI hbb ha).mp h)) (fun h => kf (Nat.lt_of_not_ge (fun q => h ((nI_leI hbb ha).mpr q))))
theorem x_icmpn_le {a b : Nat} (hexec : p.tables.exec = Jvm.exec) (hb : c.code = cc) {off : Int} {tgt : Nat} (hdg : decode cc pc = .ok (.if_icmp .le off, 3)) (ht : (pc : Int) + off = (tgt : Int)) (ha : a < 2 ^ 31) (hbb : b < 2 ^ 31)
    (kt : a ≤ b → W p l e R s m args below meth c H locs cells slots Q (F0 m tgt ls rest)) (kf : b < a → W p l e R s m args below meth c H locs cells slots Q (F0 m (pc + 3) ls rest)) : W p l e R s m args below meth c H locs cells slots Q (F0 m pc ls (.int (nI b) :: .int (nI a) :: rest)) :=
  lv_icmp_le hexec hb hdg ht (fun h => kt ((nI_leI ha hbb).mp h)) (fun h => kf (Nat.lt_of_not_ge (fun q => h ((nI_leI ha hbb).mpr q))))
theorem x_icmpn_eq {a b : Nat} (hexec : p.tables.exec = Jvm.exec) (hb : c.code = cc) {off : Int} {tgt : Nat} (hdg : decode cc pc = .ok (.if_icmp .eq off, 3)) (ht : (pc : Int) + off = (tgt : Int)) (ha : a < 2 ^ 31) (hbb : b < 2 ^ 31)
    (kt : a = b → W p l e R s m args below meth c H locs cells slots Q (F0 m tgt ls rest)) (kf : ¬ a = b → W p l e R s m args below meth c H locs cells slots Q (F0 m (pc + 3) ls rest)) : W p l e R s m args below meth c H locs cells slots Q (F0 m pc ls (.int (nI b) :: .int (nI a) :: rest)) :=
  lv_icmp_eq hexec hb hdg ht (fun h => kt ((nI_eq ha hbb).mp h)) (fun h => kf (fun q => h (by rw [q])))
theorem x_icmpn_ne {a b : Nat} (hexec : p.tables.exec = Jvm.exec) (hb : c.code = cc) {off : Int} {tgt : Nat} (hdg : decode cc pc = .ok (.if_icmp .ne off, 3)) (ht : (pc : Int) + off = (tgt : Int)) (ha : a < 2 ^ 31) (hbb : b < 2 ^ 31)
    (kt : ¬ a = b → W p l e R s m args below meth c H locs cells slots Q (F0 m tgt ls rest)) (kf : a = b → W p l e R s m args below meth c H locs cells slots Q (F0 m (pc + 3) ls rest)) : W p l e R s m args below meth c H locs cells slots Q (F0 m pc ls (.int (nI b) :: .int (nI a) :: rest)) :=
  lv_icmp_ne hexec hb hdg ht (fun h => kt (fun q => h (by rw [q]))) (fun h => kf ((nI_eq ha hbb).mp h))
theorem x_cald {D : va_G} {cl : List vw_C} {tys : List (ClassId × FieldType)} {ws : va_W} {a : Nat} (hexec : p.tables.exec = Jvm.exec) (hb : c.code = cc) (hK : va_K D cl tys s) (hP : va_P D cl ws H) (q0 t0 : Nat) {cA : ClassId} {n : Nat} {f : Nat → Int32} (ha : ws[q0]? = some (a, .inl (cA, n, .inl f))) (ht : tys[t0]? = some (cA, .char)) {i : Int32} (k : Nat) (hi : i = nI k) (hk : k < n) (hn : n < 2 ^ 31) {v : Int32} (hv : f k = v) (hdg : decode cc pc = .ok (.caload, 1))
    (kk : W p l e R s m args below meth c H locs cells slots Q (F0 m (pc + 1) ls (.int v :: rest))) : W p l e R s m args below meth c H locs cells slots Q (F0 m pc ls (.int i :: .ref a :: rest)) := by
  subst hi
  refine va_cald hexec hb hK hP q0 t0 ha ht (vp_in_nI hk hn) hdg ?_
  rw [nI_clamp (by omega), hv]
  exact kk
theorem x_cast {D : va_G} {cl : List vw_C} {A : Nat → Prop} {H0 : Heap} {tys : List (ClassId × FieldType)} {ws : va_W} {a : Nat} (hexec : p.tables.exec = Jvm.exec) (hb : c.code = cc) (hK : va_K D cl tys s) (hP : va_P D cl ws H) (hD : va_D A ws) (hS : va_S A H0 H locs) (q0 t0 : Nat) {cA : ClassId} {n : Nat} {f : Nat → Int32} (ha : ws[q0]? = some (a, .inl (cA, n, .inl f))) (ht : tys[t0]? = some (cA, .char)) {i : Int32} {x y : Int32} (k : Nat) (hi : i = nI k) (hk : k < n) (hn : n < 2 ^ 31) (hx : vp_nar .char x = y) (hdg : decode cc pc = .ok (.castore, 1))
    (kk : ∀ (H1 : Heap) (locs1 : List Loc), va_P D cl (ws.set q0 (a, .inl (cA, n, .inl (upd f k y)))) H1 → va_D A (ws.set q0 (a, .inl (cA, n, .inl (upd f k y)))) → va_S A H0 H1 locs1 → W p l e R s m args below meth c H1 locs1 cells slots Q (F0 m (pc + 1) ls rest)) : W p l e R s m args below meth c H locs cells slots Q (F0 m pc ls (.int x :: .int i :: .ref a :: rest)) := by
  subst hi
  refine va_cast hexec hb hK hP hD hS q0 t0 ha ht (vp_in_nI hk hn) hdg ?_
  rw [nI_clamp (by omega), hx]
  exact kk
end XN
/-- rows that agree on what is no cut, no count of cuts, no best, no steps -/
def Agr (r1 r2 : Nat → Int32) : Prop := ∀ j, j < 3 ∨ (6 ≤ j ∧ j < 84) → r1 j = r2 j
theorem iter_0 {α : Type} (f : Nat → α → α) (k : Nat) (a : α) : iter f 0 k a = a := rfl
theorem mSvS_cg {r1 r2 : Nat → Int32} (h : Agr r1 r2) {pl c N : Nat} (hN : N < 7) (hc : c < 8) {a : Option Nat} (ha : ∀ b, a = some b → b < 7) : mSvS r1 pl c N a = mSvS r2 pl c N a := by
  have e1 : r1 (21 + 8 * N + c) = r2 (21 + 8 * N + c) := h (21 + 8 * N + c) (Or.inr ⟨by omega, by omega⟩)
  by_cases t : pl.testBit N = false
  · rw [mSvS_1 t, mSvS_1 t]
  · by_cases u : nI 100 ≤ r2 (21 + 8 * N + c)
    · rw [mSvS_2 t (by rw [e1]; exact u), mSvS_2 t u]
    · have u1 : ¬ nI 100 ≤ r1 (21 + 8 * N + c) := by rw [e1]; exact u
      cases a with
      | none => rw [mSvS_3 t u1, mSvS_3 t u]
      | some b =>
        have hb := ha b rfl
        have e2 : r1 (21 + 8 * b + c) = r2 (21 + 8 * b + c) := h (21 + 8 * b + c) (Or.inr ⟨by omega, by omega⟩)
        rw [mSvS_4 t u1, mSvS_4 t u, e1, e2]
theorem agr_server {r1 r2 : Nat → Int32} (h : Agr r1 r2) {n pl c : Nat} (hn : n ≤ 7) (hc : c < 8) : mServer r1 n pl c = mServer r2 n pl c := by
  have key : ∀ N, N ≤ 7 → iter (mSvS r1 pl c) N 0 none = iter (mSvS r2 pl c) N 0 none := by
    intro N
    induction N with
    | zero => intro _; rw [iter_0, iter_0]
    | succ N ih =>
      intro hN
      rw [iter_s, iter_s, ih (by omega)]
      refine mSvS_cg h (by omega) hc (fun b hb => ?_)
      have := iter_lt (mSvS_or r2 pl c) N b hb
      omega
  exact key n hn
theorem agr_prices {r1 r2 : Nat → Int32} (h : Agr r1 r2) {n pl : Nat} (hn : n ≤ 7) : mPrices r1 n pl = mPrices r2 n pl :=
  iter_cg (fun k hk a => by simp only [mPrS, h (6 + k) (Or.inr (by omega))]) _
theorem agr_routes {r1 r2 : Nat → Int32} (h : Agr r1 r2) {n cu pl : Nat} (hn : n ≤ 7) (hcu : cu ≤ 8) : mRoutes r1 n cu pl = mRoutes r2 n cu pl :=
  iter_cg (fun k hk a => by
    have hs := agr_server h (n := n) (pl := pl) (c := k) hn (by omega)
    have hb : ∀ b, mServer r2 n pl k = some b → b < n := fun b hb => mServer_lt hb
    simp only [mRoS, hs, h (13 + k) (Or.inr (by omega))]
    cases he : mServer r2 n pl k with
    | none => simp only [Option.getD_none]; rw [h (21 + 8 * 0 + k) (Or.inr (by omega))]
    | some b => have := hb b he; simp only [Option.getD_some]; rw [h (21 + 8 * b + k) (Or.inr (by omega))]) _
theorem agr_reach {r1 r2 : Nat → Int32} (h : Agr r1 r2) {n c : Nat} (hn : n ≤ 7) (hc : c < 8) : mReach r1 n c = mReach r2 n c :=
  iter_cg (fun k hk a => by simp only [mReS, h (21 + 8 * k + c) (Or.inr (by omega))]) _
theorem agr_missed {r1 r2 : Nat → Int32} (h : Agr r1 r2) {n cu pl : Nat} (hn : n ≤ 7) (hcu : cu ≤ 8) : mMissed r1 n cu pl = mMissed r2 n cu pl :=
  fst_cg _ _ (fun j h1 h2 => by simp only [mMissP, agr_reach h hn (show j < 8 by omega)])
theorem agr_cost {r1 r2 : Nat → Int32} (h : Agr r1 r2) {n cu pl : Nat} (hn : n ≤ 7) (hcu : cu ≤ 8) : mCost r1 n cu pl = mCost r2 n cu pl := by
  rw [mCost, mCost, agr_prices h hn, agr_routes h hn hcu]
theorem agr_refl (r : Nat → Int32) : Agr r r := fun _ _ => rfl
theorem agr_trans {a b c : Nat → Int32} (h1 : Agr a b) (h2 : Agr b c) : Agr a c := fun j hj => (h1 j hj).trans (h2 j hj)
theorem agr_upd (r : Nat → Int32) {k : Nat} (v : Int32) (hk : k = 3 ∨ k = 4 ∨ k = 5 ∨ 84 ≤ k) : Agr (upd r k v) r := fun j hj => pk_un (by omega)
/-- MWf by what it looks at -/
theorem mwf_cg {r1 r2 : Nat → Int32} {n cu q : Nat} (w : MWf r1 n cu q) (h0 : r2 0 = r1 0) (h1 : r2 1 = r1 1) (h3 : r2 3 = r1 3) (hk : ∀ k, k < q → r2 (84 + 9 * k) = r1 (84 + 9 * k)) : MWf r2 n cu q := by
  obtain ⟨e0, hn, e1, hcu, e3, hq, hray⟩ := w
  exact ⟨h0.trans e0, hn, h1.trans e1, hcu, h3.trans e3, hq, fun k h => by rw [hk k h]; exact hray k h⟩
def msPlan (row : Nat → Int32) (n cu q : Nat) : Option Nat := if cu = 0 then none else mMaster row n cu q
def msSolved (row : Nat → Int32) (n cu q pl : Nat) : Bool := if mMissed row n cu pl = none then (if mCost row n cu pl = mGuess row n cu q pl then true else false) else false
def msBest (row : Nat → Int32) (n cu pl : Nat) (bst : Option Nat) : Bool := if mMissed row n cu pl = none then (match bst with
  | none => true
  | some b => if mCost row n cu b ≤ mCost row n cu pl then false else true) else false
def msRow2 (row : Nat → Int32) (n cu pl : Nat) (bst : Option Nat) : Nat → Int32 := bif msBest row n cu pl bst then upd (upd row 5 (row 5 + nI 1)) 4 (nI pl) else upd row 5 (row 5 + nI 1)
def msVal (row : Nat → Int32) (n cu pl c : Nat) : Int32 := if mMissed row n cu pl = none then row (21 + 8 * (mServer row n pl c).getD 0 + c) else nI 0
/-- a row with a cut at the end: its head, and k of its numbers -/
def cutR (row : Nat → Int32) (q : Nat) (hd : Int32) (val : Nat → Int32) (k : Nat) : Nat → Int32 := fun j => if j = 84 + 9 * q then hd else if 84 + 9 * q + 1 ≤ j ∧ j < 84 + 9 * q + 1 + k then val (j - (84 + 9 * q + 1)) else row j
theorem cutR_0 (row : Nat → Int32) (q : Nat) (hd : Int32) (val : Nat → Int32) : upd row (84 + 9 * q) hd = cutR row q hd val 0 := by
  funext j
  simp only [upd, cutR]
  by_cases h : j = 84 + 9 * q
  · rw [if_pos h, if_pos h]
  · rw [if_neg h, if_neg h, if_neg (by omega)]
theorem cutR_s (row : Nat → Int32) (q : Nat) (hd : Int32) (val : Nat → Int32) (k : Nat) : upd (cutR row q hd val k) (84 + 9 * q + 1 + k) (val k) = cutR row q hd val (k + 1) := by
  funext j
  simp only [upd, cutR]
  by_cases h : j = 84 + 9 * q + 1 + k
  · subst h
    rw [if_pos rfl, if_neg (by omega), if_pos (by omega)]
    congr 1
    omega
  · rw [if_neg h]
    by_cases h1 : j = 84 + 9 * q
    · rw [if_pos h1, if_pos h1]
    · rw [if_neg h1, if_neg h1]
      by_cases h2 : 84 + 9 * q + 1 ≤ j ∧ j < 84 + 9 * q + 1 + k
      · rw [if_pos h2, if_pos (by omega)]
      · rw [if_neg h2, if_neg (by omega)]
theorem cutR_lo {row : Nat → Int32} {q : Nat} {hd : Int32} {val : Nat → Int32} {k j : Nat} (h : j < 84 + 9 * q) : cutR row q hd val k j = row j := by
  simp only [cutR]
  rw [if_neg (by omega), if_neg (by omega)]
theorem agr_cutR (row : Nat → Int32) (q : Nat) (hd : Int32) (val : Nat → Int32) (k : Nat) : Agr (cutR row q hd val k) row := fun j hj => cutR_lo (by omega)
def msRow (row : Nat → Int32) (n cu q : Nat) (bst : Option Nat) : Nat → Int32 := match msPlan row n cu q with
  | none => row
  | some pl => if msSolved row n cu q pl = true then msRow2 row n cu pl bst else if q = 40 then row else upd (cutR (msRow2 row n cu pl bst) q (oI (mMissed row n cu pl)) (msVal row n cu pl) cu) 3 (nI (q + 1))
def msRes (row : Nat → Int32) (n cu q : Nat) : Int32 := match msPlan row n cu q with
  | none => -4
  | some pl => if msSolved row n cu q pl = true then nI 2 else if q = 40 then -3 else if mMissed row n cu pl = none then nI 1 else nI 0
def dOneR (row : Nat → Int32) (k : Nat) : Nat → Int32 := fun j => if 84 + 9 * k ≤ j then (if j + 9 < 444 then row (j + 9) else nI 0) else row j
def dOne (row : Nat → Int32) (q k : Nat) : Nat → Int32 := upd (dOneR row k) 3 (nI (q - 1))
theorem dr_iter (g0 : Nat → Int32) (o : Nat) : ∀ n, iter (fun i g => upd g (o + i) (if 444 ≤ o + i + 9 then nI 0 else g (o + i + 9))) n 0 g0 = fun j => if o ≤ j ∧ j < o + n then (if j + 9 < 444 then g0 (j + 9) else nI 0) else g0 j := by
  intro n
  induction n with
  | zero => funext j; rw [if_neg (by omega)]; rfl
  | succ n ih =>
    rw [iter_s, ih, Nat.zero_add]
    funext j
    simp only [upd]
    by_cases h : j = o + n
    · subst h
      rw [if_pos rfl, if_neg (by omega : ¬ (o ≤ o + n + 9 ∧ o + n + 9 < o + n)), if_pos (by omega : o ≤ o + n ∧ o + n < o + (n + 1))]
      by_cases h3 : 444 ≤ o + n + 9
      · rw [if_pos h3, if_neg (by omega)]
      · rw [if_neg h3, if_pos (by omega)]
    · rw [if_neg h]
      by_cases h2 : o ≤ j ∧ j < o + n
      · rw [if_pos h2, if_pos (by omega : o ≤ j ∧ j < o + (n + 1))]
      · rw [if_neg h2, if_neg (by omega)]
