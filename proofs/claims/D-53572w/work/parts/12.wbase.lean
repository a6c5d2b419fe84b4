/-! contracts of methods that write: the world W0 becomes W1 -/
def QW (v : Option Value) (D : va_G) (W1 : va_W) (A : Nat → Prop) : Array Value → State → Outcome → State → Prop := fun _ st o t => o = .returned v ∧ va_P D vwCl W1 t.heap ∧ va_D A W1 ∧ va_F A st t
abbrev rmW (d lo mc ms : Nat) : Room := { frames := d, cells := mc, slots := ms, locals := lo }
abbrev PW (D : va_G) (dA : Nat → ClassId) (W0 : va_W) (sz : Nat) : State → Prop := fun U => KA D dA U ∧ U.heap.size = sz ∧ va_P D vwCl W0 U.heap ∧ va_D (fun _ => True) W0
def WR (l : Launch) (y : MethodName) (cc : ByteArray) (nL : Nat) (ret : Option FieldType) (d lo mc ms : Nat) (as : List Value) (D : va_G) (dA : Nat → ClassId) (W0 : va_W) (v : Option Value) (W1 : va_W) : Prop :=
  ∀ sz, Met l y (ws_ y cc nL ret) (rmW d lo mc ms) (va_Pc as (PW D dA W0 sz)) (QW v D W1 (va_A W0 sz)) mc ms (va_A W0 sz)
theorem wr_of {l : Launch} {y : MethodName} {cc : ByteArray} {nL : Nat} {ret : Option FieldType} {d lo mc ms : Nat} {as : List Value} {D : va_G} {dA : Nat → ClassId} {W0 W1 : va_W} {v : Option Value} (hy : plainName y.cls = true) (hn : (lg_sl as).length ≤ nL)
    (body : ∀ (p : Program) (e : Env) (s : State) (m : MethodId) (below : List Frame) (meth : Method) (c : Code) (A : Nat → Prop), CallFix p m c cc nL s as.toArray lw_all y.cls → meth.sig.returnType = ret → meth.locks = false → KA D dA s → (∀ q : Nat, s.heap.size ≤ q → A q) → va_A W0 s.heap.size = A → ∀ (H : Heap) (locs : List Loc), va_P D vwCl W0 H → va_D A W0 → va_S A s.heap H locs → ∀ ls, lv_has ls nL (lv_args 0 as) →
      W p l e (rmW d lo mc ms) s m as.toArray below meth c H locs 0 0 (MQ below (QW v D W1 A) as.toArray s mc ms A) (F0 m 0 ls [])) : WR l y cc nL ret d lo mc ms as D dA W0 v W1 := by
  intro sz
  refine Met.ofW (cc := cc) (maxL := nL) (ret := ret) hy rfl ?_
  intro p e s m args below meth c s₁ B hml hv
  obtain ⟨rfl, hK, hsz, hP, hD0⟩ := hv
  subst hsz
  have hts := atoms_spec (ws := ws_ y cc nL ret) B.pre
  have hts : ∀ w ∈ lw_all, w.before _ s = true := fun w h => hts w (List.mem_cons_of_mem _ h)
  have hown : s.vm.findClass y.cls = some m.cls := findClass_of_methodNamed B.named
  have hl := lv_entry as (n := nL) hn
  rw [lg_entry_eq]
  exact body p e s m below meth c _ ⟨B.exec, B.bytes, hml, hown, hts⟩ B.returns B.notSynchronized hK (fun q h => Or.inr h) rfl s.heap [] hP hD0.self va_S.rf _ hl
theorem pw_blind {D : va_G} {dA : Nat → ClassId} {W0 : va_W} {sz : Nat} (as : List Value) : FrameBlind (va_Pc as (PW D dA W0 sz)) := fun a U g mk q => ⟨q.1, va_K.moved (u := U) (U := U.calling g mk a) (Vm.Alike.refl U.vm) q.2.1, q.2.2.1, q.2.2.2.1, q.2.2.2.2⟩
theorem pw_pre {D : va_G} {dA : Nat → ClassId} {W0 : va_W} {A : Nat → Prop} {s : State} {H : Heap} (K : KA D dA s) (hP : va_P D vwCl W0 H) (hD : va_D A W0) (as : List Value) : ∀ U : State, U.heap = H → s.WarmedH U.vm → va_Pc as (PW D dA W0 H.size) as.toArray U := fun U hU hW => ⟨rfl, va_K.moved hW.alike K, by rw [hU], by rw [hU]; exact hP, hD.weaken (fun _ _ _ _ => trivial)⟩
section XW
variable {p : Program} {l : Launch} {e : Env} {R : Room} {s : State} {m : MethodId} {args : Array Value} {below : List Frame} {meth : Method} {c : Code} {H : Heap} {locs : List Loc} {cells slots : Nat} {Q : State → Prop} {cc : ByteArray} {pc : Nat} {ls : Array Slot} {rest st0 : List Value}
/-- behind a call that writes: the callee's world wc (the caller's places isC) has become W1, the rest wr stays -/
theorem x_wcall {v : Option Value} {a : Array Value} {D : va_G} {A : Nat → Prop} {H0 : Heap} {ws wc wr W1 : va_W} {mc ms : Nat} (hr : va_Run p l e R s m args below meth c H locs cells slots mc ms (F0 m pc ls st0) rest (QW v D W1 (va_A wc H.size) a) (va_A wc H.size)) (hP : va_P D vwCl ws H) (hD : va_D A ws) (hS : va_S A H0 H locs) (hA : ∀ q, H0.size ≤ q → A q)
    (isC isR : List Nat) (hC : isC.map (fun i => ws[i]?) = wc.map some) (hR : isR.map (fun i => ws[i]?) = wr.map some) (hn : va_nd isR = true) (hdis : ∀ i ∈ isR, i ∉ isC)
    (kk : ∀ (H1 : Heap) (locs1 : List Loc), va_P D vwCl (wr ++ W1) H1 → va_D A (wr ++ W1) → va_S A H0 H1 locs1 → (∀ q : Nat, q < H.size → ¬ va_A wc H.size q → H1[q]? = H[q]?) → W p l e R s m args below meth c H1 locs1 (cells + mc) (slots + ms) Q (F0 m (pc + 3) ls (v.toList ++ rest))) : W p l e R s m args below meth c H locs cells slots Q (F0 m pc ls st0) := by
  intro T hT X
  obtain ⟨v', st₀, t, T', L, h0, X', hL, e1, e2, ⟨hv, hP1, hD1, hz, hk⟩, st⟩ := hr T hT X
  cases hv
  have hF := va_free (wc := wc) hD hS hA isC hC
  rw [h0] at hz hk
  have hk' : ∀ q : Nat, q < H.size → ¬ va_A wc H.size q → T'.heap[q]? = H[q]? := fun q h1 h2 => by rw [e1]; exact hk q h1 h2
  rw [← e1] at hP1
  obtain ⟨hP', hD'⟩ := va_join hP hD isC isR hC hR hn hdis hk' hF hP1 hD1
  obtain ⟨t2, a1, b1⟩ := kk T'.heap (locs ++ L) hP' hD' ⟨Nat.le_trans hS.1 (by rw [e1]; exact hz), fun q h1 h2 => by rw [hk' q (Nat.lt_of_lt_of_le h1 hS.1) (fun z => h2 (hF q z))]; exact hS.2.1 q h1 h2, fun q hq => by
      rcases List.mem_append.mp hq with h | h
      · exact hS.2.2 q h
      · exact hF _ (hL q h)⟩ hk' T' rfl X'
  exact ⟨t2, st t2 a1, b1⟩
theorem x_viret {D : va_G} {A : Nat → Prop} {W1 : va_W} {v w : Int32} {mc ms : Nat} (hexec : p.tables.exec = Jvm.exec) (hb : c.code = cc) (hr : meth.sig.returnType = some .int) (hlocks : meth.locks = false) (hv : v = w) (hP : va_P D vwCl W1 H) (hD : va_D A W1) (hS : va_S A s.heap H locs) (hdg : decode cc pc = .ok (.ireturn, 1)) (hc : cells ≤ mc) (hs : slots ≤ ms) : W p l e R s m args below meth c H locs cells slots (MQ below (QW (some (.int w)) D W1 A) args s mc ms A) (F0 m pc ls [.int v]) := by
  subst hv
  refine W.widen hc hs ?_
  exact W.iret hexec hb hr (fun t ht hW => ⟨rfl, by rw [ht]; exact hP, hD, hS.F ht⟩) hS.2.2 hdg hlocks
theorem x_vzret {D : va_G} {A : Nat → Prop} {W1 : va_W} {v : Int32} {w : Bool} {mc ms : Nat} (hexec : p.tables.exec = Jvm.exec) (hb : c.code = cc) (hr : meth.sig.returnType = some .boolean) (hlocks : meth.locks = false) (hv : v = bI w) (hP : va_P D vwCl W1 H) (hD : va_D A W1) (hS : va_S A s.heap H locs) (hdg : decode cc pc = .ok (.ireturn, 1)) (hc : cells ≤ mc) (hs : slots ≤ ms) : W p l e R s m args below meth c H locs cells slots (MQ below (QW (some (.int (bI w))) D W1 A) args s mc ms A) (F0 m pc ls [.int v]) := by
  subst hv
  refine W.widen hc hs ?_
  exact W.zret hexec hb hr (narrow_bI w) (fun t ht hW => ⟨rfl, by rw [ht]; exact hP, hD, hS.F ht⟩) hS.2.2 hdg hlocks
theorem x_vvret {D : va_G} {A : Nat → Prop} {W1 : va_W} {mc ms : Nat} (hexec : p.tables.exec = Jvm.exec) (hb : c.code = cc) (hr : meth.sig.returnType = none) (hlocks : meth.locks = false) (hP : va_P D vwCl W1 H) (hD : va_D A W1) (hS : va_S A s.heap H locs) (hdg : decode cc pc = .ok (.return_, 1)) (hc : cells ≤ mc) (hs : slots ≤ ms) : W p l e R s m args below meth c H locs cells slots (MQ below (QW none D W1 A) args s mc ms A) (F0 m pc ls []) := by
  refine W.widen hc hs ?_
  exact W.vret hexec hb hr (fun t ht hW => ⟨rfl, by rw [ht]; exact hP, hD, hS.F ht⟩) hS.2.2 hdg hlocks
end XW
/-- a loop over locals, heap and written places -/
theorem lpW {α : Type} (f : Nat → α → α) (a0 : α) (n : Nat) (I : Nat → α → Array Slot → Heap → List Loc → Prop) (P : Array Slot → Heap → List Loc → Prop) (body : ∀ k ls H locs, k < n → I k (iter f k 0 a0) ls H locs → (∀ ls' H' locs', I (k + 1) (f k (iter f k 0 a0)) ls' H' locs' → P ls' H' locs') → P ls H locs) (exit : ∀ ls H locs, I n (iter f n 0 a0) ls H locs → P ls H locs) : ∀ ls H locs, I 0 a0 ls H locs → P ls H locs := by
  intro ls H locs h
  exact lpI f a0 n (fun k a (x : Array Slot × Heap × List Loc) => I k a x.1 x.2.1 x.2.2) (fun x => P x.1 x.2.1 x.2.2) (fun k x hk h ih => body k x.1 x.2.1 x.2.2 hk h (fun l' H' o' h' => ih (l', H', o') h')) (fun x h => exit x.1 x.2.1 x.2.2 h) (ls, H, locs) h
/-- an array's contents by another function that agrees in its range -/
theorem arr_cg {D : va_G} {cl : List vw_C} {ws : va_W} {H : Heap} {a n p : Nat} {d : ClassId} {f g : Nat → Int32} (hP : va_P D cl ws H) (h : ws[p]? = some (a, .inl (d, n, .inl f))) (hfg : ∀ j, j < n → f j = g j) : va_P D cl (ws.set p (a, .inl (d, n, .inl g))) H := by
  have hl := (List.getElem?_eq_some_iff.mp h).1
  intro k q hk
  by_cases hkp : k = p
  · subst hkp
    rw [List.getElem?_set_self hl] at hk
    cases hk
    have h1 := hP k _ h
    have e : vp_cell d (n, .inl f) = vp_cell d (n, .inl g) := by
      show arrV d n (fun j => .int (f j)) = arrV d n (fun j => .int (g j))
      unfold arrV
      congr 1
      apply Array.ext
      · simp
      · intro i h1 h2
        simp at h1 h2 ⊢
        exact hfg i h1
    show H[a]? = some (vp_cell d (n, .inl g))
    rw [← e]
    exact h1
  · rw [List.getElem?_set_ne (Ne.symm hkp)] at hk
    exact hP k q hk
theorem iter_cg {α : Type} {f g : Nat → α → α} {n : Nat} (h : ∀ k, k < n → ∀ a, f k a = g k a) (a0 : α) : iter f n 0 a0 = iter g n 0 a0 := by
  induction n with
  | zero => rfl
  | succ n ih => rw [iter_s, iter_s, ih (fun k hk a => h k (by omega) a), Nat.zero_add, h n (by omega)]
theorem fst_cg {P Q : Nat → Bool} : ∀ (r k : Nat), (∀ j, k ≤ j → j < k + r → P j = Q j) → fst P r k = fst Q r k
  | 0, k, _ => rfl
  | r + 1, k, h => by
    rw [fst, fst, h k (Nat.le_refl _) (by omega), fst_cg r (k + 1) (fun j h1 h2 => h j (by omega) (by omega))]
/-- a copying loop -/
theorem cp_iter (src g0 : Nat → Int32) (o : Nat) : ∀ n, iter (fun k g => upd g (o + k) (src k)) n 0 g0 = fun j => if o ≤ j ∧ j < o + n then src (j - o) else g0 j := by
  intro n
  induction n with
  | zero => funext j; rw [if_neg (by omega)]; rfl
  | succ n ih =>
    rw [iter_s, ih, Nat.zero_add]
    funext j
    simp only [upd]
    by_cases h : j = o + n
    · subst h
      rw [if_pos rfl, if_pos (by omega)]
      congr 1
      omega
    · rw [if_neg h]
      by_cases h2 : o ≤ j ∧ j < o + n
      · rw [if_pos h2, if_pos (by omega)]
      · rw [if_neg h2, if_neg (by omega)]
theorem sh_iter (g0 : Nat → Int32) (d : Nat) : ∀ n, iter (fun k g => upd g k (g (d + k))) n 0 g0 = fun j => if j < n then g0 (d + j) else g0 j := by
  intro n
  induction n with
  | zero => funext j; rfl
  | succ n ih =>
    rw [iter_s, ih, Nat.zero_add]
    funext j
    simp only [upd]
    by_cases h : j = n
    · subst h
      rw [if_pos rfl, if_neg (by omega : ¬ d + j < j), if_pos (by omega)]
    · rw [if_neg h]
      by_cases h2 : j < n
      · rw [if_pos h2, if_pos (by omega)]
      · rw [if_neg h2, if_neg (by omega)]
theorem cp0_iter (src g0 : Nat → Int32) : ∀ n, iter (fun k g => upd g k (src k)) n 0 g0 = fun j => if j < n then src j else g0 j := by
  intro n
  induction n with
  | zero => funext j; rfl
  | succ n ih =>
    rw [iter_s, ih, Nat.zero_add]
    funext j
    simp only [upd]
    by_cases h : j = n
    · subst h
      rw [if_pos rfl, if_pos (by omega)]
    · rw [if_neg h]
      by_cases h2 : j < n
      · rw [if_pos h2, if_pos (by omega)]
      · rw [if_neg h2, if_neg (by omega)]
theorem arr_cg2 {D : va_G} {cl : List vw_C} {A : Nat → Prop} {ws : va_W} {H : Heap} {a n : Nat} {d : ClassId} {f : Nat → Int32} (g : Nat → Int32) (p : Nat) (hP : va_P D cl ws H) (hD : va_D A ws) (h : ws[p]? = some (a, .inl (d, n, .inl f))) (hfg : ∀ j, j < n → f j = g j) : va_P D cl (ws.set p (a, .inl (d, n, .inl g))) H ∧ va_D A (ws.set p (a, .inl (d, n, .inl g))) := ⟨arr_cg hP h hfg, hD.set h⟩
/-- the model's world -/
abbrev mW (dA : Nat → ClassId) (h0 hr hp ha hf ht hd : Nat) (row past aside bef txt rd : Nat → Int32) (hs : Nat) (ias : Bool) (ln pa : Nat) : va_W := [(h0, .inr (3, [.ref hr, .ref hp, .ref ha, .ref hf, .int (nI hs), .int (bI ias), .ref ht, .int (nI ln), .int (nI pa), .ref hd])), (hr, .inl (dA 0, 444, .inl row)), (hp, .inl (dA 0, 1776, .inl past)), (ha, .inl (dA 0, 444, .inl aside)), (hf, .inl (dA 0, 444, .inl bef)), (ht, .inl (dA 3, 60, .inl txt)), (hd, .inl (dA 0, 8, .inl rd))]
def recP (past bef : Nat → Int32) (h : Nat) : Nat → Int32 := if h = 4 then (fun j => if j < 1332 then past (444 + j) else bef (j - 1332)) else (fun j => if 444 * h ≤ j ∧ j < 444 * h + 444 then bef (j - 444 * h) else past j)
def recH (h : Nat) : Nat := if h = 4 then 4 else h + 1
def undoR (row past : Nat → Int32) (h : Nat) : Nat → Int32 := if h = 0 then row else fun k => past (444 * (h - 1) + k)
def rUndo (h : Nat) : Int32 := if h = 0 then -5 else nI (h - 1)
def dropA (row : Nat → Int32) : Nat → Int32 := fun j => if j = 3 then nI 0 else if j = 4 then -5 else if 84 ≤ j then nI 0 else row j
def okCh (row : Nat → Int32) (pl : Nat) (v : Int32) : Bool := if row pl = v then false else true
def rCh (row : Nat → Int32) (pl : Nat) (v : Int32) : Int32 := if row pl = v then -5 else row pl
def okAS (n : Nat) (x : Int32) : Bool := if mIn x (nI 0) (nI 999) = false then false else if n = 7 then false else true
def rAS (n : Nat) (x : Int32) : Int32 := if mIn x (nI 0) (nI 999) = false then -2 else if n = 7 then -3 else nI n
def okAC (cu : Nat) (x : Int32) : Bool := if mIn x (nI 1) (nI 20) = false then false else if cu = 8 then false else true
def rAC (cu : Nat) (x : Int32) : Int32 := if mIn x (nI 1) (nI 20) = false then -2 else if cu = 8 then -3 else nI cu
def okSP (row : Nat → Int32) (n : Nat) (x y : Int32) : Bool := if mNo n x = true then false else if mIn y (nI 0) (nI 999) = false then false else okCh row (6 + cN x) y
def rSP (row : Nat → Int32) (n : Nat) (x y : Int32) : Int32 := if mNo n x = true then -1 else if mIn y (nI 0) (nI 999) = false then -2 else rCh row (6 + cN x) y
def okSD (row : Nat → Int32) (cu : Nat) (x y : Int32) : Bool := if mNo cu x = true then false else if mIn y (nI 1) (nI 20) = false then false else okCh row (13 + cN x) y
def rSD (row : Nat → Int32) (cu : Nat) (x y : Int32) : Int32 := if mNo cu x = true then -1 else if mIn y (nI 1) (nI 20) = false then -2 else rCh row (13 + cN x) y
def okSR (row : Nat → Int32) (n cu : Nat) (x y z : Int32) : Bool := if mNo n x = true then false else if mNo cu y = true then false else if mIn z (nI 0) (nI 100) = false then false else okCh row (21 + 8 * cN x + cN y) z
def rSR (row : Nat → Int32) (n cu : Nat) (x y z : Int32) : Int32 := if mNo n x = true then -1 else if mNo cu y = true then -1 else if mIn z (nI 0) (nI 100) = false then -2 else rCh row (21 + 8 * cN x + cN y) z
def okSM (row : Nat → Int32) (x : Int32) : Bool := if mIn x (nI 1) (nI 7) = false then false else if row 2 = x then false else true
def rSM (row : Nat → Int32) (x : Int32) : Int32 := if mIn x (nI 1) (nI 7) = false then -2 else if row 2 = x then -5 else row 2
def okEx (row : Nat → Int32) (n : Nat) (x y : Int32) (t : Bool) : Bool := if mNo n x = true then false else if mNo n y = true then false else if x = y then false else if bI ((cN (row (77 + cN x))).testBit (cN y)) = bI t then false else true
def exR (row : Nat → Int32) (i j : Nat) : Nat → Int32 := upd (upd (upd row (77 + i) (nI (cN (row (77 + i)) ^^^ 2 ^ j))) (77 + j) (nI (cN (row (77 + j)) ^^^ 2 ^ i))) 4 (-5)
def rEx (row : Nat → Int32) (n : Nat) (x y : Int32) (t : Bool) : Int32 := if mNo n x = true then -1 else if mNo n y = true then -1 else if x = y then -2 else if bI ((cN (row (77 + cN x))).testBit (cN y)) = bI t then -5 else nI (mMany (cN (row (77 + cN x)) ^^^ 2 ^ cN y))
theorem xor128 {a b : Nat} (ha : a < 128) (hb : b < 128) : a ^^^ b < 128 := Nat.xor_lt_two_pow (n := 7) ha hb
