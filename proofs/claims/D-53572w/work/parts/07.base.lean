/-! the world's classes, read-only contracts, loops -/
abbrev vwCl : List vw_C := [(RX0, TX0, 4), (RX1, TX1, 4), (RX2, TX2, 7), (RX3, TX3, 10), (RJ2, TJ2, 3), (RX5, TX5, 2), (RX6, TX6, 2), (RX7, TX7, 2), (RX8, TX8, 7), (RX9, TX9, 2), (RJ4, TJ4, 4)]
abbrev tysA (dA : Nat → ClassId) : List (ClassId × FieldType) := [(dA 0, .int), (dA 1, .object "java/lang/Object"), (dA 2, .byte), (dA 3, .char)]
abbrev KA (D : va_G) (dA : Nat → ClassId) (U : State) : Prop := va_K D vwCl (tysA dA) U
def bI (b : Bool) : Int32 := if b then 1 else 0
def oI (o : Option Nat) : Int32 := match o with
  | none => -5
  | some j => nI j
theorem bI_t : bI true = 1 := rfl
theorem bI_f : bI false = 0 := rfl
theorem oI_n : oI none = -5 := rfl
theorem oI_s (j : Nat) : oI (some j) = nI j := rfl
theorem narrow_bI (b : Bool) : narrow .boolean (.int (bI b)) = .int (bI b) := by cases b <;> rfl
/-- a loop's value: r rounds from k on -/
def iter {α : Type} (f : Nat → α → α) : Nat → Nat → α → α
  | 0, _, a => a
  | r + 1, k, a => iter f r (k + 1) (f k a)
/-- the first place from k on, of r places, with P -/
def fst (P : Nat → Bool) : Nat → Nat → Option Nat
  | 0, _ => none
  | r + 1, k => if P k = true then some k else fst P r (k + 1)
theorem iter_s {α : Type} (f : Nat → α → α) : ∀ (r k : Nat) (a : α), iter f (r + 1) k a = f (k + r) (iter f r k a)
  | 0, k, a => rfl
  | r + 1, k, a => by
    show iter f (r + 1) (k + 1) (f k a) = _
    rw [iter_s f r (k + 1) (f k a)]
    show f (k + 1 + r) (iter f r (k + 1) (f k a)) = f (k + (r + 1)) (iter f r (k + 1) (f k a))
    rw [show k + 1 + r = k + (r + 1) by omega]
/-- a counting loop: the value at k is iter f k 0 a0 -/
theorem lpI {α σ : Type} (f : Nat → α → α) (a0 : α) (n : Nat) (I : Nat → α → σ → Prop) (P : σ → Prop) (body : ∀ k x, k < n → I k (iter f k 0 a0) x → (∀ x', I (k + 1) (f k (iter f k 0 a0)) x' → P x') → P x) (exit : ∀ x, I n (iter f n 0 a0) x → P x) : ∀ x, I 0 a0 x → P x := by
  have key : ∀ r k x, k + r = n → I k (iter f k 0 a0) x → P x := by
    intro r
    induction r with
    | zero =>
      intro k x hk h
      have : k = n := by omega
      subst this
      exact exit x h
    | succ r ih =>
      intro k x hk h
      refine body k x (by omega) h (fun x' h' => ih (k + 1) x' (by omega) ?_)
      rw [iter_s, Nat.zero_add]
      exact h'
  intro x h
  exact key n 0 x (by omega) h
/-- a search: the first place with Pk, or none -/
theorem lpF {σ : Type} (Pk : Nat → Bool) (n : Nat) (I : Nat → σ → Prop) (P : Option Nat → σ → Prop) (body : ∀ k x v, k < n → I k x → (Pk k = true → v = some k) → (Pk k = false → ∀ x', I (k + 1) x' → P v x') → P v x) (exit : ∀ x, I n x → P none x) : ∀ x, I 0 x → P (fst Pk n 0) x := by
  have key : ∀ r k x, k + r = n → I k x → P (fst Pk r k) x := by
    intro r
    induction r with
    | zero =>
      intro k x hk h
      have : k = n := by omega
      subst this
      exact exit x h
    | succ r ih =>
      intro k x hk h
      refine body k x _ (by omega) h (fun hp => by rw [fst, if_pos hp]) (fun hp x' h' => ?_)
      rw [fst, if_neg (by rw [hp]; decide)]
      exact ih (k + 1) x' (by omega) h'
  intro x h
  exact key n 0 x (by omega) h
def QRet (v : Option Value) : Array Value → State → Outcome → State → Prop := fun _ st o t => o = .returned v ∧ t.heap = st.heap
abbrev rmR (d lo : Nat) : Room := { frames := d, cells := 0, slots := 0, locals := lo }
abbrev BB (Γ : State → Prop) (Φ : Heap → Prop) : State → Prop := fun U => Γ U ∧ Φ U.heap
/-- a method that only reads: it answers v -/
def RO (l : Launch) (y : MethodName) (cc : ByteArray) (nL : Nat) (ret : Option FieldType) (d lo : Nat) (as : List Value) (Γ : State → Prop) (Φ : Heap → Prop) (v : Option Value) : Prop :=
  Met l y (ws_ y cc nL ret) (rmR d lo) (va_Pc as (BB Γ Φ)) (QRet v) 0 0 (fun _ => False)
theorem ro_of {l : Launch} {y : MethodName} {cc : ByteArray} {nL : Nat} {ret : Option FieldType} {d lo : Nat} {as : List Value} {Γ : State → Prop} {Φ : Heap → Prop} {v : Option Value} (hy : plainName y.cls = true) (hn : (lg_sl as).length ≤ nL)
    (body : ∀ (p : Program) (e : Env) (s : State) (m : MethodId) (below : List Frame) (meth : Method) (c : Code), CallFix p m c cc nL s as.toArray lw_all y.cls → meth.sig.returnType = ret → meth.locks = false → Γ s → Φ s.heap → ∀ ls, lv_has ls nL (lv_args 0 as) →
      W p l e (rmR d lo) s m as.toArray below meth c s.heap [] 0 0 (MQ below (QRet v) as.toArray s 0 0 (fun _ => False)) (F0 m 0 ls [])) : RO l y cc nL ret d lo as Γ Φ v := by
  refine Met.ofW (cc := cc) (maxL := nL) (ret := ret) hy rfl ?_
  intro p e s m args below meth c s₁ B hml hv
  obtain ⟨rfl, hG, hΦ⟩ := hv
  have hts := atoms_spec (ws := ws_ y cc nL ret) B.pre
  have hts : ∀ w ∈ lw_all, w.before _ s = true := fun w h => hts w (List.mem_cons_of_mem _ h)
  have hown : s.vm.findClass y.cls = some m.cls := findClass_of_methodNamed B.named
  have hl := lv_entry as (n := nL) hn
  rw [lg_entry_eq]
  exact body p e s m below meth c ⟨B.exec, B.bytes, hml, hown, hts⟩ B.returns B.notSynchronized hG hΦ _ hl
section XB
variable {p : Program} {l : Launch} {e : Env} {R : Room} {s : State} {m : MethodId} {args : Array Value} {below : List Frame} {meth : Method} {c : Code} {H : Heap} {locs : List Loc} {cells slots : Nat} {Q : State → Prop} {cc : ByteArray} {pc : Nat} {ls : Array Slot} {rest st0 : List Value}
/-- behind a call that only reads -/
theorem x_ret {v : Value} {a : Array Value} (hr : va_Run p l e R s m args below meth c H locs cells slots 0 0 (F0 m pc ls st0) rest (QRet (some v) a) (fun _ => False)) (kk : W p l e R s m args below meth c H locs cells slots Q (F0 m (pc + 3) ls (v :: rest))) : W p l e R s m args below meth c H locs cells slots Q (F0 m pc ls st0) := by
  intro T hT X
  obtain ⟨v', st₀, t, T', L, h0, X', hL, e1, e2, ⟨hv, hh⟩, st⟩ := hr T hT X
  have hL0 : L = [] := by
    cases L with
    | nil => rfl
    | cons a t => exact (hL a List.mem_cons_self).elim
  subst hL0
  cases hv
  rw [List.append_nil] at X'
  obtain ⟨t2, a1, b1⟩ := kk T' (by rw [e1, hh, h0]) X'
  exact ⟨t2, st t2 a1, b1⟩
theorem x_iret {v w : Int32} (hexec : p.tables.exec = Jvm.exec) (hb : c.code = cc) (hr : meth.sig.returnType = some .int) (hlocks : meth.locks = false) (hv : v = w) (hdg : decode cc pc = .ok (.ireturn, 1)) : W p l e R s m args below meth c s.heap [] 0 0 (MQ below (QRet (some (.int w))) args s 0 0 (fun _ => False)) (F0 m pc ls [.int v]) := by
  subst hv
  exact W.iret hexec hb hr (fun t ht hW => ⟨rfl, ht⟩) (fun q h => by cases h) hdg hlocks
theorem x_zret {v : Int32} {w : Bool} (hexec : p.tables.exec = Jvm.exec) (hb : c.code = cc) (hr : meth.sig.returnType = some .boolean) (hlocks : meth.locks = false) (hv : v = bI w) (hdg : decode cc pc = .ok (.ireturn, 1)) : W p l e R s m args below meth c s.heap [] 0 0 (MQ below (QRet (some (.int (bI w)))) args s 0 0 (fun _ => False)) (F0 m pc ls [.int v]) := by
  subst hv
  exact W.zret hexec hb hr (narrow_bI w) (fun t ht hW => ⟨rfl, ht⟩) (fun q h => by cases h) hdg hlocks
/-- the number on top by another name -/
theorem x_top {x y : Int32} (h : x = y) (k : W p l e R s m args below meth c H locs cells slots Q (F0 m pc ls (.int y :: rest))) : W p l e R s m args below meth c H locs cells slots Q (F0 m pc ls (.int x :: rest)) := by rw [h]; exact k
theorem x_iald {D : va_G} {cl : List vw_C} {tys : List (ClassId × FieldType)} {ws : va_W} {a : Nat} (hexec : p.tables.exec = Jvm.exec) (hb : c.code = cc) (hK : va_K D cl tys s) (hP : va_P D cl ws H) (q0 t0 : Nat) {cA : ClassId} {n : Nat} {f : Nat → Int32} (ha : ws[q0]? = some (a, .inl (cA, n, .inl f))) (ht : tys[t0]? = some (cA, .int)) {i : Int32} (k : Nat) (hi : i = nI k) (hk : k < n) (hn : n < 2 ^ 31) {v : Int32} (hv : f k = v) (hdg : decode cc pc = .ok (.iaload, 1))
    (kk : W p l e R s m args below meth c H locs cells slots Q (F0 m (pc + 1) ls (.int v :: rest))) : W p l e R s m args below meth c H locs cells slots Q (F0 m pc ls (.int i :: .ref a :: rest)) := by
  subst hi
  refine va_iald hexec hb hK hP q0 t0 ha ht (vp_in_nI hk hn) hdg ?_
  rw [nI_clamp (by omega), hv]
  exact kk
theorem x_addN {a b : Nat} (hexec : p.tables.exec = Jvm.exec) (hb : c.code = cc) (hdg : decode cc pc = .ok (.iadd, 1)) (kk : W p l e R s m args below meth c H locs cells slots Q (F0 m (pc + 1) ls (.int (nI (a + b)) :: rest))) : W p l e R s m args below meth c H locs cells slots Q (F0 m pc ls (.int (nI b) :: .int (nI a) :: rest)) := by
  refine lv_iadd hexec hb hdg ?_
  rw [nI_add]
  exact kk
theorem x_mulN {a b : Nat} (hexec : p.tables.exec = Jvm.exec) (hb : c.code = cc) (hdg : decode cc pc = .ok (.imul, 1)) (kk : W p l e R s m args below meth c H locs cells slots Q (F0 m (pc + 1) ls (.int (nI (a * b)) :: rest))) : W p l e R s m args below meth c H locs cells slots Q (F0 m pc ls (.int (nI b) :: .int (nI a) :: rest)) := by
  refine lv_imul hexec hb hdg ?_
  rw [pk_mul]
  exact kk
/-- a branch on a truth value -/
theorem x_ifb_eq {b : Bool} (hexec : p.tables.exec = Jvm.exec) (hb : c.code = cc) {off : Int} {tgt : Nat} (hdg : decode cc pc = .ok (.ifCond .eq off, 3)) (ht : (pc : Int) + off = (tgt : Int))
    (kt : b = false → W p l e R s m args below meth c H locs cells slots Q (F0 m tgt ls rest)) (kf : b = true → W p l e R s m args below meth c H locs cells slots Q (F0 m (pc + 3) ls rest)) : W p l e R s m args below meth c H locs cells slots Q (F0 m pc ls (.int (bI b) :: rest)) := by
  refine lv_if_eq hexec hb hdg ht (fun h => kt ?_) (fun h => kf ?_)
  · cases b
    · rfl
    · exact absurd h (by decide)
  · cases b
    · exact absurd rfl h
    · rfl
theorem x_ifb_ne {b : Bool} (hexec : p.tables.exec = Jvm.exec) (hb : c.code = cc) {off : Int} {tgt : Nat} (hdg : decode cc pc = .ok (.ifCond .ne off, 3)) (ht : (pc : Int) + off = (tgt : Int))
    (kt : b = true → W p l e R s m args below meth c H locs cells slots Q (F0 m tgt ls rest)) (kf : b = false → W p l e R s m args below meth c H locs cells slots Q (F0 m (pc + 3) ls rest)) : W p l e R s m args below meth c H locs cells slots Q (F0 m pc ls (.int (bI b) :: rest)) := by
  refine lv_if_ne hexec hb hdg ht (fun h => kt ?_) (fun h => kf ?_)
  · cases b
    · exact absurd rfl h
    · rfl
  · cases b
    · rfl
    · exact absurd h (by decide)
end XB
def BlG (Γ : State → Prop) : Prop := ∀ (U : State) (g : JFrame) (mk : MethodId) (a : Array Value), Γ U → Γ (U.calling g mk a)
theorem bb_blind {Γ : State → Prop} {Φ : Heap → Prop} (h : BlG Γ) (as : List Value) : FrameBlind (va_Pc as (BB Γ Φ)) := fun a U g mk q => ⟨q.1, h U g mk a q.2.1, q.2.2⟩
theorem ka_bl {D : va_G} {dA : Nat → ClassId} : BlG (KA D dA) := fun U g mk a q => va_K.moved (u := U) (U := U.calling g mk a) (Vm.Alike.refl U.vm) q
theorem tt_bl : BlG (fun _ => True) := fun _ _ _ _ _ => trivial
/-- what a call of a method over KA asks of the caller -/
theorem ka_pre {D : va_G} {dA : Nat → ClassId} {Φ : Heap → Prop} {s : State} {H : Heap} (K : KA D dA s) (h : Φ H) (as : List Value) : ∀ U : State, U.heap = H → s.WarmedH U.vm → va_Pc as (BB (KA D dA) Φ) as.toArray U := fun U hU hW => ⟨rfl, va_K.moved hW.alike K, by rw [hU]; exact h⟩
theorem tt_pre {s : State} {H : Heap} (as : List Value) : ∀ U : State, U.heap = H → s.WarmedH U.vm → va_Pc as (BB (fun _ => True) (fun _ => True)) as.toArray U := fun _ _ _ => ⟨rfl, trivial, trivial⟩
section XC
variable {p : Program} {l : Launch} {e : Env} {R : Room} {s : State} {m : MethodId} {args : Array Value} {below : List Frame} {meth : Method} {c : Code} {H : Heap} {locs : List Loc} {cells slots : Nat} {Q : State → Prop} {cc : ByteArray} {pc : Nat} {ls : Array Slot} {rest st0 : List Value}
theorem oI_neg {o : Option Nat} (hb : ∀ b, o = some b → b < 2 ^ 31) : oI o < 0 ↔ o = none := by
  cases o with
  | none => exact ⟨fun _ => rfl, fun _ => by decide⟩
  | some b => exact ⟨fun h => absurd h (nI_pos (hb b rfl)), fun h => by cases h⟩
theorem oI_m5 {o : Option Nat} (hb : ∀ b, o = some b → b < 2 ^ 31) : oI o = -5 ↔ o = none := by
  refine ⟨fun h => (oI_neg hb).mp (by rw [h]; decide), fun h => by rw [h]; rfl⟩
theorem x_ifo_lt {o : Option Nat} (hexec : p.tables.exec = Jvm.exec) (hb : c.code = cc) {off : Int} {tgt : Nat} (hdg : decode cc pc = .ok (.ifCond .lt off, 3)) (ht : (pc : Int) + off = (tgt : Int)) (ho : ∀ b, o = some b → b < 2 ^ 31)
    (kt : o = none → W p l e R s m args below meth c H locs cells slots Q (F0 m tgt ls rest)) (kf : ∀ b, o = some b → W p l e R s m args below meth c H locs cells slots Q (F0 m (pc + 3) ls rest)) : W p l e R s m args below meth c H locs cells slots Q (F0 m pc ls (.int (oI o) :: rest)) := by
  refine lv_if_lt hexec hb hdg ht (fun h => kt ((oI_neg ho).mp h)) (fun h => ?_)
  cases o with
  | none => exact absurd (by decide) h
  | some b => exact kf b rfl
theorem x_ifo_ge {o : Option Nat} (hexec : p.tables.exec = Jvm.exec) (hb : c.code = cc) {off : Int} {tgt : Nat} (hdg : decode cc pc = .ok (.ifCond .ge off, 3)) (ht : (pc : Int) + off = (tgt : Int)) (ho : ∀ b, o = some b → b < 2 ^ 31)
    (kt : ∀ b, o = some b → W p l e R s m args below meth c H locs cells slots Q (F0 m tgt ls rest)) (kf : o = none → W p l e R s m args below meth c H locs cells slots Q (F0 m (pc + 3) ls rest)) : W p l e R s m args below meth c H locs cells slots Q (F0 m pc ls (.int (oI o) :: rest)) := by
  refine lv_if_ge hexec hb hdg ht (fun h => ?_) (fun h => ?_)
  · cases o with
    | none => exact absurd h (by decide)
    | some b => exact kt b rfl
  · cases o with
    | none => exact kf rfl
    | some b => exact absurd (nI_pos' (ho b rfl)) h
theorem x_ifn_eq {k : Nat} (hexec : p.tables.exec = Jvm.exec) (hb : c.code = cc) {off : Int} {tgt : Nat} (hdg : decode cc pc = .ok (.ifCond .eq off, 3)) (ht : (pc : Int) + off = (tgt : Int)) (ho : k < 2 ^ 31)
    (kt : k = 0 → W p l e R s m args below meth c H locs cells slots Q (F0 m tgt ls rest)) (kf : ¬ k = 0 → W p l e R s m args below meth c H locs cells slots Q (F0 m (pc + 3) ls rest)) : W p l e R s m args below meth c H locs cells slots Q (F0 m pc ls (.int (nI k) :: rest)) := by
  refine lv_if_eq hexec hb hdg ht (fun h => kt ?_) (fun h => kf (fun h2 => h (by rw [h2]; rfl)))
  exact (nI_eq ho (by decide)).mp h
theorem x_ifn_ne {k : Nat} (hexec : p.tables.exec = Jvm.exec) (hb : c.code = cc) {off : Int} {tgt : Nat} (hdg : decode cc pc = .ok (.ifCond .ne off, 3)) (ht : (pc : Int) + off = (tgt : Int)) (ho : k < 2 ^ 31)
    (kt : ¬ k = 0 → W p l e R s m args below meth c H locs cells slots Q (F0 m tgt ls rest)) (kf : k = 0 → W p l e R s m args below meth c H locs cells slots Q (F0 m (pc + 3) ls rest)) : W p l e R s m args below meth c H locs cells slots Q (F0 m pc ls (.int (nI k) :: rest)) := by
  refine lv_if_ne hexec hb hdg ht (fun h => kt (fun h2 => h (by rw [h2]; rfl))) (fun h => kf ?_)
  exact (nI_eq ho (by decide)).mp h
theorem x_iast {D : va_G} {cl : List vw_C} {A : Nat → Prop} {H0 : Heap} {tys : List (ClassId × FieldType)} {ws : va_W} {a : Nat} (hexec : p.tables.exec = Jvm.exec) (hb : c.code = cc) (hK : va_K D cl tys s) (hP : va_P D cl ws H) (hD : va_D A ws) (hS : va_S A H0 H locs) (q0 t0 : Nat) {cA : ClassId} {n : Nat} {f : Nat → Int32} (ha : ws[q0]? = some (a, .inl (cA, n, .inl f))) (ht : tys[t0]? = some (cA, .int)) {i : Int32} {x : Int32} (k : Nat) (hi : i = nI k) (hk : k < n) (hn : n < 2 ^ 31) (hdg : decode cc pc = .ok (.iastore, 1))
    (kk : ∀ (H1 : Heap) (locs1 : List Loc), va_P D cl (ws.set q0 (a, .inl (cA, n, .inl (upd f k x)))) H1 → va_D A (ws.set q0 (a, .inl (cA, n, .inl (upd f k x)))) → va_S A H0 H1 locs1 → W p l e R s m args below meth c H1 locs1 cells slots Q (F0 m (pc + 1) ls rest)) : W p l e R s m args below meth c H locs cells slots Q (F0 m pc ls (.int x :: .int i :: .ref a :: rest)) := by
  subst hi
  refine va_iast hexec hb hK hP hD hS q0 t0 ha ht (vp_in_nI hk hn) hdg ?_
  rw [nI_clamp (by omega)]
  exact kk
end XC
theorem fits_bI (b : Bool) : fits .boolean (.int (bI b)) = true := by cases b <;> rfl
theorem nI_1l : nI 1 = 1 := rfl
theorem s_l : ∀ n, n < 32 → ((nI n &&& 31).toBitVec.smod 32).toNat = n := by decide +kernel
theorem nx_and (a b : Nat) : nI a &&& nI b = nI (a &&& b) := by
  apply Int32.toBitVec_inj.1
  show BitVec.ofNat 32 a &&& BitVec.ofNat 32 b = BitVec.ofNat 32 (a &&& b)
  apply BitVec.eq_of_getLsbD_eq
  intro i hi
  simp [hi]
theorem nx_or (a b : Nat) : nI a ||| nI b = nI (a ||| b) := by
  apply Int32.toBitVec_inj.1
  show BitVec.ofNat 32 a ||| BitVec.ofNat 32 b = BitVec.ofNat 32 (a ||| b)
  apply BitVec.eq_of_getLsbD_eq
  intro i hi
  simp [hi]
theorem nx_xor (a b : Nat) : nI a ^^^ nI b = nI (a ^^^ b) := by
  apply Int32.toBitVec_inj.1
  show BitVec.ofNat 32 a ^^^ BitVec.ofNat 32 b = BitVec.ofNat 32 (a ^^^ b)
  apply BitVec.eq_of_getLsbD_eq
  intro i hi
  simp [hi]
theorem nx_shr {x k : Nat} (hx : x < 2 ^ 31) (hk : k < 32) : nI x >>> (nI k &&& 31) = nI (x / 2 ^ k) := pk_shrN hx _ k (s_l k hk)
theorem nx_shl {k : Nat} (hk : k < 31) : nI 1 <<< (nI k &&& 31) = nI (2 ^ k) := by
  have h := pk_shlN (n := 1) (nI k &&& 31) k (s_l k (by omega)) (by
    have := Nat.pow_lt_pow_right (a := 2) (by decide) hk
    omega)
  rw [h, Nat.one_mul]
theorem nx_a1 {x : Nat} (hx : x < 2 ^ 31) : nI x &&& nI 1 = nI (x % 2) := by
  rw [nx_and, Nat.and_one_is_mod]
theorem nx_bit {x k : Nat} (hx : x < 2 ^ 31) (hk : k < 32) : (nI x >>> (nI k &&& 31)) &&& nI 1 = nI (x / 2 ^ k % 2) := by
  rw [nx_shr hx hk, nx_a1 (Nat.lt_of_le_of_lt (Nat.div_le_self _ _) hx)]
theorem nx_tb (x k : Nat) : x.testBit k = decide (x / 2 ^ k % 2 = 1) := by
  rw [Nat.testBit_eq_decide_div_mod_eq]
theorem pow7 {n : Nat} (h : n ≤ 7) : 2 ^ n ≤ 128 := Nat.pow_le_pow_right (n := 2) (by decide) h
theorem and_lt {a b k : Nat} (h : a < k) : a &&& b < k := Nat.lt_of_le_of_lt Nat.and_le_left h
