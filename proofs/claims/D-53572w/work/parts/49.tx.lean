/-! texts: rows for bytes, chars, private methods of the class above -/
section XTX
variable {p : Program} {l : Launch} {e : Env} {R : Room} {s : State} {m : MethodId} {args : Array Value} {below : List Frame} {meth : Method} {c : Code} {H : Heap} {locs : List Loc} {cells slots : Nat} {Q : State → Prop} {cc : ByteArray} {pc : Nat} {ls : Array Slot} {rest st0 : List Value}
/-- behind a call that only reads and answers nothing -/
theorem x_retv {a : Array Value} (hr : va_Run p l e R s m args below meth c H locs cells slots 0 0 (F0 m pc ls st0) rest (QRet none a) (fun _ => False)) (kk : W p l e R s m args below meth c H locs cells slots Q (F0 m (pc + 3) ls rest)) : W p l e R s m args below meth c H locs cells slots Q (F0 m pc ls st0) := by
  intro T hT X
  obtain ⟨v', st₀, t, T', L, h0, X', hL, e1, e2, ⟨hv, hh⟩, st⟩ := hr T hT X
  have hL0 : L = [] := by
    cases L with
    | nil => rfl
    | cons a t => exact (hL a List.mem_cons_self).elim
  subst hL0
  cases hv
  rw [List.append_nil] at X'
  obtain ⟨t2, a1, b1⟩ := kk T' (by rw [e1, hh, h0]) X'
  exact ⟨t2, st t2 a1, b1⟩
theorem x_rvret (hexec : p.tables.exec = Jvm.exec) (hb : c.code = cc) (hr : meth.sig.returnType = none) (hlocks : meth.locks = false) (hdg : decode cc pc = .ok (.return_, 1)) : W p l e R s m args below meth c s.heap [] 0 0 (MQ below (QRet none) args s 0 0 (fun _ => False)) (F0 m pc ls []) :=
  W.vret hexec hb hr (fun t ht hW => ⟨rfl, ht⟩) (fun q h => by cases h) hdg hlocks
theorem x_cret {v w : Int32} (hexec : p.tables.exec = Jvm.exec) (hb : c.code = cc) (hr : meth.sig.returnType = some .char) (hlocks : meth.locks = false) (hv : v = w) (hn : narrow .char (.int w) = .int w) (hdg : decode cc pc = .ok (.ireturn, 1)) : W p l e R s m args below meth c s.heap [] 0 0 (MQ below (QRet (some (.int w))) args s 0 0 (fun _ => False)) (F0 m pc ls [.int v]) := by
  subst hv
  exact W.zret hexec hb hr hn (fun t ht hW => ⟨rfl, ht⟩) (fun q h => by cases h) hdg hlocks
theorem x_bald {D : va_G} {dA : Nat → ClassId} {ws : va_W} {a : Nat} (hexec : p.tables.exec = Jvm.exec) (hb : c.code = cc) (hK : KA D dA s) (hP : va_P D vwCl ws H) (q0 : Nat) {n : Nat} {f : Nat → Int32} (ha : ws[q0]? = some (a, .inl (dA 2, n, .inl f))) {i : Int32} (k : Nat) (hi : i = nI k) (hk : k < n) (hn : n < 2 ^ 31) {v : Int32} (hv : f k = v) (hdg : decode cc pc = .ok (.baload, 1))
    (kk : W p l e R s m args below meth c H locs cells slots Q (F0 m (pc + 1) ls (.int v :: rest))) : W p l e R s m args below meth c H locs cells slots Q (F0 m pc ls (.int i :: .ref a :: rest)) := by
  subst hi
  refine va_bald hexec hb hK hP q0 2 ha rfl (vp_in_nI hk hn) hdg ?_
  rw [nI_clamp (by omega), hv]
  exact kk
theorem x_bast {D : va_G} {dA : Nat → ClassId} {A : Nat → Prop} {H0 : Heap} {ws : va_W} {a : Nat} (hexec : p.tables.exec = Jvm.exec) (hb : c.code = cc) (hK : KA D dA s) (hP : va_P D vwCl ws H) (hD : va_D A ws) (hS : va_S A H0 H locs) (q0 : Nat) {n : Nat} {f : Nat → Int32} (ha : ws[q0]? = some (a, .inl (dA 2, n, .inl f))) {i : Int32} {x : Int32} (k : Nat) (hi : i = nI k) (hk : k < n) (hn : n < 2 ^ 31) (hx : vp_nar .byte x = x) (hdg : decode cc pc = .ok (.bastore, 1))
    (kk : ∀ (H1 : Heap) (locs1 : List Loc), va_P D vwCl (ws.set q0 (a, .inl (dA 2, n, .inl (upd f k x)))) H1 → va_D A (ws.set q0 (a, .inl (dA 2, n, .inl (upd f k x)))) → va_S A H0 H1 locs1 → W p l e R s m args below meth c H1 locs1 cells slots Q (F0 m (pc + 1) ls rest)) : W p l e R s m args below meth c H locs cells slots Q (F0 m pc ls (.int x :: .int i :: .ref a :: rest)) := by
  subst hi
  refine va_bast hexec hb hK hP hD hS q0 2 ha rfl (vp_in_nI hk hn) hdg ?_
  rw [nI_clamp (by omega), hx]
  exact kk
/-- bytes copied, from the start of a row to the start of another -/
theorem x_copyB {D : va_G} {dA : Nat → ClassId} {A : Nat → Prop} {H0 : Heap} {ws : va_W} {a : Nat} (hexec : p.tables.exec = Jvm.exec) (hb : c.code = cc) (hml : c.maxLocals = ls.size) {own : String} {index : Nat} (hown : s.vm.findClass own = some m.cls) (hlink : (Cond.methodLink own index arraycopyName).before args s = true) (hnat : (Cond.native arraycopyName).before args s = true) (hstat : (Cond.static arraycopyName).before args s = true) (hini : (Cond.initialized "java/lang/System").before args s = true)
    (hK : KA D dA s) (hP : va_P D vwCl ws H) (hD : va_D A ws) (hS : va_S A H0 H locs) (q0 q1 : Nat) {a0 n0 n1 : Nat} {f g : Nat → Int32} (ha0 : ws[q0]? = some (a0, .inl (dA 2, n0, .inl f))) (ha1 : ws[q1]? = some (a, .inl (dA 2, n1, .inl g)))
    (n : Nat) (hn31 : n < 2 ^ 31) (h4 : n ≤ n0) (h5 : n ≤ n1) (hfit : ∀ i, i < n → fits .byte (.int (f i)) = true)
    (hframes : 1 ≤ R.frames) (hlocals : (rest.map fun v => v.category).sum + (nativeFrameWords "java/lang/System" "arraycopy" 5 + 11) ≤ R.locals) (hdg : decode cc pc = .ok (.invokestatic index, 3))
    (kk : ∀ (H1 : Heap) (locs1 : List Loc), va_P D vwCl (ws.set q1 (a, .inl (dA 2, n1, .inl (va_cpy f g 0 0 n)))) H1 → va_D A (ws.set q1 (a, .inl (dA 2, n1, .inl (va_cpy f g 0 0 n)))) → va_S A H0 H1 locs1 → W p l e R s m args below meth c H1 locs1 cells slots Q (F0 m (pc + 3) ls rest)) : W p l e R s m args below meth c H locs cells slots Q (F0 m pc ls (.int (nI n) :: .int (nI 0) :: .ref a :: .int (nI 0) :: .ref a0 :: rest)) := by
  have e0 : (nI 0).toNatClampNeg = 0 := nI_clamp (by omega)
  have e3 : (nI n).toNatClampNeg = n := nI_clamp (by omega)
  refine va_copyi hexec hb hml hown hlink hnat hstat hini hK hP hD hS q0 q1 2 2 ha0 ha1 rfl rfl rfl (nI_pos (by omega)) (nI_pos (by omega)) (nI_pos (by omega)) (by rw [e0, e3]; omega) (by rw [e0, e3]; omega) (fun i hi => ?_) hframes hlocals hdg ?_
  · rw [e0, Nat.zero_add]
    rw [e3] at hi
    exact hfit i hi
  · rw [e0, e3]
    exact kk
/-- a row of bytes is made -/
theorem x_newb {D : va_G} {dA : Nat → ClassId} {A : Nat → Prop} {H0 : Heap} {ws : va_W} (hexec : p.tables.exec = Jvm.exec) (hb : c.code = cc) (harr : (Cond.arrayClass .byte).before args s = true) (hK : KA D dA s) (hP : va_P D vwCl ws H) (hD : va_D A ws) (hS : va_S A H0 H locs) (hA : ∀ q, H0.size ≤ q → A q)
    {N : Nat} (hN : N < 2 ^ 20) (hcells : cells + 1 ≤ R.cells) (hslots : slots + N ≤ R.slots) (hdg : decode cc pc = .ok (.newarray .byte, 2))
    (kk : ∀ (q : Nat) (H1 : Heap), va_P D vwCl (ws ++ [(q, .inl (dA 2, N, .inl (fun _ => 0)))]) H1 → va_D A (ws ++ [(q, .inl (dA 2, N, .inl (fun _ => 0)))]) → va_S A H0 H1 locs →
      W p l e R s m args below meth c H1 locs (cells + 1) (slots + N) Q (F0 m (pc + 2) ls (.ref q :: rest))) : W p l e R s m args below meth c H locs cells slots Q (F0 m pc ls (.int (nI N) :: rest)) :=
  x_newa (atype := .byte) (N := N) hexec hb harr (ty := .byte) rfl hK hP hD hS hA 2 rfl (fun _ => rfl) rfl (by omega) (by show N * 1 ≤ _; omega) hcells hslots hdg kk
theorem sel_priv {C : String} {y : MethodName} {cD : ClassId} (hC : s.vm.findClass C = some cD) (hp : (Cond.privateMethod y).before args s = true) (hi : (Cond.instanceMethod y).before args s = true) (hsame : (Cond.sameMethod y.cls y.cls y.name y.desc).before args s = true) : (Cond.selects C y y).before args s = true := by
  obtain ⟨mk, me, hn, hm, -, -⟩ := Cond.instanceMethod_spec hi
  have hpriv := Cond.privateMethod_at hp mk me hn hm
  obtain ⟨cn, ck, r1, hcn, hck, hni, hf, hn1⟩ := Cond.sameMethod_found hsame
  have hn1 : s.methodNamed? y = some r1 := hn1
  cases hn.symm.trans hn1
  have hcm : cn = mk.cls := Option.some.inj (hcn.symm.trans (findClass_of_methodNamed hn))
  subst hcm
  have hsel : selectMethod {} s.vm cD mk = .method mk := selectMethod_private hm hpriv
  simp [Cond.before, Cond.holds, Cond.value, hC, hf, hn, hsel, hck, hni]
theorem va_cwP {own C : String} {index maxL mc ms : Nat} {y : MethodName} {bytes : ByteArray} {ret : Option FieldType} {rm : Room} {cD : ClassId} (n : Nat) (hts : ∀ w ∈ lw_all, w.before args s = true) (hC : s.vm.findClass C = some cD) (hlink : Cond.methodLink own index y ∈ lw_all) (hsame : Cond.sameMethod y.cls y.cls y.name y.desc ∈ lw_all) (hp : (Cond.privateMethod y).before args s = true) (hinst : Cond.instanceMethod y ∈ lw_all) (hini : Cond.initialized y.cls ∈ lw_all) (hcode : Cond.code y bytes maxL ret ∈ lw_all) (hrc : rm.cells = mc) (hrs : rm.slots = ms)
    (hd : y.cls ≠ "java/lang/invoke/MethodHandle" ∧ y.cls ≠ "java/lang/invoke/VarHandle" ∧ (parseMethodDescriptor y.desc).map (fun d => d.parameters.length) = some n) (hR : rm.frames + 1 ≤ R.frames ∧ 8 + (maxL + 11) + rm.locals ≤ R.locals) : va_CU R s args own C y.cls index y y bytes maxL ret (ws_ y bytes maxL ret) rm mc ms n := by
  refine ⟨⟨hrc, hrs, hR.1, hR.2, pay_in hts (lw_meth hcode), List.mem_cons_self⟩, hts _ hcode, hts _ hini, ⟨hd.1, hd.2.1⟩, fun sig h => ?_, hts _ hlink, hts _ hsame, va_Decl.of (hts _ hinst) (hts _ hcode), sel_priv hC hp (hts _ hinst) (hts _ hsame), hts _ hinst⟩
  have h2 := hd.2.2
  rw [h] at h2
  exact (Option.some.inj h2).symm
end XTX
/-! bytes and chars -/
def sb (k : Nat) : Int32 := (nI k).toInt8.toInt32
theorem sb_and : ∀ k, k < 256 → sb k &&& nI 255 = nI k := by decide +kernel
theorem sb_fit : ∀ k, k < 256 → fits .byte (.int (sb k)) = true := by decide +kernel
theorem sb_nar : ∀ k, k < 256 → vp_nar .byte (sb k) = sb k := by decide +kernel
theorem sb_0 : sb 0 = 0 := by decide
theorem sb_mod (k : Nat) : sb (k % 256) = sb k := by
  unfold sb
  congr 1
  apply Int8.toBitVec_inj.1
  show BitVec.signExtend 8 (BitVec.ofNat 32 (k % 256)) = BitVec.signExtend 8 (BitVec.ofNat 32 k)
  apply BitVec.eq_of_toNat_eq
  simp [BitVec.signExtend_eq_setWidth_of_le]
theorem nx_shlN {x k : Nat} (hk : k < 31) (h : x * 2 ^ k < 2 ^ 31) : nI x <<< (nI k &&& 31) = nI (x * 2 ^ k) := pk_shlN (nI k &&& 31) k (s_l k (by omega)) (by omega)
theorem c_nar {k : Nat} (h : k < 65536) : narrow .char (.int (nI k)) = .int (nI k) := by
  have e : (nI k).toUInt32.toUInt16.toUInt32.toInt32 = nI k := by
    apply Int32.toBitVec_inj.1
    show BitVec.setWidth 32 (BitVec.setWidth 16 (BitVec.ofNat 32 k)) = BitVec.ofNat 32 k
    apply BitVec.eq_of_toNat_eq
    simp
    omega
  show Value.int _ = _
  rw [e]
theorem c_i2c {k : Nat} (h : k < 65536) : ((nI k).toUInt32 % 65536).toInt32 = nI k := by
  apply Int32.toBitVec_inj.1
  show (BitVec.ofNat 32 k) % (65536 : BitVec 32) = BitVec.ofNat 32 k
  apply BitVec.eq_of_toNat_eq
  simp
  omega
theorem hi_b {k : Nat} (h : k < 65536) : (nI k >>> (nI 0 &&& 31)).toInt8.toInt32 = sb (k % 256) := by
  rw [nx_shr (by omega) (by decide), Nat.pow_zero, Nat.div_one, sb_mod]
  rfl
theorem lo_b {k : Nat} (h : k < 65536) : (nI k >>> (nI 8 &&& 31)).toInt8.toInt32 = sb (k / 256) := by
  rw [nx_shr (by omega) (by decide)]
  rfl
theorem ch_u {k : Nat} (h : k < 65536) : ((sb (k % 256) &&& nI 255) <<< (nI 0 &&& 31)) ||| ((sb (k / 256) &&& nI 255) <<< (nI 8 &&& 31)) = nI k := by
  rw [sb_and _ (Nat.mod_lt _ (by decide)), sb_and _ (by omega), nx_shlN (by decide) (by omega), nx_shlN (by decide) (by omega), nx_or]
  congr 1
  rw [Nat.pow_zero, Nat.mul_one, Nat.or_comm, Nat.mul_comm, ← Nat.two_pow_add_eq_or_of_lt (Nat.mod_lt _ (by decide))]
  omega
/-- what a row of bytes says: ln chars, by a coder -/
def ByOk (bt : Nat → Int32) : Prop := ∀ i, ∃ k, k < 256 ∧ bt i = sb k
def Tx0 (bt : Nat → Int32) (ch : Nat → Nat) (ln : Nat) : Prop := ByOk bt ∧ ∀ i, i < ln → ch i < 256 ∧ bt i = sb (ch i)
def Tx1 (bt : Nat → Int32) (ch : Nat → Nat) (ln : Nat) : Prop := ByOk bt ∧ ∀ i, i < ln → ch i < 65536 ∧ bt (2 * i) = sb (ch i % 256) ∧ bt (2 * i + 1) = sb (ch i / 256)
theorem byOk_0 : ByOk (fun _ => 0) := fun _ => ⟨0, by decide, sb_0.symm⟩
theorem byOk_upd {bt : Nat → Int32} (h : ByOk bt) (i : Nat) {k : Nat} (hk : k < 256) : ByOk (upd bt i (sb k)) := by
  intro j
  by_cases e : j = i
  · subst e; exact ⟨k, hk, pk_us⟩
  · rw [pk_un e]; exact h j
theorem byOk_fit {bt : Nat → Int32} (h : ByOk bt) (i : Nat) : fits .byte (.int (bt i)) = true := by
  obtain ⟨k, hk, e⟩ := h i
  rw [e]; exact sb_fit k hk
theorem byOk_cpy {f g : Nat → Int32} (hf : ByOk f) (hg : ByOk g) (n : Nat) : ByOk (va_cpy f g 0 0 n) := by
  intro i
  unfold va_cpy
  split
  · exact hf _
  · exact hg i
theorem cpyB_in {f g : Nat → Int32} {n i : Nat} (h : i < n) : va_cpy f g 0 0 n i = f i := cpy_all h
def upS (f : Nat → Nat) (k x : Nat) : Nat → Nat := fun j => if j = k then x else f j
theorem tx0_app {bt : Nat → Int32} {ch : Nat → Nat} {ln x : Nat} (h : Tx0 bt ch ln) (hx : x < 256) : Tx0 (upd bt ln (sb x)) (upS ch ln x) (ln + 1) := by
  refine ⟨byOk_upd h.1 ln hx, fun i hi => ?_⟩
  by_cases e : i = ln
  · subst e
    rw [pk_us]
    unfold upS
    rw [if_pos rfl]
    exact ⟨hx, rfl⟩
  · rw [pk_un e]
    unfold upS
    rw [if_neg e]
    exact h.2 i (by omega)
def put2 (bt : Nat → Int32) (i x : Nat) : Nat → Int32 := upd (upd bt (2 * i) (sb (x % 256))) (2 * i + 1) (sb (x / 256))
theorem byOk_put2 {bt : Nat → Int32} (h : ByOk bt) (i : Nat) {x : Nat} (hx : x < 65536) : ByOk (put2 bt i x) := byOk_upd (byOk_upd h _ (Nat.mod_lt _ (by decide))) _ (by omega)
theorem put2_at (bt : Nat → Int32) (i x : Nat) : put2 bt i x (2 * i) = sb (x % 256) ∧ put2 bt i x (2 * i + 1) = sb (x / 256) := by
  unfold put2
  exact ⟨by rw [pk_un (by omega), pk_us], pk_us⟩
theorem put2_ne (bt : Nat → Int32) {i j : Nat} (x : Nat) (h : j ≠ i) : put2 bt i x (2 * j) = bt (2 * j) ∧ put2 bt i x (2 * j + 1) = bt (2 * j + 1) := by
  unfold put2
  exact ⟨by rw [pk_un (by omega), pk_un (by omega)], by rw [pk_un (by omega), pk_un (by omega)]⟩
theorem tx1_app {bt : Nat → Int32} {ch : Nat → Nat} {ln x : Nat} (h : Tx1 bt ch ln) (hx : x < 65536) : Tx1 (put2 bt ln x) (upS ch ln x) (ln + 1) := by
  refine ⟨byOk_put2 h.1 ln hx, fun i hi => ?_⟩
  by_cases e : i = ln
  · subst e
    unfold upS
    rw [if_pos rfl]
    exact ⟨hx, put2_at bt i x⟩
  · unfold upS
    rw [if_neg e, (put2_ne bt x e).1, (put2_ne bt x e).2]
    exact h.2 i (by omega)
theorem tx_inf {bt g : Nat → Int32} {ch : Nat → Nat} {ln : Nat} (h : Tx0 bt ch ln) (hg : ByOk g) : ∀ n, n ≤ ln → Tx1 (iter (fun k g => put2 g k (ch k)) n 0 g) ch n := by
  intro n
  induction n with
  | zero => intro _; exact ⟨hg, fun i hi => by omega⟩
  | succ n ih =>
    intro hn
    obtain ⟨i1, i2⟩ := ih (by omega)
    have hc : ch n < 65536 := by have := (h.2 n (by omega)).1; omega
    rw [iter_s, Nat.zero_add]
    refine ⟨byOk_put2 i1 n hc, fun i hi => ?_⟩
    by_cases e : i = n
    · subst e; exact ⟨hc, put2_at _ i _⟩
    · rw [(put2_ne _ _ e).1, (put2_ne _ _ e).2]; exact i2 i (by omega)
theorem ro_mono {l : Launch} {y : MethodName} {cc : ByteArray} {nL : Nat} {ret : Option FieldType} {d lo : Nat} {as : List Value} {Γ : State → Prop} {Φ Φ' : Heap → Prop} {v : Option Value} (h : RO l y cc nL ret d lo as Γ Φ v) (hΦ : ∀ H, Φ' H → Φ H) : RO l y cc nL ret d lo as Γ Φ' v :=
  met_mono h (fun a s hp => ⟨hp.1, hp.2.1, hΦ _ hp.2.2⟩) (fun _ _ _ _ h => h)
