/-! TextFault: made, its super() called; contracts of methods that throw it -/
/-- nobody holds its monitor -/
def MF (f : Nat) (H : Heap) : Prop := ∃ cell : Cell, H[f]? = some cell ∧ cell.monitor.owner = none ∧ cell.monitor.count = 0
theorem MF.kept {f : Nat} {H H1 : Heap} (h : MF f H) (h1 : H1[f]? = H[f]?) : MF f H1 := by
  obtain ⟨cell, q, r⟩ := h
  exact ⟨cell, by rw [h1]; exact q, r⟩
theorem wc_c {args : Array Value} {s : State} {w : Cond} {B : List Cond} (h : w.before args s = true) (t : ∀ w ∈ B, w.before args s = true) : ∀ w' ∈ w :: B, w'.before args s = true := fun w' h' => (List.mem_cons.mp h').elim (fun e => by rw [e]; exact h) (t w')
theorem wc_n {args : Array Value} {s : State} : ∀ w ∈ ([] : List Cond), w.before args s = true := fun _ h => nomatch h
theorem x_hsc (U : State) (a : Addr) (x : Cell) : (U.setCell a x).heap.size = U.heap.size := by simp [State.setCell]
section XSUP
variable {p : Program} {l : Launch} {e : Env} {R : Room} {s : State} {m : MethodId} {args : Array Value} {below : List Frame} {meth : Method} {c : Code} {H : Heap} {locs : List Loc} {cells slots : Nat} {Q : State → Prop} {cc : ByteArray} {pc : Nat} {ls : Array Slot} {rest : List Value}
theorem x_newF {D : va_G} {cl : List vw_C} {tys : List (ClassId × FieldType)} {ws : va_W} {A : Nat → Prop} {H0 : Heap} (hexec : p.tables.exec = Jvm.exec) (hb : c.code = cc) {own C : String} {T : u_T} {N ci index : Nat} {Ts : List Cond} (hts : ∀ w ∈ Ts, w.before args s = true) (hin : ∀ w ∈ u_ws C T N, w ∈ Ts) (ty : Nat → FieldType) (hty : ∀ k, k < N → parseFieldDescriptor (T k).2.2.1 = some (ty k)) (hown : s.vm.findClass own = some m.cls) (hcl : (Cond.classLink own index C).before args s = true) (hinst : (Cond.instantiable C N).before args s = true) (hini : (Cond.initialized C).before args s = true)
    (hK : va_K D cl tys s) (hP : va_P D cl ws H) (hD : va_D A ws) (hS : va_S A H0 H locs) (hA : ∀ q, H0.size ≤ q → A q) (hc : cl[ci]? = some (C, T, N)) {fs : List Value} (hfs : ∀ j, j < N → defaultValue (ty j) = vp_V fs j) (hcells : cells + 1 ≤ R.cells) (hslots : slots + N ≤ R.slots) (hdg : decode cc pc = .ok (.new index, 3))
    (kk : ∀ (q : Nat) (H1 : Heap), va_P D cl (ws ++ [(q, .inr (ci, fs))]) H1 → va_D A (ws ++ [(q, .inr (ci, fs))]) → va_S A H0 H1 locs → MF q H1 →
      W p l e R s m args below meth c H1 locs (cells + 1) (slots + N) Q (F0 m (pc + 3) ls (.ref q :: rest))) : W p l e R s m args below meth c H locs cells slots Q (F0 m pc ls rest) := by
  have hKn := hK.1 ci _ hc
  refine W.newcK hexec hb hown hcl hinst hini rfl hdg hcells hslots hKn.2.1 rfl fun H1 kC hkC e1 z1 o1 => ?_
  have hk : ∀ (k : Nat) (x : Nat × va_E), ws[k]? = some x → H1[x.1]? = H[x.1]? := fun k x hx => o1 x.1 ((hP k x hx).lt)
  refine kk H.size H1 ((hP.kept hk).app (fun k x hx => ?_)) (hD.push hP rfl (hA _ hS.1)) ⟨Nat.le_trans hS.1 (by omega), fun x h1 h2 => (o1 x (Nat.lt_of_lt_of_le h1 hS.1)).trans (hS.2.1 x h1 h2), hS.2.2⟩ ⟨_, e1, rfl, rfl⟩
  have hz : k < 1 := (List.getElem?_eq_some_iff.mp hx).1
  rw [show k = 0 by omega] at hx
  cases hx
  exact ⟨_, hc, (u_born ty hts hin hKn hkC e1 hty).to hfs⟩
theorem x_isRef {C n d : String} {A : Nat → Prop} {s : State} {args : Array Value} (h : ZR C n d A s s.heap) : (Cond.isRef (.static C n d)).before args s = true := by
  obtain ⟨o, cf, kf, fi, f, a, cell, h1, h2, h3, h4, h5, h6, h7, -⟩ := h
  have he : (Term.static C n d).eval args s none [] s = some (va_rf o) := by
    simp [Term.eval, State.fieldNamed?, h1, h2, h4, h5, h6, h7]
  simp only [Cond.before, Cond.holds, Cond.value, he]
  cases o <;> rfl
theorem x_thr {D : va_G} {dA : Nat → ClassId} {E : Nat} {ad : Nat → Nat} {sz0 mi : Nat} (hts : ∀ w ∈ lw_all, w.before args s = true) (G : G1 D dA E ad sz0 mi s) : ∀ w ∈ Bundle.throwableAtoms, w.before args s = true := by
  have hZ := G.1.2.2.2.2.1.2.2.2.2.2.2.2.2
  have f1 : prog_35_method_18_code = LibCode.Throwable.Fill.code := by decide +kernel
  have f2 : prog_35_method_1_code = LibCode.Throwable.Init0.code := by decide +kernel
  have f3 : object_method_1_code = (⟨#[0xb1]⟩ : ByteArray) := by decide +kernel
  have h1 := hts _ q747
  have h2 := hts _ q738
  have h3 := hts _ q95
  rw [f1] at h1
  rw [f2] at h2
  rw [f3] at h3
  unfold Bundle.throwableAtoms
  exact wc_c (hts _ q83) (wc_c (hts _ q736) (wc_c (hts _ q745) (wc_c h1 (wc_c (hts _ q750) (wc_c (hts _ q752) (wc_c (hts _ q737) (wc_c h2 (wc_c (hts _ q94) (wc_c h3 (wc_c (hts _ q739) (wc_c (hts _ q744) (wc_c (hts _ q748) (wc_c (hts _ q763) (wc_c (hts _ q726) (wc_c (hts _ q764) (wc_c (hts _ q728) (wc_c (hts _ q765) (wc_c (hts _ q730) (wc_c (hts _ q740) (wc_c hZ.1.2.word (wc_c (hts _ q742) (wc_c hZ.2.2.word (wc_c (hts _ q732) wc_n)))))))))))))))))))))))
theorem x_chn {D : va_G} {dA : Nat → ClassId} {E : Nat} {ad : Nat → Nat} {sz0 mi : Nat} (hts : ∀ w ∈ lw_all, w.before args s = true) (G : G1 D dA E ad sz0 mi s) : ∀ w ∈ Bundle.chain0Atoms "java/lang/Exception" [], w.before args s = true := by
  have f1 : prog_26_method_1_code = Bundle.five := by decide +kernel
  have h1 := hts _ q758
  rw [f1] at h1
  unfold Bundle.chain0Atoms Bundle.passAtoms
  exact wc_c (hts _ q757) (wc_c h1 (wc_c (hts _ q759) (wc_c (hts _ q737) (wc_c (va_Nw.use rfl (G.1.2.1 _ q721 rfl)) wc_n))))
set_option maxHeartbeats 4000000 in
/-- super() in TextFault's constructor: Throwable's fields get some values, its own stays -/
theorem x_sup8 {D : va_G} {dA : Nat → ClassId} {E : Nat} {ad : Nat → Nat} {sz0 mi : Nat} (hexec : p.tables.exec = Jvm.exec) (hb : c.code = cc) (hl : l.stackTraces = false) (hown : s.vm.findClass "SiteCuts$TextFault" = some m.cls) (hts : ∀ w ∈ lw_all, w.before args s = true) (G : G1 D dA E ad sz0 mi s) (hsize : ls.size = c.maxLocals) {f : Nat} (hP : va_P D vwCl [(f, .inr (8, [.null, .null, .null, .null, .null, .int (nI 0), .int (nI 0)]))] s.heap) (hmf : MF f s.heap) (hdg : decode cc pc = .ok (.invokespecial 1, 3)) (hRf : 3 < R.frames) (hRl : (rest.map fun v => v.category).sum + 54 ≤ R.locals)
    (kk : ∀ (u : Nat → Value) (H1 : Heap) (locs1 : List Loc), va_P D vwCl [(f, .inr (8, [u 0, u 1, u 2, u 3, u 4, u 5, .int (nI 0)]))] H1 → (∀ q : Nat, q ≠ f → H1[q]? = s.heap[q]?) → H1.size = s.heap.size → (∀ z ∈ locs1, z.base = f) → W p l e R s m args below meth c H1 locs1 cells slots Q (F0 m (pc + 3) ls rest)) : W p l e R s m args below meth c s.heap [] cells slots Q (F0 m pc ls (.ref f :: rest)) := by
  intro W hT X
  have htr : e.platform.stackTraces = false := (show e.platform.stackTraces = l.stackTraces by rw [X.admits.platform]).trans hl
  have howns : e.platform.frameOwnsMonitors = true := by rw [X.admits.platform]
  have hfin : e.platform.finalization = false := by rw [X.admits.platform]
  have hpl : e.platform.magicAccessors = ({} : Platform).magicAccessors := by rw [X.admits.platform]
  obtain ⟨T, Z, L, LZ, Y⟩ := ThrowableC.of_atoms (args := args) howns hfin hpl (x_thr hts G)
  obtain ⟨P1, Ps, hlen, L1, hL, hP1m, hlink1, hlink⟩ := Bundle.chain0 (args := args) hpl Y.init0 [] "java/lang/Exception" (by decide +kernel) (fun _ h => nomatch h) (x_chn hts G)
  have hap := va_apart (own := "SiteCuts$TextFault") hts in_X8 tyX8 tyX8_ok nmX8 G.1.1 (ci := 8) rfl
  obtain ⟨r, h1, cell, q1, q2, q3, q4⟩ := hP 0 _ rfl
  have hr : r = (RX8, TX8, 7) := Option.some.inj (h1.symm.trans rfl)
  subst hr
  obtain ⟨hS, hfc, kC, hkC, hkind⟩ := G.1.1.1 8 _ rfl
  obtain ⟨cell', r1, hfree, hcount⟩ := hmf
  cases Option.some.inj (q1.symm.trans r1)
  have hZ := G.1.2.2.2.2.1.2.2.2.2.2.2.2.2
  have hsel0 : selectMethod e.platform s.vm cell.cls T.fill0 = .method T.fill0 := by
    obtain ⟨c2, r2, m2, z1, z2, z3, z4, -⟩ := Cond.selects_spec (hts _ q723)
    cases Option.some.inj (z1.symm.trans hfc)
    cases Option.some.inj (z2.symm.trans (State.methodFound?_of_named Y.fill0 (by decide)))
    cases Option.some.inj (z3.symm.trans Y.fill0)
    rw [Launch.admits_selectMethod X.admits, q2]; exact z4
  have hselF : selectMethod e.platform s.vm cell.cls T.fill = .method T.fill := by
    obtain ⟨c2, r2, m2, z1, z2, z3, z4, -⟩ := Cond.selects_spec (hts _ q724)
    cases Option.some.inj (z1.symm.trans hfc)
    cases Option.some.inj (z2.symm.trans (State.methodFound?_of_named Y.fill (by decide)))
    cases Option.some.inj (z3.symm.trans Y.fill)
    rw [Launch.admits_selectMethod X.admits, q2]; exact z4
  obtain ⟨cellS, hcS, hiss⟩ := Y.statics
  obtain ⟨u0, hu0⟩ := Cond.staticRefV Y.unassigned L.unassignedStatic L.statics hcS hiss (x_isRef (args := args) hZ.1.1)
  obtain ⟨sen, hsen⟩ := Cond.staticRefV Y.sentinel L.sentinelStatic L.statics hcS hiss (x_isRef (args := args) hZ.2.1)
  have hneS : T.aS ≠ f := fun h => by
    rw [h] at hcS
    cases Option.some.inj (hcS.symm.trans q1)
    rw [q3] at hiss
    cases hiss
  have hknownS : cellS.vm ≠ .unknown := fun h => by rw [h] at hiss; cases hiss
  have sC : T.fCause.slot = D.2 8 0 := by
    obtain ⟨_, _, _, fd, hi, he⟩ := hS 0 (by decide)
    cases Option.some.inj (hi.symm.trans Y.cause); exact he
  have sS : T.fStack.slot = D.2 8 1 := by
    obtain ⟨_, _, _, fd, hi, he⟩ := hS 1 (by decide)
    cases Option.some.inj (hi.symm.trans Y.stack); exact he
  have sP : T.fSupp.slot = D.2 8 2 := by
    obtain ⟨_, _, _, fd, hi, he⟩ := hS 2 (by decide)
    cases Option.some.inj (hi.symm.trans Y.supp); exact he
  have slot : ∀ k, k < 7 → D.2 8 k < cell.slots.size := fun k hk => (Array.getElem?_eq_some_iff.mp (q4 k hk)).1
  have tC : Takes s cell T.fCause (.ref f) := by
    refine ⟨by rw [sC]; exact slot 0 (by decide), ?_⟩
    rw [q2, q3]
    exact (u_fits hfc hkC hkind (u_lays hts in_X8 (k := 0) (by decide)) Y.cause (ty := .object "java/lang/Throwable") (by decide +kernel) rfl rfl).2
  have tS : Takes s cell T.fStack u0.v := by
    refine ⟨by rw [sS]; exact slot 1 (by decide), ?_⟩
    rw [q2, q3]
    exact (u_fits hfc hkC hkind (u_lays hts in_X8 (k := 1) (by decide)) Y.stack (ty := .array (.object "java/lang/StackTraceElement")) (by decide +kernel) (by cases u0 <;> rfl) (fits_refV_array _ u0)).2
  have tP : Takes s cell T.fSupp sen.v := by
    refine ⟨by rw [sP]; exact slot 2 (by decide), ?_⟩
    rw [q2, q3]
    exact (u_fits hfc hkC hkind (u_lays hts in_X8 (k := 2) (by decide)) Y.supp (ty := .object "java/util/List") (by decide +kernel) (by cases sen <;> rfl) (fits_refV_object _ sen)).2
  have v1 := t_set (iS := D.2 8) q4 hap (k := 0) (by decide) (.ref f)
  have v2 := t_set (iS := D.2 8) v1 hap (k := 1) (by decide) u0.v
  have v3 := t_set (iS := D.2 8) v2 hap (k := 2) (by decide) sen.v
  have v4 := t_set (iS := D.2 8) v3 hap (k := 1) (by decide) u0.v
  obtain ⟨ci198, i198, fB, hk198, hg198, ha198, hsB, -, hnB, htB, hffB⟩ := Cond.ownField (t := .object "java/lang/Object") Y.found L.cls (by decide +kernel) (hts _ q735) (hts _ q734) e.platform hpl
  have sB : fB.slot = D.2 8 4 := by
    obtain ⟨_, _, _, fd, hi, he⟩ := hS 4 (by decide)
    cases Option.some.inj (hi.symm.trans hffB); exact he
  have hskip : SkipFacts T e.platform s (fun u => u) u0 ((preparedCellV T.toThrowableT cell f u0 sen).withEntry W.cur) :=
    ⟨{ ci198 := ci198, i198 := i198, fBack := fB }, ⟨hk198, hg198, ha198, hsB⟩, by
      have := v3 4 (by decide)
      rw [← sC, ← sS, ← sP, ← sB] at this
      exact this, fun _ _ => rfl⟩
  have hcode5 : (Cond.code (Bundle.init0 "java/lang/Exception") Bundle.five 1 none).before args s = true := x_chn hts G _ (by simp [Bundle.chain0Atoms, Bundle.passAtoms])
  obtain ⟨tm, methC, cdC, kk1, vm₁, hnC, -, -, -, -, -, -, -, hW₁, st1⟩ := Steps.initCold (tb := p.tables) (e := e) (below := below) (s := s) (U := W) X.here hexec X.warmed hpl hown (t := Bundle.init0 "java/lang/Exception") rfl rfl (by decide)
    (hts _ q756) (hts _ q757) (bytes := Bundle.five) (maxL := 1) hcode5 (f := F0 m pc ls (.ref f :: rest)) rfl (a := f) (rest := rest) rfl (by rw [hb]; exact hdg)
  cases Option.some.inj (hnC.symm.trans hP1m)
  have X₁ := X.noted hW₁
  have hps : Ps = [] := List.eq_nil_of_length_eq_zero hlen
  subst hps
  have hcell : (W.setVm vm₁).heap[f]? = some cell := by
    show W.heap[f]? = some cell
    rw [hT]; exact q1
  have hcellS : (W.setVm vm₁).heap[T.aS]? = some cellS := by
    show W.heap[T.aS]? = some cellS
    rw [hT]; exact hcS
  obtain ⟨vm₂, X₂, st2⟩ := X₁.ctorPlainOffV hexec (g := F0 m pc ls rest) rfl hsize T L Z LZ [P1]
    (fun P hP => by rcases List.mem_cons.mp hP with rfl | hP; exact L1; cases hP) ⟨hlink1, hlink⟩ (u0 := u0) (sen := sen) (self := f) (cell := cell) (cellS := cellS)
    hcell (fun k h => by rw [q3] at h; cases h) (fun h => by rw [q3] at h; cases h) hfree hcount hsel0 hselF hcellS hneS hknownS hu0 hsen
    tC tS tP Y.objLocals hskip htr [] (by show decode c.code pc = _; rw [hb]; exact hdg) (by show 1 + 2 < R.frames; omega) (by show 2 * 0 + (rest.map fun v => v.category).sum + (13 * 1 + 41) ≤ R.locals; omega)
  have hlt : f < ((W.setVm vm₁).setVm vm₂).heap.size := (Array.getElem?_eq_some_iff.mp hcell).1
  rw [List.nil_append] at X₂
  have hself : (((W.setVm vm₁).setVm vm₂).setCell f ((preparedCellV T.toThrowableT cell f u0 sen).setSlot T.fStack.slot u0.v)).heap[f]? = some ((preparedCellV T.toThrowableT cell f u0 sen).setSlot T.fStack.slot u0.v) := State.heap_setCell_self hcell
  obtain ⟨t, a1, b1⟩ := kk (fun k => updV (updV (updV (updV (vp_V [.null, .null, .null, .null, .null, .int (nI 0), .int (nI 0)]) 0 (.ref f)) 1 u0.v) 2 sen.v) 1 u0.v k) _ _ (by
      intro k q hq
      cases k with
      | succ k => cases hq
      | zero =>
        cases hq
        refine ⟨_, rfl, t_OB.to (V := updV (updV (updV (updV (vp_V [.null, .null, .null, .null, .null, .int (nI 0), .int (nI 0)]) 0 (.ref f)) 1 u0.v) 2 sen.v) 1 u0.v) ⟨_, hself, q2, q3, ?_⟩ ?_⟩
        · have := v4
          rw [← sC, ← sS, ← sP] at this
          exact this
        · intro k hk
          have hk : k < 7 := hk
          rcases (show k = 0 ∨ k = 1 ∨ k = 2 ∨ k = 3 ∨ k = 4 ∨ k = 5 ∨ k = 6 by omega) with rfl | rfl | rfl | rfl | rfl | rfl | rfl <;> rfl)
    (fun q hq => (State.heap_setCell_other (Ne.symm hq)).trans (by show W.heap[q]? = _; rw [hT])) (by rw [x_hsc]; show W.heap.size = _; rw [hT]) (fun z hz => by simp only [List.mem_cons, List.not_mem_nil, or_false] at hz; rcases hz with rfl | rfl | rfl | rfl <;> rfl) _ rfl X₂
  refine ⟨t, st1 _ (fun acts => ?_), b1⟩
  rw [doInvoke_state]
  exact st2 _ a1
end XSUP
