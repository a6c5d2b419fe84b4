/-! rows for lambdas: making an object, calling it -/
section LRW
variable {p : Program} {l : Launch} {e : Env} {R : Room} {s : State} {m : MethodId} {args : Array Value} {below : List Frame} {meth : Method} {c : Code} {H : Heap} {locs : List Loc} {cells slots : Nat} {Q : State → Prop} {pc : Nat} {ls : Array Slot} {rest : List Value} {cc : ByteArray}
abbrev lamA (n : Nat) (f : Nat → Option Nat) : vp_A := (n, .inr (.inr (.inr (.inr f))))
theorem lam1_cell (cK : ClassId) (f : Nat → Option Nat) {b : Nat} (h0 : f 0 = some b) : vp_cell cK (lamA 1 f) = { cls := cK, slots := [Value.ref b].toArray, vm := .none } := by
  have e : (Array.ofFn (n := 1) fun j => va_rf (f j.val)) = [Value.ref b].toArray := by
    apply Array.ext
    · simp
    · intro i h1' h2'
      have : i = 0 := by
        have : i < 1 := by simpa using h1'
        omega
      subst this
      simp [h0, va_rf]
  show arrV cK 1 (fun j => va_rf (f j)) = _
  unfold arrV
  rw [e]
theorem lam2_cell (cK : ClassId) (f : Nat → Option Nat) {b0 b1 : Nat} (h0 : f 0 = some b0) (h1 : f 1 = some b1) : vp_cell cK (lamA 2 f) = { cls := cK, slots := [Value.ref b0, Value.ref b1].toArray, vm := .none } := by
  have e : (Array.ofFn (n := 2) fun j => va_rf (f j.val)) = [Value.ref b0, Value.ref b1].toArray := by
    apply Array.ext
    · simp
    · intro i h1' h2'
      have : i = 0 ∨ i = 1 := by
        have : i < 2 := by simpa using h1'
        omega
      rcases this with rfl | rfl
      · simp [h0, va_rf]
      · simp [h1, va_rf]
  show arrV cK 2 (fun j => va_rf (f j)) = _
  unfold arrV
  rw [e]
theorem x_lam1 {nL : Nat} (hexec : p.tables.exec = Jvm.exec) (hb : c.code = cc) (hml : c.maxLocals = nL) (hsz : ls.size = nL) {x : MethodName} (hn : s.methodNamed? x = some m) {index : Nat} {σ : Jvm.Lambda.Shape} {cK : ClassId} {rt : FieldType} (hLS : LamS x pc index σ cK s) (hSh : Sh1 σ x.cls rt) (hcap : σ.captured.length = 1) (hO : (Cond.instantiable "java/lang/Object" 0).before args s = true) (hdg : decode cc pc = .ok (.invokedynamic index, 5)) {b : Nat} {f : Nat → Option Nat} (hf0 : f 0 = some b)
    (hw : ((Value.ref b :: rest).map fun v => v.category).sum + 3072 ≤ R.locals) (hc1 : cells + 1 ≤ R.cells) (hs1 : slots + 1 ≤ R.slots)
    (kk : W p l e R s m args below meth c (H.push (vp_cell cK (lamA 1 f))) locs (cells + 1) (slots + 1) Q (F0 m (pc + 5) ls (.ref H.size :: rest))) : W p l e R s m args below meth c H locs cells slots Q (F0 m pc ls (.ref b :: rest)) := by
  intro T hT X
  obtain ⟨m', kS, cfS, i0, p0, h1, h2, h3, h4, h5, h6, h7⟩ := id hLS
  cases hn.symm.trans h1
  obtain ⟨bsm, nt, desc, site, hc, hnt, hsite, hpar⟩ := shape_site h4
  obtain ⟨k, tk, file, methk, ck, tc, t, f0, tn, ⟨hk, -, -, -⟩, -, -, -, hty, hkind⟩ := hLS.made1 hSh (ob0_of hO)
  have hslotsE : ((k.instanceTypes.toList.zip [(.ref b : Value)]).map fun (t, v) => narrow t v) = [.ref b] := by
    rw [hty]
    simp [narrow]
  obtain ⟨X₁, st1⟩ := X.lambdaMakes hexec (g := F0 m pc ls (.ref b :: rest)) rfl (hsz.trans hml.symm) (by rw [hb]; exact hdg) (vals := [.ref b]) (rest := rest) h2 h5 h3 hc hnt (parseLong_of_parse hsite) (by rw [hpar, hcap]; rfl) rfl hk
    (by rw [X.admits.platform]; show 2 * 0 + ((Value.ref b :: rest).map fun v => v.category).sum + 3072 ≤ _; omega) hc1 (by rw [hslotsE]; exact hs1)
    (fun i v hv => by
      rw [hslotsE] at hv
      match i, hv with
      | 0, hv => simp at hv; subst hv; simp [State.fitsSlot, State.slotType?, hk, hkind, hty, fits]
      | j + 1, hv => simp at hv)
  rw [hslotsE] at X₁ st1
  rw [lam1_cell cK f hf0, ← hT] at kk
  obtain ⟨t2, a1, b1⟩ := kk _ rfl X₁
  exact ⟨t2, st1 t2 a1, b1⟩
theorem x_lam2 {nL : Nat} (hexec : p.tables.exec = Jvm.exec) (hb : c.code = cc) (hml : c.maxLocals = nL) (hsz : ls.size = nL) {x : MethodName} (hn : s.methodNamed? x = some m) {index : Nat} {σ : Jvm.Lambda.Shape} {cK : ClassId} {rt : FieldType} (hLS : LamS x pc index σ cK s) (hSh : Sh2 σ x.cls rt) (hcap : σ.captured.length = 2) (hO : (Cond.instantiable "java/lang/Object" 0).before args s = true) (hdg : decode cc pc = .ok (.invokedynamic index, 5)) {b0 b1 : Nat} {f : Nat → Option Nat} (hf0 : f 0 = some b0) (hf1 : f 1 = some b1)
    (hw : ((Value.ref b1 :: Value.ref b0 :: rest).map fun v => v.category).sum + 3072 ≤ R.locals) (hc1 : cells + 1 ≤ R.cells) (hs1 : slots + 2 ≤ R.slots)
    (kk : W p l e R s m args below meth c (H.push (vp_cell cK (lamA 2 f))) locs (cells + 1) (slots + 2) Q (F0 m (pc + 5) ls (.ref H.size :: rest))) : W p l e R s m args below meth c H locs cells slots Q (F0 m pc ls (.ref b1 :: .ref b0 :: rest)) := by
  intro T hT X
  obtain ⟨m', kS, cfS, i0, p0, h1, h2, h3, h4, h5, h6, h7⟩ := id hLS
  cases hn.symm.trans h1
  obtain ⟨bsm, nt, desc, site, hc, hnt, hsite, hpar⟩ := shape_site h4
  obtain ⟨k, tk, file, methk, ck, tc, t, f0, f1, tn, tm, ⟨hk, -, -, -, -⟩, -, -, -, hty, hkind⟩ := hLS.made2 hSh (ob0_of hO)
  have hslotsE : ((k.instanceTypes.toList.zip [(.ref b0 : Value), .ref b1]).map fun (t, v) => narrow t v) = [.ref b0, .ref b1] := by
    rw [hty]
    simp [narrow]
  obtain ⟨X₁, st1⟩ := X.lambdaMakes hexec (g := F0 m pc ls (.ref b1 :: .ref b0 :: rest)) rfl (hsz.trans hml.symm) (by rw [hb]; exact hdg) (vals := [.ref b0, .ref b1]) (rest := rest) h2 h5 h3 hc hnt (parseLong_of_parse hsite) (by rw [hpar, hcap]; rfl) rfl hk
    (by rw [X.admits.platform]; show 2 * 0 + ((Value.ref b1 :: Value.ref b0 :: rest).map fun v => v.category).sum + 3072 ≤ _; omega) hc1 (by rw [hslotsE]; exact hs1)
    (fun i v hv => by
      rw [hslotsE] at hv
      match i, hv with
      | 0, hv => simp at hv; subst hv; simp [State.fitsSlot, State.slotType?, hk, hkind, hty, fits]
      | 1, hv => simp at hv; subst hv; simp [State.fitsSlot, State.slotType?, hk, hkind, hty, fits]
      | j + 2, hv => simp at hv)
  rw [hslotsE] at X₁ st1
  rw [lam2_cell cK f hf0 hf1, ← hT] at kk
  obtain ⟨t2, a1, b2⟩ := kk _ rfl X₁
  exact ⟨t2, st1 t2 a1, b2⟩
/-- a field of the lambda's own, in its own frame -/
theorem x_getR (hexec : p.tables.exec = Jvm.exec) (hb : c.code = cc) {index i a : Nat} {cell : Cell} {v : Value} (hr : ∀ vm', s.WarmedH vm' → ∃ f0 : Field, vm'.fieldReady m.cls index m.cls f0 ∧ f0.isStatic = false ∧ f0.slot = i) (hcell : H[a]? = some cell) (hknown : cell.vm ≠ .unknown) (hslot : cell.slots[i]? = some v) (hdg : decode cc pc = .ok (.getfield index, 3))
    (kk : W p l e R s m args below meth c H locs cells slots Q (F0 m (pc + 3) ls (v :: rest))) : W p l e R s m args below meth c H locs cells slots Q (F0 m pc ls (.ref a :: rest)) := by
  intro T hT X
  obtain ⟨t, st, q⟩ := kk T hT X
  refine ⟨t, ?_, q⟩
  obtain ⟨f0, h1, h2, h3⟩ := hr T.vm X.warmed
  jvm_step X.here [hexec, hb, hdg, getfield.wp_ready (e := e) (s := T) (c := m.cls) (field := f0) (a := a) (rest := rest) (cell := cell) (v := v) (f := F0 m pc ls (.ref a :: rest)) X.here.top h1 h2 rfl (by rw [hT]; exact hcell) hknown (by rw [h3]; exact hslot)]
  exact st
theorem notMH {k : Class} (h : k.name ≠ "java/lang/invoke/MethodHandle" ∧ k.name ≠ "java/lang/invoke/VarHandle") (y : Method) : signaturePolymorphic k y = false := by simp [signaturePolymorphic, h.1, h.2]
/-- the lambda's own call of its method -/
theorem x_runLV {y : MethodName} {bytes : ByteArray} {maxL d lo : Nat} {ret : Option FieldType} {Γ : State → Prop} {Φ : Heap → Prop} {v : Option Value} {σ : Jvm.Lambda.Shape} {dn : String} {rt : FieldType} {b : Nat} {z : Value} {g : JFrame}
    (hexec : p.tables.exec = Jvm.exec) (hb : c.code = fwB) (hml : c.maxLocals = 2) (hts : ∀ w ∈ lw_all, w.before args s = true) (hMR : ∀ vm', s.WarmedH vm' → MR1 vm' m.cls σ dn rt) (hy : y = ⟨σ.implClass, σ.implName, σ.implDesc.toString⟩) (hyn : y.cls ≠ "java/lang/invoke/MethodHandle" ∧ y.cls ≠ "java/lang/invoke/VarHandle") (hyl : (parseMethodDescriptor y.desc).map (fun d => d.parameters.length) = some 1)
    (hM : RO l y bytes maxL ret d lo [.ref b, z] Γ Φ v) (hbl : BlG Γ) (hG : ∀ U : State, U.heap = H → s.WarmedH U.vm → Γ U) (hΦ : Φ H) (hinst : Cond.instanceMethod y ∈ lw_all) (hini : Cond.initialized y.cls ∈ lw_all) (hcode : Cond.code y bytes maxL ret ∈ lw_all) (hsel : Cond.selects y.cls y y ∈ lw_all)
    (hrecv : ∃ cellB : Cell, H[b]? = some cellB ∧ cellB.vm.isStatics = false ∧ s.vm.findClass y.cls = some cellB.cls) (hfr : d + 1 ≤ R.frames) (hlo : 8 + (maxL + 11) + lo ≤ R.locals) (hcs : cells ≤ R.cells ∧ slots ≤ R.slots)
    (hg : g.method = m) (hsize : g.locals.size = 2) (hstack : g.stack = [z, .ref b]) (hmr : g.monitorRoom = 0) (hpc : g.pc = 5) :
    va_Run p l e R s m args below meth c H locs cells slots 0 0 g [] (QRet v [.ref b, z].toArray) (fun _ => False) := by
  have hK : Back l R p e below s args y 3 8 (PreOf R 0 0 (va_Pc [.ref b, z] (BB Γ Φ))) (PostOf (QRet v) 0 0 (fun _ => False)) := back_of (bytes := bytes) (maxL := maxL) (ret := ret) hM (bb_blind hbl _) rfl rfl hfr hlo (pay_in hts (lw_meth hcode)) List.mem_cons_self (fun a' U hW => pay_in hts (lw_good (ws := [Cond.initialized y.cls]) (fun w hw => by rw [List.mem_singleton.mp hw]; exact hini)) _ (List.mem_singleton.mpr rfl) a' U hW)
  obtain ⟨cellB, hcB, hoB, hclB⟩ := hrecv
  intro T hT X
  obtain ⟨mk, methM, hnamed, hmethM, hstM, habM⟩ := Cond.instanceMethod_spec (hts _ hinst)
  obtain ⟨methM', cM, hmethM', -, -, -, -, -, -, hsigM⟩ := Cond.code_spec hnamed (hts _ hcode)
  cases hmethM.symm.trans hmethM'
  obtain ⟨c2, r2, m2, q1, q2, q3, q4, kP, hkP, hkPi⟩ := Cond.selects_spec (hts _ hsel)
  cases hclB.symm.trans q1
  cases hnamed.symm.trans q3
  cases (State.methodFound?_of_named hnamed hyn).symm.trans q2
  obtain ⟨k, tk, file, methk, ck, tc, t, f0, tn, ⟨hk, hkn, hfile, hpool⟩, -, ⟨ht, htk, hti, hask⟩, ⟨hready, hclsR, -⟩, -⟩ := hMR T.vm X.warmed
  have hA := X.warmed.alike
  have hnT : T.methodNamed? y = some mk := by
    have := State.methodNamed?_setVm (s := s) hA y
    rw [hnamed] at this
    exact this
  have hfT : T.vm.findClass σ.implClass = some mk.cls := by
    have := findClass_of_methodNamed hnT
    rw [hy] at this
    exact this
  cases ht.symm.trans hfT
  have e1 : t = mk := by
    have h1 := State.methodFound?_of_named hnT hyn
    rw [hy] at h1
    simp only [State.methodFound?, hfT, htk, Option.bind_eq_bind, Option.bind_some] at h1
    rw [hask] at h1
    exact Option.some.inj h1
  subst e1
  obtain ⟨kn, hkn', hname⟩ := className_of_methodNamed hnT
  cases htk.symm.trans hkn'
  have hl2 : ([z] : List Value).length = methM.sig.parameters.length := by
    rw [hsigM] at hyl
    exact (Option.some.inj hyl).symm
  have hmT : T.vm.method? t = some methM := by rw [hA.method?]; exact hmethM
  have hselT : selectMethod e.platform T.vm cellB.cls t = .method t := by rw [Launch.admits_selectMethod X.admits, hA.selectMethod]; exact q4
  obtain ⟨v', ⟨U', l2, c3, s2⟩, X', ⟨g', mk', t2, L, e1, e2, hq, h1, hL, h2, h3⟩, hsteps⟩ := hK m meth c ⟨T, locs, cells, slots⟩ { g with stack := [] } (.invokevirtual 22) t [.ref b, z].toArray X hg (hsize.trans hml.symm) (by rw [hb]; show decode fwB g.pc = _; rw [hpc]; exact fwB_5) (by show 2 * g.monitorRoom + 0 ≤ 8; rw [hmr]; omega) hnT ⟨hcs.1, hcs.2, rfl, hG T hT X.warmed, by rw [hT]; exact hΦ⟩
  dsimp only [Pt.U, Pt.locs, Pt.cells, Pt.slots] at X' e1 e2 h1 h2 h3 hsteps
  subst h1; subst h2; subst h3
  refine ⟨v', T.calling g' mk' [.ref b, z].toArray, t2, U', L, hT, X', hL, e1, e2, hq, fun target h => ?_⟩
  subst hg
  have hdg : decode c.code g.pc = .ok (.invokevirtual 22, 3) := by rw [hb, hpc]; exact fwB_5
  jvm_step X.here [hexec, hdg, invokevirtual.wp_ready (e := e) (s := T) (f := g) (r := t) (m := t) (k := tk) (mk := tk) (rmeth := methM) (meth := methM) (a := b) (args := [z]) (rest := []) (cell := cellB) X.here.top
    ⟨k, file, 19, 21, t.cls, tk, hk, hfile, hpool, hclsR, htk, hti⟩ hready htk hmT (notMH (by rw [hname]; exact hyn) _) hstM hl2 (by rw [hstack]; rfl) (by rw [hT]; exact hcB) (fun z h => by rw [h] at hoB; cases hoB) hselT hmT habM htk hti]
  intro acts
  rw [doInvoke_state]
  exact hsteps.trans h
theorem fwd1 {y : MethodName} {ccT : ByteArray} {nT d lo : Nat} {rt : FieldType} {a b : Nat} {z v : Int32} {Γ : State → Prop} {Φ : Heap → Prop} {σ : Jvm.Lambda.Shape} {dn : String} {cK : ClassId} {f : Nat → Option Nat} (hf0 : f 0 = some b)
    (hexec : p.tables.exec = Jvm.exec) (hb : c.code = fwB) (hml : c.maxLocals = 2) (hrt : meth.sig.returnType = some rt) (hnar : narrow rt (.int v) = .int v) (hlk : meth.locks = false) (hts : ∀ w ∈ lw_all, w.before [.ref a, .int z].toArray s = true) (hMR : ∀ vm', s.WarmedH vm' → MR1 vm' cK σ dn rt) (hcell : s.heap[a]? = some (vp_cell cK (lamA 1 f)))
    (hy : y = ⟨σ.implClass, σ.implName, σ.implDesc.toString⟩) (hyn : y.cls ≠ "java/lang/invoke/MethodHandle" ∧ y.cls ≠ "java/lang/invoke/VarHandle") (hyl : (parseMethodDescriptor y.desc).map (fun d => d.parameters.length) = some 1)
    (hM : RO l y ccT nT (some rt) d lo [.ref b, .int z] Γ Φ (some (.int v))) (hbl : BlG Γ) (hG : ∀ U : State, U.heap = s.heap → s.WarmedH U.vm → Γ U) (hΦ : Φ s.heap) (hinst : Cond.instanceMethod y ∈ lw_all) (hini : Cond.initialized y.cls ∈ lw_all) (hcode : Cond.code y ccT nT (some rt) ∈ lw_all) (hsel : Cond.selects y.cls y y ∈ lw_all)
    (hrecv : ∃ cellB : Cell, s.heap[b]? = some cellB ∧ cellB.vm.isStatics = false ∧ s.vm.findClass y.cls = some cellB.cls) (ls : Array Slot) (hl : lv_has ls 2 [(0, .ref a), (1, .int z)]) :
    W p l e (rmR (d + 1) (8 + (nT + 11) + lo)) s ⟨cK, 1⟩ [.ref a, .int z].toArray below meth c s.heap [] 0 0 (MQ below (QRet (some (.int v))) [.ref a, .int z].toArray s 0 0 (fun _ => False)) (F0 ⟨cK, 1⟩ 0 ls []) := by
  rw [lam1_cell cK f hf0] at hcell
  refine lv_aload_n hexec hb fwB_0 rfl (lv_at hl 0 rfl) ?_
  refine x_getR (i := 0) (v := .ref b) hexec hb (fun vm' hW => ?_) hcell (fun h => by cases h) rfl fwB_1 ?_
  · obtain ⟨k, tk, file, methk, ck, tc, t, f0, tn, -, -, -, ⟨-, -, h1, h2, h3⟩, -⟩ := hMR vm' hW
    exact ⟨f0, h1, h2, h3⟩
  refine lv_iload_n hexec hb fwB_4 rfl (lv_at hl 1 rfl) ?_
  refine x_ret (x_runLV (g := F0 ⟨cK, 1⟩ 5 ls [.int z, .ref b]) hexec hb hml hts hMR hy hyn hyl hM hbl hG hΦ hinst hini hcode hsel hrecv (Nat.le_refl _) (Nat.le_refl _) ⟨Nat.le_refl _, Nat.le_refl _⟩ rfl hl.1 rfl rfl rfl) ?_
  exact W.zret hexec hb hrt hnar (fun t ht hW => ⟨rfl, ht⟩) (fun q h => by cases h) fwB_8 hlk
/-- a call of a lambda's object by its interface -/
theorem x_lcall1 {y : MethodName} {ccT : ByteArray} {nT d lo nL index count : Nat} {rt : FieldType} {own : String} {a b : Nat} {z v : Int32} {Γ : State → Prop} {Φ : Heap → Prop} {x ifm : MethodName} {pcS idxS : Nat} {σ : Jvm.Lambda.Shape} {cK : ClassId} {f : Nat → Option Nat} (hf0 : f 0 = some b)
    (S : CallFix p m c cc nL s args lw_all own) (hlink : Cond.methodLink own index ifm ∈ lw_all) (hIM : IM ifm s) (hif : ifm = ⟨σ.iface, σ.name, σ.sam.toString⟩) (hifn : ifm.cls ≠ "java/lang/invoke/MethodHandle" ∧ ifm.cls ≠ "java/lang/invoke/VarHandle") (hifl : (parseMethodDescriptor ifm.desc).map (fun d => d.parameters.length) = some 1) (hLS : LamS x pcS idxS σ cK s) (hSh : Sh1 σ x.cls rt) (hpn : plainName (x.cls ++ "$$Lambda") = true)
    (hy : y = ⟨σ.implClass, σ.implName, σ.implDesc.toString⟩) (hyn : y.cls ≠ "java/lang/invoke/MethodHandle" ∧ y.cls ≠ "java/lang/invoke/VarHandle") (hyl : (parseMethodDescriptor y.desc).map (fun d => d.parameters.length) = some 1)
    (hM : RO l y ccT nT (some rt) d lo [.ref b, .int z] Γ Φ (some (.int v))) (hnar : narrow rt (.int v) = .int v) (hbl : BlG Γ) (hG : ∀ U : State, U.heap = H → s.WarmedH U.vm → Γ U) (hΦ : Φ H) (hinst : Cond.instanceMethod y ∈ lw_all) (hini : Cond.initialized y.cls ∈ lw_all) (hcode : Cond.code y ccT nT (some rt) ∈ lw_all) (hsel : Cond.selects y.cls y y ∈ lw_all) (hO : Cond.instantiable "java/lang/Object" 0 ∈ lw_all)
    (hcell : H[a]? = some (vp_cell cK (lamA 1 f))) (hrecv : ∃ cellB : Cell, H[b]? = some cellB ∧ cellB.vm.isStatics = false ∧ s.vm.findClass y.cls = some cellB.cls)
    (hfr : d + 2 ≤ R.frames) (hlo : 21 + (8 + (nT + 11) + lo) ≤ R.locals) (hcs : cells ≤ R.cells ∧ slots ≤ R.slots) (hsize : ls.size = nL) (hW : (rest.map fun v => v.category).sum ≤ 8) (hdg : decode cc pc = .ok (.invokeinterface index count, 5)) :
    va_Run5 p l e R s m args below meth c H locs cells slots 0 0 (F0 m pc ls (.int z :: .ref a :: rest)) rest (QRet (some (.int v)) [.ref a, .int z].toArray) (fun _ => False) := by
  obtain ⟨hx, hb, hml, ho, hts⟩ := S
  intro T hT X
  have hO0 : Ob0 s.vm := ob0_of (hts _ hO)
  obtain ⟨cL, kL, r0, r, i1, i2, i3, i4, i5, i6, i7, i8, i9, i10, i11⟩ := id hIM
  obtain ⟨m', kS, cfS, j0, p0, h1, h2, h3, h4, h5, h6, h7⟩ := id hLS
  obtain ⟨k, tk, file, methk, ck, tc, t, f0, tn, ⟨hk, hkn, hfile, hpool⟩, ⟨hmk, hck, hbytes, hmlk, hlk, hfl, hretk⟩, -, -, -⟩ := hLS.made1 hSh hO0
  obtain ⟨-, -, -, -, -, -, -, iface', -, -, -, -, found, -, -, -, -, -, hi', -, -, -, -, -, -, hfound', -, -, -, -, -, -, -, -, -, -, hsel0⟩ := Jvm.Lambda.isMade_spec h6
  have hcL : s.vm.findClass σ.iface = some cL := by rw [hif] at i1; exact i1
  cases hcL.symm.trans hi'
  have hfr0 : found = r0 := by
    have g1 := i11
    rw [hif] at g1
    simp only [State.methodFound?, hcL, i2, i3, Option.bind_eq_bind, Option.bind_some] at g1
    rw [hfound'] at g1
    exact Option.some.inj g1
  subst hfr0
  obtain ⟨i', hi2, hasg, hway⟩ := State.lambdaCallable_spec h7
  cases hcL.symm.trans hi2
  have hl1 : ([.int z] : List Value).length = r.sig.parameters.length := by
    rw [i10] at hifl
    exact (Option.some.inj hifl).symm
  obtain ⟨vm₁, X₁, hstep₁⟩ := X.invokeinterface hx ho (hts _ hlink) i4 i6 i7 (by rw [i5]; exact i2) i3 hifn (a := a) (cell := vp_cell cK (lamA 1 f)) (kcell := k) (by rw [hT]; exact hcell) (fun z h => by cases h) hk (by rw [i5]; exact hasg)
    (m' := ⟨cK, 1⟩) (meth' := methk) (by rw [Launch.admits_selectMethod X.admits]; exact hsel0) hmk (by rw [i8, i9, hif]; exact hway) (by rw [hfl]; decide) (by simp [Method.isAbstract, hfl, hasFlag, Acc.abstract])
    (g := F0 m pc ls (.int z :: .ref a :: rest)) rfl (argsL := [.int z]) (rest := rest) hl1 rfl (by rw [hb]; exact hdg)
  have hLS₁ : LamS x pcS idxS σ cK (T.setVm vm₁) := hLS.mv X₁.warmed
  obtain ⟨k₁, tk₁, file₁, methk₁, ck₁, tc₁, t₁, f0₁, tn₁, ⟨hk₁, hkn₁, -, -⟩, ⟨hmk₁, hck₁, hbytes₁, hml₁, hlk₁, hfl₁, hretk₁⟩, -, -, -⟩ := hLS₁.made1 hSh (hO0.mv X₁.warmed.alike)
  have hpl : (T.setVm vm₁).plainMethod ⟨cK, 1⟩ := State.plainMethod.of_name (fun k' hk' => by cases hk₁.symm.trans hk'; rw [hkn₁]; exact hpn)
  obtain ⟨v', t2, L, hq, hL, X', st⟩ := run_id X₁ (g := F0 m pc ls rest) rfl (hsize.trans hml.symm) (by rw [hb]; exact hdg) (lv_room hW) hmk₁ hck₁ hlk₁ hpl (rm := rmR (d + 1) (8 + (nT + 11) + lo)) hfr (by rw [hml₁]; show 8 + (2 + 11) + (8 + (nT + 11) + lo) ≤ _; omega) hcs.1 hcs.2 (a := [.ref a, .int z].toArray) (Qc := QRet (some (.int v))) (mc := 0) (ms := 0) (free := fun _ => False) (fun s₁ hh X1 => by
    have hl := lv_entry [.ref a, .int z] (n := 2) (Nat.le_refl _)
    have hWs : s.WarmedH ((T.setVm vm₁).calling (F0 m pc ls rest) ⟨cK, 1⟩ [.ref a, .int z].toArray).vm := X₁.warmed
    have k := fwd1 (p := p) (l := l) (e := e) (below := ((T.setVm vm₁).setTop (F0 m pc ls rest)).frames) (meth := methk₁) (c := ck₁) (s := (T.setVm vm₁).calling (F0 m pc ls rest) ⟨cK, 1⟩ [.ref a, .int z].toArray) (cK := cK) (a := a) hf0 hx hbytes₁ hml₁ hretk₁ hnar hlk₁ (fun w hw => pay_in hts lw_self w hw _ _ hWs) (σ := σ) (dn := x.cls)
      (fun vm' hW' => (LamS.mv (U := ((T.setVm vm₁).calling (F0 m pc ls rest) ⟨cK, 1⟩ [.ref a, .int z].toArray).setVm vm') hW' hLS₁.bl).made1 hSh (hO0.mv (State.WarmedH.trans hWs hW').alike)) (by show T.heap[a]? = _; rw [hT]; exact hcell) hy hyn hyl hM hbl
      (fun U hU hW' => hG U (hU.trans hT) (State.WarmedH.trans hWs hW')) (by show Φ T.heap; rw [hT]; exact hΦ) hinst hini hcode hsel
      (by obtain ⟨cellB, b1, b2, b3⟩ := hrecv; exact ⟨cellB, by show T.heap[b]? = _; rw [hT]; exact b1, b2, (X₁.warmed.alike.findClass _ _).trans b3⟩) _ hl
    rw [← lg_entry_eq] at k
    rw [hml₁]
    exact k s₁ hh X1)
  exact ⟨v', _, t2, _, L, hT, X', hL, rfl, rfl, hq, fun target h => hstep₁ _ (fun acts => by rw [doInvoke_state]; exact st.trans h)⟩
theorem push_at {H : Heap} {x : Cell} : (H.push x)[H.size]? = some x := by simp
theorem push_lt {H : Heap} {x : Cell} {q : Nat} (h : q < H.size) : (H.push x)[q]? = H[q]? := by
  rw [Array.getElem?_push]
  exact if_neg (by omega)
theorem x_lamW1 {D : va_G} {A : Nat → Prop} {H0 : Heap} {ws : va_W} {nL : Nat} (hexec : p.tables.exec = Jvm.exec) (hb : c.code = cc) (hml : c.maxLocals = nL) (hsz : ls.size = nL) {x : MethodName} (hn : s.methodNamed? x = some m) {index : Nat} {σ : Jvm.Lambda.Shape} {cK : ClassId} {rt : FieldType} (hLS : LamS x pc index σ cK s) (hSh : Sh1 σ x.cls rt) (hcap : σ.captured.length = 1) (hO : (Cond.instantiable "java/lang/Object" 0).before args s = true) (hdg : decode cc pc = .ok (.invokedynamic index, 5)) {b : Nat} {f : Nat → Option Nat} (hf0 : f 0 = some b)
    (hw : ((Value.ref b :: rest).map fun v => v.category).sum + 3072 ≤ R.locals) (hc1 : cells + 1 ≤ R.cells) (hs1 : slots + 1 ≤ R.slots) (hP : va_P D vwCl ws H) (hD : va_D A ws) (hS : va_S A H0 H locs) (hA : ∀ q, H0.size ≤ q → A q)
    (kk : ∀ (q : Nat) (H1 : Heap), va_P D vwCl (ws ++ [(q, .inl (cK, lamA 1 f))]) H1 → va_D A (ws ++ [(q, .inl (cK, lamA 1 f))]) → va_S A H0 H1 locs → W p l e R s m args below meth c H1 locs (cells + 1) (slots + 1) Q (F0 m (pc + 5) ls (.ref q :: rest))) : W p l e R s m args below meth c H locs cells slots Q (F0 m pc ls (.ref b :: rest)) := by
  refine x_lam1 hexec hb hml hsz hn hLS hSh hcap hO hdg hf0 hw hc1 hs1 ?_
  refine kk H.size _ ((hP.kept (fun k x hx => push_lt ((hP k x hx).lt))).app (fun k x hx => ?_)) (hD.push hP rfl (hA _ hS.1)) ⟨Nat.le_trans hS.1 (by rw [Array.size_push]; omega), fun x h1 h2 => (push_lt (Nat.lt_of_lt_of_le h1 hS.1)).trans (hS.2.1 x h1 h2), hS.2.2⟩
  have hz : k < 1 := (List.getElem?_eq_some_iff.mp hx).1
  rw [show k = 0 by omega] at hx
  cases hx
  exact push_at
theorem x_lamW2 {D : va_G} {A : Nat → Prop} {H0 : Heap} {ws : va_W} {nL : Nat} (hexec : p.tables.exec = Jvm.exec) (hb : c.code = cc) (hml : c.maxLocals = nL) (hsz : ls.size = nL) {x : MethodName} (hn : s.methodNamed? x = some m) {index : Nat} {σ : Jvm.Lambda.Shape} {cK : ClassId} {rt : FieldType} (hLS : LamS x pc index σ cK s) (hSh : Sh2 σ x.cls rt) (hcap : σ.captured.length = 2) (hO : (Cond.instantiable "java/lang/Object" 0).before args s = true) (hdg : decode cc pc = .ok (.invokedynamic index, 5)) {b0 b1 : Nat} {f : Nat → Option Nat} (hf0 : f 0 = some b0) (hf1 : f 1 = some b1)
    (hw : ((Value.ref b1 :: Value.ref b0 :: rest).map fun v => v.category).sum + 3072 ≤ R.locals) (hc1 : cells + 1 ≤ R.cells) (hs1 : slots + 2 ≤ R.slots) (hP : va_P D vwCl ws H) (hD : va_D A ws) (hS : va_S A H0 H locs) (hA : ∀ q, H0.size ≤ q → A q)
    (kk : ∀ (q : Nat) (H1 : Heap), va_P D vwCl (ws ++ [(q, .inl (cK, lamA 2 f))]) H1 → va_D A (ws ++ [(q, .inl (cK, lamA 2 f))]) → va_S A H0 H1 locs → W p l e R s m args below meth c H1 locs (cells + 1) (slots + 2) Q (F0 m (pc + 5) ls (.ref q :: rest))) : W p l e R s m args below meth c H locs cells slots Q (F0 m pc ls (.ref b1 :: .ref b0 :: rest)) := by
  refine x_lam2 hexec hb hml hsz hn hLS hSh hcap hO hdg hf0 hf1 hw hc1 hs1 ?_
  refine kk H.size _ ((hP.kept (fun k x hx => push_lt ((hP k x hx).lt))).app (fun k x hx => ?_)) (hD.push hP rfl (hA _ hS.1)) ⟨Nat.le_trans hS.1 (by rw [Array.size_push]; omega), fun x h1 h2 => (push_lt (Nat.lt_of_lt_of_le h1 hS.1)).trans (hS.2.1 x h1 h2), hS.2.2⟩
  have hz : k < 1 := (List.getElem?_eq_some_iff.mp hx).1
  rw [show k = 0 by omega] at hx
  cases hx
  exact push_at
end LRW
/-- as ex_of, and the method is known by its name -/
theorem ex_ofN {l : Launch} {y : MethodName} {cc : ByteArray} {nL : Nat} {ret : Option FieldType} {d lo mc ms : Nat} {as : List Value} {Γ : State → Prop} {D : va_G} {W0 : va_W} {Φ : Heap → Prop} {S : Type} {Ψ : S → Heap → Prop} {v : S → Option Value} {W1 : S → va_W} (hy : plainName y.cls = true) (hn : (lg_sl as).length ≤ nL)
    (body : ∀ (p : Program) (e : Env) (s : State) (m : MethodId) (below : List Frame) (meth : Method) (c : Code) (A : Nat → Prop), s.methodNamed? y = some m → CallFix p m c cc nL s as.toArray lw_all y.cls → meth.sig.returnType = ret → meth.locks = false → meth.name = y.name → Γ s → (∀ q : Nat, s.heap.size ≤ q → A q) → va_A W0 s.heap.size = A → Φ s.heap → ∀ (H : Heap) (locs : List Loc), va_P D vwCl W0 H → va_D A W0 → va_S A s.heap H locs → ∀ ls, lv_has ls nL (lv_args 0 as) →
      W p l e (rmW d lo mc ms) s m as.toArray below meth c H locs 0 0 (MQ below (QE Ψ v D W1 A) as.toArray s mc ms A) (F0 m 0 ls [])) : EX l y cc nL ret d lo mc ms as Γ D W0 Φ Ψ v W1 := by
  intro sz
  refine Met.ofW (cc := cc) (maxL := nL) (ret := ret) hy rfl ?_
  intro p e s m args below meth c s₁ B hml hv
  obtain ⟨rfl, hG, hsz, hP, hD0, hΦ⟩ := hv
  subst hsz
  have hts := atoms_spec (ws := ws_ y cc nL ret) B.pre
  have hts : ∀ w ∈ lw_all, w.before _ s = true := fun w h => hts w (List.mem_cons_of_mem _ h)
  have hown : s.vm.findClass y.cls = some m.cls := findClass_of_methodNamed B.named
  have hl := lv_entry as (n := nL) hn
  rw [lg_entry_eq]
  exact body p e s m below meth c _ B.named ⟨B.exec, B.bytes, hml, hown, hts⟩ B.returns B.notSynchronized (name_of_methodNamed B.named B.method).1 hG (fun q h => Or.inr h) rfl hΦ s.heap [] hP hD0.self va_S.rf _ hl
