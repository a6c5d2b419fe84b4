/-! lambdas that hold two objects and call a static method -/
section LRS
variable {p : Program} {l : Launch} {e : Env} {R : Room} {s : State} {m : MethodId} {args : Array Value} {below : List Frame} {meth : Method} {c : Code} {H : Heap} {locs : List Loc} {cells slots : Nat} {Q : State → Prop} {pc : Nat} {ls : Array Slot} {rest : List Value} {cc : ByteArray}
theorem x_runLS {y : MethodName} {bytes : ByteArray} {maxL d lo : Nat} {ret : Option FieldType} {Γ : State → Prop} {Φ : Heap → Prop} {v : Option Value} {σ : Jvm.Lambda.Shape} {dn : String} {rt : FieldType} {b0 b1 : Nat} {z : Value} {g : JFrame}
    (hexec : p.tables.exec = Jvm.exec) (hb : c.code = fwS) (hml : c.maxLocals = 2) (hts : ∀ w ∈ lw_all, w.before args s = true) (hMR : ∀ vm', s.WarmedH vm' → MR2 vm' m.cls σ dn rt) (hy : y = ⟨σ.implClass, σ.implName, σ.implDesc.toString⟩) (hyn : y.cls ≠ "java/lang/invoke/MethodHandle" ∧ y.cls ≠ "java/lang/invoke/VarHandle") (hyl : (parseMethodDescriptor y.desc).map (fun d => d.parameters.length) = some 3)
    (hM : RO l y bytes maxL ret d lo [.ref b0, .ref b1, z] Γ Φ v) (hbl : BlG Γ) (hG : ∀ U : State, U.heap = H → s.WarmedH U.vm → Γ U) (hΦ : Φ H) (hstat : Cond.static y ∈ lw_all) (hini : Cond.initialized y.cls ∈ lw_all) (hcode : Cond.code y bytes maxL ret ∈ lw_all)
    (hfr : d + 1 ≤ R.frames) (hlo : 8 + (maxL + 11) + lo ≤ R.locals) (hcs : cells ≤ R.cells ∧ slots ≤ R.slots)
    (hg : g.method = m) (hsize : g.locals.size = 2) (hstack : g.stack = [z, .ref b1, .ref b0]) (hmr : g.monitorRoom = 0) (hpc : g.pc = 9) :
    va_Run p l e R s m args below meth c H locs cells slots 0 0 g [] (QRet v [.ref b0, .ref b1, z].toArray) (fun _ => False) := by
  have hiniA : ∀ (a' : Array Value) (U : State), s.WarmedH U.vm → (Cond.initialized y.cls).before a' U = true := fun a' U hW => pay_in hts (lw_good (ws := [Cond.initialized y.cls]) (fun w hw => by rw [List.mem_singleton.mp hw]; exact hini)) _ (List.mem_singleton.mpr rfl) a' U hW
  have hK : Back l R p e below s args y 3 8 (PreOf R 0 0 (va_Pc [.ref b0, .ref b1, z] (BB Γ Φ))) (PostOf (QRet v) 0 0 (fun _ => False)) := back_of (bytes := bytes) (maxL := maxL) (ret := ret) hM (bb_blind hbl _) rfl rfl hfr hlo (pay_in hts (lw_meth hcode)) List.mem_cons_self hiniA
  intro T hT X
  obtain ⟨mk, hnamed⟩ : ∃ mk, s.methodNamed? y = some mk := by
    have hs := hts _ hstat
    cases hn : s.methodNamed? y with
    | none => simp [Cond.before, Cond.holds, Cond.value, hn] at hs
    | some mk => exact ⟨mk, rfl⟩
  obtain ⟨methM, cM, hmethM, -, -, -, -, -, -, hsigM⟩ := Cond.code_spec hnamed (hts _ hcode)
  have hstM := Cond.static_spec hnamed hmethM (hts _ hstat)
  obtain ⟨k, tk, file, methk, ck, tc, t, f0, f1, tn, tm, ⟨hk, hkn, hfile, hpool, hnt⟩, -, ⟨ht, htk, hti, hask⟩, ⟨hready, hclsR, -, -⟩, -⟩ := hMR T.vm X.warmed
  have hA := X.warmed.alike
  have hnT : T.methodNamed? y = some mk := by
    have := State.methodNamed?_setVm (s := s) hA y
    rw [hnamed] at this
    exact this
  have hfT : T.vm.findClass σ.implClass = some mk.cls := by
    have := findClass_of_methodNamed hnT
    rw [hy] at this
    exact this
  cases ht.symm.trans hfT
  have e1 : t = mk := by
    have h1 := State.methodFound?_of_named hnT hyn
    rw [hy] at h1
    simp only [State.methodFound?, hfT, htk, Option.bind_eq_bind, Option.bind_some] at h1
    rw [hask] at h1
    exact Option.some.inj h1
  subst e1
  obtain ⟨kn, hkn', hname⟩ := className_of_methodNamed hnT
  cases htk.symm.trans hkn'
  have hl2 : ([.ref b0, .ref b1, z] : List Value).length = methM.sig.parameters.length := by
    rw [hsigM] at hyl
    exact (Option.some.inj hyl).symm
  have hmT : T.vm.method? t = some methM := by rw [hA.method?]; exact hmethM
  have hinitT : tk.init = .initialized := Cond.initialized_spec (findClass_of_methodNamed hnT) htk (hiniA #[] T X.warmed)
  obtain ⟨bb, hmem⟩ := memberRef_ask' (e := e) (vm := T.vm) (d := m.cls) (index := 27) hk hfile (Or.inl hpool) hnt
  have hpl : Op.plainRef T e m.cls 27 := ⟨23, _, _, bb, t.cls, tk, hmem, hclsR, htk, by
    have : ∀ yy, signaturePolymorphic tk yy = false := fun yy => notMH (by rw [hname]; exact hyn) yy
    simp [this]⟩
  obtain ⟨v', ⟨U', l2, c3, s2⟩, X', ⟨g', mk', t2, L, e1, e2, hq, h1, hL, h2, h3⟩, hsteps⟩ := hK m meth c ⟨T, locs, cells, slots⟩ { g with stack := [] } (.invokestatic 27) t [.ref b0, .ref b1, z].toArray X hg (hsize.trans hml.symm) (by rw [hb]; show decode fwS g.pc = _; rw [hpc]; exact fwS_9) (by show 2 * g.monitorRoom + 0 ≤ 8; rw [hmr]; omega) hnT ⟨hcs.1, hcs.2, rfl, hG T hT X.warmed, by rw [hT]; exact hΦ⟩
  dsimp only [Pt.U, Pt.locs, Pt.cells, Pt.slots] at X' e1 e2 h1 h2 h3 hsteps
  subst h1; subst h2; subst h3
  refine ⟨v', T.calling g' mk' [.ref b0, .ref b1, z].toArray, t2, U', L, hT, X', hL, e1, e2, hq, fun target h => ?_⟩
  subst hg
  have hdg : decode c.code g.pc = .ok (.invokestatic 27, 3) := by rw [hb, hpc]; exact fwS_9
  jvm_step X.here [hexec, hdg, invokestatic.wp_ready (e := e) (s := T) (f := g) (m := t) (k := tk) (meth := methM) (args := [.ref b0, .ref b1, z]) (rest := []) X.here.top hpl hready htk hmT (notMH (by rw [hname]; exact hyn) _) hstM hinitT hl2 (by rw [hstack]; rfl)]
  intro acts
  rw [doInvoke_state]
  exact hsteps.trans h
theorem fwd2 {y : MethodName} {ccT : ByteArray} {nT d lo : Nat} {rt : FieldType} {a b0 b1 : Nat} {z v : Int32} {Γ : State → Prop} {Φ : Heap → Prop} {σ : Jvm.Lambda.Shape} {dn : String} {cK : ClassId} {f : Nat → Option Nat} (hf0 : f 0 = some b0) (hf1 : f 1 = some b1)
    (hexec : p.tables.exec = Jvm.exec) (hb : c.code = fwS) (hml : c.maxLocals = 2) (hrt : meth.sig.returnType = some rt) (hnar : narrow rt (.int v) = .int v) (hlk : meth.locks = false) (hts : ∀ w ∈ lw_all, w.before [.ref a, .int z].toArray s = true) (hMR : ∀ vm', s.WarmedH vm' → MR2 vm' cK σ dn rt) (hcell : s.heap[a]? = some (vp_cell cK (lamA 2 f)))
    (hy : y = ⟨σ.implClass, σ.implName, σ.implDesc.toString⟩) (hyn : y.cls ≠ "java/lang/invoke/MethodHandle" ∧ y.cls ≠ "java/lang/invoke/VarHandle") (hyl : (parseMethodDescriptor y.desc).map (fun d => d.parameters.length) = some 3)
    (hM : RO l y ccT nT (some rt) d lo [.ref b0, .ref b1, .int z] Γ Φ (some (.int v))) (hbl : BlG Γ) (hG : ∀ U : State, U.heap = s.heap → s.WarmedH U.vm → Γ U) (hΦ : Φ s.heap) (hstat : Cond.static y ∈ lw_all) (hini : Cond.initialized y.cls ∈ lw_all) (hcode : Cond.code y ccT nT (some rt) ∈ lw_all)
    (ls : Array Slot) (hl : lv_has ls 2 [(0, .ref a), (1, .int z)]) :
    W p l e (rmR (d + 1) (8 + (nT + 11) + lo)) s ⟨cK, 1⟩ [.ref a, .int z].toArray below meth c s.heap [] 0 0 (MQ below (QRet (some (.int v))) [.ref a, .int z].toArray s 0 0 (fun _ => False)) (F0 ⟨cK, 1⟩ 0 ls []) := by
  rw [lam2_cell cK f hf0 hf1] at hcell
  refine lv_aload_n hexec hb fwS_0 rfl (lv_at hl 0 rfl) ?_
  refine x_getR (i := 0) (v := .ref b0) hexec hb (fun vm' hW => ?_) hcell (fun h => by cases h) rfl fwS_1 ?_
  · obtain ⟨k, tk, file, methk, ck, tc, t, f0, f1, tn, tm, -, -, -, ⟨-, -, ⟨h1, h2, h3⟩, -⟩, -⟩ := hMR vm' hW
    exact ⟨f0, h1, h2, h3⟩
  refine lv_aload_n hexec hb fwS_4 rfl (lv_at hl 0 rfl) ?_
  refine x_getR (i := 1) (v := .ref b1) hexec hb (fun vm' hW => ?_) hcell (fun h => by cases h) rfl fwS_5 ?_
  · obtain ⟨k, tk, file, methk, ck, tc, t, f0, f1, tn, tm, -, -, -, ⟨-, -, -, ⟨h1, h2, h3⟩⟩, -⟩ := hMR vm' hW
    exact ⟨f1, h1, h2, h3⟩
  refine lv_iload_n hexec hb fwS_8 rfl (lv_at hl 1 rfl) ?_
  refine x_ret (x_runLS (g := F0 ⟨cK, 1⟩ 9 ls [.int z, .ref b1, .ref b0]) hexec hb hml hts hMR hy hyn hyl hM hbl hG hΦ hstat hini hcode (Nat.le_refl _) (Nat.le_refl _) ⟨Nat.le_refl _, Nat.le_refl _⟩ rfl hl.1 rfl rfl rfl) ?_
  exact W.zret hexec hb hrt hnar (fun t ht hW => ⟨rfl, ht⟩) (fun q h => by cases h) fwS_12 hlk
theorem x_lcall2 {y : MethodName} {ccT : ByteArray} {nT d lo nL index count : Nat} {rt : FieldType} {own : String} {a b0 b1 : Nat} {z v : Int32} {Γ : State → Prop} {Φ : Heap → Prop} {x ifm : MethodName} {pcS idxS : Nat} {σ : Jvm.Lambda.Shape} {cK : ClassId} {f : Nat → Option Nat} (hf0 : f 0 = some b0) (hf1 : f 1 = some b1)
    (S : CallFix p m c cc nL s args lw_all own) (hlink : Cond.methodLink own index ifm ∈ lw_all) (hIM : IM ifm s) (hif : ifm = ⟨σ.iface, σ.name, σ.sam.toString⟩) (hifn : ifm.cls ≠ "java/lang/invoke/MethodHandle" ∧ ifm.cls ≠ "java/lang/invoke/VarHandle") (hifl : (parseMethodDescriptor ifm.desc).map (fun d => d.parameters.length) = some 1) (hLS : LamS x pcS idxS σ cK s) (hSh : Sh2 σ x.cls rt) (hpn : plainName (x.cls ++ "$$Lambda") = true)
    (hy : y = ⟨σ.implClass, σ.implName, σ.implDesc.toString⟩) (hyn : y.cls ≠ "java/lang/invoke/MethodHandle" ∧ y.cls ≠ "java/lang/invoke/VarHandle") (hyl : (parseMethodDescriptor y.desc).map (fun d => d.parameters.length) = some 3)
    (hM : RO l y ccT nT (some rt) d lo [.ref b0, .ref b1, .int z] Γ Φ (some (.int v))) (hnar : narrow rt (.int v) = .int v) (hbl : BlG Γ) (hG : ∀ U : State, U.heap = H → s.WarmedH U.vm → Γ U) (hΦ : Φ H) (hstat : Cond.static y ∈ lw_all) (hini : Cond.initialized y.cls ∈ lw_all) (hcode : Cond.code y ccT nT (some rt) ∈ lw_all) (hO : Cond.instantiable "java/lang/Object" 0 ∈ lw_all)
    (hcell : H[a]? = some (vp_cell cK (lamA 2 f)))
    (hfr : d + 2 ≤ R.frames) (hlo : 21 + (8 + (nT + 11) + lo) ≤ R.locals) (hcs : cells ≤ R.cells ∧ slots ≤ R.slots) (hsize : ls.size = nL) (hW : (rest.map fun v => v.category).sum ≤ 8) (hdg : decode cc pc = .ok (.invokeinterface index count, 5)) :
    va_Run5 p l e R s m args below meth c H locs cells slots 0 0 (F0 m pc ls (.int z :: .ref a :: rest)) rest (QRet (some (.int v)) [.ref a, .int z].toArray) (fun _ => False) := by
  obtain ⟨hx, hb, hml, ho, hts⟩ := S
  intro T hT X
  have hO0 : Ob0 s.vm := ob0_of (hts _ hO)
  obtain ⟨cL, kL, r0, r, i1, i2, i3, i4, i5, i6, i7, i8, i9, i10, i11⟩ := id hIM
  obtain ⟨m', kS, cfS, j0, p0, h1, h2, h3, h4, h5, h6, h7⟩ := id hLS
  obtain ⟨k, tk, file, methk, ck, tc, t, f0, f1, tn, tm, ⟨hk, hkn, hfile, hpool, -⟩, ⟨hmk, hck, hbytes, hmlk, hlk, hfl, hretk⟩, -, -, -⟩ := hLS.made2 hSh hO0
  obtain ⟨-, -, -, -, -, -, -, iface', -, -, -, -, found, -, -, -, -, -, hi', -, -, -, -, -, -, hfound', -, -, -, -, -, -, -, -, -, -, hsel0⟩ := Jvm.Lambda.isMade_spec h6
  have hcL : s.vm.findClass σ.iface = some cL := by rw [hif] at i1; exact i1
  cases hcL.symm.trans hi'
  have hfr0 : found = r0 := by
    have g1 := i11
    rw [hif] at g1
    simp only [State.methodFound?, hcL, i2, i3, Option.bind_eq_bind, Option.bind_some] at g1
    rw [hfound'] at g1
    exact Option.some.inj g1
  subst hfr0
  obtain ⟨i', hi2, hasg, hway⟩ := State.lambdaCallable_spec h7
  cases hcL.symm.trans hi2
  have hl1 : ([.int z] : List Value).length = r.sig.parameters.length := by
    rw [i10] at hifl
    exact (Option.some.inj hifl).symm
  obtain ⟨vm₁, X₁, hstep₁⟩ := X.invokeinterface hx ho (hts _ hlink) i4 i6 i7 (by rw [i5]; exact i2) i3 hifn (a := a) (cell := vp_cell cK (lamA 2 f)) (kcell := k) (by rw [hT]; exact hcell) (fun z h => by cases h) hk (by rw [i5]; exact hasg)
    (m' := ⟨cK, 1⟩) (meth' := methk) (by rw [Launch.admits_selectMethod X.admits]; exact hsel0) hmk (by rw [i8, i9, hif]; exact hway) (by rw [hfl]; decide) (by simp [Method.isAbstract, hfl, hasFlag, Acc.abstract])
    (g := F0 m pc ls (.int z :: .ref a :: rest)) rfl (argsL := [.int z]) (rest := rest) hl1 rfl (by rw [hb]; exact hdg)
  have hLS₁ : LamS x pcS idxS σ cK (T.setVm vm₁) := hLS.mv X₁.warmed
  obtain ⟨k₁, tk₁, file₁, methk₁, ck₁, tc₁, t₁, f0₁, f1₁, tn₁, tm₁, ⟨hk₁, hkn₁, -, -, -⟩, ⟨hmk₁, hck₁, hbytes₁, hml₁, hlk₁, hfl₁, hretk₁⟩, -, -, -⟩ := hLS₁.made2 hSh (hO0.mv X₁.warmed.alike)
  have hpl : (T.setVm vm₁).plainMethod ⟨cK, 1⟩ := State.plainMethod.of_name (fun k' hk' => by cases hk₁.symm.trans hk'; rw [hkn₁]; exact hpn)
  obtain ⟨v', t2, L, hq, hL, X', st⟩ := run_id X₁ (g := F0 m pc ls rest) rfl (hsize.trans hml.symm) (by rw [hb]; exact hdg) (lv_room hW) hmk₁ hck₁ hlk₁ hpl (rm := rmR (d + 1) (8 + (nT + 11) + lo)) hfr (by rw [hml₁]; show 8 + (2 + 11) + (8 + (nT + 11) + lo) ≤ _; omega) hcs.1 hcs.2 (a := [.ref a, .int z].toArray) (Qc := QRet (some (.int v))) (mc := 0) (ms := 0) (free := fun _ => False) (fun s₁ hh X1 => by
    have hl := lv_entry [.ref a, .int z] (n := 2) (Nat.le_refl _)
    have hWs : s.WarmedH ((T.setVm vm₁).calling (F0 m pc ls rest) ⟨cK, 1⟩ [.ref a, .int z].toArray).vm := X₁.warmed
    have k := fwd2 (p := p) (l := l) (e := e) (below := ((T.setVm vm₁).setTop (F0 m pc ls rest)).frames) (meth := methk₁) (c := ck₁) (s := (T.setVm vm₁).calling (F0 m pc ls rest) ⟨cK, 1⟩ [.ref a, .int z].toArray) (cK := cK) (a := a) hf0 hf1 hx hbytes₁ hml₁ hretk₁ hnar hlk₁ (fun w hw => pay_in hts lw_self w hw _ _ hWs) (σ := σ) (dn := x.cls)
      (fun vm' hW' => (LamS.mv (U := ((T.setVm vm₁).calling (F0 m pc ls rest) ⟨cK, 1⟩ [.ref a, .int z].toArray).setVm vm') hW' hLS₁.bl).made2 hSh (hO0.mv (State.WarmedH.trans hWs hW').alike)) (by show T.heap[a]? = _; rw [hT]; exact hcell) hy hyn hyl hM hbl
      (fun U hU hW' => hG U (hU.trans hT) (State.WarmedH.trans hWs hW')) (by show Φ T.heap; rw [hT]; exact hΦ) hstat hini hcode _ hl
    rw [← lg_entry_eq] at k
    rw [hml₁]
    exact k s₁ hh X1)
  exact ⟨v', _, t2, _, L, hT, X', hL, rfl, rfl, hq, fun target h => hstep₁ _ (fun acts => by rw [doInvoke_state]; exact st.trans h)⟩
end LRS
theorem jo_of2 {l : Launch} {y ifm x : MethodName} {ccT : ByteArray} {nT d lo : Nat} {rt : FieldType} {a b0 b1 : Nat} {Γ Γ0 : State → Prop} {Φ Φ0 : Heap → Prop} {pcS idxS : Nat} {σ : Jvm.Lambda.Shape} {cK : ClassId} {f : Nat → Option Nat} {ok : Nat → Prop} {P : Nat → Int32} (hf0 : f 0 = some b0) (hf1 : f 1 = some b1)
    (hLS : ∀ s, Γ s → LamS x pcS idxS σ cK s) (hIM : ∀ s, Γ s → IM ifm s) (hif : ifm = ⟨σ.iface, σ.name, σ.sam.toString⟩) (hifn : ifm.cls ≠ "java/lang/invoke/MethodHandle" ∧ ifm.cls ≠ "java/lang/invoke/VarHandle") (hifl : (parseMethodDescriptor ifm.desc).map (fun d => d.parameters.length) = some 1) (hSh : Sh2 σ x.cls rt) (hpn : plainName (x.cls ++ "$$Lambda") = true)
    (hy : y = ⟨σ.implClass, σ.implName, σ.implDesc.toString⟩) (hyn : y.cls ≠ "java/lang/invoke/MethodHandle" ∧ y.cls ≠ "java/lang/invoke/VarHandle") (hyl : (parseMethodDescriptor y.desc).map (fun d => d.parameters.length) = some 3)
    (hM : ∀ pl, ok pl → RO l y ccT nT (some rt) d lo [.ref b0, .ref b1, .int (nI pl)] Γ0 Φ0 (some (.int (P pl)))) (hnar : ∀ pl, narrow rt (.int (P pl)) = .int (P pl)) (hbl : BlG Γ0) (hG0 : ∀ U, Γ U → Γ0 U) (hΦ0 : ∀ H, Φ H → Φ0 H) (hstat : Cond.static y ∈ lw_all) (hini : Cond.initialized y.cls ∈ lw_all) (hcode : Cond.code y ccT nT (some rt) ∈ lw_all)
    (hcell : ∀ H, Φ H → H[a]? = some (vp_cell cK (lamA 2 f))) : JO l ifm Γ Φ (d + 1) (8 + (nT + 11) + lo) a ok P := by
  intro pl hok p e R s m args below meth c H locs cells slots cc nL own index count rest pc ls S hlink hg hG hΦ hfr hlo hcs hsz hW hdg
  exact x_lcall2 hf0 hf1 S hlink (hIM s hg) hif hifn hifl (hLS s hg) hSh hpn hy hyn hyl (hM pl hok) (hnar pl) hbl (fun U hU hW => hG0 U (hG U hU hW)) (hΦ0 H hΦ) hstat hini hcode q1409 (hcell H hΦ) hfr hlo hcs hsz hW hdg
