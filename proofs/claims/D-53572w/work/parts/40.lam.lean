/-! lambdas: classes of the VM's own making; an object of one is a cell of one or two references -/
section LAM
abbrev noP : Setting := { classPath := fun _ => none }
/-- what the start says of a lambda's site, told of the tables alone -/
def LamS (x : MethodName) (pc index : Nat) (σ : Jvm.Lambda.Shape) (cK : ClassId) (U : State) : Prop :=
  ∃ (m : MethodId) (k : Class) (cf : ClassFile) (i0 p0 : Nat), U.methodNamed? x = some m ∧ U.vm.classes[m.cls]? = some k ∧ k.cf = some cf ∧ Jvm.Lambda.shapeOf? cf index = some σ ∧
    (k.callSites.find? fun y => y.1 == m.idx && y.2.1 == pc) = some (i0, p0, .makes cK) ∧ Jvm.Lambda.isMade noP U.vm m.cls σ cK = true ∧ U.lambdaCallable σ cK = true
theorem LamS.of {x : MethodName} {pc index : Nat} {σ : Jvm.Lambda.Shape} {args : Array Value} {s : State} (hc : σ.captured ≠ []) (h : (Cond.lambdaSite x pc index σ).before args s = true) : ∃ cK, LamS x pc index σ cK s := by
  obtain ⟨cK, one, hat⟩ := Cond.lambdaSite_spec h
  obtain ⟨m, k, cf, i0, p0, lk, h1, h2, h3, h4, -, h5, h6, h7, hl⟩ := State.lambdaAt?_spec hat
  rcases hl with ⟨a, cell, -, -, h, -⟩ | ⟨rfl, -, -⟩
  · exact absurd h hc
  · exact ⟨cK, m, k, cf, i0, p0, h1, h2, h3, h4, h5, h6, h7⟩
theorem LamS.bl {x : MethodName} {pc index : Nat} {σ : Jvm.Lambda.Shape} {cK : ClassId} {U : State} {g : JFrame} {mk : MethodId} {a : Array Value} (h : LamS x pc index σ cK U) : LamS x pc index σ cK (U.calling g mk a) := h
theorem LamS.mv {x : MethodName} {pc index : Nat} {σ : Jvm.Lambda.Shape} {cK : ClassId} {s U : State} (hW : s.WarmedH U.vm) (h : LamS x pc index σ cK s) : LamS x pc index σ cK U := by
  obtain ⟨m, k, cf, i0, p0, h1, h2, h3, h4, h5, h6, h7⟩ := h
  obtain ⟨k', hk', he⟩ := hW.alike.2.2 _ _ h2
  have hm' : U.methodNamed? x = some m := by
    have := State.methodNamed?_setVm (s := s) hW.alike x
    rw [h1] at this
    exact this
  refine ⟨m, k', cf, i0, p0, hm', hk', by rw [he]; exact h3, h4, by rw [he]; exact h5, Jvm.Lambda.isMade_warmer hW h6, ?_⟩
  have hA := hW.alike
  simp only [State.lambdaCallable, hA.findClass, hA.assignable, hA.superclasses, hA.declaredIn] at h7 ⊢
  exact h7
/-- an interface's method as the reference names it -/
def IM (x : MethodName) (U : State) : Prop :=
  ∃ (cL : ClassId) (kL : Class) (r0 : MethodId) (r : Method), U.vm.findClass x.cls = some cL ∧ U.vm.classes[cL]? = some kL ∧ kL.isInterface = true ∧ U.methodNamed? x = some r0 ∧ r0.cls = cL ∧ U.vm.method? r0 = some r ∧ r.isStatic = false ∧ r.name = x.name ∧ r.desc = x.desc ∧ parseMethodDescriptor x.desc = some r.sig ∧ U.methodFound? x.cls x.name x.desc = some r0
theorem IM.of {x : MethodName} {args : Array Value} {s : State} (hdecl : (Cond.declares x).before args s = true) (hface : (Cond.interfaceMethod x.cls x.cls x.name x.desc).before args s = true) : IM x s := by
  obtain ⟨r0, r, hn, hrm, hstR, hsigR⟩ := Cond.declares_spec hdecl
  obtain ⟨cL, kL, r1, hcL, hkL, hiL, hfoundL, hn1⟩ := Cond.interfaceMethod_spec hface
  cases hn.symm.trans hn1
  have hr0cls : r0.cls = cL := Option.some.inj ((findClass_of_methodNamed hn).symm.trans hcL)
  obtain ⟨hnameR, hdescR⟩ := name_of_methodNamed hn hrm
  exact ⟨cL, kL, r0, r, hcL, hkL, hiL, hn, hr0cls, hrm, hstR, hnameR, hdescR, hsigR, hfoundL⟩
theorem IM.mv {x : MethodName} {s U : State} (hW : s.vm.Alike U.vm) (h : IM x s) : IM x U := by
  obtain ⟨cL, kL, r0, r, h1, h2, h3, h4, h5, h6, h7, h8, h9, h10, h11⟩ := h
  obtain ⟨k', hk', he⟩ := hW.2.2 _ _ h2
  have hm' : U.methodNamed? x = some r0 := by
    have := State.methodNamed?_setVm (s := s) hW x
    rw [h4] at this
    exact this
  have hf' : U.methodFound? x.cls x.name x.desc = some r0 := by
    have := State.methodFound?_setVm (s := s) hW x.cls x.name x.desc
    rw [h11] at this
    exact this
  exact ⟨cL, k', r0, r, by rw [hW.findClass]; exact h1, hk', by rw [he]; exact h3, hm', h5, by rw [hW.method?]; exact h6, h7, h8, h9, h10, hf'⟩
/-! a class's file, and what is known of its record -/
def fwB : ByteArray := ⟨#[0x2a, 0xb4, 0x00, 0x0f, 0x1b, 0xb6, 0x00, 0x16, 0xac]⟩
theorem fwB_0 : decode fwB 0 = .ok (.aload_n 0, 1) := by decide +kernel
theorem fwB_1 : decode fwB 1 = .ok (.getfield 15, 3) := by decide +kernel
theorem fwB_4 : decode fwB 4 = .ok (.iload_n 1, 1) := by decide +kernel
theorem fwB_5 : decode fwB 5 = .ok (.invokevirtual 22, 3) := by decide +kernel
theorem fwB_8 : decode fwB 8 = .ok (.ireturn, 1) := by decide +kernel
/-- the file of a lambda that captures one object, and calls its method -/
def Sh1 (σ : Jvm.Lambda.Shape) (dn : String) (rt : FieldType) : Prop :=
  ∃ (F : ClassFile) (fw : Method) (ld : Array Field × Array FieldType × Array FieldType) (x : Code) (f0 : Field) (tn : String), σ.file dn = some F ∧ (layoutMethods F).bind (·[1]?) = some fw ∧ layoutFields F 0 = some ld ∧ fw.code = some x ∧ ld.1[0]? = some f0 ∧
    (x.code.data = fwB.data ∧ x.maxLocals = 2 ∧ fw.accessFlags = 1 ∧ fw.sig.returnType = some rt) ∧
    (F.constantPool[22]? = some (.methodref 19 21) ∧ F.constantPool.className? 19 = some σ.implClass ∧ F.constantPool.nameAndType? 21 = some (σ.implName, σ.implDesc.toString)) ∧
    (F.constantPool[19]? = some (.class_ 18) ∧ F.constantPool.string? 18 = some σ.implClass ∧ 19 ≠ F.thisClass) ∧
    (F.constantPool[15]? = some (.fieldref 2 14) ∧ (F.constantPool.nameAndType? 14).map (·.1) = some "arg$1" ∧ ld.1.findIdx? (·.name == "arg$1") = some 0 ∧ f0.isStatic = false ∧ f0.slot = 0) ∧
    ld.2.1 = #[.object tn] ∧ σ.implItf = false
def sh1B (σ : Jvm.Lambda.Shape) (dn : String) (rt : FieldType) (tn : String) : Bool :=
  match σ.file dn with
  | none => false
  | some F => match (layoutMethods F).bind (·[1]?), layoutFields F 0 with
    | some fw, some ld => match fw.code, ld.1[0]? with
      | some x, some f0 =>
        decide (x.code.data = fwB.data ∧ x.maxLocals = 2 ∧ fw.accessFlags = 1 ∧ fw.sig.returnType = some rt) &&
        decide (F.constantPool[22]? = some (.methodref 19 21) ∧ F.constantPool.className? 19 = some σ.implClass ∧ F.constantPool.nameAndType? 21 = some (σ.implName, σ.implDesc.toString)) &&
        decide (F.constantPool[19]? = some (.class_ 18) ∧ F.constantPool.string? 18 = some σ.implClass ∧ 19 ≠ F.thisClass) &&
        decide (F.constantPool[15]? = some (.fieldref 2 14) ∧ (F.constantPool.nameAndType? 14).map (·.1) = some "arg$1" ∧ ld.1.findIdx? (·.name == "arg$1") = some 0 ∧ f0.isStatic = false ∧ f0.slot = 0) &&
        decide (ld.2.1 = #[.object tn] ∧ σ.implItf = false)
      | _, _ => false
    | _, _ => false
theorem sh1_of {σ : Jvm.Lambda.Shape} {dn : String} {rt : FieldType} {tn : String} (h : sh1B σ dn rt tn = true) : Sh1 σ dn rt := by
  unfold sh1B at h
  split at h
  · cases h
  · rename_i F hF
    split at h
    · rename_i fw ld h1 h2
      split at h
      · rename_i x f0 h3 h4
        simp only [Bool.and_eq_true, decide_eq_true_eq] at h
        obtain ⟨⟨⟨⟨a1, a2⟩, a3⟩, a4⟩, a5⟩ := h
        exact ⟨F, fw, ld, x, f0, tn, hF, h1, h2, h3, h4, a1, a2, a3, a4, a5⟩
      · cases h
    · cases h
/-- what the class's record holds -/
def MR1 (vm : Vm) (cK : ClassId) (σ : Jvm.Lambda.Shape) (dn : String) (rt : FieldType) : Prop :=
  ∃ (k tk : Class) (file : ClassFile) (methk : Method) (ck : Code) (tc : ClassId) (t : MethodId) (f0 : Field) (tn : String), (vm.classes[cK]? = some k ∧ k.name = dn ++ "$$Lambda" ∧ k.cf = some file ∧ file.constantPool[22]? = some (.methodref 19 21)) ∧
    (vm.method? ⟨cK, 1⟩ = some methk ∧ methk.code = some ck ∧ ck.code = fwB ∧ ck.maxLocals = 2 ∧ methk.locks = false ∧ methk.accessFlags = 0x0001 ∧ methk.sig.returnType = some rt) ∧
    (vm.findClass σ.implClass = some tc ∧ vm.classes[tc]? = some tk ∧ tk.isInterface = false ∧ ((methodIn tc σ.implName σ.implDesc.toString tk.isInterface none).ask noP vm).1 = .ok t) ∧
    (vm.methodReady cK 22 t ∧ vm.classReady cK 19 tc ∧ vm.fieldReady cK 15 cK f0 ∧ f0.isStatic = false ∧ f0.slot = 0) ∧ k.instanceTypes = #[.object tn] ∧ k.kind = .ordinary
def Ob0 (vm : Vm) : Prop := ∀ o ok, vm.findClass "java/lang/Object" = some o → vm.classes[o]? = some ok → ok.instanceTypes = #[]
theorem ob0_of {args : Array Value} {s : State} (h : (Cond.instantiable "java/lang/Object" 0).before args s = true) : Ob0 s.vm := by
  intro o ok h1 h2
  obtain ⟨cO, kO, hfO, hkO, -, -, -, hsz⟩ := Cond.instantiable_spec h
  cases hfO.symm.trans h1
  cases hkO.symm.trans h2
  exact Array.eq_empty_of_size_eq_zero hsz
theorem Ob0.mv {vm vm' : Vm} (hA : vm.Alike vm') (h : Ob0 vm) : Ob0 vm' := by
  intro o ok h1 h2
  rw [hA.findClass] at h1
  cases hk : vm.classes[o]? with
  | none => rw [hA.none hk] at h2; cases h2
  | some k =>
    obtain ⟨k', hk', he⟩ := hA.2.2 _ _ hk
    cases h2.symm.trans hk'
    have := h o k h1 hk
    rw [he]
    exact this
theorem second_of {F : ClassFile} {fw : Method} (h : (layoutMethods F).bind (·[1]?) = some fw) : ∀ ms, layoutMethods F = some ms → ms[1]? = some fw := by
  intro ms hms
  rw [hms] at h
  exact h
theorem madeC1 {σ : Jvm.Lambda.Shape} {dn : String} {rt : FieldType} {vm : Vm} {d cK : ClassId} {dk : Class} (hSh : Sh1 σ dn rt) (hd : vm.classes[d]? = some dk) (hname : dk.name = dn) (h : Jvm.Lambda.isMade noP vm d σ cK = true) (hO : Ob0 vm) : MR1 vm cK σ dn rt := by
  obtain ⟨F, fw, ld, x, f0, tn, hF, h1, h2, h3, h4, ⟨a1, a2, a3, a4⟩, eM, eC, ⟨e1, e2, e3, e4, e5⟩, hty, hit⟩ := hSh
  obtain ⟨dk', k, ok, tk, file, cf, object, iface, toy, lay, methods, target, found, hd', hk, hfile, hcf, hobj, -, hok, hlay, hms, ht, htk, hg, -, hrec, -, -, -, hitf, hpool, hmeth, hfields, htyp, hres, -⟩ := Jvm.Lambda.isMade_spec h
  cases hd.symm.trans hd'
  rw [hname, hF] at hcf
  cases hcf
  have hemp := hO object ok hobj hok
  rw [hemp] at hlay
  cases h2.symm.trans hlay
  obtain ⟨b, hb, hsame⟩ := hmeth 1 fw (second_of h1 methods hms)
  obtain ⟨-, -, hsig, hfl, x', y, hx', hy, -, hyl, hyc, -⟩ := Jvm.Lambda.sameMethod_spec hsame
  cases h3.symm.trans hx'
  obtain ⟨⟨nm, ds⟩, e2a, e2b⟩ := Option.map_eq_some_iff.mp e2
  dsimp only at e2b
  subst e2b
  refine ⟨k, tk, file, b, y, toy, target, f0, tn, ⟨hk, by rw [hrec.1, hname], hfile, by rw [hpool.2.1]; exact eM.1⟩, ⟨by simp [Vm.method?, hk, hb], hy, by rw [hyc]; exact ByteArray.ext a1, by rw [hyl]; exact a2, ?_, by rw [hfl]; exact a3, by rw [hsig]; exact a4⟩, ⟨ht, htk, by rw [hitf]; exact hit, hg⟩,
    ⟨⟨k, hk, hres 22 _ (Jvm.Lambda.resolvedOf_method eM.1 eM.2.1 ht htk eM.2.2 hg)⟩, ⟨k, hk, hres 19 _ (Jvm.Lambda.resolvedOf_class eC.1 eC.2.2 eC.2.1 ht)⟩, ⟨k, 0, k, hk, hres 15 _ (Jvm.Lambda.resolvedOf_field e1 e2a e3), hk, hfields 0 _ h4⟩, e4, e5⟩, by rw [htyp.1, hemp, hty]; simp, hrec.2.1⟩
  simp [Method.locks, Method.isSynchronized, hfl, a3, hasFlag, Acc.synchronized]
theorem LamS.made1 {x : MethodName} {pc index : Nat} {σ : Jvm.Lambda.Shape} {cK : ClassId} {rt : FieldType} {U : State} (h : LamS x pc index σ cK U) (hSh : Sh1 σ x.cls rt) (hO : Ob0 U.vm) : MR1 U.vm cK σ x.cls rt := by
  obtain ⟨m, k, cf, i0, p0, h1, h2, h3, h4, h5, h6, h7⟩ := h
  obtain ⟨k', hk', hnm⟩ := className_of_methodNamed h1
  cases h2.symm.trans hk'
  exact madeC1 hSh h2 hnm h6 hO
theorem shape_arr {α : Type} {x : Array Nat} {f : Nat → Nat → Nat → Option α} {r : α} (h : Jvm.Lambda.shapeOf?.match_15 (fun _ => Option α) x f (fun _ => none) = some r) : ∃ a0 a1 a2, f a0 a1 a2 = some r := by
  rcases x with ⟨L⟩
  match L, h with
  | [], h => cases h
  | [_], h => cases h
  | [_, _], h => cases h
  | [a, b, c], h => exact ⟨a, b, c, h⟩
  | _ :: _ :: _ :: _ :: _, h => cases h
theorem shape_site {cf : ClassFile} {index : Nat} {σ : Jvm.Lambda.Shape} (h : Jvm.Lambda.shapeOf? cf index = some σ) :
    ∃ (b nt : Nat) (desc : String) (site : MethodDescriptor), cf.constantPool[index]? = some (.invokeDynamic b nt) ∧ cf.constantPool.nameAndType? nt = some (σ.name, desc) ∧ parseMethodDescriptor desc = some site ∧ site.parameters = σ.captured := by
  unfold Jvm.Lambda.shapeOf? at h
  split at h
  · rename_i b nt hc
    obtain ⟨entries, -, h⟩ := Option.bind_eq_some_iff.mp h
    obtain ⟨bm, -, h⟩ := Option.bind_eq_some_iff.mp h
    split at h
    · obtain ⟨_, -, h⟩ := Option.bind_eq_some_iff.mp h
      obtain ⟨_, _, _, h⟩ := shape_arr h
      split at h
      · split at h
        · split at h
          · obtain ⟨⟨name, desc⟩, hnt, h⟩ := Option.bind_eq_some_iff.mp h
            obtain ⟨site, hsite, h⟩ := Option.bind_eq_some_iff.mp h
            split at h
            · obtain ⟨⟨implClass, implName, implDesc, implItf⟩, -, h⟩ := Option.bind_eq_some_iff.mp h
              obtain ⟨x1, -, h⟩ := Option.bind_eq_some_iff.mp h
              obtain ⟨x2, -, h⟩ := Option.bind_eq_some_iff.mp h
              obtain ⟨x3, -, h⟩ := Option.bind_eq_some_iff.mp h
              obtain ⟨x4, -, h⟩ := Option.bind_eq_some_iff.mp h
              obtain ⟨x5, -, h⟩ := Option.bind_eq_some_iff.mp h
              cases h
              exact ⟨b, nt, desc, site, hc, hnt, hsite, rfl⟩
            · cases h
          · cases h
        · cases h
      · cases h
    · cases h
  · cases h
/-! the same of a lambda that captures two objects and calls a static method -/
def fwS : ByteArray := ⟨#[0x2a, 0xb4, 0x00, 0x11, 0x2a, 0xb4, 0x00, 0x13, 0x1b, 0xb8, 0x00, 0x1b, 0xac]⟩
theorem fwS_0 : decode fwS 0 = .ok (.aload_n 0, 1) := by decide +kernel
theorem fwS_1 : decode fwS 1 = .ok (.getfield 17, 3) := by decide +kernel
theorem fwS_4 : decode fwS 4 = .ok (.aload_n 0, 1) := by decide +kernel
theorem fwS_5 : decode fwS 5 = .ok (.getfield 19, 3) := by decide +kernel
theorem fwS_8 : decode fwS 8 = .ok (.iload_n 1, 1) := by decide +kernel
theorem fwS_9 : decode fwS 9 = .ok (.invokestatic 27, 3) := by decide +kernel
theorem fwS_12 : decode fwS 12 = .ok (.ireturn, 1) := by decide +kernel
def Sh2 (σ : Jvm.Lambda.Shape) (dn : String) (rt : FieldType) : Prop :=
  ∃ (F : ClassFile) (fw : Method) (ld : Array Field × Array FieldType × Array FieldType) (x : Code) (f0 f1 : Field) (tn tm : String), σ.file dn = some F ∧ (layoutMethods F).bind (·[1]?) = some fw ∧ layoutFields F 0 = some ld ∧ fw.code = some x ∧ ld.1[0]? = some f0 ∧ ld.1[1]? = some f1 ∧
    (x.code.data = fwS.data ∧ x.maxLocals = 2 ∧ fw.accessFlags = 1 ∧ fw.sig.returnType = some rt) ∧
    (F.constantPool[27]? = some (.methodref 23 26) ∧ F.constantPool.className? 23 = some σ.implClass ∧ F.constantPool.nameAndType? 26 = some (σ.implName, σ.implDesc.toString)) ∧
    (F.constantPool[23]? = some (.class_ 22) ∧ F.constantPool.string? 22 = some σ.implClass ∧ 23 ≠ F.thisClass) ∧
    (F.constantPool[17]? = some (.fieldref 2 16) ∧ (F.constantPool.nameAndType? 16).map (·.1) = some "arg$1" ∧ ld.1.findIdx? (·.name == "arg$1") = some 0 ∧ f0.isStatic = false ∧ f0.slot = 0) ∧
    (F.constantPool[19]? = some (.fieldref 2 18) ∧ (F.constantPool.nameAndType? 18).map (·.1) = some "arg$2" ∧ ld.1.findIdx? (·.name == "arg$2") = some 1 ∧ f1.isStatic = false ∧ f1.slot = 1) ∧
    ld.2.1 = #[.object tn, .object tm] ∧ σ.implItf = false
def sh2B (σ : Jvm.Lambda.Shape) (dn : String) (rt : FieldType) (tn tm : String) : Bool :=
  match σ.file dn with
  | none => false
  | some F => match (layoutMethods F).bind (·[1]?), layoutFields F 0 with
    | some fw, some ld => match fw.code, ld.1[0]?, ld.1[1]? with
      | some x, some f0, some f1 =>
        decide (x.code.data = fwS.data ∧ x.maxLocals = 2 ∧ fw.accessFlags = 1 ∧ fw.sig.returnType = some rt) &&
        decide (F.constantPool[27]? = some (.methodref 23 26) ∧ F.constantPool.className? 23 = some σ.implClass ∧ F.constantPool.nameAndType? 26 = some (σ.implName, σ.implDesc.toString)) &&
        decide (F.constantPool[23]? = some (.class_ 22) ∧ F.constantPool.string? 22 = some σ.implClass ∧ 23 ≠ F.thisClass) &&
        decide (F.constantPool[17]? = some (.fieldref 2 16) ∧ (F.constantPool.nameAndType? 16).map (·.1) = some "arg$1" ∧ ld.1.findIdx? (·.name == "arg$1") = some 0 ∧ f0.isStatic = false ∧ f0.slot = 0) &&
        decide (F.constantPool[19]? = some (.fieldref 2 18) ∧ (F.constantPool.nameAndType? 18).map (·.1) = some "arg$2" ∧ ld.1.findIdx? (·.name == "arg$2") = some 1 ∧ f1.isStatic = false ∧ f1.slot = 1) &&
        decide (ld.2.1 = #[.object tn, .object tm] ∧ σ.implItf = false)
      | _, _, _ => false
    | _, _ => false
theorem sh2_of {σ : Jvm.Lambda.Shape} {dn : String} {rt : FieldType} {tn tm : String} (h : sh2B σ dn rt tn tm = true) : Sh2 σ dn rt := by
  unfold sh2B at h
  split at h
  · cases h
  · rename_i F hF
    split at h
    · rename_i fw ld h1 h2
      split at h
      · rename_i x f0 f1 h3 h4 h5
        simp only [Bool.and_eq_true, decide_eq_true_eq] at h
        obtain ⟨⟨⟨⟨⟨a1, a2⟩, a3⟩, a4⟩, a5⟩, a6⟩ := h
        exact ⟨F, fw, ld, x, f0, f1, tn, tm, hF, h1, h2, h3, h4, h5, a1, a2, a3, a4, a5, a6⟩
      · cases h
    · cases h
def MR2 (vm : Vm) (cK : ClassId) (σ : Jvm.Lambda.Shape) (dn : String) (rt : FieldType) : Prop :=
  ∃ (k tk : Class) (file : ClassFile) (methk : Method) (ck : Code) (tc : ClassId) (t : MethodId) (f0 f1 : Field) (tn tm : String), (vm.classes[cK]? = some k ∧ k.name = dn ++ "$$Lambda" ∧ k.cf = some file ∧ file.constantPool[27]? = some (.methodref 23 26) ∧ file.constantPool.nameAndType? 26 = some (σ.implName, σ.implDesc.toString)) ∧
    (vm.method? ⟨cK, 1⟩ = some methk ∧ methk.code = some ck ∧ ck.code = fwS ∧ ck.maxLocals = 2 ∧ methk.locks = false ∧ methk.accessFlags = 0x0001 ∧ methk.sig.returnType = some rt) ∧
    (vm.findClass σ.implClass = some tc ∧ vm.classes[tc]? = some tk ∧ tk.isInterface = false ∧ ((methodIn tc σ.implName σ.implDesc.toString tk.isInterface none).ask noP vm).1 = .ok t) ∧
    (vm.methodReady cK 27 t ∧ vm.classReady cK 23 tc ∧ (vm.fieldReady cK 17 cK f0 ∧ f0.isStatic = false ∧ f0.slot = 0) ∧ (vm.fieldReady cK 19 cK f1 ∧ f1.isStatic = false ∧ f1.slot = 1)) ∧ k.instanceTypes = #[.object tn, .object tm] ∧ k.kind = .ordinary
theorem madeC2 {σ : Jvm.Lambda.Shape} {dn : String} {rt : FieldType} {vm : Vm} {d cK : ClassId} {dk : Class} (hSh : Sh2 σ dn rt) (hd : vm.classes[d]? = some dk) (hname : dk.name = dn) (h : Jvm.Lambda.isMade noP vm d σ cK = true) (hO : Ob0 vm) : MR2 vm cK σ dn rt := by
  obtain ⟨F, fw, ld, x, f0, f1, tn, tm, hF, h1, h2, h3, h4, h4', ⟨a1, a2, a3, a4⟩, eM, eC, ⟨e1, e2, e3, e4, e5⟩, ⟨g1, g2, g3, g4, g5⟩, hty, hit⟩ := hSh
  obtain ⟨dk', k, ok, tk, file, cf, object, iface, toy, lay, methods, target, found, hd', hk, hfile, hcf, hobj, -, hok, hlay, hms, ht, htk, hg, -, hrec, -, -, -, hitf, hpool, hmeth, hfields, htyp, hres, -⟩ := Jvm.Lambda.isMade_spec h
  cases hd.symm.trans hd'
  rw [hname, hF] at hcf
  cases hcf
  have hemp := hO object ok hobj hok
  rw [hemp] at hlay
  cases h2.symm.trans hlay
  obtain ⟨b, hb, hsame⟩ := hmeth 1 fw (second_of h1 methods hms)
  obtain ⟨-, -, hsig, hfl, x', y, hx', hy, -, hyl, hyc, -⟩ := Jvm.Lambda.sameMethod_spec hsame
  cases h3.symm.trans hx'
  obtain ⟨⟨nm, ds⟩, e2a, e2b⟩ := Option.map_eq_some_iff.mp e2
  dsimp only at e2b
  subst e2b
  obtain ⟨⟨nm2, ds2⟩, g2a, g2b⟩ := Option.map_eq_some_iff.mp g2
  dsimp only at g2b
  subst g2b
  refine ⟨k, tk, file, b, y, toy, target, f0, f1, tn, tm, ⟨hk, by rw [hrec.1, hname], hfile, by rw [hpool.2.1]; exact eM.1, by rw [hpool.2.1]; exact eM.2.2⟩, ⟨by simp [Vm.method?, hk, hb], hy, by rw [hyc]; exact ByteArray.ext a1, by rw [hyl]; exact a2, ?_, by rw [hfl]; exact a3, by rw [hsig]; exact a4⟩, ⟨ht, htk, by rw [hitf]; exact hit, hg⟩,
    ⟨⟨k, hk, hres 27 _ (Jvm.Lambda.resolvedOf_method eM.1 eM.2.1 ht htk eM.2.2 hg)⟩, ⟨k, hk, hres 23 _ (Jvm.Lambda.resolvedOf_class eC.1 eC.2.2 eC.2.1 ht)⟩, ⟨⟨k, 0, k, hk, hres 17 _ (Jvm.Lambda.resolvedOf_field e1 e2a e3), hk, hfields 0 _ h4⟩, e4, e5⟩, ⟨⟨k, 1, k, hk, hres 19 _ (Jvm.Lambda.resolvedOf_field g1 g2a g3), hk, hfields 1 _ h4'⟩, g4, g5⟩⟩, by rw [htyp.1, hemp, hty]; simp, hrec.2.1⟩
  simp [Method.locks, Method.isSynchronized, hfl, a3, hasFlag, Acc.synchronized]
theorem LamS.made2 {x : MethodName} {pc index : Nat} {σ : Jvm.Lambda.Shape} {cK : ClassId} {rt : FieldType} {U : State} (h : LamS x pc index σ cK U) (hSh : Sh2 σ x.cls rt) (hO : Ob0 U.vm) : MR2 U.vm cK σ x.cls rt := by
  obtain ⟨m, k, cf, i0, p0, h1, h2, h3, h4, h5, h6, h7⟩ := h
  obtain ⟨k', hk', hnm⟩ := className_of_methodNamed h1
  cases h2.symm.trans hk'
  exact madeC2 hSh h2 hnm h6 hO
end LAM
