/-! read-only bodies, called without a word on their class's initialisation (Against's constants' own classes) -/
def ROb (l : Launch) (y : MethodName) (cc : ByteArray) (nL : Nat) (ret : Option FieldType) (d lo : Nat) (as : List Value) (Γ : State → Prop) (Φ : Heap → Prop) (v : Option Value) : Prop :=
  ∀ (p : Program) (e : Env) (s : State) (m : MethodId) (below : List Frame) (meth : Method) (c : Code), CallFix p m c cc nL s as.toArray lw_all y.cls → meth.sig.returnType = ret → meth.locks = false → Γ s → Φ s.heap → ∀ ls, lv_has ls nL (lv_args 0 as) →
      W p l e (rmR d lo) s m as.toArray below meth c s.heap [] 0 0 (MQ below (QRet v) as.toArray s 0 0 (fun _ => False)) (F0 m 0 ls [])
theorem back_ro {l : Launch} {y : MethodName} {cc : ByteArray} {nL : Nat} {ret : Option FieldType} {d lo : Nat} {as : List Value} {Γ : State → Prop} {Φ : Heap → Prop} {v : Option Value} {R : Room} {p : Program} {e : Env} {below : List Frame} {s : State} {sargs : Array Value}
    (hb : ROb l y cc nL ret d lo as Γ Φ v) (hy : plainName y.cls = true) (hn0 : (lg_sl as).length ≤ nL) (hexec : p.tables.exec = Jvm.exec) (hfr : d + 1 ≤ R.frames) (hlo : 8 + (nL + 11) + lo ≤ R.locals) (hts : ∀ w ∈ lw_all, w.before sargs s = true) (hcode : Cond.code y cc nL ret ∈ lw_all) (hbl : BlG Γ) :
    Back l R p e below s sargs y 3 8 (PreOf R 0 0 (va_Pc as (BB Γ Φ))) (PostOf (QRet v) 0 0 (fun _ => False)) := by
  intro m meth c A g ig mk a X hg hsize hdg hW hn hp
  obtain ⟨U, Ls, c0, s0⟩ := A
  obtain ⟨hp1, hp2, rfl, hΓ, hΦ⟩ := hp
  dsimp only [Pt.U, Pt.locs, Pt.cells, Pt.slots] at hp1 hp2 hΓ hΦ X hn ⊢
  have hws := pay_in hts lw_self
  have hcU : (Cond.code y cc nL ret).before as.toArray U = true := hws _ hcode as.toArray U X.warmed
  obtain ⟨methY, cY, hmY, hcY, hbytes, hlY, hret, hlk, -, -⟩ := Cond.code_spec hn hcU
  have hpl : U.plainMethod mk := by
    refine State.plainMethod.of_name ?_
    intro k hk
    obtain ⟨k', hk', hnm⟩ := className_of_methodNamed hn
    cases hk.symm.trans hk'
    rw [hnm]; exact hy
  obtain ⟨v', t, L, hq, hL, X', st⟩ := run_id X hg hsize hdg hW hmY hcY hlk hpl (rm := rmR d lo) hfr (by rw [hlY]; exact hlo) hp1 hp2 (a := as.toArray) (Qc := QRet v) (mc := 0) (ms := 0) (free := fun _ => False) (fun s₁ hh X1 => by
    have hl := lv_entry as (n := nL) hn0
    have hown : (U.calling g mk as.toArray).vm.findClass y.cls = some mk.cls := findClass_of_methodNamed hn
    have hts' : ∀ w ∈ lw_all, w.before as.toArray (U.calling g mk as.toArray) = true := fun w hw => hws w hw as.toArray (U.calling g mk as.toArray) X.warmed
    have k := hb p e (U.calling g mk as.toArray) mk (U.setTop g).frames methY cY ⟨hexec, hbytes, hlY, hown, hts'⟩ hret hlk (hbl U g mk as.toArray hΓ) hΦ _ hl
    rw [← lg_entry_eq] at k
    rw [hlY]
    exact k s₁ hh X1)
  exact ⟨v', ⟨_, _, _, _⟩, X', ⟨g, mk, t, L, rfl, rfl, hq, rfl, hL, rfl, rfl⟩, st⟩
section XUB
variable {p : Program} {l : Launch} {e : Env} {R : Room} {s : State} {m : MethodId} {args : Array Value} {below : List Frame} {meth : Method} {c : Code} {H : Heap} {locs : List Loc} {cells slots : Nat}
/-- invokevirtual of an abstract method x of 'owner', selected y, by a Back of y -/
theorem x_runUB {x y : MethodName} {bytes cc : ByteArray} {maxL nL mc ms n index : Nat} {ret : Option FieldType} {Pc : Array Value → State → Prop} {Qc : Array Value → State → Outcome → State → Prop} {free : Addr → Prop} {Ts : List Cond} {own C owner : String} {b : Addr} {As rest : List Value} {g : JFrame}
    (S : CallFix p m c cc nL s args Ts own) (hK : Back l R p e below s args y 3 8 (PreOf R mc ms Pc) (PostOf Qc mc ms free)) (hlink : (Cond.methodLink own index x).before args s = true) (hsame : (Cond.sameMethod x.cls owner x.name x.desc).before args s = true) (hdecl : va_Decl s ⟨owner, x.name, x.desc⟩) (howner : owner ≠ "java/lang/invoke/MethodHandle" ∧ owner ≠ "java/lang/invoke/VarHandle")
    (hsel : (Cond.selects C x y).before args s = true) (hinst : (Cond.instanceMethod y).before args s = true) (hcode : (Cond.code y bytes maxL ret).before args s = true) (hlen : (parseMethodDescriptor x.desc).map (fun d => d.parameters.length) = some n) (hp : PreV s H C b Pc As)
    (hg : g.method = m) (hn : As.length = n) (hsize : g.locals.size = nL) (hstack : g.stack = As.reverse ++ .ref b :: rest) (hW : 2 * g.monitorRoom + (rest.map fun v => v.category).sum ≤ 8) (hdg : decode cc g.pc = .ok (.invokevirtual index, 3)) (hf : cells + mc ≤ R.cells ∧ slots + ms ≤ R.slots) :
    va_Run p l e R s m args below meth c H locs cells slots mc ms g rest (Qc (Value.ref b :: As).toArray) (free) := by
  obtain ⟨hx, hb, hml, ho, -⟩ := S
  obtain ⟨-, ⟨cellB, hcB, hoB, hclB⟩, hPc⟩ := hp
  have hl2 : ∀ sig, parseMethodDescriptor x.desc = some sig → n = sig.parameters.length := fun sig h => by
    rw [h] at hlen
    exact (Option.some.inj hlen).symm
  intro T hT X
  obtain ⟨v, vm₁, ⟨U', l2, c2, s2⟩, hW₁, X', ⟨g', mk, t, L, e1, e2, hq, h1, hL, h2, h3⟩, st⟩ := va_callVU X hx (C := C) (owner := owner) (bytes := bytes) (maxL := maxL) (ret := ret) ho hlink hsame hdecl howner hsel hinst hcode hK (by rw [hT]; exact hcB) hoB hclB hg (hsize.trans hml.symm) (argsL := As) (rest := rest) (fun sig h => hn.trans (hl2 sig h)) hstack hW (by rw [hb]; exact hdg)
    (fun vm₁ hW₁ => ⟨hf.1, hf.2, hPc (T.setVm vm₁) hT hW₁⟩)
  dsimp only [Pt.U, Pt.locs, Pt.cells, Pt.slots] at X' e1 e2 h1 h2 h3 st
  subst h1; subst h2; subst h3
  exact ⟨v, (T.setVm vm₁).calling g' mk (Value.ref b :: As).toArray, t, U', L, hT, X', hL, e1, e2, hq, st⟩
end XUB
