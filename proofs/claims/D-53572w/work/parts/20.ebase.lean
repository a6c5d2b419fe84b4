/-! contracts with an unknown outcome u : S (new addresses, pictures of the heap behind) -/
def QE {S : Type} (Ψ : S → Heap → Prop) (v : S → Option Value) (D : va_G) (W1 : S → va_W) (A : Nat → Prop) : Array Value → State → Outcome → State → Prop := fun _ st o t => ∃ u : S, o = .returned (v u) ∧ Ψ u t.heap ∧ va_P D vwCl (W1 u) t.heap ∧ va_D A (W1 u) ∧ va_F A st t
abbrev PE (Γ : State → Prop) (D : va_G) (W0 : va_W) (Φ : Heap → Prop) (sz : Nat) : State → Prop := fun U => Γ U ∧ U.heap.size = sz ∧ va_P D vwCl W0 U.heap ∧ va_D (fun _ => True) W0 ∧ Φ U.heap
def EX (l : Launch) (y : MethodName) (cc : ByteArray) (nL : Nat) (ret : Option FieldType) (d lo mc ms : Nat) (as : List Value) (Γ : State → Prop) (D : va_G) (W0 : va_W) (Φ : Heap → Prop) {S : Type} (Ψ : S → Heap → Prop) (v : S → Option Value) (W1 : S → va_W) : Prop :=
  ∀ sz, Met l y (ws_ y cc nL ret) (rmW d lo mc ms) (va_Pc as (PE Γ D W0 Φ sz)) (QE Ψ v D W1 (va_A W0 sz)) mc ms (va_A W0 sz)
theorem ex_of {l : Launch} {y : MethodName} {cc : ByteArray} {nL : Nat} {ret : Option FieldType} {d lo mc ms : Nat} {as : List Value} {Γ : State → Prop} {D : va_G} {W0 : va_W} {Φ : Heap → Prop} {S : Type} {Ψ : S → Heap → Prop} {v : S → Option Value} {W1 : S → va_W} (hy : plainName y.cls = true) (hn : (lg_sl as).length ≤ nL)
    (body : ∀ (p : Program) (e : Env) (s : State) (m : MethodId) (below : List Frame) (meth : Method) (c : Code) (A : Nat → Prop), CallFix p m c cc nL s as.toArray lw_all y.cls → meth.sig.returnType = ret → meth.locks = false → meth.name = y.name → Γ s → (∀ q : Nat, s.heap.size ≤ q → A q) → va_A W0 s.heap.size = A → Φ s.heap → ∀ (H : Heap) (locs : List Loc), va_P D vwCl W0 H → va_D A W0 → va_S A s.heap H locs → ∀ ls, lv_has ls nL (lv_args 0 as) →
      W p l e (rmW d lo mc ms) s m as.toArray below meth c H locs 0 0 (MQ below (QE Ψ v D W1 A) as.toArray s mc ms A) (F0 m 0 ls [])) : EX l y cc nL ret d lo mc ms as Γ D W0 Φ Ψ v W1 := by
  intro sz
  refine Met.ofW (cc := cc) (maxL := nL) (ret := ret) hy rfl ?_
  intro p e s m args below meth c s₁ B hml hv
  obtain ⟨rfl, hG, hsz, hP, hD0, hΦ⟩ := hv
  subst hsz
  have hts := atoms_spec (ws := ws_ y cc nL ret) B.pre
  have hts : ∀ w ∈ lw_all, w.before _ s = true := fun w h => hts w (List.mem_cons_of_mem _ h)
  have hown : s.vm.findClass y.cls = some m.cls := findClass_of_methodNamed B.named
  have hl := lv_entry as (n := nL) hn
  rw [lg_entry_eq]
  exact body p e s m below meth c _ ⟨B.exec, B.bytes, hml, hown, hts⟩ B.returns B.notSynchronized (name_of_methodNamed B.named B.method).1 hG (fun q h => Or.inr h) rfl hΦ s.heap [] hP hD0.self va_S.rf _ hl
theorem pe_blind {Γ : State → Prop} {D : va_G} {W0 : va_W} {Φ : Heap → Prop} {sz : Nat} (h : BlG Γ) (as : List Value) : FrameBlind (va_Pc as (PE Γ D W0 Φ sz)) := fun a U g mk q => ⟨q.1, h U g mk a q.2.1, q.2.2.1, q.2.2.2.1, q.2.2.2.2.1, q.2.2.2.2.2⟩
theorem pe_pre {Γ : State → Prop} {D : va_G} {W0 : va_W} {Φ : Heap → Prop} {A : Nat → Prop} {s : State} {H : Heap} (hG : ∀ U : State, U.heap = H → s.WarmedH U.vm → Γ U) (hP : va_P D vwCl W0 H) (hD : va_D A W0) (hΦ : Φ H) (as : List Value) : ∀ U : State, U.heap = H → s.WarmedH U.vm → va_Pc as (PE Γ D W0 Φ H.size) as.toArray U := fun U hU hW => ⟨rfl, hG U hU hW, by rw [hU], by rw [hU]; exact hP, hD.weaken (fun _ _ _ _ => trivial), by rw [hU]; exact hΦ⟩
theorem ka_mv {D : va_G} {dA : Nat → ClassId} {s : State} {H : Heap} (K : KA D dA s) : ∀ U : State, U.heap = H → s.WarmedH U.vm → KA D dA U := fun _ _ hW => va_K.moved hW.alike K
section XE
variable {p : Program} {l : Launch} {e : Env} {R : Room} {s : State} {m : MethodId} {args : Array Value} {below : List Frame} {meth : Method} {c : Code} {H : Heap} {locs : List Loc} {cells slots : Nat} {Q : State → Prop} {cc : ByteArray} {pc : Nat} {ls : Array Slot} {rest st0 : List Value}
theorem x_ecall {S : Type} {Ψ : S → Heap → Prop} {v : S → Option Value} {a : Array Value} {D : va_G} {A : Nat → Prop} {H0 : Heap} {ws wc wr : va_W} {W1 : S → va_W} {mc ms : Nat} (hr : va_Run p l e R s m args below meth c H locs cells slots mc ms (F0 m pc ls st0) rest (QE Ψ v D W1 (va_A wc H.size) a) (va_A wc H.size)) (hP : va_P D vwCl ws H) (hD : va_D A ws) (hS : va_S A H0 H locs) (hA : ∀ q, H0.size ≤ q → A q)
    (isC isR : List Nat) (hC : isC.map (fun i => ws[i]?) = wc.map some) (hR : isR.map (fun i => ws[i]?) = wr.map some) (hn : va_nd isR = true) (hdis : ∀ i ∈ isR, i ∉ isC)
    (kk : ∀ (u : S) (H1 : Heap) (locs1 : List Loc), Ψ u H1 → va_P D vwCl (wr ++ W1 u) H1 → va_D A (wr ++ W1 u) → va_S A H0 H1 locs1 → (∀ q : Nat, q < H.size → ¬ va_A wc H.size q → H1[q]? = H[q]?) → H.size ≤ H1.size → va_D (va_A wc H.size) (W1 u) → W p l e R s m args below meth c H1 locs1 (cells + mc) (slots + ms) Q (F0 m (pc + 3) ls ((v u).toList ++ rest))) : W p l e R s m args below meth c H locs cells slots Q (F0 m pc ls st0) := by
  intro T hT X
  obtain ⟨v', st₀, t, T', L, h0, X', hL, e1, e2, ⟨u, hv, hΨ, hP1, hD1, hz, hk⟩, st⟩ := hr T hT X
  cases hv
  have hF := va_free (wc := wc) hD hS hA isC hC
  rw [h0] at hz hk
  have hk' : ∀ q : Nat, q < H.size → ¬ va_A wc H.size q → T'.heap[q]? = H[q]? := fun q h1 h2 => by rw [e1]; exact hk q h1 h2
  rw [← e1] at hP1 hΨ
  obtain ⟨hP', hD'⟩ := va_join hP hD isC isR hC hR hn hdis hk' hF hP1 hD1
  obtain ⟨t2, a1, b1⟩ := kk u T'.heap (locs ++ L) hΨ hP' hD' ⟨Nat.le_trans hS.1 (by rw [e1]; exact hz), fun q h1 h2 => by rw [hk' q (Nat.lt_of_lt_of_le h1 hS.1) (fun z => h2 (hF q z))]; exact hS.2.1 q h1 h2, fun q hq => by
      rcases List.mem_append.mp hq with h | h
      · exact hS.2.2 q h
      · exact hF _ (hL q h)⟩ hk' (by rw [e1]; exact hz) hD1 T' rfl X'
  exact ⟨t2, st t2 a1, b1⟩
theorem x_eiret {S : Type} {Ψ : S → Heap → Prop} {v : S → Option Value} {D : va_G} {A : Nat → Prop} {W1 : S → va_W} {w : Int32} {mc ms : Nat} (u : S) (hexec : p.tables.exec = Jvm.exec) (hb : c.code = cc) (hr : meth.sig.returnType = some .int) (hlocks : meth.locks = false) (hv : v u = some (.int w)) (hΨ : Ψ u H) (hP : va_P D vwCl (W1 u) H) (hD : va_D A (W1 u)) (hS : va_S A s.heap H locs) (hdg : decode cc pc = .ok (.ireturn, 1)) (hc : cells ≤ mc) (hs : slots ≤ ms) : W p l e R s m args below meth c H locs cells slots (MQ below (QE Ψ v D W1 A) args s mc ms A) (F0 m pc ls [.int w]) := by
  refine W.widen hc hs ?_
  exact W.iret hexec hb hr (fun t ht hW => ⟨u, by rw [hv], by rw [ht]; exact hΨ, by rw [ht]; exact hP, hD, hS.F ht⟩) hS.2.2 hdg hlocks
theorem x_ezret {S : Type} {Ψ : S → Heap → Prop} {v : S → Option Value} {D : va_G} {A : Nat → Prop} {W1 : S → va_W} {w : Bool} {mc ms : Nat} (u : S) (hexec : p.tables.exec = Jvm.exec) (hb : c.code = cc) (hr : meth.sig.returnType = some .boolean) (hlocks : meth.locks = false) (hv : v u = some (.int (bI w))) (hΨ : Ψ u H) (hP : va_P D vwCl (W1 u) H) (hD : va_D A (W1 u)) (hS : va_S A s.heap H locs) (hdg : decode cc pc = .ok (.ireturn, 1)) (hc : cells ≤ mc) (hs : slots ≤ ms) : W p l e R s m args below meth c H locs cells slots (MQ below (QE Ψ v D W1 A) args s mc ms A) (F0 m pc ls [.int (bI w)]) := by
  refine W.widen hc hs ?_
  exact W.zret hexec hb hr (narrow_bI w) (fun t ht hW => ⟨u, by rw [hv], by rw [ht]; exact hΨ, by rw [ht]; exact hP, hD, hS.F ht⟩) hS.2.2 hdg hlocks
theorem x_evret {S : Type} {Ψ : S → Heap → Prop} {v : S → Option Value} {D : va_G} {A : Nat → Prop} {W1 : S → va_W} {mc ms : Nat} (u : S) (hexec : p.tables.exec = Jvm.exec) (hb : c.code = cc) (hr : meth.sig.returnType = none) (hlocks : meth.locks = false) (hv : v u = none) (hΨ : Ψ u H) (hP : va_P D vwCl (W1 u) H) (hD : va_D A (W1 u)) (hS : va_S A s.heap H locs) (hdg : decode cc pc = .ok (.return_, 1)) (hc : cells ≤ mc) (hs : slots ≤ ms) : W p l e R s m args below meth c H locs cells slots (MQ below (QE Ψ v D W1 A) args s mc ms A) (F0 m pc ls []) := by
  refine W.widen hc hs ?_
  exact W.vret hexec hb hr (fun t ht hW => ⟨u, by rw [hv], by rw [ht]; exact hΨ, by rw [ht]; exact hP, hD, hS.F ht⟩) hS.2.2 hdg hlocks
theorem x_earet {S : Type} {Ψ : S → Heap → Prop} {v : S → Option Value} {D : va_G} {A : Nat → Prop} {W1 : S → va_W} {w : Nat} {rt : FieldType} {mc ms : Nat} (u : S) (hexec : p.tables.exec = Jvm.exec) (hb : c.code = cc) (hr : meth.sig.returnType = some rt) (hrt : (∃ n, rt = .object n) ∨ ∃ t, rt = .array t) (hlocks : meth.locks = false) (hv : v u = some (.ref w)) (hΨ : Ψ u H) (hP : va_P D vwCl (W1 u) H) (hD : va_D A (W1 u)) (hS : va_S A s.heap H locs) (hdg : decode cc pc = .ok (.areturn, 1)) (hc : cells ≤ mc) (hs : slots ≤ ms) : W p l e R s m args below meth c H locs cells slots (MQ below (QE Ψ v D W1 A) args s mc ms A) (F0 m pc ls [.ref w]) := by
  refine W.widen hc hs ?_
  exact W.aret hexec hb hr hrt (Or.inr ⟨w, rfl⟩) (fun t ht hW => ⟨u, by rw [hv], by rw [ht]; exact hΨ, by rw [ht]; exact hP, hD, hS.F ht⟩) hS.2.2 hdg hlocks
/-- an array of numbers is made, of the class that is known -/
theorem x_newa {D : va_G} {dA : Nat → ClassId} {A : Nat → Prop} {H0 : Heap} {ws : va_W} (hexec : p.tables.exec = Jvm.exec) (hb : c.code = cc) {atype : ArrayType} (harr : (Cond.arrayClass (newarray.typeOf atype)).before args s = true) {ty : FieldType} (hty : newarray.typeOf atype = ty) (hK : KA D dA s) (hP : va_P D vwCl ws H) (hD : va_D A ws) (hS : va_S A H0 H locs) (hA : ∀ q, H0.size ≤ q → A q)
    (t0 : Nat) (ht : (tysA dA)[t0]? = some (dA t0, ty)) (hra : ∀ cA, va_RA s cA ty = (s.vm.findClass ("[" ++ ty.toString) = some cA)) {N : Nat} (hdv : defaultValue ty = .int 0) (hN : N < 2 ^ 31) (hbytes : N * componentBytes ty ≤ 536870912) (hcells : cells + 1 ≤ R.cells) (hslots : slots + N ≤ R.slots) (hdg : decode cc pc = .ok (.newarray atype, 2))
    (kk : ∀ (q : Nat) (H1 : Heap), va_P D vwCl (ws ++ [(q, .inl (dA t0, N, .inl (fun _ => 0)))]) H1 → va_D A (ws ++ [(q, .inl (dA t0, N, .inl (fun _ => 0)))]) → va_S A H0 H1 locs →
      W p l e R s m args below meth c H1 locs (cells + 1) (slots + N) Q (F0 m (pc + 2) ls (.ref q :: rest))) : W p l e R s m args below meth c H locs cells slots Q (F0 m pc ls (.int (nI N) :: rest)) := by
  refine va_newa (a0 := (N, .inl (fun _ => 0))) hexec hb harr hty hK hP hD hS hA (fun cA => ?_) (nI_pos hN) (nI_clamp hN) hbytes hcells hslots hdg ?_
  · rw [hdv]; rfl
  · intro q cA H1 hK1 hP1 hD1 hS1
    have h1 := (hK.2 t0 _ ht).2
    have h2 := (hK1.2 4 (cA, ty) rfl).2
    rw [hra] at h1 h2
    have e : cA = dA t0 := Option.some.inj (h2.symm.trans h1)
    subst e
    exact kk q H1 hP1 hD1 hS1
end XE
