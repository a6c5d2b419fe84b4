/-! contracts of methods that throw TextFault -/
def QT {S : Type} (qx : S → Nat) (Ψ : S → Heap → Prop) (D : va_G) (WX : S → va_W) (A : Nat → Prop) : Addr → String → State → State → Prop := fun q E st t => ∃ u : S, E = RX8 ∧ qx u = q ∧ Ψ u t.heap ∧ va_P D vwCl (WX u) t.heap ∧ va_D A (WX u) ∧ va_F A st t
def TX (l : Launch) (y : MethodName) (cc : ByteArray) (nL : Nat) (ret : Option FieldType) (d lo mc ms : Nat) (as : List Value) (Γ : State → Prop) (D : va_G) (W0 : va_W) (Φ : Heap → Prop) {S : Type} (Ψ : S → Heap → Prop) (v : S → Option Value) (W1 : S → va_W) {S2 : Type} (qx : S2 → Nat) (ΨX : S2 → Heap → Prop) (WX : S2 → va_W) : Prop :=
  ∀ sz, vq_Met l y (ws_ y cc nL ret) (rmW d lo mc ms) (va_Pc as (PE Γ D W0 Φ sz)) (QE Ψ v D W1 (va_A W0 sz)) (QT qx ΨX D WX (va_A W0 sz)) mc ms (va_A W0 sz)
theorem tx_of {l : Launch} {y : MethodName} {cc : ByteArray} {nL : Nat} {ret : Option FieldType} {d lo mc ms : Nat} {as : List Value} {Γ : State → Prop} {D : va_G} {W0 : va_W} {Φ : Heap → Prop} {S : Type} {Ψ : S → Heap → Prop} {v : S → Option Value} {W1 : S → va_W} {S2 : Type} {qx : S2 → Nat} {ΨX : S2 → Heap → Prop} {WX : S2 → va_W} (hy : plainName y.cls = true) (hn : (lg_sl as).length ≤ nL)
    (body : ∀ (p : Program) (e : Env) (s : State) (m : MethodId) (below : List Frame) (meth : Method) (c : Code) (A : Nat → Prop), CallFix p m c cc nL s as.toArray lw_all y.cls → meth.sig.returnType = ret → meth.locks = false → meth.name = y.name → (∀ x ∈ c.exceptionTable.toList, False) → Γ s → (∀ q : Nat, s.heap.size ≤ q → A q) → va_A W0 s.heap.size = A → Φ s.heap → ∀ (H : Heap) (locs : List Loc), va_P D vwCl W0 H → va_D A W0 → va_S A s.heap H locs → ∀ ls, lv_has ls nL (lv_args 0 as) →
      W p l e (rmW d lo mc ms) s m as.toArray below meth c H locs 0 0 (vq_MQ below (QE Ψ v D W1 A) (QT qx ΨX D WX A) as.toArray s mc ms A) (F0 m 0 ls [])) : TX l y cc nL ret d lo mc ms as Γ D W0 Φ Ψ v W1 qx ΨX WX := by
  intro sz
  refine vq_ofW (cc := cc) (maxL := nL) (ret := ret) hy rfl ?_
  intro p e s m args below meth c s₁ B hml ht hv
  obtain ⟨rfl, hG, hsz, hP, hD0, hΦ⟩ := hv
  subst hsz
  have hts := atoms_spec (ws := ws_ y cc nL ret) B.pre
  have hts : ∀ w ∈ lw_all, w.before _ s = true := fun w h => hts w (List.mem_cons_of_mem _ h)
  have hown : s.vm.findClass y.cls = some m.cls := findClass_of_methodNamed B.named
  have hl := lv_entry as (n := nL) hn
  rw [lg_entry_eq]
  exact body p e s m below meth c _ ⟨B.exec, B.bytes, hml, hown, hts⟩ B.returns B.notSynchronized (name_of_methodNamed B.named B.method).1 ht hG (fun q h => Or.inr h) rfl hΦ s.heap [] hP hD0.self va_S.rf _ hl
theorem ex_of0 {l : Launch} {y : MethodName} {cc : ByteArray} {nL : Nat} {ret : Option FieldType} {d lo mc ms : Nat} {as : List Value} {Γ : State → Prop} {D : va_G} {W0 : va_W} {Φ : Heap → Prop} {S : Type} {Ψ : S → Heap → Prop} {v : S → Option Value} {W1 : S → va_W} (hy : plainName y.cls = true) (hn : (lg_sl as).length ≤ nL)
    (body : ∀ (p : Program) (e : Env) (s : State) (m : MethodId) (below : List Frame) (meth : Method) (c : Code) (A : Nat → Prop), CallFix p m c cc nL s as.toArray lw_all y.cls → meth.sig.returnType = ret → meth.locks = false → meth.name = y.name → Γ s → (∀ q : Nat, s.heap.size ≤ q → A q) → va_A W0 s.heap.size = A → Φ s.heap → ∀ (H : Heap) (locs : List Loc), H = s.heap → locs = [] → va_P D vwCl W0 H → va_D A W0 → va_S A s.heap H locs → ∀ ls, lv_has ls nL (lv_args 0 as) →
      W p l e (rmW d lo mc ms) s m as.toArray below meth c H locs 0 0 (MQ below (QE Ψ v D W1 A) as.toArray s mc ms A) (F0 m 0 ls [])) : EX l y cc nL ret d lo mc ms as Γ D W0 Φ Ψ v W1 := by
  intro sz
  refine Met.ofW (cc := cc) (maxL := nL) (ret := ret) hy rfl ?_
  intro p e s m args below meth c s₁ B hml hv
  obtain ⟨rfl, hG, hsz, hP, hD0, hΦ⟩ := hv
  subst hsz
  have hts := atoms_spec (ws := ws_ y cc nL ret) B.pre
  have hts : ∀ w ∈ lw_all, w.before _ s = true := fun w h => hts w (List.mem_cons_of_mem _ h)
  have hown : s.vm.findClass y.cls = some m.cls := findClass_of_methodNamed B.named
  have hl := lv_entry as (n := nL) hn
  rw [lg_entry_eq]
  exact body p e s m below meth c _ ⟨B.exec, B.bytes, hml, hown, hts⟩ B.returns B.notSynchronized (name_of_methodNamed B.named B.method).1 hG (fun q h => Or.inr h) rfl hΦ s.heap [] rfl rfl hP hD0.self va_S.rf _ hl
theorem vD_sing {A : Nat → Prop} {a : Nat} {x y : va_E} (h : va_D A [(a, x)]) : va_D A [(a, y)] := by
  refine ⟨fun i j p q hi hj _ => ?_, fun k q hk => ?_⟩
  · have h1 := (List.getElem?_eq_some_iff.mp hi).1
    have h2 := (List.getElem?_eq_some_iff.mp hj).1
    simp only [List.length_cons, List.length_nil] at h1 h2
    omega
  · cases k with
    | zero => cases hk; exact h.2 0 (a, x) rfl
    | succ k => cases hk
theorem cell8 {D : va_G} {dA : Nat → ClassId} {E : Nat} {ad : Nat → Nat} {sz0 mi : Nat} {s : State} {H : Heap} {ws : va_W} {i f : Nat} {fs : List Value} (G : G1 D dA E ad sz0 mi s) (hP : va_P D vwCl ws H) (he : ws[i]? = some (f, .inr (8, fs))) : ∃ ce : Cell, H[f]? = some ce ∧ ce.vm = .none ∧ s.vm.findClass RX8 = some ce.cls := by
  obtain ⟨r, h1, cell, q1, q2, q3, -⟩ := hP i _ he
  exact ⟨cell, q1, q3, by rw [q2]; exact (G.1.1.1 8 _ rfl).2.1⟩
section XT
variable {p : Program} {l : Launch} {e : Env} {R : Room} {s : State} {m : MethodId} {args : Array Value} {below : List Frame} {meth : Method} {c : Code} {H : Heap} {locs : List Loc} {cells slots : Nat} {Q : State → Prop} {cc : ByteArray} {pc : Nat} {ls : Array Slot} {rest st0 : List Value}
theorem x_tcall {S S2 : Type} {Ψ : S → Heap → Prop} {v : S → Option Value} {a : Array Value} {D : va_G} {A : Nat → Prop} {H0 : Heap} {ws wc : va_W} {W1 : S → va_W} {qx : S2 → Nat} {ΨX : S2 → Heap → Prop} {WX : S2 → va_W} {mc ms : Nat} (hr : vq_Run p l e R s m args below meth c H locs cells slots mc ms (F0 m pc ls st0) rest (QE Ψ v D W1 (va_A wc H.size) a) (QT qx ΨX D WX (va_A wc H.size)) (va_A wc H.size)) (hP : va_P D vwCl ws H) (hD : va_D A ws) (hS : va_S A H0 H locs) (hA : ∀ q, H0.size ≤ q → A q)
    (wr : va_W) (hpm : ws.Perm (wr ++ wc))
    (kx : ∀ (u : S2) (H1 : Heap) (locs1 : List Loc), ΨX u H1 → va_P D vwCl (wr ++ WX u) H1 → va_D A (wr ++ WX u) → va_S A H0 H1 locs1 → (∀ q : Nat, q < H.size → ¬ va_A wc H.size q → H1[q]? = H[q]?) → H.size ≤ H1.size → va_D (va_A wc H.size) (WX u) → vq_W p l e R s m args below meth c H1 locs1 (cells + mc) (slots + ms) Q (F0 m pc ls rest) (qx u))
    (kk : ∀ (u : S) (H1 : Heap) (locs1 : List Loc), Ψ u H1 → va_P D vwCl (wr ++ W1 u) H1 → va_D A (wr ++ W1 u) → va_S A H0 H1 locs1 → (∀ q : Nat, q < H.size → ¬ va_A wc H.size q → H1[q]? = H[q]?) → H.size ≤ H1.size → va_D (va_A wc H.size) (W1 u) → W p l e R s m args below meth c H1 locs1 (cells + mc) (slots + ms) Q (F0 m (pc + 3) ls ((v u).toList ++ rest))) : W p l e R s m args below meth c H locs cells slots Q (F0 m pc ls st0) := by
  have hP := vP_perm hpm hP
  have hD := vD_perm hpm hD
  have hC := idx_app wr wc
  have hR := idx_appL wr wc
  have hF := va_free (wc := wc) hD hS hA _ hC
  have hdis : ∀ i ∈ List.range wr.length, i ∉ (List.range wc.length).map (fun i => wr.length + i) := by
    intro i hi hj
    obtain ⟨j, -, hj⟩ := List.mem_map.mp hj
    have := List.mem_range.mp hi
    omega
  intro T hT X
  rcases hr T hT X with ⟨v', st₀, t, T', L, h0, X', hL, e1, e2, ⟨u, hv, hΨ, hP1, hD1, hz, hk⟩, st⟩ | ⟨q, st₀, t, T', L, E, ce, h0, X', hL, e1, e2, ⟨u, hE, hq, hΨ, hP1, hD1, hz, hk⟩, hce, hcv, hcl, st⟩
  · cases hv
    rw [h0] at hz hk
    have hk' : ∀ q : Nat, q < H.size → ¬ va_A wc H.size q → T'.heap[q]? = H[q]? := fun q h1 h2 => by rw [e1]; exact hk q h1 h2
    rw [← e1] at hP1 hΨ
    obtain ⟨hP', hD'⟩ := va_join hP hD _ _ hC hR (nd_iff _ List.nodup_range) hdis hk' hF hP1 hD1
    obtain ⟨t2, a1, b1⟩ := kk u T'.heap (locs ++ L) hΨ hP' hD' ⟨Nat.le_trans hS.1 (by rw [e1]; exact hz), fun q h1 h2 => by rw [hk' q (Nat.lt_of_lt_of_le h1 hS.1) (fun z => h2 (hF q z))]; exact hS.2.1 q h1 h2, fun q hq => by
        rcases List.mem_append.mp hq with h | h
        · exact hS.2.2 q h
        · exact hF _ (hL q h)⟩ hk' (by rw [e1]; exact hz) hD1 T' rfl X'
    exact ⟨t2, st t2 a1, b1⟩
  · subst hq
    rw [h0] at hz hk
    have hk' : ∀ q : Nat, q < H.size → ¬ va_A wc H.size q → T'.heap[q]? = H[q]? := fun q h1 h2 => by rw [e1]; exact hk q h1 h2
    rw [← e1] at hP1 hΨ
    obtain ⟨hP', hD'⟩ := va_join hP hD _ _ hC hR (nd_iff _ List.nodup_range) hdis hk' hF hP1 hD1
    obtain ⟨t2, a1, b1⟩ := kx u T'.heap (locs ++ L) hΨ hP' hD' ⟨Nat.le_trans hS.1 (by rw [e1]; exact hz), fun q h1 h2 => by rw [hk' q (Nat.lt_of_lt_of_le h1 hS.1) (fun z => h2 (hF q z))]; exact hS.2.1 q h1 h2, fun q hq => by
        rcases List.mem_append.mp hq with h | h
        · exact hS.2.2 q h
        · exact hF _ (hL q h)⟩ hk' (by rw [e1]; exact hz) hD1 T' rfl X'
    exact ⟨t2, st.trans a1, b1⟩
theorem x_tout {S S2 : Type} {Ψ : S → Heap → Prop} {v : S → Option Value} {D : va_G} {dA : Nat → ClassId} {E : Nat} {ad : Nat → Nat} {sz0 mi : Nat} {A : Nat → Prop} {W1 : S → va_W} {qx : S2 → Nat} {ΨX : S2 → Heap → Prop} {WX : S2 → va_W} {mc ms i : Nat} {fs : List Value} (u : S2) (G : G1 D dA E ad sz0 mi s) (hout : ∀ x ∈ c.exceptionTable.toList, False) (hlocks : meth.locks = false) (hΨ : ΨX u H) (hP : va_P D vwCl (WX u) H) (hD : va_D A (WX u)) (hS : va_S A s.heap H locs) (he : (WX u)[i]? = some (qx u, .inr (8, fs))) (hc : cells ≤ mc) (hs : slots ≤ ms) : vq_W p l e R s m args below meth c H locs cells slots (vq_MQ below (QE Ψ v D W1 A) (QT qx ΨX D WX A) args s mc ms A) (F0 m pc ls rest) (qx u) := by
  obtain ⟨ce, h1, h2, h3⟩ := cell8 G hP he
  exact vq_out (fun x hx => (hout x hx).elim) hlocks h1 h2 h3 (fun t ht hal => ⟨u, rfl, rfl, by rw [ht]; exact hΨ, by rw [ht]; exact hP, hD, hS.F ht⟩) hS.2.2 hc hs
end XT
