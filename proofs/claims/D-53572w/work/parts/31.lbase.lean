/-! the context of the lists' methods: G0 and the class object of Object[]; calls of five bytes -/
def G1 (D : va_G) (dA : Nat → ClassId) (E : Nat) (ad : Nat → Nat) (sz0 mi : Nat) (U : State) : Prop := G0 D dA E ad sz0 U ∧ va_Mi "[Ljava/lang/Object;" mi U
theorem g1_bl {D : va_G} {dA : Nat → ClassId} {E : Nat} {ad : Nat → Nat} {sz0 mi : Nat} : BlG (G1 D dA E ad sz0 mi) := fun U g mk a q => ⟨g0_bl U g mk a q.1, va_Mi.moved (u := U) (Vm.Alike.refl U.vm) q.2⟩
theorem g1_mv {D : va_G} {dA : Nat → ClassId} {E : Nat} {ad : Nat → Nat} {sz0 mi : Nat} {s : State} {H : Heap} (G : G1 D dA E ad sz0 mi s) (hH : ∀ q : Nat, q < sz0 → H[q]? = s.heap[q]?) (hz : s.heap.size ≤ H.size) : ∀ U : State, U.heap = H → s.WarmedH U.vm → G1 D dA E ad sz0 mi U := fun U hU hW => ⟨g0_mv G.1 hH hz U hU hW, va_Mi.moved hW.alike G.2⟩
def Up (sz0 : Nat) (ws : va_W) : Prop := ∀ x ∈ ws, sz0 ≤ x.1
theorem up_A {sz0 : Nat} {ws : va_W} {A : Nat → Prop} {sz : Nat} (h : Up sz0 ws) (hz : sz0 ≤ sz) (hAe : va_A ws sz = A) : ∀ q, A q → sz0 ≤ q := by
  subst hAe
  intro q hq
  rcases vA_iff.mp hq with ⟨x, hx, rfl⟩ | hq
  · exact h x hx
  · omega
theorem up_D {sz0 : Nat} {ws : va_W} {A : Nat → Prop} (hA0 : ∀ q, A q → sz0 ≤ q) (hD : va_D A ws) : Up sz0 ws := fun x hx => hA0 _ ((vD_iff.mp hD).2 x hx)
theorem ap_A {D : va_G} {FZ ws : va_W} {H : Heap} {A : Nat → Prop} (hF : va_P D vwCl FZ H) (hap : Apart FZ ws) (hAe : va_A ws H.size = A) : ∀ x ∈ FZ, ¬ A x.1 := by
  subst hAe
  exact apart_A hF hap
/-- what may lie in a list: a state, a ray, a price cut, a typed one -/
def OkEl (FZ : va_W) (y : Nat) : Prop := ∃ (ci : Nat) (fs : List Value), (y, .inr (ci, fs)) ∈ FZ ∧ (ci = 1 ∨ ci = 5 ∨ ci = 6 ∨ ci = 9)
theorem OkEl.mono {FZ FZ' : va_W} (h : ∀ x ∈ FZ, x ∈ FZ') {y : Nat} (ho : OkEl FZ y) : OkEl FZ' y := by
  obtain ⟨ci, fs, h1, h2⟩ := ho
  exact ⟨ci, fs, h _ h1, h2⟩
theorem any_of {D : va_G} {dA : Nat → ClassId} {E : Nat} {ad : Nat → Nat} {sz0 : Nat} {s : State} {FZ : va_W} {H : Heap} {y : Nat} (G : G0 D dA E ad sz0 s) (hF : va_P D vwCl FZ H) (ho : OkEl FZ y) : va_Any "java/lang/Object" s H y := by
  obtain ⟨ci, fs, h1, h2⟩ := ho
  obtain ⟨k, hk⟩ := List.mem_iff_getElem?.mp h1
  rcases h2 with rfl | rfl | rfl | rfl
  · exact va_rAny G.1 hF hk rfl (vb_asgC (G.2.1 _ q1385 rfl))
  · exact va_rAny G.1 hF hk rfl (vb_asgC (G.2.1 _ q1392 rfl))
  · exact va_rAny G.1 hF hk rfl (vb_asgC (G.2.1 _ q1393 rfl))
  · exact va_rAny G.1 hF hk rfl (vb_asgC (G.2.1 _ q1396 rfl))
/-- ArrayList's empty array, as a cell -/
abbrev eC (dA : Nat → ClassId) (E : Nat) : Nat × va_E := (E, .inl (dA 1, 0, .inr (.inr (.inr (.inr (fun _ => none))))))
theorem e_P {D : va_G} {dA : Nat → ClassId} {E : Nat} {ad : Nat → Nat} {sz0 : Nat} {s : State} {H : Heap} (G : G0 D dA E ad sz0 s) (hH : ∀ q : Nat, q < sz0 → H[q]? = s.heap[q]?) : va_P D vwCl [eC dA E] H := by
  refine vP_iff.mpr (fun q hq => ?_)
  rw [List.mem_singleton] at hq
  subst hq
  show H[E]? = _
  have h := G.2.2.2.2.1.2.1
  rw [hH E (Nat.lt_of_not_ge h.2)]
  exact h.1
theorem e_T {D : va_G} {dA : Nat → ClassId} {E : Nat} {ad : Nat → Nat} {sz0 : Nat} {s : State} {A : Nat → Prop} (G : G0 D dA E ad sz0 s) (hA0 : ∀ q, A q → sz0 ≤ q) : va_T (.object "java/lang/Object") E 0 (fun _ => .null) A s s.heap := by
  have h := G.2.2.2.2.1.2.1
  refine ⟨_, h.1, (G.1.2 1 _ rfl).1 0 (fun _ => .null), (fun h => by cases h), Nat.zero_le _, rfl, (fun j hj => by omega), fun hh => h.2 (hA0 _ hh)⟩
section XL
variable {p : Program} {l : Launch} {e : Env} {R : Room} {s : State} {m : MethodId} {args : Array Value} {below : List Frame} {meth : Method} {c : Code} {H : Heap} {locs : List Loc} {cells slots : Nat} {Q : State → Prop} {cc : ByteArray} {pc : Nat} {ls : Array Slot} {rest st0 : List Value}
theorem x_ret5 {v : Value} {a : Array Value} (hr : va_Run5 p l e R s m args below meth c H locs cells slots 0 0 (F0 m pc ls st0) rest (QRet (some v) a) (fun _ => False)) (kk : W p l e R s m args below meth c H locs cells slots Q (F0 m (pc + 5) ls (v :: rest))) : W p l e R s m args below meth c H locs cells slots Q (F0 m pc ls st0) := by
  intro T hT X
  obtain ⟨v', st₀, t, T', L, h0, X', hL, e1, e2, ⟨hv, hh⟩, st⟩ := hr T hT X
  have hL0 : L = [] := by
    cases L with
    | nil => rfl
    | cons a t => exact (hL a List.mem_cons_self).elim
  subst hL0
  cases hv
  rw [List.append_nil] at X'
  obtain ⟨t2, a1, b1⟩ := kk T' (by rw [e1, hh, h0]) X'
  exact ⟨t2, st t2 a1, b1⟩
theorem x_ecallP5 {S : Type} {Ψ : S → Heap → Prop} {v : S → Option Value} {a : Array Value} {D : va_G} {A : Nat → Prop} {H0 : Heap} {ws wc : va_W} {W1 : S → va_W} {mc ms : Nat} (hr : va_Run5 p l e R s m args below meth c H locs cells slots mc ms (F0 m pc ls st0) rest (QE Ψ v D W1 (va_A wc H.size) a) (va_A wc H.size)) (hP : va_P D vwCl ws H) (hD : va_D A ws) (hS : va_S A H0 H locs) (hA : ∀ q, H0.size ≤ q → A q)
    (wr : va_W) (hpm : ws.Perm (wr ++ wc))
    (kk : ∀ (u : S) (H1 : Heap) (locs1 : List Loc), Ψ u H1 → va_P D vwCl (wr ++ W1 u) H1 → va_D A (wr ++ W1 u) → va_S A H0 H1 locs1 → (∀ q : Nat, q < H.size → ¬ va_A wc H.size q → H1[q]? = H[q]?) → H.size ≤ H1.size → va_D (va_A wc H.size) (W1 u) → W p l e R s m args below meth c H1 locs1 (cells + mc) (slots + ms) Q (F0 m (pc + 5) ls ((v u).toList ++ rest))) : W p l e R s m args below meth c H locs cells slots Q (F0 m pc ls st0) := by
  have hP := vP_perm hpm hP
  have hD := vD_perm hpm hD
  intro T hT X
  obtain ⟨v', st₀, t, T', L, h0, X', hL, e1, e2, ⟨u, hv, hΨ, hP1, hD1, hz, hk⟩, st⟩ := hr T hT X
  cases hv
  have hC := idx_app wr wc
  have hF := va_free (wc := wc) hD hS hA _ hC
  rw [h0] at hz hk
  have hk' : ∀ q : Nat, q < H.size → ¬ va_A wc H.size q → T'.heap[q]? = H[q]? := fun q h1 h2 => by rw [e1]; exact hk q h1 h2
  rw [← e1] at hP1 hΨ
  obtain ⟨hP', hD'⟩ := va_join hP hD _ (List.range wr.length) hC (idx_appL wr wc) (nd_iff _ List.nodup_range) (by
    intro i hi hj
    obtain ⟨j, -, hj⟩ := List.mem_map.mp hj
    have := List.mem_range.mp hi
    omega) hk' hF hP1 hD1
  obtain ⟨t2, a1, b1⟩ := kk u T'.heap (locs ++ L) hΨ hP' hD' ⟨Nat.le_trans hS.1 (by rw [e1]; exact hz), fun q h1 h2 => by rw [hk' q (Nat.lt_of_lt_of_le h1 hS.1) (fun z => h2 (hF q z))]; exact hS.2.1 q h1 h2, fun q hq => by
      rcases List.mem_append.mp hq with h | h
      · exact hS.2.2 q h
      · exact hF _ (hL q h)⟩ hk' (by rw [e1]; exact hz) hD1 T' rfl X'
  exact ⟨t2, st t2 a1, b1⟩
/-- a row of references is made, of the class that is known -/
theorem x_newq {D : va_G} {dA : Nat → ClassId} {A : Nat → Prop} {H0 : Heap} {ws : va_W} (hexec : p.tables.exec = Jvm.exec) (hb : c.code = cc) {own : String} {index : Nat} (hown : s.vm.findClass own = some m.cls) (hclink : (Cond.classLink own index "java/lang/Object").before args s = true) (hover : va_AO "java/lang/Object" s) (hK : KA D dA s) (hP : va_P D vwCl ws H) (hD : va_D A ws) (hS : va_S A H0 H locs) (hA : ∀ q, H0.size ≤ q → A q)
    {N : Nat} (hN : N < 2 ^ 26) (hcells : cells + 1 ≤ R.cells) (hslots : slots + N ≤ R.slots) (hdg : decode cc pc = .ok (.anewarray index, 3))
    (kk : ∀ (q : Nat) (H1 : Heap), va_P D vwCl (ws ++ [(q, .inl (dA 1, N, .inr (.inr (.inr (.inr (fun _ => none))))))]) H1 → va_D A (ws ++ [(q, .inl (dA 1, N, .inr (.inr (.inr (.inr (fun _ => none))))))]) → va_S A H0 H1 locs →
      W p l e R s m args below meth c H1 locs (cells + 1) (slots + N) Q (F0 m (pc + 3) ls (.ref q :: rest))) : W p l e R s m args below meth c H locs cells slots Q (F0 m pc ls (.int (nI N) :: rest)) := by
  refine va_newq hexec hb hown hclink hover hK hP hD hS hA (nI_pos (by omega)) (nI_clamp (by omega)) (by omega) hcells hslots hdg ?_
  intro q cA H1 hK1 hP1 hD1 hS1
  have h1 := va_nmO (hK.2 1 _ rfl).2 rfl
  have h2 := va_nmO (hK1.2 4 (cA, .object "java/lang/Object") rfl).2 rfl
  have e : cA = dA 1 := Option.some.inj (h2.symm.trans h1)
  subst e
  exact kk q H1 hP1 hD1 hS1
theorem x_acmp_eq {x y : Nat} (hexec : p.tables.exec = Jvm.exec) (hb : c.code = cc) {off : Int} {tgt : Nat} (hdg : decode cc pc = .ok (.if_acmp .eq off, 3)) (ht : (pc : Int) + off = (tgt : Int))
    (kt : x = y → W p l e R s m args below meth c H locs cells slots Q (F0 m tgt ls rest)) (kf : ¬ x = y → W p l e R s m args below meth c H locs cells slots Q (F0 m (pc + 3) ls rest)) : W p l e R s m args below meth c H locs cells slots Q (F0 m pc ls (.ref y :: .ref x :: rest)) :=
  lv_acmp_eq (rx := some x) (ry := some y) hexec hb hdg ht (fun h => kt (Option.some.inj h)) (fun h => kf (fun z => h (by rw [z])))
theorem x_acmp_ne {x y : Nat} (hexec : p.tables.exec = Jvm.exec) (hb : c.code = cc) {off : Int} {tgt : Nat} (hdg : decode cc pc = .ok (.if_acmp .ne off, 3)) (ht : (pc : Int) + off = (tgt : Int))
    (kt : ¬ x = y → W p l e R s m args below meth c H locs cells slots Q (F0 m tgt ls rest)) (kf : x = y → W p l e R s m args below meth c H locs cells slots Q (F0 m (pc + 3) ls rest)) : W p l e R s m args below meth c H locs cells slots Q (F0 m pc ls (.ref y :: .ref x :: rest)) :=
  lv_acmp_ne (rx := some x) (ry := some y) hexec hb hdg ht (fun h => kt (fun z => h (by rw [z]))) (fun h => kf (Option.some.inj h))
end XL
