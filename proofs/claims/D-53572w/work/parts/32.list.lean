/-! rows over arrays of references, by naturals -/
theorem okEl_app {F1 F2 : va_W} {y : Nat} (h : OkEl F2 y) : OkEl (F1 ++ F2) y := h.mono (fun _ hx => List.mem_append_right _ hx)
def cpF (f : Nat → Option Nat) (n : Nat) : Nat → Option Nat := fun i => if i < n then f i else none
theorem cpF_eq (f : Nat → Option Nat) (n : Nat) : va_cpy f (fun _ => none) 0 0 n = cpF f n := by
  funext i
  unfold va_cpy cpF
  by_cases h : i < n
  · rw [if_pos ⟨Nat.zero_le _, by omega⟩, if_pos h]; congr 1; omega
  · rw [if_neg (fun q => h (by omega)), if_neg h]
theorem cpy_nil {f : Nat → Option Nat} {a b n : Nat} (h : n = 0) : va_cpy f f a b n = f := by
  subst h
  funext i
  unfold va_cpy
  rw [if_neg (by omega)]
theorem cpy_el {P : Nat → Prop} {f : Nat → Option Nat} {n i y : Nat} (h : ∀ i, i < n → ∀ y, f i = some y → P y) (hy : va_cpy f (fun _ => none) 0 0 n i = some y) : P y := by
  unfold va_cpy at hy
  by_cases hi : 0 ≤ i ∧ i < 0 + n
  · rw [if_pos hi] at hy
    exact h _ (by omega) y hy
  · rw [if_neg hi] at hy
    cases hy
theorem fw_use {U : State} (h : FW U) (k : Nat) {t : String × MethodName × MethodName} (ht : FWl[k]? = some t) : va_Fw t.1 t.2.1 t.2.2 U := h t (List.mem_of_getElem? ht)
theorem fwk_0 {U : State} (h : FW U) : va_Fw "java/util/ArrayList" ⟨"java/util/List", "size", "()I"⟩ yJ2_size U := h ("java/util/ArrayList", ⟨"java/util/List", "size", "()I"⟩, yJ2_size) (List.mem_of_getElem? (i := 0) rfl)
theorem fwk_1 {U : State} (h : FW U) : va_Fw "java/util/ArrayList" ⟨"java/util/List", "remove", "(I)Ljava/lang/Object;"⟩ yJ2_remove U := h ("java/util/ArrayList", ⟨"java/util/List", "remove", "(I)Ljava/lang/Object;"⟩, yJ2_remove) (List.mem_of_getElem? (i := 1) rfl)
theorem fwk_2 {U : State} (h : FW U) : va_Fw "java/util/ArrayList" ⟨"java/util/List", "isEmpty", "()Z"⟩ yJ2_isEmpty U := h ("java/util/ArrayList", ⟨"java/util/List", "isEmpty", "()Z"⟩, yJ2_isEmpty) (List.mem_of_getElem? (i := 2) rfl)
theorem fwk_3 {U : State} (h : FW U) : va_Fw "java/util/ArrayList" ⟨"java/util/List", "get", "(I)Ljava/lang/Object;"⟩ yJ2_get U := h ("java/util/ArrayList", ⟨"java/util/List", "get", "(I)Ljava/lang/Object;"⟩, yJ2_get) (List.mem_of_getElem? (i := 3) rfl)
theorem fwk_4 {U : State} (h : FW U) : va_Fw "java/util/ArrayList" ⟨"java/util/List", "clear", "()V"⟩ yJ2_clear U := h ("java/util/ArrayList", ⟨"java/util/List", "clear", "()V"⟩, yJ2_clear) (List.mem_of_getElem? (i := 4) rfl)
theorem fwk_5 {U : State} (h : FW U) : va_Fw "java/util/ArrayList" ⟨"java/util/List", "addAll", "(Ljava/util/Collection;)Z"⟩ yJ2_addAll U := h ("java/util/ArrayList", ⟨"java/util/List", "addAll", "(Ljava/util/Collection;)Z"⟩, yJ2_addAll) (List.mem_of_getElem? (i := 5) rfl)
theorem fwk_6 {U : State} (h : FW U) : va_Fw "java/util/ArrayList" ⟨"java/util/List", "add", "(Ljava/lang/Object;)Z"⟩ yJ2_add U := h ("java/util/ArrayList", ⟨"java/util/List", "add", "(Ljava/lang/Object;)Z"⟩, yJ2_add) (List.mem_of_getElem? (i := 6) rfl)
theorem fwk_7 {U : State} (h : FW U) : va_Fw "java/util/ArrayList" ⟨"java/util/Collection", "toArray", "()[Ljava/lang/Object;"⟩ yJ2_toArray U := h ("java/util/ArrayList", ⟨"java/util/Collection", "toArray", "()[Ljava/lang/Object;"⟩, yJ2_toArray) (List.mem_of_getElem? (i := 7) rfl)
section XA
variable {p : Program} {l : Launch} {e : Env} {R : Room} {s : State} {m : MethodId} {args : Array Value} {below : List Frame} {meth : Method} {c : Code} {H : Heap} {locs : List Loc} {cells slots : Nat} {Q : State → Prop} {cc : ByteArray} {pc : Nat} {ls : Array Slot} {rest st0 : List Value} {D : va_G} {dA : Nat → ClassId} {A : Nat → Prop} {H0 : Heap} {ws : va_W} {a : Nat}
theorem x_aald (hexec : p.tables.exec = Jvm.exec) (hb : c.code = cc) (hK : KA D dA s) (hP : va_P D vwCl ws H) (q0 : Nat) {n : Nat} {f : Nat → Option Nat} (ha : ws[q0]? = some (a, .inl (dA 1, n, .inr (.inr (.inr (.inr f)))))) (k : Nat) (hk : k < n) (hn : n < 2 ^ 31) {y : Nat} (hy : f k = some y) (hdg : decode cc pc = .ok (.aaload, 1))
    (kk : W p l e R s m args below meth c H locs cells slots Q (F0 m (pc + 1) ls (.ref y :: rest))) : W p l e R s m args below meth c H locs cells slots Q (F0 m pc ls (.int (nI k) :: .ref a :: rest)) := by
  refine va_aldq hexec hb hK hP q0 1 ha rfl (vp_in_nI hk hn) hdg ?_
  rw [nI_clamp (by omega), hy]
  exact kk
theorem x_aast (hexec : p.tables.exec = Jvm.exec) (hb : c.code = cc) (hK : KA D dA s) (hP : va_P D vwCl ws H) (hD : va_D A ws) (hS : va_S A H0 H locs) (q0 : Nat) {n v : Nat} {f : Nat → Option Nat} (ha : ws[q0]? = some (a, .inl (dA 1, n, .inr (.inr (.inr (.inr f)))))) (hr : va_Any "java/lang/Object" s H v) (k : Nat) (hk : k < n) (hn : n < 2 ^ 31) (hdg : decode cc pc = .ok (.aastore, 1))
    (kk : ∀ (H1 : Heap) (locs1 : List Loc), va_P D vwCl (ws.set q0 (a, .inl (dA 1, n, .inr (.inr (.inr (.inr (va_up f k (some v)))))))) H1 → va_D A (ws.set q0 (a, .inl (dA 1, n, .inr (.inr (.inr (.inr (va_up f k (some v)))))))) → va_S A H0 H1 locs1 → W p l e R s m args below meth c H1 locs1 cells slots Q (F0 m (pc + 1) ls rest)) : W p l e R s m args below meth c H locs cells slots Q (F0 m pc ls (.ref v :: .int (nI k) :: .ref a :: rest)) := by
  refine va_astqM hexec hb hK hP hD hS q0 1 ha rfl hr (vp_in_nI hk hn) hdg ?_
  rw [nI_clamp (by omega)]
  exact kk
theorem x_aastN (hexec : p.tables.exec = Jvm.exec) (hb : c.code = cc) (hK : KA D dA s) (hP : va_P D vwCl ws H) (hD : va_D A ws) (hS : va_S A H0 H locs) (q0 : Nat) {n : Nat} {f : Nat → Option Nat} (ha : ws[q0]? = some (a, .inl (dA 1, n, .inr (.inr (.inr (.inr f)))))) (k : Nat) (hk : k < n) (hn : n < 2 ^ 31) (hdg : decode cc pc = .ok (.aastore, 1))
    (kk : ∀ (H1 : Heap) (locs1 : List Loc), va_P D vwCl (ws.set q0 (a, .inl (dA 1, n, .inr (.inr (.inr (.inr (va_up f k none))))))) H1 → va_D A (ws.set q0 (a, .inl (dA 1, n, .inr (.inr (.inr (.inr (va_up f k none))))))) → va_S A H0 H1 locs1 → W p l e R s m args below meth c H1 locs1 cells slots Q (F0 m (pc + 1) ls rest)) : W p l e R s m args below meth c H locs cells slots Q (F0 m pc ls (.null :: .int (nI k) :: .ref a :: rest)) := by
  refine va_astqN hexec hb hK hP hD hS q0 1 ha rfl (vp_in_nI hk hn) hdg ?_
  rw [nI_clamp (by omega)]
  exact kk
theorem x_copyQ (hexec : p.tables.exec = Jvm.exec) (hb : c.code = cc) (hml : c.maxLocals = ls.size) {own : String} {index : Nat} (hown : s.vm.findClass own = some m.cls) (hlink : (Cond.methodLink own index arraycopyName).before args s = true) (hnat : (Cond.native arraycopyName).before args s = true) (hstat : (Cond.static arraycopyName).before args s = true) (hini : (Cond.initialized "java/lang/System").before args s = true)
    (hK : KA D dA s) (hP : va_P D vwCl ws H) (hD : va_D A ws) (hS : va_S A H0 H locs) (q0 q1 : Nat) {a0 : Nat} {n0 n1 : Nat} {f g : Nat → Option Nat} (ha0 : ws[q0]? = some (a0, .inl (dA 1, n0, .inr (.inr (.inr (.inr f)))))) (ha1 : ws[q1]? = some (a, .inl (dA 1, n1, .inr (.inr (.inr (.inr g))))))
    (sp dp n : Nat) (hb0 : n0 < 2 ^ 31) (hb1 : n1 < 2 ^ 31) (h4 : sp + n ≤ n0) (h5 : dp + n ≤ n1) (hel : ∀ i : Nat, i < n → ∀ y : Nat, f (sp + i) = some y → va_Any "java/lang/Object" s H y)
    (hframes : 1 ≤ R.frames) (hlocals : (rest.map fun v => v.category).sum + (nativeFrameWords "java/lang/System" "arraycopy" 5 + 11) ≤ R.locals) (hdg : decode cc pc = .ok (.invokestatic index, 3))
    (kk : ∀ (H1 : Heap) (locs1 : List Loc), va_P D vwCl (ws.set q1 (a, .inl (dA 1, n1, .inr (.inr (.inr (.inr (va_cpy f g sp dp n))))))) H1 → va_D A (ws.set q1 (a, .inl (dA 1, n1, .inr (.inr (.inr (.inr (va_cpy f g sp dp n))))))) → va_S A H0 H1 locs1 → W p l e R s m args below meth c H1 locs1 cells slots Q (F0 m (pc + 3) ls rest)) : W p l e R s m args below meth c H locs cells slots Q (F0 m pc ls (.int (nI n) :: .int (nI dp) :: .ref a :: .int (nI sp) :: .ref a0 :: rest)) := by
  have e1 : (nI sp).toNatClampNeg = sp := nI_clamp (by omega)
  have e2 : (nI dp).toNatClampNeg = dp := nI_clamp (by omega)
  have e3 : (nI n).toNatClampNeg = n := nI_clamp (by omega)
  refine va_copyM hexec hb hml hown hlink hnat hstat hini hK hP hD hS q0 q1 1 1 ha0 ha1 rfl rfl (nI_pos (by omega)) (nI_pos (by omega)) (nI_pos (by omega)) (by rw [e1, e3]; exact h4) (by rw [e2, e3]; exact h5) (by rw [e1, e3]; exact hel) hframes hlocals hdg ?_
  rw [e1, e2, e3]
  exact kk
theorem x_ecall5 {S : Type} {Ψ : S → Heap → Prop} {v : S → Option Value} {av : Array Value} {wc wr : va_W} {W1 : S → va_W} {mc ms : Nat} (hr : va_Run5 p l e R s m args below meth c H locs cells slots mc ms (F0 m pc ls st0) rest (QE Ψ v D W1 (va_A wc H.size) av) (va_A wc H.size)) (hP : va_P D vwCl ws H) (hD : va_D A ws) (hS : va_S A H0 H locs) (hA : ∀ q, H0.size ≤ q → A q)
    (isC isR : List Nat) (hC : isC.map (fun i => ws[i]?) = wc.map some) (hR : isR.map (fun i => ws[i]?) = wr.map some) (hn : va_nd isR = true) (hdis : ∀ i ∈ isR, i ∉ isC)
    (kk : ∀ (u : S) (H1 : Heap) (locs1 : List Loc), Ψ u H1 → va_P D vwCl (wr ++ W1 u) H1 → va_D A (wr ++ W1 u) → va_S A H0 H1 locs1 → (∀ q : Nat, q < H.size → ¬ va_A wc H.size q → H1[q]? = H[q]?) → H.size ≤ H1.size → va_D (va_A wc H.size) (W1 u) → W p l e R s m args below meth c H1 locs1 (cells + mc) (slots + ms) Q (F0 m (pc + 5) ls ((v u).toList ++ rest))) : W p l e R s m args below meth c H locs cells slots Q (F0 m pc ls st0) := by
  intro T hT X
  obtain ⟨v', st₀, t, T', L, h0, X', hL, e1, e2, ⟨u, hv, hΨ, hP1, hD1, hz, hk⟩, st⟩ := hr T hT X
  cases hv
  have hF := va_free (wc := wc) hD hS hA isC hC
  rw [h0] at hz hk
  have hk' : ∀ q : Nat, q < H.size → ¬ va_A wc H.size q → T'.heap[q]? = H[q]? := fun q h1 h2 => by rw [e1]; exact hk q h1 h2
  rw [← e1] at hP1 hΨ
  obtain ⟨hP', hD'⟩ := va_join hP hD isC isR hC hR hn hdis hk' hF hP1 hD1
  obtain ⟨t2, a1, b1⟩ := kk u T'.heap (locs ++ L) hΨ hP' hD' ⟨Nat.le_trans hS.1 (by rw [e1]; exact hz), fun q h1 h2 => by rw [hk' q (Nat.lt_of_lt_of_le h1 hS.1) (fun z => h2 (hF q z))]; exact hS.2.1 q h1 h2, fun q hq => by
      rcases List.mem_append.mp hq with h | h
      · exact hS.2.2 q h
      · exact hF _ (hL q h)⟩ hk' (by rw [e1]; exact hz) hD1 T' rfl X'
  exact ⟨t2, st t2 a1, b1⟩
end XA
theorem mx_nI {a b : Nat} (ha : a < 2 ^ 31) (hb : b < 2 ^ 31) : (if nI a < nI b then nI b else nI a) = nI (max a b) := by
  by_cases h : a < b
  · rw [if_pos (nI_lt h hb), Nat.max_eq_right (by omega)]
  · rw [if_neg (nI_nlt (by omega) ha), Nat.max_eq_left (by omega)]
theorem mn_nI {a b : Nat} (ha : a < 2 ^ 31) (hb : b < 2 ^ 31) : (if nI b < nI a then nI b else nI a) = nI (min a b) := by
  by_cases h : b < a
  · rw [if_pos (nI_lt h ha), Nat.min_eq_right (by omega)]
  · rw [if_neg (nI_nlt (by omega) hb), Nat.min_eq_left (by omega)]
theorem sub_nI {a b : Nat} (h : b ≤ a) : nI a - nI b = nI (a - b) := by
  obtain ⟨k, rfl⟩ := Nat.exists_eq_add_of_le h
  rw [pk_sub (by omega)]

theorem sS_mono {A B : Nat → Prop} {H0 H : Heap} {locs : List Loc} (hS : va_S A H0 H locs) (h : ∀ q, A q → B q) : va_S B H0 H locs := ⟨hS.1, fun q h1 h2 => hS.2.1 q h1 (fun z => h2 (h q z)), fun q hq => h _ (hS.2.2 q hq)⟩
section XF
variable {p : Program} {l : Launch} {e : Env} {R : Room} {s : State} {m : MethodId} {args : Array Value} {below : List Frame} {meth : Method} {c : Code} {H : Heap} {locs : List Loc} {cells slots : Nat} {Q : State → Prop} {cc : ByteArray} {pc : Nat} {ls : Array Slot} {rest st0 : List Value} {D : va_G} {dA : Nat → ClassId} {A : Nat → Prop} {H0 : Heap} {ws : va_W} {a : Nat}
/-- references copied out of a row that is only read -/
theorem x_copyF (hexec : p.tables.exec = Jvm.exec) (hb : c.code = cc) (hml : c.maxLocals = ls.size) {own : String} {index : Nat} (hown : s.vm.findClass own = some m.cls) (hlink : (Cond.methodLink own index arraycopyName).before args s = true) (hnat : (Cond.native arraycopyName).before args s = true) (hstat : (Cond.static arraycopyName).before args s = true) (hini : (Cond.initialized "java/lang/System").before args s = true)
    (hK : KA D dA s) (hP : va_P D vwCl ws H) (hD : va_D A ws) (hS : va_S A H0 H locs) {a0 : Nat} {n0 n1 : Nat} {f g : Nat → Option Nat} (hc0 : H[a0]? = some (vp_cell (dA 1) (n0, .inr (.inr (.inr (.inr f)))))) (q1 : Nat) (ha1 : ws[q1]? = some (a, .inl (dA 1, n1, .inr (.inr (.inr (.inr g))))))
    (sp dp n : Nat) (hb0 : n0 < 2 ^ 31) (hb1 : n1 < 2 ^ 31) (h4 : sp + n ≤ n0) (h5 : dp + n ≤ n1) (hel : ∀ i : Nat, i < n → ∀ y : Nat, f (sp + i) = some y → va_Any "java/lang/Object" s H y)
    (hframes : 1 ≤ R.frames) (hlocals : (rest.map fun v => v.category).sum + (nativeFrameWords "java/lang/System" "arraycopy" 5 + 11) ≤ R.locals) (hdg : decode cc pc = .ok (.invokestatic index, 3))
    (kk : ∀ (H1 : Heap) (locs1 : List Loc), va_P D vwCl (ws.set q1 (a, .inl (dA 1, n1, .inr (.inr (.inr (.inr (va_cpy f g sp dp n))))))) H1 → va_D A (ws.set q1 (a, .inl (dA 1, n1, .inr (.inr (.inr (.inr (va_cpy f g sp dp n))))))) → va_S A H0 H1 locs1 → W p l e R s m args below meth c H1 locs1 cells slots Q (F0 m (pc + 3) ls rest)) : W p l e R s m args below meth c H locs cells slots Q (F0 m pc ls (.int (nI n) :: .int (nI dp) :: .ref a :: .int (nI sp) :: .ref a0 :: rest)) := by
  have e1 : (nI sp).toNatClampNeg = sp := nI_clamp (by omega)
  have e2 : (nI dp).toNatClampNeg = dp := nI_clamp (by omega)
  have e3 : (nI n).toNatClampNeg = n := nI_clamp (by omega)
  have i1 : (nI sp).toInt = (sp : Int) := nI_toInt (by omega)
  have i2 : (nI dp).toInt = (dp : Int) := nI_toInt (by omega)
  have i3 : (nI n).toInt = (n : Int) := nI_toInt (by omega)
  intro T hT X
  have hc1 : H[a]? = some (vp_cell (dA 1) (n1, .inr (.inr (.inr (.inr g))))) := hP q1 _ ha1
  obtain ⟨-, k0, hk0, cm0, hkk0⟩ := (hK.2 1 _ rfl).1 n0 (fun j => va_rf (f j))
  obtain ⟨kA, comp, r1, r2, r3, -⟩ := (hK.2 1 _ rfl).2
  obtain ⟨kE, hkE, -⟩ := Vm.findClass_spec r3
  have hal0 : ∀ (vm₁ : Vm), s.vm.Alike vm₁ → ∀ y : Nat, va_Any "java/lang/Object" s H y → ∃ cellV : Cell, T.heap[y]? = some cellV ∧ (∀ q, cellV.vm ≠ .statics q) ∧ (∃ k, vm₁.classes[cellV.cls]? = some k) ∧ (∃ k, vm₁.classes[comp]? = some k) ∧ vm₁.assignable cellV.cls comp = true := by
    intro vm₁ hal y hy
    obtain ⟨cellV, g1, g2, ⟨kC, hkC⟩, hasg⟩ := hy
    obtain ⟨kC', hkC', -⟩ := hal.2.2 _ _ hkC
    obtain ⟨kE', hkE', -⟩ := hal.2.2 _ _ hkE
    exact ⟨cellV, by rw [hT]; exact g1, (fun q h => by rw [h] at g2; cases g2), ⟨kC', hkC'⟩, ⟨kE', hkE'⟩, by rw [hal.assignable]; exact hasg _ r3⟩
  obtain ⟨vm', X', step⟩ := X.arraycopy hexec hown hlink hnat hstat hini (src := a0) (dst := a) (srcPos := nI sp) (destPos := nI dp) (n := nI n) (by rw [hT]; exact hc0) (by rw [hT]; exact hc1)
    (fun _ h => by cases h) (fun _ h => by cases h) (fun h => by cases h) (fun h => by cases h) r1 r1 r2 r2 rfl (nI_pos (by omega)) (nI_pos (by omega)) (nI_pos (by omega))
    (by rw [i1, i3]; show ¬ _ > ((arrV (dA 1) n0 (fun j => va_rf (f j))).slots.size : Int); rw [arrV_size]; omega)
    (by rw [i2, i3]; show ¬ _ > ((arrV (dA 1) n1 (fun j => va_rf (g j))).slots.size : Int); rw [arrV_size]; omega)
    (fun vm₁ hal i hi => by
      rw [e3] at hi
      rw [e1]
      have e : (vp_cell (dA 1) (n0, .inr (.inr (.inr (.inr f))))).slots.getD (sp + i) .null = va_rf (f (sp + i)) := by
        show (arrV (dA 1) n0 (fun j => va_rf (f j))).slots.getD _ _ = _
        rw [Array.getD_eq_getD_getElem?, arrV_read _ _ (by omega)]
        rfl
      rw [e]
      cases hy : f (sp + i) with
      | none => exact ⟨rfl, trivial⟩
      | some y => exact ⟨rfl, hal0 vm₁ hal y (hel i hi y hy)⟩)
    (g := F0 m pc ls (.int (nI n) :: .int (nI dp) :: .ref a :: .int (nI sp) :: .ref a0 :: rest)) rfl (by rw [hml]) (rest := rest) rfl (by rw [hb]; exact hdg) hframes (by show 2 * 0 + _ + _ ≤ _; omega)
  have ec : copied (vp_cell (dA 1) (n0, .inr (.inr (.inr (.inr f))))) (vp_cell (dA 1) (n1, .inr (.inr (.inr (.inr g))))) (nI sp) (nI dp) (nI n) = vp_cell (dA 1) (n1, .inr (.inr (.inr (.inr (va_cpy f g sp dp n))))) := by
    have h := va_copied (n1 := n1) (dp := (nI dp).toNatClampNeg) (fun z => va_rf z) (dA 1) (dA 1) f g (show (nI sp).toNatClampNeg + (nI n).toNatClampNeg ≤ n0 by rw [e1, e3]; exact h4)
    rw [vp_cell_q, vp_cell_q, vp_cell_q]
    refine h.trans ?_
    rw [e1, e2, e3]
  rw [ec] at X' step
  have hl : a < H.size := (Array.getElem?_eq_some_iff.mp hc1).1
  obtain ⟨t, a1, b1⟩ := kk (H.setIfInBounds a (vp_cell (dA 1) (n1, .inr (.inr (.inr (.inr (va_cpy f g sp dp n))))))) _ (hP.set hD ha1 (show (H.setIfInBounds a _)[a]? = some _ by simp [Array.getElem?_setIfInBounds, hl]) (fun q hq => by simp [Array.getElem?_setIfInBounds, Ne.symm hq])) (hD.set ha1) ⟨by simp; exact hS.1, fun q g1 g2 => by
      have hqa : q ≠ a := fun e => g2 (by rw [e]; exact hD.2 q1 _ ha1)
      rw [show (H.setIfInBounds a (vp_cell (dA 1) (n1, .inr (.inr (.inr (.inr (va_cpy f g sp dp n)))))))[q]? = H[q]? by simp [Array.getElem?_setIfInBounds, Ne.symm hqa]]
      exact hS.2.1 q g1 g2, fun q hq => by
      rcases List.mem_append.mp hq with h | h
      · exact hS.2.2 q h
      · obtain ⟨z, -, hz⟩ := List.mem_map.mp h
        rw [← hz]
        exact hD.2 q1 _ ha1⟩ _ (by rw [← hT]; rfl) X'
  exact ⟨t, step t a1, b1⟩
end XF

set_option maxHeartbeats 4000000 in
theorem xl_size (l : Launch) (D : va_G) (dA : Nat → ClassId) (E : Nat) (ad : Nat → Nat) (sz0 mi : Nat) (lq : Nat) (md : Int32) (dv : Value) (ct : Nat) : RO l yJ2_size cJ2_size 1 (some .int) 0 0 [.ref lq] (G1 D dA E ad sz0 mi) (fun H => va_P D vwCl [(lq, .inr (4, [.int md, dv, .int (nI ct)]))] H) (some (.int (nI ct))) := by
  refine ro_of (by decide) (Nat.le_of_ble_eq_true rfl) ?_
  intro p e s m below meth c S hrt hlk G hP ls hl
  obtain ⟨hx, hb, hml, hown, hts⟩ := id S
  have hP : va_P D vwCl [(lq, .inr (4, [.int md, dv, .int (nI ct)]))] s.heap := hP
  have K := G.1.1
  have hl : lv_has ls 1 [(0, .ref lq)] := hl
  refine lv_aload_n hx hb dJ2_size_0 rfl (lv_at hl 0 rfl) ?_
  refine va_get (D := D) (ci := 4) (C := RJ2) (T := TJ2) (N := 3) hx hb hts in_J2 hown K hP 0 rfl rfl 2 (by decide) (hts _ q160) (fun _ h9 => h9) rfl dJ2_size_1 ?_
  exact x_iret hx hb hrt hlk rfl dJ2_size_4

set_option maxHeartbeats 4000000 in
theorem xl_isEmpty (l : Launch) (D : va_G) (dA : Nat → ClassId) (E : Nat) (ad : Nat → Nat) (sz0 mi : Nat) (lq : Nat) (md : Int32) (dv : Value) (ct : Nat) (hct : ct < 2 ^ 31) : RO l yJ2_isEmpty cJ2_isEmpty 1 (some .boolean) 0 0 [.ref lq] (G1 D dA E ad sz0 mi) (fun H => va_P D vwCl [(lq, .inr (4, [.int md, dv, .int (nI ct)]))] H) (some (.int (bI (decide (ct = 0))))) := by
  refine ro_of (by decide) (Nat.le_of_ble_eq_true rfl) ?_
  intro p e s m below meth c S hrt hlk G hP ls hl
  obtain ⟨hx, hb, hml, hown, hts⟩ := id S
  have hP : va_P D vwCl [(lq, .inr (4, [.int md, dv, .int (nI ct)]))] s.heap := hP
  have K := G.1.1
  have hl : lv_has ls 1 [(0, .ref lq)] := hl
  refine lv_aload_n hx hb dJ2_isEmpty_0 rfl (lv_at hl 0 rfl) ?_
  refine va_get (D := D) (ci := 4) (C := RJ2) (T := TJ2) (N := 3) hx hb hts in_J2 hown K hP 0 rfl rfl 2 (by decide) (hts _ q160) (fun _ h9 => h9) rfl dJ2_isEmpty_1 ?_
  refine x_ifn_ne (tgt := 11) hx hb dJ2_isEmpty_4 (by decide) (by omega) (fun h_1 => ?_) (fun h_1 => ?_)
  · refine lv_iconst (v := nI 0) hx hb dJ2_isEmpty_11 (by decide) ?_
    exact x_zret hx hb hrt hlk (by rw [show decide (ct = 0) = false from decide_eq_false h_1]; rfl) dJ2_isEmpty_12
  · refine lv_iconst (v := nI 1) hx hb dJ2_isEmpty_7 (by decide) ?_
    refine lv_goto (tgt := 12) hx hb dJ2_isEmpty_8 (by decide) ?_
    exact x_zret hx hb hrt hlk (by rw [show decide (ct = 0) = true from decide_eq_true h_1]; rfl) dJ2_isEmpty_12

set_option maxHeartbeats 4000000 in
theorem xl_pci (l : Launch) (k0 ct : Nat) (hk0 : k0 < ct) (hct : ct < 2 ^ 31) : RO l yJ11_checkIndex cJ11_checkIndex 3 (some .int) 0 0 [.int (nI k0), .int (nI ct), .null] (fun _ => True) (fun _ => True) (some (.int (nI k0))) := by
  refine ro_of (by decide) (Nat.le_of_ble_eq_true rfl) ?_
  intro p e s m below meth c S hrt hlk G hP ls hl
  obtain ⟨hx, hb, hml, hown, hts⟩ := id S
  have hl : lv_has ls 3 [(0, .int (nI k0)), (1, .int (nI ct)), (2, .null)] := hl
  refine lv_iload_n hx hb dJ11_checkIndex_0 rfl (lv_at hl 0 rfl) ?_
  refine lv_if_lt (tgt := 9) hx hb dJ11_checkIndex_1 (by decide) (fun h => absurd h (nI_pos (n := k0) (by omega))) (fun _ => ?_)
  refine lv_iload_n hx hb dJ11_checkIndex_4 rfl (lv_at hl 0 rfl) ?_
  refine lv_iload_n hx hb dJ11_checkIndex_5 rfl (lv_at hl 1 rfl) ?_
  refine lv_icmp_lt (tgt := 16) hx hb dJ11_checkIndex_6 (by decide) (fun _ => ?_) (fun h => absurd (nI_lt (by omega) (by omega)) h)
  refine lv_iload_n hx hb dJ11_checkIndex_16 rfl (lv_at hl 0 rfl) ?_
  exact x_iret hx hb hrt hlk rfl dJ11_checkIndex_17

set_option maxHeartbeats 4000000 in
theorem xl_oci (l : Launch) (k0 ct : Nat) (hk0 : k0 < ct) (hct : ct < 2 ^ 31) : RO l yJ10_checkIndex cJ10_checkIndex 2 (some .int) 1 40 [.int (nI k0), .int (nI ct)] (fun _ => True) (fun _ => True) (some (.int (nI k0))) := by
  refine ro_of (by decide) (Nat.le_of_ble_eq_true rfl) ?_
  intro p e s m below meth c S hrt hlk G hP ls hl
  obtain ⟨hx, hb, hml, hown, hts⟩ := id S
  have hl : lv_has ls 2 [(0, .int (nI k0)), (1, .int (nI ct))] := hl
  refine lv_iload_n hx hb dJ10_checkIndex_0 rfl (lv_at hl 0 rfl) ?_
  refine lv_iload_n hx hb dJ10_checkIndex_1 rfl (lv_at hl 1 rfl) ?_
  refine lv_null hx hb dJ10_checkIndex_2 ?_
  refine x_ret (va_runS (As := [.int (nI k0), .int (nI ct), .null]) (rest := []) S (xl_pci l k0 ct (by omega) (by omega)) (va_cwS 3 hts (lw_S q368 q369 q75 q370) rfl rfl rfl hdJ11_checkIndex ⟨Nat.le_of_ble_eq_true rfl, Nat.le_of_ble_eq_true rfl⟩) ⟨bb_blind tt_bl _, tt_pre _⟩ rfl rfl hl.1 rfl (lv_room (Nat.le_of_ble_eq_true rfl)) dJ10_checkIndex_3 ⟨Nat.le_refl _, Nat.le_refl _⟩) ?_
  exact x_iret hx hb hrt hlk rfl dJ10_checkIndex_6

set_option maxHeartbeats 4000000 in
theorem xl_eld (l : Launch) (D : va_G) (dA : Nat → ClassId) (E : Nat) (ad : Nat → Nat) (sz0 mi : Nat) (lq : Nat) (md : Int32) (da ct cp : Nat) (fe : Nat → Option Nat) (hcp : cp < 2 ^ 31) (k0 y0 : Nat) (hk0 : k0 < ct) (hct : ct ≤ cp) (hy0 : fe k0 = some y0) : RO l yJ2_elementData cJ2_elementData 2 (some (.object "java/lang/Object")) 0 0 [.ref lq, .int (nI k0)] (G1 D dA E ad sz0 mi) (fun H => va_P D vwCl [(lq, .inr (4, [.int md, .ref da, .int (nI ct)])), (da, .inl (dA 1, cp, .inr (.inr (.inr (.inr fe)))))] H) (some (.ref y0)) := by
  refine ro_of (by decide) (Nat.le_of_ble_eq_true rfl) ?_
  intro p e s m below meth c S hrt hlk G hP ls hl
  obtain ⟨hx, hb, hml, hown, hts⟩ := id S
  have hP : va_P D vwCl [(lq, .inr (4, [.int md, .ref da, .int (nI ct)])), (da, .inl (dA 1, cp, .inr (.inr (.inr (.inr fe)))))] s.heap := hP
  have K := G.1.1
  have hl : lv_has ls 2 [(0, .ref lq), (1, .int (nI k0))] := hl
  refine lv_aload_n hx hb dJ2_elementData_0 rfl (lv_at hl 0 rfl) ?_
  refine va_get (D := D) (ci := 4) (C := RJ2) (T := TJ2) (N := 3) hx hb hts in_J2 hown K hP 0 rfl rfl 1 (by decide) (hts _ q159) (fun _ h9 => h9) rfl dJ2_elementData_1 ?_
  refine lv_iload_n hx hb dJ2_elementData_4 rfl (lv_at hl 1 rfl) ?_
  refine x_aald (y := y0) hx hb K hP 1 rfl k0 (by omega) (by omega) hy0 dJ2_elementData_5 ?_
  exact x_aret hx hb hrt (Or.inl ⟨_, rfl⟩) hlk rfl dJ2_elementData_6

set_option maxHeartbeats 4000000 in
theorem xl_get (l : Launch) (D : va_G) (dA : Nat → ClassId) (E : Nat) (ad : Nat → Nat) (sz0 mi : Nat) (lq : Nat) (md : Int32) (da ct cp : Nat) (fe : Nat → Option Nat) (hcp : cp < 2 ^ 31) (k0 y0 : Nat) (hk0 : k0 < ct) (hct : ct ≤ cp) (hy0 : fe k0 = some y0) : RO l yJ2_get cJ2_get 2 (some (.object "java/lang/Object")) 2 80 [.ref lq, .int (nI k0)] (G1 D dA E ad sz0 mi) (fun H => va_P D vwCl [(lq, .inr (4, [.int md, .ref da, .int (nI ct)])), (da, .inl (dA 1, cp, .inr (.inr (.inr (.inr fe)))))] H) (some (.ref y0)) := by
  refine ro_of (by decide) (Nat.le_of_ble_eq_true rfl) ?_
  intro p e s m below meth c S hrt hlk G hP ls hl
  obtain ⟨hx, hb, hml, hown, hts⟩ := id S
  have hP : va_P D vwCl [(lq, .inr (4, [.int md, .ref da, .int (nI ct)])), (da, .inl (dA 1, cp, .inr (.inr (.inr (.inr fe)))))] s.heap := hP
  have K := G.1.1
  have hl : lv_has ls 2 [(0, .ref lq), (1, .int (nI k0))] := hl
  refine lv_iload_n hx hb dJ2_get_0 rfl (lv_at hl 1 rfl) ?_
  refine lv_aload_n hx hb dJ2_get_1 rfl (lv_at hl 0 rfl) ?_
  refine va_get (D := D) (ci := 4) (C := RJ2) (T := TJ2) (N := 3) hx hb hts in_J2 hown K hP 0 rfl rfl 2 (by decide) (hts _ q160) (fun _ h9 => h9) rfl dJ2_get_2 ?_
  refine x_ret (va_runS (As := [.int (nI k0), .int (nI ct)]) (rest := []) S (xl_oci l k0 ct (by omega) (by omega)) (va_cwS 2 hts (lw_S q365 q366 q74 q367) rfl rfl rfl hdJ10_checkIndex ⟨Nat.le_of_ble_eq_true rfl, Nat.le_of_ble_eq_true rfl⟩) ⟨bb_blind tt_bl _, tt_pre _⟩ rfl rfl hl.1 rfl (lv_room (Nat.le_of_ble_eq_true rfl)) dJ2_get_5 ⟨Nat.le_refl _, Nat.le_refl _⟩) ?_
  refine lv_pop hx hb dJ2_get_8 rfl ?_
  refine lv_aload_n hx hb dJ2_get_9 rfl (lv_at hl 0 rfl) ?_
  refine lv_iload_n hx hb dJ2_get_10 rfl (lv_at hl 1 rfl) ?_
  refine x_ret (va_runV (As := [.int (nI k0)]) (rest := []) S (xl_eld l D dA E ad sz0 mi lq md da ct cp fe hcp k0 y0 hk0 hct hy0) (cwV 1 hts (lw_V q502 q503 q504 q64 q505) rfl rfl rfl hdJ2_elementData ⟨Nat.le_of_ble_eq_true rfl, Nat.le_of_ble_eq_true rfl⟩) ⟨bb_blind g1_bl _, va_recv K hP (ci := 4) (q0 := 0) rfl rfl, bb_pre (g1_mv G (fun _ _ => rfl) (Nat.le_refl _)) hP _⟩ rfl rfl hl.1 rfl (lv_room (Nat.le_of_ble_eq_true rfl)) dJ2_get_11 ⟨Nat.le_refl _, Nat.le_refl _⟩) ?_
  exact x_aret hx hb hrt (Or.inl ⟨_, rfl⟩) hlk rfl dJ2_get_14

set_option maxHeartbeats 4000000 in
theorem xl_nl (l : Launch) (o0 g0 g1 : Nat) (h1 : 0 < o0 ∧ o0 < 2 ^ 20) (h2 : g0 < 2 ^ 20 ∧ g1 < 2 ^ 20) : RO l yJ9_newLength cJ9_newLength 4 (some .int) 1 40 [.int (nI o0), .int (nI g0), .int (nI g1)] (fun _ => True) (fun _ => True) (some (.int (nI (o0 + max g0 g1)))) := by
  refine ro_of (by decide) (Nat.le_of_ble_eq_true rfl) ?_
  intro p e s m below meth c S hrt hlk G hP ls hl
  obtain ⟨hx, hb, hml, hown, hts⟩ := id S
  have hl : lv_has ls 4 [(0, .int (nI o0)), (1, .int (nI g0)), (2, .int (nI g1))] := hl
  refine lv_iload_n hx hb dJ9_newLength_0 rfl (lv_at hl 0 rfl) ?_
  refine lv_iload_n hx hb dJ9_newLength_1 rfl (lv_at hl 1 rfl) ?_
  refine lv_iload_n hx hb dJ9_newLength_2 rfl (lv_at hl 2 rfl) ?_
  refine va_mmax hx hb (hml.trans hl.1.symm) hown (hts _ q320) (hts _ q321) (hts _ q72) (hts _ q322) (Nat.le_of_ble_eq_true rfl) (Nat.le_of_ble_eq_true rfl) (Nat.le_refl _) (Nat.le_refl _) dJ9_newLength_3 ?_
  refine x_top (y := nI (max g0 g1)) (mx_nI (by omega) (by omega)) ?_
  refine x_addN hx hb dJ9_newLength_6 ?_
  refine lv_istore_n (lv' := [(3, .int (nI (o0 + (max g0 g1)))), (0, .int (nI o0)), (1, .int (nI g0)), (2, .int (nI g1))]) hx hb dJ9_newLength_7 rfl hl (by decide) rfl (fun ls hl => ?_)
  refine lv_iconst (v := nI 0) hx hb dJ9_newLength_8 (by decide) ?_
  refine lv_iload_n hx hb dJ9_newLength_9 rfl (lv_at hl 0 rfl) ?_
  refine x_icmpn_ge (tgt := 21) hx hb dJ9_newLength_10 (by decide) (by omega) (by omega) (fun h => absurd h (by omega)) (fun h => ?_)
  refine lv_iload_n hx hb dJ9_newLength_13 rfl (lv_at hl 0 rfl) ?_
  refine lv_ldc (v := 2147483639) hx hb hown (hts _ q323) dJ9_newLength_14 ?_
  refine x_top (y := nI 2147483639) rfl ?_
  refine lv_icmp_gt (tgt := 21) hx hb dJ9_newLength_16 (by decide) (fun h => absurd h (nI_nlt (by omega) (by omega))) (fun _ => ?_)
  refine lv_iload_n hx hb dJ9_newLength_19 rfl (lv_at hl 0 rfl) ?_
  exact x_iret hx hb hrt hlk (by simp []) dJ9_newLength_20

set_option maxHeartbeats 4000000 in
theorem xl_acI (l : Launch) (D : va_G) (dA : Nat → ClassId) (E : Nat) (ad : Nat → Nat) (sz0 mi : Nat) (lq : Nat) (hup : Up sz0 ([(lq, .inr (4, [.int (nI 0), .null, .int (nI 0)]))])) : EX l yJ0_init cJ0_init 1 none 1 40 0 0 [.ref lq] (G1 D dA E ad sz0 mi) D ([(lq, .inr (4, [.int (nI 0), .null, .int (nI 0)]))]) (fun _ => True) (S := Unit) (fun _ _ => True) (fun _ => none) (fun _ => [(lq, .inr (4, [.int (nI 0), .null, .int (nI 0)]))]) := by
  refine ex_of (by decide) (Nat.le_of_ble_eq_true rfl) ?_
  intro p e s m below meth c A S hrt hlk hnm G hA hAe hΦ H locs hP hD hS ls hl
  obtain ⟨hx, hb, hml, hown, hts⟩ := id S
  have K := G.1.1
  have hA0 := up_A hup G.1.2.2.2.2.2.2 hAe
  have hP : va_P D vwCl [(lq, .inr (4, [.int (nI 0), .null, .int (nI 0)]))] H := hP
  have hD : va_D A [(lq, .inr (4, [.int (nI 0), .null, .int (nI 0)]))] := hD
  have hl : lv_has ls 1 [(0, .ref lq)] := hl
  refine lv_aload_n hx hb dJ0_init_0 rfl (lv_at hl 0 rfl) ?_
  refine W.objInit hx hb hown (hts _ q156) (hts _ q94) (hts _ q95) rfl (by rw [hml]; exact hl.1) rfl dJ0_init_1 (Nat.le_of_ble_eq_true rfl) (Nat.le_of_ble_eq_true rfl) ?_
  refine W.eq (g2 := F0 m 4 ls []) rfl ?_
  exact x_evret () hx hb hrt hlk rfl trivial hP hD hS dJ0_init_4 (Nat.le_of_ble_eq_true rfl) (Nat.le_of_ble_eq_true rfl)

set_option maxHeartbeats 4000000 in
theorem xl_alI (l : Launch) (D : va_G) (dA : Nat → ClassId) (E : Nat) (ad : Nat → Nat) (sz0 mi : Nat) (lq : Nat) (hup : Up sz0 ([(lq, .inr (4, [.int (nI 0), .null, .int (nI 0)]))])) : EX l yJ1_init cJ1_init 1 none 2 80 0 0 [.ref lq] (G1 D dA E ad sz0 mi) D ([(lq, .inr (4, [.int (nI 0), .null, .int (nI 0)]))]) (fun _ => True) (S := Unit) (fun _ _ => True) (fun _ => none) (fun _ => [(lq, .inr (4, [.int (nI 0), .null, .int (nI 0)]))]) := by
  refine ex_of (by decide) (Nat.le_of_ble_eq_true rfl) ?_
  intro p e s m below meth c A S hrt hlk hnm G hA hAe hΦ H locs hP hD hS ls hl
  obtain ⟨hx, hb, hml, hown, hts⟩ := id S
  have K := G.1.1
  have hA0 := up_A hup G.1.2.2.2.2.2.2 hAe
  have hP : va_P D vwCl [(lq, .inr (4, [.int (nI 0), .null, .int (nI 0)]))] H := hP
  have hD : va_D A [(lq, .inr (4, [.int (nI 0), .null, .int (nI 0)]))] := hD
  have hl : lv_has ls 1 [(0, .ref lq)] := hl
  refine lv_aload_n hx hb dJ1_init_0 rfl (lv_at hl 0 rfl) ?_
  refine x_ecall (wr := []) (va_runI (As := []) (rest := []) S (xl_acI l D dA E ad sz0 mi lq (up_D hA0 hD) H.size) (cwI 0 hts (lw_meth q155) rfl rfl rfl (hts _ q62) (hts _ q153) (hts _ q154) rfl (by decide +kernel) ⟨Nat.le_of_ble_eq_true rfl, Nat.le_of_ble_eq_true rfl⟩) ⟨pe_blind g1_bl _, pe_pre (g1_mv G (low_of hS hA0 G.1.2.2.2.2.2.2) hS.1) hP hD trivial _⟩ rfl rfl hl.1 rfl (lv_room (Nat.le_of_ble_eq_true rfl)) dJ1_init_1 ⟨Nat.le_of_ble_eq_true rfl, Nat.le_of_ble_eq_true rfl⟩) hP hD hS hA [0] [] rfl rfl (by decide) (by decide) (fun _u H locs hΨ hP hD hS hkp hsz hDn => ?_)
  have hP : va_P D vwCl [(lq, .inr (4, [.int (nI 0), .null, .int (nI 0)]))] H := hP
  have hD : va_D A [(lq, .inr (4, [.int (nI 0), .null, .int (nI 0)]))] := hD
  refine W.widen (k := 0) (n := 0) (Nat.le_of_ble_eq_true rfl) (Nat.le_of_ble_eq_true rfl) ?_
  refine lv_aload_n hx hb dJ1_init_4 rfl (lv_at hl 0 rfl) ?_
  refine lv_iconst (v := nI 0) hx hb dJ1_init_5 (by decide) ?_
  refine va_put (D := D) (ci := 4) (v := .int (nI 0)) (ty := .int) (C := RJ2) (T := TJ2) (N := 3) hx hb hts in_J2 tyJ2 tyJ2_ok nmJ2 hown K hP hD hS 0 rfl rfl 0 (by decide) (hts _ q161) (fun _ h9 => h9) rfl (by decide +kernel) rfl rfl (Nat.le_of_ble_eq_true rfl) dJ1_init_6 (fun H locs hP hD hS => ?_)
  have hP : va_P D vwCl [(lq, .inr (4, [.int (nI 0), .null, .int (nI 0)]))] H := hP
  have hD : va_D A [(lq, .inr (4, [.int (nI 0), .null, .int (nI 0)]))] := hD
  exact x_evret () hx hb hrt hlk rfl trivial hP hD hS dJ1_init_9 (Nat.le_of_ble_eq_true rfl) (Nat.le_of_ble_eq_true rfl)

set_option maxHeartbeats 4000000 in
theorem xl_init (l : Launch) (D : va_G) (dA : Nat → ClassId) (E : Nat) (ad : Nat → Nat) (sz0 mi : Nat) (lq : Nat) (hup : Up sz0 ([(lq, .inr (4, [.int (nI 0), .null, .int (nI 0)]))])) : EX l yJ2_init cJ2_init 1 none 3 120 0 0 [.ref lq] (G1 D dA E ad sz0 mi) D ([(lq, .inr (4, [.int (nI 0), .null, .int (nI 0)]))]) (fun _ => True) (S := Unit) (fun _ _ => True) (fun _ => none) (fun _ => [(lq, .inr (4, [.int (nI 0), .ref E, .int (nI 0)]))]) := by
  refine ex_of (by decide) (Nat.le_of_ble_eq_true rfl) ?_
  intro p e s m below meth c A S hrt hlk hnm G hA hAe hΦ H locs hP hD hS ls hl
  obtain ⟨hx, hb, hml, hown, hts⟩ := id S
  have K := G.1.1
  have hA0 := up_A hup G.1.2.2.2.2.2.2 hAe
  have hP : va_P D vwCl [(lq, .inr (4, [.int (nI 0), .null, .int (nI 0)]))] H := hP
  have hD : va_D A [(lq, .inr (4, [.int (nI 0), .null, .int (nI 0)]))] := hD
  have hl : lv_has ls 1 [(0, .ref lq)] := hl
  refine lv_aload_n hx hb dJ2_init_0 rfl (lv_at hl 0 rfl) ?_
  refine x_ecall (wr := []) (va_runI (As := []) (rest := []) S (xl_alI l D dA E ad sz0 mi lq (up_D hA0 hD) H.size) (cwI 0 hts (lw_meth q152) rfl rfl rfl (hts _ q63) (hts _ q150) (hts _ q151) rfl (by decide +kernel) ⟨Nat.le_of_ble_eq_true rfl, Nat.le_of_ble_eq_true rfl⟩) ⟨pe_blind g1_bl _, pe_pre (g1_mv G (low_of hS hA0 G.1.2.2.2.2.2.2) hS.1) hP hD trivial _⟩ rfl rfl hl.1 rfl (lv_room (Nat.le_of_ble_eq_true rfl)) dJ2_init_1 ⟨Nat.le_of_ble_eq_true rfl, Nat.le_of_ble_eq_true rfl⟩) hP hD hS hA [0] [] rfl rfl (by decide) (by decide) (fun _u H locs hΨ hP hD hS hkp hsz hDn => ?_)
  have hP : va_P D vwCl [(lq, .inr (4, [.int (nI 0), .null, .int (nI 0)]))] H := hP
  have hD : va_D A [(lq, .inr (4, [.int (nI 0), .null, .int (nI 0)]))] := hD
  refine W.widen (k := 0) (n := 0) (Nat.le_of_ble_eq_true rfl) (Nat.le_of_ble_eq_true rfl) ?_
  refine lv_aload_n hx hb dJ2_init_4 rfl (lv_at hl 0 rfl) ?_
  refine va_gets hx hb G.1.2.2.2.2.1.1 (sS_mono hS hA0) hown (hts _ q157) (fun _ h => h) dJ2_init_5 ?_
  refine va_put (D := D) (ci := 4) (v := .ref E) (ty := .array (.object "java/lang/Object")) (C := RJ2) (T := TJ2) (N := 3) hx hb hts in_J2 tyJ2 tyJ2_ok nmJ2 hown K hP hD hS 0 rfl rfl 1 (by decide) (hts _ q159) (fun _ h9 => h9) rfl (by decide +kernel) rfl rfl (Nat.le_of_ble_eq_true rfl) dJ2_init_8 (fun H locs hP hD hS => ?_)
  have hP : va_P D vwCl [(lq, .inr (4, [.int (nI 0), .ref E, .int (nI 0)]))] H := hP
  have hD : va_D A [(lq, .inr (4, [.int (nI 0), .ref E, .int (nI 0)]))] := hD
  exact x_evret () hx hb hrt hlk rfl trivial hP hD hS dJ2_init_11 (Nat.le_of_ble_eq_true rfl) (Nat.le_of_ble_eq_true rfl)

set_option maxHeartbeats 4000000 in
theorem xl_cp2 (l : Launch) (D : va_G) (dA : Nat → ClassId) (E : Nat) (ad : Nat → Nat) (sz0 mi : Nat) (a0 n0 : Nat) (fe : Nat → Option Nat) (nn : Nat) (FZ : va_W) (hn0 : n0 ≤ 64) (hnn : nn ≤ 64) (hel : ∀ i, i < min n0 nn → ∀ y, fe i = some y → OkEl FZ y) (hup : Up sz0 ([])) (hap : Apart FZ ([])) : EX l yJ7_copyOf_2 cJ7_copyOf_2 4 (some (FieldType.array (FieldType.object "java/lang/Object"))) 1 40 1 64 [.ref a0, .int (nI nn), .ref mi] (G1 D dA E ad sz0 mi) D ([]) (fun H => va_P D vwCl [(a0, .inl (dA 1, n0, .inr (.inr (.inr (.inr fe)))))] H ∧ va_P D vwCl FZ H) (S := Nat) (fun _ _ => True) (fun u => some (.ref u)) (fun u => [(u, .inl (dA 1, nn, .inr (.inr (.inr (.inr (va_cpy fe (fun _ => none) 0 0 (min n0 nn)))))))]) := by
  refine ex_of (by decide) (Nat.le_of_ble_eq_true rfl) ?_
  intro p e s m below meth c A S hrt hlk hnm G hA hAe hΦ H locs hP hD hS ls hl
  obtain ⟨hx, hb, hml, hown, hts⟩ := id S
  obtain ⟨hsrc, hΦ⟩ := hΦ
  have K := G.1.1
  have hA0 := up_A hup G.1.2.2.2.2.2.2 hAe
  have hFA := ap_A hΦ hap hAe
  have hsA := ap_A hsrc (fun _ _ _ h => by cases h) hAe
  have hP : va_P D vwCl [] H := hP
  have hD : va_D A [] := hD
  have hl : lv_has ls 4 [(0, .ref a0), (1, .int (nI nn)), (2, .ref mi)] := hl
  refine lv_aload_n hx hb dJ7_copyOf_2_0 rfl (lv_at hl 2 rfl) ?_
  refine va_ldcM hx hb hown (hts _ q306) G.2 dJ7_copyOf_2_1 ?_
  refine x_acmp_ne (tgt := 13) hx hb dJ7_copyOf_2_3 (by decide) (fun h => absurd rfl h) (fun _ => ?_)
  refine lv_iload_n hx hb dJ7_copyOf_2_6 rfl (lv_at hl 1 rfl) ?_
  refine x_newq (N := nn) hx hb hown (hts _ q308) G.1.2.2.2.1 K hP hD hS hA (by omega) (Nat.le_of_ble_eq_true rfl) (by show _ + _ ≤ 64; omega) dJ7_copyOf_2_7 (fun d1 H hP hD hS => ?_)
  have hP : va_P D vwCl [(d1, .inl (dA 1, nn, .inr (.inr (.inr (.inr (fun _ => none))))))] H := hP
  have hD : va_D A [(d1, .inl (dA 1, nn, .inr (.inr (.inr (.inr (fun _ => none))))))] := hD
  refine W.widen (k := 1) (n := 64) (Nat.le_of_ble_eq_true rfl) (by show _ + _ ≤ 64; omega) ?_
  refine lv_goto (tgt := 24) hx hb dJ7_copyOf_2_10 (by decide) ?_
  refine lv_astore_n (lv' := [(3, .ref d1), (0, .ref a0), (1, .int (nI nn)), (2, .ref mi)]) hx hb dJ7_copyOf_2_24 rfl hl (by decide) rfl (fun ls hl => ?_)
  refine lv_aload_n hx hb dJ7_copyOf_2_25 rfl (lv_at hl 1 rfl) ?_
  refine lv_iconst (v := nI 0) hx hb dJ7_copyOf_2_26 (by decide) ?_
  refine lv_aload_n hx hb dJ7_copyOf_2_27 rfl (lv_at hl 0 rfl) ?_
  refine lv_iconst (v := nI 0) hx hb dJ7_copyOf_2_28 (by decide) ?_
  refine lv_aload_n hx hb dJ7_copyOf_2_29 rfl (lv_at hl 1 rfl) ?_
  refine va_alen (v := nI n0) hx hb K (fz_S hsrc hsA hS) 0 1 rfl rfl rfl dJ7_copyOf_2_30 ?_
  refine lv_iload_n hx hb dJ7_copyOf_2_31 rfl (lv_at hl 2 rfl) ?_
  refine va_mmin hx hb (hml.trans hl.1.symm) hown (hts _ q309) (hts _ q310) (hts _ q72) (hts _ q311) (Nat.le_of_ble_eq_true rfl) (Nat.le_of_ble_eq_true rfl) (Nat.le_of_ble_eq_true rfl) (Nat.le_of_ble_eq_true rfl) dJ7_copyOf_2_32 ?_
  refine x_top (y := nI (min n0 nn)) (mn_nI (by omega) (by omega)) ?_
  refine x_copyF hx hb (hml.trans hl.1.symm) hown (hts _ q312) (hts _ q260) (hts _ q259) (hts _ q70) K hP hD hS (fz_S hsrc hsA hS 0 _ rfl) 0 rfl 0 0 (min n0 nn) (by omega) (by omega) (by omega) (by omega) (fun i hi y hy => any_of G.1 (fz_S hΦ hFA hS) (hel i hi y (by rw [Nat.zero_add] at hy; exact hy))) (Nat.le_of_ble_eq_true rfl) (Nat.le_of_ble_eq_true rfl) dJ7_copyOf_2_35 (fun H locs hP hD hS => ?_)
  have hP : va_P D vwCl [(d1, .inl (dA 1, nn, .inr (.inr (.inr (.inr (va_cpy fe (fun _ => none) 0 0 (min n0 nn)))))))] H := hP
  have hD : va_D A [(d1, .inl (dA 1, nn, .inr (.inr (.inr (.inr (va_cpy fe (fun _ => none) 0 0 (min n0 nn)))))))] := hD
  refine lv_aload_n hx hb dJ7_copyOf_2_38 rfl (lv_at hl 0 rfl) ?_
  exact x_earet d1 hx hb hrt (Or.inr ⟨_, rfl⟩) hlk rfl trivial hP hD hS dJ7_copyOf_2_39 (Nat.le_of_ble_eq_true rfl) (Nat.le_of_ble_eq_true rfl)

set_option maxHeartbeats 4000000 in
theorem xl_cp (l : Launch) (D : va_G) (dA : Nat → ClassId) (E : Nat) (ad : Nat → Nat) (sz0 mi : Nat) (a0 n0 : Nat) (fe : Nat → Option Nat) (nn : Nat) (FZ : va_W) (hn0 : n0 ≤ 64) (hnn : nn ≤ 64) (hel : ∀ i, i < min n0 nn → ∀ y, fe i = some y → OkEl FZ y) (hup : Up sz0 ([])) (hap : Apart FZ ([])) : EX l yJ7_copyOf cJ7_copyOf 2 (some (FieldType.array (FieldType.object "java/lang/Object"))) 2 80 1 64 [.ref a0, .int (nI nn)] (G1 D dA E ad sz0 mi) D ([]) (fun H => va_P D vwCl [(a0, .inl (dA 1, n0, .inr (.inr (.inr (.inr fe)))))] H ∧ va_P D vwCl FZ H) (S := Nat) (fun _ _ => True) (fun u => some (.ref u)) (fun u => [(u, .inl (dA 1, nn, .inr (.inr (.inr (.inr (va_cpy fe (fun _ => none) 0 0 (min n0 nn)))))))]) := by
  refine ex_of (by decide) (Nat.le_of_ble_eq_true rfl) ?_
  intro p e s m below meth c A S hrt hlk hnm G hA hAe hΦ H locs hP hD hS ls hl
  obtain ⟨hx, hb, hml, hown, hts⟩ := id S
  obtain ⟨hsrc, hΦ⟩ := hΦ
  have K := G.1.1
  have hA0 := up_A hup G.1.2.2.2.2.2.2 hAe
  have hFA := ap_A hΦ hap hAe
  have hsA := ap_A hsrc (fun _ _ _ h => by cases h) hAe
  have hP : va_P D vwCl [] H := hP
  have hD : va_D A [] := hD
  have hl : lv_has ls 2 [(0, .ref a0), (1, .int (nI nn))] := hl
  refine lv_aload_n hx hb dJ7_copyOf_0 rfl (lv_at hl 0 rfl) ?_
  refine lv_iload_n hx hb dJ7_copyOf_1 rfl (lv_at hl 1 rfl) ?_
  refine lv_aload_n hx hb dJ7_copyOf_2 rfl (lv_at hl 0 rfl) ?_
  refine va_getC (C := "[Ljava/lang/Object;") hx hb (hml.trans hl.1.symm) hown (hts _ q284) (va_Nw.use rfl (G.1.2.1 _ q1402 rfl)) (hts _ q1401) (hts _ q285) (hts _ q302) G.2 ⟨_, (fz_S hsrc hsA hS) 0 _ rfl, rfl, va_nmO (K.2 1 _ rfl).2 rfl⟩ (Nat.le_of_ble_eq_true rfl) (Nat.le_of_ble_eq_true rfl) dJ7_copyOf_3 ?_
  refine x_ecall (wr := []) (va_runS (As := [.ref a0, .int (nI nn), .ref mi]) (rest := []) S (xl_cp2 l D dA E ad sz0 mi a0 n0 fe nn FZ hn0 hnn hel (fun _ h => by cases h) (fun _ _ _ h => by cases h) H.size) (va_cwS 3 hts (lw_S q303 q304 q71 q305) rfl rfl rfl hdJ7_copyOf_2 ⟨Nat.le_of_ble_eq_true rfl, Nat.le_of_ble_eq_true rfl⟩) ⟨pe_blind g1_bl _, pe_pre (g1_mv G (low_of hS hA0 G.1.2.2.2.2.2.2) hS.1) hP hD ⟨(fz_S hsrc hsA hS), (fz_S hΦ hFA hS)⟩ _⟩ rfl rfl hl.1 rfl (lv_room (Nat.le_of_ble_eq_true rfl)) dJ7_copyOf_6 ⟨Nat.le_of_ble_eq_true rfl, Nat.le_of_ble_eq_true rfl⟩) hP hD hS hA [] [] rfl rfl (by decide) (by decide) (fun d1 H locs hΨ hP hD hS hkp hsz hDn => ?_)
  have hP : va_P D vwCl [(d1, .inl (dA 1, nn, .inr (.inr (.inr (.inr (va_cpy fe (fun _ => none) 0 0 (min n0 nn)))))))] H := hP
  have hD : va_D A [(d1, .inl (dA 1, nn, .inr (.inr (.inr (.inr (va_cpy fe (fun _ => none) 0 0 (min n0 nn)))))))] := hD
  refine W.widen (k := 1) (n := 64) (Nat.le_of_ble_eq_true rfl) (Nat.le_of_ble_eq_true rfl) ?_
  exact x_earet d1 hx hb hrt (Or.inr ⟨_, rfl⟩) hlk rfl trivial hP hD hS dJ7_copyOf_9 (Nat.le_of_ble_eq_true rfl) (Nat.le_of_ble_eq_true rfl)

set_option maxHeartbeats 4000000 in
theorem xl_growE (l : Launch) (D : va_G) (dA : Nat → ClassId) (E : Nat) (ad : Nat → Nat) (sz0 mi : Nat) (lq : Nat) (md : Int32) (mn : Nat) (hmn : mn ≤ 64) (hup : Up sz0 ([(lq, .inr (4, [.int md, .ref E, .int (nI 0)]))])) : EX l yJ2_grow cJ2_grow 4 (some (FieldType.array (FieldType.object "java/lang/Object"))) 1 40 1 64 [.ref lq, .int (nI mn)] (G1 D dA E ad sz0 mi) D ([(lq, .inr (4, [.int md, .ref E, .int (nI 0)]))]) (fun _ => True) (S := Nat) (fun _ _ => True) (fun u => some (.ref u)) (fun u => [(lq, .inr (4, [.int md, .ref u, .int (nI 0)])), (u, .inl (dA 1, max 10 mn, .inr (.inr (.inr (.inr (fun _ => none))))))]) := by
  refine ex_of (by decide) (Nat.le_of_ble_eq_true rfl) ?_
  intro p e s m below meth c A S hrt hlk hnm G hA hAe hΦ H locs hP hD hS ls hl
  obtain ⟨hx, hb, hml, hown, hts⟩ := id S
  have K := G.1.1
  have hA0 := up_A hup G.1.2.2.2.2.2.2 hAe
  have hP : va_P D vwCl [(lq, .inr (4, [.int md, .ref E, .int (nI 0)]))] H := hP
  have hD : va_D A [(lq, .inr (4, [.int md, .ref E, .int (nI 0)]))] := hD
  have hl : lv_has ls 4 [(0, .ref lq), (1, .int (nI mn))] := hl
  refine lv_aload_n hx hb dJ2_grow_0 rfl (lv_at hl 0 rfl) ?_
  refine va_get (D := D) (ci := 4) (C := RJ2) (T := TJ2) (N := 3) hx hb hts in_J2 hown K hP 0 rfl rfl 1 (by decide) (hts _ q159) (fun _ h9 => h9) rfl dJ2_grow_1 ?_
  refine va_alen (v := nI 0) hx hb K (e_P G.1 (low_of hS hA0 G.1.2.2.2.2.2.2)) 0 1 rfl rfl rfl dJ2_grow_4 ?_
  refine lv_istore_n (lv' := [(2, .int (nI 0)), (0, .ref lq), (1, .int (nI mn))]) hx hb dJ2_grow_5 rfl hl (by decide) rfl (fun ls hl => ?_)
  refine lv_iload_n hx hb dJ2_grow_6 rfl (lv_at hl 0 rfl) ?_
  refine lv_if_gt (tgt := 20) hx hb dJ2_grow_7 (by decide) (fun h => absurd h (show ¬ nI 0 < nI _ from nI_nlt (by omega) (by omega))) (fun _ => ?_)
  refine lv_aload_n hx hb dJ2_grow_10 rfl (lv_at hl 1 rfl) ?_
  refine va_get (D := D) (ci := 4) (C := RJ2) (T := TJ2) (N := 3) hx hb hts in_J2 hown K hP 0 rfl rfl 1 (by decide) (hts _ q159) (fun _ h9 => h9) rfl dJ2_grow_11 ?_
  refine va_gets hx hb G.1.2.2.2.2.1.1 (sS_mono hS hA0) hown (hts _ q157) (fun _ h => h) dJ2_grow_14 ?_
  refine x_acmp_eq (tgt := 45) hx hb dJ2_grow_17 (by decide) (fun _ => ?_) (fun h => absurd rfl h)
  refine lv_aload_n hx hb dJ2_grow_45 rfl (lv_at hl 1 rfl) ?_
  refine lv_bipush (v := nI 10) hx hb dJ2_grow_46 (by decide) ?_
  refine lv_iload_n hx hb dJ2_grow_48 rfl (lv_at hl 2 rfl) ?_
  refine va_mmax hx hb (hml.trans hl.1.symm) hown (hts _ q327) (hts _ q321) (hts _ q72) (hts _ q322) (Nat.le_of_ble_eq_true rfl) (Nat.le_of_ble_eq_true rfl) (Nat.le_of_ble_eq_true rfl) (Nat.le_of_ble_eq_true rfl) dJ2_grow_49 ?_
  refine x_top (y := nI (max 10 mn)) (mx_nI (by omega) (by omega)) ?_
  refine x_newq (N := max 10 mn) hx hb hown (hts _ q328) G.1.2.2.2.1 K hP hD hS hA (by omega) (Nat.le_of_ble_eq_true rfl) (by show _ + _ ≤ 64; omega) dJ2_grow_52 (fun d1 H hP hD hS => ?_)
  have hP : va_P D vwCl [(lq, .inr (4, [.int md, .ref E, .int (nI 0)])), (d1, .inl (dA 1, max 10 mn, .inr (.inr (.inr (.inr (fun _ => none))))))] H := hP
  have hD : va_D A [(lq, .inr (4, [.int md, .ref E, .int (nI 0)])), (d1, .inl (dA 1, max 10 mn, .inr (.inr (.inr (.inr (fun _ => none))))))] := hD
  refine W.widen (k := 1) (n := 64) (Nat.le_of_ble_eq_true rfl) (by show _ + _ ≤ 64; omega) ?_
  refine lv_dup_x1 hx hb dJ2_grow_55 rfl rfl ?_
  refine va_put (D := D) (ci := 4) (v := .ref d1) (ty := .array (.object "java/lang/Object")) (C := RJ2) (T := TJ2) (N := 3) hx hb hts in_J2 tyJ2 tyJ2_ok nmJ2 hown K hP hD hS 0 rfl rfl 1 (by decide) (hts _ q159) (fun _ h9 => h9) rfl (by decide +kernel) rfl rfl (Nat.le_of_ble_eq_true rfl) dJ2_grow_56 (fun H locs hP hD hS => ?_)
  have hP : va_P D vwCl [(lq, .inr (4, [.int md, .ref d1, .int (nI 0)])), (d1, .inl (dA 1, max 10 mn, .inr (.inr (.inr (.inr (fun _ => none))))))] H := hP
  have hD : va_D A [(lq, .inr (4, [.int md, .ref d1, .int (nI 0)])), (d1, .inl (dA 1, max 10 mn, .inr (.inr (.inr (.inr (fun _ => none))))))] := hD
  exact x_earet d1 hx hb hrt (Or.inr ⟨_, rfl⟩) hlk rfl trivial hP hD hS dJ2_grow_59 (Nat.le_of_ble_eq_true rfl) (Nat.le_of_ble_eq_true rfl)

set_option maxHeartbeats 4000000 in
theorem xl_growA (l : Launch) (D : va_G) (dA : Nat → ClassId) (E : Nat) (ad : Nat → Nat) (sz0 mi : Nat) (lq : Nat) (md : Int32) (da ct cp : Nat) (fe : Nat → Option Nat) (FZ : va_W) (mn : Nat) (hmn : cp ≤ mn ∧ mn ≤ 64 ∧ cp ≤ 42 ∧ 0 < cp) (hel : ∀ i, i < cp → ∀ y, fe i = some y → OkEl FZ y) (hup : Up sz0 ([(lq, .inr (4, [.int md, .ref da, .int (nI ct)])), (da, .inl (dA 1, cp, .inr (.inr (.inr (.inr fe)))))])) (hap : Apart FZ ([(lq, .inr (4, [.int md, .ref da, .int (nI ct)])), (da, .inl (dA 1, cp, .inr (.inr (.inr (.inr fe)))))])) : EX l yJ2_grow cJ2_grow 4 (some (FieldType.array (FieldType.object "java/lang/Object"))) 3 120 1 64 [.ref lq, .int (nI mn)] (G1 D dA E ad sz0 mi) D ([(lq, .inr (4, [.int md, .ref da, .int (nI ct)])), (da, .inl (dA 1, cp, .inr (.inr (.inr (.inr fe)))))]) (fun H => va_P D vwCl FZ H) (S := Nat) (fun _ _ => True) (fun u => some (.ref u)) (fun u => [(lq, .inr (4, [.int md, .ref u, .int (nI ct)])), (u, .inl (dA 1, cp + max (mn - cp) (cp / 2), .inr (.inr (.inr (.inr (va_cpy fe (fun _ => none) 0 0 (min cp (cp + max (mn - cp) (cp / 2)))))))))]) := by
  refine ex_of (by decide) (Nat.le_of_ble_eq_true rfl) ?_
  intro p e s m below meth c A S hrt hlk hnm G hA hAe hΦ H locs hP hD hS ls hl
  obtain ⟨hx, hb, hml, hown, hts⟩ := id S
  have K := G.1.1
  have hA0 := up_A hup G.1.2.2.2.2.2.2 hAe
  have hFA := ap_A hΦ hap hAe
  have hP : va_P D vwCl [(lq, .inr (4, [.int md, .ref da, .int (nI ct)])), (da, .inl (dA 1, cp, .inr (.inr (.inr (.inr fe)))))] H := hP
  have hD : va_D A [(lq, .inr (4, [.int md, .ref da, .int (nI ct)])), (da, .inl (dA 1, cp, .inr (.inr (.inr (.inr fe)))))] := hD
  have hl : lv_has ls 4 [(0, .ref lq), (1, .int (nI mn))] := hl
  refine lv_aload_n hx hb dJ2_grow_0 rfl (lv_at hl 0 rfl) ?_
  refine va_get (D := D) (ci := 4) (C := RJ2) (T := TJ2) (N := 3) hx hb hts in_J2 hown K hP 0 rfl rfl 1 (by decide) (hts _ q159) (fun _ h9 => h9) rfl dJ2_grow_1 ?_
  refine va_alen (v := nI cp) hx hb K hP 1 1 rfl rfl rfl dJ2_grow_4 ?_
  refine lv_istore_n (lv' := [(2, .int (nI cp)), (0, .ref lq), (1, .int (nI mn))]) hx hb dJ2_grow_5 rfl hl (by decide) rfl (fun ls hl => ?_)
  refine lv_iload_n hx hb dJ2_grow_6 rfl (lv_at hl 0 rfl) ?_
  refine lv_if_gt (tgt := 20) hx hb dJ2_grow_7 (by decide) (fun _ => ?_) (fun h => absurd (show nI 0 < nI _ from nI_lt (by omega) (by omega)) h)
  refine lv_iload_n hx hb dJ2_grow_20 rfl (lv_at hl 0 rfl) ?_
  refine lv_iload_n hx hb dJ2_grow_21 rfl (lv_at hl 2 rfl) ?_
  refine lv_iload_n hx hb dJ2_grow_22 rfl (lv_at hl 0 rfl) ?_
  refine lv_isub hx hb dJ2_grow_23 ?_
  refine x_top (y := nI (mn - cp)) (sub_nI (by omega)) ?_
  refine lv_iload_n hx hb dJ2_grow_24 rfl (lv_at hl 0 rfl) ?_
  refine lv_iconst (v := nI 1) hx hb dJ2_grow_25 (by decide) ?_
  refine lv_ishr hx hb dJ2_grow_26 ?_
  refine x_top (y := nI (cp / 2)) (by rw [nx_shr (by omega) (by decide), Nat.pow_one]) ?_
  refine x_ret (va_runS (As := [.int (nI cp), .int (nI (mn - cp)), .int (nI (cp / 2))]) (rest := []) S (xl_nl l cp (mn - cp) (cp / 2) (by omega) (by omega)) (va_cwS 3 hts (lw_S q317 q318 q73 q319) rfl rfl rfl hdJ9_newLength ⟨Nat.le_of_ble_eq_true rfl, Nat.le_of_ble_eq_true rfl⟩) ⟨bb_blind tt_bl _, tt_pre _⟩ rfl rfl hl.1 rfl (lv_room (Nat.le_of_ble_eq_true rfl)) dJ2_grow_27 ⟨by omega, by omega⟩) ?_
  refine lv_istore_n (lv' := [(3, .int (nI (cp + max (mn - cp) (cp / 2)))), (2, .int (nI cp)), (0, .ref lq), (1, .int (nI mn))]) hx hb dJ2_grow_30 rfl hl (by decide) rfl (fun ls hl => ?_)
  refine lv_aload_n hx hb dJ2_grow_31 rfl (lv_at hl 2 rfl) ?_
  refine lv_aload_n hx hb dJ2_grow_32 rfl (lv_at hl 2 rfl) ?_
  refine va_get (D := D) (ci := 4) (C := RJ2) (T := TJ2) (N := 3) hx hb hts in_J2 hown K hP 0 rfl rfl 1 (by decide) (hts _ q159) (fun _ h9 => h9) rfl dJ2_grow_33 ?_
  refine lv_iload_n hx hb dJ2_grow_36 rfl (lv_at hl 0 rfl) ?_
  refine x_ecall (wr := [(lq, .inr (4, [.int md, .ref da, .int (nI ct)])), (da, .inl (dA 1, cp, .inr (.inr (.inr (.inr fe)))))]) (va_runS (As := [.ref da, .int (nI (cp + max (mn - cp) (cp / 2)))]) (rest := [.ref lq]) S (xl_cp l D dA E ad sz0 mi da cp fe (cp + max (mn - cp) (cp / 2)) FZ (by omega) (by omega) (fun i hi y hy => hel i (by omega) y hy) (fun _ h => by cases h) (fun _ _ _ h => by cases h) H.size) (va_cwS 2 hts (lw_S q281 q282 q71 q283) rfl rfl rfl hdJ7_copyOf ⟨Nat.le_of_ble_eq_true rfl, Nat.le_of_ble_eq_true rfl⟩) ⟨pe_blind g1_bl _, pe_pre (g1_mv G (low_of hS hA0 G.1.2.2.2.2.2.2) hS.1) (hP.sub [] rfl) (hD.sub [] (by decide) rfl) ⟨(hP.sub [1] rfl), (fz_S hΦ hFA hS)⟩ _⟩ rfl rfl hl.1 rfl (lv_room (Nat.le_of_ble_eq_true rfl)) dJ2_grow_37 ⟨Nat.le_of_ble_eq_true rfl, Nat.le_of_ble_eq_true rfl⟩) hP hD hS hA [] [0, 1] rfl rfl (by decide) (by decide) (fun d1 H locs hΨ hP hD hS hkp hsz hDn => ?_)
  have hP : va_P D vwCl [(lq, .inr (4, [.int md, .ref da, .int (nI ct)])), (da, .inl (dA 1, cp, .inr (.inr (.inr (.inr fe))))), (d1, .inl (dA 1, cp + max (mn - cp) (cp / 2), .inr (.inr (.inr (.inr (va_cpy fe (fun _ => none) 0 0 (min cp (cp + max (mn - cp) (cp / 2)))))))))] H := hP
  have hD : va_D A [(lq, .inr (4, [.int md, .ref da, .int (nI ct)])), (da, .inl (dA 1, cp, .inr (.inr (.inr (.inr fe))))), (d1, .inl (dA 1, cp + max (mn - cp) (cp / 2), .inr (.inr (.inr (.inr (va_cpy fe (fun _ => none) 0 0 (min cp (cp + max (mn - cp) (cp / 2)))))))))] := hD
  refine W.widen (k := 1) (n := 64) (Nat.le_of_ble_eq_true rfl) (Nat.le_of_ble_eq_true rfl) ?_
  refine lv_dup_x1 hx hb dJ2_grow_40 rfl rfl ?_
  refine va_put (D := D) (ci := 4) (v := .ref d1) (ty := .array (.object "java/lang/Object")) (C := RJ2) (T := TJ2) (N := 3) hx hb hts in_J2 tyJ2 tyJ2_ok nmJ2 hown K hP hD hS 0 rfl rfl 1 (by decide) (hts _ q159) (fun _ h9 => h9) rfl (by decide +kernel) rfl rfl (Nat.le_of_ble_eq_true rfl) dJ2_grow_41 (fun H locs hP hD hS => ?_)
  have hP : va_P D vwCl [(lq, .inr (4, [.int md, .ref d1, .int (nI ct)])), (da, .inl (dA 1, cp, .inr (.inr (.inr (.inr fe))))), (d1, .inl (dA 1, cp + max (mn - cp) (cp / 2), .inr (.inr (.inr (.inr (va_cpy fe (fun _ => none) 0 0 (min cp (cp + max (mn - cp) (cp / 2)))))))))] H := hP
  have hD : va_D A [(lq, .inr (4, [.int md, .ref d1, .int (nI ct)])), (da, .inl (dA 1, cp, .inr (.inr (.inr (.inr fe))))), (d1, .inl (dA 1, cp + max (mn - cp) (cp / 2), .inr (.inr (.inr (.inr (va_cpy fe (fun _ => none) 0 0 (min cp (cp + max (mn - cp) (cp / 2)))))))))] := hD
  exact x_earet d1 hx hb hrt (Or.inr ⟨_, rfl⟩) hlk rfl trivial (hP.sub [0, 2] rfl) (hD.sub [0, 2] (by decide) rfl) hS dJ2_grow_44 (Nat.le_of_ble_eq_true rfl) (Nat.le_of_ble_eq_true rfl)

set_option maxHeartbeats 4000000 in
theorem xl_grow2E (l : Launch) (D : va_G) (dA : Nat → ClassId) (E : Nat) (ad : Nat → Nat) (sz0 mi : Nat) (lq : Nat) (md : Int32) (hup : Up sz0 ([(lq, .inr (4, [.int md, .ref E, .int (nI 0)]))])) : EX l yJ2_grow_2 cJ2_grow_2 1 (some (FieldType.array (FieldType.object "java/lang/Object"))) 2 80 1 64 [.ref lq] (G1 D dA E ad sz0 mi) D ([(lq, .inr (4, [.int md, .ref E, .int (nI 0)]))]) (fun _ => True) (S := Nat) (fun _ _ => True) (fun u => some (.ref u)) (fun u => [(lq, .inr (4, [.int md, .ref u, .int (nI 0)])), (u, .inl (dA 1, max 10 1, .inr (.inr (.inr (.inr (fun _ => none))))))]) := by
  refine ex_of (by decide) (Nat.le_of_ble_eq_true rfl) ?_
  intro p e s m below meth c A S hrt hlk hnm G hA hAe hΦ H locs hP hD hS ls hl
  obtain ⟨hx, hb, hml, hown, hts⟩ := id S
  have K := G.1.1
  have hA0 := up_A hup G.1.2.2.2.2.2.2 hAe
  have hP : va_P D vwCl [(lq, .inr (4, [.int md, .ref E, .int (nI 0)]))] H := hP
  have hD : va_D A [(lq, .inr (4, [.int md, .ref E, .int (nI 0)]))] := hD
  have hl : lv_has ls 1 [(0, .ref lq)] := hl
  refine lv_aload_n hx hb dJ2_grow_2_0 rfl (lv_at hl 0 rfl) ?_
  refine lv_aload_n hx hb dJ2_grow_2_1 rfl (lv_at hl 0 rfl) ?_
  refine va_get (D := D) (ci := 4) (C := RJ2) (T := TJ2) (N := 3) hx hb hts in_J2 hown K hP 0 rfl rfl 2 (by decide) (hts _ q160) (fun _ h9 => h9) rfl dJ2_grow_2_2 ?_
  refine lv_iconst (v := nI 1) hx hb dJ2_grow_2_5 (by decide) ?_
  refine x_addN hx hb dJ2_grow_2_6 ?_
  refine x_top (y := nI 1) rfl ?_
  refine x_ecall (wr := []) (va_runV (As := [.int (nI 1)]) (rest := []) S (xl_growE l D dA E ad sz0 mi lq md 1 (by omega) (up_D hA0 hD) H.size) (cwV 1 hts (lw_V q313 q315 qs1 q64 q316) rfl rfl rfl hdJ2_grow ⟨Nat.le_of_ble_eq_true rfl, Nat.le_of_ble_eq_true rfl⟩) ⟨pe_blind g1_bl _, va_recv K hP (ci := 4) (q0 := 0) rfl rfl, pe_pre (g1_mv G (low_of hS hA0 G.1.2.2.2.2.2.2) hS.1) hP hD trivial _⟩ rfl rfl hl.1 rfl (lv_room (Nat.le_of_ble_eq_true rfl)) dJ2_grow_2_7 ⟨Nat.le_of_ble_eq_true rfl, Nat.le_of_ble_eq_true rfl⟩) hP hD hS hA [0] [] rfl rfl (by decide) (by decide) (fun d1 H locs hΨ hP hD hS hkp hsz hDn => ?_)
  have hP : va_P D vwCl [(lq, .inr (4, [.int md, .ref d1, .int (nI 0)])), (d1, .inl (dA 1, max 10 1, .inr (.inr (.inr (.inr (fun _ => none))))))] H := hP
  have hD : va_D A [(lq, .inr (4, [.int md, .ref d1, .int (nI 0)])), (d1, .inl (dA 1, max 10 1, .inr (.inr (.inr (.inr (fun _ => none))))))] := hD
  refine W.widen (k := 1) (n := 64) (Nat.le_of_ble_eq_true rfl) (Nat.le_of_ble_eq_true rfl) ?_
  exact x_earet d1 hx hb hrt (Or.inr ⟨_, rfl⟩) hlk rfl trivial hP hD hS dJ2_grow_2_10 (Nat.le_of_ble_eq_true rfl) (Nat.le_of_ble_eq_true rfl)

set_option maxHeartbeats 4000000 in
theorem xl_grow2F (l : Launch) (D : va_G) (dA : Nat → ClassId) (E : Nat) (ad : Nat → Nat) (sz0 mi : Nat) (lq : Nat) (md : Int32) (da cp : Nat) (fe : Nat → Option Nat) (FZ : va_W) (hcp : cp ≤ 42 ∧ 0 < cp) (hel : ∀ i, i < cp → ∀ y, fe i = some y → OkEl FZ y) (hup : Up sz0 ([(lq, .inr (4, [.int md, .ref da, .int (nI cp)])), (da, .inl (dA 1, cp, .inr (.inr (.inr (.inr fe)))))])) (hap : Apart FZ ([(lq, .inr (4, [.int md, .ref da, .int (nI cp)])), (da, .inl (dA 1, cp, .inr (.inr (.inr (.inr fe)))))])) : EX l yJ2_grow_2 cJ2_grow_2 1 (some (FieldType.array (FieldType.object "java/lang/Object"))) 4 160 1 64 [.ref lq] (G1 D dA E ad sz0 mi) D ([(lq, .inr (4, [.int md, .ref da, .int (nI cp)])), (da, .inl (dA 1, cp, .inr (.inr (.inr (.inr fe)))))]) (fun H => va_P D vwCl FZ H) (S := Nat) (fun _ _ => True) (fun u => some (.ref u)) (fun u => [(lq, .inr (4, [.int md, .ref u, .int (nI cp)])), (u, .inl (dA 1, cp + max (cp + 1 - cp) (cp / 2), .inr (.inr (.inr (.inr (va_cpy fe (fun _ => none) 0 0 (min cp (cp + max (cp + 1 - cp) (cp / 2)))))))))]) := by
  refine ex_of (by decide) (Nat.le_of_ble_eq_true rfl) ?_
  intro p e s m below meth c A S hrt hlk hnm G hA hAe hΦ H locs hP hD hS ls hl
  obtain ⟨hx, hb, hml, hown, hts⟩ := id S
  have K := G.1.1
  have hA0 := up_A hup G.1.2.2.2.2.2.2 hAe
  have hFA := ap_A hΦ hap hAe
  have hP : va_P D vwCl [(lq, .inr (4, [.int md, .ref da, .int (nI cp)])), (da, .inl (dA 1, cp, .inr (.inr (.inr (.inr fe)))))] H := hP
  have hD : va_D A [(lq, .inr (4, [.int md, .ref da, .int (nI cp)])), (da, .inl (dA 1, cp, .inr (.inr (.inr (.inr fe)))))] := hD
  have hl : lv_has ls 1 [(0, .ref lq)] := hl
  refine lv_aload_n hx hb dJ2_grow_2_0 rfl (lv_at hl 0 rfl) ?_
  refine lv_aload_n hx hb dJ2_grow_2_1 rfl (lv_at hl 0 rfl) ?_
  refine va_get (D := D) (ci := 4) (C := RJ2) (T := TJ2) (N := 3) hx hb hts in_J2 hown K hP 0 rfl rfl 2 (by decide) (hts _ q160) (fun _ h9 => h9) rfl dJ2_grow_2_2 ?_
  refine lv_iconst (v := nI 1) hx hb dJ2_grow_2_5 (by decide) ?_
  refine x_addN hx hb dJ2_grow_2_6 ?_
  refine x_ecall (wr := []) (va_runV (As := [.int (nI (cp + 1))]) (rest := []) S (xl_growA l D dA E ad sz0 mi lq md da cp cp fe FZ (cp + 1) (by omega) hel (up_D hA0 hD) (apart_D hFA hD) H.size) (cwV 1 hts (lw_V q313 q315 qs1 q64 q316) rfl rfl rfl hdJ2_grow ⟨Nat.le_of_ble_eq_true rfl, Nat.le_of_ble_eq_true rfl⟩) ⟨pe_blind g1_bl _, va_recv K hP (ci := 4) (q0 := 0) rfl rfl, pe_pre (g1_mv G (low_of hS hA0 G.1.2.2.2.2.2.2) hS.1) hP hD (fz_S hΦ hFA hS) _⟩ rfl rfl hl.1 rfl (lv_room (Nat.le_of_ble_eq_true rfl)) dJ2_grow_2_7 ⟨Nat.le_of_ble_eq_true rfl, Nat.le_of_ble_eq_true rfl⟩) hP hD hS hA [0, 1] [] rfl rfl (by decide) (by decide) (fun d1 H locs hΨ hP hD hS hkp hsz hDn => ?_)
  have hP : va_P D vwCl [(lq, .inr (4, [.int md, .ref d1, .int (nI cp)])), (d1, .inl (dA 1, cp + max (cp + 1 - cp) (cp / 2), .inr (.inr (.inr (.inr (va_cpy fe (fun _ => none) 0 0 (min cp (cp + max (cp + 1 - cp) (cp / 2)))))))))] H := hP
  have hD : va_D A [(lq, .inr (4, [.int md, .ref d1, .int (nI cp)])), (d1, .inl (dA 1, cp + max (cp + 1 - cp) (cp / 2), .inr (.inr (.inr (.inr (va_cpy fe (fun _ => none) 0 0 (min cp (cp + max (cp + 1 - cp) (cp / 2)))))))))] := hD
  refine W.widen (k := 1) (n := 64) (Nat.le_of_ble_eq_true rfl) (Nat.le_of_ble_eq_true rfl) ?_
  exact x_earet d1 hx hb hrt (Or.inr ⟨_, rfl⟩) hlk rfl trivial hP hD hS dJ2_grow_2_10 (Nat.le_of_ble_eq_true rfl) (Nat.le_of_ble_eq_true rfl)

set_option maxHeartbeats 4000000 in
theorem xl_add2E (l : Launch) (D : va_G) (dA : Nat → ClassId) (E : Nat) (ad : Nat → Nat) (sz0 mi : Nat) (lq : Nat) (md : Int32) (FZ : va_W) (x0 : Nat) (hox : OkEl FZ x0) (hup : Up sz0 ([(lq, .inr (4, [.int md, .ref E, .int (nI 0)]))])) (hap : Apart FZ ([(lq, .inr (4, [.int md, .ref E, .int (nI 0)]))])) : EX l yJ2_add_2 cJ2_add_2 4 none 3 120 1 64 [.ref lq, .ref x0, .ref E, .int (nI 0)] (G1 D dA E ad sz0 mi) D ([(lq, .inr (4, [.int md, .ref E, .int (nI 0)]))]) (fun H => va_P D vwCl FZ H) (S := Nat) (fun _ _ => True) (fun _ => none) (fun u => [(lq, .inr (4, [.int md, .ref u, .int (nI 1)])), (u, .inl (dA 1, max 10 1, .inr (.inr (.inr (.inr (va_up (fun _ => none) 0 (some x0)))))))]) := by
  refine ex_of (by decide) (Nat.le_of_ble_eq_true rfl) ?_
  intro p e s m below meth c A S hrt hlk hnm G hA hAe hΦ H locs hP hD hS ls hl
  obtain ⟨hx, hb, hml, hown, hts⟩ := id S
  have K := G.1.1
  have hA0 := up_A hup G.1.2.2.2.2.2.2 hAe
  have hFA := ap_A hΦ hap hAe
  have hP : va_P D vwCl [(lq, .inr (4, [.int md, .ref E, .int (nI 0)]))] H := hP
  have hD : va_D A [(lq, .inr (4, [.int md, .ref E, .int (nI 0)]))] := hD
  have hl : lv_has ls 4 [(0, .ref lq), (1, .ref x0), (2, .ref E), (3, .int (nI 0))] := hl
  refine lv_iload_n hx hb dJ2_add_2_0 rfl (lv_at hl 3 rfl) ?_
  refine lv_aload_n hx hb dJ2_add_2_1 rfl (lv_at hl 2 rfl) ?_
  refine va_alen (v := nI 0) hx hb K (e_P G.1 (low_of hS hA0 G.1.2.2.2.2.2.2)) 0 1 rfl rfl rfl dJ2_add_2_2 ?_
  refine lv_icmp_ne (tgt := 11) hx hb dJ2_add_2_3 (by decide) (fun h => absurd h (by decide)) (fun _ => ?_)
  refine lv_aload_n hx hb dJ2_add_2_6 rfl (lv_at hl 0 rfl) ?_
  refine x_ecall (wr := []) (va_runV (As := []) (rest := []) S (xl_grow2E l D dA E ad sz0 mi lq md (up_D hA0 hD) H.size) (cwV 0 hts (lw_V q388 q390 qs5 q64 q391) rfl rfl rfl hdJ2_grow_2 ⟨Nat.le_of_ble_eq_true rfl, Nat.le_of_ble_eq_true rfl⟩) ⟨pe_blind g1_bl _, va_recv K hP (ci := 4) (q0 := 0) rfl rfl, pe_pre (g1_mv G (low_of hS hA0 G.1.2.2.2.2.2.2) hS.1) hP hD trivial _⟩ rfl rfl hl.1 rfl (lv_room (Nat.le_of_ble_eq_true rfl)) dJ2_add_2_7 ⟨Nat.le_of_ble_eq_true rfl, Nat.le_of_ble_eq_true rfl⟩) hP hD hS hA [0] [] rfl rfl (by decide) (by decide) (fun d1 H locs hΨ hP hD hS hkp hsz hDn => ?_)
  have hP : va_P D vwCl [(lq, .inr (4, [.int md, .ref d1, .int (nI 0)])), (d1, .inl (dA 1, max 10 1, .inr (.inr (.inr (.inr (fun _ => none))))))] H := hP
  have hD : va_D A [(lq, .inr (4, [.int md, .ref d1, .int (nI 0)])), (d1, .inl (dA 1, max 10 1, .inr (.inr (.inr (.inr (fun _ => none))))))] := hD
  refine W.widen (k := 1) (n := 64) (Nat.le_of_ble_eq_true rfl) (Nat.le_of_ble_eq_true rfl) ?_
  refine lv_astore_n (lv' := [(2, .ref d1), (0, .ref lq), (1, .ref x0), (3, .int (nI 0))]) hx hb dJ2_add_2_10 rfl hl (by decide) rfl (fun ls hl => ?_)
  refine lv_aload_n hx hb dJ2_add_2_11 rfl (lv_at hl 0 rfl) ?_
  refine lv_iload_n hx hb dJ2_add_2_12 rfl (lv_at hl 3 rfl) ?_
  refine lv_aload_n hx hb dJ2_add_2_13 rfl (lv_at hl 2 rfl) ?_
  refine x_aast hx hb K hP hD hS 1 rfl (any_of G.1 (fz_S hΦ hFA hS) hox) 0 (by omega) (by omega) dJ2_add_2_14 (fun H locs hP hD hS => ?_)
  have hP : va_P D vwCl [(lq, .inr (4, [.int md, .ref d1, .int (nI 0)])), (d1, .inl (dA 1, max 10 1, .inr (.inr (.inr (.inr (va_up (fun _ => none) 0 (some x0)))))))] H := hP
  have hD : va_D A [(lq, .inr (4, [.int md, .ref d1, .int (nI 0)])), (d1, .inl (dA 1, max 10 1, .inr (.inr (.inr (.inr (va_up (fun _ => none) 0 (some x0)))))))] := hD
  refine lv_aload_n hx hb dJ2_add_2_15 rfl (lv_at hl 1 rfl) ?_
  refine lv_iload_n hx hb dJ2_add_2_16 rfl (lv_at hl 3 rfl) ?_
  refine lv_iconst (v := nI 1) hx hb dJ2_add_2_17 (by decide) ?_
  refine x_addN hx hb dJ2_add_2_18 ?_
  refine x_top (y := nI 1) rfl ?_
  refine va_put (D := D) (ci := 4) (v := .int (nI 1)) (ty := .int) (C := RJ2) (T := TJ2) (N := 3) hx hb hts in_J2 tyJ2 tyJ2_ok nmJ2 hown K hP hD hS 0 rfl rfl 2 (by decide) (hts _ q160) (fun _ h9 => h9) rfl (by decide +kernel) rfl rfl (Nat.le_of_ble_eq_true rfl) dJ2_add_2_19 (fun H locs hP hD hS => ?_)
  have hP : va_P D vwCl [(lq, .inr (4, [.int md, .ref d1, .int (nI 1)])), (d1, .inl (dA 1, max 10 1, .inr (.inr (.inr (.inr (va_up (fun _ => none) 0 (some x0)))))))] H := hP
  have hD : va_D A [(lq, .inr (4, [.int md, .ref d1, .int (nI 1)])), (d1, .inl (dA 1, max 10 1, .inr (.inr (.inr (.inr (va_up (fun _ => none) 0 (some x0)))))))] := hD
  exact x_evret d1 hx hb hrt hlk rfl trivial hP hD hS dJ2_add_2_22 (Nat.le_of_ble_eq_true rfl) (Nat.le_of_ble_eq_true rfl)

set_option maxHeartbeats 4000000 in
theorem xl_add2A (l : Launch) (D : va_G) (dA : Nat → ClassId) (E : Nat) (ad : Nat → Nat) (sz0 mi : Nat) (lq : Nat) (md : Int32) (da ct cp : Nat) (fe : Nat → Option Nat) (FZ : va_W) (hcp : ct < cp ∧ cp ≤ 64) (x0 : Nat) (hox : OkEl FZ x0) (hup : Up sz0 ([(lq, .inr (4, [.int md, .ref da, .int (nI ct)])), (da, .inl (dA 1, cp, .inr (.inr (.inr (.inr fe)))))])) (hap : Apart FZ ([(lq, .inr (4, [.int md, .ref da, .int (nI ct)])), (da, .inl (dA 1, cp, .inr (.inr (.inr (.inr fe)))))])) : EX l yJ2_add_2 cJ2_add_2 4 none 3 120 0 0 [.ref lq, .ref x0, .ref da, .int (nI ct)] (G1 D dA E ad sz0 mi) D ([(lq, .inr (4, [.int md, .ref da, .int (nI ct)])), (da, .inl (dA 1, cp, .inr (.inr (.inr (.inr fe)))))]) (fun H => va_P D vwCl FZ H) (S := Unit) (fun _ _ => True) (fun _ => none) (fun _ => [(lq, .inr (4, [.int md, .ref da, .int (nI (ct + 1))])), (da, .inl (dA 1, cp, .inr (.inr (.inr (.inr (va_up fe ct (some x0)))))))]) := by
  refine ex_of (by decide) (Nat.le_of_ble_eq_true rfl) ?_
  intro p e s m below meth c A S hrt hlk hnm G hA hAe hΦ H locs hP hD hS ls hl
  obtain ⟨hx, hb, hml, hown, hts⟩ := id S
  have K := G.1.1
  have hA0 := up_A hup G.1.2.2.2.2.2.2 hAe
  have hFA := ap_A hΦ hap hAe
  have hP : va_P D vwCl [(lq, .inr (4, [.int md, .ref da, .int (nI ct)])), (da, .inl (dA 1, cp, .inr (.inr (.inr (.inr fe)))))] H := hP
  have hD : va_D A [(lq, .inr (4, [.int md, .ref da, .int (nI ct)])), (da, .inl (dA 1, cp, .inr (.inr (.inr (.inr fe)))))] := hD
  have hl : lv_has ls 4 [(0, .ref lq), (1, .ref x0), (2, .ref da), (3, .int (nI ct))] := hl
  refine lv_iload_n hx hb dJ2_add_2_0 rfl (lv_at hl 3 rfl) ?_
  refine lv_aload_n hx hb dJ2_add_2_1 rfl (lv_at hl 2 rfl) ?_
  refine va_alen (v := nI cp) hx hb K hP 1 1 rfl rfl rfl dJ2_add_2_2 ?_
  refine x_icmpn_ne (tgt := 11) hx hb dJ2_add_2_3 (by decide) (by omega) (by omega) (fun h => ?_) (fun h => absurd h (by omega))
  refine lv_aload_n hx hb dJ2_add_2_11 rfl (lv_at hl 2 rfl) ?_
  refine lv_iload_n hx hb dJ2_add_2_12 rfl (lv_at hl 3 rfl) ?_
  refine lv_aload_n hx hb dJ2_add_2_13 rfl (lv_at hl 1 rfl) ?_
  refine x_aast hx hb K hP hD hS 1 rfl (any_of G.1 (fz_S hΦ hFA hS) hox) ct (by omega) (by omega) dJ2_add_2_14 (fun H locs hP hD hS => ?_)
  have hP : va_P D vwCl [(lq, .inr (4, [.int md, .ref da, .int (nI ct)])), (da, .inl (dA 1, cp, .inr (.inr (.inr (.inr (va_up fe ct (some x0)))))))] H := hP
  have hD : va_D A [(lq, .inr (4, [.int md, .ref da, .int (nI ct)])), (da, .inl (dA 1, cp, .inr (.inr (.inr (.inr (va_up fe ct (some x0)))))))] := hD
  refine lv_aload_n hx hb dJ2_add_2_15 rfl (lv_at hl 0 rfl) ?_
  refine lv_iload_n hx hb dJ2_add_2_16 rfl (lv_at hl 3 rfl) ?_
  refine lv_iconst (v := nI 1) hx hb dJ2_add_2_17 (by decide) ?_
  refine x_addN hx hb dJ2_add_2_18 ?_
  refine va_put (D := D) (ci := 4) (v := .int (nI (ct + 1))) (ty := .int) (C := RJ2) (T := TJ2) (N := 3) hx hb hts in_J2 tyJ2 tyJ2_ok nmJ2 hown K hP hD hS 0 rfl rfl 2 (by decide) (hts _ q160) (fun _ h9 => h9) rfl (by decide +kernel) rfl rfl (Nat.le_of_ble_eq_true rfl) dJ2_add_2_19 (fun H locs hP hD hS => ?_)
  have hP : va_P D vwCl [(lq, .inr (4, [.int md, .ref da, .int (nI (ct + 1))])), (da, .inl (dA 1, cp, .inr (.inr (.inr (.inr (va_up fe ct (some x0)))))))] H := hP
  have hD : va_D A [(lq, .inr (4, [.int md, .ref da, .int (nI (ct + 1))])), (da, .inl (dA 1, cp, .inr (.inr (.inr (.inr (va_up fe ct (some x0)))))))] := hD
  exact x_evret () hx hb hrt hlk rfl trivial hP hD hS dJ2_add_2_22 (Nat.le_of_ble_eq_true rfl) (Nat.le_of_ble_eq_true rfl)

set_option maxHeartbeats 4000000 in
theorem xl_add2F (l : Launch) (D : va_G) (dA : Nat → ClassId) (E : Nat) (ad : Nat → Nat) (sz0 mi : Nat) (lq : Nat) (md : Int32) (da cp : Nat) (fe : Nat → Option Nat) (FZ : va_W) (hcp : cp ≤ 42 ∧ 0 < cp) (hel : ∀ i, i < cp → ∀ y, fe i = some y → OkEl FZ y) (x0 : Nat) (hox : OkEl FZ x0) (hup : Up sz0 ([(lq, .inr (4, [.int md, .ref da, .int (nI cp)])), (da, .inl (dA 1, cp, .inr (.inr (.inr (.inr fe)))))])) (hap : Apart FZ ([(lq, .inr (4, [.int md, .ref da, .int (nI cp)])), (da, .inl (dA 1, cp, .inr (.inr (.inr (.inr fe)))))])) : EX l yJ2_add_2 cJ2_add_2 4 none 5 200 1 64 [.ref lq, .ref x0, .ref da, .int (nI cp)] (G1 D dA E ad sz0 mi) D ([(lq, .inr (4, [.int md, .ref da, .int (nI cp)])), (da, .inl (dA 1, cp, .inr (.inr (.inr (.inr fe)))))]) (fun H => va_P D vwCl FZ H) (S := Nat) (fun _ _ => True) (fun _ => none) (fun u => [(lq, .inr (4, [.int md, .ref u, .int (nI (cp + 1))])), (u, .inl (dA 1, cp + max (cp + 1 - cp) (cp / 2), .inr (.inr (.inr (.inr (va_up (va_cpy fe (fun _ => none) 0 0 (min cp (cp + max (cp + 1 - cp) (cp / 2)))) cp (some x0)))))))]) := by
  refine ex_of (by decide) (Nat.le_of_ble_eq_true rfl) ?_
  intro p e s m below meth c A S hrt hlk hnm G hA hAe hΦ H locs hP hD hS ls hl
  obtain ⟨hx, hb, hml, hown, hts⟩ := id S
  have K := G.1.1
  have hA0 := up_A hup G.1.2.2.2.2.2.2 hAe
  have hFA := ap_A hΦ hap hAe
  have hP : va_P D vwCl [(lq, .inr (4, [.int md, .ref da, .int (nI cp)])), (da, .inl (dA 1, cp, .inr (.inr (.inr (.inr fe)))))] H := hP
  have hD : va_D A [(lq, .inr (4, [.int md, .ref da, .int (nI cp)])), (da, .inl (dA 1, cp, .inr (.inr (.inr (.inr fe)))))] := hD
  have hl : lv_has ls 4 [(0, .ref lq), (1, .ref x0), (2, .ref da), (3, .int (nI cp))] := hl
  refine lv_iload_n hx hb dJ2_add_2_0 rfl (lv_at hl 3 rfl) ?_
  refine lv_aload_n hx hb dJ2_add_2_1 rfl (lv_at hl 2 rfl) ?_
  refine va_alen (v := nI cp) hx hb K hP 1 1 rfl rfl rfl dJ2_add_2_2 ?_
  refine x_icmpn_ne (tgt := 11) hx hb dJ2_add_2_3 (by decide) (by omega) (by omega) (fun h => absurd h (by omega)) (fun h => ?_)
  refine lv_aload_n hx hb dJ2_add_2_6 rfl (lv_at hl 0 rfl) ?_
  refine x_ecall (wr := []) (va_runV (As := []) (rest := []) S (xl_grow2F l D dA E ad sz0 mi lq md da cp fe FZ hcp hel (up_D hA0 hD) (apart_D hFA hD) H.size) (cwV 0 hts (lw_V q388 q390 qs5 q64 q391) rfl rfl rfl hdJ2_grow_2 ⟨Nat.le_of_ble_eq_true rfl, Nat.le_of_ble_eq_true rfl⟩) ⟨pe_blind g1_bl _, va_recv K hP (ci := 4) (q0 := 0) rfl rfl, pe_pre (g1_mv G (low_of hS hA0 G.1.2.2.2.2.2.2) hS.1) hP hD (fz_S hΦ hFA hS) _⟩ rfl rfl hl.1 rfl (lv_room (Nat.le_of_ble_eq_true rfl)) dJ2_add_2_7 ⟨Nat.le_of_ble_eq_true rfl, Nat.le_of_ble_eq_true rfl⟩) hP hD hS hA [0, 1] [] rfl rfl (by decide) (by decide) (fun d1 H locs hΨ hP hD hS hkp hsz hDn => ?_)
  have hP : va_P D vwCl [(lq, .inr (4, [.int md, .ref d1, .int (nI cp)])), (d1, .inl (dA 1, cp + max (cp + 1 - cp) (cp / 2), .inr (.inr (.inr (.inr (va_cpy fe (fun _ => none) 0 0 (min cp (cp + max (cp + 1 - cp) (cp / 2)))))))))] H := hP
  have hD : va_D A [(lq, .inr (4, [.int md, .ref d1, .int (nI cp)])), (d1, .inl (dA 1, cp + max (cp + 1 - cp) (cp / 2), .inr (.inr (.inr (.inr (va_cpy fe (fun _ => none) 0 0 (min cp (cp + max (cp + 1 - cp) (cp / 2)))))))))] := hD
  refine W.widen (k := 1) (n := 64) (Nat.le_of_ble_eq_true rfl) (Nat.le_of_ble_eq_true rfl) ?_
  refine lv_astore_n (lv' := [(2, .ref d1), (0, .ref lq), (1, .ref x0), (3, .int (nI cp))]) hx hb dJ2_add_2_10 rfl hl (by decide) rfl (fun ls hl => ?_)
  refine lv_aload_n hx hb dJ2_add_2_11 rfl (lv_at hl 0 rfl) ?_
  refine lv_iload_n hx hb dJ2_add_2_12 rfl (lv_at hl 3 rfl) ?_
  refine lv_aload_n hx hb dJ2_add_2_13 rfl (lv_at hl 2 rfl) ?_
  refine x_aast hx hb K hP hD hS 1 rfl (any_of G.1 (fz_S hΦ hFA hS) hox) cp (by omega) (by omega) dJ2_add_2_14 (fun H locs hP hD hS => ?_)
  have hP : va_P D vwCl [(lq, .inr (4, [.int md, .ref d1, .int (nI cp)])), (d1, .inl (dA 1, cp + max (cp + 1 - cp) (cp / 2), .inr (.inr (.inr (.inr (va_up (va_cpy fe (fun _ => none) 0 0 (min cp (cp + max (cp + 1 - cp) (cp / 2)))) cp (some x0)))))))] H := hP
  have hD : va_D A [(lq, .inr (4, [.int md, .ref d1, .int (nI cp)])), (d1, .inl (dA 1, cp + max (cp + 1 - cp) (cp / 2), .inr (.inr (.inr (.inr (va_up (va_cpy fe (fun _ => none) 0 0 (min cp (cp + max (cp + 1 - cp) (cp / 2)))) cp (some x0)))))))] := hD
  refine lv_aload_n hx hb dJ2_add_2_15 rfl (lv_at hl 1 rfl) ?_
  refine lv_iload_n hx hb dJ2_add_2_16 rfl (lv_at hl 3 rfl) ?_
  refine lv_iconst (v := nI 1) hx hb dJ2_add_2_17 (by decide) ?_
  refine x_addN hx hb dJ2_add_2_18 ?_
  refine va_put (D := D) (ci := 4) (v := .int (nI (cp + 1))) (ty := .int) (C := RJ2) (T := TJ2) (N := 3) hx hb hts in_J2 tyJ2 tyJ2_ok nmJ2 hown K hP hD hS 0 rfl rfl 2 (by decide) (hts _ q160) (fun _ h9 => h9) rfl (by decide +kernel) rfl rfl (Nat.le_of_ble_eq_true rfl) dJ2_add_2_19 (fun H locs hP hD hS => ?_)
  have hP : va_P D vwCl [(lq, .inr (4, [.int md, .ref d1, .int (nI (cp + 1))])), (d1, .inl (dA 1, cp + max (cp + 1 - cp) (cp / 2), .inr (.inr (.inr (.inr (va_up (va_cpy fe (fun _ => none) 0 0 (min cp (cp + max (cp + 1 - cp) (cp / 2)))) cp (some x0)))))))] H := hP
  have hD : va_D A [(lq, .inr (4, [.int md, .ref d1, .int (nI (cp + 1))])), (d1, .inl (dA 1, cp + max (cp + 1 - cp) (cp / 2), .inr (.inr (.inr (.inr (va_up (va_cpy fe (fun _ => none) 0 0 (min cp (cp + max (cp + 1 - cp) (cp / 2)))) cp (some x0)))))))] := hD
  exact x_evret d1 hx hb hrt hlk rfl trivial hP hD hS dJ2_add_2_22 (Nat.le_of_ble_eq_true rfl) (Nat.le_of_ble_eq_true rfl)

set_option maxHeartbeats 4000000 in
theorem xl_addE (l : Launch) (D : va_G) (dA : Nat → ClassId) (E : Nat) (ad : Nat → Nat) (sz0 mi : Nat) (lq : Nat) (md : Int32) (FZ : va_W) (x0 : Nat) (hox : OkEl FZ x0) (hup : Up sz0 ([(lq, .inr (4, [.int md, .ref E, .int (nI 0)]))])) (hap : Apart FZ ([(lq, .inr (4, [.int md, .ref E, .int (nI 0)]))])) : EX l yJ2_add cJ2_add 2 (some .boolean) 4 160 1 64 [.ref lq, .ref x0] (G1 D dA E ad sz0 mi) D ([(lq, .inr (4, [.int md, .ref E, .int (nI 0)]))]) (fun H => va_P D vwCl FZ H) (S := Nat) (fun _ _ => True) (fun _ => some (.int (bI true))) (fun u => [(lq, .inr (4, [.int (md + nI 1), .ref u, .int (nI 1)])), (u, .inl (dA 1, max 10 1, .inr (.inr (.inr (.inr (va_up (fun _ => none) 0 (some x0)))))))]) := by
  refine ex_of (by decide) (Nat.le_of_ble_eq_true rfl) ?_
  intro p e s m below meth c A S hrt hlk hnm G hA hAe hΦ H locs hP hD hS ls hl
  obtain ⟨hx, hb, hml, hown, hts⟩ := id S
  have K := G.1.1
  have hA0 := up_A hup G.1.2.2.2.2.2.2 hAe
  have hFA := ap_A hΦ hap hAe
  have hP : va_P D vwCl [(lq, .inr (4, [.int md, .ref E, .int (nI 0)]))] H := hP
  have hD : va_D A [(lq, .inr (4, [.int md, .ref E, .int (nI 0)]))] := hD
  have hl : lv_has ls 2 [(0, .ref lq), (1, .ref x0)] := hl
  refine lv_aload_n hx hb dJ2_add_0 rfl (lv_at hl 0 rfl) ?_
  refine lv_dup hx hb dJ2_add_1 rfl ?_
  refine va_get (D := D) (ci := 4) (C := RJ2) (T := TJ2) (N := 3) hx hb hts in_J2 hown K hP 0 rfl rfl 0 (by decide) (hts _ q162) (fun x9 h9 => u_same (hts _ q163) x9 h9) rfl dJ2_add_2 ?_
  refine lv_iconst (v := nI 1) hx hb dJ2_add_5 (by decide) ?_
  refine lv_iadd hx hb dJ2_add_6 ?_
  refine va_put (D := D) (ci := 4) (v := .int (md + (nI 1))) (ty := .int) (C := RJ2) (T := TJ2) (N := 3) hx hb hts in_J2 tyJ2 tyJ2_ok nmJ2 hown K hP hD hS 0 rfl rfl 0 (by decide) (hts _ q162) (fun x9 h9 => u_same (hts _ q163) x9 h9) rfl (by decide +kernel) rfl rfl (Nat.le_of_ble_eq_true rfl) dJ2_add_7 (fun H locs hP hD hS => ?_)
  have hP : va_P D vwCl [(lq, .inr (4, [.int (md + (nI 1)), .ref E, .int (nI 0)]))] H := hP
  have hD : va_D A [(lq, .inr (4, [.int (md + (nI 1)), .ref E, .int (nI 0)]))] := hD
  refine lv_aload_n hx hb dJ2_add_10 rfl (lv_at hl 0 rfl) ?_
  refine lv_aload_n hx hb dJ2_add_11 rfl (lv_at hl 1 rfl) ?_
  refine lv_aload_n hx hb dJ2_add_12 rfl (lv_at hl 0 rfl) ?_
  refine va_get (D := D) (ci := 4) (C := RJ2) (T := TJ2) (N := 3) hx hb hts in_J2 hown K hP 0 rfl rfl 1 (by decide) (hts _ q159) (fun _ h9 => h9) rfl dJ2_add_13 ?_
  refine lv_aload_n hx hb dJ2_add_16 rfl (lv_at hl 0 rfl) ?_
  refine va_get (D := D) (ci := 4) (C := RJ2) (T := TJ2) (N := 3) hx hb hts in_J2 hown K hP 0 rfl rfl 2 (by decide) (hts _ q160) (fun _ h9 => h9) rfl dJ2_add_17 ?_
  refine x_ecall (wr := []) (va_runV (As := [.ref x0, .ref E, .int (nI 0)]) (rest := []) S (xl_add2E l D dA E ad sz0 mi lq (md + nI 1) FZ x0 hox (up_D hA0 hD) (apart_D hFA hD) H.size) (cwV 3 hts (lw_V q384 q386 qs4 q64 q387) rfl rfl rfl hdJ2_add_2 ⟨Nat.le_of_ble_eq_true rfl, Nat.le_of_ble_eq_true rfl⟩) ⟨pe_blind g1_bl _, va_recv K hP (ci := 4) (q0 := 0) rfl rfl, pe_pre (g1_mv G (low_of hS hA0 G.1.2.2.2.2.2.2) hS.1) hP hD (fz_S hΦ hFA hS) _⟩ rfl rfl hl.1 rfl (lv_room (Nat.le_of_ble_eq_true rfl)) dJ2_add_20 ⟨Nat.le_of_ble_eq_true rfl, Nat.le_of_ble_eq_true rfl⟩) hP hD hS hA [0] [] rfl rfl (by decide) (by decide) (fun d1 H locs hΨ hP hD hS hkp hsz hDn => ?_)
  have hP : va_P D vwCl [(lq, .inr (4, [.int (md + nI 1), .ref d1, .int (nI 1)])), (d1, .inl (dA 1, max 10 1, .inr (.inr (.inr (.inr (va_up (fun _ => none) 0 (some x0)))))))] H := hP
  have hD : va_D A [(lq, .inr (4, [.int (md + nI 1), .ref d1, .int (nI 1)])), (d1, .inl (dA 1, max 10 1, .inr (.inr (.inr (.inr (va_up (fun _ => none) 0 (some x0)))))))] := hD
  refine W.widen (k := 1) (n := 64) (Nat.le_of_ble_eq_true rfl) (Nat.le_of_ble_eq_true rfl) ?_
  refine lv_iconst (v := nI 1) hx hb dJ2_add_23 (by decide) ?_
  refine x_top (y := bI true) rfl ?_
  exact x_ezret d1 hx hb hrt hlk rfl trivial hP hD hS dJ2_add_24 (Nat.le_of_ble_eq_true rfl) (Nat.le_of_ble_eq_true rfl)

set_option maxHeartbeats 4000000 in
theorem xl_addA (l : Launch) (D : va_G) (dA : Nat → ClassId) (E : Nat) (ad : Nat → Nat) (sz0 mi : Nat) (lq : Nat) (md : Int32) (da ct cp : Nat) (fe : Nat → Option Nat) (FZ : va_W) (hcp : ct < cp ∧ cp ≤ 64) (x0 : Nat) (hox : OkEl FZ x0) (hup : Up sz0 ([(lq, .inr (4, [.int md, .ref da, .int (nI ct)])), (da, .inl (dA 1, cp, .inr (.inr (.inr (.inr fe)))))])) (hap : Apart FZ ([(lq, .inr (4, [.int md, .ref da, .int (nI ct)])), (da, .inl (dA 1, cp, .inr (.inr (.inr (.inr fe)))))])) : EX l yJ2_add cJ2_add 2 (some .boolean) 4 160 0 0 [.ref lq, .ref x0] (G1 D dA E ad sz0 mi) D ([(lq, .inr (4, [.int md, .ref da, .int (nI ct)])), (da, .inl (dA 1, cp, .inr (.inr (.inr (.inr fe)))))]) (fun H => va_P D vwCl FZ H) (S := Unit) (fun _ _ => True) (fun _ => some (.int (bI true))) (fun _ => [(lq, .inr (4, [.int (md + nI 1), .ref da, .int (nI (ct + 1))])), (da, .inl (dA 1, cp, .inr (.inr (.inr (.inr (va_up fe ct (some x0)))))))]) := by
  refine ex_of (by decide) (Nat.le_of_ble_eq_true rfl) ?_
  intro p e s m below meth c A S hrt hlk hnm G hA hAe hΦ H locs hP hD hS ls hl
  obtain ⟨hx, hb, hml, hown, hts⟩ := id S
  have K := G.1.1
  have hA0 := up_A hup G.1.2.2.2.2.2.2 hAe
  have hFA := ap_A hΦ hap hAe
  have hP : va_P D vwCl [(lq, .inr (4, [.int md, .ref da, .int (nI ct)])), (da, .inl (dA 1, cp, .inr (.inr (.inr (.inr fe)))))] H := hP
  have hD : va_D A [(lq, .inr (4, [.int md, .ref da, .int (nI ct)])), (da, .inl (dA 1, cp, .inr (.inr (.inr (.inr fe)))))] := hD
  have hl : lv_has ls 2 [(0, .ref lq), (1, .ref x0)] := hl
  refine lv_aload_n hx hb dJ2_add_0 rfl (lv_at hl 0 rfl) ?_
  refine lv_dup hx hb dJ2_add_1 rfl ?_
  refine va_get (D := D) (ci := 4) (C := RJ2) (T := TJ2) (N := 3) hx hb hts in_J2 hown K hP 0 rfl rfl 0 (by decide) (hts _ q162) (fun x9 h9 => u_same (hts _ q163) x9 h9) rfl dJ2_add_2 ?_
  refine lv_iconst (v := nI 1) hx hb dJ2_add_5 (by decide) ?_
  refine lv_iadd hx hb dJ2_add_6 ?_
  refine va_put (D := D) (ci := 4) (v := .int (md + (nI 1))) (ty := .int) (C := RJ2) (T := TJ2) (N := 3) hx hb hts in_J2 tyJ2 tyJ2_ok nmJ2 hown K hP hD hS 0 rfl rfl 0 (by decide) (hts _ q162) (fun x9 h9 => u_same (hts _ q163) x9 h9) rfl (by decide +kernel) rfl rfl (Nat.le_of_ble_eq_true rfl) dJ2_add_7 (fun H locs hP hD hS => ?_)
  have hP : va_P D vwCl [(lq, .inr (4, [.int (md + (nI 1)), .ref da, .int (nI ct)])), (da, .inl (dA 1, cp, .inr (.inr (.inr (.inr fe)))))] H := hP
  have hD : va_D A [(lq, .inr (4, [.int (md + (nI 1)), .ref da, .int (nI ct)])), (da, .inl (dA 1, cp, .inr (.inr (.inr (.inr fe)))))] := hD
  refine lv_aload_n hx hb dJ2_add_10 rfl (lv_at hl 0 rfl) ?_
  refine lv_aload_n hx hb dJ2_add_11 rfl (lv_at hl 1 rfl) ?_
  refine lv_aload_n hx hb dJ2_add_12 rfl (lv_at hl 0 rfl) ?_
  refine va_get (D := D) (ci := 4) (C := RJ2) (T := TJ2) (N := 3) hx hb hts in_J2 hown K hP 0 rfl rfl 1 (by decide) (hts _ q159) (fun _ h9 => h9) rfl dJ2_add_13 ?_
  refine lv_aload_n hx hb dJ2_add_16 rfl (lv_at hl 0 rfl) ?_
  refine va_get (D := D) (ci := 4) (C := RJ2) (T := TJ2) (N := 3) hx hb hts in_J2 hown K hP 0 rfl rfl 2 (by decide) (hts _ q160) (fun _ h9 => h9) rfl dJ2_add_17 ?_
  refine x_ecall (wr := []) (va_runV (As := [.ref x0, .ref da, .int (nI ct)]) (rest := []) S (xl_add2A l D dA E ad sz0 mi lq (md + nI 1) da ct cp fe FZ hcp x0 hox (up_D hA0 hD) (apart_D hFA hD) H.size) (cwV 3 hts (lw_V q384 q386 qs4 q64 q387) rfl rfl rfl hdJ2_add_2 ⟨Nat.le_of_ble_eq_true rfl, Nat.le_of_ble_eq_true rfl⟩) ⟨pe_blind g1_bl _, va_recv K hP (ci := 4) (q0 := 0) rfl rfl, pe_pre (g1_mv G (low_of hS hA0 G.1.2.2.2.2.2.2) hS.1) hP hD (fz_S hΦ hFA hS) _⟩ rfl rfl hl.1 rfl (lv_room (Nat.le_of_ble_eq_true rfl)) dJ2_add_20 ⟨Nat.le_of_ble_eq_true rfl, Nat.le_of_ble_eq_true rfl⟩) hP hD hS hA [0, 1] [] rfl rfl (by decide) (by decide) (fun _u H locs hΨ hP hD hS hkp hsz hDn => ?_)
  have hP : va_P D vwCl [(lq, .inr (4, [.int (md + nI 1), .ref da, .int (nI (ct + 1))])), (da, .inl (dA 1, cp, .inr (.inr (.inr (.inr (va_up fe ct (some x0)))))))] H := hP
  have hD : va_D A [(lq, .inr (4, [.int (md + nI 1), .ref da, .int (nI (ct + 1))])), (da, .inl (dA 1, cp, .inr (.inr (.inr (.inr (va_up fe ct (some x0)))))))] := hD
  refine W.widen (k := 0) (n := 0) (Nat.le_of_ble_eq_true rfl) (Nat.le_of_ble_eq_true rfl) ?_
  refine lv_iconst (v := nI 1) hx hb dJ2_add_23 (by decide) ?_
  refine x_top (y := bI true) rfl ?_
  exact x_ezret () hx hb hrt hlk rfl trivial hP hD hS dJ2_add_24 (Nat.le_of_ble_eq_true rfl) (Nat.le_of_ble_eq_true rfl)

set_option maxHeartbeats 4000000 in
theorem xl_addF (l : Launch) (D : va_G) (dA : Nat → ClassId) (E : Nat) (ad : Nat → Nat) (sz0 mi : Nat) (lq : Nat) (md : Int32) (da cp : Nat) (fe : Nat → Option Nat) (FZ : va_W) (hcp : cp ≤ 42 ∧ 0 < cp) (hel : ∀ i, i < cp → ∀ y, fe i = some y → OkEl FZ y) (x0 : Nat) (hox : OkEl FZ x0) (hup : Up sz0 ([(lq, .inr (4, [.int md, .ref da, .int (nI cp)])), (da, .inl (dA 1, cp, .inr (.inr (.inr (.inr fe)))))])) (hap : Apart FZ ([(lq, .inr (4, [.int md, .ref da, .int (nI cp)])), (da, .inl (dA 1, cp, .inr (.inr (.inr (.inr fe)))))])) : EX l yJ2_add cJ2_add 2 (some .boolean) 6 240 1 64 [.ref lq, .ref x0] (G1 D dA E ad sz0 mi) D ([(lq, .inr (4, [.int md, .ref da, .int (nI cp)])), (da, .inl (dA 1, cp, .inr (.inr (.inr (.inr fe)))))]) (fun H => va_P D vwCl FZ H) (S := Nat) (fun _ _ => True) (fun _ => some (.int (bI true))) (fun u => [(lq, .inr (4, [.int (md + nI 1), .ref u, .int (nI (cp + 1))])), (u, .inl (dA 1, cp + max (cp + 1 - cp) (cp / 2), .inr (.inr (.inr (.inr (va_up (va_cpy fe (fun _ => none) 0 0 (min cp (cp + max (cp + 1 - cp) (cp / 2)))) cp (some x0)))))))]) := by
  refine ex_of (by decide) (Nat.le_of_ble_eq_true rfl) ?_
  intro p e s m below meth c A S hrt hlk hnm G hA hAe hΦ H locs hP hD hS ls hl
  obtain ⟨hx, hb, hml, hown, hts⟩ := id S
  have K := G.1.1
  have hA0 := up_A hup G.1.2.2.2.2.2.2 hAe
  have hFA := ap_A hΦ hap hAe
  have hP : va_P D vwCl [(lq, .inr (4, [.int md, .ref da, .int (nI cp)])), (da, .inl (dA 1, cp, .inr (.inr (.inr (.inr fe)))))] H := hP
  have hD : va_D A [(lq, .inr (4, [.int md, .ref da, .int (nI cp)])), (da, .inl (dA 1, cp, .inr (.inr (.inr (.inr fe)))))] := hD
  have hl : lv_has ls 2 [(0, .ref lq), (1, .ref x0)] := hl
  refine lv_aload_n hx hb dJ2_add_0 rfl (lv_at hl 0 rfl) ?_
  refine lv_dup hx hb dJ2_add_1 rfl ?_
  refine va_get (D := D) (ci := 4) (C := RJ2) (T := TJ2) (N := 3) hx hb hts in_J2 hown K hP 0 rfl rfl 0 (by decide) (hts _ q162) (fun x9 h9 => u_same (hts _ q163) x9 h9) rfl dJ2_add_2 ?_
  refine lv_iconst (v := nI 1) hx hb dJ2_add_5 (by decide) ?_
  refine lv_iadd hx hb dJ2_add_6 ?_
  refine va_put (D := D) (ci := 4) (v := .int (md + (nI 1))) (ty := .int) (C := RJ2) (T := TJ2) (N := 3) hx hb hts in_J2 tyJ2 tyJ2_ok nmJ2 hown K hP hD hS 0 rfl rfl 0 (by decide) (hts _ q162) (fun x9 h9 => u_same (hts _ q163) x9 h9) rfl (by decide +kernel) rfl rfl (Nat.le_of_ble_eq_true rfl) dJ2_add_7 (fun H locs hP hD hS => ?_)
  have hP : va_P D vwCl [(lq, .inr (4, [.int (md + (nI 1)), .ref da, .int (nI cp)])), (da, .inl (dA 1, cp, .inr (.inr (.inr (.inr fe)))))] H := hP
  have hD : va_D A [(lq, .inr (4, [.int (md + (nI 1)), .ref da, .int (nI cp)])), (da, .inl (dA 1, cp, .inr (.inr (.inr (.inr fe)))))] := hD
  refine lv_aload_n hx hb dJ2_add_10 rfl (lv_at hl 0 rfl) ?_
  refine lv_aload_n hx hb dJ2_add_11 rfl (lv_at hl 1 rfl) ?_
  refine lv_aload_n hx hb dJ2_add_12 rfl (lv_at hl 0 rfl) ?_
  refine va_get (D := D) (ci := 4) (C := RJ2) (T := TJ2) (N := 3) hx hb hts in_J2 hown K hP 0 rfl rfl 1 (by decide) (hts _ q159) (fun _ h9 => h9) rfl dJ2_add_13 ?_
  refine lv_aload_n hx hb dJ2_add_16 rfl (lv_at hl 0 rfl) ?_
  refine va_get (D := D) (ci := 4) (C := RJ2) (T := TJ2) (N := 3) hx hb hts in_J2 hown K hP 0 rfl rfl 2 (by decide) (hts _ q160) (fun _ h9 => h9) rfl dJ2_add_17 ?_
  refine x_ecall (wr := []) (va_runV (As := [.ref x0, .ref da, .int (nI cp)]) (rest := []) S (xl_add2F l D dA E ad sz0 mi lq (md + nI 1) da cp fe FZ hcp hel x0 hox (up_D hA0 hD) (apart_D hFA hD) H.size) (cwV 3 hts (lw_V q384 q386 qs4 q64 q387) rfl rfl rfl hdJ2_add_2 ⟨Nat.le_of_ble_eq_true rfl, Nat.le_of_ble_eq_true rfl⟩) ⟨pe_blind g1_bl _, va_recv K hP (ci := 4) (q0 := 0) rfl rfl, pe_pre (g1_mv G (low_of hS hA0 G.1.2.2.2.2.2.2) hS.1) hP hD (fz_S hΦ hFA hS) _⟩ rfl rfl hl.1 rfl (lv_room (Nat.le_of_ble_eq_true rfl)) dJ2_add_20 ⟨Nat.le_of_ble_eq_true rfl, Nat.le_of_ble_eq_true rfl⟩) hP hD hS hA [0, 1] [] rfl rfl (by decide) (by decide) (fun d1 H locs hΨ hP hD hS hkp hsz hDn => ?_)
  have hP : va_P D vwCl [(lq, .inr (4, [.int (md + nI 1), .ref d1, .int (nI (cp + 1))])), (d1, .inl (dA 1, cp + max (cp + 1 - cp) (cp / 2), .inr (.inr (.inr (.inr (va_up (va_cpy fe (fun _ => none) 0 0 (min cp (cp + max (cp + 1 - cp) (cp / 2)))) cp (some x0)))))))] H := hP
  have hD : va_D A [(lq, .inr (4, [.int (md + nI 1), .ref d1, .int (nI (cp + 1))])), (d1, .inl (dA 1, cp + max (cp + 1 - cp) (cp / 2), .inr (.inr (.inr (.inr (va_up (va_cpy fe (fun _ => none) 0 0 (min cp (cp + max (cp + 1 - cp) (cp / 2)))) cp (some x0)))))))] := hD
  refine W.widen (k := 1) (n := 64) (Nat.le_of_ble_eq_true rfl) (Nat.le_of_ble_eq_true rfl) ?_
  refine lv_iconst (v := nI 1) hx hb dJ2_add_23 (by decide) ?_
  refine x_top (y := bI true) rfl ?_
  exact x_ezret d1 hx hb hrt hlk rfl trivial hP hD hS dJ2_add_24 (Nat.le_of_ble_eq_true rfl) (Nat.le_of_ble_eq_true rfl)

set_option maxHeartbeats 4000000 in
theorem xl_clearE (l : Launch) (D : va_G) (dA : Nat → ClassId) (E : Nat) (ad : Nat → Nat) (sz0 mi : Nat) (lq : Nat) (md : Int32) (hup : Up sz0 ([(lq, .inr (4, [.int md, .ref E, .int (nI 0)]))])) : EX l yJ2_clear cJ2_clear 4 none 0 0 0 0 [.ref lq] (G1 D dA E ad sz0 mi) D ([(lq, .inr (4, [.int md, .ref E, .int (nI 0)]))]) (fun _ => True) (S := Unit) (fun _ _ => True) (fun _ => none) (fun _ => [(lq, .inr (4, [.int (md + nI 1), .ref E, .int (nI 0)]))]) := by
  refine ex_of (by decide) (Nat.le_of_ble_eq_true rfl) ?_
  intro p e s m below meth c A S hrt hlk hnm G hA hAe hΦ H locs hP hD hS ls hl
  obtain ⟨hx, hb, hml, hown, hts⟩ := id S
  have K := G.1.1
  have hA0 := up_A hup G.1.2.2.2.2.2.2 hAe
  have hP : va_P D vwCl [(lq, .inr (4, [.int md, .ref E, .int (nI 0)]))] H := hP
  have hD : va_D A [(lq, .inr (4, [.int md, .ref E, .int (nI 0)]))] := hD
  have hl : lv_has ls 4 [(0, .ref lq)] := hl
  refine lv_aload_n hx hb dJ2_clear_0 rfl (lv_at hl 0 rfl) ?_
  refine lv_dup hx hb dJ2_clear_1 rfl ?_
  refine va_get (D := D) (ci := 4) (C := RJ2) (T := TJ2) (N := 3) hx hb hts in_J2 hown K hP 0 rfl rfl 0 (by decide) (hts _ q162) (fun x9 h9 => u_same (hts _ q163) x9 h9) rfl dJ2_clear_2 ?_
  refine lv_iconst (v := nI 1) hx hb dJ2_clear_5 (by decide) ?_
  refine lv_iadd hx hb dJ2_clear_6 ?_
  refine va_put (D := D) (ci := 4) (v := .int (md + (nI 1))) (ty := .int) (C := RJ2) (T := TJ2) (N := 3) hx hb hts in_J2 tyJ2 tyJ2_ok nmJ2 hown K hP hD hS 0 rfl rfl 0 (by decide) (hts _ q162) (fun x9 h9 => u_same (hts _ q163) x9 h9) rfl (by decide +kernel) rfl rfl (Nat.le_of_ble_eq_true rfl) dJ2_clear_7 (fun H locs hP hD hS => ?_)
  have hP : va_P D vwCl [(lq, .inr (4, [.int (md + (nI 1)), .ref E, .int (nI 0)]))] H := hP
  have hD : va_D A [(lq, .inr (4, [.int (md + (nI 1)), .ref E, .int (nI 0)]))] := hD
  refine lv_aload_n hx hb dJ2_clear_10 rfl (lv_at hl 0 rfl) ?_
  refine va_get (D := D) (ci := 4) (C := RJ2) (T := TJ2) (N := 3) hx hb hts in_J2 hown K hP 0 rfl rfl 1 (by decide) (hts _ q159) (fun _ h9 => h9) rfl dJ2_clear_11 ?_
  refine lv_astore_n (lv' := [(1, .ref E), (0, .ref lq)]) hx hb dJ2_clear_14 rfl hl (by decide) rfl (fun ls hl => ?_)
  refine lv_aload_n hx hb dJ2_clear_15 rfl (lv_at hl 1 rfl) ?_
  refine va_get (D := D) (ci := 4) (C := RJ2) (T := TJ2) (N := 3) hx hb hts in_J2 hown K hP 0 rfl rfl 2 (by decide) (hts _ q160) (fun _ h9 => h9) rfl dJ2_clear_16 ?_
  refine lv_istore_n (lv' := [(2, .int (nI 0)), (1, .ref E), (0, .ref lq)]) hx hb dJ2_clear_19 rfl hl (by decide) rfl (fun ls hl => ?_)
  refine lv_aload_n hx hb dJ2_clear_20 rfl (lv_at hl 2 rfl) ?_
  refine lv_iconst (v := nI 0) hx hb dJ2_clear_21 (by decide) ?_
  refine lv_dup_x1 hx hb dJ2_clear_22 rfl rfl ?_
  refine va_put (D := D) (ci := 4) (v := .int (nI 0)) (ty := .int) (C := RJ2) (T := TJ2) (N := 3) hx hb hts in_J2 tyJ2 tyJ2_ok nmJ2 hown K hP hD hS 0 rfl rfl 2 (by decide) (hts _ q160) (fun _ h9 => h9) rfl (by decide +kernel) rfl rfl (Nat.le_of_ble_eq_true rfl) dJ2_clear_23 (fun H locs hP hD hS => ?_)
  have hP : va_P D vwCl [(lq, .inr (4, [.int (md + (nI 1)), .ref E, .int (nI 0)]))] H := hP
  have hD : va_D A [(lq, .inr (4, [.int (md + (nI 1)), .ref E, .int (nI 0)]))] := hD
  refine lv_istore_n (lv' := [(3, .int (nI 0)), (2, .int (nI 0)), (1, .ref E), (0, .ref lq)]) hx hb dJ2_clear_26 rfl hl (by decide) rfl (fun ls hl => ?_)
  refine lv_iload_n hx hb dJ2_clear_27 rfl (lv_at hl 0 rfl) ?_
  refine lv_iload_n hx hb dJ2_clear_28 rfl (lv_at hl 1 rfl) ?_
  refine lv_icmp_ge (tgt := 42) hx hb dJ2_clear_29 (by decide) (fun _ => ?_) (fun h => absurd (by decide) h)
  exact x_evret () hx hb hrt hlk rfl trivial hP hD hS dJ2_clear_42 (Nat.le_of_ble_eq_true rfl) (Nat.le_of_ble_eq_true rfl)

set_option maxHeartbeats 4000000 in
theorem xl_clearA (l : Launch) (D : va_G) (dA : Nat → ClassId) (E : Nat) (ad : Nat → Nat) (sz0 mi : Nat) (lq : Nat) (md : Int32) (da ct cp : Nat) (fe : Nat → Option Nat) (hcp : ct ≤ cp ∧ cp ≤ 64) (hup : Up sz0 ([(lq, .inr (4, [.int md, .ref da, .int (nI ct)])), (da, .inl (dA 1, cp, .inr (.inr (.inr (.inr fe)))))])) : EX l yJ2_clear cJ2_clear 4 none 0 0 0 0 [.ref lq] (G1 D dA E ad sz0 mi) D ([(lq, .inr (4, [.int md, .ref da, .int (nI ct)])), (da, .inl (dA 1, cp, .inr (.inr (.inr (.inr fe)))))]) (fun _ => True) (S := Unit) (fun _ _ => True) (fun _ => none) (fun _ => [(lq, .inr (4, [.int (md + nI 1), .ref da, .int (nI 0)])), (da, .inl (dA 1, cp, .inr (.inr (.inr (.inr (iter (fun k g => va_up g k none) ct 0 fe))))))]) := by
  refine ex_of (by decide) (Nat.le_of_ble_eq_true rfl) ?_
  intro p e s m below meth c A S hrt hlk hnm G hA hAe hΦ H locs hP hD hS ls hl
  obtain ⟨hx, hb, hml, hown, hts⟩ := id S
  have K := G.1.1
  have hA0 := up_A hup G.1.2.2.2.2.2.2 hAe
  have hP : va_P D vwCl [(lq, .inr (4, [.int md, .ref da, .int (nI ct)])), (da, .inl (dA 1, cp, .inr (.inr (.inr (.inr fe)))))] H := hP
  have hD : va_D A [(lq, .inr (4, [.int md, .ref da, .int (nI ct)])), (da, .inl (dA 1, cp, .inr (.inr (.inr (.inr fe)))))] := hD
  have hl : lv_has ls 4 [(0, .ref lq)] := hl
  refine lv_aload_n hx hb dJ2_clear_0 rfl (lv_at hl 0 rfl) ?_
  refine lv_dup hx hb dJ2_clear_1 rfl ?_
  refine va_get (D := D) (ci := 4) (C := RJ2) (T := TJ2) (N := 3) hx hb hts in_J2 hown K hP 0 rfl rfl 0 (by decide) (hts _ q162) (fun x9 h9 => u_same (hts _ q163) x9 h9) rfl dJ2_clear_2 ?_
  refine lv_iconst (v := nI 1) hx hb dJ2_clear_5 (by decide) ?_
  refine lv_iadd hx hb dJ2_clear_6 ?_
  refine va_put (D := D) (ci := 4) (v := .int (md + (nI 1))) (ty := .int) (C := RJ2) (T := TJ2) (N := 3) hx hb hts in_J2 tyJ2 tyJ2_ok nmJ2 hown K hP hD hS 0 rfl rfl 0 (by decide) (hts _ q162) (fun x9 h9 => u_same (hts _ q163) x9 h9) rfl (by decide +kernel) rfl rfl (Nat.le_of_ble_eq_true rfl) dJ2_clear_7 (fun H locs hP hD hS => ?_)
  have hP : va_P D vwCl [(lq, .inr (4, [.int (md + (nI 1)), .ref da, .int (nI ct)])), (da, .inl (dA 1, cp, .inr (.inr (.inr (.inr fe)))))] H := hP
  have hD : va_D A [(lq, .inr (4, [.int (md + (nI 1)), .ref da, .int (nI ct)])), (da, .inl (dA 1, cp, .inr (.inr (.inr (.inr fe)))))] := hD
  refine lv_aload_n hx hb dJ2_clear_10 rfl (lv_at hl 0 rfl) ?_
  refine va_get (D := D) (ci := 4) (C := RJ2) (T := TJ2) (N := 3) hx hb hts in_J2 hown K hP 0 rfl rfl 1 (by decide) (hts _ q159) (fun _ h9 => h9) rfl dJ2_clear_11 ?_
  refine lv_astore_n (lv' := [(1, .ref da), (0, .ref lq)]) hx hb dJ2_clear_14 rfl hl (by decide) rfl (fun ls hl => ?_)
  refine lv_aload_n hx hb dJ2_clear_15 rfl (lv_at hl 1 rfl) ?_
  refine va_get (D := D) (ci := 4) (C := RJ2) (T := TJ2) (N := 3) hx hb hts in_J2 hown K hP 0 rfl rfl 2 (by decide) (hts _ q160) (fun _ h9 => h9) rfl dJ2_clear_16 ?_
  refine lv_istore_n (lv' := [(2, .int (nI ct)), (1, .ref da), (0, .ref lq)]) hx hb dJ2_clear_19 rfl hl (by decide) rfl (fun ls hl => ?_)
  refine lv_aload_n hx hb dJ2_clear_20 rfl (lv_at hl 2 rfl) ?_
  refine lv_iconst (v := nI 0) hx hb dJ2_clear_21 (by decide) ?_
  refine lv_dup_x1 hx hb dJ2_clear_22 rfl rfl ?_
  refine va_put (D := D) (ci := 4) (v := .int (nI 0)) (ty := .int) (C := RJ2) (T := TJ2) (N := 3) hx hb hts in_J2 tyJ2 tyJ2_ok nmJ2 hown K hP hD hS 0 rfl rfl 2 (by decide) (hts _ q160) (fun _ h9 => h9) rfl (by decide +kernel) rfl rfl (Nat.le_of_ble_eq_true rfl) dJ2_clear_23 (fun H locs hP hD hS => ?_)
  have hP : va_P D vwCl [(lq, .inr (4, [.int (md + (nI 1)), .ref da, .int (nI 0)])), (da, .inl (dA 1, cp, .inr (.inr (.inr (.inr fe)))))] H := hP
  have hD : va_D A [(lq, .inr (4, [.int (md + (nI 1)), .ref da, .int (nI 0)])), (da, .inl (dA 1, cp, .inr (.inr (.inr (.inr fe)))))] := hD
  refine lv_istore_n (lv' := [(3, .int (nI 0)), (2, .int (nI ct)), (1, .ref da), (0, .ref lq)]) hx hb dJ2_clear_26 rfl hl (by decide) rfl (fun ls hl => ?_)
  refine lpW (fun k g => va_up g k none) fe ct (fun k g ls H locs => lv_has ls 4 [(1, .ref da), (2, .int (nI ct)), (3, .int (nI k))] ∧ va_P D vwCl [(lq, .inr (4, [.int (md + (nI 1)), .ref da, .int (nI 0)])), (da, .inl (dA 1, cp, .inr (.inr (.inr (.inr g)))))] H ∧ va_D A [(lq, .inr (4, [.int (md + (nI 1)), .ref da, .int (nI 0)])), (da, .inl (dA 1, cp, .inr (.inr (.inr (.inr g)))))] ∧ va_S A s.heap H locs) (fun ls H locs => W p l e (rmW 0 0 0 0) s m ([.ref lq]).toArray below meth c H locs 0 0 (MQ below (QE (S := Unit) (fun _ _ => True) (fun _ => none) D (fun _ => [(lq, .inr (4, [.int (md + nI 1), .ref da, .int (nI 0)])), (da, .inl (dA 1, cp, .inr (.inr (.inr (.inr (iter (fun k g => va_up g k none) ct 0 fe))))))]) A) ([.ref lq]).toArray s 0 0 A) (F0 m 27 ls [])) ?_ ?_ ls H locs ⟨lv_sub hl [2, 1, 0] rfl, hP, hD, hS⟩
  · intro k ls H locs hk_1 hI ih
    generalize iter (fun k g => va_up g k none) k 0 fe = g at *
    obtain ⟨hl, hP, hD, hS⟩ := hI
    have hl : lv_has ls 4 [(1, .ref da), (2, .int (nI ct)), (3, .int (nI k))] := hl
    have hP : va_P D vwCl [(lq, .inr (4, [.int (md + (nI 1)), .ref da, .int (nI 0)])), (da, .inl (dA 1, cp, .inr (.inr (.inr (.inr g)))))] H := hP
    have hD : va_D A [(lq, .inr (4, [.int (md + (nI 1)), .ref da, .int (nI 0)])), (da, .inl (dA 1, cp, .inr (.inr (.inr (.inr g)))))] := hD
    show W p l e (rmW 0 0 0 0) s m ([.ref lq]).toArray below meth c H locs 0 0 (MQ below (QE (S := Unit) (fun _ _ => True) (fun _ => none) D (fun _ => [(lq, .inr (4, [.int (md + nI 1), .ref da, .int (nI 0)])), (da, .inl (dA 1, cp, .inr (.inr (.inr (.inr (iter (fun k g => va_up g k none) ct 0 fe))))))]) A) ([.ref lq]).toArray s 0 0 A) (F0 m 27 ls [])
    refine lv_iload_n hx hb dJ2_clear_27 rfl (lv_at hl 2 rfl) ?_
    refine lv_iload_n hx hb dJ2_clear_28 rfl (lv_at hl 1 rfl) ?_
    refine lv_icmp_ge (tgt := 42) hx hb dJ2_clear_29 (by decide) (fun h => absurd h (nI_ge hk_1 (by omega))) (fun _ => ?_)
    refine lv_aload_n hx hb dJ2_clear_32 rfl (lv_at hl 0 rfl) ?_
    refine lv_iload_n hx hb dJ2_clear_33 rfl (lv_at hl 2 rfl) ?_
    refine lv_null hx hb dJ2_clear_34 ?_
    refine x_aastN hx hb K hP hD hS 1 rfl k (by omega) (by omega) dJ2_clear_35 (fun H locs hP hD hS => ?_)
    have hP : va_P D vwCl [(lq, .inr (4, [.int (md + (nI 1)), .ref da, .int (nI 0)])), (da, .inl (dA 1, cp, .inr (.inr (.inr (.inr (va_up g k none))))))] H := hP
    have hD : va_D A [(lq, .inr (4, [.int (md + (nI 1)), .ref da, .int (nI 0)])), (da, .inl (dA 1, cp, .inr (.inr (.inr (.inr (va_up g k none))))))] := hD
    refine lv_iinc (v := nI (k + 1)) (lv' := [(3, .int (nI (k + 1))), (1, .ref da), (2, .int (nI ct))]) hx hb dJ2_clear_36 hl (k := 2) rfl (nI_1 k) (by decide) rfl (fun ls hl => ?_)
    refine lv_goto (tgt := 27) hx hb dJ2_clear_39 (by decide) ?_
    refine ih ls H locs ⟨?_, hP, hD, hS⟩
    show lv_has ls 4 [(1, .ref da), (2, .int (nI ct)), (3, .int (nI (k + 1)))]
    exact lv_sub hl [1, 2, 0] rfl
  · intro ls H locs hI
    obtain ⟨hl, hP, hD, hS⟩ := hI
    have hl : lv_has ls 4 [(1, .ref da), (2, .int (nI ct)), (3, .int (nI ct))] := hl
    have hP : va_P D vwCl [(lq, .inr (4, [.int (md + (nI 1)), .ref da, .int (nI 0)])), (da, .inl (dA 1, cp, .inr (.inr (.inr (.inr (iter (fun k g => va_up g k none) ct 0 fe))))))] H := hP
    have hD : va_D A [(lq, .inr (4, [.int (md + (nI 1)), .ref da, .int (nI 0)])), (da, .inl (dA 1, cp, .inr (.inr (.inr (.inr (iter (fun k g => va_up g k none) ct 0 fe))))))] := hD
    show W p l e (rmW 0 0 0 0) s m ([.ref lq]).toArray below meth c H locs 0 0 (MQ below (QE (S := Unit) (fun _ _ => True) (fun _ => none) D (fun _ => [(lq, .inr (4, [.int (md + nI 1), .ref da, .int (nI 0)])), (da, .inl (dA 1, cp, .inr (.inr (.inr (.inr (iter (fun k g => va_up g k none) ct 0 fe))))))]) A) ([.ref lq]).toArray s 0 0 A) (F0 m 27 ls [])
    refine lv_iload_n hx hb dJ2_clear_27 rfl (lv_at hl 2 rfl) ?_
    refine lv_iload_n hx hb dJ2_clear_28 rfl (lv_at hl 1 rfl) ?_
    refine lv_icmp_ge (tgt := 42) hx hb dJ2_clear_29 (by decide) (fun _ => ?_) (fun h => absurd (nI_le (by omega) (by omega)) h)
    exact x_evret () hx hb hrt hlk rfl trivial hP hD hS dJ2_clear_42 (Nat.le_of_ble_eq_true rfl) (Nat.le_of_ble_eq_true rfl)

set_option maxHeartbeats 4000000 in
theorem xl_frm (l : Launch) (D : va_G) (dA : Nat → ClassId) (E : Nat) (ad : Nat → Nat) (sz0 mi : Nat) (lq : Nat) (md : Int32) (da ct cp : Nat) (fe : Nat → Option Nat) (FZ : va_W) (k0 : Nat) (hk0 : k0 < ct) (hcp : ct ≤ cp ∧ cp ≤ 64) (hel : ∀ i, i < cp → ∀ y, fe i = some y → OkEl FZ y) (hup : Up sz0 ([(lq, .inr (4, [.int md, .ref da, .int (nI ct)])), (da, .inl (dA 1, cp, .inr (.inr (.inr (.inr fe)))))])) (hap : Apart FZ ([(lq, .inr (4, [.int md, .ref da, .int (nI ct)])), (da, .inl (dA 1, cp, .inr (.inr (.inr (.inr fe)))))])) : EX l yJ2_fastRemove cJ2_fastRemove 4 none 1 40 0 0 [.ref lq, .ref da, .int (nI k0)] (G1 D dA E ad sz0 mi) D ([(lq, .inr (4, [.int md, .ref da, .int (nI ct)])), (da, .inl (dA 1, cp, .inr (.inr (.inr (.inr fe)))))]) (fun H => va_P D vwCl FZ H) (S := Unit) (fun _ _ => True) (fun _ => none) (fun _ => [(lq, .inr (4, [.int (md + nI 1), .ref da, .int (nI (ct - 1))])), (da, .inl (dA 1, cp, .inr (.inr (.inr (.inr (va_up (va_cpy fe fe (k0 + 1) k0 (ct - 1 - k0)) (ct - 1) none))))))]) := by
  refine ex_of (by decide) (Nat.le_of_ble_eq_true rfl) ?_
  intro p e s m below meth c A S hrt hlk hnm G hA hAe hΦ H locs hP hD hS ls hl
  obtain ⟨hx, hb, hml, hown, hts⟩ := id S
  have K := G.1.1
  have hA0 := up_A hup G.1.2.2.2.2.2.2 hAe
  have hFA := ap_A hΦ hap hAe
  have hP : va_P D vwCl [(lq, .inr (4, [.int md, .ref da, .int (nI ct)])), (da, .inl (dA 1, cp, .inr (.inr (.inr (.inr fe)))))] H := hP
  have hD : va_D A [(lq, .inr (4, [.int md, .ref da, .int (nI ct)])), (da, .inl (dA 1, cp, .inr (.inr (.inr (.inr fe)))))] := hD
  have hl : lv_has ls 4 [(0, .ref lq), (1, .ref da), (2, .int (nI k0))] := hl
  refine lv_aload_n hx hb dJ2_fastRemove_0 rfl (lv_at hl 0 rfl) ?_
  refine lv_dup hx hb dJ2_fastRemove_1 rfl ?_
  refine va_get (D := D) (ci := 4) (C := RJ2) (T := TJ2) (N := 3) hx hb hts in_J2 hown K hP 0 rfl rfl 0 (by decide) (hts _ q162) (fun x9 h9 => u_same (hts _ q163) x9 h9) rfl dJ2_fastRemove_2 ?_
  refine lv_iconst (v := nI 1) hx hb dJ2_fastRemove_5 (by decide) ?_
  refine lv_iadd hx hb dJ2_fastRemove_6 ?_
  refine va_put (D := D) (ci := 4) (v := .int (md + (nI 1))) (ty := .int) (C := RJ2) (T := TJ2) (N := 3) hx hb hts in_J2 tyJ2 tyJ2_ok nmJ2 hown K hP hD hS 0 rfl rfl 0 (by decide) (hts _ q162) (fun x9 h9 => u_same (hts _ q163) x9 h9) rfl (by decide +kernel) rfl rfl (Nat.le_of_ble_eq_true rfl) dJ2_fastRemove_7 (fun H locs hP hD hS => ?_)
  have hP : va_P D vwCl [(lq, .inr (4, [.int (md + (nI 1)), .ref da, .int (nI ct)])), (da, .inl (dA 1, cp, .inr (.inr (.inr (.inr fe)))))] H := hP
  have hD : va_D A [(lq, .inr (4, [.int (md + (nI 1)), .ref da, .int (nI ct)])), (da, .inl (dA 1, cp, .inr (.inr (.inr (.inr fe)))))] := hD
  refine lv_aload_n hx hb dJ2_fastRemove_10 rfl (lv_at hl 0 rfl) ?_
  refine va_get (D := D) (ci := 4) (C := RJ2) (T := TJ2) (N := 3) hx hb hts in_J2 hown K hP 0 rfl rfl 2 (by decide) (hts _ q160) (fun _ h9 => h9) rfl dJ2_fastRemove_11 ?_
  refine lv_iconst (v := nI 1) hx hb dJ2_fastRemove_14 (by decide) ?_
  refine lv_isub hx hb dJ2_fastRemove_15 ?_
  refine x_top (y := nI (ct - 1)) (sub_nI (by omega)) ?_
  refine lv_dup hx hb dJ2_fastRemove_16 rfl ?_
  refine lv_istore_n (lv' := [(3, .int (nI (ct - 1))), (0, .ref lq), (1, .ref da), (2, .int (nI k0))]) hx hb dJ2_fastRemove_17 rfl hl (by decide) rfl (fun ls hl => ?_)
  refine lv_iload_n hx hb dJ2_fastRemove_18 rfl (lv_at hl 3 rfl) ?_
  refine x_icmpn_le (tgt := 34) hx hb dJ2_fastRemove_19 (by decide) (by omega) (by omega) (fun h_1 => ?_) (fun h_1 => ?_)
  · refine lv_aload_n hx hb dJ2_fastRemove_34 rfl (lv_at hl 2 rfl) ?_
    refine lv_aload_n hx hb dJ2_fastRemove_35 rfl (lv_at hl 1 rfl) ?_
    refine lv_iload_n hx hb dJ2_fastRemove_36 rfl (lv_at hl 0 rfl) ?_
    refine lv_dup_x1 hx hb dJ2_fastRemove_37 rfl rfl ?_
    refine va_put (D := D) (ci := 4) (v := .int (nI (ct - 1))) (ty := .int) (C := RJ2) (T := TJ2) (N := 3) hx hb hts in_J2 tyJ2 tyJ2_ok nmJ2 hown K hP hD hS 0 rfl rfl 2 (by decide) (hts _ q160) (fun _ h9 => h9) rfl (by decide +kernel) rfl rfl (Nat.le_of_ble_eq_true rfl) dJ2_fastRemove_38 (fun H locs hP hD hS => ?_)
    have hP : va_P D vwCl [(lq, .inr (4, [.int (md + (nI 1)), .ref da, .int (nI (ct - 1))])), (da, .inl (dA 1, cp, .inr (.inr (.inr (.inr fe)))))] H := hP
    have hD : va_D A [(lq, .inr (4, [.int (md + (nI 1)), .ref da, .int (nI (ct - 1))])), (da, .inl (dA 1, cp, .inr (.inr (.inr (.inr fe)))))] := hD
    refine lv_null hx hb dJ2_fastRemove_41 ?_
    refine x_aastN hx hb K hP hD hS 1 rfl (ct - 1) (by omega) (by omega) dJ2_fastRemove_42 (fun H locs hP hD hS => ?_)
    have hP : va_P D vwCl [(lq, .inr (4, [.int (md + (nI 1)), .ref da, .int (nI (ct - 1))])), (da, .inl (dA 1, cp, .inr (.inr (.inr (.inr (va_up fe (ct - 1) none))))))] H := hP
    have hD : va_D A [(lq, .inr (4, [.int (md + (nI 1)), .ref da, .int (nI (ct - 1))])), (da, .inl (dA 1, cp, .inr (.inr (.inr (.inr (va_up fe (ct - 1) none))))))] := hD
    rw [show va_up fe (ct - 1) none = va_up (va_cpy fe fe (k0 + 1) k0 (ct - 1 - k0)) (ct - 1) none from by rw [cpy_nil (by omega)]] at hP hD
    exact x_evret () hx hb hrt hlk rfl trivial hP hD hS dJ2_fastRemove_43 (Nat.le_of_ble_eq_true rfl) (Nat.le_of_ble_eq_true rfl)
  · refine lv_aload_n hx hb dJ2_fastRemove_22 rfl (lv_at hl 2 rfl) ?_
    refine lv_iload_n hx hb dJ2_fastRemove_23 rfl (lv_at hl 3 rfl) ?_
    refine lv_iconst (v := nI 1) hx hb dJ2_fastRemove_24 (by decide) ?_
    refine x_addN hx hb dJ2_fastRemove_25 ?_
    refine lv_aload_n hx hb dJ2_fastRemove_26 rfl (lv_at hl 2 rfl) ?_
    refine lv_iload_n hx hb dJ2_fastRemove_27 rfl (lv_at hl 3 rfl) ?_
    refine lv_iload_n hx hb dJ2_fastRemove_28 rfl (lv_at hl 0 rfl) ?_
    refine lv_iload_n hx hb dJ2_fastRemove_29 rfl (lv_at hl 3 rfl) ?_
    refine lv_isub hx hb dJ2_fastRemove_30 ?_
    refine x_top (y := nI (ct - 1 - k0)) (sub_nI (by omega)) ?_
    refine x_copyQ hx hb (hml.trans hl.1.symm) hown (hts _ q329) (hts _ q260) (hts _ q259) (hts _ q70) K hP hD hS 1 1 rfl rfl (k0 + 1) k0 (ct - 1 - k0) (by omega) (by omega) (by omega) (by omega) (fun i hi y hy => any_of G.1 (fz_S hΦ hFA hS) (hel _ (by omega) y hy)) (Nat.le_of_ble_eq_true rfl) (Nat.le_of_ble_eq_true rfl) dJ2_fastRemove_31 (fun H locs hP hD hS => ?_)
    have hP : va_P D vwCl [(lq, .inr (4, [.int (md + (nI 1)), .ref da, .int (nI ct)])), (da, .inl (dA 1, cp, .inr (.inr (.inr (.inr (va_cpy fe fe (k0 + 1) k0 (ct - 1 - k0)))))))] H := hP
    have hD : va_D A [(lq, .inr (4, [.int (md + (nI 1)), .ref da, .int (nI ct)])), (da, .inl (dA 1, cp, .inr (.inr (.inr (.inr (va_cpy fe fe (k0 + 1) k0 (ct - 1 - k0)))))))] := hD
    refine lv_aload_n hx hb dJ2_fastRemove_34 rfl (lv_at hl 2 rfl) ?_
    refine lv_aload_n hx hb dJ2_fastRemove_35 rfl (lv_at hl 1 rfl) ?_
    refine lv_iload_n hx hb dJ2_fastRemove_36 rfl (lv_at hl 0 rfl) ?_
    refine lv_dup_x1 hx hb dJ2_fastRemove_37 rfl rfl ?_
    refine va_put (D := D) (ci := 4) (v := .int (nI (ct - 1))) (ty := .int) (C := RJ2) (T := TJ2) (N := 3) hx hb hts in_J2 tyJ2 tyJ2_ok nmJ2 hown K hP hD hS 0 rfl rfl 2 (by decide) (hts _ q160) (fun _ h9 => h9) rfl (by decide +kernel) rfl rfl (Nat.le_of_ble_eq_true rfl) dJ2_fastRemove_38 (fun H locs hP hD hS => ?_)
    have hP : va_P D vwCl [(lq, .inr (4, [.int (md + (nI 1)), .ref da, .int (nI (ct - 1))])), (da, .inl (dA 1, cp, .inr (.inr (.inr (.inr (va_cpy fe fe (k0 + 1) k0 (ct - 1 - k0)))))))] H := hP
    have hD : va_D A [(lq, .inr (4, [.int (md + (nI 1)), .ref da, .int (nI (ct - 1))])), (da, .inl (dA 1, cp, .inr (.inr (.inr (.inr (va_cpy fe fe (k0 + 1) k0 (ct - 1 - k0)))))))] := hD
    refine lv_null hx hb dJ2_fastRemove_41 ?_
    refine x_aastN hx hb K hP hD hS 1 rfl (ct - 1) (by omega) (by omega) dJ2_fastRemove_42 (fun H locs hP hD hS => ?_)
    have hP : va_P D vwCl [(lq, .inr (4, [.int (md + (nI 1)), .ref da, .int (nI (ct - 1))])), (da, .inl (dA 1, cp, .inr (.inr (.inr (.inr (va_up (va_cpy fe fe (k0 + 1) k0 (ct - 1 - k0)) (ct - 1) none))))))] H := hP
    have hD : va_D A [(lq, .inr (4, [.int (md + (nI 1)), .ref da, .int (nI (ct - 1))])), (da, .inl (dA 1, cp, .inr (.inr (.inr (.inr (va_up (va_cpy fe fe (k0 + 1) k0 (ct - 1 - k0)) (ct - 1) none))))))] := hD
    exact x_evret () hx hb hrt hlk rfl trivial hP hD hS dJ2_fastRemove_43 (Nat.le_of_ble_eq_true rfl) (Nat.le_of_ble_eq_true rfl)

set_option maxHeartbeats 4000000 in
theorem xl_remove (l : Launch) (D : va_G) (dA : Nat → ClassId) (E : Nat) (ad : Nat → Nat) (sz0 mi : Nat) (lq : Nat) (md : Int32) (da ct cp : Nat) (fe : Nat → Option Nat) (FZ : va_W) (k0 : Nat) (hk0 : k0 < ct) (hcp : ct ≤ cp ∧ cp ≤ 64) (hel : ∀ i, i < cp → ∀ y, fe i = some y → OkEl FZ y) (y0 : Nat) (hy0 : fe k0 = some y0) (hup : Up sz0 ([(lq, .inr (4, [.int md, .ref da, .int (nI ct)])), (da, .inl (dA 1, cp, .inr (.inr (.inr (.inr fe)))))])) (hap : Apart FZ ([(lq, .inr (4, [.int md, .ref da, .int (nI ct)])), (da, .inl (dA 1, cp, .inr (.inr (.inr (.inr fe)))))])) : EX l yJ2_remove cJ2_remove 4 (some (.object "java/lang/Object")) 2 80 0 0 [.ref lq, .int (nI k0)] (G1 D dA E ad sz0 mi) D ([(lq, .inr (4, [.int md, .ref da, .int (nI ct)])), (da, .inl (dA 1, cp, .inr (.inr (.inr (.inr fe)))))]) (fun H => va_P D vwCl FZ H) (S := Unit) (fun _ _ => True) (fun _ => some (.ref y0)) (fun _ => [(lq, .inr (4, [.int (md + nI 1), .ref da, .int (nI (ct - 1))])), (da, .inl (dA 1, cp, .inr (.inr (.inr (.inr (va_up (va_cpy fe fe (k0 + 1) k0 (ct - 1 - k0)) (ct - 1) none))))))]) := by
  refine ex_of (by decide) (Nat.le_of_ble_eq_true rfl) ?_
  intro p e s m below meth c A S hrt hlk hnm G hA hAe hΦ H locs hP hD hS ls hl
  obtain ⟨hx, hb, hml, hown, hts⟩ := id S
  have K := G.1.1
  have hA0 := up_A hup G.1.2.2.2.2.2.2 hAe
  have hFA := ap_A hΦ hap hAe
  have hP : va_P D vwCl [(lq, .inr (4, [.int md, .ref da, .int (nI ct)])), (da, .inl (dA 1, cp, .inr (.inr (.inr (.inr fe)))))] H := hP
  have hD : va_D A [(lq, .inr (4, [.int md, .ref da, .int (nI ct)])), (da, .inl (dA 1, cp, .inr (.inr (.inr (.inr fe)))))] := hD
  have hl : lv_has ls 4 [(0, .ref lq), (1, .int (nI k0))] := hl
  refine lv_iload_n hx hb dJ2_remove_0 rfl (lv_at hl 1 rfl) ?_
  refine lv_aload_n hx hb dJ2_remove_1 rfl (lv_at hl 0 rfl) ?_
  refine va_get (D := D) (ci := 4) (C := RJ2) (T := TJ2) (N := 3) hx hb hts in_J2 hown K hP 0 rfl rfl 2 (by decide) (hts _ q160) (fun _ h9 => h9) rfl dJ2_remove_2 ?_
  refine x_ret (va_runS (As := [.int (nI k0), .int (nI ct)]) (rest := []) S (xl_oci l k0 ct (by omega) (by omega)) (va_cwS 2 hts (lw_S q365 q366 q74 q367) rfl rfl rfl hdJ10_checkIndex ⟨Nat.le_of_ble_eq_true rfl, Nat.le_of_ble_eq_true rfl⟩) ⟨bb_blind tt_bl _, tt_pre _⟩ rfl rfl hl.1 rfl (lv_room (Nat.le_of_ble_eq_true rfl)) dJ2_remove_5 ⟨by omega, by omega⟩) ?_
  refine lv_pop hx hb dJ2_remove_8 rfl ?_
  refine lv_aload_n hx hb dJ2_remove_9 rfl (lv_at hl 0 rfl) ?_
  refine va_get (D := D) (ci := 4) (C := RJ2) (T := TJ2) (N := 3) hx hb hts in_J2 hown K hP 0 rfl rfl 1 (by decide) (hts _ q159) (fun _ h9 => h9) rfl dJ2_remove_10 ?_
  refine lv_astore_n (lv' := [(2, .ref da), (0, .ref lq), (1, .int (nI k0))]) hx hb dJ2_remove_13 rfl hl (by decide) rfl (fun ls hl => ?_)
  refine lv_aload_n hx hb dJ2_remove_14 rfl (lv_at hl 0 rfl) ?_
  refine lv_iload_n hx hb dJ2_remove_15 rfl (lv_at hl 2 rfl) ?_
  refine x_aald (y := y0) hx hb K hP 1 rfl k0 (by omega) (by omega) hy0 dJ2_remove_16 ?_
  refine lv_astore_n (lv' := [(3, .ref y0), (2, .ref da), (0, .ref lq), (1, .int (nI k0))]) hx hb dJ2_remove_17 rfl hl (by decide) rfl (fun ls hl => ?_)
  refine lv_aload_n hx hb dJ2_remove_18 rfl (lv_at hl 2 rfl) ?_
  refine lv_aload_n hx hb dJ2_remove_19 rfl (lv_at hl 1 rfl) ?_
  refine lv_iload_n hx hb dJ2_remove_20 rfl (lv_at hl 3 rfl) ?_
  refine x_ecall (wr := []) (va_runV (As := [.ref da, .int (nI k0)]) (rest := []) S (xl_frm l D dA E ad sz0 mi lq md da ct cp fe FZ k0 hk0 hcp hel (up_D hA0 hD) (apart_D hFA hD) H.size) (cwV 2 hts (lw_V q371 q373 qs3 q64 q374) rfl rfl rfl hdJ2_fastRemove ⟨Nat.le_of_ble_eq_true rfl, Nat.le_of_ble_eq_true rfl⟩) ⟨pe_blind g1_bl _, va_recv K hP (ci := 4) (q0 := 0) rfl rfl, pe_pre (g1_mv G (low_of hS hA0 G.1.2.2.2.2.2.2) hS.1) hP hD (fz_S hΦ hFA hS) _⟩ rfl rfl hl.1 rfl (lv_room (Nat.le_of_ble_eq_true rfl)) dJ2_remove_21 ⟨Nat.le_of_ble_eq_true rfl, Nat.le_of_ble_eq_true rfl⟩) hP hD hS hA [0, 1] [] rfl rfl (by decide) (by decide) (fun _u H locs hΨ hP hD hS hkp hsz hDn => ?_)
  have hP : va_P D vwCl [(lq, .inr (4, [.int (md + nI 1), .ref da, .int (nI (ct - 1))])), (da, .inl (dA 1, cp, .inr (.inr (.inr (.inr (va_up (va_cpy fe fe (k0 + 1) k0 (ct - 1 - k0)) (ct - 1) none))))))] H := hP
  have hD : va_D A [(lq, .inr (4, [.int (md + nI 1), .ref da, .int (nI (ct - 1))])), (da, .inl (dA 1, cp, .inr (.inr (.inr (.inr (va_up (va_cpy fe fe (k0 + 1) k0 (ct - 1 - k0)) (ct - 1) none))))))] := hD
  refine W.widen (k := 0) (n := 0) (Nat.le_of_ble_eq_true rfl) (Nat.le_of_ble_eq_true rfl) ?_
  refine lv_aload_n hx hb dJ2_remove_24 rfl (lv_at hl 0 rfl) ?_
  exact x_earet () hx hb hrt (Or.inl ⟨_, rfl⟩) hlk rfl trivial hP hD hS dJ2_remove_25 (Nat.le_of_ble_eq_true rfl) (Nat.le_of_ble_eq_true rfl)

set_option maxHeartbeats 4000000 in
theorem xl_toA (l : Launch) (D : va_G) (dA : Nat → ClassId) (E : Nat) (ad : Nat → Nat) (sz0 mi : Nat) (lq : Nat) (md : Int32) (da ct cp : Nat) (fe : Nat → Option Nat) (FZ : va_W) (hcp : ct ≤ cp ∧ cp ≤ 64) (hel : ∀ i, i < ct → ∀ y, fe i = some y → OkEl FZ y) (hup : Up sz0 ([])) (hap : Apart FZ ([])) : EX l yJ2_toArray cJ2_toArray 1 (some (FieldType.array (FieldType.object "java/lang/Object"))) 3 120 1 64 [.ref lq] (G1 D dA E ad sz0 mi) D ([]) (fun H => va_P D vwCl [(lq, .inr (4, [.int md, .ref da, .int (nI ct)])), (da, .inl (dA 1, cp, .inr (.inr (.inr (.inr fe)))))] H ∧ va_P D vwCl FZ H) (S := Nat) (fun _ _ => True) (fun u => some (.ref u)) (fun u => [(u, .inl (dA 1, ct, .inr (.inr (.inr (.inr (va_cpy fe (fun _ => none) 0 0 (min cp ct)))))))]) := by
  refine ex_of (by decide) (Nat.le_of_ble_eq_true rfl) ?_
  intro p e s m below meth c A S hrt hlk hnm G hA hAe hΦ H locs hP hD hS ls hl
  obtain ⟨hx, hb, hml, hown, hts⟩ := id S
  obtain ⟨hsrc, hΦ⟩ := hΦ
  have K := G.1.1
  have hA0 := up_A hup G.1.2.2.2.2.2.2 hAe
  have hFA := ap_A hΦ hap hAe
  have hsA := ap_A hsrc (fun _ _ _ h => by cases h) hAe
  have hP : va_P D vwCl [] H := hP
  have hD : va_D A [] := hD
  have hl : lv_has ls 1 [(0, .ref lq)] := hl
  refine lv_aload_n hx hb dJ2_toArray_0 rfl (lv_at hl 0 rfl) ?_
  refine va_get (D := D) (ci := 4) (C := RJ2) (T := TJ2) (N := 3) hx hb hts in_J2 hown K (fz_S hsrc hsA hS) 0 rfl rfl 1 (by decide) (hts _ q159) (fun _ h9 => h9) rfl dJ2_toArray_1 ?_
  refine lv_aload_n hx hb dJ2_toArray_4 rfl (lv_at hl 0 rfl) ?_
  refine va_get (D := D) (ci := 4) (C := RJ2) (T := TJ2) (N := 3) hx hb hts in_J2 hown K (fz_S hsrc hsA hS) 0 rfl rfl 2 (by decide) (hts _ q160) (fun _ h9 => h9) rfl dJ2_toArray_5 ?_
  refine x_ecall (wr := []) (va_runS (As := [.ref da, .int (nI ct)]) (rest := []) S (xl_cp l D dA E ad sz0 mi da cp fe ct FZ (by omega) (by omega) (fun i hi y hy => hel i (by omega) y hy) (fun _ h => by cases h) (fun _ _ _ h => by cases h) H.size) (va_cwS 2 hts (lw_S q281 q282 q71 q283) rfl rfl rfl hdJ7_copyOf ⟨Nat.le_of_ble_eq_true rfl, Nat.le_of_ble_eq_true rfl⟩) ⟨pe_blind g1_bl _, pe_pre (g1_mv G (low_of hS hA0 G.1.2.2.2.2.2.2) hS.1) hP hD ⟨(fz_S hsrc hsA hS).sub [1] rfl, (fz_S hΦ hFA hS)⟩ _⟩ rfl rfl hl.1 rfl (lv_room (Nat.le_of_ble_eq_true rfl)) dJ2_toArray_8 ⟨Nat.le_of_ble_eq_true rfl, Nat.le_of_ble_eq_true rfl⟩) hP hD hS hA [] [] rfl rfl (by decide) (by decide) (fun d1 H locs hΨ hP hD hS hkp hsz hDn => ?_)
  have hP : va_P D vwCl [(d1, .inl (dA 1, ct, .inr (.inr (.inr (.inr (va_cpy fe (fun _ => none) 0 0 (min cp ct)))))))] H := hP
  have hD : va_D A [(d1, .inl (dA 1, ct, .inr (.inr (.inr (.inr (va_cpy fe (fun _ => none) 0 0 (min cp ct)))))))] := hD
  refine W.widen (k := 1) (n := 64) (Nat.le_of_ble_eq_true rfl) (Nat.le_of_ble_eq_true rfl) ?_
  exact x_earet d1 hx hb hrt (Or.inr ⟨_, rfl⟩) hlk rfl trivial hP hD hS dJ2_toArray_11 (Nat.le_of_ble_eq_true rfl) (Nat.le_of_ble_eq_true rfl)

set_option maxHeartbeats 4000000 in
theorem xl_addAllE0 (l : Launch) (D : va_G) (dA : Nat → ClassId) (E : Nat) (ad : Nat → Nat) (sz0 mi : Nat) (lq : Nat) (md : Int32) (q2 : Nat) (m2 : Int32) (d2 c2 p2 : Nat) (f2 : Nat → Option Nat) (FZ : va_W) (hc2 : c2 ≤ p2 ∧ p2 ≤ 64) (hel : ∀ i, i < c2 → ∀ y, f2 i = some y → OkEl FZ y) (h0 : c2 = 0) (hsap : Apart [(q2, .inr (4, [.int m2, .ref d2, .int (nI c2)])), (d2, .inl (dA 1, p2, .inr (.inr (.inr (.inr f2)))))] [(lq, .inr (4, [.int md, .ref E, .int (nI 0)]))]) (hup : Up sz0 ([(lq, .inr (4, [.int md, .ref E, .int (nI 0)]))])) (hap : Apart FZ ([(lq, .inr (4, [.int md, .ref E, .int (nI 0)]))])) : EX l yJ2_addAll cJ2_addAll 6 (some .boolean) 4 160 2 128 [.ref lq, .ref q2] (G1 D dA E ad sz0 mi) D ([(lq, .inr (4, [.int md, .ref E, .int (nI 0)]))]) (fun H => va_P D vwCl [(q2, .inr (4, [.int m2, .ref d2, .int (nI c2)])), (d2, .inl (dA 1, p2, .inr (.inr (.inr (.inr f2)))))] H ∧ va_P D vwCl FZ H) (S := Unit) (fun _ _ => True) (fun _ => some (.int (bI false))) (fun _ => [(lq, .inr (4, [.int (md + nI 1), .ref E, .int (nI 0)]))]) := by
  refine ex_of (by decide) (Nat.le_of_ble_eq_true rfl) ?_
  intro p e s m below meth c A S hrt hlk hnm G hA hAe hΦ H locs hP hD hS ls hl
  obtain ⟨hx, hb, hml, hown, hts⟩ := id S
  obtain ⟨hsrc, hΦ⟩ := hΦ
  have K := G.1.1
  have hA0 := up_A hup G.1.2.2.2.2.2.2 hAe
  have hFA := ap_A hΦ hap hAe
  have hsA := ap_A hsrc hsap hAe
  have hP : va_P D vwCl [(lq, .inr (4, [.int md, .ref E, .int (nI 0)]))] H := hP
  have hD : va_D A [(lq, .inr (4, [.int md, .ref E, .int (nI 0)]))] := hD
  have hl : lv_has ls 6 [(0, .ref lq), (1, .ref q2)] := hl
  refine lv_aload_n hx hb dJ2_addAll_0 rfl (lv_at hl 1 rfl) ?_
  refine x_ecall5 (wr := [(lq, .inr (4, [.int md, .ref E, .int (nI 0)]))]) (va_runF ((K.1 4 _ rfl).2) (As := []) (rest := []) S (xl_toA l D dA E ad sz0 mi q2 m2 d2 c2 p2 f2 FZ hc2 hel (fun _ h => by cases h) (fun _ _ _ h => by cases h) H.size) (va_cwF 0 hts (lw_F (x := ⟨"java/util/Collection", "toArray", "()[Ljava/lang/Object;"⟩) (y := yJ2_toArray) q272 q276 q278 q64 q280) rfl rfl rfl (fwk_7 G.1.2.2.1) (by decide +kernel) ⟨Nat.le_of_ble_eq_true rfl, Nat.le_of_ble_eq_true rfl⟩) ⟨pe_blind g1_bl _, va_recv K (fz_S hsrc hsA hS) (ci := 4) (q0 := 0) rfl rfl, pe_pre (g1_mv G (low_of hS hA0 G.1.2.2.2.2.2.2) hS.1) (hP.sub [] rfl) (hD.sub [] (by decide) rfl) ⟨(fz_S hsrc hsA hS), (fz_S hΦ hFA hS)⟩ _⟩ rfl rfl hl.1 rfl (lv_room (Nat.le_of_ble_eq_true rfl)) dJ2_addAll_1 ⟨Nat.le_of_ble_eq_true rfl, Nat.le_of_ble_eq_true rfl⟩) hP hD hS hA [] [0] rfl rfl (by decide) (by decide) (fun d0 H locs hΨ hP hD hS hkp hsz hDn => ?_)
  have hP : va_P D vwCl [(lq, .inr (4, [.int md, .ref E, .int (nI 0)])), (d0, .inl (dA 1, c2, .inr (.inr (.inr (.inr (va_cpy f2 (fun _ => none) 0 0 (min p2 c2)))))))] H := hP
  have hD : va_D A [(lq, .inr (4, [.int md, .ref E, .int (nI 0)])), (d0, .inl (dA 1, c2, .inr (.inr (.inr (.inr (va_cpy f2 (fun _ => none) 0 0 (min p2 c2)))))))] := hD
  refine W.widen (k := 1) (n := 64) (Nat.le_of_ble_eq_true rfl) (Nat.le_of_ble_eq_true rfl) ?_
  refine lv_astore_n (lv' := [(2, .ref d0), (0, .ref lq), (1, .ref q2)]) hx hb dJ2_addAll_6 rfl hl (by decide) rfl (fun ls hl => ?_)
  refine lv_aload_n hx hb dJ2_addAll_7 rfl (lv_at hl 1 rfl) ?_
  refine lv_dup hx hb dJ2_addAll_8 rfl ?_
  refine va_get (D := D) (ci := 4) (C := RJ2) (T := TJ2) (N := 3) hx hb hts in_J2 hown K hP 0 rfl rfl 0 (by decide) (hts _ q162) (fun x9 h9 => u_same (hts _ q163) x9 h9) rfl dJ2_addAll_9 ?_
  refine lv_iconst (v := nI 1) hx hb dJ2_addAll_12 (by decide) ?_
  refine lv_iadd hx hb dJ2_addAll_13 ?_
  refine va_put (D := D) (ci := 4) (v := .int (md + (nI 1))) (ty := .int) (C := RJ2) (T := TJ2) (N := 3) hx hb hts in_J2 tyJ2 tyJ2_ok nmJ2 hown K hP hD hS 0 rfl rfl 0 (by decide) (hts _ q162) (fun x9 h9 => u_same (hts _ q163) x9 h9) rfl (by decide +kernel) rfl rfl (Nat.le_of_ble_eq_true rfl) dJ2_addAll_14 (fun H locs hP hD hS => ?_)
  have hP : va_P D vwCl [(lq, .inr (4, [.int (md + (nI 1)), .ref E, .int (nI 0)])), (d0, .inl (dA 1, c2, .inr (.inr (.inr (.inr (va_cpy f2 (fun _ => none) 0 0 (min p2 c2)))))))] H := hP
  have hD : va_D A [(lq, .inr (4, [.int (md + (nI 1)), .ref E, .int (nI 0)])), (d0, .inl (dA 1, c2, .inr (.inr (.inr (.inr (va_cpy f2 (fun _ => none) 0 0 (min p2 c2)))))))] := hD
  refine lv_aload_n hx hb dJ2_addAll_17 rfl (lv_at hl 0 rfl) ?_
  refine va_alen (v := nI c2) hx hb K hP 1 1 rfl rfl rfl dJ2_addAll_18 ?_
  refine lv_istore_n (lv' := [(3, .int (nI c2)), (2, .ref d0), (0, .ref lq), (1, .ref q2)]) hx hb dJ2_addAll_19 rfl hl (by decide) rfl (fun ls hl => ?_)
  refine lv_iload_n hx hb dJ2_addAll_20 rfl (lv_at hl 0 rfl) ?_
  refine x_ifn_ne (tgt := 26) hx hb dJ2_addAll_21 (by decide) (by omega) (fun h => absurd h (by omega)) (fun h => ?_)
  refine lv_iconst (v := nI 0) hx hb dJ2_addAll_24 (by decide) ?_
  refine x_top (y := bI false) rfl ?_
  exact x_ezret () hx hb hrt hlk rfl trivial (hP.sub [0] rfl) (hD.sub [0] (by decide) rfl) hS dJ2_addAll_25 (Nat.le_of_ble_eq_true rfl) (Nat.le_of_ble_eq_true rfl)

set_option maxHeartbeats 4000000 in
theorem xl_addAllE1 (l : Launch) (D : va_G) (dA : Nat → ClassId) (E : Nat) (ad : Nat → Nat) (sz0 mi : Nat) (lq : Nat) (md : Int32) (q2 : Nat) (m2 : Int32) (d2 c2 p2 : Nat) (f2 : Nat → Option Nat) (FZ : va_W) (hc2 : c2 ≤ p2 ∧ p2 ≤ 64) (hel : ∀ i, i < c2 → ∀ y, f2 i = some y → OkEl FZ y) (h0 : 0 < c2) (hsap : Apart [(q2, .inr (4, [.int m2, .ref d2, .int (nI c2)])), (d2, .inl (dA 1, p2, .inr (.inr (.inr (.inr f2)))))] [(lq, .inr (4, [.int md, .ref E, .int (nI 0)]))]) (hup : Up sz0 ([(lq, .inr (4, [.int md, .ref E, .int (nI 0)]))])) (hap : Apart FZ ([(lq, .inr (4, [.int md, .ref E, .int (nI 0)]))])) : EX l yJ2_addAll cJ2_addAll 6 (some .boolean) 4 160 2 128 [.ref lq, .ref q2] (G1 D dA E ad sz0 mi) D ([(lq, .inr (4, [.int md, .ref E, .int (nI 0)]))]) (fun H => va_P D vwCl [(q2, .inr (4, [.int m2, .ref d2, .int (nI c2)])), (d2, .inl (dA 1, p2, .inr (.inr (.inr (.inr f2)))))] H ∧ va_P D vwCl FZ H) (S := Nat) (fun _ _ => True) (fun _ => some (.int (bI true))) (fun u => [(lq, .inr (4, [.int (md + nI 1), .ref u, .int (nI c2)])), (u, .inl (dA 1, max 10 c2, .inr (.inr (.inr (.inr (va_cpy (va_cpy f2 (fun _ => none) 0 0 (min p2 c2)) (fun _ => none) 0 0 c2))))))]) := by
  refine ex_of (by decide) (Nat.le_of_ble_eq_true rfl) ?_
  intro p e s m below meth c A S hrt hlk hnm G hA hAe hΦ H locs hP hD hS ls hl
  obtain ⟨hx, hb, hml, hown, hts⟩ := id S
  obtain ⟨hsrc, hΦ⟩ := hΦ
  have K := G.1.1
  have hA0 := up_A hup G.1.2.2.2.2.2.2 hAe
  have hFA := ap_A hΦ hap hAe
  have hsA := ap_A hsrc hsap hAe
  have hP : va_P D vwCl [(lq, .inr (4, [.int md, .ref E, .int (nI 0)]))] H := hP
  have hD : va_D A [(lq, .inr (4, [.int md, .ref E, .int (nI 0)]))] := hD
  have hl : lv_has ls 6 [(0, .ref lq), (1, .ref q2)] := hl
  refine lv_aload_n hx hb dJ2_addAll_0 rfl (lv_at hl 1 rfl) ?_
  refine x_ecall5 (wr := [(lq, .inr (4, [.int md, .ref E, .int (nI 0)]))]) (va_runF ((K.1 4 _ rfl).2) (As := []) (rest := []) S (xl_toA l D dA E ad sz0 mi q2 m2 d2 c2 p2 f2 FZ hc2 hel (fun _ h => by cases h) (fun _ _ _ h => by cases h) H.size) (va_cwF 0 hts (lw_F (x := ⟨"java/util/Collection", "toArray", "()[Ljava/lang/Object;"⟩) (y := yJ2_toArray) q272 q276 q278 q64 q280) rfl rfl rfl (fwk_7 G.1.2.2.1) (by decide +kernel) ⟨Nat.le_of_ble_eq_true rfl, Nat.le_of_ble_eq_true rfl⟩) ⟨pe_blind g1_bl _, va_recv K (fz_S hsrc hsA hS) (ci := 4) (q0 := 0) rfl rfl, pe_pre (g1_mv G (low_of hS hA0 G.1.2.2.2.2.2.2) hS.1) (hP.sub [] rfl) (hD.sub [] (by decide) rfl) ⟨(fz_S hsrc hsA hS), (fz_S hΦ hFA hS)⟩ _⟩ rfl rfl hl.1 rfl (lv_room (Nat.le_of_ble_eq_true rfl)) dJ2_addAll_1 ⟨Nat.le_of_ble_eq_true rfl, Nat.le_of_ble_eq_true rfl⟩) hP hD hS hA [] [0] rfl rfl (by decide) (by decide) (fun d0 H locs hΨ hP hD hS hkp hsz hDn => ?_)
  have hP : va_P D vwCl [(lq, .inr (4, [.int md, .ref E, .int (nI 0)])), (d0, .inl (dA 1, c2, .inr (.inr (.inr (.inr (va_cpy f2 (fun _ => none) 0 0 (min p2 c2)))))))] H := hP
  have hD : va_D A [(lq, .inr (4, [.int md, .ref E, .int (nI 0)])), (d0, .inl (dA 1, c2, .inr (.inr (.inr (.inr (va_cpy f2 (fun _ => none) 0 0 (min p2 c2)))))))] := hD
  refine W.widen (k := 1) (n := 64) (Nat.le_of_ble_eq_true rfl) (Nat.le_of_ble_eq_true rfl) ?_
  refine lv_astore_n (lv' := [(2, .ref d0), (0, .ref lq), (1, .ref q2)]) hx hb dJ2_addAll_6 rfl hl (by decide) rfl (fun ls hl => ?_)
  refine lv_aload_n hx hb dJ2_addAll_7 rfl (lv_at hl 1 rfl) ?_
  refine lv_dup hx hb dJ2_addAll_8 rfl ?_
  refine va_get (D := D) (ci := 4) (C := RJ2) (T := TJ2) (N := 3) hx hb hts in_J2 hown K hP 0 rfl rfl 0 (by decide) (hts _ q162) (fun x9 h9 => u_same (hts _ q163) x9 h9) rfl dJ2_addAll_9 ?_
  refine lv_iconst (v := nI 1) hx hb dJ2_addAll_12 (by decide) ?_
  refine lv_iadd hx hb dJ2_addAll_13 ?_
  refine va_put (D := D) (ci := 4) (v := .int (md + (nI 1))) (ty := .int) (C := RJ2) (T := TJ2) (N := 3) hx hb hts in_J2 tyJ2 tyJ2_ok nmJ2 hown K hP hD hS 0 rfl rfl 0 (by decide) (hts _ q162) (fun x9 h9 => u_same (hts _ q163) x9 h9) rfl (by decide +kernel) rfl rfl (Nat.le_of_ble_eq_true rfl) dJ2_addAll_14 (fun H locs hP hD hS => ?_)
  have hP : va_P D vwCl [(lq, .inr (4, [.int (md + (nI 1)), .ref E, .int (nI 0)])), (d0, .inl (dA 1, c2, .inr (.inr (.inr (.inr (va_cpy f2 (fun _ => none) 0 0 (min p2 c2)))))))] H := hP
  have hD : va_D A [(lq, .inr (4, [.int (md + (nI 1)), .ref E, .int (nI 0)])), (d0, .inl (dA 1, c2, .inr (.inr (.inr (.inr (va_cpy f2 (fun _ => none) 0 0 (min p2 c2)))))))] := hD
  refine lv_aload_n hx hb dJ2_addAll_17 rfl (lv_at hl 0 rfl) ?_
  refine va_alen (v := nI c2) hx hb K hP 1 1 rfl rfl rfl dJ2_addAll_18 ?_
  refine lv_istore_n (lv' := [(3, .int (nI c2)), (2, .ref d0), (0, .ref lq), (1, .ref q2)]) hx hb dJ2_addAll_19 rfl hl (by decide) rfl (fun ls hl => ?_)
  refine lv_iload_n hx hb dJ2_addAll_20 rfl (lv_at hl 0 rfl) ?_
  refine x_ifn_ne (tgt := 26) hx hb dJ2_addAll_21 (by decide) (by omega) (fun h => ?_) (fun h => absurd h (by omega))
  refine lv_iload_n hx hb dJ2_addAll_26 rfl (lv_at hl 0 rfl) ?_
  refine lv_aload_n hx hb dJ2_addAll_27 rfl (lv_at hl 2 rfl) ?_
  refine va_get (D := D) (ci := 4) (C := RJ2) (T := TJ2) (N := 3) hx hb hts in_J2 hown K hP 0 rfl rfl 1 (by decide) (hts _ q159) (fun _ h9 => h9) rfl dJ2_addAll_28 ?_
  refine lv_dup hx hb dJ2_addAll_31 rfl ?_
  refine lv_astore (lv' := [(4, .ref E), (3, .int (nI c2)), (2, .ref d0), (0, .ref lq), (1, .ref q2)]) hx hb dJ2_addAll_32 hl (by decide) rfl (fun ls hl => ?_)
  refine va_alen (v := nI 0) hx hb K (e_P G.1 (low_of hS hA0 G.1.2.2.2.2.2.2)) 0 1 rfl rfl rfl dJ2_addAll_34 ?_
  refine lv_aload_n hx hb dJ2_addAll_35 rfl (lv_at hl 3 rfl) ?_
  refine va_get (D := D) (ci := 4) (C := RJ2) (T := TJ2) (N := 3) hx hb hts in_J2 hown K hP 0 rfl rfl 2 (by decide) (hts _ q160) (fun _ h9 => h9) rfl dJ2_addAll_36 ?_
  refine lv_dup hx hb dJ2_addAll_39 rfl ?_
  refine lv_istore (lv' := [(5, .int (nI 0)), (4, .ref E), (3, .int (nI c2)), (2, .ref d0), (0, .ref lq), (1, .ref q2)]) hx hb dJ2_addAll_40 hl (by decide) rfl (fun ls hl => ?_)
  refine lv_isub hx hb dJ2_addAll_42 ?_
  refine x_top (y := nI 0) (by decide) ?_
  refine x_icmpn_le (tgt := 56) hx hb dJ2_addAll_43 (by decide) (by omega) (by omega) (fun h => absurd h (by omega)) (fun h => ?_)
  refine lv_aload_n hx hb dJ2_addAll_46 rfl (lv_at hl 4 rfl) ?_
  refine lv_iload hx hb dJ2_addAll_47 (lv_at hl 0 rfl) ?_
  refine lv_iload_n hx hb dJ2_addAll_49 rfl (lv_at hl 2 rfl) ?_
  refine x_addN hx hb dJ2_addAll_50 ?_
  refine x_top (y := nI c2) (by rw [Nat.zero_add]) ?_
  refine x_ecall (wr := [(d0, .inl (dA 1, c2, .inr (.inr (.inr (.inr (va_cpy f2 (fun _ => none) 0 0 (min p2 c2)))))))]) (va_runV (As := [.int (nI c2)]) (rest := []) S (xl_growE l D dA E ad sz0 mi lq (md + (nI 1)) c2 (by omega) (up_D hA0 (hD.sub [0] (by decide) rfl)) H.size) (cwV 1 hts (lw_V q313 q315 qs1 q64 q316) rfl rfl rfl hdJ2_grow ⟨Nat.le_of_ble_eq_true rfl, Nat.le_of_ble_eq_true rfl⟩) ⟨pe_blind g1_bl _, va_recv K hP (ci := 4) (q0 := 0) rfl rfl, pe_pre (g1_mv G (low_of hS hA0 G.1.2.2.2.2.2.2) hS.1) (hP.sub [0] rfl) (hD.sub [0] (by decide) rfl) trivial _⟩ rfl rfl hl.1 rfl (lv_room (Nat.le_of_ble_eq_true rfl)) dJ2_addAll_51 ⟨Nat.le_of_ble_eq_true rfl, Nat.le_of_ble_eq_true rfl⟩) hP hD hS hA [0] [1] rfl rfl (by decide) (by decide) (fun d1 H locs hΨ hP hD hS hkp hsz hDn => ?_)
  have hP : va_P D vwCl [(d0, .inl (dA 1, c2, .inr (.inr (.inr (.inr (va_cpy f2 (fun _ => none) 0 0 (min p2 c2))))))), (lq, .inr (4, [.int (md + (nI 1)), .ref d1, .int (nI 0)])), (d1, .inl (dA 1, max 10 c2, .inr (.inr (.inr (.inr (fun _ => none))))))] H := hP
  have hD : va_D A [(d0, .inl (dA 1, c2, .inr (.inr (.inr (.inr (va_cpy f2 (fun _ => none) 0 0 (min p2 c2))))))), (lq, .inr (4, [.int (md + (nI 1)), .ref d1, .int (nI 0)])), (d1, .inl (dA 1, max 10 c2, .inr (.inr (.inr (.inr (fun _ => none))))))] := hD
  refine W.widen (k := 2) (n := 128) (Nat.le_of_ble_eq_true rfl) (Nat.le_of_ble_eq_true rfl) ?_
  refine lv_astore (lv' := [(4, .ref d1), (5, .int (nI 0)), (3, .int (nI c2)), (2, .ref d0), (0, .ref lq), (1, .ref q2)]) hx hb dJ2_addAll_54 hl (by decide) rfl (fun ls hl => ?_)
  refine lv_aload_n hx hb dJ2_addAll_56 rfl (lv_at hl 3 rfl) ?_
  refine lv_iconst (v := nI 0) hx hb dJ2_addAll_57 (by decide) ?_
  refine lv_aload hx hb dJ2_addAll_58 (lv_at hl 0 rfl) ?_
  refine lv_iload hx hb dJ2_addAll_60 (lv_at hl 1 rfl) ?_
  refine lv_iload_n hx hb dJ2_addAll_62 rfl (lv_at hl 2 rfl) ?_
  refine x_copyQ hx hb (hml.trans hl.1.symm) hown (hts _ q329) (hts _ q260) (hts _ q259) (hts _ q70) K hP hD hS 0 2 rfl rfl 0 0 c2 (by omega) (by omega) (by omega) (by omega) (fun i hi y hy => any_of G.1 (fz_S hΦ hFA hS) (cpy_el (fun i hi => hel i (by omega)) hy)) (Nat.le_of_ble_eq_true rfl) (Nat.le_of_ble_eq_true rfl) dJ2_addAll_63 (fun H locs hP hD hS => ?_)
  have hP : va_P D vwCl [(d0, .inl (dA 1, c2, .inr (.inr (.inr (.inr (va_cpy f2 (fun _ => none) 0 0 (min p2 c2))))))), (lq, .inr (4, [.int (md + (nI 1)), .ref d1, .int (nI 0)])), (d1, .inl (dA 1, max 10 c2, .inr (.inr (.inr (.inr (va_cpy (va_cpy f2 (fun _ => none) 0 0 (min p2 c2)) (fun _ => none) 0 0 c2))))))] H := hP
  have hD : va_D A [(d0, .inl (dA 1, c2, .inr (.inr (.inr (.inr (va_cpy f2 (fun _ => none) 0 0 (min p2 c2))))))), (lq, .inr (4, [.int (md + (nI 1)), .ref d1, .int (nI 0)])), (d1, .inl (dA 1, max 10 c2, .inr (.inr (.inr (.inr (va_cpy (va_cpy f2 (fun _ => none) 0 0 (min p2 c2)) (fun _ => none) 0 0 c2))))))] := hD
  refine lv_aload_n hx hb dJ2_addAll_66 rfl (lv_at hl 4 rfl) ?_
  refine lv_iload hx hb dJ2_addAll_67 (lv_at hl 1 rfl) ?_
  refine lv_iload_n hx hb dJ2_addAll_69 rfl (lv_at hl 2 rfl) ?_
  refine x_addN hx hb dJ2_addAll_70 ?_
  refine x_top (y := nI c2) (by rw [Nat.zero_add]) ?_
  refine va_put (D := D) (ci := 4) (v := .int (nI c2)) (ty := .int) (C := RJ2) (T := TJ2) (N := 3) hx hb hts in_J2 tyJ2 tyJ2_ok nmJ2 hown K hP hD hS 1 rfl rfl 2 (by decide) (hts _ q160) (fun _ h9 => h9) rfl (by decide +kernel) rfl rfl (Nat.le_of_ble_eq_true rfl) dJ2_addAll_71 (fun H locs hP hD hS => ?_)
  have hP : va_P D vwCl [(d0, .inl (dA 1, c2, .inr (.inr (.inr (.inr (va_cpy f2 (fun _ => none) 0 0 (min p2 c2))))))), (lq, .inr (4, [.int (md + (nI 1)), .ref d1, .int (nI c2)])), (d1, .inl (dA 1, max 10 c2, .inr (.inr (.inr (.inr (va_cpy (va_cpy f2 (fun _ => none) 0 0 (min p2 c2)) (fun _ => none) 0 0 c2))))))] H := hP
  have hD : va_D A [(d0, .inl (dA 1, c2, .inr (.inr (.inr (.inr (va_cpy f2 (fun _ => none) 0 0 (min p2 c2))))))), (lq, .inr (4, [.int (md + (nI 1)), .ref d1, .int (nI c2)])), (d1, .inl (dA 1, max 10 c2, .inr (.inr (.inr (.inr (va_cpy (va_cpy f2 (fun _ => none) 0 0 (min p2 c2)) (fun _ => none) 0 0 c2))))))] := hD
  refine lv_iconst (v := nI 1) hx hb dJ2_addAll_74 (by decide) ?_
  refine x_top (y := bI true) rfl ?_
  exact x_ezret d1 hx hb hrt hlk rfl trivial (hP.sub [1, 2] rfl) (hD.sub [1, 2] (by decide) rfl) hS dJ2_addAll_75 (Nat.le_of_ble_eq_true rfl) (Nat.le_of_ble_eq_true rfl)

set_option maxHeartbeats 4000000 in
theorem xl_addAllA0 (l : Launch) (D : va_G) (dA : Nat → ClassId) (E : Nat) (ad : Nat → Nat) (sz0 mi : Nat) (lq : Nat) (md : Int32) (da cp : Nat) (fe : Nat → Option Nat) (q2 : Nat) (m2 : Int32) (d2 c2 p2 : Nat) (f2 : Nat → Option Nat) (FZ : va_W) (hc2 : c2 ≤ p2 ∧ p2 ≤ 64) (hel : ∀ i, i < c2 → ∀ y, f2 i = some y → OkEl FZ y) (h0 : c2 = 0) (hcp : c2 ≤ cp ∧ cp ≤ 64) (hsap : Apart [(q2, .inr (4, [.int m2, .ref d2, .int (nI c2)])), (d2, .inl (dA 1, p2, .inr (.inr (.inr (.inr f2)))))] [(lq, .inr (4, [.int md, .ref da, .int (nI 0)])), (da, .inl (dA 1, cp, .inr (.inr (.inr (.inr fe)))))]) (hup : Up sz0 ([(lq, .inr (4, [.int md, .ref da, .int (nI 0)])), (da, .inl (dA 1, cp, .inr (.inr (.inr (.inr fe)))))])) (hap : Apart FZ ([(lq, .inr (4, [.int md, .ref da, .int (nI 0)])), (da, .inl (dA 1, cp, .inr (.inr (.inr (.inr fe)))))])) : EX l yJ2_addAll cJ2_addAll 6 (some .boolean) 4 160 2 128 [.ref lq, .ref q2] (G1 D dA E ad sz0 mi) D ([(lq, .inr (4, [.int md, .ref da, .int (nI 0)])), (da, .inl (dA 1, cp, .inr (.inr (.inr (.inr fe)))))]) (fun H => va_P D vwCl [(q2, .inr (4, [.int m2, .ref d2, .int (nI c2)])), (d2, .inl (dA 1, p2, .inr (.inr (.inr (.inr f2)))))] H ∧ va_P D vwCl FZ H) (S := Unit) (fun _ _ => True) (fun _ => some (.int (bI false))) (fun _ => [(lq, .inr (4, [.int (md + nI 1), .ref da, .int (nI 0)])), (da, .inl (dA 1, cp, .inr (.inr (.inr (.inr fe)))))]) := by
  refine ex_of (by decide) (Nat.le_of_ble_eq_true rfl) ?_
  intro p e s m below meth c A S hrt hlk hnm G hA hAe hΦ H locs hP hD hS ls hl
  obtain ⟨hx, hb, hml, hown, hts⟩ := id S
  obtain ⟨hsrc, hΦ⟩ := hΦ
  have K := G.1.1
  have hA0 := up_A hup G.1.2.2.2.2.2.2 hAe
  have hFA := ap_A hΦ hap hAe
  have hsA := ap_A hsrc hsap hAe
  have hP : va_P D vwCl [(lq, .inr (4, [.int md, .ref da, .int (nI 0)])), (da, .inl (dA 1, cp, .inr (.inr (.inr (.inr fe)))))] H := hP
  have hD : va_D A [(lq, .inr (4, [.int md, .ref da, .int (nI 0)])), (da, .inl (dA 1, cp, .inr (.inr (.inr (.inr fe)))))] := hD
  have hl : lv_has ls 6 [(0, .ref lq), (1, .ref q2)] := hl
  refine lv_aload_n hx hb dJ2_addAll_0 rfl (lv_at hl 1 rfl) ?_
  refine x_ecall5 (wr := [(lq, .inr (4, [.int md, .ref da, .int (nI 0)])), (da, .inl (dA 1, cp, .inr (.inr (.inr (.inr fe)))))]) (va_runF ((K.1 4 _ rfl).2) (As := []) (rest := []) S (xl_toA l D dA E ad sz0 mi q2 m2 d2 c2 p2 f2 FZ hc2 hel (fun _ h => by cases h) (fun _ _ _ h => by cases h) H.size) (va_cwF 0 hts (lw_F (x := ⟨"java/util/Collection", "toArray", "()[Ljava/lang/Object;"⟩) (y := yJ2_toArray) q272 q276 q278 q64 q280) rfl rfl rfl (fwk_7 G.1.2.2.1) (by decide +kernel) ⟨Nat.le_of_ble_eq_true rfl, Nat.le_of_ble_eq_true rfl⟩) ⟨pe_blind g1_bl _, va_recv K (fz_S hsrc hsA hS) (ci := 4) (q0 := 0) rfl rfl, pe_pre (g1_mv G (low_of hS hA0 G.1.2.2.2.2.2.2) hS.1) (hP.sub [] rfl) (hD.sub [] (by decide) rfl) ⟨(fz_S hsrc hsA hS), (fz_S hΦ hFA hS)⟩ _⟩ rfl rfl hl.1 rfl (lv_room (Nat.le_of_ble_eq_true rfl)) dJ2_addAll_1 ⟨Nat.le_of_ble_eq_true rfl, Nat.le_of_ble_eq_true rfl⟩) hP hD hS hA [] [0, 1] rfl rfl (by decide) (by decide) (fun d0 H locs hΨ hP hD hS hkp hsz hDn => ?_)
  have hP : va_P D vwCl [(lq, .inr (4, [.int md, .ref da, .int (nI 0)])), (da, .inl (dA 1, cp, .inr (.inr (.inr (.inr fe))))), (d0, .inl (dA 1, c2, .inr (.inr (.inr (.inr (va_cpy f2 (fun _ => none) 0 0 (min p2 c2)))))))] H := hP
  have hD : va_D A [(lq, .inr (4, [.int md, .ref da, .int (nI 0)])), (da, .inl (dA 1, cp, .inr (.inr (.inr (.inr fe))))), (d0, .inl (dA 1, c2, .inr (.inr (.inr (.inr (va_cpy f2 (fun _ => none) 0 0 (min p2 c2)))))))] := hD
  refine W.widen (k := 1) (n := 64) (Nat.le_of_ble_eq_true rfl) (Nat.le_of_ble_eq_true rfl) ?_
  refine lv_astore_n (lv' := [(2, .ref d0), (0, .ref lq), (1, .ref q2)]) hx hb dJ2_addAll_6 rfl hl (by decide) rfl (fun ls hl => ?_)
  refine lv_aload_n hx hb dJ2_addAll_7 rfl (lv_at hl 1 rfl) ?_
  refine lv_dup hx hb dJ2_addAll_8 rfl ?_
  refine va_get (D := D) (ci := 4) (C := RJ2) (T := TJ2) (N := 3) hx hb hts in_J2 hown K hP 0 rfl rfl 0 (by decide) (hts _ q162) (fun x9 h9 => u_same (hts _ q163) x9 h9) rfl dJ2_addAll_9 ?_
  refine lv_iconst (v := nI 1) hx hb dJ2_addAll_12 (by decide) ?_
  refine lv_iadd hx hb dJ2_addAll_13 ?_
  refine va_put (D := D) (ci := 4) (v := .int (md + (nI 1))) (ty := .int) (C := RJ2) (T := TJ2) (N := 3) hx hb hts in_J2 tyJ2 tyJ2_ok nmJ2 hown K hP hD hS 0 rfl rfl 0 (by decide) (hts _ q162) (fun x9 h9 => u_same (hts _ q163) x9 h9) rfl (by decide +kernel) rfl rfl (Nat.le_of_ble_eq_true rfl) dJ2_addAll_14 (fun H locs hP hD hS => ?_)
  have hP : va_P D vwCl [(lq, .inr (4, [.int (md + (nI 1)), .ref da, .int (nI 0)])), (da, .inl (dA 1, cp, .inr (.inr (.inr (.inr fe))))), (d0, .inl (dA 1, c2, .inr (.inr (.inr (.inr (va_cpy f2 (fun _ => none) 0 0 (min p2 c2)))))))] H := hP
  have hD : va_D A [(lq, .inr (4, [.int (md + (nI 1)), .ref da, .int (nI 0)])), (da, .inl (dA 1, cp, .inr (.inr (.inr (.inr fe))))), (d0, .inl (dA 1, c2, .inr (.inr (.inr (.inr (va_cpy f2 (fun _ => none) 0 0 (min p2 c2)))))))] := hD
  refine lv_aload_n hx hb dJ2_addAll_17 rfl (lv_at hl 0 rfl) ?_
  refine va_alen (v := nI c2) hx hb K hP 2 1 rfl rfl rfl dJ2_addAll_18 ?_
  refine lv_istore_n (lv' := [(3, .int (nI c2)), (2, .ref d0), (0, .ref lq), (1, .ref q2)]) hx hb dJ2_addAll_19 rfl hl (by decide) rfl (fun ls hl => ?_)
  refine lv_iload_n hx hb dJ2_addAll_20 rfl (lv_at hl 0 rfl) ?_
  refine x_ifn_ne (tgt := 26) hx hb dJ2_addAll_21 (by decide) (by omega) (fun h => absurd h (by omega)) (fun h => ?_)
  refine lv_iconst (v := nI 0) hx hb dJ2_addAll_24 (by decide) ?_
  refine x_top (y := bI false) rfl ?_
  exact x_ezret () hx hb hrt hlk rfl trivial (hP.sub [0, 1] rfl) (hD.sub [0, 1] (by decide) rfl) hS dJ2_addAll_25 (Nat.le_of_ble_eq_true rfl) (Nat.le_of_ble_eq_true rfl)

set_option maxHeartbeats 4000000 in
theorem xl_addAllA1 (l : Launch) (D : va_G) (dA : Nat → ClassId) (E : Nat) (ad : Nat → Nat) (sz0 mi : Nat) (lq : Nat) (md : Int32) (da cp : Nat) (fe : Nat → Option Nat) (q2 : Nat) (m2 : Int32) (d2 c2 p2 : Nat) (f2 : Nat → Option Nat) (FZ : va_W) (hc2 : c2 ≤ p2 ∧ p2 ≤ 64) (hel : ∀ i, i < c2 → ∀ y, f2 i = some y → OkEl FZ y) (h0 : 0 < c2) (hcp : c2 ≤ cp ∧ cp ≤ 64) (hsap : Apart [(q2, .inr (4, [.int m2, .ref d2, .int (nI c2)])), (d2, .inl (dA 1, p2, .inr (.inr (.inr (.inr f2)))))] [(lq, .inr (4, [.int md, .ref da, .int (nI 0)])), (da, .inl (dA 1, cp, .inr (.inr (.inr (.inr fe)))))]) (hup : Up sz0 ([(lq, .inr (4, [.int md, .ref da, .int (nI 0)])), (da, .inl (dA 1, cp, .inr (.inr (.inr (.inr fe)))))])) (hap : Apart FZ ([(lq, .inr (4, [.int md, .ref da, .int (nI 0)])), (da, .inl (dA 1, cp, .inr (.inr (.inr (.inr fe)))))])) : EX l yJ2_addAll cJ2_addAll 6 (some .boolean) 4 160 2 128 [.ref lq, .ref q2] (G1 D dA E ad sz0 mi) D ([(lq, .inr (4, [.int md, .ref da, .int (nI 0)])), (da, .inl (dA 1, cp, .inr (.inr (.inr (.inr fe)))))]) (fun H => va_P D vwCl [(q2, .inr (4, [.int m2, .ref d2, .int (nI c2)])), (d2, .inl (dA 1, p2, .inr (.inr (.inr (.inr f2)))))] H ∧ va_P D vwCl FZ H) (S := Unit) (fun _ _ => True) (fun _ => some (.int (bI true))) (fun _ => [(lq, .inr (4, [.int (md + nI 1), .ref da, .int (nI c2)])), (da, .inl (dA 1, cp, .inr (.inr (.inr (.inr (va_cpy (va_cpy f2 (fun _ => none) 0 0 (min p2 c2)) fe 0 0 c2))))))]) := by
  refine ex_of (by decide) (Nat.le_of_ble_eq_true rfl) ?_
  intro p e s m below meth c A S hrt hlk hnm G hA hAe hΦ H locs hP hD hS ls hl
  obtain ⟨hx, hb, hml, hown, hts⟩ := id S
  obtain ⟨hsrc, hΦ⟩ := hΦ
  have K := G.1.1
  have hA0 := up_A hup G.1.2.2.2.2.2.2 hAe
  have hFA := ap_A hΦ hap hAe
  have hsA := ap_A hsrc hsap hAe
  have hP : va_P D vwCl [(lq, .inr (4, [.int md, .ref da, .int (nI 0)])), (da, .inl (dA 1, cp, .inr (.inr (.inr (.inr fe)))))] H := hP
  have hD : va_D A [(lq, .inr (4, [.int md, .ref da, .int (nI 0)])), (da, .inl (dA 1, cp, .inr (.inr (.inr (.inr fe)))))] := hD
  have hl : lv_has ls 6 [(0, .ref lq), (1, .ref q2)] := hl
  refine lv_aload_n hx hb dJ2_addAll_0 rfl (lv_at hl 1 rfl) ?_
  refine x_ecall5 (wr := [(lq, .inr (4, [.int md, .ref da, .int (nI 0)])), (da, .inl (dA 1, cp, .inr (.inr (.inr (.inr fe)))))]) (va_runF ((K.1 4 _ rfl).2) (As := []) (rest := []) S (xl_toA l D dA E ad sz0 mi q2 m2 d2 c2 p2 f2 FZ hc2 hel (fun _ h => by cases h) (fun _ _ _ h => by cases h) H.size) (va_cwF 0 hts (lw_F (x := ⟨"java/util/Collection", "toArray", "()[Ljava/lang/Object;"⟩) (y := yJ2_toArray) q272 q276 q278 q64 q280) rfl rfl rfl (fwk_7 G.1.2.2.1) (by decide +kernel) ⟨Nat.le_of_ble_eq_true rfl, Nat.le_of_ble_eq_true rfl⟩) ⟨pe_blind g1_bl _, va_recv K (fz_S hsrc hsA hS) (ci := 4) (q0 := 0) rfl rfl, pe_pre (g1_mv G (low_of hS hA0 G.1.2.2.2.2.2.2) hS.1) (hP.sub [] rfl) (hD.sub [] (by decide) rfl) ⟨(fz_S hsrc hsA hS), (fz_S hΦ hFA hS)⟩ _⟩ rfl rfl hl.1 rfl (lv_room (Nat.le_of_ble_eq_true rfl)) dJ2_addAll_1 ⟨Nat.le_of_ble_eq_true rfl, Nat.le_of_ble_eq_true rfl⟩) hP hD hS hA [] [0, 1] rfl rfl (by decide) (by decide) (fun d0 H locs hΨ hP hD hS hkp hsz hDn => ?_)
  have hP : va_P D vwCl [(lq, .inr (4, [.int md, .ref da, .int (nI 0)])), (da, .inl (dA 1, cp, .inr (.inr (.inr (.inr fe))))), (d0, .inl (dA 1, c2, .inr (.inr (.inr (.inr (va_cpy f2 (fun _ => none) 0 0 (min p2 c2)))))))] H := hP
  have hD : va_D A [(lq, .inr (4, [.int md, .ref da, .int (nI 0)])), (da, .inl (dA 1, cp, .inr (.inr (.inr (.inr fe))))), (d0, .inl (dA 1, c2, .inr (.inr (.inr (.inr (va_cpy f2 (fun _ => none) 0 0 (min p2 c2)))))))] := hD
  refine W.widen (k := 1) (n := 64) (Nat.le_of_ble_eq_true rfl) (Nat.le_of_ble_eq_true rfl) ?_
  refine lv_astore_n (lv' := [(2, .ref d0), (0, .ref lq), (1, .ref q2)]) hx hb dJ2_addAll_6 rfl hl (by decide) rfl (fun ls hl => ?_)
  refine lv_aload_n hx hb dJ2_addAll_7 rfl (lv_at hl 1 rfl) ?_
  refine lv_dup hx hb dJ2_addAll_8 rfl ?_
  refine va_get (D := D) (ci := 4) (C := RJ2) (T := TJ2) (N := 3) hx hb hts in_J2 hown K hP 0 rfl rfl 0 (by decide) (hts _ q162) (fun x9 h9 => u_same (hts _ q163) x9 h9) rfl dJ2_addAll_9 ?_
  refine lv_iconst (v := nI 1) hx hb dJ2_addAll_12 (by decide) ?_
  refine lv_iadd hx hb dJ2_addAll_13 ?_
  refine va_put (D := D) (ci := 4) (v := .int (md + (nI 1))) (ty := .int) (C := RJ2) (T := TJ2) (N := 3) hx hb hts in_J2 tyJ2 tyJ2_ok nmJ2 hown K hP hD hS 0 rfl rfl 0 (by decide) (hts _ q162) (fun x9 h9 => u_same (hts _ q163) x9 h9) rfl (by decide +kernel) rfl rfl (Nat.le_of_ble_eq_true rfl) dJ2_addAll_14 (fun H locs hP hD hS => ?_)
  have hP : va_P D vwCl [(lq, .inr (4, [.int (md + (nI 1)), .ref da, .int (nI 0)])), (da, .inl (dA 1, cp, .inr (.inr (.inr (.inr fe))))), (d0, .inl (dA 1, c2, .inr (.inr (.inr (.inr (va_cpy f2 (fun _ => none) 0 0 (min p2 c2)))))))] H := hP
  have hD : va_D A [(lq, .inr (4, [.int (md + (nI 1)), .ref da, .int (nI 0)])), (da, .inl (dA 1, cp, .inr (.inr (.inr (.inr fe))))), (d0, .inl (dA 1, c2, .inr (.inr (.inr (.inr (va_cpy f2 (fun _ => none) 0 0 (min p2 c2)))))))] := hD
  refine lv_aload_n hx hb dJ2_addAll_17 rfl (lv_at hl 0 rfl) ?_
  refine va_alen (v := nI c2) hx hb K hP 2 1 rfl rfl rfl dJ2_addAll_18 ?_
  refine lv_istore_n (lv' := [(3, .int (nI c2)), (2, .ref d0), (0, .ref lq), (1, .ref q2)]) hx hb dJ2_addAll_19 rfl hl (by decide) rfl (fun ls hl => ?_)
  refine lv_iload_n hx hb dJ2_addAll_20 rfl (lv_at hl 0 rfl) ?_
  refine x_ifn_ne (tgt := 26) hx hb dJ2_addAll_21 (by decide) (by omega) (fun h => ?_) (fun h => absurd h (by omega))
  refine lv_iload_n hx hb dJ2_addAll_26 rfl (lv_at hl 0 rfl) ?_
  refine lv_aload_n hx hb dJ2_addAll_27 rfl (lv_at hl 2 rfl) ?_
  refine va_get (D := D) (ci := 4) (C := RJ2) (T := TJ2) (N := 3) hx hb hts in_J2 hown K hP 0 rfl rfl 1 (by decide) (hts _ q159) (fun _ h9 => h9) rfl dJ2_addAll_28 ?_
  refine lv_dup hx hb dJ2_addAll_31 rfl ?_
  refine lv_astore (lv' := [(4, .ref da), (3, .int (nI c2)), (2, .ref d0), (0, .ref lq), (1, .ref q2)]) hx hb dJ2_addAll_32 hl (by decide) rfl (fun ls hl => ?_)
  refine va_alen (v := nI cp) hx hb K hP 1 1 rfl rfl rfl dJ2_addAll_34 ?_
  refine lv_aload_n hx hb dJ2_addAll_35 rfl (lv_at hl 3 rfl) ?_
  refine va_get (D := D) (ci := 4) (C := RJ2) (T := TJ2) (N := 3) hx hb hts in_J2 hown K hP 0 rfl rfl 2 (by decide) (hts _ q160) (fun _ h9 => h9) rfl dJ2_addAll_36 ?_
  refine lv_dup hx hb dJ2_addAll_39 rfl ?_
  refine lv_istore (lv' := [(5, .int (nI 0)), (4, .ref da), (3, .int (nI c2)), (2, .ref d0), (0, .ref lq), (1, .ref q2)]) hx hb dJ2_addAll_40 hl (by decide) rfl (fun ls hl => ?_)
  refine lv_isub hx hb dJ2_addAll_42 ?_
  refine x_top (y := nI cp) (sub_nI (Nat.zero_le _)) ?_
  refine x_icmpn_le (tgt := 56) hx hb dJ2_addAll_43 (by decide) (by omega) (by omega) (fun h => ?_) (fun h => absurd h (by omega))
  refine lv_aload_n hx hb dJ2_addAll_56 rfl (lv_at hl 3 rfl) ?_
  refine lv_iconst (v := nI 0) hx hb dJ2_addAll_57 (by decide) ?_
  refine lv_aload hx hb dJ2_addAll_58 (lv_at hl 1 rfl) ?_
  refine lv_iload hx hb dJ2_addAll_60 (lv_at hl 0 rfl) ?_
  refine lv_iload_n hx hb dJ2_addAll_62 rfl (lv_at hl 2 rfl) ?_
  refine x_copyQ hx hb (hml.trans hl.1.symm) hown (hts _ q329) (hts _ q260) (hts _ q259) (hts _ q70) K hP hD hS 2 1 rfl rfl 0 0 c2 (by omega) (by omega) (by omega) (by omega) (fun i hi y hy => any_of G.1 (fz_S hΦ hFA hS) (cpy_el (fun i hi => hel i (by omega)) hy)) (Nat.le_of_ble_eq_true rfl) (Nat.le_of_ble_eq_true rfl) dJ2_addAll_63 (fun H locs hP hD hS => ?_)
  have hP : va_P D vwCl [(lq, .inr (4, [.int (md + (nI 1)), .ref da, .int (nI 0)])), (da, .inl (dA 1, cp, .inr (.inr (.inr (.inr (va_cpy (va_cpy f2 (fun _ => none) 0 0 (min p2 c2)) fe 0 0 c2)))))), (d0, .inl (dA 1, c2, .inr (.inr (.inr (.inr (va_cpy f2 (fun _ => none) 0 0 (min p2 c2)))))))] H := hP
  have hD : va_D A [(lq, .inr (4, [.int (md + (nI 1)), .ref da, .int (nI 0)])), (da, .inl (dA 1, cp, .inr (.inr (.inr (.inr (va_cpy (va_cpy f2 (fun _ => none) 0 0 (min p2 c2)) fe 0 0 c2)))))), (d0, .inl (dA 1, c2, .inr (.inr (.inr (.inr (va_cpy f2 (fun _ => none) 0 0 (min p2 c2)))))))] := hD
  refine lv_aload_n hx hb dJ2_addAll_66 rfl (lv_at hl 4 rfl) ?_
  refine lv_iload hx hb dJ2_addAll_67 (lv_at hl 0 rfl) ?_
  refine lv_iload_n hx hb dJ2_addAll_69 rfl (lv_at hl 2 rfl) ?_
  refine x_addN hx hb dJ2_addAll_70 ?_
  refine x_top (y := nI c2) (by rw [Nat.zero_add]) ?_
  refine va_put (D := D) (ci := 4) (v := .int (nI c2)) (ty := .int) (C := RJ2) (T := TJ2) (N := 3) hx hb hts in_J2 tyJ2 tyJ2_ok nmJ2 hown K hP hD hS 0 rfl rfl 2 (by decide) (hts _ q160) (fun _ h9 => h9) rfl (by decide +kernel) rfl rfl (Nat.le_of_ble_eq_true rfl) dJ2_addAll_71 (fun H locs hP hD hS => ?_)
  have hP : va_P D vwCl [(lq, .inr (4, [.int (md + (nI 1)), .ref da, .int (nI c2)])), (da, .inl (dA 1, cp, .inr (.inr (.inr (.inr (va_cpy (va_cpy f2 (fun _ => none) 0 0 (min p2 c2)) fe 0 0 c2)))))), (d0, .inl (dA 1, c2, .inr (.inr (.inr (.inr (va_cpy f2 (fun _ => none) 0 0 (min p2 c2)))))))] H := hP
  have hD : va_D A [(lq, .inr (4, [.int (md + (nI 1)), .ref da, .int (nI c2)])), (da, .inl (dA 1, cp, .inr (.inr (.inr (.inr (va_cpy (va_cpy f2 (fun _ => none) 0 0 (min p2 c2)) fe 0 0 c2)))))), (d0, .inl (dA 1, c2, .inr (.inr (.inr (.inr (va_cpy f2 (fun _ => none) 0 0 (min p2 c2)))))))] := hD
  refine lv_iconst (v := nI 1) hx hb dJ2_addAll_74 (by decide) ?_
  refine x_top (y := bI true) rfl ?_
  exact x_ezret () hx hb hrt hlk rfl trivial (hP.sub [0, 1] rfl) (hD.sub [0, 1] (by decide) rfl) hS dJ2_addAll_75 (Nat.le_of_ble_eq_true rfl) (Nat.le_of_ble_eq_true rfl)

