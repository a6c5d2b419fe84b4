/-! what SiteCuts' methods know of the tables and of the statics: all of it below sz0 -/
def isNw : Cond → Bool
  | .fieldLinkNest _ _ _ _ _ _ => true
  | .methodLinkNest _ _ _ _ => true
  | .castable _ _ => true
  | .declares _ => true
  | .privateMethod _ => true
  | _ => false
def NW (U : State) : Prop := ∀ w ∈ lw_tbl, isNw w = true → va_Nw w U
theorem nw_warm {s U : State} (hW : s.WarmedH U.vm) (h : NW s) : NW U := by
  intro w hw hi
  have h0 := h w hw hi
  cases w <;> first | exact va_Nw.warmF hW h0 | exact va_Nw.warmM hW h0 | exact va_Nw.warmC hW h0 | exact va_Nw.warmD hW h0 | exact va_tabs rfl (rfl : (s.setVm U.vm).vm = U.vm) (by rw [Cond.privateMethod_setVm hW.alike]; exact h0) | (simp [isNw] at hi; done)
theorem nw_same {s U : State} (hv : s.vm = U.vm) (h : NW s) : NW U := by
  intro w hw hi
  have h0 := h w hw hi
  cases w <;> first | (simp [isNw] at hi; done) | exact va_Nw.same rfl hv h0
abbrev FWl : List (String × MethodName × MethodName) := [
  ("java/util/ArrayList", ⟨"java/util/List", "size", "()I"⟩, ⟨"java/util/ArrayList", "size", "()I"⟩),
  ("java/util/ArrayList", ⟨"java/util/List", "remove", "(I)Ljava/lang/Object;"⟩, ⟨"java/util/ArrayList", "remove", "(I)Ljava/lang/Object;"⟩),
  ("java/util/ArrayList", ⟨"java/util/List", "isEmpty", "()Z"⟩, ⟨"java/util/ArrayList", "isEmpty", "()Z"⟩),
  ("java/util/ArrayList", ⟨"java/util/List", "get", "(I)Ljava/lang/Object;"⟩, ⟨"java/util/ArrayList", "get", "(I)Ljava/lang/Object;"⟩),
  ("java/util/ArrayList", ⟨"java/util/List", "clear", "()V"⟩, ⟨"java/util/ArrayList", "clear", "()V"⟩),
  ("java/util/ArrayList", ⟨"java/util/List", "addAll", "(Ljava/util/Collection;)Z"⟩, ⟨"java/util/ArrayList", "addAll", "(Ljava/util/Collection;)Z"⟩),
  ("java/util/ArrayList", ⟨"java/util/List", "add", "(Ljava/lang/Object;)Z"⟩, ⟨"java/util/ArrayList", "add", "(Ljava/lang/Object;)Z"⟩),
  ("java/util/ArrayList", ⟨"java/util/Collection", "toArray", "()[Ljava/lang/Object;"⟩, ⟨"java/util/ArrayList", "toArray", "()[Ljava/lang/Object;"⟩),
  ("java/lang/StringBuilder", ⟨"java/lang/CharSequence", "length", "()I"⟩, ⟨"java/lang/StringBuilder", "length", "()I"⟩),
  ("java/lang/StringBuilder", ⟨"java/lang/CharSequence", "charAt", "(I)C"⟩, ⟨"java/lang/StringBuilder", "charAt", "(I)C"⟩)]
def FW (U : State) : Prop := ∀ t ∈ FWl, va_Fw t.1 t.2.1 t.2.2 U
theorem fw_ok : ∀ t ∈ FWl, t.2.1.cls ≠ "java/lang/invoke/MethodHandle" ∧ t.2.1.cls ≠ "java/lang/invoke/VarHandle" := by decide +kernel
theorem fw_moved {u U : State} (hvm : u.vm.Alike U.vm) (h : FW u) : FW U := fun t ht => va_Fw.moved (fw_ok t ht) hvm (h t ht)
def agN : List String := ["NOTHING", "TOO_MANY", "EXCLUDED", "LOST"]
def agC : List String := ["SiteCuts$Against$1", "SiteCuts$Against$2", "SiteCuts$Against$3", "SiteCuts$Against$4"]
/-- a static that holds null or some reference -/
def ZR (C n d : String) (B : Nat → Prop) (U : State) (H : Heap) : Prop := ∃ o : Option Nat, va_Z C n d (va_rf o) B U H
theorem ZR.moved {C n d : String} {B : Nat → Prop} {u U : State} {H : Heap} (hvm : u.vm.Alike U.vm) (h : ZR C n d B u H) : ZR C n d B U H := by
  obtain ⟨o, h⟩ := h
  exact ⟨o, h.moved hvm⟩
theorem ZR.kept {C n d : String} {B : Nat → Prop} {U : State} {H H1 : Heap} (h : ZR C n d B U H) (hq : ∀ a : Nat, a < H.size → ¬ B a → H1[a]? = H[a]?) : ZR C n d B U H1 := by
  obtain ⟨o, h⟩ := h
  exact ⟨o, h.kept hq⟩
/-- where a static field lies -/
def LSt (C n d : String) (A : Nat → Prop) (U : State) (H : Heap) : Prop := ∃ (c : ClassId) (k : Class) (i : Nat) (f : Field) (a : Nat) (cell : Cell), U.vm.findClass C = some c ∧ U.fieldFound? C n d = some (c, k, i, f) ∧ f.isStatic = true ∧ k.statics = some a ∧ H[a]? = some cell ∧ cell.vm.isStatics = true ∧ cell.cls = c ∧ f.slot < cell.slots.size ∧ k.staticTypes[f.slot]? = some f.type ∧ ¬ A a
theorem LSt.moved {C n d : String} {A : Nat → Prop} {u U : State} {H : Heap} (hvm : u.vm.Alike U.vm) (h : LSt C n d A u H) : LSt C n d A U H := by
  obtain ⟨c, k, i, f, a, cell, h1, h2, h3, h4, h5, h6, h7, h8, h9, h10⟩ := h
  obtain ⟨k', hi', he⟩ := State.fieldFound?_setVm hvm h2
  exact ⟨c, k', i, f, a, cell, by rw [hvm.findClass]; exact h1, hi', h3, by rw [he]; exact h4, h5, h6, h7, h8, by rw [he]; exact h9, h10⟩
theorem LSt.kept {C n d : String} {A : Nat → Prop} {U : State} {H H1 : Heap} (h : LSt C n d A U H) (hq : ∀ a : Nat, a < H.size → ¬ A a → H1[a]? = H[a]?) : LSt C n d A U H1 := by
  obtain ⟨c, k, i, f, a, cell, h1, h2, h3, h4, h5, h6, h7, h8, h9, h10⟩ := h
  exact ⟨c, k, i, f, a, cell, h1, h2, h3, h4, by rw [hq a (Array.getElem?_eq_some_iff.mp h5).1 h10]; exact h5, h6, h7, h8, h9, h10⟩
theorem LSt.word {C n d : String} {A : Nat → Prop} {s : State} {args : Array Value} (h : LSt C n d A s s.heap) : (Cond.laysStatic C n d).before args s = true := by
  obtain ⟨c, k, i, f, a, cell, h1, h2, h3, h4, h5, h6, h7, h8, h9, -⟩ := h
  show (Cond.laysStatic C n d).holds args s none s [] = true
  exact Cond.laysStatic_of h1 h2 h3 h4 h5 h6 h7 h8 h9
/-- a static that holds null or some reference, and how it lies -/
def ZL (C n d : String) (B : Nat → Prop) (U : State) (H : Heap) : Prop := ZR C n d B U H ∧ LSt C n d B U H
theorem ZL.moved {C n d : String} {B : Nat → Prop} {u U : State} {H : Heap} (hvm : u.vm.Alike U.vm) (h : ZL C n d B u H) : ZL C n d B U H := ⟨h.1.moved hvm, h.2.moved hvm⟩
theorem ZL.kept {C n d : String} {B : Nat → Prop} {U : State} {H H1 : Heap} (h : ZL C n d B U H) (hq : ∀ a : Nat, a < H.size → ¬ B a → H1[a]? = H[a]?) : ZL C n d B U H1 := ⟨h.1.kept hq, h.2.kept hq⟩
/-- the statics: ArrayList's empty array E, Against's constants ad 0 .. ad 3, four numbers of String's -/
def ST (dA : Nat → ClassId) (E : Nat) (ad : Nat → Nat) (B : Nat → Prop) (U : State) (H : Heap) : Prop :=
  va_Z "java/util/ArrayList" "DEFAULTCAPACITY_EMPTY_ELEMENTDATA" "[Ljava/lang/Object;" (.ref E) B U H ∧ (H[E]? = some (vp_cell (dA 1) (0, .inr (.inr (.inr (.inr (fun _ => none)))))) ∧ ¬ B E) ∧
  (∀ i, i < 4 → va_Z "SiteCuts$Against" (agN.getD i "") "LSiteCuts$Against;" (.ref (ad i)) B U H ∧ va_O (agC.getD i "") (ad i) B U H ∧ va_OF "java/lang/Enum" "ordinal" "I" (.int (nI i)) (ad i) B U H) ∧
  va_Z "java/lang/String" "COMPACT_STRINGS" "Z" (.int 1) B U H ∧ va_Z "java/lang/StringUTF16" "HI_BYTE_SHIFT" "I" (.int 0) B U H ∧ va_Z "java/lang/StringUTF16" "LO_BYTE_SHIFT" "I" (.int 8) B U H ∧ va_Z "java/lang/StringUTF16" "$assertionsDisabled" "Z" (.int 1) B U H ∧
  ZR "jdk/internal/util/Preconditions" "SIOOBE_FORMATTER" "Ljava/util/function/BiFunction;" B U H ∧ ZL "java/lang/Throwable" "UNASSIGNED_STACK" "[Ljava/lang/StackTraceElement;" B U H ∧ ZL "java/lang/Throwable" "SUPPRESSED_SENTINEL" "Ljava/util/List;" B U H
theorem ST.moved {dA : Nat → ClassId} {E : Nat} {ad : Nat → Nat} {B : Nat → Prop} {u U : State} {H : Heap} (hvm : u.vm.Alike U.vm) (h : ST dA E ad B u H) : ST dA E ad B U H := by
  obtain ⟨h1, h2, h3, h4, h5, h6, h7, h8, h9, h10⟩ := h
  exact ⟨h1.moved hvm, h2, fun i hi => ⟨(h3 i hi).1.moved hvm, (h3 i hi).2.1.moved hvm, (h3 i hi).2.2.moved hvm⟩, h4.moved hvm, h5.moved hvm, h6.moved hvm, h7.moved hvm, h8.moved hvm, h9.moved hvm, h10.moved hvm⟩
theorem ST.kept {dA : Nat → ClassId} {E : Nat} {ad : Nat → Nat} {B : Nat → Prop} {U : State} {H H1 : Heap} (h : ST dA E ad B U H) (hq : ∀ a : Nat, ¬ B a → H1[a]? = H[a]?) : ST dA E ad B U H1 := by
  obtain ⟨h1, h2, h3, h4, h5, h6, h7, h8, h9, h10⟩ := h
  have hq' : ∀ a : Nat, a < H.size → ¬ B a → H1[a]? = H[a]? := fun a _ hb => hq a hb
  exact ⟨h1.kept hq', ⟨by rw [hq E h2.2]; exact h2.1, h2.2⟩, fun i hi => ⟨(h3 i hi).1.kept hq', (h3 i hi).2.1.kept hq', (h3 i hi).2.2.kept hq'⟩, h4.kept hq', h5.kept hq', h6.kept hq', h7.kept hq', h8.kept hq', h9.kept hq', h10.kept hq'⟩
def G0 (D : va_G) (dA : Nat → ClassId) (E : Nat) (ad : Nat → Nat) (sz0 : Nat) (U : State) : Prop := KA D dA U ∧ NW U ∧ FW U ∧ va_AO "java/lang/Object" U ∧ ST dA E ad (fun q => sz0 ≤ q) U U.heap ∧ (∀ i j, i < 4 → j < 4 → ad i = ad j → i = j) ∧ sz0 ≤ U.heap.size
theorem g0_bl {D : va_G} {dA : Nat → ClassId} {E : Nat} {ad : Nat → Nat} {sz0 : Nat} : BlG (G0 D dA E ad sz0) := fun U g mk a q => ⟨ka_bl U g mk a q.1, nw_same (s := U) rfl q.2.1, fw_moved (u := U) (Vm.Alike.refl U.vm) q.2.2.1, va_AO.moved (u := U) (Vm.Alike.refl U.vm) q.2.2.2.1, ST.moved (u := U) (Vm.Alike.refl U.vm) q.2.2.2.2.1, q.2.2.2.2.2.1, q.2.2.2.2.2.2⟩
theorem g0_mv {D : va_G} {dA : Nat → ClassId} {E : Nat} {ad : Nat → Nat} {sz0 : Nat} {s : State} {H : Heap} (G : G0 D dA E ad sz0 s) (hH : ∀ q : Nat, q < sz0 → H[q]? = s.heap[q]?) (hz : s.heap.size ≤ H.size) : ∀ U : State, U.heap = H → s.WarmedH U.vm → G0 D dA E ad sz0 U := by
  intro U hU hW
  obtain ⟨h1, h2, h3, h4, h5, h6, h7⟩ := G
  refine ⟨va_K.moved hW.alike h1, nw_warm hW h2, fw_moved hW.alike h3, va_AO.moved hW.alike h4, (ST.moved hW.alike h5).kept (fun a ha => ?_), h6, ?_⟩
  · rw [hU]; exact hH a (Nat.lt_of_not_ge ha)
  · rw [hU]; exact Nat.le_trans h7 hz
/-- the heap has changed in A alone, and A lies above sz0 -/
theorem low_of {A : Nat → Prop} {s : State} {H : Heap} {locs : List Loc} {sz0 : Nat} (hS : va_S A s.heap H locs) (hA0 : ∀ q, A q → sz0 ≤ q) (hz : sz0 ≤ s.heap.size) : ∀ q : Nat, q < sz0 → H[q]? = s.heap[q]? := fun q hq => hS.2.1 q (by omega) (fun h => by have := hA0 q h; omega)
theorem bb_pre {Γ : State → Prop} {Φ : Heap → Prop} {s : State} {H : Heap} (hG : ∀ U : State, U.heap = H → s.WarmedH U.vm → Γ U) (h : Φ H) (as : List Value) : ∀ U : State, U.heap = H → s.WarmedH U.vm → va_Pc as (BB Γ Φ) as.toArray U := fun U hU hW => ⟨rfl, hG U hU hW, by rw [hU]; exact h⟩
section XG
variable {p : Program} {l : Launch} {e : Env} {R : Room} {s : State} {m : MethodId} {args : Array Value} {below : List Frame} {meth : Method} {c : Code} {H : Heap} {locs : List Loc} {cells slots : Nat} {Q : State → Prop} {cc : ByteArray} {pc : Nat} {ls : Array Slot} {rest st0 : List Value}
theorem x_icmpo_ne {o : Option Nat} (hexec : p.tables.exec = Jvm.exec) (hb : c.code = cc) {off : Int} {tgt : Nat} (hdg : decode cc pc = .ok (.if_icmp .ne off, 3)) (ht : (pc : Int) + off = (tgt : Int)) (ho : ∀ b, o = some b → b < 2 ^ 31)
    (kt : ∀ b, o = some b → W p l e R s m args below meth c H locs cells slots Q (F0 m tgt ls rest)) (kf : o = none → W p l e R s m args below meth c H locs cells slots Q (F0 m (pc + 3) ls rest)) : W p l e R s m args below meth c H locs cells slots Q (F0 m pc ls (.int (-5) :: .int (oI o) :: rest)) := by
  refine lv_icmp_ne hexec hb hdg ht (fun h => ?_) (fun h => kf ((oI_m5 ho).mp h))
  cases o with
  | none => exact absurd rfl h
  | some b => exact kt b rfl
theorem x_icmpo_eq {o : Option Nat} (hexec : p.tables.exec = Jvm.exec) (hb : c.code = cc) {off : Int} {tgt : Nat} (hdg : decode cc pc = .ok (.if_icmp .eq off, 3)) (ht : (pc : Int) + off = (tgt : Int)) (ho : ∀ b, o = some b → b < 2 ^ 31)
    (kt : o = none → W p l e R s m args below meth c H locs cells slots Q (F0 m tgt ls rest)) (kf : ∀ b, o = some b → W p l e R s m args below meth c H locs cells slots Q (F0 m (pc + 3) ls rest)) : W p l e R s m args below meth c H locs cells slots Q (F0 m pc ls (.int (-5) :: .int (oI o) :: rest)) := by
  refine lv_icmp_eq hexec hb hdg ht (fun h => kt ((oI_m5 ho).mp h)) (fun h => ?_)
  cases o with
  | none => exact absurd rfl h
  | some b => exact kf b rfl
theorem x_aret {w : Nat} {v : Value} {rt : FieldType} (hexec : p.tables.exec = Jvm.exec) (hb : c.code = cc) (hr : meth.sig.returnType = some rt) (hrt : (∃ n, rt = .object n) ∨ ∃ t, rt = .array t) (hlocks : meth.locks = false) (hv : Value.ref w = v) (hdg : decode cc pc = .ok (.areturn, 1)) : W p l e R s m args below meth c s.heap [] 0 0 (MQ below (QRet (some v)) args s 0 0 (fun _ => False)) (F0 m pc ls [.ref w]) := by
  subst hv
  exact W.aret hexec hb hr hrt (Or.inr ⟨w, rfl⟩) (fun t ht hW => ⟨rfl, ht⟩) (fun q h => by cases h) hdg hlocks
end XG
/-- a land's world -/
abbrev lW (dA : Nat → ClassId) (la lp lx ld lr : Nat) (row : Nat → Int32) (n cu : Nat) : va_W := [(la, .inr (2, [.ref lp, .ref lx, .ref ld, .ref lr, .int (nI n), .int (nI cu), .int (row 2)])), (lp, .inl (dA 0, 7, .inl (fun k => row (6 + k)))), (lx, .inl (dA 0, 7, .inl (fun k => row (77 + k)))), (ld, .inl (dA 0, 8, .inl (fun k => row (13 + k)))), (lr, .inl (dA 0, 56, .inl (fun k => row (21 + k))))]
def lSvS (row : Nat → Int32) (pl c s : Nat) (a : Option Nat) : Option Nat := if pl.testBit s = false then a else match a with
  | none => if nI 100 ≤ row (21 + 8 * s + c) then none else some s
  | some b => if row (21 + 8 * b + c) ≤ row (21 + 8 * s + c) then some b else some s
theorem lServer_eq (row : Nat → Int32) (pl c : Nat) : ∀ n, iter (lSvS row pl c) n 0 none = iter (mSvS row pl c) n 0 none ∧ ∀ b, iter (mSvS row pl c) n 0 none = some b → ¬ nI 100 ≤ row (21 + 8 * b + c) := by
  intro n
  induction n with
  | zero => exact ⟨by rw [iter_0, iter_0], fun b h => by rw [iter_0] at h; cases h⟩
  | succ n ih =>
    rw [iter_s, iter_s, ih.1, Nat.zero_add]
    have ih2 := ih.2
    generalize iter (mSvS row pl c) n 0 none = a at *
    by_cases t : pl.testBit n = false
    · rw [mSvS_1 t]
      refine ⟨?_, ih2⟩
      unfold lSvS
      rw [if_pos t]
    · by_cases u : nI 100 ≤ row (21 + 8 * n + c)
      · rw [mSvS_2 t u]
        refine ⟨?_, ih2⟩
        unfold lSvS
        rw [if_neg t]
        cases a with
        | none => exact if_pos u
        | some b =>
          refine if_pos ?_
          have h1 := ih2 b rfl
          have h2 : row (21 + 8 * b + c) < nI 100 := Int32.not_le.mp h1
          exact Int32.le_of_lt (Int32.lt_of_lt_of_le h2 u)
      · cases a with
        | none =>
          rw [mSvS_3 t u]
          refine ⟨?_, fun b h => by cases h; exact u⟩
          unfold lSvS
          rw [if_neg t]
          exact if_neg u
        | some b =>
          rw [mSvS_4 t u]
          refine ⟨?_, fun b' h => ?_⟩
          · unfold lSvS
            rw [if_neg t]
          · split at h
            · cases h; exact ih2 b rfl
            · cases h; exact u
def lLoP (row : Nat → Int32) (n pl c : Nat) : Bool := if mServer row n pl c = none then true else false
theorem lost_eq (row : Nat → Int32) (n cu pl : Nat) : fst (lLoP row n pl) cu 0 = mMissed row n cu pl := by
  refine fst_cg cu 0 (fun j _ _ => ?_)
  unfold lLoP
  cases hm : mMissP row n pl j with
  | false =>
    obtain ⟨b, hb⟩ := (missP_iff row n pl j).mp hm
    rw [hb]; rfl
  | true =>
    cases hs : mServer row n pl j with
    | none => rfl
    | some b => rw [(missP_iff row n pl j).mpr ⟨b, hs⟩] at hm; cases hm
def lExP (row : Nat → Int32) (pl s : Nat) : Bool := if pl.testBit s = false then false else if row (77 + s) &&& nI pl = 0 then false else true
theorem excl_eq (row : Nat → Int32) (n pl : Nat) : (fst (lExP row pl) n 0).isSome = mExcl row n pl := by
  have key : ∀ N, mExcl row N pl = true ↔ ∃ s, s < N ∧ lExP row pl s = true := by
    intro N
    induction N with
    | zero => exact ⟨(fun h => by cases h), (fun ⟨s, h, _⟩ => by omega)⟩
    | succ N ih =>
      unfold mExcl at *
      rw [iter_s, Nat.zero_add]
      have hs : mExS row pl N (iter (mExS row pl) N 0 false) = true ↔ iter (mExS row pl) N 0 false = true ∨ lExP row pl N = true := by
        generalize iter (mExS row pl) N 0 false = a
        have e : nI pl &&& row (77 + N) = row (77 + N) &&& nI pl := Int32.and_comm _ _
        unfold mExS lExP
        rw [e]
        cases a with
        | true => simp
        | false =>
          simp only [Bool.false_eq_true, if_false, false_or]
      rw [hs, ih]
      constructor
      · rintro (⟨s, h1, h2⟩ | h)
        · exact ⟨s, by omega, h2⟩
        · exact ⟨N, by omega, h⟩
      · rintro ⟨s, h1, h2⟩
        by_cases hsN : s = N
        · subst hsN; exact Or.inr h2
        · exact Or.inl ⟨s, by omega, h2⟩
  obtain ⟨f1, f2⟩ := fst_spec (P := lExP row pl) n 0
  cases hf : fst (lExP row pl) n 0 with
  | some b =>
    obtain ⟨-, a2, a3, -⟩ := f1 b hf
    rw [(key n).mpr ⟨b, by omega, a3⟩]; rfl
  | none =>
    cases hm : mExcl row n pl with
    | false => rfl
    | true =>
      obtain ⟨s, h1, h2⟩ := (key n).mp hm
      rw [f2 hf s (Nat.zero_le _) (by omega)] at h2
      cases h2
def agK (row : Nat → Int32) (n cu pl : Nat) : Nat := if nI (mMany pl) ≤ row 2 then (if mExcl row n pl = true then 2 else if mMissed row n cu pl = none then 0 else 3) else 1
