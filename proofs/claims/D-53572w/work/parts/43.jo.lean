/-! the seven lambdas of the program; what is known of them in a method; objects that answer a question of a plan -/
abbrev shM0 : Jvm.Lambda.Shape := { iface := "SiteCuts$Judge", name := "allows", sam := { parameters := [.int], returnType := some .boolean }, captured := [.object "SiteCuts$State"], kind := 5, implClass := "SiteCuts$State", implName := "lambda$master$0", implDesc := { parameters := [.int], returnType := some .boolean }, implItf := false, inst := { parameters := [.int], returnType := some .boolean } }
abbrev shM1 : Jvm.Lambda.Shape := { iface := "SiteCuts$Price", name := "of", sam := { parameters := [.int], returnType := some .int }, captured := [.object "SiteCuts$State"], kind := 5, implClass := "SiteCuts$State", implName := "lambda$master$1", implDesc := { parameters := [.int], returnType := some .int }, implItf := false, inst := { parameters := [.int], returnType := some .int } }
abbrev shC0 : Jvm.Lambda.Shape := { iface := "SiteCuts$Judge", name := "allows", sam := { parameters := [.int], returnType := some .boolean }, captured := [.object "SiteCuts$Land", .object "SiteCuts$Cut"], kind := 6, implClass := "SiteCuts", implName := "lambda$cut$0", implDesc := { parameters := [.object "SiteCuts$Land", .object "SiteCuts$Cut", .int], returnType := some .boolean }, implItf := false, inst := { parameters := [.int], returnType := some .boolean } }
abbrev shC1 : Jvm.Lambda.Shape := { iface := "SiteCuts$Judge", name := "allows", sam := { parameters := [.int], returnType := some .boolean }, captured := [.object "SiteCuts$Land", .object "SiteCuts$Cut"], kind := 6, implClass := "SiteCuts", implName := "lambda$cut$1", implDesc := { parameters := [.object "SiteCuts$Land", .object "SiteCuts$Cut", .int], returnType := some .boolean }, implItf := false, inst := { parameters := [.int], returnType := some .boolean } }
abbrev shA2 : Jvm.Lambda.Shape := { iface := "SiteCuts$Judge", name := "allows", sam := { parameters := [.int], returnType := some .boolean }, captured := [.object "SiteCuts"], kind := 5, implClass := "SiteCuts", implName := "lambda$byAll$2", implDesc := { parameters := [.int], returnType := some .boolean }, implItf := false, inst := { parameters := [.int], returnType := some .boolean } }
abbrev shB2 : Jvm.Lambda.Shape := { iface := "SiteCuts$Judge", name := "allows", sam := { parameters := [.int], returnType := some .boolean }, captured := [.object "SiteCuts$State"], kind := 5, implClass := "SiteCuts$State", implName := "lambda$bestOfAll$2", implDesc := { parameters := [.int], returnType := some .boolean }, implItf := false, inst := { parameters := [.int], returnType := some .boolean } }
abbrev shB3 : Jvm.Lambda.Shape := { iface := "SiteCuts$Price", name := "of", sam := { parameters := [.int], returnType := some .int }, captured := [.object "SiteCuts$State"], kind := 5, implClass := "SiteCuts$State", implName := "lambda$bestOfAll$3", implDesc := { parameters := [.int], returnType := some .int }, implItf := false, inst := { parameters := [.int], returnType := some .int } }
theorem sh_M0 : Sh1 shM0 "SiteCuts$State" .boolean := sh1_of (tn := "SiteCuts$State") (by decide +kernel)
theorem sh_M1 : Sh1 shM1 "SiteCuts$State" .int := sh1_of (tn := "SiteCuts$State") (by decide +kernel)
theorem sh_B2 : Sh1 shB2 "SiteCuts$State" .boolean := sh1_of (tn := "SiteCuts$State") (by decide +kernel)
theorem sh_B3 : Sh1 shB3 "SiteCuts$State" .int := sh1_of (tn := "SiteCuts$State") (by decide +kernel)
theorem sh_A2 : Sh1 shA2 "SiteCuts" .boolean := sh1_of (tn := "SiteCuts") (by decide +kernel)
theorem sh_C0 : Sh2 shC0 "SiteCuts" .boolean := sh2_of (tn := "SiteCuts$Land") (tm := "SiteCuts$Cut") (by decide +kernel)
theorem sh_C1 : Sh2 shC1 "SiteCuts" .boolean := sh2_of (tn := "SiteCuts$Land") (tm := "SiteCuts$Cut") (by decide +kernel)
abbrev yJu : MethodName := ⟨"SiteCuts$Judge", "allows", "(I)Z"⟩
abbrev yPr : MethodName := ⟨"SiteCuts$Price", "of", "(I)I"⟩
def LSs (lc : Nat → ClassId) (U : State) : Prop := LamS yX1_master 2 95 shM0 (lc 1) U ∧ LamS yX1_master 8 98 shM1 (lc 2) U ∧ LamS yX0_cut 102 218 shC0 (lc 3) U ∧ LamS yX0_cut 116 226 shC1 (lc 4) U ∧ LamS yX0_byAll 25 238 shA2 (lc 5) U ∧ LamS yX1_bestOfAll 2 105 shB2 (lc 6) U ∧ LamS yX1_bestOfAll 8 106 shB3 (lc 7) U
def G2 (D : va_G) (dA : Nat → ClassId) (E : Nat) (ad : Nat → Nat) (sz0 mi : Nat) (lc : Nat → ClassId) (U : State) : Prop := G1 D dA E ad sz0 mi U ∧ LSs lc U ∧ IM yJu U ∧ IM yPr U
theorem g2_bl {D : va_G} {dA : Nat → ClassId} {E : Nat} {ad : Nat → Nat} {sz0 mi : Nat} {lc : Nat → ClassId} : BlG (G2 D dA E ad sz0 mi lc) := fun U g mk a q => ⟨g1_bl U g mk a q.1, q.2.1, q.2.2.1, q.2.2.2⟩
theorem lss_mv {lc : Nat → ClassId} {s U : State} (hW : s.WarmedH U.vm) (h : LSs lc s) : LSs lc U := ⟨h.1.mv hW, h.2.1.mv hW, h.2.2.1.mv hW, h.2.2.2.1.mv hW, h.2.2.2.2.1.mv hW, h.2.2.2.2.2.1.mv hW, h.2.2.2.2.2.2.mv hW⟩
theorem g2_mv {D : va_G} {dA : Nat → ClassId} {E : Nat} {ad : Nat → Nat} {sz0 mi : Nat} {lc : Nat → ClassId} {s : State} {H : Heap} (G : G2 D dA E ad sz0 mi lc s) (hH : ∀ q : Nat, q < sz0 → H[q]? = s.heap[q]?) (hz : s.heap.size ≤ H.size) : ∀ U : State, U.heap = H → s.WarmedH U.vm → G2 D dA E ad sz0 mi lc U := fun U hU hW => ⟨g1_mv G.1 hH hz U hU hW, lss_mv hW G.2.1, G.2.2.1.mv hW.alike, G.2.2.2.mv hW.alike⟩
/-- an object that answers by 'ifm': of a plan 'ok' it says P -/
def JO (l : Launch) (ifm : MethodName) (Γ : State → Prop) (Φ : Heap → Prop) (d lo : Nat) (a : Nat) (ok : Nat → Prop) (P : Nat → Int32) : Prop :=
  ∀ (pl : Nat), ok pl → ∀ (p : Program) (e : Env) (R : Room) (s : State) (m : MethodId) (args : Array Value) (below : List Frame) (meth : Method) (c : Code) (H : Heap) (locs : List Loc) (cells slots : Nat) (cc : ByteArray) (nL : Nat) (own : String) (index count : Nat) (rest : List Value) (pc : Nat) (ls : Array Slot),
    CallFix p m c cc nL s args lw_all own → Cond.methodLink own index ifm ∈ lw_all → Γ s → (∀ U : State, U.heap = H → s.WarmedH U.vm → Γ U) → Φ H → d + 1 ≤ R.frames → 21 + lo ≤ R.locals → cells ≤ R.cells ∧ slots ≤ R.slots → ls.size = nL → (rest.map fun v => v.category).sum ≤ 8 → decode cc pc = .ok (.invokeinterface index count, 5) →
    va_Run5 p l e R s m args below meth c H locs cells slots 0 0 (F0 m pc ls (.int (nI pl) :: .ref a :: rest)) rest (QRet (some (.int (P pl))) [.ref a, .int (nI pl)].toArray) (fun _ => False)
theorem jo_of1 {l : Launch} {y ifm x : MethodName} {ccT : ByteArray} {nT d lo : Nat} {rt : FieldType} {a b : Nat} {Γ Γ0 : State → Prop} {Φ Φ0 : Heap → Prop} {pcS idxS : Nat} {σ : Jvm.Lambda.Shape} {cK : ClassId} {f : Nat → Option Nat} {ok : Nat → Prop} {P : Nat → Int32} (hf0 : f 0 = some b)
    (hLS : ∀ s, Γ s → LamS x pcS idxS σ cK s) (hIM : ∀ s, Γ s → IM ifm s) (hif : ifm = ⟨σ.iface, σ.name, σ.sam.toString⟩) (hifn : ifm.cls ≠ "java/lang/invoke/MethodHandle" ∧ ifm.cls ≠ "java/lang/invoke/VarHandle") (hifl : (parseMethodDescriptor ifm.desc).map (fun d => d.parameters.length) = some 1) (hSh : Sh1 σ x.cls rt) (hpn : plainName (x.cls ++ "$$Lambda") = true)
    (hy : y = ⟨σ.implClass, σ.implName, σ.implDesc.toString⟩) (hyn : y.cls ≠ "java/lang/invoke/MethodHandle" ∧ y.cls ≠ "java/lang/invoke/VarHandle") (hyl : (parseMethodDescriptor y.desc).map (fun d => d.parameters.length) = some 1)
    (hM : ∀ pl, ok pl → RO l y ccT nT (some rt) d lo [.ref b, .int (nI pl)] Γ0 Φ0 (some (.int (P pl)))) (hnar : ∀ pl, narrow rt (.int (P pl)) = .int (P pl)) (hbl : BlG Γ0) (hG0 : ∀ U, Γ U → Γ0 U) (hΦ0 : ∀ H, Φ H → Φ0 H) (hinst : Cond.instanceMethod y ∈ lw_all) (hini : Cond.initialized y.cls ∈ lw_all) (hcode : Cond.code y ccT nT (some rt) ∈ lw_all) (hsel : Cond.selects y.cls y y ∈ lw_all)
    (hcell : ∀ H, Φ H → H[a]? = some (vp_cell cK (lamA 1 f))) (hrecv : ∀ (s : State) (H : Heap), Γ s → Φ H → ∃ cellB : Cell, H[b]? = some cellB ∧ cellB.vm.isStatics = false ∧ s.vm.findClass y.cls = some cellB.cls) : JO l ifm Γ Φ (d + 1) (8 + (nT + 11) + lo) a ok P := by
  intro pl hok p e R s m args below meth c H locs cells slots cc nL own index count rest pc ls S hlink hg hG hΦ hfr hlo hcs hsz hW hdg
  exact x_lcall1 hf0 S hlink (hIM s hg) hif hifn hifl (hLS s hg) hSh hpn hy hyn hyl (hM pl hok) (hnar pl) hbl (fun U hU hW => hG0 U (hG U hU hW)) (hΦ0 H hΦ) hinst hini hcode hsel q1409 (hcell H hΦ) (hrecv s H hg hΦ) hfr hlo hcs hsz hW hdg
def gLS (al : Nat → Bool) (pr : Nat → Int32) (pl : Nat) (a : Option Nat × Int32) : Option Nat × Int32 := if al pl = false then a else if a.1 = none then (some pl, pr pl) else if a.2 ≤ pr pl then a else (some pl, pr pl)
def gLeast (al : Nat → Bool) (pr : Nat → Int32) (N : Nat) : Option Nat := (iter (gLS al pr) N 0 (none, nI 0)).1
theorem gLS_lt (al : Nat → Bool) (pr : Nat → Int32) : ∀ N b, (iter (gLS al pr) N 0 (none, nI 0)).1 = some b → b < N := by
  intro N
  induction N with
  | zero => intro b h; cases h
  | succ N ih =>
    intro b h
    rw [iter_s, Nat.zero_add] at h
    unfold gLS at h
    split at h
    · exact Nat.lt_succ_of_lt (ih b h)
    · split at h
      · cases h; exact Nat.lt_succ_self _
      · split at h
        · exact Nat.lt_succ_of_lt (ih b h)
        · cases h; exact Nat.lt_succ_self _
theorem least_master (row : Nat → Int32) (n cu q : Nat) : gLeast (lMa row n q) (mGuess row n cu q) (2 ^ n) = mMaster row n cu q := by
  unfold gLeast mMaster
  refine congrArg Prod.fst (iter_cg (fun k _ a => ?_) _)
  unfold gLS mMpS lMa
  by_cases h1 : mAllowed row n k = false
  · rw [if_pos h1, if_pos rfl, if_pos h1]
  · rw [if_neg h1, if_neg h1]
    by_cases h2 : mRaysM row n q k = 0
    · rw [if_pos h2, if_neg (by decide), if_pos h2]
    · rw [if_neg h2, if_pos rfl, if_neg h2]
def gCount (al : Nat → Bool) (N : Nat) : Nat := iter (fun k a => a + (if al k = true then 1 else 0)) N 0 0
theorem least_best (row : Nat → Int32) (n cu : Nat) : ∀ N, (iter (gLS (mFeas row n cu) (mCost row n cu)) N 0 (none, nI 0)).1 = (iter (mBaS row n cu) N 0 (none, nI 0, 0)).1 ∧ (iter (gLS (mFeas row n cu) (mCost row n cu)) N 0 (none, nI 0)).2 = (iter (mBaS row n cu) N 0 (none, nI 0, 0)).2.1 ∧ gCount (mFeas row n cu) N = (iter (mBaS row n cu) N 0 (none, nI 0, 0)).2.2 := by
  intro N
  induction N with
  | zero => exact ⟨rfl, rfl, rfl⟩
  | succ N ih =>
    unfold gCount at ih ⊢
    rw [iter_s, iter_s, iter_s, Nat.zero_add]
    generalize iter (gLS (mFeas row n cu) (mCost row n cu)) N 0 (none, nI 0) = A at *
    generalize iter (mBaS row n cu) N 0 (none, nI 0, 0) = B at *
    obtain ⟨a1, a2⟩ := A
    obtain ⟨b1, b2, b3⟩ := B
    obtain ⟨h1, h2, h3⟩ := ih
    dsimp only at h1 h2 h3
    subst h1
    subst h2
    rw [h3]
    unfold gLS mBaS
    dsimp only
    by_cases g1 : mFeas row n cu N = false
    · rw [if_pos g1, if_pos g1, g1]
      exact ⟨rfl, rfl, rfl⟩
    · have g4 : mFeas row n cu N = true := by cases h : mFeas row n cu N with | true => rfl | false => exact absurd h g1
      rw [if_neg g1, if_neg g1, g4]
      by_cases g2 : a1 = none
      · rw [if_pos g2, if_pos g2]
        exact ⟨rfl, rfl, rfl⟩
      · rw [if_neg g2, if_neg g2]
        by_cases g3 : a2 ≤ mCost row n cu N
        · rw [if_pos g3, if_pos g3]
          exact ⟨rfl, rfl, rfl⟩
        · rw [if_neg g3, if_neg g3]
          exact ⟨rfl, rfl, rfl⟩
