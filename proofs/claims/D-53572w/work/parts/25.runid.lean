/-! a call of a method by its number: nothing is asked of its class's initialisation -/
section RI
variable {p : Program} {l : Launch} {e : Env} {R : Room} {s : State} {m : MethodId} {sargs : Array Value} {below : List Frame} {meth : Method} {c : Code} {U : State} {Ls : List Loc} {c0 s0 : Nat}
theorem run_id (X : Stand p l e R s m sargs below meth c U Ls c0 s0) {g : JFrame} {ig : Instr} {len : Nat} (hg : g.method = m) (hsize : g.locals.size = c.maxLocals) (hdg : decode c.code g.pc = .ok (ig, len)) (hW : 2 * g.monitorRoom + (g.stack.map fun v => v.category).sum ≤ 8)
    {mk : MethodId} {methY : Method} {cY : Code} (hmY : U.vm.method? mk = some methY) (hcY : methY.code = some cY) (hlk : methY.locks = false) (hpl : U.plainMethod mk) {rm : Room} (hframes : rm.frames + 1 ≤ R.frames) (hlocals : 8 + (cY.maxLocals + 11) + rm.locals ≤ R.locals) (h4 : c0 + rm.cells ≤ R.cells) (h5 : s0 + rm.slots ≤ R.slots)
    {a : Array Value} {Qc : Array Value → State → Outcome → State → Prop} {mc ms : Nat} {free : Addr → Prop}
    (body : ∀ s₁ : State, s₁.heap = U.heap → Stand p l e rm (U.calling g mk a) mk a (U.setTop g).frames methY cY s₁ [] 0 0 → ∃ t, Steps p.tables e (U.setTop g).frames (s₁.setTop (entryFrame mk a cY.maxLocals)) t ∧ MQ (U.setTop g).frames Qc a (U.calling g mk a) mc ms free t) :
    ∃ (v : Option Value) (t : State) (L : List Loc), Qc a (U.calling g mk a) (.returned v) t ∧ (∀ q ∈ L, free q.base) ∧ Stand p l e R s m sargs below meth c (({ U with heap := t.heap, slotsUsed := t.slotsUsed } : State).setVm t.vm) (Ls ++ L) (c0 + mc) (s0 + ms) ∧
      Steps p.tables e below (doInvoke e (U.setTop g) [] mk a).1 ((({ U with heap := t.heap, slotsUsed := t.slotsUsed } : State).setVm t.vm).setTop { g with pc := g.pc + len, stack := v.toList ++ g.stack }) := by
  have h : At U g.method c below := by rw [hg]; exact X.here
  have hroom := X.room_calling (g := g) (R' := rm) (args' := a) hsize hmY hcY hframes (by omega) h4 h5
  have hfr0 : (U.setTop g).frames = .java g :: U.frames.tail := State.frames_setTop' g h.top
  have hf : (U.calling g mk a).frames = .invoking mk a :: (U.setTop g).frames := by rw [hfr0]; exact State.frames_calling h.top g mk a
  have hcode : (U.calling g mk a).code? g.method = some c := by
    have := h.code
    rw [State.code?_eq] at this ⊢
    simpa [State.calling, State.pushFrame, State.setFrames] using this
  have hhears : (U.calling g mk a).hears mk (U.setTop g).frames = true := by
    rw [hfr0]
    simp [State.hears, hcode, hdg, Except.toOption]
  have hrun : (U.calling g mk a).status = .running := h.running
  have hable : (U.calling g mk a).curStatus? = some .runnable := by simpa [State.calling] using h.runnable
  have halone : (U.calling g mk a).alone = true := by simpa [State.calling] using h.alone
  have hmeth : (U.calling g mk a).vm.method? mk = some methY := hmY
  generalize hS' : U.calling g mk a = s' at *
  have hcur := State.cur_lt_of_frames hf
  obtain ⟨t0, ht0, -⟩ := State.frames_cons hf
  have hf1 : (s'.setFrames (.java (entryFrame mk a cY.maxLocals) :: (U.setTop g).frames)).frames = .java (entryFrame mk a cY.maxLocals) :: (U.setTop g).frames := State.frames_setFrames _ hcur
  have ht1 := State.topJava?_of_frames hf1
  have hplain : (s'.setFrames (.java (entryFrame mk a cY.maxLocals) :: (U.setTop g).frames)).plainMethod mk := by
    have : s'.vm = U.vm := by rw [← hS']; rfl
    rw [State.plainMethod] at hpl ⊢
    show _
    simpa [State.setFrames, this] using hpl
  have hAt : At (s'.setFrames (.java (entryFrame mk a cY.maxLocals) :: (U.setTop g).frames)) mk cY (U.setTop g).frames :=
    ⟨by rw [ht1]; rfl, ⟨[], by rw [hf1]; rfl⟩, hrun, by simpa using hable, by simpa using halone, by rw [State.code?_eq]; simp [State.setFrames, hmeth, hcY], hplain⟩
  have X1 : Stand p l e rm s' mk a (U.setTop g).frames methY cY (s'.setFrames (.java (entryFrame mk a cY.maxLocals) :: (U.setTop g).frames)) [] 0 0 := by
    refine ⟨X.admits, X.cas, X.clock, hf, hroom, hhears, hmeth, hcY, hAt, by rw [hf1]; rfl, State.WarmedH.refl s', by rw [State.stackLimits_setFrames], by rw [State.stackBytes_setFrames], ?_⟩
    exact (State.sameButNew.refl s' ht0).setFrames (.java (entryFrame mk a cY.maxLocals) :: (U.setTop g).frames) hcur
  obtain ⟨s₂, hsteps0, o, hrun2, hend, hq, L, hfe, hfree⟩ := body _ (by rw [← hS']; rfl) X1
  obtain ⟨tU, htU⟩ : ∃ tU, (U.setTop g).threads[(U.setTop g).cur]? = some tU := by
    obtain ⟨tU, htU, -⟩ := State.frames_cons hfr0
    exact ⟨tU, htU⟩
  have hUs : s'.setFrames (U.setTop g).frames = U.setTop g := by rw [← hS', State.calling, State.pushFrame, State.setFrames_setFrames, State.setFrames_self htU]
  have hstep : (doInvoke e (U.setTop g) [] mk a).1 = (s'.setFrames (.java (entryFrame mk a cY.maxLocals) :: (U.setTop g).frames)).setTop (entryFrame mk a cY.maxLocals) := by
    have hfull : e.platform.stackFull (s'.setFrames (U.setTop g).frames).me (s'.setFrames (U.setTop g).frames).frames cY.maxLocals = false := by
      obtain ⟨-, h1, -, h2⟩ := State.hasRoom_stack hroom
      rw [hf, List.length_cons] at h1
      rw [State.localsInUse_invoking hf hmeth hcY] at h2
      have hw := stackUse_le_stackWeight (U.setTop g).frames
      rw [State.frames_setFrames _ hcur]
      exact Platform.stackFull_eq_false (by rw [State.stackLimits_setFrames]; omega) (by rw [State.stackLimits_setFrames]; omega)
    have e1 := (doInvoke_java (s := s'.setFrames (U.setTop g).frames) (e := e) (acts := []) (m := mk) (args := a) (meth := methY) (code := cY) hmeth hcY hlk hfull).1
    rw [hUs] at e1
    rw [e1, State.setTop_self ht1, ← hUs]
    simp only [State.pushFrame, State.frames_setFrames _ hcur, State.setFrames_setFrames, entryFrame]
  rw [← hstep] at hsteps0
  obtain ⟨mid, hmid⟩ := h.above
  have hfrM : (U.setTop g).frames = (.java g :: mid) ++ below := by rw [hfr0, hmid]; rfl
  have hsteps : Steps p.tables e below (doInvoke e (U.setTop g) [] mk a).1 s₂ := by
    obtain ⟨n, hn, hw⟩ := hsteps0
    refine ⟨n, hn, fun j hj => ?_⟩
    have := hw j hj
    rw [hfrM] at this
    exact this.weaken
  rw [hfr0] at hend
  obtain ⟨⟨v, rfl⟩, hW₂, e2, q2, q3, q4, q5, q6⟩ := id hfe
  have e3 : s₂ = ({ s'.setFrames s₂.frames with heap := s₂.heap, slotsUsed := s₂.slotsUsed } : State).setVm s₂.vm := by
    have : s₂ = ({ s₂ with vm := s'.vm } : State).setVm s₂.vm := rfl
    rw [e2] at this
    exact this
  obtain ⟨c₂, i₂, len₂, hc₂, hd₂, hf₂⟩ := hend
  have hvm' : s'.vm = U.vm := by rw [← hS']; rfl
  have hW' : U.WarmedH s₂.vm := by
    have := hW₂
    rw [← hS'] at this
    exact this
  have hcc : c₂ = c := by
    have h1 : s₂.code? g.method = U.code? g.method := by
      rw [State.code?_eq, State.code?_eq, hW'.alike.method?]
    exact Option.some.inj (hc₂.symm.trans (h1.trans h.code))
  subst hcc
  have hlen : len₂ = len := by rw [hdg] at hd₂; cases hd₂; rfl
  subst hlen
  obtain ⟨g₀, hg0⟩ := Option.isSome_iff_exists.mp h.top
  obtain ⟨r, hr⟩ := State.topJava?_eq_some.mp hg0
  have hs₂ : s₂ = (({ U with heap := s₂.heap, slotsUsed := s₂.slotsUsed } : State).setVm s₂.vm).setTop { g with pc := g.pc + len₂, stack := v.toList ++ g.stack } := by
    have hr' : (({ U with heap := s₂.heap, slotsUsed := s₂.slotsUsed } : State).setVm s₂.vm).frames = .java g₀ :: r := hr
    refine e3.trans ?_
    rw [hf₂, ← hS', State.calling_eq h.top, State.setFrames_setFrames, State.setTop_of_frames _ hr', hr]
    rfl
  have hsame : U.sameButNew ({ U with heap := s₂.heap, slotsUsed := s₂.slotsUsed } : State) L mc ms := by
    rw [← hS'] at q2 q3 q4 q5 q6
    refine ⟨?_, q2, q3, q4, q5, q6⟩
    obtain ⟨t, ht, -⟩ := State.frames_cons hr
    show ({ U with heap := s₂.heap, slotsUsed := s₂.slotsUsed } : State) = { U.setFrames U.frames with heap := s₂.heap, slotsUsed := s₂.slotsUsed }
    rw [State.setFrames_self ht]
  subst hg
  refine ⟨v, s₂, L, hq, hfree, ⟨X.admits, X.cas, X.clock, X.frames, X.room, X.hears, X.method, X.code, (X.here.setHeapUsed s₂.heap s₂.slotsUsed).setVm hW'.alike, X.tail, State.WarmedH.trans X.warmed hW', X.limits, X.bytes, X.same.trans (hsame.setVm s.vm)⟩, ?_⟩
  rw [← hs₂]
  exact hsteps
end RI
