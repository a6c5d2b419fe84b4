/-! worlds by membership: permutations, a call on a part of the world, frozen worlds -/
theorem vP_iff {D : va_G} {cl : List vw_C} {ws : va_W} {H : Heap} : va_P D cl ws H ↔ ∀ q ∈ ws, va_at D cl q H := by
  constructor
  · intro h q hq
    obtain ⟨k, hk⟩ := List.mem_iff_getElem?.mp hq
    exact h k q hk
  · intro h k q hk
    exact h q (List.mem_of_getElem? hk)
theorem vP_sub {D : va_G} {cl : List vw_C} {ws ws' : va_W} {H : Heap} (hP : va_P D cl ws H) (h : ∀ q ∈ ws', q ∈ ws) : va_P D cl ws' H := vP_iff.mpr (fun q hq => vP_iff.mp hP q (h q hq))
theorem vP_perm {D : va_G} {cl : List vw_C} {ws ws' : va_W} {H : Heap} (h : ws.Perm ws') (hP : va_P D cl ws H) : va_P D cl ws' H := vP_sub hP (fun _ hq => h.mem_iff.mpr hq)
theorem vP_app {D : va_G} {cl : List vw_C} {w1 w2 : va_W} {H : Heap} : va_P D cl (w1 ++ w2) H ↔ va_P D cl w1 H ∧ va_P D cl w2 H := by
  rw [vP_iff, vP_iff, vP_iff]
  constructor
  · intro h
    exact ⟨fun q hq => h q (List.mem_append_left _ hq), fun q hq => h q (List.mem_append_right _ hq)⟩
  · rintro ⟨h1, h2⟩ q hq
    rcases List.mem_append.mp hq with h | h
    · exact h1 q h
    · exact h2 q h
theorem vD_iff {A : Nat → Prop} {ws : va_W} : va_D A ws ↔ (ws.map (fun q => q.1)).Nodup ∧ ∀ q ∈ ws, A q.1 := by
  constructor
  · rintro ⟨h1, h2⟩
    refine ⟨?_, fun q hq => ?_⟩
    · rw [List.Nodup, List.pairwise_iff_getElem]
      intro i j hi hj hij he
      simp only [List.length_map] at hi hj
      simp only [List.getElem_map] at he
      have := h1 i j ws[i] ws[j] (List.getElem?_eq_getElem hi) (List.getElem?_eq_getElem hj) he
      omega
    · obtain ⟨k, hk⟩ := List.mem_iff_getElem?.mp hq
      exact h2 k q hk
  · rintro ⟨h1, h2⟩
    refine ⟨fun i j p q hi hj he => ?_, fun k q hk => h2 q (List.mem_of_getElem? hk)⟩
    rw [List.Nodup, List.pairwise_iff_getElem] at h1
    obtain ⟨hi', ei⟩ := List.getElem?_eq_some_iff.mp hi
    obtain ⟨hj', ej⟩ := List.getElem?_eq_some_iff.mp hj
    rcases Nat.lt_trichotomy i j with h | h | h
    · have h9 := h1 i j (by simpa using hi') (by simpa using hj') h
      simp only [List.getElem_map] at h9
      rw [ei, ej] at h9
      exact absurd he h9
    · exact h
    · have h9 := h1 j i (by simpa using hj') (by simpa using hi') h
      simp only [List.getElem_map] at h9
      rw [ei, ej] at h9
      exact absurd he.symm h9
theorem vD_perm {A : Nat → Prop} {ws ws' : va_W} (h : ws.Perm ws') (hD : va_D A ws) : va_D A ws' := by
  obtain ⟨h1, h2⟩ := vD_iff.mp hD
  exact vD_iff.mpr ⟨(h.map _).nodup_iff.mp h1, fun q hq => h2 q (h.mem_iff.mpr hq)⟩
theorem vD_left {A : Nat → Prop} {w1 w2 : va_W} (hD : va_D A (w1 ++ w2)) : va_D A w1 := by
  obtain ⟨h1, h2⟩ := vD_iff.mp hD
  rw [List.map_append] at h1
  exact vD_iff.mpr ⟨(List.nodup_append.mp h1).1, fun q hq => h2 q (List.mem_append_left _ hq)⟩
theorem vD_right {A : Nat → Prop} {w1 w2 : va_W} (hD : va_D A (w1 ++ w2)) : va_D A w2 := by
  obtain ⟨h1, h2⟩ := vD_iff.mp hD
  rw [List.map_append] at h1
  exact vD_iff.mpr ⟨(List.nodup_append.mp h1).2.1, fun q hq => h2 q (List.mem_append_right _ hq)⟩
theorem vP_lt {D : va_G} {cl : List vw_C} {ws : va_W} {H : Heap} (hP : va_P D cl ws H) {q : Nat × va_E} (hq : q ∈ ws) : q.1 < H.size := (vP_iff.mp hP q hq).lt
theorem vA_iff {ws : va_W} {sz q : Nat} : va_A ws sz q ↔ (∃ x ∈ ws, x.1 = q) ∨ sz ≤ q := by
  unfold va_A
  constructor
  · rintro (⟨k, e, h⟩ | h)
    · exact Or.inl ⟨_, List.mem_of_getElem? h, rfl⟩
    · exact Or.inr h
  · rintro (⟨x, hx, rfl⟩ | h)
    · obtain ⟨k, hk⟩ := List.mem_iff_getElem?.mp hx
      exact Or.inl ⟨k, x.2, hk⟩
    · exact Or.inr h
/-- FZ lies apart from ws -/
def Apart (FZ ws : va_W) : Prop := ∀ x ∈ FZ, ∀ y ∈ ws, x.1 ≠ y.1
/-- a frozen world stays over a call whose world lies apart from it -/
theorem fz_kept {D : va_G} {FZ wc : va_W} {H H1 : Heap} (hF : va_P D vwCl FZ H) (hap : Apart FZ wc) (hk : ∀ q : Nat, q < H.size → ¬ va_A wc H.size q → H1[q]? = H[q]?) : va_P D vwCl FZ H1 := by
  refine vP_iff.mpr (fun x hx => (vP_iff.mp hF x hx).kept (hk _ (vP_lt hF hx) (fun h => ?_)))
  rcases vA_iff.mp h with ⟨y, hy, e⟩ | h
  · exact hap x hx y hy e.symm
  · have := vP_lt hF hx
    omega
/-- a frozen world stays over what a method writes (A: its places) -/
theorem fz_S {D : va_G} {FZ : va_W} {A : Nat → Prop} {H H1 : Heap} {locs : List Loc} (hF : va_P D vwCl FZ H) (hA : ∀ x ∈ FZ, ¬ A x.1) (hS : va_S A H H1 locs) : va_P D vwCl FZ H1 :=
  vP_iff.mpr (fun x hx => (vP_iff.mp hF x hx).kept (hS.2.1 _ (vP_lt hF hx) (hA x hx)))
theorem apart_A {D : va_G} {FZ ws : va_W} {H : Heap} (hF : va_P D vwCl FZ H) (hap : Apart FZ ws) : ∀ x ∈ FZ, ¬ va_A ws H.size x.1 := by
  intro x hx h
  rcases vA_iff.mp h with ⟨y, hy, e⟩ | h
  · exact hap x hx y hy e.symm
  · have := vP_lt hF hx
    omega
/-- what is new, or in A, lies apart from what A spares -/
theorem apart_D {FZ ws : va_W} {A : Nat → Prop} (hA : ∀ x ∈ FZ, ¬ A x.1) (hD : va_D A ws) : Apart FZ ws := fun x hx y hy e => hA x hx (by rw [e]; exact (vD_iff.mp hD).2 y hy)
theorem idx_app (w1 w2 : va_W) : ((List.range w2.length).map (fun i => w1.length + i)).map (fun i => (w1 ++ w2)[i]?) = w2.map some := by
  apply List.ext_getElem
  · simp
  · intro i h1 h2
    simp at h1 h2 ⊢
    rw [List.getElem?_append_right (Nat.le_add_right _ _), Nat.add_sub_cancel_left, List.getElem?_eq_getElem h2]
theorem idx_appL (w1 w2 : va_W) : (List.range w1.length).map (fun i => (w1 ++ w2)[i]?) = w1.map some := by
  apply List.ext_getElem
  · simp
  · intro i h1 h2
    simp at h1 h2 ⊢
    rw [List.getElem?_append_left h1, List.getElem?_eq_getElem h1]
theorem nd_iff : ∀ (l : List Nat), l.Nodup → va_nd l = true := by
  intro l
  induction l with
  | nil => intro _; rfl
  | cons a t ih =>
    intro h
    obtain ⟨h1, h2⟩ := List.nodup_cons.mp h
    simp [va_nd, h1, ih h2]
section XP
variable {p : Program} {l : Launch} {e : Env} {R : Room} {s : State} {m : MethodId} {args : Array Value} {below : List Frame} {meth : Method} {c : Code} {H : Heap} {locs : List Loc} {cells slots : Nat} {Q : State → Prop} {cc : ByteArray} {pc : Nat} {ls : Array Slot} {rest st0 : List Value}
/-- x_ecall, the world told by a permutation -/
theorem x_ecallP {S : Type} {Ψ : S → Heap → Prop} {v : S → Option Value} {a : Array Value} {D : va_G} {A : Nat → Prop} {H0 : Heap} {ws wc : va_W} {W1 : S → va_W} {mc ms : Nat} (hr : va_Run p l e R s m args below meth c H locs cells slots mc ms (F0 m pc ls st0) rest (QE Ψ v D W1 (va_A wc H.size) a) (va_A wc H.size)) (hP : va_P D vwCl ws H) (hD : va_D A ws) (hS : va_S A H0 H locs) (hA : ∀ q, H0.size ≤ q → A q)
    (wr : va_W) (hpm : ws.Perm (wr ++ wc))
    (kk : ∀ (u : S) (H1 : Heap) (locs1 : List Loc), Ψ u H1 → va_P D vwCl (wr ++ W1 u) H1 → va_D A (wr ++ W1 u) → va_S A H0 H1 locs1 → (∀ q : Nat, q < H.size → ¬ va_A wc H.size q → H1[q]? = H[q]?) → H.size ≤ H1.size → va_D (va_A wc H.size) (W1 u) → W p l e R s m args below meth c H1 locs1 (cells + mc) (slots + ms) Q (F0 m (pc + 3) ls ((v u).toList ++ rest))) : W p l e R s m args below meth c H locs cells slots Q (F0 m pc ls st0) := by
  refine x_ecall hr (vP_perm hpm hP) (vD_perm hpm hD) hS hA ((List.range wc.length).map (fun i => wr.length + i)) (List.range wr.length) (idx_app wr wc) (idx_appL wr wc) (nd_iff _ List.nodup_range) ?_ kk
  intro i hi hj
  obtain ⟨j, -, hj⟩ := List.mem_map.mp hj
  have := List.mem_range.mp hi
  omega
end XP
