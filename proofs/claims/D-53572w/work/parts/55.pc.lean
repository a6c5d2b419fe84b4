/-! worlds by pieces; what accept leaves -/
def flat {α : Type} : List (List α) → List α
  | [] => []
  | [a] => a
  | a :: b :: r => a ++ flat (b :: r)
theorem flat_c {α : Type} (a : List α) (r : List (List α)) : flat (a :: r) = a ++ flat r := by
  cases r with
  | nil =>
    show a = a ++ []
    rw [List.append_nil]
  | cons b r => rfl
theorem flat_app {α : Type} (L1 L2 : List (List α)) : flat (L1 ++ L2) = flat L1 ++ flat L2 := by
  induction L1 with
  | nil => rfl
  | cons a r ih => rw [List.cons_append, flat_c, flat_c, ih, List.append_assoc]
theorem flat_p {α : Type} {L L' : List (List α)} (h : L.Perm L') : (flat L).Perm (flat L') := by
  induction h with
  | nil => exact List.Perm.refl _
  | cons a _ ih => rw [flat_c, flat_c]; exact ih.append_left a
  | swap a b l =>
    rw [flat_c, flat_c, flat_c, flat_c, ← List.append_assoc, ← List.append_assoc]
    exact List.perm_append_comm.append_right _
  | trans _ _ h1 h2 => exact h1.trans h2
theorem get_range {α : Type} (L : List (List α)) : (List.range L.length).map (fun i => L.getD i []) = L := by
  apply List.ext_getElem
  · simp
  · intro i h1 h2
    simp [List.getD_eq_getElem?_getD, List.getElem?_eq_getElem h2]
theorem pm1 {α : Type} (L : List (List α)) (idx : List Nat) (h : (List.range L.length).isPerm idx = true) : (flat L).Perm (flat (idx.map (fun i => L.getD i []))) := by
  have h2 := (List.isPerm_iff.mp h).map (fun i => L.getD i [])
  rw [get_range] at h2
  exact flat_p h2
theorem pmC {α : Type} (L : List (List α)) (iR iC : List Nat) (h : (List.range L.length).isPerm (iR ++ iC) = true) : (flat L).Perm (flat (iR.map (fun i => L.getD i [])) ++ flat (iC.map (fun i => L.getD i []))) := by
  rw [← flat_app, ← List.map_append]
  exact pm1 L _ h
theorem pmJ {α : Type} (L1 L2 : List (List α)) (idx : List Nat) (h : (List.range (L1 ++ L2).length).isPerm idx = true) : (flat L1 ++ flat L2).Perm (flat (idx.map (fun i => (L1 ++ L2).getD i []))) := by
  rw [← flat_app]
  exact pm1 (L1 ++ L2) idx h
theorem LOk.le {ob : Option (Nat × Nat)} {a b : Nat} (h : LOk ob a) (hb : b ≤ a) : LOk ob b := ⟨fun e => by have := h.1 e; omega, fun dc e => ⟨Nat.le_trans hb (h.2 dc e).1, (h.2 dc e).2⟩⟩
/-- a frozen state as it is read -/
theorem srcF {D : va_G} {dA : Nat → ClassId} {E : Nat} {FZ : va_W} {H : Heap} {sa la lp lx ld lr lq : Nat} {row : Nat → Int32} {n cu q : Nat} {md : Int32} {ob : Option (Nat × Nat)} {fe : Nat → Option Nat} (hF : va_P D vwCl FZ H) (hmem : ∀ x ∈ stW dA E ((sa, la, lp, lx, ld, lr, lq), md, ob, fe) row n cu q, x ∈ FZ) (hE : va_P D vwCl [eC dA E] H) : va_P D vwCl (stR dA sa la lp lx ld lr lq row n cu (row 4) (row 5) md (dOf E ob) q (pOf ob) (fOf ob fe)) H :=
  stR_of (u := ((sa, la, lp, lx, ld, lr, lq), md, ob, fe)) (vP_sub hF hmem) hE
abbrev AO : Type := Nat × Int32 × Nat × Option (Nat × Nat) × (Nat → Option Nat)
def Pushed (hs sa : Nat) (fe : Nat → Option Nat) (hs' : Nat) (ob' : Option (Nat × Nat)) (fe' : Nat → Option Nat) : Prop := hs' = recH hs ∧ LOk ob' hs' ∧ (∀ i, i + 1 < recH hs → fe' i = fe (if hs = 4 then i + 1 else i)) ∧ fe' (recH hs - 1) = some sa
def AcOk (told : Int32) (th sa : Nat) (mh : Int32) (hs : Nat) (ob : Option (Nat × Nat)) (fe : Nat → Option Nat) (u : AO) : Prop := (told < 0 → u = (sa, mh, hs, ob, fe)) ∧ (¬ told < 0 → u.1 = th ∧ Pushed hs sa fe u.2.2.1 u.2.2.2.1 u.2.2.2.2)
theorem ac_n {told : Int32} {th sa : Nat} {mh : Int32} {hs : Nat} {ob : Option (Nat × Nat)} {fe : Nat → Option Nat} (h : ¬ 0 ≤ told) : AcOk told th sa mh hs ob fe (sa, mh, hs, ob, fe) := ⟨fun _ => rfl, fun h2 => absurd (Int32.not_le.mp h) h2⟩
theorem ac_a {told : Int32} {th sa : Nat} {mh md' : Int32} {hs : Nat} {ob ob' : Option (Nat × Nat)} {fe fe' : Nat → Option Nat} (h : 0 ≤ told) (h4 : ¬ hs = 4) (hlo : LOk ob' (hs + 1)) (hf : ∀ i, i < hs → fe' i = fe i) (hl : fe' hs = some sa) : AcOk told th sa mh hs ob fe (th, md', hs + 1, ob', fe') := by
  refine ⟨fun h2 => absurd h (Int32.not_le.mpr h2), fun _ => ⟨rfl, ?_, hlo, fun i hi => ?_, ?_⟩⟩
  · unfold recH; rw [if_neg h4]
  · unfold recH at hi; rw [if_neg h4] at hi ⊢; exact hf i (by omega)
  · unfold recH; rw [if_neg h4]; exact hl
theorem ac_b {told : Int32} {th sa : Nat} {mh md' : Int32} {hs : Nat} {ob ob' : Option (Nat × Nat)} {fe fe' fe1 : Nat → Option Nat} (h : 0 ≤ told) (h4 : hs = 4) (hlo : LOk ob' (hs - 1 + 1)) (h1 : ∀ i, i < hs - 1 → fe1 i = fe (i + 1)) (hf : ∀ i, i < hs - 1 → fe' i = fe1 i) (hl : fe' (hs - 1) = some sa) : AcOk told th sa mh hs ob fe (th, md', hs - 1 + 1, ob', fe') := by
  subst h4
  refine ⟨fun h2 => absurd h (Int32.not_le.mpr h2), fun _ => ⟨rfl, rfl, hlo, fun i hi => ?_, hl⟩⟩
  have hi' : i < 3 := by
    have : recH 4 = 4 := rfl
    omega
  rw [if_pos rfl]
  exact (hf i hi').trans (h1 i hi')
/-- a frozen state, told by the row -/
def StOk (dA : Nat → ClassId) (E : Nat) (FZ : va_W) (a : Nat) (row : Nat → Int32) (n cu q : Nat) : Prop := ∃ u : SU, u.sa = a ∧ LOk u.ob q ∧ CutsOk dA FZ row cu q u.fe ∧ ∀ x ∈ stW dA E u row n cu q, x ∈ FZ
theorem StOk.mono {dA : Nat → ClassId} {E : Nat} {FZ FZ' : va_W} (hF : ∀ x ∈ FZ, x ∈ FZ') {a : Nat} {row : Nat → Int32} {n cu q : Nat} (h : StOk dA E FZ a row n cu q) : StOk dA E FZ' a row n cu q := by
  obtain ⟨u, h1, h2, h3, h4⟩ := h
  refine ⟨u, h1, h2, fun k hk => ?_, fun x hx => hF x (h4 x hx)⟩
  obtain ⟨ka, e1, e2⟩ := h3 k hk
  exact ⟨ka, e1, e2.mono hF⟩
theorem StOk.el {dA : Nat → ClassId} {E : Nat} {FZ : va_W} {a : Nat} {row : Nat → Int32} {n cu q : Nat} (h : StOk dA E FZ a row n cu q) : OkEl FZ a := by
  obtain ⟨u, rfl, h2, h3, h4⟩ := h
  exact ⟨1, _, h4 _ List.mem_cons_self, Or.inl rfl⟩
/-- what a public method that may change the state leaves -/
def WrOk (dA : Nat → ClassId) (E : Nat) (FZ : va_W) (ok : Bool) (sa : Nat) (mh : Int32) (hs : Nat) (ob : Option (Nat × Nat)) (fe : Nat → Option Nat) (row' : Nat → Int32) (n' cu' q' : Nat) (u : va_W × AO) : Prop := (ok = false → u.2 = (sa, mh, hs, ob, fe)) ∧ (ok = true → StOk dA E (u.1 ++ FZ) u.2.1 row' n' cu' q' ∧ Pushed hs sa fe u.2.2.2.1 u.2.2.2.2.1 u.2.2.2.2.2)
theorem wr_no {dA : Nat → ClassId} {E : Nat} {FZ nw : va_W} {ok : Bool} {sa : Nat} {mh : Int32} {hs : Nat} {ob : Option (Nat × Nat)} {fe : Nat → Option Nat} {row' : Nat → Int32} {n' cu' q' : Nat} (h : ok = false) : WrOk dA E FZ ok sa mh hs ob fe row' n' cu' q' (nw, (sa, mh, hs, ob, fe)) := ⟨fun _ => rfl, fun h2 => by rw [h] at h2; cases h2⟩
theorem wr_yes {dA : Nat → ClassId} {E : Nat} {FZ nw : va_W} {ok : Bool} {sa th : Nat} {mh : Int32} {hs : Nat} {ob : Option (Nat × Nat)} {fe : Nat → Option Nat} {row' : Nat → Int32} {n' cu' q' : Nat} {told : Int32} {u : AO} (h : ok = true) (ha : AcOk told th sa mh hs ob fe u) (h0 : ¬ told < 0) (hs' : StOk dA E (nw ++ FZ) th row' n' cu' q') : WrOk dA E FZ ok sa mh hs ob fe row' n' cu' q' (nw, u) := ⟨fun h2 => (by rw [h] at h2; cases h2), fun _ => ⟨by show StOk dA E (nw ++ FZ) u.1 _ _ _ _; rw [(ha.2 h0).1]; exact hs', (ha.2 h0).2⟩⟩
/-- a state's raw cells, told by a row -/
theorem st_cg {D : va_G} {dA : Nat → ClassId} {A : Nat → Prop} {H : Heap} {sa la lp lx ld lr lq n cu : Nat} {b4 b5 b2 : Int32} {fp fx fd fr : Nat → Int32} {X : va_W} (row' : Nat → Int32) (h4 : row' 4 = b4) (h5 : row' 5 = b5) (h2 : row' 2 = b2) (hp : ∀ j, j < 7 → fp j = row' (6 + j)) (hx : ∀ j, j < 7 → fx j = row' (77 + j)) (hd : ∀ j, j < 8 → fd j = row' (13 + j)) (hr : ∀ j, j < 56 → fr j = row' (21 + j))
    (hP : va_P D vwCl ((sa, .inr (1, [.ref la, .ref lq, .int b4, .int b5])) :: (la, .inr (2, [.ref lp, .ref lx, .ref ld, .ref lr, .int (nI n), .int (nI cu), .int b2])) :: (lp, .inl (dA 0, 7, .inl fp)) :: (lx, .inl (dA 0, 7, .inl fx)) :: (ld, .inl (dA 0, 8, .inl fd)) :: (lr, .inl (dA 0, 56, .inl fr)) :: X) H)
    (hD : va_D A ((sa, .inr (1, [.ref la, .ref lq, .int b4, .int b5])) :: (la, .inr (2, [.ref lp, .ref lx, .ref ld, .ref lr, .int (nI n), .int (nI cu), .int b2])) :: (lp, .inl (dA 0, 7, .inl fp)) :: (lx, .inl (dA 0, 7, .inl fx)) :: (ld, .inl (dA 0, 8, .inl fd)) :: (lr, .inl (dA 0, 56, .inl fr)) :: X)) :
    va_P D vwCl ((sa, .inr (1, [.ref la, .ref lq, .int (row' 4), .int (row' 5)])) :: (lW dA la lp lx ld lr row' n cu ++ X)) H ∧ va_D A ((sa, .inr (1, [.ref la, .ref lq, .int (row' 4), .int (row' 5)])) :: (lW dA la lp lx ld lr row' n cu ++ X)) := by
  subst h4; subst h5; subst h2
  obtain ⟨hP, hD⟩ := arr_cg2 (fun k => row' (6 + k)) 2 hP hD rfl hp
  obtain ⟨hP, hD⟩ := arr_cg2 (fun k => row' (77 + k)) 3 hP hD rfl hx
  obtain ⟨hP, hD⟩ := arr_cg2 (fun k => row' (13 + k)) 4 hP hD rfl hd
  obtain ⟨hP, hD⟩ := arr_cg2 (fun k => row' (21 + k)) 5 hP hD rfl hr
  exact ⟨hP, hD⟩
/-- the new state stands frozen behind the call -/
theorem stOk_new {dA : Nat → ClassId} {E : Nat} {FZ nx : va_W} {u : SU} {row' : Nat → Int32} {n cu q : Nat} (hlo : LOk u.ob q) (hco : CutsOk dA ((stW dA E u row' n cu q ++ nx) ++ FZ) row' cu q u.fe) : StOk dA E ((stW dA E u row' n cu q ++ nx) ++ FZ) u.sa row' n cu q := ⟨u, rfl, hlo, hco, fun x hx => List.mem_append_left _ (List.mem_append_left _ hx)⟩
theorem cuts_0 {dA : Nat → ClassId} {FZ : va_W} {row : Nat → Int32} {cu : Nat} {fe : Nat → Option Nat} : CutsOk dA FZ row cu 0 fe := fun k hk => by omega
theorem stOk_new0 {dA : Nat → ClassId} {E : Nat} {FZ : va_W} {u : SU} {row' : Nat → Int32} {n cu q : Nat} (hlo : LOk u.ob q) (hco : CutsOk dA (stW dA E u row' n cu q ++ FZ) row' cu q u.fe) : StOk dA E (stW dA E u row' n cu q ++ FZ) u.sa row' n cu q := ⟨u, rfl, hlo, hco, fun x hx => List.mem_append_left _ hx⟩
theorem dropA_at {r : Nat → Int32} {j : Nat} (h : j < 84) (h3 : j ≠ 3) (h4 : j ≠ 4) : dropA r j = r j := by
  unfold dropA
  rw [if_neg h3, if_neg h4, if_neg (by omega)]
theorem dropA_4 (r : Nat → Int32) : dropA r 4 = -5 := rfl
theorem upd_sh (row : Nat → Int32) (o i : Nat) (x : Int32) (j : Nat) : upd (fun k => row (o + k)) i x j = upd row (o + i) x (o + j) := by
  by_cases e : j = i
  · subst e; rw [pk_us, pk_us]
  · rw [pk_un e, pk_un (by omega)]
theorem upd_sh' (row : Nat → Int32) {o i p : Nat} (x : Int32) (j : Nat) (h : p = o + i) : upd (fun k => row (o + k)) i x j = upd row p x (o + j) := by rw [h]; exact upd_sh row o i x j
theorem cuts_cp {dA : Nat → ClassId} {FZ FZ' : va_W} {row row' : Nat → Int32} {cu q : Nat} {ob : Option (Nat × Nat)} {fe fe' : Nat → Option Nat} (hlo : LOk ob q) (h : CutsOk dA FZ row cu q fe) (hcu : cu ≤ 8) (hF : ∀ x ∈ FZ, x ∈ FZ') (hr : ∀ j, 84 ≤ j → row' j = row j) (hf : ∀ i, i < q → fe' i = fOf ob fe i) : CutsOk dA FZ' row' cu q fe' := (cutsOk_f hlo h).ex hcu hF (fun j h1 _ => hr j h1) hf
