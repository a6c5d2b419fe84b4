def okRc (txt : Nat → Int32) (ln cu q : Nat) (rd : Nat → Int32) : Bool := if cu = 0 then false else if (rdN txt ln cu 0 0 rd).1 = false then false else if q = 40 then false else true
def rRc (txt : Nat → Int32) (ln cu q : Nat) (rd : Nat → Int32) : Int32 := if cu = 0 then -4 else if (rdN txt ln cu 0 0 rd).1 = false then -100 - nI (rdN txt ln cu 0 0 rd).2.1 else if q = 40 then -3 else nI q
def rcS (txt : Nat → Int32) (ln cu : Nat) (rd : Nat → Int32) (pa : Nat) : Nat × (Nat → Int32) := if cu = 0 then (pa, rd) else ((rdN txt ln cu 0 0 rd).2.1, (rdN txt ln cu 0 0 rd).2.2)
section XO
variable {p : Program} {l : Launch} {e : Env} {R : Room} {s : State} {m : MethodId} {args : Array Value} {below : List Frame} {meth : Method} {c : Code} {H : Heap} {locs : List Loc} {cells slots : Nat} {Q : State → Prop} {cc : ByteArray} {pc : Nat} {ls : Array Slot} {rest st0 : List Value}
theorem x_ifn_le {k : Nat} (hexec : p.tables.exec = Jvm.exec) (hb : c.code = cc) {off : Int} {tgt : Nat} (hdg : decode cc pc = .ok (.ifCond .le off, 3)) (ht : (pc : Int) + off = (tgt : Int)) (ho : k < 2 ^ 31)
    (kt : k = 0 → W p l e R s m args below meth c H locs cells slots Q (F0 m tgt ls rest)) (kf : ¬ k = 0 → W p l e R s m args below meth c H locs cells slots Q (F0 m (pc + 3) ls rest)) : W p l e R s m args below meth c H locs cells slots Q (F0 m pc ls (.int (nI k) :: rest)) := by
  refine lv_if_le hexec hb hdg ht (fun h => kt ?_) (fun h => kf (fun h2 => h (by rw [h2]; exact Int32.le_refl _)))
  have := (nI_leI (b := 0) ho (by decide)).mp h
  omega
end XO
