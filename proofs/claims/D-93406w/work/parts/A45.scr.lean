/-! the script's ints -/
set_option maxRecDepth 100000
section TSC
variable {p : Program} {l : Launch} {e : Env} {R : Room} {s : State} {m : MethodId} {args : Array Value} {below : List Frame} {meth : Method} {c : Code} {H : Heap} {locs : List Loc} {cells slots : Nat} {Q : State → Prop}
variable {cc : ByteArray} {pc : Nat} {ls : Array Slot} {rest : List Value} {b L : Nat} {xs : Nat → Int32} {A : Nat → Prop}
/-- the script lies where it lay -/
theorem ti_scr {z0 : Nat} (hX : va_X b L xs s s.heap) (hb0 : b < s.heap.size) (hz : s.heap.size ≤ z0) (hAz : ∀ q, A q → z0 ≤ q) (hS : va_S A s.heap H locs) : va_X b L xs s H := hX.kept (hS.2.1 b hb0 (fun z => absurd (hAz b z) (by omega)))
theorem ti_scrLen (hx : p.tables.exec = Jvm.exec) (hb : c.code = cc) (hX : va_X b L xs s H) (hd : decode cc pc = .ok (.arraylength, 1))
    (k : W p l e R s m args below meth c H locs cells slots Q (F0 m (pc + 1) ls (.int (nI L) :: rest))) : W p l e R s m args below meth c H locs cells slots Q (F0 m pc ls (.ref b :: rest)) := by
  obtain ⟨scr, h1, h2, h3, h4, h5⟩ := hX
  exact W.alen (n := nI L) hx hb h1 h2 (by rw [h4]; rfl) rfl rfl hd k
theorem ti_scrLd (hx : p.tables.exec = Jvm.exec) (hb : c.code = cc) (hX : va_X b L xs s H) {i : Nat} (hi : i < L) (hL : L < 2 ^ 31) (hd : decode cc pc = .ok (.iaload, 1))
    (k : W p l e R s m args below meth c H locs cells slots Q (F0 m (pc + 1) ls (.int (xs i) :: rest))) : W p l e R s m args below meth c H locs cells slots Q (F0 m pc ls (.int (nI i) :: .ref b :: rest)) := by
  obtain ⟨scr, h1, h2, h3, h4, h5⟩ := hX
  have hc : (nI i).toNatClampNeg = i := nI_clamp (by omega)
  exact W.iald (v := .int (xs i)) hx hb h1 h2 h3 (by rw [h4, hc]; exact fun z => z.elim (nI_pos (by omega)) (fun z => by omega)) (by rw [hc]; exact h5 i hi) rfl rfl hd k
end TSC
