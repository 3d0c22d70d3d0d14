/-! contracts of methods with handlers -/
set_option maxRecDepth 100000
section TXE
variable {σ τ : Type} {l : Launch} {D : va_G} {E : Nat → ClassId} {y : MethodName} {cc : ByteArray} {nL k mc ms z0 : Nat} {ret : Option FieldType} {hh : List (Nat × Nat × Nat × Nat)} {ws : va_W} {av : List Value} {wf : σ → va_W} {val : σ → Option Value} {post : σ → Prop} {xp : Heap → Prop} {xq : σ → Heap → Prop} {nm : τ → String} {adr : τ → Nat} {wy ex : τ → va_W} {px : τ → Prop} {xx : τ → Heap → Prop}
theorem ti_metXH (hy : plainName y.cls = true) (hn : (lg_sl av).length ≤ nL)
    (body : ∀ (p : Program) (e : Env) (s : State) (m : MethodId) (below : List Frame) (meth : Method) (c : Code) (H : Heap) (A : Nat → Prop) (Q : State → Prop) (ls : Array Slot), CallFix p m c cc nL s av.toArray lw_all y.cls → ti_E D E s → va_P D vwCl ws H → va_D A ws → va_S A s.heap H [] → (∀ q, s.heap.size ≤ q → A q) → ti_Z z0 ws s → (∀ q, A q → z0 ≤ q) → xp s.heap → c.exceptionTable.toList = tableOf hh → lv_has ls nL (lv_args 0 av) →
      (∀ (g : JFrame) (u : σ) (H : Heap) (locs : List Loc) (cells slots : Nat), post u → va_P D vwCl (wf u) H → xq u H → va_S A s.heap H locs → cells ≤ mc → slots ≤ ms →
        ((∀ t : State, t.heap = H → s.WarmedH t.vm → ti_QF D wf val post xq A av.toArray s (.returned (val u)) t) → (∀ q ∈ locs, A q.base) → W p l e (ti_rm k mc ms) s m av.toArray below meth c H locs mc ms (MQ below (ti_QF D wf val post xq A) av.toArray s mc ms A) g) → W p l e (ti_rm k mc ms) s m av.toArray below meth c H locs cells slots Q g) →
      (Q = ty_MQ below (ti_QF D wf val post xq A) (ti_XC D nm adr wy ex px xx s.heap.size A) av.toArray s mc ms A ∧ meth.sig.returnType = ret ∧ meth.locks = false ∧ meth.name = y.name) → W p l e (ti_rm k mc ms) s m av.toArray below meth c H [] 0 0 Q (F0 m 0 ls [])) : ti_MetX l D E y (wsW_ y cc nL ret hh) k mc ms z0 ws av xp wf val post xq nm adr wy ex px xx := by
  intro sz
  refine ty_ofWH (cc := cc) (maxL := nL) (ret := ret) (hh := hh) hy rfl ?_
  intro p e s m args below meth c s₁ B hml hv
  obtain ⟨rfl, hsz, hE, hP, hD0, hZ, hx⟩ := hv
  have hts := atoms_spec (ws := wsW_ y cc nL ret hh) B.pre
  have htab : c.exceptionTable.toList = tableOf hh := vx_table (x := y) B (hts (Cond.codeWith y cc nL ret hh) List.mem_cons_self)
  have hl := lv_entry av (n := nL) hn
  rw [lg_entry_eq]
  generalize (lg_sl av ++ List.replicate (nL - (lg_sl av).length) Slot.unset).toArray = ls at hl ⊢
  subst hsz
  have hD := hD0.self (sz := s.heap.size)
  have hAz := hZ.ofA
  generalize hAe : va_A ws s.heap.size = A at hD hAz ⊢
  have hA : ∀ q : Nat, s.heap.size ≤ q → A q := fun q h => by rw [← hAe]; exact Or.inr h
  refine body p e s m below meth c s.heap A _ ls ⟨B.exec, B.bytes, hml, findClass_of_methodNamed B.named, fun w h => hts w (List.mem_cons_of_mem _ h)⟩ hE hP hD va_S.rf hA hZ hAz hx htab hl ?_ ⟨rfl, B.returns, B.notSynchronized, (name_of_methodNamed B.named B.method).1⟩
  intro g u H locs cells slots hp hP hxq hS h1 h2 kk
  exact W.widen h1 h2 (ty_ret (kk (fun t ht hW => ⟨⟨u, rfl, hp, by rw [ht]; exact hP, by rw [ht]; exact hxq⟩, hS.F ht⟩) hS.2.2))
end TXE
