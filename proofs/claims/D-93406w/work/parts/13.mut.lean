/-! methods that write: contracts, entry, calls, the world behind a call -/
set_option maxRecDepth 100000
def ti_Q {σ : Type} (D : va_G) (wf : σ → va_W) (val : σ → Option Value) (post : σ → Prop) (A : Nat → Prop) : Array Value → State → Outcome → State → Prop := fun _ st oc t => (∃ u : σ, oc = .returned (val u) ∧ post u ∧ va_P D vwCl (wf u) t.heap) ∧ va_F A st t
/-- a method that writes its world ws alone, and what it makes: behind it the world is wf u, its answer val u, and post u -/
def ti_MetM {σ : Type} (l : Launch) (D : va_G) (E : Nat → ClassId) (y : MethodName) (cc : ByteArray) (nL : Nat) (ret : Option FieldType) (k mc ms : Nat) (ws : va_W) (av : List Value) (wf : σ → va_W) (val : σ → Option Value) (post : σ → Prop) : Prop :=
  ∀ sz : Nat, Met l y (ws_ y cc nL ret) (ti_rm k mc ms) (va_Pc av (fun U => U.heap.size = sz ∧ ti_E D E U ∧ va_P D vwCl ws U.heap ∧ va_D (fun _ => True) ws)) (ti_Q D wf val post (va_A ws sz)) mc ms (va_A ws sz)
section TMA
variable {σ : Type} {l : Launch} {D : va_G} {E : Nat → ClassId} {y : MethodName} {cc : ByteArray} {nL k mc ms : Nat} {ret : Option FieldType} {ws : va_W} {av : List Value} {wf : σ → va_W} {val : σ → Option Value} {post : σ → Prop}
theorem ti_mut (hy : plainName y.cls = true) (hn : (lg_sl av).length ≤ nL)
    (body : ∀ (p : Program) (e : Env) (s : State) (m : MethodId) (below : List Frame) (meth : Method) (c : Code) (H : Heap) (H0 : Heap) (A : Nat → Prop) (Q : State → Prop) (ls : Array Slot), CallFix p m c cc nL s av.toArray lw_all y.cls → ti_E D E s → va_P D vwCl ws H → va_D A ws → va_S A H0 H [] → (∀ q, H0.size ≤ q → A q) → meth.name = y.name → lv_has ls nL (lv_args 0 av) →
      (∀ (g : JFrame) (u : σ) (H : Heap) (locs : List Loc) (cells slots : Nat), post u → va_P D vwCl (wf u) H → va_S A H0 H locs → cells ≤ mc → slots ≤ ms →
        ((∀ t : State, t.heap = H → s.WarmedH t.vm → ti_Q D wf val post A av.toArray s (.returned (val u)) t) → (∀ q ∈ locs, A q.base) → W p l e (ti_rm k mc ms) s m av.toArray below meth c H locs mc ms Q g) → W p l e (ti_rm k mc ms) s m av.toArray below meth c H locs cells slots Q g) →
      (Q = MQ below (ti_Q D wf val post A) av.toArray s mc ms A ∧ meth.sig.returnType = ret ∧ meth.locks = false) → W p l e (ti_rm k mc ms) s m av.toArray below meth c H [] 0 0 Q (F0 m 0 ls [])) : ti_MetM l D E y cc nL ret k mc ms ws av wf val post := by
  intro sz
  refine Met.ofW (cc := cc) (maxL := nL) (ret := ret) hy rfl ?_
  intro p e s m args below meth c s₁ B hml hv
  obtain ⟨rfl, hsz, hE, hP, hD0⟩ := hv
  have hts := atoms_spec (ws := ws_ y cc nL ret) B.pre
  have hl := lv_entry av (n := nL) hn
  rw [lg_entry_eq]
  generalize (lg_sl av ++ List.replicate (nL - (lg_sl av).length) Slot.unset).toArray = ls at hl ⊢
  subst hsz
  have hD := hD0.self (sz := s.heap.size)
  generalize hAe : va_A ws s.heap.size = A at hD ⊢
  have hA : ∀ q : Nat, s.heap.size ≤ q → A q := fun q h => by rw [← hAe]; exact Or.inr h
  refine body p e s m below meth c s.heap s.heap A _ ls ⟨B.exec, B.bytes, hml, findClass_of_methodNamed B.named, fun w h => hts w (List.mem_cons_of_mem _ h)⟩ hE hP hD va_S.rf hA (name_of_methodNamed B.named B.method).1 hl ?_ ⟨rfl, B.returns, B.notSynchronized⟩
  intro g u H locs cells slots hp hP hS h1 h2 kk
  exact W.widen h1 h2 (kk (fun t ht hW => ⟨⟨u, rfl, hp, by rw [ht]; exact hP⟩, hS.F ht⟩) hS.2.2)
/-- the ends -/
def ti_End (p : Program) (l : Launch) (e : Env) (R : Room) (s : State) (m : MethodId) (args : Array Value) (below : List Frame) (meth : Method) (c : Code) (Q : State → Prop) (cc : ByteArray) (D : va_G) (wf : σ → va_W) (val : σ → Option Value) (post : σ → Prop) (A : Nat → Prop) (H0 : Heap) (mc ms : Nat) : Prop :=
  ∀ (u : σ) (H : Heap) (locs : List Loc) (cells slots : Nat), post u → va_P D vwCl (wf u) H → va_S A H0 H locs → cells ≤ mc → slots ≤ ms → ∀ (pc : Nat) (ls : Array Slot) (st : List Value), (match val u with
    | none => decode cc pc = .ok (.return_, 1) ∧ st = []
    | some (.int x) => decode cc pc = .ok (.ireturn, 1) ∧ st = [.int x]
    | some (.long x) => decode cc pc = .ok (.lreturn, 1) ∧ st = [.long x]
    | some v => decode cc pc = .ok (.areturn, 1) ∧ st = [v] ∧ (v = .null ∨ ∃ a, v = .ref a)) → W p l e R s m args below meth c H locs cells slots Q (F0 m pc ls st)
theorem ti_mutV (hy : plainName y.cls = true) (hn : (lg_sl av).length ≤ nL)
    (body : ∀ (p : Program) (e : Env) (s : State) (m : MethodId) (below : List Frame) (meth : Method) (c : Code) (H : Heap) (H0 : Heap) (A : Nat → Prop) (Q : State → Prop) (ls : Array Slot), CallFix p m c cc nL s av.toArray lw_all y.cls → ti_E D E s → va_P D vwCl ws H → va_D A ws → va_S A H0 H [] → (∀ q, H0.size ≤ q → A q) → meth.name = y.name → lv_has ls nL (lv_args 0 av) →
      (∀ (u : σ) (H : Heap) (locs : List Loc) (cells slots : Nat) (pc : Nat) (ls : Array Slot), decode cc pc = .ok (.return_, 1) → post u → va_P D vwCl (wf u) H → va_S A H0 H locs → cells ≤ mc → slots ≤ ms → W p l e (ti_rm k mc ms) s m av.toArray below meth c H locs cells slots Q (F0 m pc ls [])) → W p l e (ti_rm k mc ms) s m av.toArray below meth c H [] 0 0 Q (F0 m 0 ls [])) : ti_MetM l D E y cc nL none k mc ms ws av wf (fun _ => none) post := by
  refine ti_mut hy hn ?_
  intro p e s m below meth c H H0 A Q ls S hE hP hD hS hA hin hl hend hq
  obtain ⟨rfl, hr, hlk⟩ := hq
  refine body p e s m below meth c H H0 A _ ls S hE hP hD hS hA hin hl ?_
  intro u H locs cells slots pc ls hd hp hP hS h1 h2
  exact hend _ u H locs cells slots hp hP hS h1 h2 (fun hq hf => W.vret S.1 S.2.1 hr hq hf hd hlk)
theorem ti_mutI {vi : σ → Int32} (hy : plainName y.cls = true) (hn : (lg_sl av).length ≤ nL)
    (body : ∀ (p : Program) (e : Env) (s : State) (m : MethodId) (below : List Frame) (meth : Method) (c : Code) (H : Heap) (H0 : Heap) (A : Nat → Prop) (Q : State → Prop) (ls : Array Slot), CallFix p m c cc nL s av.toArray lw_all y.cls → ti_E D E s → va_P D vwCl ws H → va_D A ws → va_S A H0 H [] → (∀ q, H0.size ≤ q → A q) → meth.name = y.name → lv_has ls nL (lv_args 0 av) →
      (∀ (u : σ) (H : Heap) (locs : List Loc) (cells slots : Nat) (pc : Nat) (ls : Array Slot) (r : Int32), decode cc pc = .ok (.ireturn, 1) → r = vi u → post u → va_P D vwCl (wf u) H → va_S A H0 H locs → cells ≤ mc → slots ≤ ms → W p l e (ti_rm k mc ms) s m av.toArray below meth c H locs cells slots Q (F0 m pc ls [.int r])) → W p l e (ti_rm k mc ms) s m av.toArray below meth c H [] 0 0 Q (F0 m 0 ls [])) : ti_MetM l D E y cc nL (some .int) k mc ms ws av wf (fun u => some (.int (vi u))) post := by
  refine ti_mut hy hn ?_
  intro p e s m below meth c H H0 A Q ls S hE hP hD hS hA hin hl hend hq
  obtain ⟨rfl, hr, hlk⟩ := hq
  refine body p e s m below meth c H H0 A _ ls S hE hP hD hS hA hin hl ?_
  intro u H locs cells slots pc ls r hd hv hp hP hS h1 h2
  subst hv
  exact hend _ u H locs cells slots hp hP hS h1 h2 (fun hq hf => W.iret S.1 S.2.1 hr hq hf hd hlk)
theorem ti_mutZ {vb : σ → Bool} (hy : plainName y.cls = true) (hn : (lg_sl av).length ≤ nL)
    (body : ∀ (p : Program) (e : Env) (s : State) (m : MethodId) (below : List Frame) (meth : Method) (c : Code) (H : Heap) (H0 : Heap) (A : Nat → Prop) (Q : State → Prop) (ls : Array Slot), CallFix p m c cc nL s av.toArray lw_all y.cls → ti_E D E s → va_P D vwCl ws H → va_D A ws → va_S A H0 H [] → (∀ q, H0.size ≤ q → A q) → meth.name = y.name → lv_has ls nL (lv_args 0 av) →
      (∀ (u : σ) (H : Heap) (locs : List Loc) (cells slots : Nat) (pc : Nat) (ls : Array Slot) (r : Int32), decode cc pc = .ok (.ireturn, 1) → r = ti_b (vb u) → post u → va_P D vwCl (wf u) H → va_S A H0 H locs → cells ≤ mc → slots ≤ ms → W p l e (ti_rm k mc ms) s m av.toArray below meth c H locs cells slots Q (F0 m pc ls [.int r])) → W p l e (ti_rm k mc ms) s m av.toArray below meth c H [] 0 0 Q (F0 m 0 ls [])) : ti_MetM l D E y cc nL (some .boolean) k mc ms ws av wf (fun u => some (.int (ti_b (vb u)))) post := by
  refine ti_mut hy hn ?_
  intro p e s m below meth c H H0 A Q ls S hE hP hD hS hA hin hl hend hq
  obtain ⟨rfl, hr, hlk⟩ := hq
  refine body p e s m below meth c H H0 A _ ls S hE hP hD hS hA hin hl ?_
  intro u H locs cells slots pc ls r hd hv hp hP hS h1 h2
  subst hv
  exact hend _ u H locs cells slots hp hP hS h1 h2 (fun hq hf => W.zret S.1 S.2.1 hr (ti_b_nar _) hq hf hd hlk)
theorem ti_mutJ {vi : σ → Int64} (hy : plainName y.cls = true) (hn : (lg_sl av).length ≤ nL)
    (body : ∀ (p : Program) (e : Env) (s : State) (m : MethodId) (below : List Frame) (meth : Method) (c : Code) (H : Heap) (H0 : Heap) (A : Nat → Prop) (Q : State → Prop) (ls : Array Slot), CallFix p m c cc nL s av.toArray lw_all y.cls → ti_E D E s → va_P D vwCl ws H → va_D A ws → va_S A H0 H [] → (∀ q, H0.size ≤ q → A q) → meth.name = y.name → lv_has ls nL (lv_args 0 av) →
      (∀ (u : σ) (H : Heap) (locs : List Loc) (cells slots : Nat) (pc : Nat) (ls : Array Slot) (r : Int64), decode cc pc = .ok (.lreturn, 1) → r = vi u → post u → va_P D vwCl (wf u) H → va_S A H0 H locs → cells ≤ mc → slots ≤ ms → W p l e (ti_rm k mc ms) s m av.toArray below meth c H locs cells slots Q (F0 m pc ls [.long r])) → W p l e (ti_rm k mc ms) s m av.toArray below meth c H [] 0 0 Q (F0 m 0 ls [])) : ti_MetM l D E y cc nL (some .long) k mc ms ws av wf (fun u => some (.long (vi u))) post := by
  refine ti_mut hy hn ?_
  intro p e s m below meth c H H0 A Q ls S hE hP hD hS hA hin hl hend hq
  obtain ⟨rfl, hr, hlk⟩ := hq
  refine body p e s m below meth c H H0 A _ ls S hE hP hD hS hA hin hl ?_
  intro u H locs cells slots pc ls r hd hv hp hP hS h1 h2
  subst hv
  exact hend _ u H locs cells slots hp hP hS h1 h2 (fun hq hf => W.lret S.1 S.2.1 hr hq hf hd hlk)
theorem ti_mutA {va : σ → Nat} {C : String} (hy : plainName y.cls = true) (hn : (lg_sl av).length ≤ nL)
    (body : ∀ (p : Program) (e : Env) (s : State) (m : MethodId) (below : List Frame) (meth : Method) (c : Code) (H : Heap) (H0 : Heap) (A : Nat → Prop) (Q : State → Prop) (ls : Array Slot), CallFix p m c cc nL s av.toArray lw_all y.cls → ti_E D E s → va_P D vwCl ws H → va_D A ws → va_S A H0 H [] → (∀ q, H0.size ≤ q → A q) → meth.name = y.name → lv_has ls nL (lv_args 0 av) →
      (∀ (u : σ) (H : Heap) (locs : List Loc) (cells slots : Nat) (pc : Nat) (ls : Array Slot) (r : Nat), decode cc pc = .ok (.areturn, 1) → r = va u → post u → va_P D vwCl (wf u) H → va_S A H0 H locs → cells ≤ mc → slots ≤ ms → W p l e (ti_rm k mc ms) s m av.toArray below meth c H locs cells slots Q (F0 m pc ls [.ref r])) → W p l e (ti_rm k mc ms) s m av.toArray below meth c H [] 0 0 Q (F0 m 0 ls [])) : ti_MetM l D E y cc nL (some (.object C)) k mc ms ws av wf (fun u => some (.ref (va u))) post := by
  refine ti_mut hy hn ?_
  intro p e s m below meth c H H0 A Q ls S hE hP hD hS hA hin hl hend hq
  obtain ⟨rfl, hr, hlk⟩ := hq
  refine body p e s m below meth c H H0 A _ ls S hE hP hD hS hA hin hl ?_
  intro u H locs cells slots pc ls r hd hv hp hP hS h1 h2
  subst hv
  exact hend _ u H locs cells slots hp hP hS h1 h2 (fun hq hf => W.aret S.1 S.2.1 hr (Or.inl ⟨C, rfl⟩) (Or.inr ⟨_, rfl⟩) hq hf hd hlk)
end TMA
/-- cells put at their places -/
def ti_sets : va_W → List Nat → va_W → va_W
  | ws, i :: is, x :: xs => ti_sets (ws.set i x) is xs
  | ws, _, _ => ws
theorem ti_sets_addr : ∀ (is : List Nat) (ws xs : va_W), (∀ (k i : Nat) (x : Nat × va_E), is[k]? = some i → xs[k]? = some x → ∃ e, ws[i]? = some (x.1, e)) → (ti_sets ws is xs).map (·.1) = ws.map (·.1)
  | [], ws, xs, _ => by cases xs <;> rfl
  | i :: is, ws, [], _ => rfl
  | i :: is, ws, x :: xs, h => by
    obtain ⟨e, he⟩ := h 0 i x rfl rfl
    have hm : (ws.set i x).map (·.1) = ws.map (·.1) := by
      apply List.ext_getElem?
      intro j
      rw [List.getElem?_map, List.getElem?_map, List.getElem?_set]
      by_cases hj : i = j
      · subst hj
        have hlt := (List.getElem?_eq_some_iff.mp he).1
        rw [if_pos rfl, if_pos hlt, he]
        rfl
      · rw [if_neg hj]
    show (ti_sets (ws.set i x) is xs).map (·.1) = _
    rw [ti_sets_addr is (ws.set i x) xs, hm]
    intro k i' x' h1 h2
    obtain ⟨e', he'⟩ := h (k + 1) i' x' h1 h2
    rw [List.getElem?_set]
    by_cases hj : i = i'
    · subst hj
      have hlt := (List.getElem?_eq_some_iff.mp he).1
      rw [if_pos rfl, if_pos hlt]
      rw [he] at he'
      have h3 := Option.some.inj he'
      exact ⟨x.2, by rw [← (Prod.mk.inj h3).1]⟩
    · rw [if_neg hj]
      exact ⟨e', he'⟩
theorem ti_sets_at : ∀ (is : List Nat) (ws xs : va_W), is.length = xs.length → ∀ (j : Nat) (q : Nat × va_E), (ti_sets ws is xs)[j]? = some q → q ∈ xs ∨ (ws[j]? = some q ∧ j ∉ is)
  | [], ws, xs, hl, j, q, h => by
    cases xs with
    | nil => exact Or.inr ⟨h, List.not_mem_nil⟩
    | cons x xs => simp at hl
  | i :: is, ws, [], hl, j, q, h => by simp at hl
  | i :: is, ws, x :: xs, hl, j, q, h => by
    rcases ti_sets_at is (ws.set i x) xs (by simpa using hl) j q h with h1 | ⟨h1, h2⟩
    · exact Or.inl (List.mem_cons_of_mem _ h1)
    · rw [List.getElem?_set] at h1
      by_cases hj : i = j
      · subst hj
        by_cases hlt : i < ws.length
        · rw [if_pos rfl, if_pos hlt] at h1
          exact Or.inl (by rw [← Option.some.inj h1]; exact List.mem_cons_self)
        · rw [if_pos rfl, if_neg hlt] at h1
          cases h1
      · rw [if_neg hj] at h1
        refine Or.inr ⟨h1, fun hm => ?_⟩
        rcases List.mem_cons.mp hm with h3 | h3
        · exact hj h3.symm
        · exact h2 h3
theorem ti_at {ws : va_W} {is : List Nat} {w : va_W} (hs : is.map (fun i => ws[i]?) = w.map some) (k : Nat) (q : Nat × va_E) (hq : w[k]? = some q) : ∃ i, is[k]? = some i ∧ ws[i]? = some q := by
  have h1 : (is.map (fun i => ws[i]?))[k]? = some (some q) := by rw [hs, List.getElem?_map, hq]; rfl
  rw [List.getElem?_map] at h1
  cases hi : is[k]? with
  | none => rw [hi] at h1; cases h1
  | some i => rw [hi] at h1; exact ⟨i, rfl, Option.some.inj h1⟩
theorem ti_D_addr {A : Nat → Prop} {ws ws' : va_W} (hD : va_D A ws) (h : ws'.map (·.1) = ws.map (·.1)) : va_D A ws' := by
  have at' : ∀ (i : Nat) (p : Nat × va_E), ws'[i]? = some p → ∃ p0, ws[i]? = some p0 ∧ p0.1 = p.1 := by
    intro i p hp
    have h1 : (ws'.map (·.1))[i]? = some p.1 := by rw [List.getElem?_map, hp]; rfl
    rw [h, List.getElem?_map] at h1
    cases hw : ws[i]? with
    | none => rw [hw] at h1; cases h1
    | some p0 => rw [hw] at h1; exact ⟨p0, rfl, Option.some.inj h1⟩
  refine ⟨fun i j p q hp hq e => ?_, fun k q hq => ?_⟩
  · obtain ⟨p0, h1, e1⟩ := at' i p hp
    obtain ⟨q0, h2, e2⟩ := at' j q hq
    exact hD.1 i j p0 q0 h1 h2 (by rw [e1, e2, e])
  · obtain ⟨q0, h2, e2⟩ := at' k q hq
    rw [← e2]
    exact hD.2 k q0 h2
/-- behind a call: the callee's cells at their places, the others as they were -/
theorem ti_back {A : Nat → Prop} {D : va_G} {cl : List vw_C} {ws wc w1 : va_W} {H H1 : Heap} (hP : va_P D cl ws H) (hD : va_D A ws) (isC : List Nat) (hC : isC.map (fun i => ws[i]?) = wc.map some) (ha : w1.map (·.1) = wc.map (·.1))
    (hk : ∀ q : Nat, q < H.size → ¬ va_A wc H.size q → H1[q]? = H[q]?) (hP1 : va_P D cl w1 H1) : va_P D cl (ti_sets ws isC w1) H1 ∧ va_D A (ti_sets ws isC w1) := by
  have hlen : isC.length = w1.length := by
    have h1 := congrArg List.length hC
    have h2 := congrArg List.length ha
    simp only [List.length_map] at h1 h2
    omega
  refine ⟨fun j q hq => ?_, ti_D_addr hD (ti_sets_addr isC ws w1 ?_)⟩
  · rcases ti_sets_at isC ws w1 hlen j q hq with h | ⟨h1, h2⟩
    · obtain ⟨k, hk1⟩ := List.getElem?_of_mem h
      exact hP1 k q hk1
    · have hl := (hP j q h1).lt
      refine (hP j q h1).kept (hk q.1 hl fun hA => ?_)
      rcases hA with ⟨k, e, hk2⟩ | h3
      · obtain ⟨i, hi, hw⟩ := ti_at hC k (q.1, e) hk2
        have hij := hD.1 j i q (q.1, e) h1 hw rfl
        subst hij
        exact h2 (List.mem_of_getElem? hi)
      · omega
  · intro k i x h1 h2
    have h3 : (w1.map (·.1))[k]? = some x.1 := by rw [List.getElem?_map, h2]; rfl
    rw [ha, List.getElem?_map] at h3
    cases hw : wc[k]? with
    | none => rw [hw] at h3; cases h3
    | some q =>
      rw [hw] at h3
      obtain ⟨i', hi', hw'⟩ := ti_at hC k q hw
      rw [h1] at hi'
      obtain rfl := Option.some.inj hi'
      exact ⟨q.2, by rw [hw', ← Option.some.inj h3]⟩
section TMB
variable {σ : Type} {p : Program} {l : Launch} {e : Env} {R : Room} {s : State} {m : MethodId} {args : Array Value} {below : List Frame} {meth : Method} {c : Code} {H H0 : Heap} {locs : List Loc} {cells slots : Nat} {Q : State → Prop}
variable {D : va_G} {E : Nat → ClassId} {y : MethodName} {bytes cc : ByteArray} {maxL nL k mc ms n index : Nat} {ret : Option FieldType} {wc ws : va_W} {As rest : List Value} {b pc : Nat} {ls : Array Slot} {st0 : List Value} {own host C : String} {A : Nat → Prop} {wf : σ → va_W} {val : σ → Option Value} {post : σ → Prop}
theorem ti_callM {a : Array Value} (hr : va_Run p l e R s m args below meth c H locs cells slots mc ms (F0 m pc ls st0) rest (ti_Q D wf val post (va_A wc H.size) a) (va_A wc H.size)) (hP : va_P D vwCl ws H) (hD : va_D A ws) (hS : va_S A H0 H locs) (hA : ∀ q, H0.size ≤ q → A q) (isC : List Nat) (hC : isC.map (fun i => ws[i]?) = wc.map some) (hwf : ∀ u, (wf u).map (·.1) = wc.map (·.1))
    (kk : ∀ (u : σ) (H : Heap) (locs : List Loc), post u → va_P D vwCl (ti_sets ws isC (wf u)) H → va_D A (ti_sets ws isC (wf u)) → va_S A H0 H locs → W p l e R s m args below meth c H locs (cells + mc) (slots + ms) Q (F0 m (pc + 3) ls ((val u).toList ++ rest))) : W p l e R s m args below meth c H locs cells slots Q (F0 m pc ls st0) := by
  intro T hT X
  obtain ⟨v, st₀, t, T', L, h0, X', hL, e1, e2, ⟨⟨u, hv, hp, hb⟩, hz, hk⟩, st⟩ := hr T hT X
  cases hv
  rw [h0] at hz hk
  have hF := va_free hD hS hA isC hC
  obtain ⟨g1, g2⟩ := ti_back hP hD isC hC (hwf u) hk hb
  obtain ⟨t2, a1, b1⟩ := kk u T'.heap (locs ++ L) hp (by rw [e1]; exact g1) g2
    ⟨Nat.le_trans hS.1 (by rw [e1]; exact hz), fun q h1 h2 => by rw [e1, hk q (Nat.lt_of_lt_of_le h1 hS.1) (fun z => h2 (hF q z))]; exact hS.2.1 q h1 h2, fun q hq => by
      rcases List.mem_append.mp hq with h | h
      · exact hS.2.2 q h
      · exact hF _ (hL q h)⟩ T' rfl X'
  exact ⟨t2, st t2 a1, b1⟩
theorem ti_preM (hE : ti_E D E s) (hP : va_P D vwCl wc H) (hD : va_D A wc) : PreS s H (va_Pc As (fun U => U.heap.size = H.size ∧ ti_E D E U ∧ va_P D vwCl wc U.heap ∧ va_D (fun _ => True) wc)) As :=
  ⟨fun a U g mk q => ⟨q.1, q.2.1, q.2.2.1.calling g mk a, q.2.2.2.1, q.2.2.2.2⟩, fun U hU hW => ⟨rfl, by rw [hU], hE.moved hW, by rw [hU]; exact hP, hD.weaken (fun _ _ _ _ => trivial)⟩⟩
theorem ti_subC {w : va_W} {is : List Nat} (hC : is.map (fun i => ws[i]?) = w.map some) (hP : va_P D vwCl ws H) : va_P D vwCl w H := fun k q hq => by
  obtain ⟨i, -, hi⟩ := ti_at hC k q hq
  exact hP i q hi
theorem ti_mV (S : CallFix p m c cc nL s args lw_all own) (hE : ti_E D E s) (hP : va_P D vwCl ws H) (hD : va_D A ws) (hS : va_S A H0 H locs) (hA : ∀ q, H0.size ≤ q → A q) (isC : List Nat) (hn : va_nd isC = true) (hM : ti_MetM l D E y bytes maxL ret k mc ms wc (.ref b :: As) wf val post) (hC : isC.map (fun i => ws[i]?) = wc.map some) (hwf : ∀ u, (wf u).map (·.1) = wc.map (·.1))
    (hg : GoodIn lw_all (wsV own index C y (ws_ y bytes maxL ret))) (na : Nat) (hna : As.length = na) (q0 : Nat) {ci : Nat} {fs : List Value} (hb : ws[q0]? = some (b, .inr (ci, fs))) {T : u_T} {N : Nat} (hc : vwCl[ci]? = some (C, T, N))
    (hd : y.cls = C ∧ y.cls ≠ "java/lang/invoke/MethodHandle" ∧ y.cls ≠ "java/lang/invoke/VarHandle" ∧ (parseMethodDescriptor y.desc).map (fun d => d.parameters.length) = some na) (hR : k + 1 ≤ R.frames ∧ 8 + (maxL + 11) + 64 * k ≤ R.locals)
    (hsz : ls.size = nL) (hst : st0 = As.reverse ++ .ref b :: rest) (hW : (rest.map fun v => v.category).sum ≤ 8) (hcs : cells + mc ≤ R.cells ∧ slots + ms ≤ R.slots) (hdg : decode cc pc = .ok (.invokevirtual index, 3))
    (kk : ∀ (u : σ) (H : Heap) (locs : List Loc), post u → va_P D vwCl (ti_sets ws isC (wf u)) H → va_D A (ti_sets ws isC (wf u)) → va_S A H0 H locs → W p l e R s m args below meth c H locs (cells + mc) (slots + ms) Q (F0 m (pc + 3) ls ((val u).toList ++ rest))) : W p l e R s m args below meth c H locs cells slots Q (F0 m pc ls st0) := by
  have hr := va_recv hE.1 hP (ci := ci) (q0 := q0) (q := (C, T, N)) hc hb
  have hp := ti_preM (As := .ref b :: As) hE (ti_subC hC hP) (hD.sub isC hn hC)
  exact ti_callM (va_runV S (hM H.size) (cwV na S.2.2.2.2 hg rfl rfl rfl hd hR) ⟨hp.1, hr, hp.2⟩ rfl hna hsz hst (lv_room hW) hdg hcs) hP hD hS hA isC hC hwf kk
theorem ti_mS (S : CallFix p m c cc nL s args lw_all own) (hE : ti_E D E s) (hP : va_P D vwCl ws H) (hD : va_D A ws) (hS : va_S A H0 H locs) (hA : ∀ q, H0.size ≤ q → A q) (isC : List Nat) (hn : va_nd isC = true) (hM : ti_MetM l D E y bytes maxL ret k mc ms wc As wf val post) (hC : isC.map (fun i => ws[i]?) = wc.map some) (hwf : ∀ u, (wf u).map (·.1) = wc.map (·.1))
    (hg : GoodIn lw_all (va_wsS own index y (ws_ y bytes maxL ret))) (na : Nat) (hna : As.length = na)
    (hd : y.cls ≠ "java/lang/invoke/MethodHandle" ∧ y.cls ≠ "java/lang/invoke/VarHandle" ∧ (parseMethodDescriptor y.desc).map (fun d => d.parameters.length) = some na) (hR : k + 1 ≤ R.frames ∧ 8 + (maxL + 11) + 64 * k ≤ R.locals)
    (hsz : ls.size = nL) (hst : st0 = As.reverse ++ rest) (hW : (rest.map fun v => v.category).sum ≤ 8) (hcs : cells + mc ≤ R.cells ∧ slots + ms ≤ R.slots) (hdg : decode cc pc = .ok (.invokestatic index, 3))
    (kk : ∀ (u : σ) (H : Heap) (locs : List Loc), post u → va_P D vwCl (ti_sets ws isC (wf u)) H → va_D A (ti_sets ws isC (wf u)) → va_S A H0 H locs → W p l e R s m args below meth c H locs (cells + mc) (slots + ms) Q (F0 m (pc + 3) ls ((val u).toList ++ rest))) : W p l e R s m args below meth c H locs cells slots Q (F0 m pc ls st0) :=
  ti_callM (va_runS S (hM H.size) (va_cwS na S.2.2.2.2 hg rfl rfl rfl hd hR) (ti_preM hE (ti_subC hC hP) (hD.sub isC hn hC)) rfl hna hsz hst (lv_room hW) hdg hcs) hP hD hS hA isC hC hwf kk
/-- a constructor -/
theorem ti_mI (S : CallFix p m c cc nL s args lw_all own) (hE : ti_E D E s) (hP : va_P D vwCl ws H) (hD : va_D A ws) (hS : va_S A H0 H locs) (hA : ∀ q, H0.size ≤ q → A q) (isC : List Nat) (hn : va_nd isC = true) (hM : ti_MetM l D E y bytes maxL none k mc ms wc (.ref b :: As) wf val post) (hC : isC.map (fun i => ws[i]?) = wc.map some) (hwf : ∀ u, (wf u).map (·.1) = wc.map (·.1))
    (hg : GoodIn lw_all (ws_ y bytes maxL none)) (hini : Cond.initialized y.cls ∈ lw_all) (hlk : Cond.methodLink own index y ∈ lw_all) (hinst : Cond.instanceMethod y ∈ lw_all) (hy1 : y.name = "<init>") (na : Nat) (hna : As.length = na)
    (hd : y.cls ≠ "java/lang/invoke/MethodHandle" ∧ y.cls ≠ "java/lang/invoke/VarHandle" ∧ (parseMethodDescriptor y.desc).map (fun d => d.parameters.length) = some na) (hR : k + 1 ≤ R.frames ∧ 8 + (maxL + 11) + 64 * k ≤ R.locals)
    (hsz : ls.size = nL) (hst : st0 = As.reverse ++ .ref b :: rest) (hW : (rest.map fun v => v.category).sum ≤ 8) (hcs : cells + mc ≤ R.cells ∧ slots + ms ≤ R.slots) (hdg : decode cc pc = .ok (.invokespecial index, 3))
    (kk : ∀ (u : σ) (H : Heap) (locs : List Loc), post u → va_P D vwCl (ti_sets ws isC (wf u)) H → va_D A (ti_sets ws isC (wf u)) → va_S A H0 H locs → W p l e R s m args below meth c H locs (cells + mc) (slots + ms) Q (F0 m (pc + 3) ls ((val u).toList ++ rest))) : W p l e R s m args below meth c H locs cells slots Q (F0 m pc ls st0) :=
  ti_callM (va_runI S (hM H.size) (cwI na S.2.2.2.2 hg rfl rfl rfl (S.2.2.2.2 _ hini) (S.2.2.2.2 _ hlk) (S.2.2.2.2 _ hinst) hy1 hd hR) (ti_preM hE (ti_subC hC hP) (hD.sub isC hn hC)) rfl hna hsz hst (lv_room hW) hdg hcs) hP hD hS hA isC hC hwf kk
end TMB
/-- an array's cell is what its places hold -/
theorem ti_cell_ext {cA : ClassId} {N : Nat} {f g : Nat → Int32} (h : ∀ j, j < N → f j = g j) : vp_cell cA (N, .inl f) = vp_cell cA (N, .inl g) := by
  show arrV cA N (fun j => .int (f j)) = arrV cA N (fun j => .int (g j))
  unfold arrV
  congr 1
  apply Array.ext
  · simp
  · intro i h1 h2
    simp at h1
    simp [h i h1]
theorem ti_P_ext {D : va_G} {cl : List vw_C} {ws : va_W} {q a : Nat} {cA : ClassId} {N : Nat} {f g : Nat → Int32} {H : Heap} (h : ∀ j, j < N → f j = g j) (hP : va_P D cl (ws.set q (a, .inl (cA, N, .inl f))) H) : va_P D cl (ws.set q (a, .inl (cA, N, .inl g))) H := by
  intro k x hk
  rw [List.getElem?_set] at hk
  by_cases hq : q = k
  · subst hq
    by_cases hl : q < ws.length
    · rw [if_pos rfl, if_pos hl] at hk
      cases hk
      have h1 := hP q (a, .inl (cA, N, .inl f)) (by rw [List.getElem?_set, if_pos rfl, if_pos hl])
      show H[a]? = some (vp_cell _ _)
      rw [← ti_cell_ext h]
      exact h1
    · rw [if_pos rfl, if_neg hl] at hk
      cases hk
  · rw [if_neg hq] at hk
    exact hP k x (by rw [List.getElem?_set, if_neg hq]; exact hk)
theorem ti_D_ext {A : Nat → Prop} {ws : va_W} {q a : Nat} {e e' : va_E} (hD : va_D A (ws.set q (a, e))) : va_D A (ws.set q (a, e')) := by
  refine ti_D_addr hD ?_
  apply List.ext_getElem?
  intro j
  rw [List.getElem?_map, List.getElem?_map, List.getElem?_set, List.getElem?_set]
  by_cases hq : q = j
  · subst hq
    by_cases hl : q < ws.length
    · simp [hl]
    · simp [hl]
  · simp [hq]
theorem ti_set_self {ws : va_W} {q : Nat} {x : Nat × va_E} (h : ws[q]? = some x) : ws.set q x = ws := by
  apply List.ext_getElem?
  intro j
  rw [List.getElem?_set]
  by_cases hj : q = j
  · subst hj
    rw [if_pos rfl, if_pos (List.getElem?_eq_some_iff.mp h).1, h]
  · rw [if_neg hj]
/-- an array's contents told by another row that is alike -/
theorem ti_P_rep {D : va_G} {cl : List vw_C} {ws : va_W} {a : Nat} {cA : ClassId} {N : Nat} {f g : Nat → Int32} {H : Heap} (hP : va_P D cl ws H) (q : Nat) (hq : ws[q]? = some (a, .inl (cA, N, .inl f))) (h : ∀ j, j < N → f j = g j) : va_P D cl (ws.set q (a, .inl (cA, N, .inl g))) H :=
  ti_P_ext h (by rw [ti_set_self hq]; exact hP)
theorem ti_D_rep {A : Nat → Prop} {ws : va_W} {q a : Nat} {e e' : va_E} (hD : va_D A ws) (hq : ws[q]? = some (a, e')) : va_D A (ws.set q (a, e)) :=
  ti_D_ext (e := e') (by rw [ti_set_self hq]; exact hD)
section TMC
variable {p : Program} {l : Launch} {e : Env} {R : Room} {s : State} {m : MethodId} {args : Array Value} {below : List Frame} {meth : Method} {c : Code} {H H0 : Heap} {locs : List Loc} {cells slots : Nat} {Q : State → Prop}
variable {D : va_G} {E : Nat → ClassId} {cc : ByteArray} {nL index : Nat} {ws : va_W} {rest : List Value} {a a0 pc N : Nat} {ls : Array Slot} {own : String} {A : Nat → Prop}
/-- a whole array of ints copied onto another of its length -/
theorem tn_copyA (S : CallFix p m c cc nL s args lw_all own) (hE : ti_E D E s) (hP : va_P D vwCl ws H) (hD : va_D A ws) (hS : va_S A H0 H locs) (hsz : ls.size = nL) (q0 q1 : Nat) {f g : Nat → Nat} (ha0 : ws[q0]? = some (a0, .inl (E 0, N, .inl (ti_n f)))) (ha1 : ws[q1]? = some (a, .inl (E 0, N, .inl (ti_n g)))) (hN : N < 2 ^ 31)
    (hlink : Cond.methodLink own index arraycopyName ∈ lw_all) (hf : 1 ≤ R.frames) (hlo : (rest.map fun v => v.category).sum + (nativeFrameWords "java/lang/System" "arraycopy" 5 + 11) ≤ R.locals) (hdg : decode cc pc = .ok (.invokestatic index, 3))
    (kk : ∀ (H : Heap) (locs : List Loc), va_P D vwCl (ws.set q1 (a, .inl (E 0, N, .inl (ti_n f)))) H → va_D A (ws.set q1 (a, .inl (E 0, N, .inl (ti_n f)))) → va_S A H0 H locs → W p l e R s m args below meth c H locs cells slots Q (F0 m (pc + 3) ls rest)) : W p l e R s m args below meth c H locs cells slots Q (F0 m pc ls (.int (nI N) :: .int (nI 0) :: .ref a :: .int (nI 0) :: .ref a0 :: rest)) := by
  have hz : (nI 0).toNatClampNeg = 0 := nI_clamp (by decide)
  refine va_copyi S.1 S.2.1 (by rw [S.2.2.1, hsz]) S.2.2.2.1 (S.2.2.2.2 _ hlink) (S.2.2.2.2 _ q322) (S.2.2.2.2 _ q321) (S.2.2.2.2 _ q74) hE.1 hP hD hS q0 q1 0 0 ha0 ha1 rfl rfl rfl (nI_pos (by decide)) (nI_pos (by decide)) (nI_pos hN) (by rw [hz, nI_clamp hN]; omega) (by rw [hz, nI_clamp hN]; omega) (fun _ _ => rfl) hf hlo hdg ?_
  intro H1 locs1 hP1 hD1 hS1
  rw [hz, nI_clamp hN] at hP1 hD1
  refine kk H1 locs1 (ti_P_ext (fun j hj => ?_) hP1) (ti_D_ext hD1) hS1
  rw [pk_cpy_in (Nat.zero_le _) (by omega)]
  simp
end TMC
