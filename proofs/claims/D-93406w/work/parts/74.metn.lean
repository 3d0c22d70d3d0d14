/-! contracts of methods that make cells (ti_MetN), and that may throw besides (ti_MetY); arrays made -/
set_option maxRecDepth 100000
theorem ti_RA_eq {U : State} {cA cB : ClassId} {ty : FieldType} (h1 : va_RA U cA ty) (h2 : va_RA U cB ty) : cA = cB := by
  cases ty with
  | object C =>
    obtain ⟨_, _, _, _, _, a4⟩ := h1
    obtain ⟨_, _, _, _, _, b4⟩ := h2
    exact Option.some.inj (a4.symm.trans b4)
  | _ => exact Option.some.inj ((show U.vm.findClass _ = some cA from h1).symm.trans h2)
section TNM
variable {p : Program} {l : Launch} {e : Env} {R : Room} {s : State} {m : MethodId} {args : Array Value} {below : List Frame} {meth : Method} {c : Code} {H H0 : Heap} {locs : List Loc} {cells slots : Nat} {Q : State → Prop}
variable {D : va_G} {cc : ByteArray} {pc index : Nat} {ls : Array Slot} {rest : List Value} {ws : va_W} {A : Nat → Prop} {own : String} {tys : List (ClassId × FieldType)}
/-- 'newarray': where it lies is told, and its class by its place in the table -/
theorem ti_newaM (hexec : p.tables.exec = Jvm.exec) (hb : c.code = cc) (atype : ArrayType) (harr : (Cond.arrayClass (newarray.typeOf atype)).before args s = true) (hK : va_K D vwCl tys s) (hP : va_P D vwCl ws H) (hD : va_D A ws) (hS : va_S A H0 H locs) (hA : ∀ q, H0.size ≤ q → A q) (t0 : Nat) {cA : ClassId} (ht : tys[t0]? = some (cA, newarray.typeOf atype))
    {n : Int32} {N' : Nat} {a0 : vp_A} (ha : vp_cell cA a0 = arrV cA N' (fun _ => defaultValue (newarray.typeOf atype))) (hn : ¬ n < 0) (hN : n.toNatClampNeg = N') (hbytes : N' * componentBytes (newarray.typeOf atype) ≤ 536870912) (hcells : cells + 1 ≤ R.cells) (hslots : slots + N' ≤ R.slots) (hdg : decode cc pc = .ok (.newarray atype, 2))
    (kk : ∀ (q : Nat) (H1 : Heap), q = H.size → H1.size = H.size + 1 → (∀ z : Nat, z < H.size → H1[z]? = H[z]?) → va_P D vwCl (ws ++ [(q, .inl (cA, a0))]) H1 → va_D A (ws ++ [(q, .inl (cA, a0))]) → va_S A H0 H1 locs →
      W p l e R s m args below meth c H1 locs (cells + 1) (slots + N') Q (F0 m (pc + 2) ls (.ref q :: rest))) : W p l e R s m args below meth c H locs cells slots Q (F0 m pc ls (.int n :: rest)) := by
  refine va_newaK hexec hb harr rfl hdg rfl hn hN hbytes hcells hslots rfl fun H1 cB e1 z1 o1 hAr hNm => ?_
  have hk : ∀ (k : Nat) (x : Nat × va_E), ws[k]? = some x → H1[x.1]? = H[x.1]? := fun k x hx => o1 x.1 ((hP k x hx).lt)
  have hRB : va_RA s cB (newarray.typeOf atype) := by cases atype <;> exact hNm
  have hcc : cB = cA := ti_RA_eq hRB (hK.2 t0 _ ht).2
  subst hcc
  refine kk H.size H1 rfl z1 o1 ((hP.kept hk).app (fun k x hx => ?_)) (hD.push hP rfl (hA _ hS.1)) ⟨Nat.le_trans hS.1 (by omega), fun x h1 h2 => (o1 x (Nat.lt_of_lt_of_le h1 hS.1)).trans (hS.2.1 x h1 h2), hS.2.2⟩
  have hz : k < 1 := (List.getElem?_eq_some_iff.mp hx).1
  rw [show k = 0 by omega] at hx
  cases hx
  show H1[H.size]? = some (vp_cell _ _)
  rw [ha]
  exact e1
/-- 'anewarray' -/
theorem ti_newqM (hexec : p.tables.exec = Jvm.exec) (hb : c.code = cc) {C : String} (hown : s.vm.findClass own = some m.cls) (hclink : (Cond.classLink own index C).before args s = true) (hover : va_Nw (.arrayOver (.object C)) s) (hK : va_K D vwCl tys s) (hP : va_P D vwCl ws H) (hD : va_D A ws) (hS : va_S A H0 H locs) (hA : ∀ q, H0.size ≤ q → A q) (t0 : Nat) {cA : ClassId} (ht : tys[t0]? = some (cA, .object C))
    {n : Int32} {N' : Nat} (hn : ¬ n < 0) (hN : n.toNatClampNeg = N') (hbytes : N' * 4 ≤ 536870912) (hcells : cells + 1 ≤ R.cells) (hslots : slots + N' ≤ R.slots) (hdg : decode cc pc = .ok (.anewarray index, 3))
    (kk : ∀ (q : Nat) (H1 : Heap), q = H.size → H1.size = H.size + 1 → (∀ z : Nat, z < H.size → H1[z]? = H[z]?) → va_P D vwCl (ws ++ [(q, .inl (cA, N', .inr (.inr (.inr (.inr (fun _ => none))))))]) H1 → va_D A (ws ++ [(q, .inl (cA, N', .inr (.inr (.inr (.inr (fun _ => none))))))]) → va_S A H0 H1 locs →
      W p l e R s m args below meth c H1 locs (cells + 1) (slots + N') Q (F0 m (pc + 3) ls (.ref q :: rest))) : W p l e R s m args below meth c H locs cells slots Q (F0 m pc ls (.int n :: rest)) := by
  subst hN
  refine W.anew hexec hb hown hclink (va_AO.use hover) rfl hdg rfl hn hbytes hcells hslots fun cB kB comp f1 f2 f3 f4 => ?_
  have hcc : cB = cA := ti_RA_eq (show va_RA s cB (.object C) from ⟨kB, comp, f2, f3, f4, f1⟩) (hK.2 t0 _ ht).2
  subst hcc
  generalize hH1 : H.push ({ cls := cB, slots := Array.replicate n.toNatClampNeg .null, vm := .none } : Cell) = H1
  have z1 : H1.size = H.size + 1 := by rw [← hH1, Array.size_push]
  have e1 : H1[H.size]? = some (arrV cB n.toNatClampNeg (fun _ => .null)) := by rw [← hH1, Array.getElem?_push_size, ← arrV_new]
  have o1 : ∀ q : Nat, q < H.size → H1[q]? = H[q]? := fun q hq => by rw [← hH1, Array.getElem?_push, if_neg (Nat.ne_of_lt hq)]
  have hk : ∀ (k : Nat) (x : Nat × va_E), ws[k]? = some x → H1[x.1]? = H[x.1]? := fun k x hx => o1 x.1 ((hP k x hx).lt)
  refine kk H.size H1 rfl z1 o1 ((hP.kept hk).app (fun k x hx => ?_)) (hD.push hP rfl (hA _ hS.1)) ⟨Nat.le_trans hS.1 (by omega), fun x h1 h2 => (o1 x (Nat.lt_of_lt_of_le h1 hS.1)).trans (hS.2.1 x h1 h2), hS.2.2⟩
  have hz : k < 1 := (List.getElem?_eq_some_iff.mp hx).1
  rw [show k = 0 by omega] at hx
  cases hx
  show H1[H.size]? = some (vp_cell _ _)
  rw [vp_cell_q]
  exact e1
end TNM
/-- cells that are new -/
def ti_nu (sz : Nat) (w : va_W) : Prop := ∀ (k : Nat) (z : Nat × va_E), w[k]? = some z → sz ≤ z.1
theorem ti_nu0 {sz : Nat} : ti_nu sz [] := fun k z h => by cases h
theorem ti_nu1 {sz a : Nat} {e : va_E} {w : va_W} (h : sz ≤ a) (hw : ti_nu sz w) : ti_nu sz ((a, e) :: w) := fun k z hz => by
  cases k with
  | zero => cases hz; exact h
  | succ k => exact hw k z hz
theorem ti_nu_le {sz sz' : Nat} {w : va_W} (h : sz' ≤ sz) (hw : ti_nu sz w) : ti_nu sz' w := fun k z hz => Nat.le_trans h (hw k z hz)
theorem ti_nu_app {sz : Nat} {w1 w2 : va_W} (h1 : ti_nu sz w1) (h2 : ti_nu sz w2) : ti_nu sz (w1 ++ w2) := fun k z hz => by
  rcases List.mem_append.mp (List.mem_of_getElem? hz) with h | h
  · obtain ⟨i, hi⟩ := List.getElem?_of_mem h
    exact h1 i z hi
  · obtain ⟨i, hi⟩ := List.getElem?_of_mem h
    exact h2 i z hi
theorem ti_P_l {D : va_G} {cl : List vw_C} {w1 w2 : va_W} {H : Heap} (h : va_P D cl (w1 ++ w2) H) : va_P D cl w1 H := fun k q hk => h k q (by rw [List.getElem?_append_left (List.getElem?_eq_some_iff.mp hk).1]; exact hk)
theorem ti_P_r {D : va_G} {cl : List vw_C} {w1 w2 : va_W} {H : Heap} (h : va_P D cl (w1 ++ w2) H) : va_P D cl w2 H := fun k q hk => h (w1.length + k) q (by rw [List.getElem?_append_right (by omega), Nat.add_sub_cancel_left]; exact hk)
theorem ti_D_l {A : Nat → Prop} {w1 w2 : va_W} (h : va_D A (w1 ++ w2)) : va_D A w1 := by
  have key : ∀ (k : Nat) (q : Nat × va_E), w1[k]? = some q → (w1 ++ w2)[k]? = some q := fun k q hk => by rw [List.getElem?_append_left (List.getElem?_eq_some_iff.mp hk).1]; exact hk
  exact ⟨fun i j x y hi hj hxy => h.1 i j x y (key i x hi) (key j y hj) hxy, fun k q hk => h.2 k q (key k q hk)⟩
theorem ti_D_r {A : Nat → Prop} {w1 w2 : va_W} (h : va_D A (w1 ++ w2)) : va_D A w2 := by
  have key : ∀ (k : Nat) (q : Nat × va_E), w2[k]? = some q → (w1 ++ w2)[w1.length + k]? = some q := fun k q hk => by rw [List.getElem?_append_right (by omega), Nat.add_sub_cancel_left]; exact hk
  refine ⟨fun i j x y hi hj hxy => ?_, fun k q hk => h.2 _ q (key k q hk)⟩
  have := h.1 _ _ x y (key i x hi) (key j y hj) hxy
  omega
theorem ti_D_x {A : Nat → Prop} {w1 w2 : va_W} (h : va_D A (w1 ++ w2)) : ∀ (i j : Nat) (x y : Nat × va_E), w1[i]? = some x → w2[j]? = some y → x.1 ≠ y.1 := by
  intro i j x y hi hj hxy
  have hl := (List.getElem?_eq_some_iff.mp hi).1
  have := h.1 i (w1.length + j) x y (by rw [List.getElem?_append_left hl]; exact hi) (by rw [List.getElem?_append_right (by omega), Nat.add_sub_cancel_left]; exact hj) hxy
  omega
/-- the other way round -/
theorem ti_P_sw {D : va_G} {cl : List vw_C} {w1 w2 : va_W} {H : Heap} (h : va_P D cl (w1 ++ w2) H) : va_P D cl (w2 ++ w1) H := (ti_P_r h).app (ti_P_l h)
theorem ti_D_sw {A : Nat → Prop} {w1 w2 : va_W} (h : va_D A (w1 ++ w2)) : va_D A (w2 ++ w1) := (ti_D_r h).app (ti_D_l h) (fun i j x y hi hj e => ti_D_x h j i y x hj hi e.symm)
/-- a part in the middle is brought ahead -/
theorem ti_P_md {D : va_G} {cl : List vw_C} {w1 w2 w3 w4 : va_W} {H : Heap} (h : va_P D cl (w1 ++ (w2 ++ (w3 ++ w4))) H) : va_P D cl (w1 ++ (w3 ++ (w2 ++ w4))) H := (ti_P_l h).app ((ti_P_l (ti_P_r (ti_P_r h))).app ((ti_P_l (ti_P_r h)).app (ti_P_r (ti_P_r (ti_P_r h)))))
theorem ti_D_md {A : Nat → Prop} {w1 w2 w3 w4 : va_W} (h : va_D A (w1 ++ (w2 ++ (w3 ++ w4)))) : va_D A (w1 ++ (w3 ++ (w2 ++ w4))) := by
  have h2 := ti_D_r h
  have h3 := ti_D_r h2
  refine (ti_D_l h).app ((ti_D_l h3).app ((ti_D_l h2).app (ti_D_r h3) (fun i j x y hi hj => ti_D_x h2 i (w3.length + j) x y hi (by rw [List.getElem?_append_right (by omega), Nat.add_sub_cancel_left]; exact hj))) (fun i j x y hi hj e => ?_)) (fun i j x y hi hj => ?_)
  · rcases List.mem_append.mp (List.mem_of_getElem? hj) with hm | hm
    · obtain ⟨z, hz⟩ := List.getElem?_of_mem hm
      exact ti_D_x h2 z i y x hz (by rw [List.getElem?_append_left (List.getElem?_eq_some_iff.mp hi).1]; exact hi) e.symm
    · obtain ⟨z, hz⟩ := List.getElem?_of_mem hm
      exact ti_D_x h3 i z x y hi hz e
  · have hm : y ∈ w2 ++ (w3 ++ w4) := by
      have := List.mem_of_getElem? hj
      simp only [List.mem_append] at this ⊢
      rcases this with a | a | a
      · exact Or.inr (Or.inl a)
      · exact Or.inl a
      · exact Or.inr (Or.inr a)
    obtain ⟨z, hz⟩ := List.getElem?_of_mem hm
    exact ti_D_x h i z x y hi hz
def ti_QN {σ : Type} (D : va_G) (wf nw : σ → va_W) (val : σ → Option Value) (post : σ → Prop) (sz : Nat) (A : Nat → Prop) : Array Value → State → Outcome → State → Prop := fun _ st oc t => (∃ u : σ, oc = .returned (val u) ∧ post u ∧ va_P D vwCl (wf u ++ nw u) t.heap ∧ va_D (fun _ => True) (wf u ++ nw u) ∧ ti_nu sz (nw u)) ∧ va_F A st t
/-- a method that writes its world ws, and makes the cells nw u -/
def ti_MetN {σ : Type} (l : Launch) (D : va_G) (E : Nat → ClassId) (y : MethodName) (cc : ByteArray) (nL : Nat) (ret : Option FieldType) (k mc ms : Nat) (ws : va_W) (av : List Value) (wf nw : σ → va_W) (val : σ → Option Value) (post : σ → Prop) : Prop :=
  ∀ sz : Nat, Met l y (ws_ y cc nL ret) (ti_rm k mc ms) (va_Pc av (fun U => U.heap.size = sz ∧ ti_E D E U ∧ va_P D vwCl ws U.heap ∧ va_D (fun _ => True) ws)) (ti_QN D wf nw val post sz (va_A ws sz)) mc ms (va_A ws sz)
section TNE
variable {σ : Type} {l : Launch} {D : va_G} {E : Nat → ClassId} {y : MethodName} {cc : ByteArray} {nL k mc ms : Nat} {ret : Option FieldType} {ws : va_W} {av : List Value} {wf nw : σ → va_W} {val : σ → Option Value} {post : σ → Prop}
theorem ti_metN (hy : plainName y.cls = true) (hn : (lg_sl av).length ≤ nL)
    (body : ∀ (p : Program) (e : Env) (s : State) (m : MethodId) (below : List Frame) (meth : Method) (c : Code) (H : Heap) (H0 : Heap) (A : Nat → Prop) (Q : State → Prop) (ls : Array Slot), CallFix p m c cc nL s av.toArray lw_all y.cls → ti_E D E s → va_P D vwCl ws H → va_D A ws → va_S A H0 H [] → (∀ q, H0.size ≤ q → A q) → meth.name = y.name → lv_has ls nL (lv_args 0 av) →
      (∀ (g : JFrame) (u : σ) (H : Heap) (locs : List Loc) (cells slots : Nat), post u → va_P D vwCl (wf u ++ nw u) H → va_D A (wf u ++ nw u) → ti_nu H0.size (nw u) → va_S A H0 H locs → cells ≤ mc → slots ≤ ms →
        ((∀ t : State, t.heap = H → s.WarmedH t.vm → ti_QN D wf nw val post H0.size A av.toArray s (.returned (val u)) t) → (∀ q ∈ locs, A q.base) → W p l e (ti_rm k mc ms) s m av.toArray below meth c H locs mc ms Q g) → W p l e (ti_rm k mc ms) s m av.toArray below meth c H locs cells slots Q g) →
      (Q = MQ below (ti_QN D wf nw val post H0.size A) av.toArray s mc ms A ∧ meth.sig.returnType = ret ∧ meth.locks = false) → W p l e (ti_rm k mc ms) s m av.toArray below meth c H [] 0 0 Q (F0 m 0 ls [])) : ti_MetN l D E y cc nL ret k mc ms ws av wf nw val post := by
  intro sz
  refine Met.ofW (cc := cc) (maxL := nL) (ret := ret) hy rfl ?_
  intro p e s m args below meth c s₁ B hml hv
  obtain ⟨rfl, hsz, hE, hP, hD0⟩ := hv
  have hts := atoms_spec (ws := ws_ y cc nL ret) B.pre
  have hl := lv_entry av (n := nL) hn
  rw [lg_entry_eq]
  generalize (lg_sl av ++ List.replicate (nL - (lg_sl av).length) Slot.unset).toArray = ls at hl ⊢
  subst hsz
  have hD := hD0.self (sz := s.heap.size)
  generalize hAe : va_A ws s.heap.size = A at hD ⊢
  have hA : ∀ q : Nat, s.heap.size ≤ q → A q := fun q h => by rw [← hAe]; exact Or.inr h
  refine body p e s m below meth c s.heap s.heap A _ ls ⟨B.exec, B.bytes, hml, findClass_of_methodNamed B.named, fun w h => hts w (List.mem_cons_of_mem _ h)⟩ hE hP hD va_S.rf hA (name_of_methodNamed B.named B.method).1 hl ?_ ⟨rfl, B.returns, B.notSynchronized⟩
  intro g u H locs cells slots hp hP hD hw hS h1 h2 kk
  exact W.widen h1 h2 (kk (fun t ht hW => ⟨⟨u, rfl, hp, by rw [ht]; exact hP, hD.weaken (fun _ _ _ _ => trivial), hw⟩, hS.F ht⟩) hS.2.2)
theorem ti_metNV (hy : plainName y.cls = true) (hn : (lg_sl av).length ≤ nL)
    (body : ∀ (p : Program) (e : Env) (s : State) (m : MethodId) (below : List Frame) (meth : Method) (c : Code) (H : Heap) (H0 : Heap) (A : Nat → Prop) (Q : State → Prop) (ls : Array Slot), CallFix p m c cc nL s av.toArray lw_all y.cls → ti_E D E s → va_P D vwCl ws H → va_D A ws → va_S A H0 H [] → (∀ q, H0.size ≤ q → A q) → meth.name = y.name → lv_has ls nL (lv_args 0 av) →
      (∀ (u : σ) (H : Heap) (locs : List Loc) (cells slots : Nat) (pc : Nat) (ls : Array Slot), decode cc pc = .ok (.return_, 1) → post u → va_P D vwCl (wf u ++ nw u) H → va_D A (wf u ++ nw u) → ti_nu H0.size (nw u) → va_S A H0 H locs → cells ≤ mc → slots ≤ ms → W p l e (ti_rm k mc ms) s m av.toArray below meth c H locs cells slots Q (F0 m pc ls [])) → W p l e (ti_rm k mc ms) s m av.toArray below meth c H [] 0 0 Q (F0 m 0 ls [])) : ti_MetN l D E y cc nL none k mc ms ws av wf nw (fun _ => none) post := by
  refine ti_metN hy hn ?_
  intro p e s m below meth c H H0 A Q ls S hE hP hD hS hA hin hl hend hq
  obtain ⟨rfl, hr, hlk⟩ := hq
  refine body p e s m below meth c H H0 A _ ls S hE hP hD hS hA hin hl ?_
  intro u H locs cells slots pc ls hd hp hP hD hw hS h1 h2
  exact hend _ u H locs cells slots hp hP hD hw hS h1 h2 (fun hq hf => W.vret S.1 S.2.1 hr hq hf hd hlk)
theorem ti_metNA {va : σ → Nat} {C : String} (hy : plainName y.cls = true) (hn : (lg_sl av).length ≤ nL)
    (body : ∀ (p : Program) (e : Env) (s : State) (m : MethodId) (below : List Frame) (meth : Method) (c : Code) (H : Heap) (H0 : Heap) (A : Nat → Prop) (Q : State → Prop) (ls : Array Slot), CallFix p m c cc nL s av.toArray lw_all y.cls → ti_E D E s → va_P D vwCl ws H → va_D A ws → va_S A H0 H [] → (∀ q, H0.size ≤ q → A q) → meth.name = y.name → lv_has ls nL (lv_args 0 av) →
      (∀ (u : σ) (H : Heap) (locs : List Loc) (cells slots : Nat) (pc : Nat) (ls : Array Slot) (r : Nat), decode cc pc = .ok (.areturn, 1) → r = va u → post u → va_P D vwCl (wf u ++ nw u) H → va_D A (wf u ++ nw u) → ti_nu H0.size (nw u) → va_S A H0 H locs → cells ≤ mc → slots ≤ ms → W p l e (ti_rm k mc ms) s m av.toArray below meth c H locs cells slots Q (F0 m pc ls [.ref r])) → W p l e (ti_rm k mc ms) s m av.toArray below meth c H [] 0 0 Q (F0 m 0 ls [])) : ti_MetN l D E y cc nL (some (.object C)) k mc ms ws av wf nw (fun u => some (.ref (va u))) post := by
  refine ti_metN hy hn ?_
  intro p e s m below meth c H H0 A Q ls S hE hP hD hS hA hin hl hend hq
  obtain ⟨rfl, hr, hlk⟩ := hq
  refine body p e s m below meth c H H0 A _ ls S hE hP hD hS hA hin hl ?_
  intro u H locs cells slots pc ls r hd hv hp hP hD hw hS h1 h2
  subst hv
  exact hend _ u H locs cells slots hp hP hD hw hS h1 h2 (fun hq hf => W.aret S.1 S.2.1 hr (Or.inl ⟨C, rfl⟩) (Or.inr ⟨_, rfl⟩) hq hf hd hlk)
end TNE
section TNC
variable {σ τ : Type} {p : Program} {l : Launch} {e : Env} {R : Room} {s : State} {m : MethodId} {args : Array Value} {below : List Frame} {meth : Method} {c : Code} {H H0 : Heap} {locs : List Loc} {cells slots : Nat} {Q : State → Prop}
variable {D : va_G} {E : Nat → ClassId} {y : MethodName} {bytes cc : ByteArray} {maxL nL k mc ms n index z0 : Nat} {ret : Option FieldType} {wc ws wz : va_W} {As rest : List Value} {b pc : Nat} {ls : Array Slot} {st0 : List Value} {own host C : String} {A : Nat → Prop} {wf nw : σ → va_W} {val : σ → Option Value} {post : σ → Prop} {xp : Heap → Prop} {nm : τ → String} {adr : τ → Nat} {wy ex : τ → va_W} {px : τ → Prop} {xx : τ → Heap → Prop}
/-- behind a call that makes cells -/
theorem ti_backN {w1 w2 : va_W} {H1 : Heap} (hP : va_P D vwCl ws H) (hD : va_D A ws) (hS : va_S A H0 H locs) (hA : ∀ q, H0.size ≤ q → A q) (isC : List Nat) (hC : isC.map (fun i => ws[i]?) = wc.map some) (ha : w1.map (·.1) = wc.map (·.1))
    (hk : ∀ q : Nat, q < H.size → ¬ va_A wc H.size q → H1[q]? = H[q]?) (hP1 : va_P D vwCl (w1 ++ w2) H1) (hD1 : va_D (fun _ => True) (w1 ++ w2)) (hn : ti_nu H.size w2) : va_P D vwCl (ti_sets ws isC w1 ++ w2) H1 ∧ va_D A (ti_sets ws isC w1 ++ w2) := by
  obtain ⟨g1, g2⟩ := ti_back hP hD isC hC ha hk (ti_P_l hP1)
  have hadr : (ti_sets ws isC w1).map (·.1) = ws.map (·.1) := by
    refine ti_sets_addr isC ws w1 ?_
    intro k i x h1 h2
    have h3 : (w1.map (·.1))[k]? = some x.1 := by rw [List.getElem?_map, h2]; rfl
    rw [ha, List.getElem?_map] at h3
    cases hw : wc[k]? with
    | none => rw [hw] at h3; cases h3
    | some q =>
      rw [hw] at h3
      obtain ⟨i', hi', hw'⟩ := ti_at hC k q hw
      rw [h1] at hi'
      obtain rfl := Option.some.inj hi'
      exact ⟨q.2, by rw [hw', ← Option.some.inj h3]⟩
  refine ⟨g1.app (ti_P_r hP1), g2.app ((ti_D_r hD1).weaken (fun k q hq _ => hA q.1 (Nat.le_trans hS.1 (hn k q hq)))) (fun i j x y hx hy exy => ?_)⟩
  have h3 : ((ti_sets ws isC w1).map (·.1))[i]? = some x.1 := by rw [List.getElem?_map, hx]; rfl
  rw [hadr, List.getElem?_map] at h3
  cases hw : ws[i]? with
  | none => rw [hw] at h3; cases h3
  | some q =>
    rw [hw] at h3
    have h4 : q.1 = x.1 := Option.some.inj h3
    have h5 := (hP i q hw).lt
    have h6 := hn j y hy
    omega
theorem ti_callN {a : Array Value} (hr : va_Run p l e R s m args below meth c H locs cells slots mc ms (F0 m pc ls st0) rest (ti_QN D wf nw val post H.size (va_A wc H.size) a) (va_A wc H.size)) (hP : va_P D vwCl ws H) (hD : va_D A ws) (hS : va_S A H0 H locs) (hA : ∀ q, H0.size ≤ q → A q) (isC : List Nat) (hC : isC.map (fun i => ws[i]?) = wc.map some) (hwf : ∀ u, (wf u).map (·.1) = wc.map (·.1))
    (kk : ∀ (u : σ) (H1 : Heap) (locs : List Loc), post u → ti_nu H.size (nw u) → va_P D vwCl (ti_sets ws isC (wf u) ++ nw u) H1 → va_D A (ti_sets ws isC (wf u) ++ nw u) → va_S A H0 H1 locs → W p l e R s m args below meth c H1 locs (cells + mc) (slots + ms) Q (F0 m (pc + 3) ls ((val u).toList ++ rest))) : W p l e R s m args below meth c H locs cells slots Q (F0 m pc ls st0) := by
  intro T hT X
  obtain ⟨v, st₀, t, T', L, h0, X', hL, e1, e2, ⟨⟨u, hv, hp, hb, hdd, hn⟩, hz, hk⟩, st⟩ := hr T hT X
  cases hv
  rw [h0] at hz hk
  have hF := va_free hD hS hA isC hC
  obtain ⟨g1, g2⟩ := ti_backN hP hD hS hA isC hC (hwf u) hk hb hdd hn
  obtain ⟨t2, a1, b1⟩ := kk u T'.heap (locs ++ L) hp hn (by rw [e1]; exact g1) g2
    ⟨Nat.le_trans hS.1 (by rw [e1]; exact hz), fun q h1 h2 => by rw [e1, hk q (Nat.lt_of_lt_of_le h1 hS.1) (fun z => h2 (hF q z))]; exact hS.2.1 q h1 h2, fun q hq => by
      rcases List.mem_append.mp hq with h | h
      · exact hS.2.2 q h
      · exact hF _ (hL q h)⟩ T' rfl X'
  exact ⟨t2, st t2 a1, b1⟩
/-- a constructor that makes cells -/
theorem ti_nI (S : CallFix p m c cc nL s args lw_all own) (hE : ti_E D E s) (hP : va_P D vwCl ws H) (hD : va_D A ws) (hS : va_S A H0 H locs) (hA : ∀ q, H0.size ≤ q → A q) (isC : List Nat) (hn : va_nd isC = true) (hM : ti_MetN l D E y bytes maxL none k mc ms wc (.ref b :: As) wf nw val post) (hC : isC.map (fun i => ws[i]?) = wc.map some) (hwf : ∀ u, (wf u).map (·.1) = wc.map (·.1))
    (hg : GoodIn lw_all (ws_ y bytes maxL none)) (hini : Cond.initialized y.cls ∈ lw_all) (hlk : Cond.methodLink own index y ∈ lw_all) (hinst : Cond.instanceMethod y ∈ lw_all) (hy1 : y.name = "<init>") (na : Nat) (hna : As.length = na)
    (hd : y.cls ≠ "java/lang/invoke/MethodHandle" ∧ y.cls ≠ "java/lang/invoke/VarHandle" ∧ (parseMethodDescriptor y.desc).map (fun d => d.parameters.length) = some na) (hR : k + 1 ≤ R.frames ∧ 8 + (maxL + 11) + 64 * k ≤ R.locals)
    (hsz : ls.size = nL) (hst : st0 = As.reverse ++ .ref b :: rest) (hW : (rest.map fun v => v.category).sum ≤ 8) (hcs : cells + mc ≤ R.cells ∧ slots + ms ≤ R.slots) (hdg : decode cc pc = .ok (.invokespecial index, 3))
    (kk : ∀ (u : σ) (H1 : Heap) (locs : List Loc), post u → ti_nu H.size (nw u) → va_P D vwCl (ti_sets ws isC (wf u) ++ nw u) H1 → va_D A (ti_sets ws isC (wf u) ++ nw u) → va_S A H0 H1 locs → W p l e R s m args below meth c H1 locs (cells + mc) (slots + ms) Q (F0 m (pc + 3) ls ((val u).toList ++ rest))) : W p l e R s m args below meth c H locs cells slots Q (F0 m pc ls st0) :=
  ti_callN (va_runI S (hM H.size) (cwI na S.2.2.2.2 hg rfl rfl rfl (S.2.2.2.2 _ hini) (S.2.2.2.2 _ hlk) (S.2.2.2.2 _ hinst) hy1 hd hR) (ti_preM hE (ti_subC hC hP) (hD.sub isC hn hC)) rfl hna hsz hst (lv_room hW) hdg hcs) hP hD hS hA isC hC hwf kk
/-- a nest mate's private constructor that makes cells -/
theorem ti_nIN (S : CallFix p m c cc nL s args lw_all own) (hE : ti_E D E s) (hP : va_P D vwCl ws H) (hD : va_D A ws) (hS : va_S A H0 H locs) (hA : ∀ q, H0.size ≤ q → A q) (isC : List Nat) (hn : va_nd isC = true) (hM : ti_MetN l D E y bytes maxL none k mc ms wc (.ref b :: As) wf nw val post) (hC : isC.map (fun i => ws[i]?) = wc.map some) (hwf : ∀ u, (wf u).map (·.1) = wc.map (·.1))
    (hg : GoodIn lw_all (ws_ y bytes maxL none)) (hini : Cond.initialized y.cls ∈ lw_all) (hlk : Cond.methodLinkNest own index y host ∈ lw_tbl) (hinst : Cond.instanceMethod y ∈ lw_all) (hy1 : y.name = "<init>") (na : Nat) (hna : As.length = na)
    (hd : y.cls ≠ "java/lang/invoke/MethodHandle" ∧ y.cls ≠ "java/lang/invoke/VarHandle" ∧ (parseMethodDescriptor y.desc).map (fun d => d.parameters.length) = some na) (hR : k + 1 ≤ R.frames ∧ 8 + (maxL + 11) + 64 * k ≤ R.locals)
    (hsz : ls.size = nL) (hst : st0 = As.reverse ++ .ref b :: rest) (hW : (rest.map fun v => v.category).sum ≤ 8) (hcs : cells + mc ≤ R.cells ∧ slots + ms ≤ R.slots) (hdg : decode cc pc = .ok (.invokespecial index, 3))
    (kk : ∀ (u : σ) (H1 : Heap) (locs : List Loc), post u → ti_nu H.size (nw u) → va_P D vwCl (ti_sets ws isC (wf u) ++ nw u) H1 → va_D A (ti_sets ws isC (wf u) ++ nw u) → va_S A H0 H1 locs → W p l e R s m args below meth c H1 locs (cells + mc) (slots + ms) Q (F0 m (pc + 3) ls ((val u).toList ++ rest))) : W p l e R s m args below meth c H locs cells slots Q (F0 m pc ls st0) :=
  ti_callN (va_runIN S (hM H.size) ⟨va_cnB na S.2.2.2.2 hg rfl rfl rfl (hE.nw hlk rfl) (S.2.2.2.2 _ hini) hd hR, hy1, S.2.2.2.2 _ hinst⟩ (ti_preM hE (ti_subC hC hP) (hD.sub isC hn hC)) rfl hna hsz hst (lv_room hW) hdg hcs) hP hD hS hA isC hC hwf kk
/-- a static method that makes cells -/
theorem ti_nS (S : CallFix p m c cc nL s args lw_all own) (hE : ti_E D E s) (hP : va_P D vwCl ws H) (hD : va_D A ws) (hS : va_S A H0 H locs) (hA : ∀ q, H0.size ≤ q → A q) (isC : List Nat) (hn : va_nd isC = true) (hM : ti_MetN l D E y bytes maxL ret k mc ms wc As wf nw val post) (hC : isC.map (fun i => ws[i]?) = wc.map some) (hwf : ∀ u, (wf u).map (·.1) = wc.map (·.1))
    (hg : GoodIn lw_all (va_wsS own index y (ws_ y bytes maxL ret))) (na : Nat) (hna : As.length = na)
    (hd : y.cls ≠ "java/lang/invoke/MethodHandle" ∧ y.cls ≠ "java/lang/invoke/VarHandle" ∧ (parseMethodDescriptor y.desc).map (fun d => d.parameters.length) = some na) (hR : k + 1 ≤ R.frames ∧ 8 + (maxL + 11) + 64 * k ≤ R.locals)
    (hsz : ls.size = nL) (hst : st0 = As.reverse ++ rest) (hW : (rest.map fun v => v.category).sum ≤ 8) (hcs : cells + mc ≤ R.cells ∧ slots + ms ≤ R.slots) (hdg : decode cc pc = .ok (.invokestatic index, 3))
    (kk : ∀ (u : σ) (H1 : Heap) (locs : List Loc), post u → ti_nu H.size (nw u) → va_P D vwCl (ti_sets ws isC (wf u) ++ nw u) H1 → va_D A (ti_sets ws isC (wf u) ++ nw u) → va_S A H0 H1 locs → W p l e R s m args below meth c H1 locs (cells + mc) (slots + ms) Q (F0 m (pc + 3) ls ((val u).toList ++ rest))) : W p l e R s m args below meth c H locs cells slots Q (F0 m pc ls st0) :=
  ti_callN (va_runS S (hM H.size) (va_cwS na S.2.2.2.2 hg rfl rfl rfl hd hR) (ti_preM hE (ti_subC hC hP) (hD.sub isC hn hC)) rfl hna hsz hst (lv_room hW) hdg hcs) hP hD hS hA isC hC hwf kk
end TNC
/-- a method that may throw, and makes cells where it returns -/
def ti_MetY {σ τ : Type} (l : Launch) (D : va_G) (E : Nat → ClassId) (y : MethodName) (hd : List Cond) (k mc ms z0 : Nat) (ws : va_W) (av : List Value) (wf nw : σ → va_W) (val : σ → Option Value) (post : σ → Prop) (nm : τ → String) (adr : τ → Nat) (wy ex : τ → va_W) (px : τ → Prop) (xx : τ → Heap → Prop) : Prop :=
  ∀ sz : Nat, ty_Met l y hd (ti_rm k mc ms) (va_Pc av (fun U => U.heap.size = sz ∧ ti_E D E U ∧ va_P D vwCl ws U.heap ∧ va_D (fun _ => True) ws ∧ ti_Z z0 ws U ∧ True)) (ti_QN D wf nw val post sz (va_A ws sz)) (ti_XC D nm adr wy ex px xx sz (va_A ws sz)) mc ms (va_A ws sz)
section TYA
variable {σ τ : Type} {l : Launch} {D : va_G} {E : Nat → ClassId} {y : MethodName} {cc : ByteArray} {nL k mc ms z0 : Nat} {ret : Option FieldType} {hh : List (Nat × Nat × Nat × Nat)} {ws : va_W} {av : List Value} {wf nw : σ → va_W} {val : σ → Option Value} {post : σ → Prop} {nm : τ → String} {adr : τ → Nat} {wy ex : τ → va_W} {px : τ → Prop} {xx : τ → Heap → Prop}
theorem ti_metY (hy : plainName y.cls = true) (hn : (lg_sl av).length ≤ nL)
    (body : ∀ (p : Program) (e : Env) (s : State) (m : MethodId) (below : List Frame) (meth : Method) (c : Code) (H : Heap) (A : Nat → Prop) (Q : State → Prop) (ls : Array Slot), CallFix p m c cc nL s av.toArray lw_all y.cls → ti_E D E s → va_P D vwCl ws H → va_D A ws → va_S A s.heap H [] → (∀ q, s.heap.size ≤ q → A q) → ti_Z z0 ws s → (∀ q, A q → z0 ≤ q) → (∀ x ∈ c.exceptionTable.toList, False) → lv_has ls nL (lv_args 0 av) →
      (∀ (g : JFrame) (u : σ) (H : Heap) (locs : List Loc) (cells slots : Nat), post u → va_P D vwCl (wf u ++ nw u) H → va_D A (wf u ++ nw u) → ti_nu s.heap.size (nw u) → va_S A s.heap H locs → cells ≤ mc → slots ≤ ms →
        ((∀ t : State, t.heap = H → s.WarmedH t.vm → ti_QN D wf nw val post s.heap.size A av.toArray s (.returned (val u)) t) → (∀ q ∈ locs, A q.base) → W p l e (ti_rm k mc ms) s m av.toArray below meth c H locs mc ms (MQ below (ti_QN D wf nw val post s.heap.size A) av.toArray s mc ms A) g) → W p l e (ti_rm k mc ms) s m av.toArray below meth c H locs cells slots Q g) →
      (Q = ty_MQ below (ti_QN D wf nw val post s.heap.size A) (ti_XC D nm adr wy ex px xx s.heap.size A) av.toArray s mc ms A ∧ meth.sig.returnType = ret ∧ meth.locks = false ∧ meth.name = y.name) → W p l e (ti_rm k mc ms) s m av.toArray below meth c H [] 0 0 Q (F0 m 0 ls [])) : ti_MetY l D E y (ws_ y cc nL ret) k mc ms z0 ws av wf nw val post nm adr wy ex px xx := by
  intro sz
  refine ty_ofW (cc := cc) (maxL := nL) (ret := ret) hy rfl ?_
  intro p e s m args below meth c s₁ B hml hnoex hv
  obtain ⟨rfl, hsz, hE, hP, hD0, hZ, -⟩ := hv
  have hts := atoms_spec (ws := ws_ y cc nL ret) B.pre
  have hl := lv_entry av (n := nL) hn
  rw [lg_entry_eq]
  generalize (lg_sl av ++ List.replicate (nL - (lg_sl av).length) Slot.unset).toArray = ls at hl ⊢
  subst hsz
  have hD := hD0.self (sz := s.heap.size)
  have hAz := hZ.ofA
  generalize hAe : va_A ws s.heap.size = A at hD hAz ⊢
  have hA : ∀ q : Nat, s.heap.size ≤ q → A q := fun q h => by rw [← hAe]; exact Or.inr h
  refine body p e s m below meth c s.heap A _ ls ⟨B.exec, B.bytes, hml, findClass_of_methodNamed B.named, fun w h => hts w (List.mem_cons_of_mem _ h)⟩ hE hP hD va_S.rf hA hZ hAz hnoex hl ?_ ⟨rfl, B.returns, B.notSynchronized, (name_of_methodNamed B.named B.method).1⟩
  intro g u H locs cells slots hp hP hD hw hS h1 h2 kk
  exact W.widen h1 h2 (ty_ret (kk (fun t ht hW => ⟨⟨u, rfl, hp, by rw [ht]; exact hP, hD.weaken (fun _ _ _ _ => trivial), hw⟩, hS.F ht⟩) hS.2.2))
theorem ti_metYH (hy : plainName y.cls = true) (hn : (lg_sl av).length ≤ nL)
    (body : ∀ (p : Program) (e : Env) (s : State) (m : MethodId) (below : List Frame) (meth : Method) (c : Code) (H : Heap) (A : Nat → Prop) (Q : State → Prop) (ls : Array Slot), CallFix p m c cc nL s av.toArray lw_all y.cls → ti_E D E s → va_P D vwCl ws H → va_D A ws → va_S A s.heap H [] → (∀ q, s.heap.size ≤ q → A q) → ti_Z z0 ws s → (∀ q, A q → z0 ≤ q) → c.exceptionTable.toList = tableOf hh → lv_has ls nL (lv_args 0 av) →
      (∀ (g : JFrame) (u : σ) (H : Heap) (locs : List Loc) (cells slots : Nat), post u → va_P D vwCl (wf u ++ nw u) H → va_D A (wf u ++ nw u) → ti_nu s.heap.size (nw u) → va_S A s.heap H locs → cells ≤ mc → slots ≤ ms →
        ((∀ t : State, t.heap = H → s.WarmedH t.vm → ti_QN D wf nw val post s.heap.size A av.toArray s (.returned (val u)) t) → (∀ q ∈ locs, A q.base) → W p l e (ti_rm k mc ms) s m av.toArray below meth c H locs mc ms (MQ below (ti_QN D wf nw val post s.heap.size A) av.toArray s mc ms A) g) → W p l e (ti_rm k mc ms) s m av.toArray below meth c H locs cells slots Q g) →
      (Q = ty_MQ below (ti_QN D wf nw val post s.heap.size A) (ti_XC D nm adr wy ex px xx s.heap.size A) av.toArray s mc ms A ∧ meth.sig.returnType = ret ∧ meth.locks = false ∧ meth.name = y.name) → W p l e (ti_rm k mc ms) s m av.toArray below meth c H [] 0 0 Q (F0 m 0 ls [])) : ti_MetY l D E y (wsW_ y cc nL ret hh) k mc ms z0 ws av wf nw val post nm adr wy ex px xx := by
  intro sz
  refine ty_ofWH (cc := cc) (maxL := nL) (ret := ret) (hh := hh) hy rfl ?_
  intro p e s m args below meth c s₁ B hml hv
  obtain ⟨rfl, hsz, hE, hP, hD0, hZ, -⟩ := hv
  have hts := atoms_spec (ws := wsW_ y cc nL ret hh) B.pre
  have htab : c.exceptionTable.toList = tableOf hh := vx_table (x := y) B (hts (Cond.codeWith y cc nL ret hh) List.mem_cons_self)
  have hl := lv_entry av (n := nL) hn
  rw [lg_entry_eq]
  generalize (lg_sl av ++ List.replicate (nL - (lg_sl av).length) Slot.unset).toArray = ls at hl ⊢
  subst hsz
  have hD := hD0.self (sz := s.heap.size)
  have hAz := hZ.ofA
  generalize hAe : va_A ws s.heap.size = A at hD hAz ⊢
  have hA : ∀ q : Nat, s.heap.size ≤ q → A q := fun q h => by rw [← hAe]; exact Or.inr h
  refine body p e s m below meth c s.heap A _ ls ⟨B.exec, B.bytes, hml, findClass_of_methodNamed B.named, fun w h => hts w (List.mem_cons_of_mem _ h)⟩ hE hP hD va_S.rf hA hZ hAz htab hl ?_ ⟨rfl, B.returns, B.notSynchronized, (name_of_methodNamed B.named B.method).1⟩
  intro g u H locs cells slots hp hP hD hw hS h1 h2 kk
  exact W.widen h1 h2 (ty_ret (kk (fun t ht hW => ⟨⟨u, rfl, hp, by rw [ht]; exact hP, hD.weaken (fun _ _ _ _ => trivial), hw⟩, hS.F ht⟩) hS.2.2))
end TYA
section TYC
variable {σ τ : Type} {p : Program} {l : Launch} {e : Env} {R : Room} {s : State} {m : MethodId} {args : Array Value} {below : List Frame} {meth : Method} {c : Code} {H : Heap} {locs : List Loc} {cells slots : Nat} {Q : State → Prop}
variable {D : va_G} {E : Nat → ClassId} {y : MethodName} {bytes cc : ByteArray} {maxL nL k mc ms n index z0 : Nat} {ret : Option FieldType} {wc ws wz : va_W} {As rest : List Value} {b pc : Nat} {ls : Array Slot} {st0 : List Value} {own host C : String} {A : Nat → Prop} {wf nw : σ → va_W} {val : σ → Option Value} {post : σ → Prop} {nm : τ → String} {adr : τ → Nat} {wy ex : τ → va_W} {px : τ → Prop} {xx : τ → Heap → Prop}
theorem ti_callY {a : Array Value} (hr : ty_Run p l e R s m args below meth c H locs cells slots mc ms (F0 m pc ls st0) rest (ti_QN D wf nw val post H.size (va_A wc H.size) a) (ti_XC D nm adr wy ex px xx H.size (va_A wc H.size)) (va_A wc H.size)) (hP : va_P D vwCl ws H) (hD : va_D A ws) (hS : va_S A s.heap H locs) (hA : ∀ q, s.heap.size ≤ q → A q) (isC : List Nat) (hC : isC.map (fun i => ws[i]?) = wc.map some) (hwf : ∀ u, (wf u).map (·.1) = wc.map (·.1)) (hwy : ∀ w, (wy w).map (·.1) = wc.map (·.1))
    (kk : ∀ (u : σ) (H1 : Heap) (locs : List Loc), post u → ti_nu H.size (nw u) → va_P D vwCl (ti_sets ws isC (wf u) ++ nw u) H1 → va_D A (ti_sets ws isC (wf u) ++ nw u) → va_S A s.heap H1 locs → W p l e R s m args below meth c H1 locs (cells + mc) (slots + ms) Q (F0 m (pc + 3) ls ((val u).toList ++ rest)))
    (kx : ∀ (w : τ) (H1 : Heap) (locs : List Loc) (ce : Cell), px w → xx w H1 → va_P D vwCl (ti_sets ws isC (wy w)) H1 → va_D A (ti_sets ws isC (wy w)) → va_P D vwCl (ex w) H1 → (∀ (k : Nat) (z : Nat × va_E), (ex w)[k]? = some z → H.size ≤ z.1) → va_S A s.heap H1 locs → H1[adr w]? = some ce → ce.vm = .none → s.vm.findClass (nm w) = some ce.cls →
      vx_W p l e R s m args below meth c H1 locs (cells + mc) (slots + ms) Q (F0 m pc ls rest) (adr w)) : W p l e R s m args below meth c H locs cells slots Q (F0 m pc ls st0) := by
  intro T hT X
  have hF := va_free hD hS hA isC hC
  rcases hr T hT X with ⟨v, st₀, t, T', L, h0, X', hL, e1, e2, ⟨⟨u, hv, hp, hb, hdd, hn⟩, hz, hk⟩, st⟩ | ⟨q, st₀, t, T', L, E9, ce, h0, X', hL, e1, e2, ⟨w, rfl, rfl, hp, hb, hex, hnew, hxx, hz, hk⟩, hce, hcv, hcl, st⟩
  · cases hv
    rw [h0] at hz hk
    obtain ⟨g1, g2⟩ := ti_backN hP hD hS hA isC hC (hwf u) hk hb hdd hn
    obtain ⟨t2, a1, b1⟩ := kk u T'.heap (locs ++ L) hp hn (by rw [e1]; exact g1) g2
      ⟨Nat.le_trans hS.1 (by rw [e1]; exact hz), fun q h1 h2 => by rw [e1, hk q (Nat.lt_of_lt_of_le h1 hS.1) (fun z => h2 (hF q z))]; exact hS.2.1 q h1 h2, fun q hq => by
        rcases List.mem_append.mp hq with h | h
        · exact hS.2.2 q h
        · exact hF _ (hL q h)⟩ T' rfl X'
    exact ⟨t2, st t2 a1, b1⟩
  · rw [h0] at hz hk
    obtain ⟨g1, g2⟩ := ti_back hP hD isC hC (hwy w) hk hb
    obtain ⟨t2, a1, b1⟩ := kx w T'.heap (locs ++ L) ce hp (by rw [e1]; exact hxx) (by rw [e1]; exact g1) g2 (by rw [e1]; exact hex) hnew
      ⟨Nat.le_trans hS.1 (by rw [e1]; exact hz), fun q h1 h2 => by rw [e1, hk q (Nat.lt_of_lt_of_le h1 hS.1) (fun z => h2 (hF q z))]; exact hS.2.1 q h1 h2, fun q hq => by
        rcases List.mem_append.mp hq with h | h
        · exact hS.2.2 q h
        · exact hF _ (hL q h)⟩ (by rw [e1]; exact hce) hcv hcl T' rfl X'
    exact ⟨t2, st.trans a1, b1⟩
end TYC
/-! a world behind a call, told again: where each cell comes from (inl: from the world at its own place; inr: from the callee's world) -/
def ti_src (ws w1 : va_W) (x : Nat ⊕ Nat) : Option (Nat × va_E) := match x with
  | .inl i => ws[i]?
  | .inr j => w1[j]?
def ti_sok (isC : List Nat) : List (Nat ⊕ Nat) → Nat → Bool
  | [], _ => true
  | .inl i :: r, k => decide (i = k) && decide (k ∉ isC) && ti_sok isC r (k + 1)
  | .inr j :: r, k => decide (isC[j]? = some k) && ti_sok isC r (k + 1)
theorem ti_sok_at {isC : List Nat} : ∀ {src : List (Nat ⊕ Nat)} {k : Nat}, ti_sok isC src k = true → ∀ {j : Nat} {x : Nat ⊕ Nat}, src[j]? = some x → match x with
    | .inl i => i = k + j ∧ k + j ∉ isC
    | .inr z => isC[z]? = some (k + j)
  | [], _, _, _, _, h => by cases h
  | .inl i :: r, k, hk, j, x, h => by
    rw [ti_sok, Bool.and_eq_true, Bool.and_eq_true] at hk
    cases j with
    | zero =>
      cases h
      exact ⟨of_decide_eq_true hk.1.1, of_decide_eq_true hk.1.2⟩
    | succ j =>
      have := ti_sok_at hk.2 (j := j) (x := x) h
      rw [show k + (j + 1) = k + 1 + j by omega]
      exact this
  | .inr z :: r, k, hk, j, x, h => by
    rw [ti_sok, Bool.and_eq_true] at hk
    cases j with
    | zero =>
      cases h
      exact of_decide_eq_true hk.1
    | succ j =>
      have := ti_sok_at hk.2 (j := j) (x := x) h
      rw [show k + (j + 1) = k + 1 + j by omega]
      exact this
theorem ti_sets_out : ∀ (isC : List Nat) (ws w1 : va_W) (k : Nat), k ∉ isC → (ti_sets ws isC w1)[k]? = ws[k]?
  | [], _, [], _, _ => rfl
  | [], _, _ :: _, _, _ => rfl
  | _ :: _, _, [], _, _ => rfl
  | i :: is, ws, x :: w, k, h => by
    rw [ti_sets, ti_sets_out is _ w k (fun z => h (List.mem_cons_of_mem _ z)), List.getElem?_set_ne (fun e => h (by rw [e]; exact List.mem_cons_self))]
theorem ti_sets_in : ∀ (isC : List Nat) (ws w1 : va_W) (j k : Nat) (q : Nat × va_E), va_nd isC = true → isC[j]? = some k → w1[j]? = some q → k < ws.length → (ti_sets ws isC w1)[k]? = some q
  | [], _, _, _, _, _, _, h, _, _ => by cases h
  | _ :: _, _, [], _, _, _, _, _, h, _ => by cases h
  | i :: is, ws, x :: w, j, k, q, hn, h1, h2, hl => by
    rw [va_nd, Bool.and_eq_true] at hn
    rw [ti_sets]
    cases j with
    | zero =>
      cases h1
      cases h2
      rw [ti_sets_out is _ w i (of_decide_eq_true hn.1), List.getElem?_set_self hl]
    | succ j => exact ti_sets_in is (ws.set i x) w j k q hn.2 h1 h2 (by rw [List.length_set]; exact hl)
theorem ti_asx {ws w1 W' : va_W} {isC : List Nat} (src : List (Nat ⊕ Nat)) (h : src.map (ti_src ws w1) = W'.map some) (hs : ti_sok isC src 0 = true) (hn : va_nd isC = true) (hl : W'.length = ws.length) : ∀ (k : Nat) (q : Nat × va_E), W'[k]? = some q → (ti_sets ws isC w1)[k]? = some q := by
  intro k q hq
  have hk := (List.getElem?_eq_some_iff.mp hq).1
  have h1 : (src.map (ti_src ws w1))[k]? = some (some q) := by rw [h, List.getElem?_map, hq]; rfl
  rw [List.getElem?_map] at h1
  cases hx : src[k]? with
  | none => rw [hx] at h1; cases h1
  | some x =>
    rw [hx] at h1
    have h2 : ti_src ws w1 x = some q := Option.some.inj h1
    have h3 := ti_sok_at hs hx
    rw [Nat.zero_add] at h3
    cases x with
    | inl i =>
      obtain ⟨e1, e2⟩ := h3
      rw [ti_sets_out isC ws w1 k e2, ← e1]
      exact h2
    | inr z => exact ti_sets_in isC ws w1 z k q hn h3 h2 (by omega)
theorem ti_asP {D : va_G} {cl : List vw_C} {ws w1 W' : va_W} {isC : List Nat} {H : Heap} (hP : va_P D cl (ti_sets ws isC w1) H) (src : List (Nat ⊕ Nat)) (h : src.map (ti_src ws w1) = W'.map some) (hs : ti_sok isC src 0 = true) (hn : va_nd isC = true) (hl : W'.length = ws.length) : va_P D cl W' H := fun k q hq => hP k q (ti_asx src h hs hn hl k q hq)
theorem ti_asD {A : Nat → Prop} {ws w1 W' : va_W} {isC : List Nat} (hD : va_D A (ti_sets ws isC w1)) (src : List (Nat ⊕ Nat)) (h : src.map (ti_src ws w1) = W'.map some) (hs : ti_sok isC src 0 = true) (hn : va_nd isC = true) (hl : W'.length = ws.length) : va_D A W' :=
  ⟨fun i j x y hi hj e => hD.1 i j x y (ti_asx src h hs hn hl i x hi) (ti_asx src h hs hn hl j y hj) e, fun k q hq => hD.2 k q (ti_asx src h hs hn hl k q hq)⟩
