/-! the row of fillInStackTrace -/
set_option maxRecDepth 100000
/-- of a cell that lay there at the start the monitor was free -/
def ti_free (a : Nat) (H : Heap) : Prop := ∃ cell : Cell, H[a]? = some cell ∧ cell.monitor = {}
section TIFW
variable {p : Program} {l : Launch} {e : Env} {R : Room} {s : State} {m : MethodId} {args : Array Value} {below : List Frame} {meth : Method} {c : Code} {H : Heap} {locs : List Loc} {cells slots : Nat} {Q : State → Prop}
variable {cc : ByteArray} {pc nL : Nat} {ls : Array Slot} {rest : List Value} {D : va_G} {A : Nat → Prop} {a : Nat} {tys : List (ClassId × FieldType)} {ws : va_W}
/-- 'invokevirtual' of a synchronized method, by its payer -/
theorem ti_callVS {T : State} (X : Stand p l e R s m args below meth c T locs cells slots) (hexec : p.tables.exec = Jvm.exec) {own C : String} {index : Nat} {y : MethodName} {bytes : ByteArray} {maxL : Nat} {ret : Option FieldType}
    (hown : s.vm.findClass own = some m.cls) (hlink : (Cond.methodLink own index y).before args s = true) (hinst : (Cond.instanceMethod y).before args s = true) (hsel : (Cond.selects C y y).before args s = true)
    (hcode : (Cond.codeSync y bytes maxL ret).before args s = true) (hy : y.cls ≠ "java/lang/invoke/MethodHandle" ∧ y.cls ≠ "java/lang/invoke/VarHandle")
    {W : Nat} {Pre : Pt → Array Value → Prop} {Post : Pt → Array Value → Option Value → Pt → Prop} (hK : Back l R p e below s args y 3 W Pre Post)
    {b : Addr} {cellB : Cell} (hcell : T.heap[b]? = some cellB) (hobj : cellB.vm.isStatics = false) (hcls : s.vm.findClass C = some cellB.cls)
    {g : JFrame} (hg : g.method = m) (hsize : g.locals.size = c.maxLocals) {argsL rest : List Value} (hlen : ∀ sig, parseMethodDescriptor y.desc = some sig → argsL.length = sig.parameters.length)
    (hstack : g.stack = argsL.reverse ++ .ref b :: rest) (hW : 2 * g.monitorRoom + (rest.map fun v => v.category).sum ≤ W) (hdg : decode c.code g.pc = .ok (.invokevirtual index, 3))
    (hpre : ∀ vm₁, s.WarmedH vm₁ → Pre ⟨T.setVm vm₁, locs, cells, slots⟩ (Value.ref b :: argsL).toArray) :
    ∃ (v : Option Value) (vm₁ : Vm) (B : Pt), s.WarmedH vm₁ ∧ Stand p l e R s m args below meth c B.U B.locs B.cells B.slots ∧ Post ⟨T.setVm vm₁, locs, cells, slots⟩ (Value.ref b :: argsL).toArray v B ∧
      ∀ target, Steps p.tables e below (B.U.setTop { g with pc := g.pc + 3, stack := v.toList ++ rest }) target → Steps p.tables e below (T.setTop g) target := by
  obtain ⟨mk, methM, hnamed, hmethM, hstM, habM⟩ := Cond.instanceMethod_spec hinst
  obtain ⟨methM', cM, hmethM', -, -, -, -, -, -, hsigM⟩ := Cond.codeSync_spec hnamed hcode
  cases hmethM.symm.trans hmethM'
  obtain ⟨c2, r2, m2, q1, q2, q3, q4, kP, hkP, hkPi⟩ := Cond.selects_spec hsel
  cases hcls.symm.trans q1
  cases (State.methodFound?_of_named hnamed hy).symm.trans q2
  cases hnamed.symm.trans q3
  have hselP : selectMethod e.platform s.vm cellB.cls mk = .method mk := by rw [Launch.admits_selectMethod X.admits]; exact q4
  obtain ⟨vm₁, X₁, hstep₁⟩ := X.invokevirtual hexec hown hlink hnamed hmethM hstM hkP hkPi hy (a := b) (cell := cellB) hcell
    (fun z h => by rw [h] at hobj; cases hobj) hselP hmethM habM hkP hkPi (g := g) hg (argsL := argsL) (rest := rest) (hlen _ hsigM) hstack hdg
  obtain ⟨v, B, X', hpost, hsteps⟩ := hK m meth c ⟨T.setVm vm₁, locs, cells, slots⟩ { g with stack := rest } (.invokevirtual index) mk (Value.ref b :: argsL).toArray X₁ hg hsize hdg hW (X₁.named hnamed) (hpre vm₁ X₁.warmed)
  exact ⟨v, vm₁, B, X₁.warmed, X', hpost, fun target h => hstep₁ _ fun acts => by rw [doInvoke_state]; exact hsteps.trans h⟩
set_option maxHeartbeats 4000000 in
theorem ti_fillW (S : CallFix p m c cc nL s args lw_all Bundle.tN) (hl : l.stackTraces = false) (hK : va_K D vwCl tys s) (hP : va_P D vwCl ws H) (hS : va_S A s.heap H locs)
    (hLU : vx_L Bundle.tN "UNASSIGNED_STACK" Bundle.steD A s s.heap) (hLN : vx_L Bundle.tN "SUPPRESSED_SENTINEL" Bundle.listD A s s.heap) {u : Value} (hu : u.isRef = true) (hZ : va_Z Bundle.tN "UNASSIGNED_STACK" Bundle.steD u A s s.heap)
    (q0 : Nat) {ci N : Nat} {fs : List Value} {C : String} {Tt : u_T} (ha : ws[q0]? = some (a, .inr (ci, fs))) (hc : vwCl[ci]? = some (C, Tt, N))
    (hT1 : Tt 1 = (Bundle.tN, "stackTrace", Bundle.steD, false)) (hT4 : Tt 4 = (Bundle.tN, "backtrace", "Ljava/lang/Object;", false)) (hN : 4 < N) (h1 : vp_V fs 1 = u) (h4 : vp_V fs 4 = .null) (hAa : A a)
    (hsel0 : Cond.selects C Bundle.tFill0 Bundle.tFill0 ∈ lw_all) (hselF : Cond.selects C Bundle.tFill Bundle.tFill ∈ lw_all) (hly : Cond.lays C Bundle.tN "stackTrace" Bundle.steD ∈ lw_all)
    (hfm : ti_free a s.heap) (hRf : 2 < R.frames) (hRl : (rest.map fun v => v.category).sum ≤ 8 ∧ 50 ≤ R.locals) (hsize : ls.size = nL) (hdg : decode cc pc = .ok (.invokevirtual 27, 3))
    (kk : ∀ locs1 : List Loc, va_S A s.heap H locs1 → W p l e R s m args below meth c H locs1 cells slots Q (F0 m (pc + 3) ls (.ref a :: rest))) : W p l e R s m args below meth c H locs cells slots Q (F0 m pc ls (.ref a :: rest)) := by
  intro T hT X
  subst hT
  have hts := S.2.2.2.2
  have hown := S.2.2.2.1
  have htr : e.platform.stackTraces = false := (show e.platform.stackTraces = l.stackTraces by rw [X.admits.platform]).trans hl
  have howns : e.platform.frameOwnsMonitors = true := by rw [X.admits.platform]
  have hfin : e.platform.finalization = false := by rw [X.admits.platform]
  have hpl : e.platform.magicAccessors = ({} : Platform).magicAccessors := by rw [X.admits.platform]
  have hat : ∀ w ∈ Bundle.throwableAtoms, w.before args s = true := by
    intro w hw
    by_cases e3 : w = .laysStatic Bundle.tN "UNASSIGNED_STACK" Bundle.steD
    · rw [e3]; exact hLU.word
    · by_cases e4 : w = .laysStatic Bundle.tN "SUPPRESSED_SENTINEL" Bundle.listD
      · rw [e4]; exact hLN.word
      · have e1 : w ≠ .isRef (.static Bundle.tN "UNASSIGNED_STACK" Bundle.steD) := fun z => by rw [z] at hw; exact absurd hw (by decide +kernel)
        have e2 : w ≠ .isRef (.static Bundle.tN "SUPPRESSED_SENTINEL" Bundle.listD) := fun z => by rw [z] at hw; exact absurd hw (by decide +kernel)
        exact hts w (ti_thrW w (List.mem_filter.mpr ⟨hw, by unfold vx_no; rw [decide_eq_true e1, decide_eq_true e2, decide_eq_true e3, decide_eq_true e4]; rfl⟩))
  obtain ⟨TT, Z, L, LZ, Y⟩ := ThrowableC.of_atoms (args := args) howns hfin hpl hat
  obtain ⟨r, hr, cell, hcell, hcls, hvm, hslots⟩ := hP q0 _ ha
  have hr9 : r = (C, Tt, N) := Option.some.inj (hr.symm.trans hc)
  subst hr9
  obtain ⟨hSl, hfc, kC, hkC, hkind⟩ := hK.1 ci _ hc
  have hSl : ∀ k, k < N → SlotIs s (Tt k).1 (Tt k).2.1 (Tt k).2.2.1 (D.2 ci k) := hSl
  have hslots : ∀ k, k < N → cell.slots[D.2 ci k]? = some (vp_V fs k) := hslots
  have hfc' : s.vm.findClass C = some cell.cls := by rw [hcls]; exact hfc
  have hkC' : s.vm.classes[cell.cls]? = some kC := by rw [hcls]; exact hkC
  obtain ⟨c0, hc0, hm0⟩ := hfm
  obtain ⟨c1, hc1, he1, -, -⟩ := X.same.2.2.2.2.2 a c0 hc0
  have hc1' : T.heap[a]? = some c1 := hc1
  have e9 : c1 = cell := Option.some.inj (hc1'.symm.trans hcell)
  subst e9
  have hmon : c1.monitor = {} := by rw [he1]; exact hm0
  have hsel : selectMethod e.platform s.vm c1.cls TT.fill0 = .method TT.fill0 := by
    obtain ⟨c2, r2, m2, q1, q2, q3, q4, -⟩ := Cond.selects_spec (hts _ hsel0)
    cases Option.some.inj (q1.symm.trans hfc')
    cases Option.some.inj (q2.symm.trans (State.methodFound?_of_named Y.fill0 (by decide)))
    cases Option.some.inj (q3.symm.trans Y.fill0)
    rw [Launch.admits_selectMethod X.admits]; exact q4
  obtain ⟨cf, kf, fi, f, aS, cellS, z1, z2, z3, z4, z5, z6, z7, z8⟩ := hZ
  cases z1.symm.trans Y.unassigned
  cases Option.some.inj (z4.symm.trans L.statics)
  have hcS : T.heap[TT.aS]? = some cellS := by rw [hS.2.1 _ (Array.getElem?_eq_some_iff.mp z5).1 z8]; exact z5
  have hneS : TT.aS ≠ a := fun z => z8 (by rw [z]; exact hAa)
  have hknS : cellS.vm ≠ .unknown := fun z => by rw [z] at z6; cases z6
  have slot1 : c1.slots[TT.fStack.slot]? = some u := by
    obtain ⟨cf, kf, fi, fd, g1, g2⟩ := hSl 1 (by omega)
    rw [hT1] at g1
    cases g1.symm.trans Y.stack
    rw [g2, hslots 1 (by omega), h1]
  obtain ⟨ci198, i198, fB, hk198, hg198, ha198, hsB, -, hnB, htB, hffB⟩ := Cond.ownField (t := .object "java/lang/Object") Y.found L.cls (by decide +kernel) (hts _ q380) (hts _ (show (Cond.lays Bundle.tN Bundle.tN "backtrace" "Ljava/lang/Object;") ∈ lw_all by decide +kernel)) e.platform hpl
  have slot4 : c1.slots[fB.slot]? = some .null := by
    obtain ⟨cf, kf, fi, fd, g1, g2⟩ := hSl 4 hN
    rw [hT4] at g1
    cases g1.symm.trans hffB
    rw [g2, hslots 4 hN, h4]
  obtain ⟨tyS, dS, hdS, hdnS⟩ := Cond.laysAt hfc' hkC' Y.stack (hts _ hly)
  have htS : Takes s c1 TT.fStack u := by
    refine ⟨(Array.getElem?_eq_some_iff.mp slot1).1, ?_⟩
    have := (Takes.of_laid (v := u) hkC' hkind tyS (by rw [Y.stackType]; exact fits_refV_array _ ⟨u, hu⟩)).2
    rw [hvm]; exact this
  have hB := ti_fillOff (l := l) (R := R) (below := below) (sargs := args) (len := 3) (W := 8) S.1 htr TT L Y.fill (u0 := ⟨u, hu⟩) (self := a) (cell := c1) (cellS := cellS)
    (fun k z => by rw [hvm] at z; cases z) (fun z => by rw [hvm] at z; cases z) (by rw [hmon]) (by rw [hmon]) slot1 hsel hneS hknS z7 htS ⟨{ ci198 := ci198, i198 := i198, fBack := fB }, ⟨hk198, hg198, ha198, hsB⟩, slot4⟩ hRf (by omega)
  obtain ⟨v, vm₁, ⟨U', l2, c2, s2⟩, hW₁, X', ⟨hv9, hh9, hl9, hc9, hs9⟩, st⟩ := ti_callVS X S.1 (C := C) hown (hts _ q389) (hts _ q390) (hts _ hselF) (hts _ q415) (by decide) hB hcell (by rw [hvm]; rfl) hfc' (g := F0 m pc ls (.ref a :: rest)) rfl (hsize.trans S.2.2.1.symm) (argsL := []) (rest := rest) (fun sig h => by
      have e5 : parseMethodDescriptor "()Ljava/lang/Throwable;" = some { parameters := [], returnType := some (.object "java/lang/Throwable") } := by decide +kernel
      cases e5.symm.trans h; rfl) rfl (by show 2 * 0 + _ ≤ 8; omega) (by rw [S.2.1]; exact hdg) (fun vm₁ hW₁ => ⟨rfl, hcell, hcS⟩)
  dsimp only [Pt.U, Pt.locs, Pt.cells, Pt.slots] at X' hh9 hl9 hc9 hs9 st
  subst hv9; subst hl9; subst hc9; subst hs9
  have hh9 : U'.heap = T.heap := hh9
  obtain ⟨t, st2, hq⟩ := kk (locs ++ [⟨a, TT.fStack.slot⟩]) ⟨hS.1, hS.2.1, fun q hq => by
    rcases List.mem_append.mp hq with h | h
    · exact hS.2.2 q h
    · rw [List.mem_singleton.mp h]; exact hAa⟩ U' hh9 X'
  exact ⟨t, st _ st2, hq⟩
end TIFW
