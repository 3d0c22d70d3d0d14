/-! Throwable.getCause, where the cause is another -/
set_option maxRecDepth 100000
def ti_gcN : MethodName := ⟨"java/lang/Throwable", "getCause", "()Ljava/lang/Throwable;"⟩
theorem ti_gd0 : decode prog_29_method_8_code 0 = .ok (.aload_n 0, 1) := by decide +kernel
theorem ti_gd1 : decode prog_29_method_8_code 1 = .ok (.getfield 7, 3) := by decide +kernel
theorem ti_gd4 : decode prog_29_method_8_code 4 = .ok (.aload_n 0, 1) := by decide +kernel
theorem ti_gd5 : decode prog_29_method_8_code 5 = .ok (.if_acmp .ne 7, 3) := by decide +kernel
theorem ti_gd12 : decode prog_29_method_8_code 12 = .ok (.aload_n 0, 1) := by decide +kernel
theorem ti_gd13 : decode prog_29_method_8_code 13 = .ok (.getfield 7, 3) := by decide +kernel
theorem ti_gd16 : decode prog_29_method_8_code 16 = .ok (.areturn, 1) := by decide +kernel
section TIGC
set_option maxHeartbeats 4000000 in
theorem ti_gcBack {l : Launch} {R : Room} {p : Program} {e : Env} {below : List Frame} {s : State} {sargs : Array Value} {len W : Nat} (hexec : p.tables.exec = Jvm.exec) (howns : e.platform.frameOwnsMonitors = true)
    {mG : MethodId} {methG : Method} {codeG : Code} (hN : s.methodNamed? ti_gcN = some mG) (hm : s.vm.method? mG = some methG) (hc : methG.code = some codeG) (hplain : ∀ k, s.vm.classes[mG.cls]? = some k → plainName k.name = true) (hlk : methG.locks = true) (hst : methG.isStatic = false) (hret : methG.sig.returnType = some (.object "java/lang/Throwable")) (hml : codeG.maxLocals = 1) (hby : codeG.code = prog_29_method_8_code)
    {ci owner i : Nat} {k : Class} {field : Field} (hl : s.vm.FieldLinks e.platform mG.cls 7 ci owner i) (hright : s.rightAt mG.cls 7 (.field owner i) = true) (hk : s.vm.classes[owner]? = some k) (hf : k.fields[i]? = some field) (hstf : field.isStatic = false)
    {self b : Addr} {cell : Cell} (hknown : cell.vm ≠ .unknown) (hfree : cell.monitor.owner = none) (hcount : cell.monitor.count = 0) (hv : cell.slots[field.slot]? = some (.ref b)) (hne : b ≠ self)
    (hRframes : 2 < R.frames) (hRlocals : W + 42 ≤ R.locals) :
    Back l R p e below s sargs ti_gcN len W
      (fun A a => a = #[.ref self] ∧ A.U.heap[self]? = some cell)
      (fun A _ v B => v = some (.ref b) ∧ B.U.heap = A.U.heap ∧ B.locs = A.locs ∧ B.cells = A.cells ∧ B.slots = A.slots) := by
  intro m meth c A g ig mk a X hg hsize hdg hWd hmk hPre
  obtain ⟨T', locs, cells, slots⟩ := A
  obtain ⟨ha, hcell⟩ := hPre
  dsimp only [Pt.U, Pt.locs, Pt.cells, Pt.slots] at X hmk hcell ⊢
  subst ha
  have e1 : T'.methodNamed? ti_gcN = s.methodNamed? ti_gcN := by
    rw [State.methodNamed?_of_vm (U := T') (V := s.setVm T'.vm) rfl]; exact State.methodNamed?_setVm X.warmed.alike _
  obtain rfl : mk = mG := Option.some.inj ((hmk.symm.trans e1).trans hN)
  have h : At T' g.method c below := by rw [hg]; exact X.here
  have hfr' : T'.frames.length + 2 < (e.platform.stackLimits T'.me).1 := X.framesAbove hRframes
  have hwd' : (stackUse (.java g :: T'.frames.tail)).2 + 42 ≤ (e.platform.stackLimits T'.me).2 := X.stackAbove hsize (K := 42) (by omega)
  obtain ⟨g₀, hg0⟩ := Option.isSome_iff_exists.mp h.top
  obtain ⟨tl0, htl0⟩ := State.topJava?_eq_some.mp hg0
  have hlen0 : T'.frames.length = (Frame.java g :: T'.frames.tail).length := by rw [htl0]; rfl
  have hlt : self < T'.heap.size := (Array.getElem?_eq_some_iff.mp hcell).1
  have hfg : (T'.setTop g).frames = [] ++ (Frame.java g :: T'.frames.tail) := by rw [State.frames_setTop _ htl0, htl0]; rfl
  have hroom : e.platform.stackFull (((T'.setTop g).threads[(T'.setTop g).cur]?).getD { frames := [] }) (T'.setTop g).frames (1 + 2) = false :=
    roomAbove (pushed := []) (base := (Frame.java g :: T'.frames.tail)) (free := 42) (lim := e.platform.stackLimits T'.me) hfg (State.stackLimits_setTop _ h.top g) (by rw [← hlen0]; simp only [List.length_nil]; omega) hwd' (by simp only [stackUse_nil]; omega)
  have hW := X.warmed
  have hAof : ∀ vm, s.WarmedH vm → At (fillInside (T'.setVm vm) g mk self cell) mk codeG below := fun vm hWv => by
    have := At.enter_sync (g := g) (h.setVm (hW.alike.symm.trans hWv.alike)) #[.ref self] self (cell.withEntry T'.cur) (hWv.methodAt hm) hc (hWv.plainAt (m := mk) hplain)
    rw [hml] at this
    exact this
  have hcellU : ∀ vm, (fillInside (T'.setVm vm) g mk self cell).heap[self]? = some (cell.withEntry T'.cur) := fun vm => by
    show (T'.heap.setIfInBounds self (cell.withEntry T'.cur))[self]? = _
    simp [hlt]
  obtain ⟨vm1, hW1, st1⟩ := Steps.getfieldCold (tb := p.tables) (s₀ := s) (U := (fillInside T' g mk self cell)) (f := (fillJ mk self 1 [.ref self])) (a := self) (rest := []) (cell := (cell.withEntry T'.cur)) (v := .ref b) (hAof T'.vm hW) hexec (by rw [hby]; exact ti_gd1) hW hl hright hk hf hstf rfl (hcellU T'.vm) hknown hv
  obtain ⟨vm2, hW2, st2⟩ := Steps.getfieldCold (tb := p.tables) (s₀ := s) (U := (fillInside (T'.setVm vm1) g mk self cell)) (f := (fillJ mk self 13 [.ref self])) (a := self) (rest := []) (cell := (cell.withEntry T'.cur)) (v := .ref b) (hAof vm1 hW1) hexec (by rw [hby]; exact ti_gd13) hW1 hl hright hk hf hstf rfl (hcellU vm1) hknown hv
  refine ⟨some (.ref b), ⟨T'.setVm vm2, locs, cells, slots⟩, X.noted hW2, ⟨rfl, rfl, rfl, rfl, rfl⟩, ?_⟩
  rw [doInvoke_enter_sync h.top [] (hW.methodAt hm) hc hlk hst rfl hcell (Or.inl hfree) (by rw [hml]; exact hroom)]
  rw [hml]
  show Steps p.tables e below ((fillInside T' g mk self cell).setTop (fillJ mk self 0 [])) _
  have hA0 : At (fillInside T' g mk self cell) mk codeG below := hAof T'.vm hW
  have hA1 := hAof vm1 hW1
  have hA2 := hAof vm2 hW2
  jvm_step hA0 [hexec, hby, ti_gd0, Value.isRef]
  refine st1 _ ?_
  show Steps p.tables e below ((fillInside (T'.setVm vm1) g mk self cell).setTop (fillJ mk self 4 [.ref b])) _
  jvm_step hA1 [hexec, hby, ti_gd4, Value.isRef]
  jvm_step hA1 [hexec, hby, ti_gd5, if_acmp.wp_sem, Value.asRef?, if_acmp.holds, hne]
  jvm_step hA1 [hexec, hby, ti_gd12, Value.isRef]
  refine st2 _ ?_
  show Steps p.tables e below ((fillInside (T'.setVm vm2) g mk self cell).setTop (fillJ mk self 16 [.ref b])) _
  jvm_step hA2 [hexec, hby, ti_gd16, areturn.wp_sem, Value.isRef, FieldType.isReference]
  refine ⟨methG, hW2.methodAt hm, ⟨_, hret, rfl⟩, fun acts' => ?_⟩
  have hfr : (fillInside (T'.setVm vm2) g mk self cell).frames = .java (entryFrameSync mk #[.ref self] 1 self) :: .java g :: T'.frames.tail := frames_entered (g := g) (show ((T'.setVm vm2).setCell self (cell.withEntry T'.cur)).topJava?.isSome from h.top) _
  have hcode : (fillInside (T'.setVm vm2) g mk self cell).code? g.method = some c := (h.setVm (hW.alike.symm.trans hW2.alike)).code
  rw [doReturn_leave_sync (u := fillInside (T'.setVm vm2) g mk self cell) (g := g) (meth := methG) (cg := c) (ig := ig) (len := len) (a := self) (cell := cell.withEntry T'.cur)
      (f := fillJ mk self 16 []) (f₀ := entryFrameSync mk #[.ref self] 1 self) (r := T'.frames.tail) acts' howns hfr (hW2.methodAt hm) hlk rfl rfl (hcellU vm2) rfl hcode hdg]
  rw [Cell.left_withEntry T'.cur hfree hcount, ← State.setCell_setFrames]
  have e2 : (fillInside (T'.setVm vm2) g mk self cell).setFrames (.java g :: T'.frames.tail) = ((T'.setVm vm2).setCell self (cell.withEntry T'.cur)).setTop g := setFrames_entered (s := (T'.setVm vm2).setCell self (cell.withEntry T'.cur)) h.top _
  rw [e2]
  have e3 : (((T'.setVm vm2).setCell self (cell.withEntry T'.cur)).setTop g).setCell self cell = (T'.setVm vm2).setTop g := by
    show (((T'.setVm vm2).setCell self (cell.withEntry T'.cur)).setCell self cell).setTop g = _
    rw [setCell_twice, State.setCell_same (s := T'.setVm vm2) hcell]
  rw [e3, State.setTop_setTop]
  · exact Steps.refl _
end TIGC
section TIGW
variable {p : Program} {l : Launch} {e : Env} {R : Room} {s : State} {m : MethodId} {args : Array Value} {below : List Frame} {meth : Method} {c : Code} {H : Heap} {locs : List Loc} {cells slots : Nat} {Q : State → Prop}
variable {cc : ByteArray} {pc nL index : Nat} {ls : Array Slot} {rest : List Value} {D : va_G} {a : Nat} {tys : List (ClassId × FieldType)} {ws : va_W} {own : String}
set_option maxHeartbeats 4000000 in
theorem ti_gcW (S : CallFix p m c cc nL s args lw_all own) (hK : va_K D vwCl tys s) (hP : va_P D vwCl ws H)
    (q0 : Nat) {ci N : Nat} {fs : List Value} {C : String} {Tt : u_T} (ha : ws[q0]? = some (a, .inr (ci, fs))) (hc : vwCl[ci]? = some (C, Tt, N))
    (hT0 : Tt 0 = (Bundle.tN, "cause", "Ljava/lang/Throwable;", false)) (hN : 0 < N) {b : Nat} (h0 : vp_V fs 0 = .ref b) (hne : b ≠ a)
    (hselF : Cond.selects C ti_gcN ti_gcN ∈ lw_all) (hlink : Cond.methodLink own index ti_gcN ∈ lw_all) (hfm : ti_free a H) (hRf : 2 < R.frames) (hRl : (rest.map fun v => v.category).sum ≤ 8 ∧ 50 ≤ R.locals) (hsize : ls.size = nL) (hdg : decode cc pc = .ok (.invokevirtual index, 3))
    (kk : W p l e R s m args below meth c H locs cells slots Q (F0 m (pc + 3) ls (.ref b :: rest))) : W p l e R s m args below meth c H locs cells slots Q (F0 m pc ls (.ref a :: rest)) := by
  intro T hT X
  subst hT
  have hts := S.2.2.2.2
  have hown := S.2.2.2.1
  have howns : e.platform.frameOwnsMonitors = true := by rw [X.admits.platform]
  have hpl : e.platform.magicAccessors = ({} : Platform).magicAccessors := by rw [X.admits.platform]
  obtain ⟨r, hr, cell, hcell, hcls, hvm, hslots⟩ := hP q0 _ ha
  have hr9 : r = (C, Tt, N) := Option.some.inj (hr.symm.trans hc)
  subst hr9
  obtain ⟨hSl, hfc, kC, hkC, hkind⟩ := hK.1 ci _ hc
  have hSl : ∀ k, k < N → SlotIs s (Tt k).1 (Tt k).2.1 (Tt k).2.2.1 (D.2 ci k) := hSl
  have hslots : ∀ k, k < N → cell.slots[D.2 ci k]? = some (vp_V fs k) := hslots
  have hfc' : s.vm.findClass C = some cell.cls := by rw [hcls]; exact hfc
  obtain ⟨c0, hc0, hm0⟩ := hfm
  obtain rfl : c0 = cell := Option.some.inj (hc0.symm.trans hcell)
  obtain ⟨mk, methM, hnamed, hmethM, hstM, habM⟩ := Cond.instanceMethod_spec (hts _ q722)
  obtain ⟨methM', cM, hmethM', hcM, hbM, hlM, hrM, hkM, -, -⟩ := Cond.codeSync_spec hnamed (hts _ q735)
  cases hmethM.symm.trans hmethM'
  have hft : s.vm.findClass Bundle.tN = some mk.cls := findClass_of_methodNamed hnamed
  obtain ⟨kT, hkT, hnT⟩ := Vm.findClass_spec hft
  obtain ⟨ci7, i7, fB, hk7, hg7, ha7, hsB, -, hnB, htB, hffB⟩ := Cond.ownField (t := .object "java/lang/Throwable") hft hkT (by decide +kernel) (hts _ q430) (hts _ (show (Cond.lays Bundle.tN Bundle.tN "cause" "Ljava/lang/Throwable;") ∈ lw_all by decide +kernel)) e.platform hpl
  have slot0 : c0.slots[fB.slot]? = some (.ref b) := by
    obtain ⟨cf, kf, fi, fd, g1, g2⟩ := hSl 0 hN
    rw [hT0] at g1
    cases g1.symm.trans hffB
    rw [g2, hslots 0 hN, h0]
  have hB := ti_gcBack (l := l) (R := R) (below := below) (sargs := args) (len := 3) (W := 8) S.1 howns hnamed hmethM hcM (fun k hk => by cases hkT.symm.trans hk; rw [hnT]; decide +kernel) hkM hstM hrM hlM hbM hk7 hg7 hkT ha7 hsB (self := a) (cell := c0)
    (fun z => by rw [hvm] at z; cases z) (by rw [hm0]) (by rw [hm0]) slot0 hne hRf (by omega)
  obtain ⟨v, vm₁, ⟨U', l2, c2, s2⟩, hW₁, X', ⟨hv9, hh9, hl9, hc9, hs9⟩, st⟩ := ti_callVS X S.1 (C := C) hown (hts _ hlink) (hts _ q722) (hts _ hselF) (hts _ q735) (by decide) hB hcell (by rw [hvm]; rfl) hfc' (g := F0 m pc ls (.ref a :: rest)) rfl (hsize.trans S.2.2.1.symm) (argsL := []) (rest := rest) (fun sig h => by
      have e5 : parseMethodDescriptor "()Ljava/lang/Throwable;" = some { parameters := [], returnType := some (.object "java/lang/Throwable") } := by decide +kernel
      cases e5.symm.trans h; rfl) rfl (by show 2 * 0 + _ ≤ 8; omega) (by rw [S.2.1]; exact hdg) (fun vm₁ hW₁ => ⟨rfl, hcell⟩)
  dsimp only [Pt.U, Pt.locs, Pt.cells, Pt.slots] at X' hh9 hl9 hc9 hs9 st
  subst hv9; subst hl9; subst hc9; subst hs9
  obtain ⟨t, st2, hq⟩ := kk U' hh9 X'
  exact ⟨t, st _ st2, hq⟩
end TIGW
