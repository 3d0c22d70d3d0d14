/-! NullPointerException over a native frame (printed by mknpe.py) -/
set_option maxRecDepth 100000
theorem ty_startO {tb : Tables} {e : Env} {below : List Frame} {s target : State} {base : List Frame} (h : Over s base below)
    {cls : String} {cX : ClassId} {kX : Class} {i : Nat}
    (hsoe : (cls == "java/lang/StackOverflowError") = false) (hoom : (cls == "java/lang/OutOfMemoryError") = false)
    (hfound : s.vm.findClass cls = some cX) (hk : s.vm.classes[cX]? = some kX) (hinit : kX.init = .initialized) (hord : kX.kind = .ordinary)
    (hhot : e.platform.hotImplicitExceptions = false)
    (hbeyond : e.platform.stackBeyond ((((s.setFrames (.throwNew cls none none :: base)).threads[s.cur]?).map (·.stackBytes)).getD 0) (s.setFrames (.throwNew cls none none :: base)).frames = false)
    (hfree : e.platform.vmThrowRoom ≤ e.platform.stackFree ((((s.setFrames (.throwNew cls none none :: base)).threads[s.cur]?).map (·.stackBytes)).getD 0) (s.setFrames (.throwNew cls none none :: base)).frames)
    (hctor : kX.findMethod "<init>" "()V" = some i)
    (hcells : s.heap.size + 1 ≤ e.platform.maxCells) (hslots : s.slotsUsed + kX.instanceTypes.size ≤ e.platform.maxSlots)
    (hrest : Steps tb e below (doInvoke e ((s.pushCell (freshCell cX kX)).setFrames (.thenThrow s.heap.size :: base)) [] ⟨cX, i⟩ #[.ref s.heap.size]).1 target) :
    Steps tb e below (s.setFrames (.throwNew cls none none :: base)) target := by
  obtain ⟨mid, hmid⟩ := h.above
  have hf0 : (s.setFrames (.throwNew cls none none :: base)).frames = .throwNew cls none none :: base := State.frames_setFrames _ h.cur
  have hgo0 : (s.setFrames (.throwNew cls none none :: base)).goesOn := ⟨h.running, by simpa using h.runnable, by simpa using h.alone⟩
  have hw0 : Within (s.setFrames (.throwNew cls none none :: base)) below := ⟨.throwNew cls none none :: mid, by rw [hf0, hmid]; rfl, by simp, by simp⟩
  refine Steps.head hgo0 hw0 ?_
  rw [stepThread_throwNew hf0, stepThrowNew_plain (s := s.setFrames (.throwNew cls none none :: base)) (c := cX) (k := kX) (i := i) hsoe hoom hfound hk hinit hord hhot hbeyond hfree hctor hcells hslots]
  have hN : ((s.setFrames (.throwNew cls none none :: base)).pushCell (freshCell cX kX)).setFrames (.thenThrow ((s.setFrames (.throwNew cls none none :: base)).heap.size) :: base) = (s.pushCell (freshCell cX kX)).setFrames (.thenThrow s.heap.size :: base) := by
    rw [State.pushCell_setFrames, State.setFrames_setFrames]
    rfl
  rw [hN]
  exact hrest
theorem ty_inO {below : List Frame} {W : State} {base : List Frame} (hWat : Over W base below) (a : Addr) {m : MethodId} {meth : Method} {code : Code}
    (hm : W.vm.method? m = some meth) (hc : meth.code = some code) (hplain : W.plainMethod m) :
    (W.setFrames (.thenThrow a :: base)).frames = .thenThrow a :: base ∧
    At ((W.setFrames (.thenThrow a :: base)).pushFrame (.java (pass0J m a 0 []))) m code below ∧
    ((W.setFrames (.thenThrow a :: base)).pushFrame (.java (pass0J m a 0 []))).frames = .java (pass0J m a 0 []) :: .thenThrow a :: base := by
  obtain ⟨mid, hmid⟩ := hWat.above
  have hfN : (W.setFrames (.thenThrow a :: base)).frames = .thenThrow a :: base := State.frames_setFrames _ hWat.cur
  have hcurN : (W.setFrames (.thenThrow a :: base)).cur < (W.setFrames (.thenThrow a :: base)).threads.size := State.cur_lt_of_frames hfN
  have hgoN : (W.setFrames (.thenThrow a :: base)).goesOn := ⟨hWat.running, by simpa using hWat.runnable, by simpa using hWat.alone⟩
  refine ⟨hfN, At.pushOn _ hgoN hcurN ⟨.thenThrow a :: mid, by rw [hfN, hmid]; rfl⟩ hm hc hplain, ?_⟩
  rw [show ((W.setFrames (.thenThrow a :: base)).pushFrame (.java (pass0J m a 0 []))).frames = .java (pass0J m a 0 []) :: (W.setFrames (.thenThrow a :: base)).frames from State.frames_setFrames _ hcurN, hfN]
theorem ty_retO (p : Program) {e : Env} {below : List Frame} {W target : State} {base : List Frame} (hWat : Over W base below) (hexec : p.tables.exec = Jvm.exec)
    {H : State → State} (hH : HeapOnly H) (a : Addr) {m : MethodId} {meth : Method} {code : Code}
    (hm : W.vm.method? m = some meth) (hc : meth.code = some code) (hplain : W.plainMethod m) (hl : meth.locks = false) (h5 : decode code.code 4 = .ok (.return_, 1))
    (hrest : Steps p.tables e below ((H W).setFrames (.throwing a :: base)) target) :
    Steps p.tables e below ((H ((W.setFrames (.thenThrow a :: base)).pushFrame (.java (pass0J m a 0 [])))).setTop (pass0J m a 4 [])) target := by
  obtain ⟨hfN, hI, hfI⟩ := ty_inO hWat a hm hc hplain
  obtain ⟨mid, hmid⟩ := hWat.above
  have hB : At (H ((W.setFrames (.thenThrow a :: base)).pushFrame (.java (pass0J m a 0 [])))) m code below := hH.at_ hI
  jvm_step hB [hexec, h5, return_.wp_sem]
  intro acts2
  have hfH : (H ((W.setFrames (.thenThrow a :: base)).pushFrame (.java (pass0J m a 0 [])))).frames = .java (pass0J m a 0 []) :: .thenThrow a :: base := by rw [hH.frames]; exact hfI
  rw [ret_to (t := H ((W.setFrames (.thenThrow a :: base)).pushFrame (.java (pass0J m a 0 [])))) (f := pass0J m a 4 []) (f₀ := pass0J m a 0 []) (below := .thenThrow a :: base)
      (fs := .thenThrow a :: base) (meth := meth) hfH (by rw [hH.vm]; exact hm) hl rfl rfl rfl acts2]
  have hHI : ∀ F, (H ((W.setFrames (.thenThrow a :: base)).pushFrame (.java (pass0J m a 0 [])))).setFrames F = (H W).setFrames F := by
    intro F
    rw [State.pushFrame, hH.setFrames, hH.setFrames, State.setFrames_setFrames, State.setFrames_setFrames]
  have hcurHI := State.cur_lt_of_frames hfH
  have hf1 : ((H ((W.setFrames (.thenThrow a :: base)).pushFrame (.java (pass0J m a 0 [])))).setFrames (.thenThrow a :: base)).frames = .thenThrow a :: base := State.frames_setFrames _ hcurHI
  refine Steps.head ⟨hB.running, by simpa using hB.runnable, by simpa using hB.alone⟩ ⟨.thenThrow a :: mid, by rw [hf1, hmid]; rfl, by simp, by simp⟩ ?_
  rw [stepThread_thenThrow hf1]
  show Steps p.tables e below (((H ((W.setFrames (.thenThrow a :: base)).pushFrame (.java (pass0J m a 0 [])))).setFrames (.thenThrow a :: base)).setFrames (.throwing a :: base)) target
  rw [State.setFrames_setFrames, hHI]
  exact hrest

theorem ty_coldO (p : Program) {e : Env} {below : List Frame} {s₀ W : State} {base : List Frame} (hWat : Over W base below) (hexec : p.tables.exec = Jvm.exec)
    {H : State → State} (hH : HeapOnly H) (P1 : PassC) (L1 : P1.Links0 e.platform s₀) (hW : s₀.WarmedH W.vm) (a : Addr)
    (hroom : e.platform.stackFull (((W.setFrames (.thenThrow a :: base)).threads[(W.setFrames (.thenThrow a :: base)).cur]?).getD { frames := [] }) (W.setFrames (.thenThrow a :: base)).frames 1 = false)
    (hsup : ∀ vm1, s₀.WarmedH vm1 → At (((W.setVm vm1).setFrames (.thenThrow a :: base)).pushFrame (.java (pass0J P1.m a 0 []))) P1.m P1.code below → ∃ vm2, s₀.WarmedH vm2 ∧ ∀ t' : State,
      Steps p.tables e below ((H (((W.setVm vm2).setFrames (.thenThrow a :: base)).pushFrame (.java (pass0J P1.m a 0 [])))).setTop (pass0J P1.m a 4 [])) t' →
      Steps p.tables e below (doInvoke e ((((W.setVm vm1).setFrames (.thenThrow a :: base)).pushFrame (.java (pass0J P1.m a 0 []))).setTop (pass0J P1.m a 1 [])) [] P1.sup #[.ref a]).1 t') :
    ∃ vm', s₀.WarmedH vm' ∧ ∀ target, Steps p.tables e below ((H (W.setVm vm')).setFrames (.throwing a :: base)) target →
      Steps p.tables e below (doInvoke e (W.setFrames (.thenThrow a :: base)) [] P1.m #[.ref a]).1 target := by
  have hmW := hW.methodAt L1.method
  obtain ⟨hfN, hI, hfI⟩ := ty_inO hWat a hmW L1.code (hW.plainAt L1.plain)
  obtain ⟨vm1, hW1, st1⟩ := Steps.invokeInitCold (tb := p.tables) (s₀ := s₀) (U := ((W.setFrames (.thenThrow a :: base)).pushFrame (.java (pass0J P1.m a 0 [])))) (f := pass0J P1.m a 1 [.ref a]) (args := []) (rest := []) (a := a) hI hexec L1.at1 hW L1.links L1.right L1.notHandle L1.cls L1.file L1.pool
    L1.supClass L1.supMethod L1.supName L1.supStatic L1.supAbstract L1.supFound L1.supParams.symm rfl
  obtain ⟨vm2, hW2, st2⟩ := hsup vm1 hW1 (hI.setVm (hW.alike.symm.trans hW1.alike))
  refine ⟨vm2, hW2, fun target hrest => ?_⟩
  rw [(doInvoke_java (s := (W.setFrames (.thenThrow a :: base))) (e := e) (acts := []) (args := #[.ref a]) (meth := P1.meth) (code := P1.code) hmW L1.code L1.locks (by rw [L1.locals]; exact hroom)).1, L1.locals]
  show Steps p.tables e below ((W.setFrames (.thenThrow a :: base)).pushFrame (.java (pass0J P1.m a 0 []))) target
  rw [← State.setTop_self (s := ((W.setFrames (.thenThrow a :: base)).pushFrame (.java (pass0J P1.m a 0 [])))) (State.topJava?_of_frames hfI)]
  jvm_step hI [hexec, L1.at0, Value.isRef]
  refine st1 target (st2 target ?_)
  exact ty_retO p (W := W.setVm vm2) (hWat.setVm (hW.alike.symm.trans hW2.alike)) hexec hH a (hW2.methodAt L1.method) L1.code (hW2.plainAt (U := W.setVm vm2) L1.plain) L1.locks L1.at4 hrest

theorem ty_npeCtorO {self : Addr} (p : Program) {e : Env} {below : List Frame} {s₀ W : State} {base : List Frame} (hWat : Over W base below) (hexec : p.tables.exec = Jvm.exec)
    (T : ThrowableC) (L : T.Links e.platform s₀) (Z : Init0T) (LZ : Z.Laid T.toThrowableT) (N : NpeC) (LN : N.Links T e.platform s₀) (hW : s₀.WarmedH W.vm) {t : ThreadId} (ht : W.cur = t)
    {Nn : State → State} (hN : HeapOnly Nn) (hNvm : ∀ u vm, Nn (u.setVm vm) = (Nn u).setVm vm) (hNcur : ∀ u, (Nn u).cur = u.cur)
    (hNover : ∀ u x y, (Nn (u.setCell self x)).setCell self y = (Nn u).setCell self y) (hNgrow : ∀ u, u.heap.size ≤ (Nn u).heap.size)
    {u0 sen : RefV} {cell cellS cN : Cell} {kcell : Class}
    (hcell : W.heap[self]? = some cell) (hobj : ∀ k, cell.vm ≠ .statics k) (hknown : cell.vm ≠ .unknown) (hfree : cell.monitor.owner = none)
    (hkcell : s₀.vm.classes[cell.cls]? = some kcell) (hsel0 : selectMethod e.platform s₀.vm cell.cls T.fill0 = .method T.fill0)
    (hcellS : W.heap[T.aS]? = some cellS) (hneS : T.aS ≠ self) (hknownS : cellS.vm ≠ .unknown) (hvU : cellS.slots[T.fUnassigned.slot]? = some u0.v)
    (hv0 : cell.slots[N.fState.slot]? = some (.int 0)) (hneC : T.fCause.slot ≠ N.fState.slot) (hneSt : T.fStack.slot ≠ N.fState.slot) (hneP : T.fSupp.slot ≠ N.fState.slot)
    (htS : Takes s₀ cell T.fStack u0.v) (ht1 : Takes s₀ cell N.fState (.int 1))
    (hcN : ∀ u, u.heap[self]? = some ((npeCell N.toNpeT (preparedCellV T.toThrowableT cell self u0 sen) t).withEntry t) → (Nn u).heap[self]? = some cN) (hcNS : ∀ u, u.heap[T.aS]? = some cellS → (Nn u).heap[T.aS]? = some cellS)
    (hNcls : cN.cls = cell.cls) (hNdata : cN.vm = cell.vm) (hNmon : cN.monitor = ((npeCell N.toNpeT (preparedCellV T.toThrowableT cell self u0 sen) t).withEntry t).monitor) (hNsize : cN.slots.size = cell.slots.size)
    (hskip : SkipFacts T e.platform s₀ Nn u0 ((npeCell N.toNpeT (preparedCellV T.toThrowableT cell self u0 sen) t).withEntry t))
    (hnat : u0.v ≠ .null → ∀ u : State, At u T.fill T.codeFill below → s₀.WarmedH u.vm → u.heap[self]? = some ((npeCell N.toNpeT (preparedCellV T.toThrowableT cell self u0 sen) t).withEntry t) →
      e.platform.stackFull (((u.setTop (fillJ T.fill self 16 [])).threads[(u.setTop (fillJ T.fill self 16 [])).cur]?).getD { frames := [] }) (u.setTop (fillJ T.fill self 16 [])).frames (nativeFrameWords "java/lang/Throwable" "fillInStackTrace" 2) = false → ∀ t' : State,
      Steps p.tables e below ((Nn u).setTop (fillJ T.fill self 19 [.ref self])) t' →
      Steps p.tables e below (doInvoke e (u.setTop (fillJ T.fill self 16 [])) [] T.fill0 #[.ref self, .int 0]).1 t')
    (hselF : selectMethod e.platform s₀.vm cell.cls T.fill = .method N.fill) (hvSen : cellS.slots[T.fSentinel.slot]? = some sen.v)
    (htC : Takes s₀ cell T.fCause (.ref self)) (htP : Takes s₀ cell T.fSupp sen.v) (hobjLocals : T.codeObj.maxLocals = 1)
    (P1 : PassC) (L1 : P1.Links0 e.platform s₀) (Ps : List PassC) (hL : ∀ P, P ∈ Ps → P.Links0 e.platform s₀) (hlink1 : P1.sup = firstOf (Z.m T.toThrowableT) (Ps.map (·.toPassT))) (hlink : PassesOn (Z.m T.toThrowableT) (Ps.map (·.toPassT)))
    {lim : Nat × Nat} (hlim : e.platform.stackLimits W.me = lim) (hframes : base.length + Ps.length + 5 < lim.1) (hwords : (stackUse (base)).2 + 13 * Ps.length + 68 ≤ lim.2) :
    ∃ vm', s₀.WarmedH vm' ∧ ∀ target, Steps p.tables e below (((Nn (W.setVm vm')).setCell self (cN.setSlot T.fStack.slot u0.v).left.left).setFrames (.throwing self :: base)) target →
      Steps p.tables e below (doInvoke e (W.setFrames (.thenThrow self :: base)) [] P1.m #[.ref self]).1 target := by
  obtain ⟨hfN, -, -⟩ := ty_inO hWat self (hW.methodAt L1.method) L1.code (hW.plainAt L1.plain)
  have hlimN : e.platform.stackLimits (W.setFrames (.thenThrow self :: base)).me = lim := by rw [State.stackLimits_setFrames]; exact hlim
  have hroom := roomAbove (pl := e.platform) (u := W.setFrames (.thenThrow self :: base)) (vars := 1) (pushed := [.thenThrow self]) (base := base) (free := 13 * Ps.length + 68) (lim := lim) hfN hlimN
    (by simp only [List.length_cons, List.length_nil]; omega) (by omega) (by rw [stackUse_light _ _ (fun f hf => by cases hf) rfl, stackUse_nil]; show 0 + 1 + 11 ≤ _; omega)
  refine ty_coldO p hWat hexec (H := fun u => (Nn u).setCell self (cN.setSlot T.fStack.slot u0.v).left.left) (hN.thenSetCell self _) P1 L1 hW self hroom (fun vm1 hW1 hI1 => ?_)
  rw [hlink1]
  obtain ⟨-, -, hfI⟩ := ty_inO (hWat.setVm (hW.alike.symm.trans hW1.alike)) self (hW1.methodAt L1.method) L1.code (hW1.plainAt (U := W.setVm vm1) L1.plain)
  have hXfr : (((W.setVm vm1).setFrames (.thenThrow self :: base)).pushFrame (.java (pass0J P1.m self 0 []))).frames = .java (pass0J P1.m self 0 []) :: .thenThrow self :: base := hfI
  have hXvm : ∀ w, (((W.setVm vm1).setFrames (.thenThrow self :: base)).pushFrame (.java (pass0J P1.m self 0 []))).setVm w = (((W.setVm w).setFrames (.thenThrow self :: base)).pushFrame (.java (pass0J P1.m self 0 []))) := fun w => by rw [State.pushFrame_setVm, State.setFrames_setVm, State.setVm_twice]
  have hXc : (((W.setVm vm1).setFrames (.thenThrow self :: base)).pushFrame (.java (pass0J P1.m self 0 []))).heap[self]? = some cell := hcell
  have hXS : (((W.setVm vm1).setFrames (.thenThrow self :: base)).pushFrame (.java (pass0J P1.m self 0 []))).heap[T.aS]? = some cellS := hcellS
  have hXcur : (((W.setVm vm1).setFrames (.thenThrow self :: base)).pushFrame (.java (pass0J P1.m self 0 []))).cur = t := ht
  have hXW : s₀.WarmedH (((W.setVm vm1).setFrames (.thenThrow self :: base)).pushFrame (.java (pass0J P1.m self 0 []))).vm := hW1
  have hXlim : e.platform.stackLimits (((W.setVm vm1).setFrames (.thenThrow self :: base)).pushFrame (.java (pass0J P1.m self 0 []))).me = lim := by rw [State.stackLimits_pushFrame, State.stackLimits_setFrames]; exact hlim
  suffices hs : ∃ vm2, s₀.WarmedH vm2 ∧ ∀ t' : State, Steps p.tables e below (((Nn ((((W.setVm vm1).setFrames (.thenThrow self :: base)).pushFrame (.java (pass0J P1.m self 0 []))).setVm vm2)).setCell self (cN.setSlot T.fStack.slot u0.v).left.left).setTop (pass0J P1.m self 4 [])) t' →
      Steps p.tables e below (doInvoke e ((((W.setVm vm1).setFrames (.thenThrow self :: base)).pushFrame (.java (pass0J P1.m self 0 []))).setTop (pass0J P1.m self 1 [])) [] (firstOf (Z.m T.toThrowableT) (Ps.map (·.toPassT))) #[.ref self]).1 t' by
    obtain ⟨vm2, hW2, st⟩ := hs
    exact ⟨vm2, hW2, fun t' h' => st t' (by rw [hXvm]; exact h')⟩
  clear hXvm
  generalize (((W.setVm vm1).setFrames (.thenThrow self :: base)).pushFrame (.java (pass0J P1.m self 0 []))) = X at hI1 hXfr hXc hXS hXcur hXW hXlim ⊢
  exact Steps.initNpe0ColdByV p (V := X) (g := pass0J P1.m self 1 []) (c := P1.code) (self := self) hI1 hexec T L Z LZ N LN hXW hXcur hN hNvm hNcur hNover hNgrow hXc hobj hknown hfree hkcell hsel0 hXS hneS hknownS hvU hv0 hneC hneSt hneP htS ht1
    hcN hcNS hNcls hNdata hNmon hNsize hskip hnat hselF hvSen htC htP hobjLocals Ps hL hlink (ig := .invokespecial P1.index) (len := 3) [] hXlim
    (by rw [hXfr]; simp only [List.length_cons]; omega)
    (by rw [hXfr, List.tail_cons, stackUse_java, stackUse_light _ _ (fun f hf => by cases hf) rfl]
        show (stackUse (base)).2 + (1 + 11 + 2 * 0 + operandWords []) + 13 * Ps.length + 55 ≤ lim.2
        simp only [operandWords, List.foldl_nil]
        omega)
    L1.at1

theorem ty_npeO (p : Program) {e : Env} {below : List Frame} {s₀ S : State} {base : List Frame} (h : Over S base below) (hexec : p.tables.exec = Jvm.exec)
    (T : ThrowableC) (L : T.Links e.platform s₀) (Z : Init0T) (LZ : Z.Laid T.toThrowableT) (N : NpeC) (LN : N.Links T e.platform s₀) (hW : s₀.WarmedH S.vm) {t : ThreadId} (ht : S.cur = t)
    (P1 : PassC) (L1 : P1.Links0 e.platform s₀) (Ps : List PassC) (hL : ∀ P, P ∈ Ps → P.Links0 e.platform s₀) (hlink1 : P1.sup = firstOf (Z.m T.toThrowableT) (Ps.map (·.toPassT))) (hlink : PassesOn (Z.m T.toThrowableT) (Ps.map (·.toPassT)))
    {kX : Class} (hfound : s₀.vm.findClass "java/lang/NullPointerException" = some P1.m.cls) (hk : s₀.vm.classes[P1.m.cls]? = some kX) (hinit : kX.init = .initialized) (hord : kX.kind = .ordinary)
    (hctor : kX.findMethod "<init>" "()V" = some P1.m.idx) (hhot : e.platform.hotImplicitExceptions = false)
    (hbeyond : e.platform.stackBeyond ((((S.setFrames (.throwNew "java/lang/NullPointerException" none none :: base)).threads[S.cur]?).map (·.stackBytes)).getD 0) (S.setFrames (.throwNew "java/lang/NullPointerException" none none :: base)).frames = false)
    (hfreeW : e.platform.vmThrowRoom ≤ e.platform.stackFree ((((S.setFrames (.throwNew "java/lang/NullPointerException" none none :: base)).threads[S.cur]?).map (·.stackBytes)).getD 0) (S.setFrames (.throwNew "java/lang/NullPointerException" none none :: base)).frames)
    (hcells : S.heap.size + 1 ≤ e.platform.maxCells) (hslots : S.slotsUsed + kX.instanceTypes.size ≤ e.platform.maxSlots)
    {Nn : State → State} (hN : HeapOnly Nn) (hNvm : ∀ u vm, Nn (u.setVm vm) = (Nn u).setVm vm) (hNcur : ∀ u, (Nn u).cur = u.cur)
    (hNover : ∀ u x y, (Nn (u.setCell S.heap.size x)).setCell S.heap.size y = (Nn u).setCell S.heap.size y) (hNgrow : ∀ u, u.heap.size ≤ (Nn u).heap.size)
    {u0 sen : RefV} {cellS cN : Cell}
        (hsel0 : selectMethod e.platform s₀.vm (freshCell P1.m.cls kX).cls T.fill0 = .method T.fill0)
    (hcellS : S.heap[T.aS]? = some cellS) (hknownS : cellS.vm ≠ .unknown) (hvU : cellS.slots[T.fUnassigned.slot]? = some u0.v)
    (hv0 : (freshCell P1.m.cls kX).slots[N.fState.slot]? = some (.int 0)) (hneC : T.fCause.slot ≠ N.fState.slot) (hneSt : T.fStack.slot ≠ N.fState.slot) (hneP : T.fSupp.slot ≠ N.fState.slot)
    (htS : Takes s₀ (freshCell P1.m.cls kX) T.fStack u0.v) (ht1 : Takes s₀ (freshCell P1.m.cls kX) N.fState (.int 1))
    (hcN : ∀ u, u.heap[S.heap.size]? = some ((npeCell N.toNpeT (preparedCellV T.toThrowableT (freshCell P1.m.cls kX) S.heap.size u0 sen) t).withEntry t) → (Nn u).heap[S.heap.size]? = some cN) (hcNS : ∀ u, u.heap[T.aS]? = some cellS → (Nn u).heap[T.aS]? = some cellS)
    (hNcls : cN.cls = (freshCell P1.m.cls kX).cls) (hNdata : cN.vm = (freshCell P1.m.cls kX).vm) (hNmon : cN.monitor = ((npeCell N.toNpeT (preparedCellV T.toThrowableT (freshCell P1.m.cls kX) S.heap.size u0 sen) t).withEntry t).monitor) (hNsize : cN.slots.size = (freshCell P1.m.cls kX).slots.size)
    (hskip : SkipFacts T e.platform s₀ Nn u0 ((npeCell N.toNpeT (preparedCellV T.toThrowableT (freshCell P1.m.cls kX) S.heap.size u0 sen) t).withEntry t))
    (hnat : u0.v ≠ .null → ∀ u : State, At u T.fill T.codeFill below → s₀.WarmedH u.vm → u.heap[S.heap.size]? = some ((npeCell N.toNpeT (preparedCellV T.toThrowableT (freshCell P1.m.cls kX) S.heap.size u0 sen) t).withEntry t) →
      e.platform.stackFull (((u.setTop (fillJ T.fill S.heap.size 16 [])).threads[(u.setTop (fillJ T.fill S.heap.size 16 [])).cur]?).getD { frames := [] }) (u.setTop (fillJ T.fill S.heap.size 16 [])).frames (nativeFrameWords "java/lang/Throwable" "fillInStackTrace" 2) = false → ∀ t' : State,
      Steps p.tables e below ((Nn u).setTop (fillJ T.fill S.heap.size 19 [.ref S.heap.size])) t' →
      Steps p.tables e below (doInvoke e (u.setTop (fillJ T.fill S.heap.size 16 [])) [] T.fill0 #[.ref S.heap.size, .int 0]).1 t')
    (hselF : selectMethod e.platform s₀.vm (freshCell P1.m.cls kX).cls T.fill = .method N.fill) (hvSen : cellS.slots[T.fSentinel.slot]? = some sen.v)
    (htC : Takes s₀ (freshCell P1.m.cls kX) T.fCause (.ref S.heap.size)) (htP : Takes s₀ (freshCell P1.m.cls kX) T.fSupp sen.v) (hobjLocals : T.codeObj.maxLocals = 1)
    {lim : Nat × Nat} (hlim : e.platform.stackLimits S.me = lim) (hframes : base.length + Ps.length + 5 < lim.1) (hwords : (stackUse (base)).2 + 13 * Ps.length + 68 ≤ lim.2) :
    ∃ vm', s₀.WarmedH vm' ∧ ∀ target, Steps p.tables e below (((Nn ((S.pushCell (freshCell P1.m.cls kX)).setVm vm')).setCell S.heap.size (cN.setSlot T.fStack.slot u0.v).left.left).setFrames (.throwing S.heap.size :: base)) target →
      Steps p.tables e below (S.setFrames (.throwNew "java/lang/NullPointerException" none none :: base)) target := by
  obtain ⟨kX', hk', he'⟩ := hW.alike.2.2 _ _ hk
  have hty : kX'.instanceTypes = kX.instanceTypes := by rw [he']
  have hfresh : freshCell P1.m.cls kX' = (freshCell P1.m.cls kX) := by
    show ({ cls := P1.m.cls, slots := kX'.instanceTypes.map defaultValue, vm := .none } : Cell) = _
    rw [hty]
  have hltS : T.aS < S.heap.size := (Array.getElem?_eq_some_iff.mp hcellS).1
  have hWat : Over (S.pushCell (freshCell P1.m.cls kX)) base below := (Over.pushCell_iff _).mpr h
  have w5 : (S.pushCell (freshCell P1.m.cls kX)).heap[T.aS]? = some cellS := by
    rw [← hcellS]
    simp [State.pushCell, Array.getElem?_push, Nat.ne_of_lt hltS]
  obtain ⟨vm', hW', st⟩ := ty_npeCtorO p (W := S.pushCell (freshCell P1.m.cls kX)) (self := S.heap.size) hWat hexec T L Z LZ N LN hW ht hN hNvm hNcur hNover hNgrow (State.heap_pushCell_size S (freshCell P1.m.cls kX))
    (by intro k hk'; cases hk') (by intro hk'; cases hk') rfl hk hsel0 w5 (Nat.ne_of_lt hltS) hknownS hvU hv0 hneC hneSt hneP htS ht1 hcN hcNS hNcls hNdata hNmon hNsize hskip hnat hselF hvSen htC htP hobjLocals
    P1 L1 Ps hL hlink1 hlink hlim hframes hwords
  refine ⟨vm', hW', fun target hrest => ?_⟩
  refine ty_startO h (cls := "java/lang/NullPointerException") (cX := P1.m.cls) (kX := kX') (i := P1.m.idx) (by decide) (by decide) (by rw [hW.alike.findClass]; exact hfound) hk' (by rw [he']; exact hinit) (by rw [he']; exact hord)
    hhot hbeyond hfreeW (by rw [he']; exact hctor) hcells (by rw [hty]; exact hslots) ?_
  rw [hfresh]
  exact st target hrest
