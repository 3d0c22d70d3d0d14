/-! the machine throws over a native frame; arraycopy that throws (first theorem turned from EXCEPTIONS.to-paste by mkacopy.py) -/
set_option maxRecDepth 100000
set_option maxHeartbeats 1000000 in
theorem vy_vmAtN {p : Program} {l : Launch} {e : Env} {R : Room} {s : State} {m₀ : MethodId} {args : Array Value} {below : List Frame} {meth : Method} {c : Code} {W : State} {locs : List Loc} {cells slots : Nat}
    (X : Stand p l e R s m₀ args below meth c W locs cells slots) (hexec : p.tables.exec = Jvm.exec) (htr : e.platform.stackTraces = false) {cls : String} {names : List String} {text : String}
    (hcls : Bundle.fit cls = true) (hnames : ∀ n ∈ names, Bundle.fit n = true) (hsoe : (cls == "java/lang/StackOverflowError") = false) (hoom : (cls == "java/lang/OutOfMemoryError") = false)
    (h : ∀ a ∈ Bundle.messageArmAtoms cls names, a.before args s = true)
    (hlocs : ∀ x ∈ locs, ∀ cell, s.heap[x.base]? = some cell → cell.vm.isStatics = false)
    (htext : (text == notModelled) = false) (hlimit : ¬ (stringBytes (stringToUtf16 text)).size > e.platform.arrayLengthLimit) (hheap : ¬ (stringBytes (stringToUtf16 text)).size * componentBytes .byte > e.platform.maxHeapBytes)
    {g : JFrame} {nf : NFrame} (hnf : nf.words = 0) (hg : g.method = m₀) (hsize : g.locals.size = c.maxLocals)
    (hRframes : names.length + 5 < R.frames) (hRlocals : 2 * g.monitorRoom + (g.stack.map fun v => v.category).sum + 10240 ≤ R.locals) (hshort : 13 * names.length + 55 ≤ 10240)
    (hRcells : cells + 3 ≤ R.cells) (hRslots : slots + ((stringBytes (stringToUtf16 text)).size + 4 + 6) ≤ R.slots) :
    ∃ (S : State) (q : Addr) (ce : Cell), (∀ target, Steps p.tables e below (S.setFrames (.throwing q :: .native nf :: .java g :: below)) target → Steps p.tables e below (W.setFrames (.throwNew cls (some text) none :: .native nf :: .java g :: below)) target) ∧
      Stand p l e R s m₀ args below meth c S locs (cells + 3) (slots + ((stringBytes (stringToUtf16 text)).size + 4 + 6)) ∧ S.heap[q]? = some ce ∧ s.vm.findClass cls = some ce.cls ∧ ce.vm = .none ∧ ∀ a0, a0 < W.heap.size → S.heap[a0]? = W.heap[a0]? := by
  have howns : e.platform.frameOwnsMonitors = true := by rw [X.admits.platform]
  have hfin : e.platform.finalization = false := by rw [X.admits.platform]
  have hpl : e.platform.magicAccessors = ({} : Platform).magicAccessors := by rw [X.admits.platform]
  have a : ∀ x, x ∈ Bundle.messageArmAtoms cls names → x.holds args s none s [] = true := fun x hx => h x hx
  obtain ⟨T, Z0, L, -, Y⟩ := ThrowableC.of_atoms (args := args) howns hfin hpl (fun x hx => h x (by simp [Bundle.messageArmAtoms, hx]))
  obtain ⟨Z, M, LZ, LM, hnZ⟩ := Init0T.ofS_atoms (args := args) hpl L Y (fun x hx => h x (by simp [Bundle.messageArmAtoms, hx]))
  obtain ⟨P1, Ps, hlen, L1, hL, hP1m, hlink1, hlink⟩ := Bundle.chainS (args := args) hpl hnZ names cls hcls hnames (fun x hx => h x (by simp [Bundle.messageArmAtoms, hx]))
  obtain ⟨Zs, LZs, hn4, hfitv, hfitc⟩ := StringT.of_atoms (args := args) (fun x hx => h x (by simp [Bundle.messageArmAtoms, hx]))
  have hfound : s.vm.findClass cls = some P1.m.cls := findClass_of_methodNamed hP1m
  obtain ⟨c1, kX, hc1, hk, hord, -, -, hn6⟩ := Cond.instantiable_spec (a (.instantiable cls 6) (by simp [Bundle.messageArmAtoms]))
  cases Option.some.inj (hc1.symm.trans hfound)
  have hinit := Cond.initialized_spec hfound hk (a (.initialized cls) (by simp [Bundle.messageArmAtoms]))
  have hctor : kX.findMethod "<init>" "(Ljava/lang/String;)V" = some P1.m.idx := findMethod_of_methodNamed hP1m hk
  have hsel0 : selectMethod e.platform s.vm P1.m.cls T.fill0 = .method T.fill0 := by
    obtain ⟨c2, r2, m2, q1, q2, q3, q4, -⟩ := Cond.selects_spec (a (.selects cls Bundle.tFill0 Bundle.tFill0) (by simp [Bundle.messageArmAtoms]))
    cases Option.some.inj (q1.symm.trans hfound)
    cases Option.some.inj (q2.symm.trans (State.methodFound?_of_named Y.fill0 (by decide)))
    cases Option.some.inj (q3.symm.trans Y.fill0)
    rw [Launch.admits_selectMethod X.admits]; exact q4
  have hselF : selectMethod e.platform s.vm P1.m.cls T.fill = .method T.fill := by
    obtain ⟨c2, r2, m2, q1, q2, q3, q4, -⟩ := Cond.selects_spec (a (.selects cls Bundle.tFill Bundle.tFill) (by simp [Bundle.messageArmAtoms]))
    cases Option.some.inj (q1.symm.trans hfound)
    cases Option.some.inj (q2.symm.trans (State.methodFound?_of_named Y.fill (by decide)))
    cases Option.some.inj (q3.symm.trans Y.fill)
    rw [Launch.admits_selectMethod X.admits]; exact q4
  obtain ⟨cellS0, hcS0, hiss⟩ := Y.statics
  obtain ⟨u0, hu0⟩ := Cond.staticRefV Y.unassigned L.unassignedStatic L.statics hcS0 hiss (a (.isRef (.static Bundle.tN "UNASSIGNED_STACK" Bundle.steD)) (by simp [Bundle.messageArmAtoms]))
  obtain ⟨sen, hsen⟩ := Cond.staticRefV Y.sentinel L.sentinelStatic L.statics hcS0 hiss (a (.isRef (.static Bundle.tN "SUPPRESSED_SENTINEL" Bundle.listD)) (by simp [Bundle.messageArmAtoms]))
  obtain ⟨ci198, i198, fB, hk198, hg198, ha198, hsB, -, hnB, htB, hffB⟩ := Cond.ownField (t := .object "java/lang/Object") Y.found L.cls (by decide +kernel) (a (.fieldLink Bundle.tN 198 Bundle.tN "backtrace" "Ljava/lang/Object;") (by simp [Bundle.messageArmAtoms])) (a (.lays Bundle.tN Bundle.tN "backtrace" "Ljava/lang/Object;") (by simp [Bundle.messageArmAtoms])) e.platform hpl
  obtain ⟨cellS, hcS', heS, -, hkeep⟩ := X.same.2.2.2.2.2 T.aS cellS0 hcS0
  have hcellS : W.heap[T.aS]? = some cellS := hcS'
  have hout' : ∀ i, (⟨T.aS, i⟩ : Loc) ∉ locs := fun i hmem => by
    have := hlocs _ hmem cellS0 hcS0
    rw [hiss] at this; cases this
  have hknownS : cellS.vm ≠ .unknown := by
    rw [heS]; intro hu
    rw [show cellS0.vm = .unknown from hu] at hiss
    cases hiss
  have hvU : cellS.slots[T.fUnassigned.slot]? = some u0.v := by rw [hkeep _ (hout' _)]; exact hu0
  have hvSen : cellS.slots[T.fSentinel.slot]? = some sen.v := by rw [hkeep _ (hout' _)]; exact hsen
  obtain ⟨iM, hffM⟩ := Y.msg
  obtain ⟨tyC, dC, hdC, hdnC⟩ := Cond.laysAt hfound hk Y.cause (a (.lays cls Bundle.tN "cause" "Ljava/lang/Throwable;") (by simp [Bundle.messageArmAtoms]))
  obtain ⟨tyS, dS, hdS, hdnS⟩ := Cond.laysAt hfound hk Y.stack (a (.lays cls Bundle.tN "stackTrace" Bundle.steD) (by simp [Bundle.messageArmAtoms]))
  obtain ⟨tyP, dP, hdP, hdnP⟩ := Cond.laysAt hfound hk Y.supp (a (.lays cls Bundle.tN "suppressedExceptions" Bundle.listD) (by simp [Bundle.messageArmAtoms]))
  obtain ⟨tyM, dM, hdM, hdnM⟩ := Cond.laysAt hfound hk hffM (a (.lays cls Bundle.tN "detailMessage" "Ljava/lang/String;") (by simp [Bundle.messageArmAtoms]))
  obtain ⟨tyB, dB, hdB, hdnB⟩ := Cond.laysAt hfound hk hffB (a (.lays cls Bundle.tN "backtrace" "Ljava/lang/Object;") (by simp [Bundle.messageArmAtoms]))
  have bC := Cond.laysApart hdB hdC hdnB hdnC (by rw [hnB, Y.causeName]; decide)
  have bS := Cond.laysApart hdB hdS hdnB hdnS (by rw [hnB, Y.stackName]; decide)
  have bP := Cond.laysApart hdB hdP hdnB hdnP (by rw [hnB, Y.suppName]; decide)
  have hbk : ((preparedCellV T.toThrowableT (freshCell P1.m.cls kX) (W.heap.size + 2) u0 sen).withEntry W.cur).slots[fB.slot]? = some .null := by
    have := fresh_default (c := P1.m.cls) tyB
    rw [htB] at this
    simpa [preparedCellV, Cell.setSlot, Cell.withEntry, Array.getElem?_setIfInBounds, bC, bS, bP, bC.symm, bS.symm, bP.symm, defaultValue] using this
  have tkC := Takes.of_laid (v := .ref (W.heap.size + 2)) hk hord tyC (by rw [Y.causeType]; rfl)
  have tkS := Takes.of_laid (v := u0.v) hk hord tyS (by rw [Y.stackType]; exact fits_refV_array _ u0)
  have tkP := Takes.of_laid (v := sen.v) hk hord tyP (by rw [Y.suppType]; exact fits_refV_object _ sen)
  have tkM := Takes.of_laid (v := .ref (W.heap.size + 1)) hk hord tyM (by rw [Y.msgType]; rfl)
  have hskip : SkipFacts T e.platform s (fun u => u) u0 ((preparedCellV T.toThrowableT (freshCell P1.m.cls kX) (W.heap.size + 2) u0 sen).withEntry W.cur) := ⟨{ ci198 := ci198, i198 := i198, fBack := fB }, ⟨hk198, hg198, ha198, hsB⟩, hbk, fun _ _ => rfl⟩
  obtain ⟨vm', X5, st, hkept⟩ := X.nativeThrowsMessageColdBareV hexec hsize hnf T L Z LZ M LM Zs LZs P1 L1 Ps hL hlink1 hlink hsoe hoom hfound hk hinit hord hctor htext hlimit hheap (hfitv _) (hfitc _) hsel0 hselF hcellS hknownS hvU hvSen tkC tkS tkP tkM Y.objLocals hskip
    (fun _ _ hA hW _ hroom _ hrest => L.nativeOff p htr hA hW hroom hrest) (by rw [hlen]; exact hRframes) hRlocals (by rw [hlen]; exact hshort) hRcells (by rw [hn4, hn6]; exact hRslots)
  obtain ⟨-, -, w3, w4, -, -, -⟩ := withThrown_facts e.platform W Zs text P1.m.cls kX
  have ha : (W.heap.size + 2) < ((withThrown W Zs text P1.m.cls kX).setVm vm').heap.size := by show _ < (withThrown W Zs text P1.m.cls kX).heap.size; rw [w3]; omega
  have b1 : (bytesOf Zs.cB (stringToUtf16 text)).slots.size = (stringBytes (stringToUtf16 text)).size := by
    rw [(Cell.writeAll_facts _ _).2.2]; simp [bytes0]
  have b2 : (stringAt Zs.cS Zs.kS Zs.fv Zs.fc (stringToUtf16 text) W.heap.size).slots.size = 4 := by simp [string0, Cell.setSlot, hn4]
  have b3 : (freshCell P1.m.cls kX).slots.size = 6 := by simp [hn6]
  rw [b1, b2, b3] at X5
  have e9 : slots + (stringBytes (stringToUtf16 text)).size + 4 + 6 = slots + ((stringBytes (stringToUtf16 text)).size + 4 + 6) := by omega
  rw [e9] at X5
  refine ⟨_, W.heap.size + 2, _, fun target ht => st.trans ht, X5.forget (fun y hy => ?_), heapAt_setCell_self _ ha, hfound, rfl, hkept⟩
  simp only [List.mem_cons, List.not_mem_nil, or_false] at hy
  have hge : s.heap.size ≤ W.heap.size := X.same.2.1
  rcases hy with rfl | rfl | rfl | rfl | rfl <;> exact Nat.le_trans hge (Nat.le_add_right _ 2)

section TAC
variable {p : Program} {l : Launch} {e : Env} {R : Room} {s : State} {m : MethodId} {args : Array Value} {below : List Frame} {meth : Method} {c : Code} {H : Heap} {locs : List Loc} {cells slots : Nat} {Q : State → Prop}
variable {cc : ByteArray} {pc nL z0 : Nat} {ls : Array Slot} {rest : List Value} {D : va_G} {E : Nat → ClassId} {ws wz : va_W} {A : Nat → Prop} {own : String}
set_option maxHeartbeats 1000000 in
theorem ti_acM {cls text : String} {names : List String} {nb index a0 a1 : Nat} {sp dp n : Int32} (S : CallFix p m c cc nL s args lw_all own) (hE : ti_E D E s) (htr : l.stackTraces = false) (hcls : Bundle.fit cls = true) (hnames : ∀ n ∈ names, Bundle.fit n = true) (hsoe : (cls == "java/lang/StackOverflowError") = false) (hoom : (cls == "java/lang/OutOfMemoryError") = false)
    (hat : ∀ w ∈ vx_atM cls names, w ∈ lw_all ∨ (w ∈ lw_tbl ∧ ti_kind w = true ∧ w.onTables = true)) (hgood : ∀ w ∈ vx_atM cls names, vx_ot w = true) (hZ : ti_Z z0 wz s) (hAz : ∀ q, A q → z0 ≤ q) (hS : va_S A s.heap H locs) (hsz : ls.size = nL)
    (htext : (text == notModelled) = false) (hnb : (stringBytes (stringToUtf16 text)).size ≤ nb) (hnb1 : nb ≤ 1000) (hRf : names.length + 5 < R.frames) (hRl : (rest.map fun v => v.category).sum + 10240 ≤ R.locals) (hW8 : (rest.map fun v => v.category).sum ≤ 8) (hRl8 : 8 + 10240 ≤ R.locals) (hshort : 13 * names.length + 55 ≤ 10240) (hRc : cells + 3 ≤ R.cells) (hRs : slots + (nb + 10) ≤ R.slots)
    (hlink : Cond.methodLink own index arraycopyName ∈ lw_all) (hdg : decode cc pc = .ok (.invokestatic index, 3))
    (hwp : ∀ U : State, U.heap = H → s.WarmedH U.vm → ∀ (fs : List Frame) (Ec : CtlPost), (∀ acts', Ec (.throwNew cls (some text)) acts' (U.setFrames fs)) → wp (Native.java_lang_System.arraycopy.sem #[.ref a0, .int sp, .ref a1, .int dp, .int n]) (fun _ _ _ _ => False) Ec e false [] (U.setFrames fs))
    (k : ∀ (H1 : Heap) (q9 : Addr) (ce : Cell), (∀ q : Nat, q < H.size → H1[q]? = H[q]?) → va_S A s.heap H1 locs → H1[q9]? = some ce → ce.vm = .none → s.vm.findClass cls = some ce.cls → vx_W p l e R s m args below meth c H1 locs (cells + 3) (slots + (nb + 10)) Q (F0 m pc ls rest) q9) :
    W p l e R s m args below meth c H locs cells slots Q (F0 m pc ls (.int n :: .int dp :: .ref a1 :: .int sp :: .ref a0 :: rest)) := by
  intro T hT X
  have hts := S.2.2.2.2
  have htr' : e.platform.stackTraces = false := (show e.platform.stackTraces = l.stackTraces by rw [X.admits.platform]).trans htr
  obtain ⟨r, kS, methS, hnS, hmS, hkS, N⟩ := NativeOf.of_static (hts _ q322) (hts _ q321) (ps := [.object "java/lang/Object", .int, .object "java/lang/Object", .int, .int]) (ret := none) (by decide +kernel)
  have h9 : nativeFrameWords "java/lang/System" "arraycopy" 5 + 11 ≤ 10240 := by decide +kernel
  have hB : Free.BackT l R p e below s args arraycopyName 3 8 (fun P a => P.U.heap = H ∧ P.locs = locs ∧ P.cells = cells ∧ P.slots = slots ∧ a = #[.ref a0, .int sp, .ref a1, .int dp, .int n])
      (fun P a t B => ∃ ce : Cell, B.U.heap[t]? = some ce ∧ ce.vm = .none ∧ s.vm.findClass cls = some ce.cls ∧ (∀ q : Nat, q < H.size → B.U.heap[q]? = H[q]?) ∧ H.size ≤ B.U.heap.size ∧ B.locs = locs ∧ B.cells = cells + 3 ∧ B.slots = slots + (nb + 10)) := by
    refine Free.BackT.of_native (st := true) (ps := [.object "java/lang/Object", .int, .object "java/lang/Object", .int, .int]) (row := arraycopyRow) (words := 5) (arraycopy_row p) ⟨r, kS, methS, hnS, N⟩ (by omega) (by show 8 + (nativeFrameWords "java/lang/System" "arraycopy" 5 + 11) ≤ R.locals; omega) ?_
    intro m9 meth9 c9 P a x g mk XP hg hsize hWg hn hst hps hask
    obtain ⟨hP1, hP2, hP3, hP4, rfl⟩ := hask
    obtain ⟨U9, l9, c9', s9⟩ := P
    have hP1 : U9.heap = H := hP1
    have hP2 : l9 = locs := hP2
    have hP3 : c9' = cells := hP3
    have hP4 : s9 = slots := hP4
    have XP : Stand p l e R s m9 args below meth9 c9 U9 l9 c9' s9 := XP
    subst hP2; subst hP3; subst hP4
    have Y := vx_rebase XP (R' := { frames := R.frames, locals := R.locals, cells := 3, slots := nb + 10 }) (Nat.le_refl _) (Nat.le_refl _) hRc hRs
    have hW0 : s.WarmedH ((U9.setVm s.vm).setFrames (.invoking m9 args :: below)).vm := State.WarmedH.refl s
    have hhp : ((U9.setVm s.vm).setFrames (.invoking m9 args :: below)).heap = H := hP1
    have hat' : ∀ w ∈ vx_atM cls names, w.before args ((U9.setVm s.vm).setFrames (.invoking m9 args :: below)) = true := fun w hw => vx_ot_at hW0 rfl (hgood w hw) (ti_hat hts hE hat w hw)
    have hU' : vx_Zq Bundle.tN "UNASSIGNED_STACK" Bundle.steD A ((U9.setVm s.vm).setFrames (.invoking m9 args :: below)) ((U9.setVm s.vm).setFrames (.invoking m9 args :: below)).heap := by rw [hhp]; exact vx_Zq.moved hW0.alike ((hZ.1.narrow hAz).kept hS.2.1)
    have hN' : vx_Zq Bundle.tN "SUPPRESSED_SENTINEL" Bundle.listD A ((U9.setVm s.vm).setFrames (.invoking m9 args :: below)) ((U9.setVm s.vm).setFrames (.invoking m9 args :: below)).heap := by rw [hhp]; exact vx_Zq.moved hW0.alike ((hZ.2.1.narrow hAz).kept hS.2.1)
    obtain ⟨S9, q, ce, st, Z, hce, hcl', hv, hkept⟩ := vy_vmAtN Y S.1 htr' (cls := cls) (names := names) (text := text) hcls hnames hsoe hoom (vx_own hat' (vx_isRefq hU'.1) (vx_isRefq hN'.1) hU'.2.word hN'.2.word) (fun x hx => nomatch hx) htext
      (by rw [Launch.admits_arrayLengthLimit XP.admits]; omega) (by rw [Launch.admits_maxHeapBytes XP.admits]; simp only [componentBytes]; omega)
      (g := g) (nf := { method := mk, args := #[.ref a0, .int sp, .ref a1, .int dp, .int n], locked := none }) rfl hg hsize hRf (by show 2 * g.monitorRoom + (g.stack.map fun v => v.category).sum + 10240 ≤ R.locals; omega) hshort (by show 0 + 3 ≤ 3; omega) (by show 0 + (_ + 4 + 6) ≤ nb + 10; omega)
    have X5 := vx_back9 XP Y Z
    have X6 : Stand p l e R s m9 args below meth9 c9 S9 l9 (c9' + 3) (s9 + (nb + 10)) := { X5 with same := X5.same.mono (by omega) (by omega) }
    have f1 : H.size ≤ S9.heap.size := by
      obtain ⟨f1, -⟩ := vx_frame Z.same
      rw [← hP1]; exact f1
    refine ⟨rfl, by simp [seenByNative, hst, hps, narrow], cls, some text, fun u => u, fun _ => rfl, rfl, fun fs Ec hEc => hwp U9 hP1 XP.warmed fs Ec hEc, q, ⟨S9, l9, c9' + 3, s9 + (nb + 10)⟩, X6, ⟨ce, hce, hv, hcl', fun q0 hq0 => by rw [← hP1]; exact hkept q0 (by rw [hP1]; exact hq0), f1, rfl, rfl, rfl⟩, st _ (Steps.refl _)⟩
  obtain ⟨v, vm₁, B, hW₁, X', ⟨ce, h1, h2, h3, h4, h5, h6, h7, h8⟩, st⟩ := X.staticThrows S.1 S.2.2.2.1 (hts _ hlink) (hts _ q321) (hts _ q74) hnS hmS (by
      obtain ⟨m2, meth2, g1, g2, -, -, -, g6⟩ := Cond.native_spec (hts _ q322)
      cases hnS.symm.trans g1
      cases hmS.symm.trans g2
      exact g6) (by decide) hB (g := F0 m pc ls (.int n :: .int dp :: .ref a1 :: .int sp :: .ref a0 :: rest)) rfl (hsz.trans S.2.2.1.symm) (Steps.refl _) (argsL := [.ref a0, .int sp, .ref a1, .int dp, .int n]) (rest := rest) (fun sig h => by
      have e5 : parseMethodDescriptor arraycopyName.desc = some { parameters := [.object "java/lang/Object", .int, .object "java/lang/Object", .int, .int], returnType := none } := by decide +kernel
      cases e5.symm.trans h; rfl) rfl (by show 2 * 0 + _ ≤ 8; omega) (by rw [S.2.1]; exact hdg) (fun vm₁ hW₁ => ⟨hT, rfl, rfl, rfl, rfl⟩)
  obtain ⟨U, l2, c2, s2⟩ := B
  have h6 : l2 = locs := h6
  have h7 : c2 = cells + 3 := h7
  have h8 : s2 = slots + (nb + 10) := h8
  subst h6; subst h7; subst h8
  obtain ⟨t, a1', b1⟩ := k U.heap v ce h4 ⟨Nat.le_trans hS.1 h5, fun q g1 g2 => (h4 q (Nat.lt_of_lt_of_le g1 hS.1)).trans (hS.2.1 q g1 g2), hS.2.2⟩ h1 h2 h3 U rfl X'
  exact ⟨t, st.trans a1', b1⟩
end TAC
