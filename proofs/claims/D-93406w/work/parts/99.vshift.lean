/-! TermIdeals: shift where a row is wanting (printed by w_nshift.py) -/
set_option maxRecDepth 100000
section TNC9
variable {p : Program} {l : Launch} {e : Env} {R : Room} {s : State} {m : MethodId} {args : Array Value} {below : List Frame} {meth : Method} {c : Code} {H : Heap} {locs : List Loc} {cells slots : Nat} {Q : State → Prop}
variable {cc : ByteArray} {pc nL z0 : Nat} {ls : Array Slot} {rest : List Value} {D : va_G} {E : Nat → ClassId} {ws wz : va_W} {A : Nat → Prop} {own : String}
set_option maxHeartbeats 1000000 in
theorem ti_acN {index : Nat} {argsL st0 : List Value} (S : CallFix p m c cc nL s args lw_all own) (hE : ti_E D E s) (htr : l.stackTraces = false) (hZ : ti_Z z0 wz s) (hAz : ∀ q, A q → z0 ≤ q) (hS : va_S A s.heap H locs) (hsz : ls.size = nL)
    (h5 : argsL.length = 5) (hop : operandWords argsL.toArray.toList = 5) (hseen : ∀ x : Method, x.isStatic = true → x.sig.parameters = [.object "java/lang/Object", .int, .object "java/lang/Object", .int, .int] → seenByNative x argsL.toArray = argsL.toArray)
    (hRf : 8 < R.frames) (hW8 : (rest.map fun v => v.category).sum ≤ 8) (hRl8 : 8 + 10240 ≤ R.locals) (hRc : cells + 1 ≤ R.cells) (hRs : slots + 8 ≤ R.slots)
    (hlink : Cond.methodLink own index arraycopyName ∈ lw_all) (hst0 : st0 = argsL.reverse ++ rest) (hdg : decode cc pc = .ok (.invokestatic index, 3))
    (hwp : ∀ (U : State) (fs : List Frame) (Ec : CtlPost), (∀ acts', Ec (.throwNew "java/lang/NullPointerException" none) acts' (U.setFrames fs)) → wp (Native.java_lang_System.arraycopy.sem argsL.toArray) (fun _ _ _ _ => False) Ec e false [] (U.setFrames fs))
    (k : ∀ (H1 : Heap) (q9 : Addr) (ce : Cell), (∀ q : Nat, q < H.size → H1[q]? = H[q]?) → va_S A s.heap H1 locs → H1[q9]? = some ce → ce.vm = .none → s.vm.findClass "java/lang/NullPointerException" = some ce.cls → vx_W p l e R s m args below meth c H1 locs (cells + 1) (slots + 8) Q (F0 m pc ls rest) q9) :
    W p l e R s m args below meth c H locs cells slots Q (F0 m pc ls st0) := by
  subst hst0
  intro T hT X
  have hts := S.2.2.2.2
  have htr' : e.platform.stackTraces = false := (show e.platform.stackTraces = l.stackTraces by rw [X.admits.platform]).trans htr
  obtain ⟨r, kS, methS, hnS, hmS, hkS, N⟩ := NativeOf.of_static (hts _ q322) (hts _ q321) (ps := [.object "java/lang/Object", .int, .object "java/lang/Object", .int, .int]) (ret := none) (by decide +kernel)
  have h9 : nativeFrameWords "java/lang/System" "arraycopy" 5 + 11 ≤ 10240 := by decide +kernel
  have hB : Free.BackT l R p e below s args arraycopyName 3 8 (fun P a => P.U.heap = H ∧ P.locs = locs ∧ P.cells = cells ∧ P.slots = slots ∧ a = argsL.toArray)
      (fun P a t B => ∃ ce : Cell, B.U.heap[t]? = some ce ∧ ce.vm = .none ∧ s.vm.findClass "java/lang/NullPointerException" = some ce.cls ∧ (∀ q : Nat, q < H.size → B.U.heap[q]? = H[q]?) ∧ H.size ≤ B.U.heap.size ∧ B.locs = locs ∧ B.cells = cells + 1 ∧ B.slots = slots + 8) := by
    refine Free.BackT.of_native (st := true) (ps := [.object "java/lang/Object", .int, .object "java/lang/Object", .int, .int]) (row := arraycopyRow) (words := 5) (arraycopy_row p) ⟨r, kS, methS, hnS, N⟩ (by omega) (by show 8 + (nativeFrameWords "java/lang/System" "arraycopy" 5 + 11) ≤ R.locals; omega) ?_
    intro m9 meth9 c9 P a x g mk XP hg hsize hWg hn hst hps hask
    obtain ⟨hP1, hP2, hP3, hP4, rfl⟩ := hask
    obtain ⟨U9, l9, c9', s9⟩ := P
    have hP1 : U9.heap = H := hP1
    have hP2 : l9 = locs := hP2
    have hP3 : c9' = cells := hP3
    have hP4 : s9 = slots := hP4
    have XP : Stand p l e R s m9 args below meth9 c9 U9 l9 c9' s9 := XP
    subst hP2; subst hP3; subst hP4
    have Y := vx_rebase XP (R' := { frames := R.frames, locals := R.locals, cells := 1, slots := 8 }) (Nat.le_refl _) (Nat.le_refl _) hRc hRs
    have hW0 : s.WarmedH ((U9.setVm s.vm).setFrames (.invoking m9 args :: below)).vm := State.WarmedH.refl s
    have hhp : ((U9.setVm s.vm).setFrames (.invoking m9 args :: below)).heap = H := hP1
    have hgood : ∀ w ∈ vx_atN 8, vx_ot w = true := by decide +kernel
    have hat' : ∀ w ∈ vx_atN 8, w.before args ((U9.setVm s.vm).setFrames (.invoking m9 args :: below)) = true := fun w hw => vx_ot_at hW0 rfl (hgood w hw) (ti_hat hts hE (by decide +kernel) w hw)
    have hU' : vx_Zq Bundle.tN "UNASSIGNED_STACK" Bundle.steD A ((U9.setVm s.vm).setFrames (.invoking m9 args :: below)) ((U9.setVm s.vm).setFrames (.invoking m9 args :: below)).heap := by rw [hhp]; exact vx_Zq.moved hW0.alike ((hZ.1.narrow hAz).kept hS.2.1)
    have hN' : vx_Zq Bundle.tN "SUPPRESSED_SENTINEL" Bundle.listD A ((U9.setVm s.vm).setFrames (.invoking m9 args :: below)) ((U9.setVm s.vm).setFrames (.invoking m9 args :: below)).heap := by rw [hhp]; exact vx_Zq.moved hW0.alike ((hZ.2.1.narrow hAz).kept hS.2.1)
    obtain ⟨S9, q, ce, st, Z, hce, hcl', hv, hkept⟩ := vy_npeAtN Y S.1 htr' (n := 8) (vx_own hat' (vx_isRefq hU'.1) (vx_isRefq hN'.1) hU'.2.word hN'.2.word) (fun x hx => nomatch hx)
      (g := g) (nf := { method := mk, args := argsL.toArray, locked := none }) rfl hg hsize hRf (by show 2 * g.monitorRoom + (g.stack.map fun v => v.category).sum + 10240 ≤ R.locals; omega) (by show 0 + 1 ≤ 1; omega) (by show 0 + 8 ≤ 8; omega)
    have X5 := vx_back9 XP Y Z
    have X6 : Stand p l e R s m9 args below meth9 c9 S9 l9 (c9' + 1) (s9 + 8) := { X5 with same := X5.same.mono (by omega) (by omega) }
    have f1 : H.size ≤ S9.heap.size := by
      obtain ⟨f1, -⟩ := vx_frame Z.same
      rw [← hP1]; exact f1
    refine ⟨hop, hseen x hst hps, "java/lang/NullPointerException", none, fun u => u, fun _ => rfl, rfl, fun fs Ec hEc => hwp U9 fs Ec hEc, q, ⟨S9, l9, c9' + 1, s9 + 8⟩, X6, ⟨ce, hce, hv, hcl', fun q0 hq0 => by rw [← hP1]; exact hkept q0 (by rw [hP1]; exact hq0), f1, rfl, rfl, rfl⟩, st _ (Steps.refl _)⟩
  obtain ⟨v, vm₁, B, hW₁, X', ⟨ce, h1, h2, h3, h4, h5', h6, h7, h8⟩, st⟩ := X.staticThrows S.1 S.2.2.2.1 (hts _ hlink) (hts _ q321) (hts _ q74) hnS hmS (by
      obtain ⟨m2, meth2, g1, g2, -, -, -, g6⟩ := Cond.native_spec (hts _ q322)
      cases hnS.symm.trans g1
      cases hmS.symm.trans g2
      exact g6) (by decide) hB (g := F0 m pc ls (argsL.reverse ++ rest)) rfl (hsz.trans S.2.2.1.symm) (Steps.refl _) (argsL := argsL) (rest := rest) (fun sig h => by
      have e5 : parseMethodDescriptor arraycopyName.desc = some { parameters := [.object "java/lang/Object", .int, .object "java/lang/Object", .int, .int], returnType := none } := by decide +kernel
      cases e5.symm.trans h; exact h5) rfl (by show 2 * 0 + _ ≤ 8; omega) (by rw [S.2.1]; exact hdg) (fun vm₁ hW₁ => ⟨hT, rfl, rfl, rfl, rfl⟩)
  obtain ⟨U, l2, c2, s2⟩ := B
  have h6 : l2 = locs := h6
  have h7 : c2 = cells + 1 := h7
  have h8 : s2 = slots + 8 := h8
  subst h6; subst h7; subst h8
  obtain ⟨t, a1', b1⟩ := k U.heap v ce h4 ⟨Nat.le_trans hS.1 h5', fun q g1 g2 => (h4 q (Nat.lt_of_lt_of_le g1 hS.1)).trans (hS.2.1 q g1 g2), hS.2.2⟩ h1 h2 h3 U rfl X'
  exact ⟨t, st.trans a1', b1⟩
end TNC9

set_option maxHeartbeats 2000000 in
theorem met_X0_shift_nn (l : Launch) (D : va_G) (E : Nat → ClassId) (htr : l.stackTraces = false) (z0 : Nat) (ad th : Nat → Nat) (tx : Nat) (hi : Bool) (t9 : Nat) (ht9 : t9 < 6) (o9 : Nat) (ho9 : o9 < 6) (ii jj nn : Int32) : ti_MetB (σ := Unit) (τ := Unit) l D E yX0_shift (wsW_ yX0_shift cX0_shift 7 (some .int) [(16, 44, 45, 338), (16, 44, 50, 392), (16, 44, 55, 394)]) 10 3 454 z0 (ti_wT4 E ad th tx hi t9 o9 .null .null) [.ref (ad 0), .int (nI t9), .int ii, .int (nI o9), .int jj, .int nn] (fun _ => True) (fun _ => ti_wT4 E ad th tx hi t9 o9 .null .null) (fun u => some (.int ((fun _ => (-11 : Int32)) u))) (fun _ => True) (fun _ _ => True) (fun w => RX14) (fun w => 0) (fun w => ti_wT4 E ad th tx hi t9 o9 .null .null) (fun w => []) (fun w => False) (fun w H => True) := by
  refine ti_metBH (by decide) (Nat.le_of_ble_eq_true rfl) ?_
  intro p e s m below meth c H A Q ls S hE hP hD hS hA hZ hAz hx0 htab hl hret hq
  obtain ⟨hQ, hr, hlk, hinit⟩ := hq
  have hsz0 := hS.1
  have hx := S.1
  have hb := S.2.1
  have hown := S.2.2.2.1
  have hts := S.2.2.2.2
  have hK := hE.1
  have hl : lv_has ls 7 [(0, .ref (ad 0)), (1, .int (nI t9)), (2, .int ii), (3, .int (nI o9)), (4, .int jj), (5, .int nn)] := hl
  have ht5t9 : ti_t5 (nI t9) = true := by unfold ti_t5; rw [ti_in_nI (by omega) (by decide) (by decide)]; exact decide_eq_true ⟨Nat.zero_le _, by omega⟩
  have ht5o9 : ti_t5 (nI o9) = true := by unfold ti_t5; rw [ti_in_nI (by omega) (by decide) (by decide)]; exact decide_eq_true ⟨Nat.zero_le _, by omega⟩
  refine lv_iload_n hx hb dX0_shift_0 rfl (lv_at hl 1 rfl) ?_
  refine ti_pS (As := [.int (nI t9)]) (rest := []) (v := .int (ti_b (ti_t5 (nI t9)))) S hE hP [] (met_X0_isTape l D E (nI t9)) rfl (lw_S q920 q921 q66 q922) 1 rfl (by decide +kernel) ⟨Nat.le_of_ble_eq_true rfl, Nat.le_of_ble_eq_true rfl⟩ hl.1 rfl (Nat.le_of_ble_eq_true rfl) ⟨Nat.le_of_ble_eq_true rfl, Nat.le_of_ble_eq_true rfl⟩ dX0_shift_1 ?_
  refine tb_eq (tgt := 14) hx hb dX0_shift_4 (by decide) (fun c4 => ?_) (fun c4 => ?_)
  · skip
    exact absurd ht5t9 (by rw [c4]; decide)
  · skip
    refine lv_iload_n hx hb dX0_shift_7 rfl (lv_at hl 3 rfl) ?_
    refine ti_pS (As := [.int (nI o9)]) (rest := []) (v := .int (ti_b (ti_t5 (nI o9)))) S hE hP [] (met_X0_isTape l D E (nI o9)) rfl (lw_S q920 q921 q66 q922) 1 rfl (by decide +kernel) ⟨Nat.le_of_ble_eq_true rfl, Nat.le_of_ble_eq_true rfl⟩ hl.1 rfl (Nat.le_of_ble_eq_true rfl) ⟨Nat.le_of_ble_eq_true rfl, Nat.le_of_ble_eq_true rfl⟩ dX0_shift_8 ?_
    refine tb_ne (tgt := 16) hx hb dX0_shift_11 (by decide) (fun c11 => ?_) (fun c11 => ?_)
    · skip
      refine lv_aload_n hx hb dX0_shift_16 rfl (lv_at hl 0 rfl) ?_
      refine va_get (v := .ref (ad 35)) hx hb hts in_X0 hown hK hP 0 rfl rfl 13 (by decide) (hts _ q250) (fun _ h => h) rfl dX0_shift_17 ?_
      refine lv_iload_n hx hb dX0_shift_20 rfl (lv_at hl 1 rfl) ?_
      refine tn_aald hx hb hK hP 1 6 rfl rfl (by omega) (by decide) dX0_shift_21 ?_
      refine va_getN (v := .null) hx hb hts in_X6 hown hK hP 2 rfl rfl 0 (by decide) (hE.use q233 rfl rfl) (fun _ h => h) rfl dX0_shift_22 ?_
      refine lv_iload_n hx hb dX0_shift_25 rfl (lv_at hl 2 rfl) ?_
      refine lv_aload_n hx hb dX0_shift_26 rfl (lv_at hl 0 rfl) ?_
      refine va_get (v := .ref (ad 35)) hx hb hts in_X0 hown hK hP 0 rfl rfl 13 (by decide) (hts _ q250) (fun _ h => h) rfl dX0_shift_27 ?_
      refine lv_iload_n hx hb dX0_shift_30 rfl (lv_at hl 3 rfl) ?_
      refine tn_aald hx hb hK hP 1 6 rfl rfl (by omega) (by decide) dX0_shift_31 ?_
      refine va_getN (v := .null) hx hb hts in_X6 hown hK hP 3 rfl rfl 0 (by decide) (hE.use q233 rfl rfl) (fun _ h => h) rfl dX0_shift_32 ?_
      refine lv_iload hx hb dX0_shift_35 (lv_at hl 4 rfl) ?_
      refine lv_iload hx hb dX0_shift_37 (lv_at hl 5 rfl) ?_
      refine ti_acN (argsL := [.null, .int ii, .null, .int jj, .int nn]) (rest := []) S hE htr hZ hAz hS hl.1 rfl rfl (fun x h1 h2 => by simp [seenByNative, h1, h2, narrow]) (Nat.le_of_ble_eq_true rfl) (Nat.le_of_ble_eq_true rfl) (Nat.le_of_ble_eq_true rfl) (Nat.le_of_ble_eq_true rfl) (Nat.le_of_ble_eq_true rfl) q1081 rfl dX0_shift_39 (fun U fs Ec hEc => W.arraycopy_null1 _ _ _ _ (hEc [])) (fun H1 q9 ce hk9 hS hce hcv hcl => ?_)
      have hP := hP.kept (fun k x hx => hk9 x.1 (hP k x hx).lt)
      refine vx_catch hown [] ⟨16, 44, 45, 338⟩ [⟨16, 44, 50, 392⟩, ⟨16, 44, 55, 394⟩] htab (fun z hz => absurd hz List.not_mem_nil) rfl (by decide) (hts _ q947) (hE.use q966 rfl rfl) hce hcv hcl ?_
      refine lv_astore (lv' := [(6, .ref q9), (0, .ref (ad 0)), (1, .int (nI t9)), (2, .int ii), (3, .int (nI o9)), (4, .int jj), (5, .int nn)]) hx hb dX0_shift_45 hl (by decide) rfl (fun ls hl => ?_)
      refine lv_bipush (v := (-11)) hx hb dX0_shift_47 (by decide) ?_
      have hv9 : ((-11)) = (fun _ => (-11 : Int32)) () := (rfl : (-11 : Int32) = -11)
      refine W.eq (g2 := F0 m 49 ls [.int ((fun _ => (-11 : Int32)) ())]) (congrArg (fun z => F0 m 49 ls [.int z]) hv9) ?_
      exact hret _ () _ _ _ _ (trivial) hP trivial hS (Nat.le_of_ble_eq_true rfl) (Nat.le_of_ble_eq_true rfl) (fun hq hf9 => W.iret hx hb hr hq hf9 dX0_shift_49 hlk)
    · skip
      exact absurd ht5o9 (by rw [c11]; decide)

set_option maxHeartbeats 2000000 in
theorem met_X0_shift_n1 (l : Launch) (D : va_G) (E : Nat → ClassId) (htr : l.stackTraces = false) (z0 : Nat) (ad th : Nat → Nat) (tx : Nat) (hi : Bool) (t9 : Nat) (ht9 : t9 < 6) (o9 : Nat) (ho9 : o9 < 6) (b : Nat) (ii jj nn : Int32) : ti_MetB (σ := Unit) (τ := Unit) l D E yX0_shift (wsW_ yX0_shift cX0_shift 7 (some .int) [(16, 44, 45, 338), (16, 44, 50, 392), (16, 44, 55, 394)]) 10 3 454 z0 (ti_wT4 E ad th tx hi t9 o9 .null (.ref b)) [.ref (ad 0), .int (nI t9), .int ii, .int (nI o9), .int jj, .int nn] (fun _ => True) (fun _ => ti_wT4 E ad th tx hi t9 o9 .null (.ref b)) (fun u => some (.int ((fun _ => (-11 : Int32)) u))) (fun _ => True) (fun _ _ => True) (fun w => RX14) (fun w => 0) (fun w => ti_wT4 E ad th tx hi t9 o9 .null (.ref b)) (fun w => []) (fun w => False) (fun w H => True) := by
  refine ti_metBH (by decide) (Nat.le_of_ble_eq_true rfl) ?_
  intro p e s m below meth c H A Q ls S hE hP hD hS hA hZ hAz hx0 htab hl hret hq
  obtain ⟨hQ, hr, hlk, hinit⟩ := hq
  have hsz0 := hS.1
  have hx := S.1
  have hb := S.2.1
  have hown := S.2.2.2.1
  have hts := S.2.2.2.2
  have hK := hE.1
  have hl : lv_has ls 7 [(0, .ref (ad 0)), (1, .int (nI t9)), (2, .int ii), (3, .int (nI o9)), (4, .int jj), (5, .int nn)] := hl
  have ht5t9 : ti_t5 (nI t9) = true := by unfold ti_t5; rw [ti_in_nI (by omega) (by decide) (by decide)]; exact decide_eq_true ⟨Nat.zero_le _, by omega⟩
  have ht5o9 : ti_t5 (nI o9) = true := by unfold ti_t5; rw [ti_in_nI (by omega) (by decide) (by decide)]; exact decide_eq_true ⟨Nat.zero_le _, by omega⟩
  refine lv_iload_n hx hb dX0_shift_0 rfl (lv_at hl 1 rfl) ?_
  refine ti_pS (As := [.int (nI t9)]) (rest := []) (v := .int (ti_b (ti_t5 (nI t9)))) S hE hP [] (met_X0_isTape l D E (nI t9)) rfl (lw_S q920 q921 q66 q922) 1 rfl (by decide +kernel) ⟨Nat.le_of_ble_eq_true rfl, Nat.le_of_ble_eq_true rfl⟩ hl.1 rfl (Nat.le_of_ble_eq_true rfl) ⟨Nat.le_of_ble_eq_true rfl, Nat.le_of_ble_eq_true rfl⟩ dX0_shift_1 ?_
  refine tb_eq (tgt := 14) hx hb dX0_shift_4 (by decide) (fun c4 => ?_) (fun c4 => ?_)
  · skip
    exact absurd ht5t9 (by rw [c4]; decide)
  · skip
    refine lv_iload_n hx hb dX0_shift_7 rfl (lv_at hl 3 rfl) ?_
    refine ti_pS (As := [.int (nI o9)]) (rest := []) (v := .int (ti_b (ti_t5 (nI o9)))) S hE hP [] (met_X0_isTape l D E (nI o9)) rfl (lw_S q920 q921 q66 q922) 1 rfl (by decide +kernel) ⟨Nat.le_of_ble_eq_true rfl, Nat.le_of_ble_eq_true rfl⟩ hl.1 rfl (Nat.le_of_ble_eq_true rfl) ⟨Nat.le_of_ble_eq_true rfl, Nat.le_of_ble_eq_true rfl⟩ dX0_shift_8 ?_
    refine tb_ne (tgt := 16) hx hb dX0_shift_11 (by decide) (fun c11 => ?_) (fun c11 => ?_)
    · skip
      refine lv_aload_n hx hb dX0_shift_16 rfl (lv_at hl 0 rfl) ?_
      refine va_get (v := .ref (ad 35)) hx hb hts in_X0 hown hK hP 0 rfl rfl 13 (by decide) (hts _ q250) (fun _ h => h) rfl dX0_shift_17 ?_
      refine lv_iload_n hx hb dX0_shift_20 rfl (lv_at hl 1 rfl) ?_
      refine tn_aald hx hb hK hP 1 6 rfl rfl (by omega) (by decide) dX0_shift_21 ?_
      refine va_getN (v := .null) hx hb hts in_X6 hown hK hP 2 rfl rfl 0 (by decide) (hE.use q233 rfl rfl) (fun _ h => h) rfl dX0_shift_22 ?_
      refine lv_iload_n hx hb dX0_shift_25 rfl (lv_at hl 2 rfl) ?_
      refine lv_aload_n hx hb dX0_shift_26 rfl (lv_at hl 0 rfl) ?_
      refine va_get (v := .ref (ad 35)) hx hb hts in_X0 hown hK hP 0 rfl rfl 13 (by decide) (hts _ q250) (fun _ h => h) rfl dX0_shift_27 ?_
      refine lv_iload_n hx hb dX0_shift_30 rfl (lv_at hl 3 rfl) ?_
      refine tn_aald hx hb hK hP 1 6 rfl rfl (by omega) (by decide) dX0_shift_31 ?_
      refine va_getN (v := .ref b) hx hb hts in_X6 hown hK hP 3 rfl rfl 0 (by decide) (hE.use q233 rfl rfl) (fun _ h => h) rfl dX0_shift_32 ?_
      refine lv_iload hx hb dX0_shift_35 (lv_at hl 4 rfl) ?_
      refine lv_iload hx hb dX0_shift_37 (lv_at hl 5 rfl) ?_
      refine ti_acN (argsL := [.null, .int ii, .ref b, .int jj, .int nn]) (rest := []) S hE htr hZ hAz hS hl.1 rfl rfl (fun x h1 h2 => by simp [seenByNative, h1, h2, narrow]) (Nat.le_of_ble_eq_true rfl) (Nat.le_of_ble_eq_true rfl) (Nat.le_of_ble_eq_true rfl) (Nat.le_of_ble_eq_true rfl) (Nat.le_of_ble_eq_true rfl) q1081 rfl dX0_shift_39 (fun U fs Ec hEc => W.arraycopy_null1 _ _ _ _ (hEc [])) (fun H1 q9 ce hk9 hS hce hcv hcl => ?_)
      have hP := hP.kept (fun k x hx => hk9 x.1 (hP k x hx).lt)
      refine vx_catch hown [] ⟨16, 44, 45, 338⟩ [⟨16, 44, 50, 392⟩, ⟨16, 44, 55, 394⟩] htab (fun z hz => absurd hz List.not_mem_nil) rfl (by decide) (hts _ q947) (hE.use q966 rfl rfl) hce hcv hcl ?_
      refine lv_astore (lv' := [(6, .ref q9), (0, .ref (ad 0)), (1, .int (nI t9)), (2, .int ii), (3, .int (nI o9)), (4, .int jj), (5, .int nn)]) hx hb dX0_shift_45 hl (by decide) rfl (fun ls hl => ?_)
      refine lv_bipush (v := (-11)) hx hb dX0_shift_47 (by decide) ?_
      have hv9 : ((-11)) = (fun _ => (-11 : Int32)) () := (rfl : (-11 : Int32) = -11)
      refine W.eq (g2 := F0 m 49 ls [.int ((fun _ => (-11 : Int32)) ())]) (congrArg (fun z => F0 m 49 ls [.int z]) hv9) ?_
      exact hret _ () _ _ _ _ (trivial) hP trivial hS (Nat.le_of_ble_eq_true rfl) (Nat.le_of_ble_eq_true rfl) (fun hq hf9 => W.iret hx hb hr hq hf9 dX0_shift_49 hlk)
    · skip
      exact absurd ht5o9 (by rw [c11]; decide)

set_option maxHeartbeats 2000000 in
theorem met_X0_shift_n2 (l : Launch) (D : va_G) (E : Nat → ClassId) (htr : l.stackTraces = false) (z0 : Nat) (ad th : Nat → Nat) (tx : Nat) (hi : Bool) (t9 : Nat) (ht9 : t9 < 6) (o9 : Nat) (ho9 : o9 < 6) (a : Nat) (ii jj nn : Int32) : ti_MetB (σ := Unit) (τ := Unit) l D E yX0_shift (wsW_ yX0_shift cX0_shift 7 (some .int) [(16, 44, 45, 338), (16, 44, 50, 392), (16, 44, 55, 394)]) 10 3 454 z0 (ti_wT4 E ad th tx hi t9 o9 (.ref a) .null) [.ref (ad 0), .int (nI t9), .int ii, .int (nI o9), .int jj, .int nn] (fun _ => True) (fun _ => ti_wT4 E ad th tx hi t9 o9 (.ref a) .null) (fun u => some (.int ((fun _ => (-11 : Int32)) u))) (fun _ => True) (fun _ _ => True) (fun w => RX14) (fun w => 0) (fun w => ti_wT4 E ad th tx hi t9 o9 (.ref a) .null) (fun w => []) (fun w => False) (fun w H => True) := by
  refine ti_metBH (by decide) (Nat.le_of_ble_eq_true rfl) ?_
  intro p e s m below meth c H A Q ls S hE hP hD hS hA hZ hAz hx0 htab hl hret hq
  obtain ⟨hQ, hr, hlk, hinit⟩ := hq
  have hsz0 := hS.1
  have hx := S.1
  have hb := S.2.1
  have hown := S.2.2.2.1
  have hts := S.2.2.2.2
  have hK := hE.1
  have hl : lv_has ls 7 [(0, .ref (ad 0)), (1, .int (nI t9)), (2, .int ii), (3, .int (nI o9)), (4, .int jj), (5, .int nn)] := hl
  have ht5t9 : ti_t5 (nI t9) = true := by unfold ti_t5; rw [ti_in_nI (by omega) (by decide) (by decide)]; exact decide_eq_true ⟨Nat.zero_le _, by omega⟩
  have ht5o9 : ti_t5 (nI o9) = true := by unfold ti_t5; rw [ti_in_nI (by omega) (by decide) (by decide)]; exact decide_eq_true ⟨Nat.zero_le _, by omega⟩
  refine lv_iload_n hx hb dX0_shift_0 rfl (lv_at hl 1 rfl) ?_
  refine ti_pS (As := [.int (nI t9)]) (rest := []) (v := .int (ti_b (ti_t5 (nI t9)))) S hE hP [] (met_X0_isTape l D E (nI t9)) rfl (lw_S q920 q921 q66 q922) 1 rfl (by decide +kernel) ⟨Nat.le_of_ble_eq_true rfl, Nat.le_of_ble_eq_true rfl⟩ hl.1 rfl (Nat.le_of_ble_eq_true rfl) ⟨Nat.le_of_ble_eq_true rfl, Nat.le_of_ble_eq_true rfl⟩ dX0_shift_1 ?_
  refine tb_eq (tgt := 14) hx hb dX0_shift_4 (by decide) (fun c4 => ?_) (fun c4 => ?_)
  · skip
    exact absurd ht5t9 (by rw [c4]; decide)
  · skip
    refine lv_iload_n hx hb dX0_shift_7 rfl (lv_at hl 3 rfl) ?_
    refine ti_pS (As := [.int (nI o9)]) (rest := []) (v := .int (ti_b (ti_t5 (nI o9)))) S hE hP [] (met_X0_isTape l D E (nI o9)) rfl (lw_S q920 q921 q66 q922) 1 rfl (by decide +kernel) ⟨Nat.le_of_ble_eq_true rfl, Nat.le_of_ble_eq_true rfl⟩ hl.1 rfl (Nat.le_of_ble_eq_true rfl) ⟨Nat.le_of_ble_eq_true rfl, Nat.le_of_ble_eq_true rfl⟩ dX0_shift_8 ?_
    refine tb_ne (tgt := 16) hx hb dX0_shift_11 (by decide) (fun c11 => ?_) (fun c11 => ?_)
    · skip
      refine lv_aload_n hx hb dX0_shift_16 rfl (lv_at hl 0 rfl) ?_
      refine va_get (v := .ref (ad 35)) hx hb hts in_X0 hown hK hP 0 rfl rfl 13 (by decide) (hts _ q250) (fun _ h => h) rfl dX0_shift_17 ?_
      refine lv_iload_n hx hb dX0_shift_20 rfl (lv_at hl 1 rfl) ?_
      refine tn_aald hx hb hK hP 1 6 rfl rfl (by omega) (by decide) dX0_shift_21 ?_
      refine va_getN (v := .ref a) hx hb hts in_X6 hown hK hP 2 rfl rfl 0 (by decide) (hE.use q233 rfl rfl) (fun _ h => h) rfl dX0_shift_22 ?_
      refine lv_iload_n hx hb dX0_shift_25 rfl (lv_at hl 2 rfl) ?_
      refine lv_aload_n hx hb dX0_shift_26 rfl (lv_at hl 0 rfl) ?_
      refine va_get (v := .ref (ad 35)) hx hb hts in_X0 hown hK hP 0 rfl rfl 13 (by decide) (hts _ q250) (fun _ h => h) rfl dX0_shift_27 ?_
      refine lv_iload_n hx hb dX0_shift_30 rfl (lv_at hl 3 rfl) ?_
      refine tn_aald hx hb hK hP 1 6 rfl rfl (by omega) (by decide) dX0_shift_31 ?_
      refine va_getN (v := .null) hx hb hts in_X6 hown hK hP 3 rfl rfl 0 (by decide) (hE.use q233 rfl rfl) (fun _ h => h) rfl dX0_shift_32 ?_
      refine lv_iload hx hb dX0_shift_35 (lv_at hl 4 rfl) ?_
      refine lv_iload hx hb dX0_shift_37 (lv_at hl 5 rfl) ?_
      refine ti_acN (argsL := [.ref a, .int ii, .null, .int jj, .int nn]) (rest := []) S hE htr hZ hAz hS hl.1 rfl rfl (fun x h1 h2 => by simp [seenByNative, h1, h2, narrow]) (Nat.le_of_ble_eq_true rfl) (Nat.le_of_ble_eq_true rfl) (Nat.le_of_ble_eq_true rfl) (Nat.le_of_ble_eq_true rfl) (Nat.le_of_ble_eq_true rfl) q1081 rfl dX0_shift_39 (fun U fs Ec hEc => W.arraycopy_null2 _ _ _ _ (hEc [])) (fun H1 q9 ce hk9 hS hce hcv hcl => ?_)
      have hP := hP.kept (fun k x hx => hk9 x.1 (hP k x hx).lt)
      refine vx_catch hown [] ⟨16, 44, 45, 338⟩ [⟨16, 44, 50, 392⟩, ⟨16, 44, 55, 394⟩] htab (fun z hz => absurd hz List.not_mem_nil) rfl (by decide) (hts _ q947) (hE.use q966 rfl rfl) hce hcv hcl ?_
      refine lv_astore (lv' := [(6, .ref q9), (0, .ref (ad 0)), (1, .int (nI t9)), (2, .int ii), (3, .int (nI o9)), (4, .int jj), (5, .int nn)]) hx hb dX0_shift_45 hl (by decide) rfl (fun ls hl => ?_)
      refine lv_bipush (v := (-11)) hx hb dX0_shift_47 (by decide) ?_
      have hv9 : ((-11)) = (fun _ => (-11 : Int32)) () := (rfl : (-11 : Int32) = -11)
      refine W.eq (g2 := F0 m 49 ls [.int ((fun _ => (-11 : Int32)) ())]) (congrArg (fun z => F0 m 49 ls [.int z]) hv9) ?_
      exact hret _ () _ _ _ _ (trivial) hP trivial hS (Nat.le_of_ble_eq_true rfl) (Nat.le_of_ble_eq_true rfl) (fun hq hf9 => W.iret hx hb hr hq hf9 dX0_shift_49 hlk)
    · skip
      exact absurd ht5o9 (by rw [c11]; decide)

set_option maxHeartbeats 2000000 in
theorem met_X0_shift_ns (l : Launch) (D : va_G) (E : Nat → ClassId) (htr : l.stackTraces = false) (z0 : Nat) (ad th : Nat → Nat) (tx : Nat) (hi : Bool) (t9 : Nat) (ht9 : t9 < 6) (ii jj nn : Int32) : ti_MetB (σ := Unit) (τ := Unit) l D E yX0_shift (wsW_ yX0_shift cX0_shift 7 (some .int) [(16, 44, 45, 338), (16, 44, 50, 392), (16, 44, 55, 394)]) 10 3 454 z0 (ti_wT3 E ad th tx hi t9 .null) [.ref (ad 0), .int (nI t9), .int ii, .int (nI t9), .int jj, .int nn] (fun _ => True) (fun _ => ti_wT3 E ad th tx hi t9 .null) (fun u => some (.int ((fun _ => (-11 : Int32)) u))) (fun _ => True) (fun _ _ => True) (fun w => RX14) (fun w => 0) (fun w => ti_wT3 E ad th tx hi t9 .null) (fun w => []) (fun w => False) (fun w H => True) := by
  refine ti_metBH (by decide) (Nat.le_of_ble_eq_true rfl) ?_
  intro p e s m below meth c H A Q ls S hE hP hD hS hA hZ hAz hx0 htab hl hret hq
  obtain ⟨hQ, hr, hlk, hinit⟩ := hq
  have hsz0 := hS.1
  have hx := S.1
  have hb := S.2.1
  have hown := S.2.2.2.1
  have hts := S.2.2.2.2
  have hK := hE.1
  have hl : lv_has ls 7 [(0, .ref (ad 0)), (1, .int (nI t9)), (2, .int ii), (3, .int (nI t9)), (4, .int jj), (5, .int nn)] := hl
  have ht5t9 : ti_t5 (nI t9) = true := by unfold ti_t5; rw [ti_in_nI (by omega) (by decide) (by decide)]; exact decide_eq_true ⟨Nat.zero_le _, by omega⟩
  refine lv_iload_n hx hb dX0_shift_0 rfl (lv_at hl 1 rfl) ?_
  refine ti_pS (As := [.int (nI t9)]) (rest := []) (v := .int (ti_b (ti_t5 (nI t9)))) S hE hP [] (met_X0_isTape l D E (nI t9)) rfl (lw_S q920 q921 q66 q922) 1 rfl (by decide +kernel) ⟨Nat.le_of_ble_eq_true rfl, Nat.le_of_ble_eq_true rfl⟩ hl.1 rfl (Nat.le_of_ble_eq_true rfl) ⟨Nat.le_of_ble_eq_true rfl, Nat.le_of_ble_eq_true rfl⟩ dX0_shift_1 ?_
  refine tb_eq (tgt := 14) hx hb dX0_shift_4 (by decide) (fun c4 => ?_) (fun c4 => ?_)
  · skip
    exact absurd ht5t9 (by rw [c4]; decide)
  · skip
    refine lv_iload_n hx hb dX0_shift_7 rfl (lv_at hl 3 rfl) ?_
    refine ti_pS (As := [.int (nI t9)]) (rest := []) (v := .int (ti_b (ti_t5 (nI t9)))) S hE hP [] (met_X0_isTape l D E (nI t9)) rfl (lw_S q920 q921 q66 q922) 1 rfl (by decide +kernel) ⟨Nat.le_of_ble_eq_true rfl, Nat.le_of_ble_eq_true rfl⟩ hl.1 rfl (Nat.le_of_ble_eq_true rfl) ⟨Nat.le_of_ble_eq_true rfl, Nat.le_of_ble_eq_true rfl⟩ dX0_shift_8 ?_
    refine tb_ne (tgt := 16) hx hb dX0_shift_11 (by decide) (fun c11 => ?_) (fun c11 => ?_)
    · skip
      refine lv_aload_n hx hb dX0_shift_16 rfl (lv_at hl 0 rfl) ?_
      refine va_get (v := .ref (ad 35)) hx hb hts in_X0 hown hK hP 0 rfl rfl 13 (by decide) (hts _ q250) (fun _ h => h) rfl dX0_shift_17 ?_
      refine lv_iload_n hx hb dX0_shift_20 rfl (lv_at hl 1 rfl) ?_
      refine tn_aald hx hb hK hP 1 6 rfl rfl (by omega) (by decide) dX0_shift_21 ?_
      refine va_getN (v := .null) hx hb hts in_X6 hown hK hP 2 rfl rfl 0 (by decide) (hE.use q233 rfl rfl) (fun _ h => h) rfl dX0_shift_22 ?_
      refine lv_iload_n hx hb dX0_shift_25 rfl (lv_at hl 2 rfl) ?_
      refine lv_aload_n hx hb dX0_shift_26 rfl (lv_at hl 0 rfl) ?_
      refine va_get (v := .ref (ad 35)) hx hb hts in_X0 hown hK hP 0 rfl rfl 13 (by decide) (hts _ q250) (fun _ h => h) rfl dX0_shift_27 ?_
      refine lv_iload_n hx hb dX0_shift_30 rfl (lv_at hl 3 rfl) ?_
      refine tn_aald hx hb hK hP 1 6 rfl rfl (by omega) (by decide) dX0_shift_31 ?_
      refine va_getN (v := .null) hx hb hts in_X6 hown hK hP 2 rfl rfl 0 (by decide) (hE.use q233 rfl rfl) (fun _ h => h) rfl dX0_shift_32 ?_
      refine lv_iload hx hb dX0_shift_35 (lv_at hl 4 rfl) ?_
      refine lv_iload hx hb dX0_shift_37 (lv_at hl 5 rfl) ?_
      refine ti_acN (argsL := [.null, .int ii, .null, .int jj, .int nn]) (rest := []) S hE htr hZ hAz hS hl.1 rfl rfl (fun x h1 h2 => by simp [seenByNative, h1, h2, narrow]) (Nat.le_of_ble_eq_true rfl) (Nat.le_of_ble_eq_true rfl) (Nat.le_of_ble_eq_true rfl) (Nat.le_of_ble_eq_true rfl) (Nat.le_of_ble_eq_true rfl) q1081 rfl dX0_shift_39 (fun U fs Ec hEc => W.arraycopy_null1 _ _ _ _ (hEc [])) (fun H1 q9 ce hk9 hS hce hcv hcl => ?_)
      have hP := hP.kept (fun k x hx => hk9 x.1 (hP k x hx).lt)
      refine vx_catch hown [] ⟨16, 44, 45, 338⟩ [⟨16, 44, 50, 392⟩, ⟨16, 44, 55, 394⟩] htab (fun z hz => absurd hz List.not_mem_nil) rfl (by decide) (hts _ q947) (hE.use q966 rfl rfl) hce hcv hcl ?_
      refine lv_astore (lv' := [(6, .ref q9), (0, .ref (ad 0)), (1, .int (nI t9)), (2, .int ii), (3, .int (nI t9)), (4, .int jj), (5, .int nn)]) hx hb dX0_shift_45 hl (by decide) rfl (fun ls hl => ?_)
      refine lv_bipush (v := (-11)) hx hb dX0_shift_47 (by decide) ?_
      have hv9 : ((-11)) = (fun _ => (-11 : Int32)) () := (rfl : (-11 : Int32) = -11)
      refine W.eq (g2 := F0 m 49 ls [.int ((fun _ => (-11 : Int32)) ())]) (congrArg (fun z => F0 m 49 ls [.int z]) hv9) ?_
      exact hret _ () _ _ _ _ (trivial) hP trivial hS (Nat.le_of_ble_eq_true rfl) (Nat.le_of_ble_eq_true rfl) (fun hq hf9 => W.iret hx hb hr hq hf9 dX0_shift_49 hlk)
    · skip
      exact absurd ht5t9 (by rw [c11]; decide)
