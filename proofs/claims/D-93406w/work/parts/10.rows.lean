/-! TermIdeals: what every contract rests on: the classes, the array classes, the words that don't ride in the lists; contracts of methods that only read (ti_MetP) and of those that write (ti_MetM); rows over natural numbers -/
set_option maxRecDepth 100000
abbrev vwCl : List vw_C := [(RX0, TX0, 19), (RX1, TX1, 3), (RX2, TX2, 10), (RX3, TX3, 3), (RX4, TX4, 1), (RX5, TX5, 4), (RX6, TX6, 1), (RX7, TX7, 46), (RX8, TX8, 6), (RX9, TX9, 5), (RX10, TX10, 7), (RX11, TX11, 4), (RX12, TX12, 7), (RX13, TX13, 7), (RX14, TX14, 7), (RX15, TX15, 7)]
abbrev ti_tys (E : Nat → ClassId) : List (ClassId × FieldType) := [(E 0, .int), (E 1, .byte), (E 2, .short), (E 3, .long), (E 4, .boolean), (E 5, .object "TermIdeals$Ideal"), (E 6, .object "TermIdeals$Tape"), (E 7, .object "TermIdeals$Clause")]
def ti_kind (w : Cond) : Bool := match w with
  | .fieldLinkNest _ _ _ _ _ _ => true
  | .methodLinkNest _ _ _ _ => true
  | .castable _ _ => true
  | .declares _ => true
  | .arrayOver (.object _) => true
  | _ => false
/-- the words that don't ride in the lists, as the start has them -/
def ti_nw : List Cond := lw_tbl.filter ti_kind
/-- what every contract's start says of the tables -/
def ti_E (D : va_G) (E : Nat → ClassId) (U : State) : Prop := va_K D vwCl (ti_tys E) U ∧ ∀ w ∈ ti_nw, va_Nw w U
theorem ti_nwmoved {w : Cond} (hk : ti_kind w = true) {s U : State} (hW : s.WarmedH U.vm) (h : va_Nw w s) : va_Nw w U := by
  match w, hk with
  | .fieldLinkNest .., _ => exact va_Nw.warmF hW h
  | .methodLinkNest .., _ => exact va_Nw.warmM hW h
  | .castable .., _ => exact va_Nw.warmC hW h
  | .declares .., _ => exact va_Nw.warmD hW h
  | .arrayOver (.object _), _ => exact va_AO.moved hW.alike h
theorem ti_E.moved {D : va_G} {E : Nat → ClassId} {s U : State} (hW : s.WarmedH U.vm) (h : ti_E D E s) : ti_E D E U :=
  ⟨va_K.moved hW.alike h.1, fun w hw => ti_nwmoved (List.mem_filter.mp hw).2 hW (h.2 w hw)⟩
theorem ti_nwcalling {w : Cond} (hk : ti_kind w = true) {U : State} {g : JFrame} {mk : MethodId} {a : Array Value} (h : va_Nw w U) : va_Nw w (U.calling g mk a) := by
  match w, hk with
  | .fieldLinkNest .., _ => exact va_Nw.same rfl (rfl : U.vm = (U.calling g mk a).vm) h
  | .methodLinkNest .., _ => exact va_Nw.same rfl (rfl : U.vm = (U.calling g mk a).vm) h
  | .castable .., _ => exact va_Nw.same rfl (rfl : U.vm = (U.calling g mk a).vm) h
  | .declares .., _ => exact va_Nw.same rfl (rfl : U.vm = (U.calling g mk a).vm) h
  | .arrayOver (.object _), _ => exact va_AO.moved (u := U) (U := U.calling g mk a) (Vm.Alike.refl U.vm) h
theorem ti_E.calling {D : va_G} {E : Nat → ClassId} {U : State} (g : JFrame) (mk : MethodId) (a : Array Value) (h : ti_E D E U) : ti_E D E (U.calling g mk a) :=
  ⟨va_K.moved (u := U) (U := U.calling g mk a) (Vm.Alike.refl U.vm) h.1, fun w hw => ti_nwcalling (List.mem_filter.mp hw).2 (h.2 w hw)⟩
theorem ti_E.nw {D : va_G} {E : Nat → ClassId} {U : State} (h : ti_E D E U) {w : Cond} (hw : w ∈ lw_tbl) (hk : ti_kind w = true) : va_Nw w U := h.2 w (List.mem_filter.mpr ⟨hw, hk⟩)
theorem ti_E.use {D : va_G} {E : Nat → ClassId} {U : State} (h : ti_E D E U) {w : Cond} (hw : w ∈ lw_tbl) (hk : ti_kind w = true) (ho : w.onTables = true) {A : Array Value} : w.before A U = true := va_Nw.use ho (h.nw hw hk)
abbrev ti_rm (k mc ms : Nat) : Room := { frames := k, cells := mc, slots := ms, locals := 64 * k }
/-- 1 and 0 -/
def ti_b (b : Bool) : Int32 := match b with
  | true => 1
  | false => 0
theorem ti_b_nar (b : Bool) : narrow .boolean (.int (ti_b b)) = .int (ti_b b) := by cases b <;> rfl
/-- a method that only reads: its answer, the heap as it was -/
def ti_R (v : Option Value) : Array Value → State → Outcome → State → Prop := fun _ st o t => o = .returned v ∧ t.heap = st.heap
def ti_MetP (l : Launch) (D : va_G) (E : Nat → ClassId) (y : MethodName) (cc : ByteArray) (nL : Nat) (ret : Option FieldType) (k : Nat) (ws : va_W) (av : List Value) (v : Option Value) : Prop :=
  Met l y (ws_ y cc nL ret) (ti_rm k 0 0) (va_Pc av (fun U => ti_E D E U ∧ va_P D vwCl ws U.heap)) (ti_R v) 0 0 (fun _ => False)
section TIA
variable {l : Launch} {D : va_G} {E : Nat → ClassId} {y : MethodName} {cc : ByteArray} {nL k : Nat} {ws : va_W} {av : List Value}
theorem ti_pureI {v : Int32} (hy : plainName y.cls = true) (hn : (lg_sl av).length ≤ nL)
    (body : ∀ (p : Program) (e : Env) (s : State) (m : MethodId) (below : List Frame) (meth : Method) (c : Code) (H : Heap) (locs : List Loc) (Q : State → Prop) (ls : Array Slot), CallFix p m c cc nL s av.toArray lw_all y.cls → ti_E D E s → va_P D vwCl ws H → lv_has ls nL (lv_args 0 av) →
      (∀ (pc : Nat) (ls : Array Slot) (r : Int32), decode cc pc = .ok (.ireturn, 1) → r = v → W p l e (ti_rm k 0 0) s m av.toArray below meth c H locs 0 0 Q (F0 m pc ls [.int r])) → W p l e (ti_rm k 0 0) s m av.toArray below meth c H locs 0 0 Q (F0 m 0 ls [])) : ti_MetP l D E y cc nL (some .int) k ws av (some (.int v)) := by
  refine Met.ofW (cc := cc) (maxL := nL) (ret := some .int) hy rfl ?_
  intro p e s m args below meth c s₁ B hml hv
  obtain ⟨rfl, hE, hP⟩ := hv
  have hts := atoms_spec (ws := ws_ y cc nL (some .int)) B.pre
  have hl := lv_entry av (n := nL) hn
  rw [lg_entry_eq]
  generalize (lg_sl av ++ List.replicate (nL - (lg_sl av).length) Slot.unset).toArray = ls at hl ⊢
  refine body p e s m below meth c s.heap [] _ ls ⟨B.exec, B.bytes, hml, findClass_of_methodNamed B.named, fun w h => hts w (List.mem_cons_of_mem _ h)⟩ hE hP hl ?_
  intro pc ls r hd hr
  subst hr
  exact W.iret B.exec B.bytes B.returns (fun t ht _ => ⟨rfl, ht⟩) (fun q h => by cases h) hd B.notSynchronized
theorem ti_pureZ {b : Bool} (hy : plainName y.cls = true) (hn : (lg_sl av).length ≤ nL)
    (body : ∀ (p : Program) (e : Env) (s : State) (m : MethodId) (below : List Frame) (meth : Method) (c : Code) (H : Heap) (locs : List Loc) (Q : State → Prop) (ls : Array Slot), CallFix p m c cc nL s av.toArray lw_all y.cls → ti_E D E s → va_P D vwCl ws H → lv_has ls nL (lv_args 0 av) →
      (∀ (pc : Nat) (ls : Array Slot) (r : Int32), decode cc pc = .ok (.ireturn, 1) → r = ti_b b → W p l e (ti_rm k 0 0) s m av.toArray below meth c H locs 0 0 Q (F0 m pc ls [.int r])) → W p l e (ti_rm k 0 0) s m av.toArray below meth c H locs 0 0 Q (F0 m 0 ls [])) : ti_MetP l D E y cc nL (some .boolean) k ws av (some (.int (ti_b b))) := by
  refine Met.ofW (cc := cc) (maxL := nL) (ret := some .boolean) hy rfl ?_
  intro p e s m args below meth c s₁ B hml hv
  obtain ⟨rfl, hE, hP⟩ := hv
  have hts := atoms_spec (ws := ws_ y cc nL (some .boolean)) B.pre
  have hl := lv_entry av (n := nL) hn
  rw [lg_entry_eq]
  generalize (lg_sl av ++ List.replicate (nL - (lg_sl av).length) Slot.unset).toArray = ls at hl ⊢
  refine body p e s m below meth c s.heap [] _ ls ⟨B.exec, B.bytes, hml, findClass_of_methodNamed B.named, fun w h => hts w (List.mem_cons_of_mem _ h)⟩ hE hP hl ?_
  intro pc ls r hd hr
  subst hr
  exact W.zret B.exec B.bytes B.returns (ti_b_nar b) (fun t ht _ => ⟨rfl, ht⟩) (fun q h => by cases h) hd B.notSynchronized
theorem ti_pureJ {v : Int64} (hy : plainName y.cls = true) (hn : (lg_sl av).length ≤ nL)
    (body : ∀ (p : Program) (e : Env) (s : State) (m : MethodId) (below : List Frame) (meth : Method) (c : Code) (H : Heap) (locs : List Loc) (Q : State → Prop) (ls : Array Slot), CallFix p m c cc nL s av.toArray lw_all y.cls → ti_E D E s → va_P D vwCl ws H → lv_has ls nL (lv_args 0 av) →
      (∀ (pc : Nat) (ls : Array Slot) (r : Int64), decode cc pc = .ok (.lreturn, 1) → r = v → W p l e (ti_rm k 0 0) s m av.toArray below meth c H locs 0 0 Q (F0 m pc ls [.long r])) → W p l e (ti_rm k 0 0) s m av.toArray below meth c H locs 0 0 Q (F0 m 0 ls [])) : ti_MetP l D E y cc nL (some .long) k ws av (some (.long v)) := by
  refine Met.ofW (cc := cc) (maxL := nL) (ret := some .long) hy rfl ?_
  intro p e s m args below meth c s₁ B hml hv
  obtain ⟨rfl, hE, hP⟩ := hv
  have hts := atoms_spec (ws := ws_ y cc nL (some .long)) B.pre
  have hl := lv_entry av (n := nL) hn
  rw [lg_entry_eq]
  generalize (lg_sl av ++ List.replicate (nL - (lg_sl av).length) Slot.unset).toArray = ls at hl ⊢
  refine body p e s m below meth c s.heap [] _ ls ⟨B.exec, B.bytes, hml, findClass_of_methodNamed B.named, fun w h => hts w (List.mem_cons_of_mem _ h)⟩ hE hP hl ?_
  intro pc ls r hd hr
  subst hr
  exact W.lret B.exec B.bytes B.returns (fun t ht _ => ⟨rfl, ht⟩) (fun q h => by cases h) hd B.notSynchronized
end TIA
/-! calls of methods that only read -/
section TIB
variable {p : Program} {l : Launch} {e : Env} {R : Room} {s : State} {m : MethodId} {args : Array Value} {below : List Frame} {meth : Method} {c : Code} {H : Heap} {locs : List Loc} {cells slots : Nat} {Q : State → Prop}
variable {D : va_G} {E : Nat → ClassId} {y : MethodName} {bytes cc : ByteArray} {maxL nL k n index : Nat} {ret : Option FieldType} {wc ws : va_W} {As rest : List Value} {b pc : Nat} {ls : Array Slot} {st0 : List Value} {v : Value} {own host C : String}
theorem ti_callR {g : JFrame} {a : Array Value} (hr : va_Run p l e R s m args below meth c H locs cells slots 0 0 g rest (ti_R (some v) a) (fun _ => False)) (kk : W p l e R s m args below meth c H locs cells slots Q { g with pc := g.pc + 3, stack := v :: rest }) : W p l e R s m args below meth c H locs cells slots Q g := by
  intro T hT X
  obtain ⟨w, st₀, t, T', L, h0, X', hL, e1, e2, ⟨hv, hh⟩, st⟩ := hr T hT X
  cases hv
  obtain ⟨t2, a1, b1⟩ := kk T' (by rw [e1, hh, h0]) (Stand.forget X' (fun q h => (hL q h).elim))
  exact ⟨t2, st t2 a1, b1⟩
theorem ti_preS {Pc : List Value} (hE : ti_E D E s) (hP : va_P D vwCl wc H) : PreS s H (va_Pc As (fun U => ti_E D E U ∧ va_P D vwCl wc U.heap)) As :=
  ⟨fun a U g mk q => ⟨q.1, q.2.1.calling g mk a, q.2.2⟩, fun U hU hW => ⟨rfl, hE.moved hW, by rw [hU]; exact hP⟩⟩
/-- an instance method that only reads -/
theorem ti_pV (S : CallFix p m c cc nL s args lw_all own) (hE : ti_E D E s) (hP : va_P D vwCl ws H) (isC : List Nat) (hM : ti_MetP l D E y bytes maxL ret k wc (.ref b :: As) (some v)) (hs : isC.filterMap (fun i => ws[i]?) = wc)
    (hg : GoodIn lw_all (wsV own index C y (ws_ y bytes maxL ret))) (na : Nat) (hna : As.length = na) (q0 : Nat) {ci : Nat} {fs : List Value} (hb : ws[q0]? = some (b, .inr (ci, fs))) {T : u_T} {N : Nat} (hc : vwCl[ci]? = some (C, T, N))
    (hd : y.cls = C ∧ y.cls ≠ "java/lang/invoke/MethodHandle" ∧ y.cls ≠ "java/lang/invoke/VarHandle" ∧ (parseMethodDescriptor y.desc).map (fun d => d.parameters.length) = some na) (hR : k + 1 ≤ R.frames ∧ 8 + (maxL + 11) + 64 * k ≤ R.locals)
    (hsz : ls.size = nL) (hst : st0 = As.reverse ++ .ref b :: rest) (hW : (rest.map fun v => v.category).sum ≤ 8) (hcs : cells ≤ R.cells ∧ slots ≤ R.slots) (hdg : decode cc pc = .ok (.invokevirtual index, 3))
    (kk : W p l e R s m args below meth c H locs cells slots Q (F0 m (pc + 3) ls (v :: rest))) : W p l e R s m args below meth c H locs cells slots Q (F0 m pc ls st0) := by
  have hr := va_recv hE.1 hP (ci := ci) (q0 := q0) (q := (C, T, N)) hc hb
  refine ti_callR (va_runV S hM (cwV na S.2.2.2.2 hg rfl rfl rfl hd hR) ⟨(ti_preS (Pc := []) hE (hP.sub isC hs)).1, hr, (ti_preS (Pc := []) hE (hP.sub isC hs)).2⟩ rfl hna hsz hst (lv_room hW) hdg hcs) kk
/-- a static method that only reads -/
theorem ti_pS (S : CallFix p m c cc nL s args lw_all own) (hE : ti_E D E s) (hP : va_P D vwCl ws H) (isC : List Nat) (hM : ti_MetP l D E y bytes maxL ret k wc As (some v)) (hs : isC.filterMap (fun i => ws[i]?) = wc)
    (hg : GoodIn lw_all (va_wsS own index y (ws_ y bytes maxL ret))) (na : Nat) (hna : As.length = na)
    (hd : y.cls ≠ "java/lang/invoke/MethodHandle" ∧ y.cls ≠ "java/lang/invoke/VarHandle" ∧ (parseMethodDescriptor y.desc).map (fun d => d.parameters.length) = some na) (hR : k + 1 ≤ R.frames ∧ 8 + (maxL + 11) + 64 * k ≤ R.locals)
    (hsz : ls.size = nL) (hst : st0 = As.reverse ++ rest) (hW : (rest.map fun v => v.category).sum ≤ 8) (hcs : cells ≤ R.cells ∧ slots ≤ R.slots) (hdg : decode cc pc = .ok (.invokestatic index, 3))
    (kk : W p l e R s m args below meth c H locs cells slots Q (F0 m (pc + 3) ls (v :: rest))) : W p l e R s m args below meth c H locs cells slots Q (F0 m pc ls st0) := by
  refine ti_callR (va_runS S hM (va_cwS na S.2.2.2.2 hg rfl rfl rfl hd hR) (ti_preS (Pc := []) hE (hP.sub isC hs)) rfl hna hsz hst (lv_room hW) hdg hcs) kk
/-- a nest mate's private method that only reads -/
theorem ti_pVN (S : CallFix p m c cc nL s args lw_all own) (hE : ti_E D E s) (hP : va_P D vwCl ws H) (isC : List Nat) (hM : ti_MetP l D E y bytes maxL ret k wc (.ref b :: As) (some v)) (hs : isC.filterMap (fun i => ws[i]?) = wc)
    (hg : GoodIn lw_all (ws_ y bytes maxL ret)) (hl : Cond.methodLinkNest own index y host ∈ lw_tbl) (hi : Cond.instanceMethod y ∈ lw_all) (hsel : Cond.selects C y y ∈ lw_all) (hini : Cond.initialized y.cls ∈ lw_all) (na : Nat) (hna : As.length = na) (q0 : Nat) {ci : Nat} {fs : List Value} (hb : ws[q0]? = some (b, .inr (ci, fs))) {T : u_T} {N : Nat} (hc : vwCl[ci]? = some (C, T, N))
    (hd : y.cls ≠ "java/lang/invoke/MethodHandle" ∧ y.cls ≠ "java/lang/invoke/VarHandle" ∧ (parseMethodDescriptor y.desc).map (fun d => d.parameters.length) = some na) (hR : k + 1 ≤ R.frames ∧ 8 + (maxL + 11) + 64 * k ≤ R.locals)
    (hsz : ls.size = nL) (hst : st0 = As.reverse ++ .ref b :: rest) (hW : (rest.map fun v => v.category).sum ≤ 8) (hcs : cells ≤ R.cells ∧ slots ≤ R.slots) (hdg : decode cc pc = .ok (.invokevirtual index, 3))
    (kk : W p l e R s m args below meth c H locs cells slots Q (F0 m (pc + 3) ls (v :: rest))) : W p l e R s m args below meth c H locs cells slots Q (F0 m pc ls st0) := by
  have hr := va_recv hE.1 hP (ci := ci) (q0 := q0) (q := (C, T, N)) hc hb
  refine ti_callR (va_runVN S hM ⟨va_cnB na S.2.2.2.2 hg rfl rfl rfl (hE.nw hl rfl) (S.2.2.2.2 _ hini) hd hR, S.2.2.2.2 _ hi, S.2.2.2.2 _ hsel⟩ ⟨(ti_preS (Pc := []) hE (hP.sub isC hs)).1, hr, (ti_preS (Pc := []) hE (hP.sub isC hs)).2⟩ rfl hna hsz hst (lv_room hW) hdg hcs) kk
theorem ti_pSN (S : CallFix p m c cc nL s args lw_all own) (hE : ti_E D E s) (hP : va_P D vwCl ws H) (isC : List Nat) (hM : ti_MetP l D E y bytes maxL ret k wc As (some v)) (hs : isC.filterMap (fun i => ws[i]?) = wc)
    (hg : GoodIn lw_all (ws_ y bytes maxL ret)) (hl : Cond.methodLinkNest own index y host ∈ lw_tbl) (hi : Cond.static y ∈ lw_all) (hini : Cond.initialized y.cls ∈ lw_all) (na : Nat) (hna : As.length = na)
    (hd : y.cls ≠ "java/lang/invoke/MethodHandle" ∧ y.cls ≠ "java/lang/invoke/VarHandle" ∧ (parseMethodDescriptor y.desc).map (fun d => d.parameters.length) = some na) (hR : k + 1 ≤ R.frames ∧ 8 + (maxL + 11) + 64 * k ≤ R.locals)
    (hsz : ls.size = nL) (hst : st0 = As.reverse ++ rest) (hW : (rest.map fun v => v.category).sum ≤ 8) (hcs : cells ≤ R.cells ∧ slots ≤ R.slots) (hdg : decode cc pc = .ok (.invokestatic index, 3))
    (kk : W p l e R s m args below meth c H locs cells slots Q (F0 m (pc + 3) ls (v :: rest))) : W p l e R s m args below meth c H locs cells slots Q (F0 m pc ls st0) := by
  refine ti_callR (va_runSN S hM ⟨va_cnB na S.2.2.2.2 hg rfl rfl rfl (hE.nw hl rfl) (S.2.2.2.2 _ hini) hd hR, S.2.2.2.2 _ hi, trivial⟩ (ti_preS (Pc := []) hE (hP.sub isC hs)) rfl hna hsz hst (lv_room hW) hdg hcs) kk
end TIB
