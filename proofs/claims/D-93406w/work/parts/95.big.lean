/-! rooms with place for the machine's own throws; how the machine throws -/
set_option maxRecDepth 100000
abbrev ti_rb (k mc ms : Nat) : Room := { frames := k, cells := mc, slots := ms, locals := 10240 + 64 * k }
def ti_MetB {σ τ : Type} (l : Launch) (D : va_G) (E : Nat → ClassId) (y : MethodName) (hd : List Cond) (k mc ms z0 : Nat) (ws : va_W) (av : List Value) (xp : Heap → Prop) (wf : σ → va_W) (val : σ → Option Value) (post : σ → Prop) (xq : σ → Heap → Prop) (nm : τ → String) (adr : τ → Nat) (wy ex : τ → va_W) (px : τ → Prop) (xx : τ → Heap → Prop) : Prop :=
  ∀ sz : Nat, ty_Met l y hd (ti_rb k mc ms) (va_Pc av (fun U => U.heap.size = sz ∧ ti_E D E U ∧ va_P D vwCl ws U.heap ∧ va_D (fun _ => True) ws ∧ ti_Z z0 ws U ∧ xp U.heap)) (ti_QF D wf val post xq (va_A ws sz)) (ti_XC D nm adr wy ex px xx sz (va_A ws sz)) mc ms (va_A ws sz)
section TBXA
variable {σ τ : Type} {l : Launch} {D : va_G} {E : Nat → ClassId} {y : MethodName} {cc : ByteArray} {nL k mc ms z0 : Nat} {ret : Option FieldType} {ws : va_W} {av : List Value} {wf : σ → va_W} {val : σ → Option Value} {post : σ → Prop} {xp : Heap → Prop} {xq : σ → Heap → Prop} {nm : τ → String} {adr : τ → Nat} {wy ex : τ → va_W} {px : τ → Prop} {xx : τ → Heap → Prop}
theorem ti_metB (hy : plainName y.cls = true) (hn : (lg_sl av).length ≤ nL)
    (body : ∀ (p : Program) (e : Env) (s : State) (m : MethodId) (below : List Frame) (meth : Method) (c : Code) (H : Heap) (A : Nat → Prop) (Q : State → Prop) (ls : Array Slot), CallFix p m c cc nL s av.toArray lw_all y.cls → ti_E D E s → va_P D vwCl ws H → va_D A ws → va_S A s.heap H [] → (∀ q, s.heap.size ≤ q → A q) → ti_Z z0 ws s → (∀ q, A q → z0 ≤ q) → xp s.heap → (∀ x ∈ c.exceptionTable.toList, False) → lv_has ls nL (lv_args 0 av) →
      (∀ (g : JFrame) (u : σ) (H : Heap) (locs : List Loc) (cells slots : Nat), post u → va_P D vwCl (wf u) H → xq u H → va_S A s.heap H locs → cells ≤ mc → slots ≤ ms →
        ((∀ t : State, t.heap = H → s.WarmedH t.vm → ti_QF D wf val post xq A av.toArray s (.returned (val u)) t) → (∀ q ∈ locs, A q.base) → W p l e (ti_rb k mc ms) s m av.toArray below meth c H locs mc ms (MQ below (ti_QF D wf val post xq A) av.toArray s mc ms A) g) → W p l e (ti_rb k mc ms) s m av.toArray below meth c H locs cells slots Q g) →
      (Q = ty_MQ below (ti_QF D wf val post xq A) (ti_XC D nm adr wy ex px xx s.heap.size A) av.toArray s mc ms A ∧ meth.sig.returnType = ret ∧ meth.locks = false ∧ meth.name = y.name) → W p l e (ti_rb k mc ms) s m av.toArray below meth c H [] 0 0 Q (F0 m 0 ls [])) : ti_MetB l D E y (ws_ y cc nL ret) k mc ms z0 ws av xp wf val post xq nm adr wy ex px xx := by
  intro sz
  refine ty_ofW (cc := cc) (maxL := nL) (ret := ret) hy rfl ?_
  intro p e s m args below meth c s₁ B hml hnoex hv
  obtain ⟨rfl, hsz, hE, hP, hD0, hZ, hx⟩ := hv
  have hts := atoms_spec (ws := ws_ y cc nL ret) B.pre
  have hl := lv_entry av (n := nL) hn
  rw [lg_entry_eq]
  generalize (lg_sl av ++ List.replicate (nL - (lg_sl av).length) Slot.unset).toArray = ls at hl ⊢
  subst hsz
  have hD := hD0.self (sz := s.heap.size)
  have hAz := hZ.ofA
  generalize hAe : va_A ws s.heap.size = A at hD hAz ⊢
  have hA : ∀ q : Nat, s.heap.size ≤ q → A q := fun q h => by rw [← hAe]; exact Or.inr h
  refine body p e s m below meth c s.heap A _ ls ⟨B.exec, B.bytes, hml, findClass_of_methodNamed B.named, fun w h => hts w (List.mem_cons_of_mem _ h)⟩ hE hP hD va_S.rf hA hZ hAz hx hnoex hl ?_ ⟨rfl, B.returns, B.notSynchronized, (name_of_methodNamed B.named B.method).1⟩
  intro g u H locs cells slots hp hP hxq hS h1 h2 kk
  exact W.widen h1 h2 (ty_ret (kk (fun t ht hW => ⟨⟨u, rfl, hp, by rw [ht]; exact hP, by rw [ht]; exact hxq⟩, hS.F ht⟩) hS.2.2))
end TBXA
section TBXE
variable {σ τ : Type} {l : Launch} {D : va_G} {E : Nat → ClassId} {y : MethodName} {cc : ByteArray} {nL k mc ms z0 : Nat} {ret : Option FieldType} {hh : List (Nat × Nat × Nat × Nat)} {ws : va_W} {av : List Value} {wf : σ → va_W} {val : σ → Option Value} {post : σ → Prop} {xp : Heap → Prop} {xq : σ → Heap → Prop} {nm : τ → String} {adr : τ → Nat} {wy ex : τ → va_W} {px : τ → Prop} {xx : τ → Heap → Prop}
theorem ti_metBH (hy : plainName y.cls = true) (hn : (lg_sl av).length ≤ nL)
    (body : ∀ (p : Program) (e : Env) (s : State) (m : MethodId) (below : List Frame) (meth : Method) (c : Code) (H : Heap) (A : Nat → Prop) (Q : State → Prop) (ls : Array Slot), CallFix p m c cc nL s av.toArray lw_all y.cls → ti_E D E s → va_P D vwCl ws H → va_D A ws → va_S A s.heap H [] → (∀ q, s.heap.size ≤ q → A q) → ti_Z z0 ws s → (∀ q, A q → z0 ≤ q) → xp s.heap → c.exceptionTable.toList = tableOf hh → lv_has ls nL (lv_args 0 av) →
      (∀ (g : JFrame) (u : σ) (H : Heap) (locs : List Loc) (cells slots : Nat), post u → va_P D vwCl (wf u) H → xq u H → va_S A s.heap H locs → cells ≤ mc → slots ≤ ms →
        ((∀ t : State, t.heap = H → s.WarmedH t.vm → ti_QF D wf val post xq A av.toArray s (.returned (val u)) t) → (∀ q ∈ locs, A q.base) → W p l e (ti_rb k mc ms) s m av.toArray below meth c H locs mc ms (MQ below (ti_QF D wf val post xq A) av.toArray s mc ms A) g) → W p l e (ti_rb k mc ms) s m av.toArray below meth c H locs cells slots Q g) →
      (Q = ty_MQ below (ti_QF D wf val post xq A) (ti_XC D nm adr wy ex px xx s.heap.size A) av.toArray s mc ms A ∧ meth.sig.returnType = ret ∧ meth.locks = false ∧ meth.name = y.name) → W p l e (ti_rb k mc ms) s m av.toArray below meth c H [] 0 0 Q (F0 m 0 ls [])) : ti_MetB l D E y (wsW_ y cc nL ret hh) k mc ms z0 ws av xp wf val post xq nm adr wy ex px xx := by
  intro sz
  refine ty_ofWH (cc := cc) (maxL := nL) (ret := ret) (hh := hh) hy rfl ?_
  intro p e s m args below meth c s₁ B hml hv
  obtain ⟨rfl, hsz, hE, hP, hD0, hZ, hx⟩ := hv
  have hts := atoms_spec (ws := wsW_ y cc nL ret hh) B.pre
  have htab : c.exceptionTable.toList = tableOf hh := vx_table (x := y) B (hts (Cond.codeWith y cc nL ret hh) List.mem_cons_self)
  have hl := lv_entry av (n := nL) hn
  rw [lg_entry_eq]
  generalize (lg_sl av ++ List.replicate (nL - (lg_sl av).length) Slot.unset).toArray = ls at hl ⊢
  subst hsz
  have hD := hD0.self (sz := s.heap.size)
  have hAz := hZ.ofA
  generalize hAe : va_A ws s.heap.size = A at hD hAz ⊢
  have hA : ∀ q : Nat, s.heap.size ≤ q → A q := fun q h => by rw [← hAe]; exact Or.inr h
  refine body p e s m below meth c s.heap A _ ls ⟨B.exec, B.bytes, hml, findClass_of_methodNamed B.named, fun w h => hts w (List.mem_cons_of_mem _ h)⟩ hE hP hD va_S.rf hA hZ hAz hx htab hl ?_ ⟨rfl, B.returns, B.notSynchronized, (name_of_methodNamed B.named B.method).1⟩
  intro g u H locs cells slots hp hP hxq hS h1 h2 kk
  exact W.widen h1 h2 (ty_ret (kk (fun t ht hW => ⟨⟨u, rfl, hp, by rw [ht]; exact hP, by rw [ht]; exact hxq⟩, hS.F ht⟩) hS.2.2))
end TBXE

section TVM
variable {p : Program} {l : Launch} {e : Env} {R : Room} {s : State} {m : MethodId} {args : Array Value} {below : List Frame} {meth : Method} {c : Code} {H : Heap} {locs : List Loc} {cells slots : Nat} {Q : State → Prop}
variable {cc : ByteArray} {pc nL z0 : Nat} {ls : Array Slot} {rest : List Value} {D : va_G} {E : Nat → ClassId} {ws wz : va_W} {a : Nat} {A : Nat → Prop} {own : String}
theorem ti_hat {L : List Cond} (hts : ∀ w ∈ lw_all, w.before args s = true) (hE : ti_E D E s) (h : ∀ w ∈ L, w ∈ lw_all ∨ (w ∈ lw_tbl ∧ ti_kind w = true ∧ w.onTables = true)) : ∀ w ∈ L, w.before args s = true := by
  intro w hw
  rcases h w hw with h1 | ⟨h1, h2, h3⟩
  · exact hts w h1
  · exact hE.use h1 h2 h3
theorem ti_vmr {cls text : String} {names : List String} {nb : Nat} (S : CallFix p m c cc nL s args lw_all own) (hE : ti_E D E s) (htr : l.stackTraces = false) (hcls : Bundle.fit cls = true) (hnames : ∀ n ∈ names, Bundle.fit n = true) (hsoe : (cls == "java/lang/StackOverflowError") = false) (hoom : (cls == "java/lang/OutOfMemoryError") = false)
    (hat : ∀ w ∈ vx_atM cls names, w ∈ lw_all ∨ (w ∈ lw_tbl ∧ ti_kind w = true ∧ w.onTables = true)) (hgood : ∀ w ∈ vx_atM cls names, vx_ot w = true) (hZ : ti_Z z0 wz s) (hAz : ∀ q, A q → z0 ≤ q) (hS : va_S A s.heap H locs) (hsz : ls.size = nL)
    (htext : (text == notModelled) = false) (hnb : (stringBytes (stringToUtf16 text)).size ≤ nb) (hnb1 : nb ≤ 1000) (hRf : names.length + 4 < R.frames) (hRl : (rest.map fun v => v.category).sum + 10240 ≤ R.locals) (hshort : 13 * names.length + 55 ≤ 10240) (hRc : cells + 3 ≤ R.cells) (hRs : slots + (nb + 10) ≤ R.slots) (hlk : meth.locks = false)
    (k : ∀ (H1 : Heap) (q9 : Addr) (ce : Cell), (∀ q : Nat, q < H.size → H1[q]? = H[q]?) → va_S A s.heap H1 locs → H1[q9]? = some ce → ce.vm = .none → s.vm.findClass cls = some ce.cls → vx_W p l e R s m args below meth c H1 locs (cells + 3) (slots + (nb + 10)) Q (F0 m pc ls rest) q9) :
    vx_Note p l e R s m args below meth c H locs cells slots Q (F0 m pc ls rest) cls text :=
  vx_vm S.1 htr hcls hnames hsoe hoom (ti_hat S.2.2.2.2 hE hat) hgood (hZ.1.narrow hAz) (hZ.2.1.narrow hAz) hS (hsz.trans S.2.2.1.symm) htext hnb hnb1 hRf hRl hshort hRc hRs hlk (fun H1 q9 ce _ h2 h3 h4 h5 h6 => k H1 q9 ce h2 h3 h4 h5 h6)
theorem ti_npr (S : CallFix p m c cc nL s args lw_all own) (hE : ti_E D E s) (htr : l.stackTraces = false) (hZ : ti_Z z0 wz s) (hAz : ∀ q, A q → z0 ≤ q) (hS : va_S A s.heap H locs) (hsz : ls.size = nL)
    (hRf : 7 < R.frames) (hRl : (rest.map fun v => v.category).sum + 10240 ≤ R.locals) (hRc : cells + 1 ≤ R.cells) (hRs : slots + 8 ≤ R.slots) (hlk : meth.locks = false)
    (k : ∀ (H1 : Heap) (q9 : Addr) (ce : Cell), (∀ q : Nat, q < H.size → H1[q]? = H[q]?) → va_S A s.heap H1 locs → H1[q9]? = some ce → ce.vm = .none → s.vm.findClass "java/lang/NullPointerException" = some ce.cls → vx_W p l e R s m args below meth c H1 locs (cells + 1) (slots + 8) Q (F0 m pc ls rest) q9) :
    vx_NoteN p l e R s m args below meth c H locs cells slots Q (F0 m pc ls rest) :=
  vx_npe S.1 htr (nb := 8) (ti_hat S.2.2.2.2 hE (by decide +kernel)) (by decide +kernel) (hZ.1.narrow hAz) (hZ.2.1.narrow hAz) hS (hsz.trans S.2.2.1.symm) hRf hRl hRc hRs hlk (fun H1 q9 ce _ h2 h3 h4 h5 h6 => k H1 q9 ce h2 h3 h4 h5 h6)
theorem ti_aiob {tx : String} (S : CallFix p m c cc nL s args lw_all own) (hE : ti_E D E s) (htr : l.stackTraces = false) (hZ : ti_Z z0 wz s) (hAz : ∀ q, A q → z0 ≤ q) (hS : va_S A s.heap H locs) (hsz : ls.size = nL) {i : Int32} {n : Nat} (hn : n < 2 ^ 31) (htx : tx = (toString "Index " ++ toString i ++ toString " out of bounds for length " ++ toString n : String))
    (hRf : 7 < R.frames) (hRl : (rest.map fun v => v.category).sum + 10240 ≤ R.locals) (hRc : cells + 3 ≤ R.cells) (hRs : slots + 222 ≤ R.slots) (hlk : meth.locks = false)
    (k : ∀ (H1 : Heap) (q9 : Addr) (ce : Cell), (∀ q : Nat, q < H.size → H1[q]? = H[q]?) → va_S A s.heap H1 locs → H1[q9]? = some ce → ce.vm = .none → s.vm.findClass "java/lang/ArrayIndexOutOfBoundsException" = some ce.cls → vx_W p l e R s m args below meth c H1 locs (cells + 3) (slots + 222) Q (F0 m pc ls rest) q9) :
    vx_Note p l e R s m args below meth c H locs cells slots Q (F0 m pc ls rest) "java/lang/ArrayIndexOutOfBoundsException" tx := by
  subst htx
  exact ti_vmr (names := ["java/lang/IndexOutOfBoundsException", "java/lang/RuntimeException", "java/lang/Exception"]) (nb := 212) S hE htr (by decide +kernel) (by decide +kernel) (by decide) (by decide) (by decide +kernel) (by decide +kernel) hZ hAz hS hsz (index_text_modelled i n) (index_text_bytes i hn) (by decide) hRf hRl (by decide) hRc hRs hlk k
end TVM
