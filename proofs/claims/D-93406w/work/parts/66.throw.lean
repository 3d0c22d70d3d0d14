/-! rows: a nest mate's constructor; throwing out of a method without handlers -/
set_option maxRecDepth 100000
section TXC
variable {σ τ : Type} {p : Program} {l : Launch} {e : Env} {R : Room} {s : State} {m : MethodId} {args : Array Value} {below : List Frame} {meth : Method} {c : Code} {H H0 : Heap} {locs : List Loc} {cells slots : Nat} {Q : State → Prop}
variable {D : va_G} {E : Nat → ClassId} {y : MethodName} {bytes cc : ByteArray} {maxL nL k mc ms n index z0 : Nat} {ret : Option FieldType} {wc ws wz : va_W} {As rest : List Value} {b pc : Nat} {ls : Array Slot} {st0 : List Value} {own host C : String} {A : Nat → Prop} {wf : σ → va_W} {val : σ → Option Value} {post : σ → Prop} {xp : Heap → Prop} {xq : σ → Heap → Prop} {nm : τ → String} {adr : τ → Nat} {wy ex : τ → va_W} {px : τ → Prop} {xx : τ → Heap → Prop}
theorem ti_fIN (S : CallFix p m c cc nL s args lw_all own) (hE : ti_E D E s) (hP : va_P D vwCl ws H) (hD : va_D A ws) (hS : va_S A H0 H locs) (hA : ∀ q, H0.size ≤ q → A q) (h0 : s.heap = H0) (hZ : ti_Z z0 wz s) (hAz : ∀ q, A q → z0 ≤ q) (hx : xp H) (isC : List Nat) (hn : va_nd isC = true) (hM : ti_MetF l D E y bytes maxL none k mc ms z0 wc (.ref b :: As) xp wf val post xq) (hC : isC.map (fun i => ws[i]?) = wc.map some) (hwf : ∀ u, (wf u).map (·.1) = wc.map (·.1))
    (hg : GoodIn lw_all (ws_ y bytes maxL none)) (hini : Cond.initialized y.cls ∈ lw_all) (hlk : Cond.methodLinkNest own index y host ∈ lw_tbl) (hinst : Cond.instanceMethod y ∈ lw_all) (hy1 : y.name = "<init>") (na : Nat) (hna : As.length = na)
    (hd : y.cls ≠ "java/lang/invoke/MethodHandle" ∧ y.cls ≠ "java/lang/invoke/VarHandle" ∧ (parseMethodDescriptor y.desc).map (fun d => d.parameters.length) = some na) (hR : k + 1 ≤ R.frames ∧ 8 + (maxL + 11) + 64 * k ≤ R.locals)
    (hsz : ls.size = nL) (hst : st0 = As.reverse ++ .ref b :: rest) (hW : (rest.map fun v => v.category).sum ≤ 8) (hcs : cells + mc ≤ R.cells ∧ slots + ms ≤ R.slots) (hdg : decode cc pc = .ok (.invokespecial index, 3))
    (kk : ∀ (u : σ) (H1 : Heap) (locs : List Loc), post u → xq u H1 → (∀ q : Nat, q < H.size → ¬ va_A wc H.size q → H1[q]? = H[q]?) → va_P D vwCl (ti_sets ws isC (wf u)) H1 → va_D A (ti_sets ws isC (wf u)) → va_S A H0 H1 locs → W p l e R s m args below meth c H1 locs (cells + mc) (slots + ms) Q (F0 m (pc + 3) ls ((val u).toList ++ rest))) : W p l e R s m args below meth c H locs cells slots Q (F0 m pc ls st0) :=
  ti_callF (va_runIN S (hM H.size) ⟨va_cnB na S.2.2.2.2 hg rfl rfl rfl (hE.nw hlk rfl) (S.2.2.2.2 _ hini) hd hR, hy1, S.2.2.2.2 _ hinst⟩ (ti_preF hE (ti_subC hC hP) (hD.sub isC hn hC) hS h0 hZ hAz hx) rfl hna hsz hst (lv_room hW) hdg hcs) hP hD hS hA isC hC hwf kk
/-- 'athrow' in a method without handlers -/
theorem ti_throwOut (hexec : p.tables.exec = Jvm.exec) (hb : c.code = cc) (hnoex : ∀ x ∈ c.exceptionTable.toList, False) (hlk : meth.locks = false) (hdg : decode cc pc = .ok (.athrow, 1)) {tys : List (ClassId × FieldType)} (hK : va_K D vwCl tys s) (w : τ) {ci N : Nat} {T : u_T} {fs : List Value} (q0 : Nat) (ha : (ex w)[q0]? = some (adr w, .inr (ci, fs))) (hc : vwCl[ci]? = some (nm w, T, N))
    (hp : px w) (hPy : va_P D vwCl (wy w) H) (hPe : va_P D vwCl (ex w) H) (hnew : ∀ (k : Nat) (z : Nat × va_E), (ex w)[k]? = some z → s.heap.size ≤ z.1) (hxx : xx w H) (hS : va_S A s.heap H locs) (h1 : cells ≤ mc) (h2 : slots ≤ ms) {Qc : Array Value → State → Outcome → State → Prop} :
    W p l e R s m args below meth c H locs cells slots (ty_MQ below Qc (ti_XC D nm adr wy ex px xx s.heap.size A) args s mc ms A) (F0 m pc ls (.ref (adr w) :: rest)) := by
  obtain ⟨r, hr, ce, hce, hcls, hvm, -⟩ := hPe q0 _ ha
  have hr9 : r = (nm w, T, N) := Option.some.inj (hr.symm.trans hc)
  subst hr9
  refine vx_athrow hexec hb hdg (ty_out (E := nm w) (fun x hx => absurd (hnoex x hx) id) hlk hce hvm (by rw [hcls]; exact (hK.1 ci _ hc).2.1) (fun t ht hal => ⟨w, rfl, rfl, hp, by rw [ht]; exact hPy, by rw [ht]; exact hPe, hnew, by rw [ht]; exact hxx, hS.F ht⟩) hS.2.2 h1 h2)
end TXC
section TXD
variable {σ : Type} {p : Program} {l : Launch} {e : Env} {R : Room} {s : State} {m : MethodId} {args : Array Value} {below : List Frame} {meth : Method} {c : Code} {H H0 : Heap} {locs : List Loc} {cells slots : Nat} {Q : State → Prop}
variable {D : va_G} {E : Nat → ClassId} {y : MethodName} {bytes cc : ByteArray} {maxL nL k mc ms n index z0 : Nat} {ret : Option FieldType} {wc ws wz : va_W} {As rest : List Value} {b pc : Nat} {ls : Array Slot} {st0 : List Value} {own host C : String} {A : Nat → Prop} {wf : σ → va_W} {val : σ → Option Value} {post : σ → Prop} {xp : Heap → Prop} {xq : σ → Heap → Prop}
theorem ti_runI16 {wl : List Cond} {rm : Room} {Pc : Array Value → State → Prop} {Qc : Array Value → State → Outcome → State → Prop} {free : Addr → Prop} {Ts : List Cond} {g : JFrame} (S : CallFix p m c cc nL s args Ts own) (hM : Met l y wl rm Pc Qc mc ms free) (cw : CallB R s args own index y bytes maxL none wl rm mc ms n ∧ y.name = "<init>" ∧ (Cond.instanceMethod y).before args s = true) (hlo : 16 + (maxL + 11) + rm.locals ≤ R.locals) (hp : PreS s H Pc (.ref b :: As))
    (hg : g.method = m) (hn : As.length = n) (hsize : g.locals.size = nL) (hstack : g.stack = As.reverse ++ .ref b :: rest) (hW : 2 * g.monitorRoom + (rest.map fun v => v.category).sum ≤ 16) (hdg : decode cc g.pc = .ok (.invokespecial index, 3)) (hf : cells + mc ≤ R.cells ∧ slots + ms ≤ R.slots) :
    va_Run p l e R s m args below meth c H locs cells slots mc ms g rest (Qc (Value.ref b :: As).toArray) (free) := by
  have hK : Back l R p e below s args y 3 16 (PreOf R mc ms Pc) (PostOf Qc mc ms free) := by
    obtain ⟨⟨hrc, hrs, hfr, -, hws, hcw, -, hini, -⟩, -, -⟩ := cw
    exact back_of (bytes := bytes) (maxL := maxL) (ret := none) hM hp.1 hrc hrs hfr hlo hws hcw (fun a' U hW => word_at hW (Or.inl (by first | rfl | simp [Cond.onTables, Cond.keeps, Cond.steady])) hini)
  obtain ⟨⟨-, -, -, -, -, -, hcode, -, hy, hlen, hl⟩, hy1, hin⟩ := cw
  obtain ⟨hx, hb, hml, ho, -⟩ := S
  intro T hT X
  obtain ⟨v, vm₁, ⟨U', l2, c2, s2⟩, hW₁, X', ⟨g', mk, t, L, e1, e2, hq, h1, hL, h2, h3⟩, st⟩ := callI X hx (bytes := bytes) (maxL := maxL) ho hy1 hl hin hcode hy hK hg (hsize.trans hml.symm) (a := b) (argsL := As) (rest := rest) (fun sig h => hn.trans (hlen sig h)) hstack hW (by rw [hb]; exact hdg)
    (fun vm₁ hW₁ => ⟨hf.1, hf.2, hp.2 (T.setVm vm₁) hT hW₁⟩)
  dsimp only [Pt.U, Pt.locs, Pt.cells, Pt.slots] at X' e1 e2 h1 h2 h3 st
  subst h1; subst h2; subst h3
  exact ⟨v, (T.setVm vm₁).calling g' mk (Value.ref b :: As).toArray, t, U', L, hT, X', hL, e1, e2, hq, st⟩
theorem ti_fI16 (S : CallFix p m c cc nL s args lw_all own) (hE : ti_E D E s) (hP : va_P D vwCl ws H) (hD : va_D A ws) (hS : va_S A H0 H locs) (hA : ∀ q, H0.size ≤ q → A q) (h0 : s.heap = H0) (hZ : ti_Z z0 wz s) (hAz : ∀ q, A q → z0 ≤ q) (hx : xp H) (isC : List Nat) (hn : va_nd isC = true) (hM : ti_MetF l D E y bytes maxL none k mc ms z0 wc (.ref b :: As) xp wf val post xq) (hC : isC.map (fun i => ws[i]?) = wc.map some) (hwf : ∀ u, (wf u).map (·.1) = wc.map (·.1))
    (hg : GoodIn lw_all (ws_ y bytes maxL none)) (hini : Cond.initialized y.cls ∈ lw_all) (hlk : Cond.methodLink own index y ∈ lw_all) (hinst : Cond.instanceMethod y ∈ lw_all) (hy1 : y.name = "<init>") (na : Nat) (hna : As.length = na)
    (hd : y.cls ≠ "java/lang/invoke/MethodHandle" ∧ y.cls ≠ "java/lang/invoke/VarHandle" ∧ (parseMethodDescriptor y.desc).map (fun d => d.parameters.length) = some na) (hR : k + 1 ≤ R.frames ∧ 16 + (maxL + 11) + 64 * k ≤ R.locals)
    (hsz : ls.size = nL) (hst : st0 = As.reverse ++ .ref b :: rest) (hW : (rest.map fun v => v.category).sum ≤ 16) (hcs : cells + mc ≤ R.cells ∧ slots + ms ≤ R.slots) (hdg : decode cc pc = .ok (.invokespecial index, 3))
    (kk : ∀ (u : σ) (H1 : Heap) (locs : List Loc), post u → xq u H1 → (∀ q : Nat, q < H.size → ¬ va_A wc H.size q → H1[q]? = H[q]?) → va_P D vwCl (ti_sets ws isC (wf u)) H1 → va_D A (ti_sets ws isC (wf u)) → va_S A H0 H1 locs → W p l e R s m args below meth c H1 locs (cells + mc) (slots + ms) Q (F0 m (pc + 3) ls ((val u).toList ++ rest))) : W p l e R s m args below meth c H locs cells slots Q (F0 m pc ls st0) :=
  ti_callF (ti_runI16 S (hM H.size) (cwI na S.2.2.2.2 hg rfl rfl rfl (S.2.2.2.2 _ hini) (S.2.2.2.2 _ hlk) (S.2.2.2.2 _ hinst) hy1 hd ⟨hR.1, by have := hR.2; show 8 + (maxL + 11) + 64 * k ≤ _; omega⟩) hR.2 (ti_preF hE (ti_subC hC hP) (hD.sub isC hn hC) hS h0 hZ hAz hx) rfl hna hsz hst (by show 2 * 0 + _ ≤ 16; omega) hdg hcs) hP hD hS hA isC hC hwf kk
end TXD
