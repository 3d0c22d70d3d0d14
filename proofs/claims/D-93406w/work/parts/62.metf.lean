/-! contracts with statics and monitors: ti_MetF -/
set_option maxRecDepth 100000
/-- what is said not to be castable -/
def ti_ncs : List (String × String) := [("TermIdeals$Empty", "TermIdeals$Barred"), ("java/lang/NullPointerException", "java/lang/ArrayIndexOutOfBoundsException"), ("java/lang/ArrayStoreException", "java/lang/NullPointerException"), ("java/lang/ArrayIndexOutOfBoundsException", "java/lang/NullPointerException"), ("java/lang/ArrayIndexOutOfBoundsException", "java/lang/ArrayStoreException"), ("[B", "[S"), ("[B", "[I"), ("[B", "[J"), ("[B", "[Z"), ("[S", "[B"), ("[S", "[I"), ("[S", "[J"), ("[S", "[Z"), ("[I", "[B"), ("[I", "[S"), ("[I", "[J"), ("[I", "[Z"), ("[J", "[B"), ("[J", "[S"), ("[J", "[I"), ("[J", "[Z"), ("[Z", "[B"), ("[Z", "[S"), ("[Z", "[I"), ("[Z", "[J")]
def ti_NC (U : State) : Prop := ∀ C T : String, (C, T) ∈ ti_ncs → va_Nc C T U
/-- Throwable's statics lie below z0, the world at z0 or above -/
def ti_Z (z0 : Nat) (ws : va_W) (U : State) : Prop := vx_Zq Bundle.tN "UNASSIGNED_STACK" Bundle.steD (fun q => z0 ≤ q) U U.heap ∧ vx_Zq Bundle.tN "SUPPRESSED_SENTINEL" Bundle.listD (fun q => z0 ≤ q) U U.heap ∧ (∀ (k : Nat) (q : Nat × va_E), ws[k]? = some q → z0 ≤ q.1) ∧ z0 ≤ U.heap.size ∧ ti_NC U
theorem ti_Z.ofA {z0 : Nat} {ws : va_W} {U : State} (h : ti_Z z0 ws U) : ∀ q, va_A ws U.heap.size q → z0 ≤ q := by
  intro q hq
  rcases hq with ⟨k, e, hk⟩ | hq
  · exact h.2.2.1 k (q, e) hk
  · exact Nat.le_trans h.2.2.2.1 hq
theorem ti_Zq_calling {C n d : String} {A : Nat → Prop} {U : State} {H : Heap} (h : vx_Zq C n d A U H) {V : State} (hv : V.vm = U.vm) : vx_Zq C n d A V H := h.moved (by rw [hv]; exact Vm.Alike.refl _)
theorem ti_Z.to {z0 : Nat} {ws : va_W} {U V : State} (h : ti_Z z0 ws U) (hv : U.vm.Alike V.vm) (hh : V.heap = U.heap) : ti_Z z0 ws V := ⟨by rw [hh]; exact h.1.moved hv, by rw [hh]; exact h.2.1.moved hv, h.2.2.1, by rw [hh]; exact h.2.2.2.1, fun C T hm => (h.2.2.2.2 C T hm).moved hv⟩
/-- at a point inside a method: what the statics are to a callee with the world wc -/
theorem ti_Z.inner {z0 : Nat} {ws wc : va_W} {s U : State} {A : Nat → Prop} {H0 H : Heap} {locs : List Loc} (h : ti_Z z0 ws s) (hs : s.heap = H0) (hAz : ∀ q, A q → z0 ≤ q) (hS : va_S A H0 H locs) (hv : s.vm.Alike U.vm) (hh : U.heap = H) (hw : ∀ (k : Nat) (q : Nat × va_E), wc[k]? = some q → A q.1) : ti_Z z0 wc U := by
  subst hh
  have hk : ∀ a : Nat, a < s.heap.size → ¬ z0 ≤ a → U.heap[a]? = s.heap[a]? := fun a h1 h2 => by rw [hs]; exact hS.2.1 a (by rw [← hs]; exact h1) (fun z => h2 (hAz a z))
  exact ⟨(h.1.moved hv).kept hk, (h.2.1.moved hv).kept hk, fun k q hq => hAz _ (hw k q hq), Nat.le_trans h.2.2.2.1 (by rw [hs]; exact hS.1), fun C T hm => (h.2.2.2.2 C T hm).moved hv⟩
def ti_QF {σ : Type} (D : va_G) (wf : σ → va_W) (val : σ → Option Value) (post : σ → Prop) (xq : σ → Heap → Prop) (A : Nat → Prop) : Array Value → State → Outcome → State → Prop := fun _ st oc t => (∃ u : σ, oc = .returned (val u) ∧ post u ∧ va_P D vwCl (wf u) t.heap ∧ xq u t.heap) ∧ va_F A st t
def ti_MetF {σ : Type} (l : Launch) (D : va_G) (E : Nat → ClassId) (y : MethodName) (cc : ByteArray) (nL : Nat) (ret : Option FieldType) (k mc ms z0 : Nat) (ws : va_W) (av : List Value) (xp : Heap → Prop) (wf : σ → va_W) (val : σ → Option Value) (post : σ → Prop) (xq : σ → Heap → Prop) : Prop :=
  ∀ sz : Nat, Met l y (ws_ y cc nL ret) (ti_rm k mc ms) (va_Pc av (fun U => U.heap.size = sz ∧ ti_E D E U ∧ va_P D vwCl ws U.heap ∧ va_D (fun _ => True) ws ∧ ti_Z z0 ws U ∧ xp U.heap)) (ti_QF D wf val post xq (va_A ws sz)) mc ms (va_A ws sz)
section TFA
variable {σ : Type} {l : Launch} {D : va_G} {E : Nat → ClassId} {y : MethodName} {cc : ByteArray} {nL k mc ms z0 : Nat} {ret : Option FieldType} {ws : va_W} {av : List Value} {wf : σ → va_W} {val : σ → Option Value} {post : σ → Prop} {xp : Heap → Prop} {xq : σ → Heap → Prop}
theorem ti_metF (hy : plainName y.cls = true) (hn : (lg_sl av).length ≤ nL)
    (body : ∀ (p : Program) (e : Env) (s : State) (m : MethodId) (below : List Frame) (meth : Method) (c : Code) (H : Heap) (H0 : Heap) (A : Nat → Prop) (Q : State → Prop) (ls : Array Slot), CallFix p m c cc nL s av.toArray lw_all y.cls → ti_E D E s → va_P D vwCl ws H → va_D A ws → va_S A H0 H [] → (∀ q, H0.size ≤ q → A q) → s.heap = H0 → ti_Z z0 ws s → (∀ q, A q → z0 ≤ q) → xp H0 → meth.name = y.name → lv_has ls nL (lv_args 0 av) →
      (∀ (g : JFrame) (u : σ) (H : Heap) (locs : List Loc) (cells slots : Nat), post u → va_P D vwCl (wf u) H → xq u H → va_S A H0 H locs → cells ≤ mc → slots ≤ ms →
        ((∀ t : State, t.heap = H → s.WarmedH t.vm → ti_QF D wf val post xq A av.toArray s (.returned (val u)) t) → (∀ q ∈ locs, A q.base) → W p l e (ti_rm k mc ms) s m av.toArray below meth c H locs mc ms Q g) → W p l e (ti_rm k mc ms) s m av.toArray below meth c H locs cells slots Q g) →
      (Q = MQ below (ti_QF D wf val post xq A) av.toArray s mc ms A ∧ meth.sig.returnType = ret ∧ meth.locks = false) → W p l e (ti_rm k mc ms) s m av.toArray below meth c H [] 0 0 Q (F0 m 0 ls [])) : ti_MetF l D E y cc nL ret k mc ms z0 ws av xp wf val post xq := by
  intro sz
  refine Met.ofW (cc := cc) (maxL := nL) (ret := ret) hy rfl ?_
  intro p e s m args below meth c s₁ B hml hv
  obtain ⟨rfl, hsz, hE, hP, hD0, hZ, hx⟩ := hv
  have hts := atoms_spec (ws := ws_ y cc nL ret) B.pre
  have hl := lv_entry av (n := nL) hn
  rw [lg_entry_eq]
  generalize (lg_sl av ++ List.replicate (nL - (lg_sl av).length) Slot.unset).toArray = ls at hl ⊢
  subst hsz
  have hD := hD0.self (sz := s.heap.size)
  have hAz := hZ.ofA
  generalize hAe : va_A ws s.heap.size = A at hD hAz ⊢
  have hA : ∀ q : Nat, s.heap.size ≤ q → A q := fun q h => by rw [← hAe]; exact Or.inr h
  refine body p e s m below meth c s.heap s.heap A _ ls ⟨B.exec, B.bytes, hml, findClass_of_methodNamed B.named, fun w h => hts w (List.mem_cons_of_mem _ h)⟩ hE hP hD va_S.rf hA rfl hZ hAz hx (name_of_methodNamed B.named B.method).1 hl ?_ ⟨rfl, B.returns, B.notSynchronized⟩
  intro g u H locs cells slots hp hP hxq hS h1 h2 kk
  exact W.widen h1 h2 (kk (fun t ht hW => ⟨⟨u, rfl, hp, by rw [ht]; exact hP, by rw [ht]; exact hxq⟩, hS.F ht⟩) hS.2.2)
theorem ti_metFV (hy : plainName y.cls = true) (hn : (lg_sl av).length ≤ nL)
    (body : ∀ (p : Program) (e : Env) (s : State) (m : MethodId) (below : List Frame) (meth : Method) (c : Code) (H : Heap) (H0 : Heap) (A : Nat → Prop) (Q : State → Prop) (ls : Array Slot), CallFix p m c cc nL s av.toArray lw_all y.cls → ti_E D E s → va_P D vwCl ws H → va_D A ws → va_S A H0 H [] → (∀ q, H0.size ≤ q → A q) → s.heap = H0 → ti_Z z0 ws s → (∀ q, A q → z0 ≤ q) → xp H0 → meth.name = y.name → lv_has ls nL (lv_args 0 av) →
      (∀ (u : σ) (H : Heap) (locs : List Loc) (cells slots : Nat) (pc : Nat) (ls : Array Slot), decode cc pc = .ok (.return_, 1) → post u → va_P D vwCl (wf u) H → xq u H → va_S A H0 H locs → cells ≤ mc → slots ≤ ms → W p l e (ti_rm k mc ms) s m av.toArray below meth c H locs cells slots Q (F0 m pc ls [])) → W p l e (ti_rm k mc ms) s m av.toArray below meth c H [] 0 0 Q (F0 m 0 ls [])) : ti_MetF l D E y cc nL none k mc ms z0 ws av xp wf (fun _ => none) post xq := by
  refine ti_metF hy hn ?_
  intro p e s m below meth c H H0 A Q ls S hE hP hD hS hA h0 hZ hAz hx hin hl hend hq
  obtain ⟨rfl, hr, hlk⟩ := hq
  refine body p e s m below meth c H H0 A _ ls S hE hP hD hS hA h0 hZ hAz hx hin hl ?_
  intro u H locs cells slots pc ls hd hp hP hxq hS h1 h2
  exact hend _ u H locs cells slots hp hP hxq hS h1 h2 (fun hq hf => W.vret S.1 S.2.1 hr hq hf hd hlk)
end TFA
section TFB
variable {σ : Type} {p : Program} {l : Launch} {e : Env} {R : Room} {s : State} {m : MethodId} {args : Array Value} {below : List Frame} {meth : Method} {c : Code} {H H0 : Heap} {locs : List Loc} {cells slots : Nat} {Q : State → Prop}
variable {D : va_G} {E : Nat → ClassId} {y : MethodName} {bytes cc : ByteArray} {maxL nL k mc ms n index z0 : Nat} {ret : Option FieldType} {wc ws wz : va_W} {As rest : List Value} {b pc : Nat} {ls : Array Slot} {st0 : List Value} {own host C : String} {A : Nat → Prop} {wf : σ → va_W} {val : σ → Option Value} {post : σ → Prop} {xp : Heap → Prop} {xq : σ → Heap → Prop}
/-- a cell that lay there at the start has its monitor still -/
theorem ti_withFree {a : Nat} {g : JFrame} (hf : ti_free a s.heap) (kk : ti_free a H → W p l e R s m args below meth c H locs cells slots Q g) : W p l e R s m args below meth c H locs cells slots Q g := by
  intro T hT X
  obtain ⟨c0, hc0, hm0⟩ := hf
  obtain ⟨c1, hc1, he1, -, -⟩ := X.same.2.2.2.2.2 a c0 hc0
  have hc1' : T.heap[a]? = some c1 := hc1
  exact kk ⟨c1, by rw [← hT]; exact hc1', by rw [he1]; exact hm0⟩ T hT X
theorem ti_free.kept {a : Nat} {H H1 : Heap} (h : ti_free a H) (he : H1[a]? = H[a]?) : ti_free a H1 := by
  obtain ⟨c0, hc0, hm0⟩ := h
  exact ⟨c0, by rw [he]; exact hc0, hm0⟩
theorem ti_callF {a : Array Value} (hr : va_Run p l e R s m args below meth c H locs cells slots mc ms (F0 m pc ls st0) rest (ti_QF D wf val post xq (va_A wc H.size) a) (va_A wc H.size)) (hP : va_P D vwCl ws H) (hD : va_D A ws) (hS : va_S A H0 H locs) (hA : ∀ q, H0.size ≤ q → A q) (isC : List Nat) (hC : isC.map (fun i => ws[i]?) = wc.map some) (hwf : ∀ u, (wf u).map (·.1) = wc.map (·.1))
    (kk : ∀ (u : σ) (H1 : Heap) (locs : List Loc), post u → xq u H1 → (∀ q : Nat, q < H.size → ¬ va_A wc H.size q → H1[q]? = H[q]?) → va_P D vwCl (ti_sets ws isC (wf u)) H1 → va_D A (ti_sets ws isC (wf u)) → va_S A H0 H1 locs → W p l e R s m args below meth c H1 locs (cells + mc) (slots + ms) Q (F0 m (pc + 3) ls ((val u).toList ++ rest))) : W p l e R s m args below meth c H locs cells slots Q (F0 m pc ls st0) := by
  intro T hT X
  obtain ⟨v, st₀, t, T', L, h0, X', hL, e1, e2, ⟨⟨u, hv, hp, hb, hxq⟩, hz, hk⟩, st⟩ := hr T hT X
  cases hv
  rw [h0] at hz hk
  have hF := va_free hD hS hA isC hC
  obtain ⟨g1, g2⟩ := ti_back hP hD isC hC (hwf u) hk hb
  obtain ⟨t2, a1, b1⟩ := kk u T'.heap (locs ++ L) hp (by rw [e1]; exact hxq) (fun q h1 h2 => by rw [e1]; exact hk q h1 h2) (by rw [e1]; exact g1) g2
    ⟨Nat.le_trans hS.1 (by rw [e1]; exact hz), fun q h1 h2 => by rw [e1, hk q (Nat.lt_of_lt_of_le h1 hS.1) (fun z => h2 (hF q z))]; exact hS.2.1 q h1 h2, fun q hq => by
      rcases List.mem_append.mp hq with h | h
      · exact hS.2.2 q h
      · exact hF _ (hL q h)⟩ T' rfl X'
  exact ⟨t2, st t2 a1, b1⟩
theorem ti_preF (hE : ti_E D E s) (hP : va_P D vwCl wc H) (hD : va_D A wc) (hS : va_S A H0 H locs) (h0 : s.heap = H0) (hZ : ti_Z z0 wz s) (hAz : ∀ q, A q → z0 ≤ q) (hx : xp H) : PreS s H (va_Pc As (fun U => U.heap.size = H.size ∧ ti_E D E U ∧ va_P D vwCl wc U.heap ∧ va_D (fun _ => True) wc ∧ ti_Z z0 wc U ∧ xp U.heap)) As :=
  ⟨fun a U g mk q => ⟨q.1, q.2.1, q.2.2.1.calling g mk a, q.2.2.2.1, q.2.2.2.2.1, q.2.2.2.2.2.1.to (Vm.Alike.refl _) rfl, q.2.2.2.2.2.2⟩, fun U hU hW => ⟨rfl, by rw [hU], hE.moved hW, by rw [hU]; exact hP, hD.weaken (fun _ _ _ _ => trivial), hZ.inner h0 hAz hS hW.alike hU (fun k q hq => hD.2 k q hq), by rw [hU]; exact hx⟩⟩
theorem ti_fI (S : CallFix p m c cc nL s args lw_all own) (hE : ti_E D E s) (hP : va_P D vwCl ws H) (hD : va_D A ws) (hS : va_S A H0 H locs) (hA : ∀ q, H0.size ≤ q → A q) (h0 : s.heap = H0) (hZ : ti_Z z0 wz s) (hAz : ∀ q, A q → z0 ≤ q) (hx : xp H) (isC : List Nat) (hn : va_nd isC = true) (hM : ti_MetF l D E y bytes maxL none k mc ms z0 wc (.ref b :: As) xp wf val post xq) (hC : isC.map (fun i => ws[i]?) = wc.map some) (hwf : ∀ u, (wf u).map (·.1) = wc.map (·.1))
    (hg : GoodIn lw_all (ws_ y bytes maxL none)) (hini : Cond.initialized y.cls ∈ lw_all) (hlk : Cond.methodLink own index y ∈ lw_all) (hinst : Cond.instanceMethod y ∈ lw_all) (hy1 : y.name = "<init>") (na : Nat) (hna : As.length = na)
    (hd : y.cls ≠ "java/lang/invoke/MethodHandle" ∧ y.cls ≠ "java/lang/invoke/VarHandle" ∧ (parseMethodDescriptor y.desc).map (fun d => d.parameters.length) = some na) (hR : k + 1 ≤ R.frames ∧ 8 + (maxL + 11) + 64 * k ≤ R.locals)
    (hsz : ls.size = nL) (hst : st0 = As.reverse ++ .ref b :: rest) (hW : (rest.map fun v => v.category).sum ≤ 8) (hcs : cells + mc ≤ R.cells ∧ slots + ms ≤ R.slots) (hdg : decode cc pc = .ok (.invokespecial index, 3))
    (kk : ∀ (u : σ) (H1 : Heap) (locs : List Loc), post u → xq u H1 → (∀ q : Nat, q < H.size → ¬ va_A wc H.size q → H1[q]? = H[q]?) → va_P D vwCl (ti_sets ws isC (wf u)) H1 → va_D A (ti_sets ws isC (wf u)) → va_S A H0 H1 locs → W p l e R s m args below meth c H1 locs (cells + mc) (slots + ms) Q (F0 m (pc + 3) ls ((val u).toList ++ rest))) : W p l e R s m args below meth c H locs cells slots Q (F0 m pc ls st0) :=
  ti_callF (va_runI S (hM H.size) (cwI na S.2.2.2.2 hg rfl rfl rfl (S.2.2.2.2 _ hini) (S.2.2.2.2 _ hlk) (S.2.2.2.2 _ hinst) hy1 hd hR) (ti_preF hE (ti_subC hC hP) (hD.sub isC hn hC) hS h0 hZ hAz hx) rfl hna hsz hst (lv_room hW) hdg hcs) hP hD hS hA isC hC hwf kk
/-- 'new': the object's monitor is free, all others are as they were -/
theorem ti_newM {c0 : Code} (hexec : p.tables.exec = Jvm.exec) (hb : c0.code = cc) {T : u_T} {N ci : Nat} {Ts : List Cond} {tys : List (ClassId × FieldType)} (hts : ∀ w ∈ Ts, w.before args s = true) (hin : ∀ w ∈ u_ws C T N, w ∈ Ts) (ty : Nat → FieldType) (hty : ∀ k, k < N → parseFieldDescriptor (T k).2.2.1 = some (ty k)) (hown : s.vm.findClass own = some m.cls) (hcl : (Cond.classLink own index C).before args s = true) (hinst : (Cond.instantiable C N).before args s = true) (hini : (Cond.initialized C).before args s = true)
    (hK : va_K D vwCl tys s) (hP : va_P D vwCl ws H) (hD : va_D A ws) (hS : va_S A H0 H locs) (hA : ∀ q, H0.size ≤ q → A q) (hc : vwCl[ci]? = some (C, T, N)) {fs : List Value} (hfs : ∀ j, j < N → defaultValue (ty j) = vp_V fs j) (hcells : cells + 1 ≤ R.cells) (hslots : slots + N ≤ R.slots) (hdg : decode cc pc = .ok (.new index, 3))
    (kk : ∀ (q : Nat) (H1 : Heap), q = H.size → H1.size = H.size + 1 → ti_free q H1 → (∀ z : Nat, z < H.size → H1[z]? = H[z]?) → va_P D vwCl (ws ++ [(q, .inr (ci, fs))]) H1 → va_D A (ws ++ [(q, .inr (ci, fs))]) → va_S A H0 H1 locs →
      W p l e R s m args below meth c0 H1 locs (cells + 1) (slots + N) Q (F0 m (pc + 3) ls (.ref q :: rest))) : W p l e R s m args below meth c0 H locs cells slots Q (F0 m pc ls rest) := by
  have hKn := hK.1 ci _ hc
  refine W.newcK hexec hb hown hcl hinst hini rfl hdg hcells hslots hKn.2.1 rfl fun H1 kC hkC e1 z1 o1 => ?_
  have hk : ∀ (k : Nat) (x : Nat × va_E), ws[k]? = some x → H1[x.1]? = H[x.1]? := fun k x hx => o1 x.1 ((hP k x hx).lt)
  refine kk H.size H1 rfl z1 ⟨_, e1, rfl⟩ o1 ((hP.kept hk).app (fun k x hx => ?_)) (hD.push hP rfl (hA _ hS.1)) ⟨Nat.le_trans hS.1 (by omega), fun x h1 h2 => (o1 x (Nat.lt_of_lt_of_le h1 hS.1)).trans (hS.2.1 x h1 h2), hS.2.2⟩
  have hz : k < 1 := (List.getElem?_eq_some_iff.mp hx).1
  rw [show k = 0 by omega] at hx
  cases hx
  exact ⟨_, hc, (u_born ty hts hin hKn hkC e1 hty).to hfs⟩
end TFB
