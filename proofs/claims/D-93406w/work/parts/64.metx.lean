/-! contracts of methods that may throw: ti_MetX -/
set_option maxRecDepth 100000
/-- how a method throws: the exception's class and address, its world behind (wy), the cells of the exception (ex, all new), what else -/
def ti_XC {τ : Type} (D : va_G) (nm : τ → String) (adr : τ → Nat) (wy ex : τ → va_W) (px : τ → Prop) (xx : τ → Heap → Prop) (sz : Nat) (A : Nat → Prop) : String → Addr → State → State → Prop := fun E q st t =>
  ∃ w : τ, E = nm w ∧ q = adr w ∧ px w ∧ va_P D vwCl (wy w) t.heap ∧ va_P D vwCl (ex w) t.heap ∧ (∀ (k : Nat) (z : Nat × va_E), (ex w)[k]? = some z → sz ≤ z.1) ∧ xx w t.heap ∧ va_F A st t
def ti_MetX {σ τ : Type} (l : Launch) (D : va_G) (E : Nat → ClassId) (y : MethodName) (hd : List Cond) (k mc ms z0 : Nat) (ws : va_W) (av : List Value) (xp : Heap → Prop) (wf : σ → va_W) (val : σ → Option Value) (post : σ → Prop) (xq : σ → Heap → Prop) (nm : τ → String) (adr : τ → Nat) (wy ex : τ → va_W) (px : τ → Prop) (xx : τ → Heap → Prop) : Prop :=
  ∀ sz : Nat, ty_Met l y hd (ti_rm k mc ms) (va_Pc av (fun U => U.heap.size = sz ∧ ti_E D E U ∧ va_P D vwCl ws U.heap ∧ va_D (fun _ => True) ws ∧ ti_Z z0 ws U ∧ xp U.heap)) (ti_QF D wf val post xq (va_A ws sz)) (ti_XC D nm adr wy ex px xx sz (va_A ws sz)) mc ms (va_A ws sz)
section TXA
variable {σ τ : Type} {l : Launch} {D : va_G} {E : Nat → ClassId} {y : MethodName} {cc : ByteArray} {nL k mc ms z0 : Nat} {ret : Option FieldType} {ws : va_W} {av : List Value} {wf : σ → va_W} {val : σ → Option Value} {post : σ → Prop} {xp : Heap → Prop} {xq : σ → Heap → Prop} {nm : τ → String} {adr : τ → Nat} {wy ex : τ → va_W} {px : τ → Prop} {xx : τ → Heap → Prop}
theorem ti_metX (hy : plainName y.cls = true) (hn : (lg_sl av).length ≤ nL)
    (body : ∀ (p : Program) (e : Env) (s : State) (m : MethodId) (below : List Frame) (meth : Method) (c : Code) (H : Heap) (A : Nat → Prop) (Q : State → Prop) (ls : Array Slot), CallFix p m c cc nL s av.toArray lw_all y.cls → ti_E D E s → va_P D vwCl ws H → va_D A ws → va_S A s.heap H [] → (∀ q, s.heap.size ≤ q → A q) → ti_Z z0 ws s → (∀ q, A q → z0 ≤ q) → xp s.heap → (∀ x ∈ c.exceptionTable.toList, False) → lv_has ls nL (lv_args 0 av) →
      (∀ (g : JFrame) (u : σ) (H : Heap) (locs : List Loc) (cells slots : Nat), post u → va_P D vwCl (wf u) H → xq u H → va_S A s.heap H locs → cells ≤ mc → slots ≤ ms →
        ((∀ t : State, t.heap = H → s.WarmedH t.vm → ti_QF D wf val post xq A av.toArray s (.returned (val u)) t) → (∀ q ∈ locs, A q.base) → W p l e (ti_rm k mc ms) s m av.toArray below meth c H locs mc ms (MQ below (ti_QF D wf val post xq A) av.toArray s mc ms A) g) → W p l e (ti_rm k mc ms) s m av.toArray below meth c H locs cells slots Q g) →
      (Q = ty_MQ below (ti_QF D wf val post xq A) (ti_XC D nm adr wy ex px xx s.heap.size A) av.toArray s mc ms A ∧ meth.sig.returnType = ret ∧ meth.locks = false ∧ meth.name = y.name) → W p l e (ti_rm k mc ms) s m av.toArray below meth c H [] 0 0 Q (F0 m 0 ls [])) : ti_MetX l D E y (ws_ y cc nL ret) k mc ms z0 ws av xp wf val post xq nm adr wy ex px xx := by
  intro sz
  refine ty_ofW (cc := cc) (maxL := nL) (ret := ret) hy rfl ?_
  intro p e s m args below meth c s₁ B hml hnoex hv
  obtain ⟨rfl, hsz, hE, hP, hD0, hZ, hx⟩ := hv
  have hts := atoms_spec (ws := ws_ y cc nL ret) B.pre
  have hl := lv_entry av (n := nL) hn
  rw [lg_entry_eq]
  generalize (lg_sl av ++ List.replicate (nL - (lg_sl av).length) Slot.unset).toArray = ls at hl ⊢
  subst hsz
  have hD := hD0.self (sz := s.heap.size)
  have hAz := hZ.ofA
  generalize hAe : va_A ws s.heap.size = A at hD hAz ⊢
  have hA : ∀ q : Nat, s.heap.size ≤ q → A q := fun q h => by rw [← hAe]; exact Or.inr h
  refine body p e s m below meth c s.heap A _ ls ⟨B.exec, B.bytes, hml, findClass_of_methodNamed B.named, fun w h => hts w (List.mem_cons_of_mem _ h)⟩ hE hP hD va_S.rf hA hZ hAz hx hnoex hl ?_ ⟨rfl, B.returns, B.notSynchronized, (name_of_methodNamed B.named B.method).1⟩
  intro g u H locs cells slots hp hP hxq hS h1 h2 kk
  exact W.widen h1 h2 (ty_ret (kk (fun t ht hW => ⟨⟨u, rfl, hp, by rw [ht]; exact hP, by rw [ht]; exact hxq⟩, hS.F ht⟩) hS.2.2))
end TXA
section TXB
variable {σ τ : Type} {p : Program} {l : Launch} {e : Env} {R : Room} {s : State} {m : MethodId} {args : Array Value} {below : List Frame} {meth : Method} {c : Code} {H : Heap} {locs : List Loc} {cells slots : Nat} {Q : State → Prop}
variable {D : va_G} {E : Nat → ClassId} {y : MethodName} {bytes cc : ByteArray} {maxL nL k mc ms n index z0 : Nat} {ret : Option FieldType} {wc ws wz : va_W} {As rest : List Value} {b pc : Nat} {ls : Array Slot} {st0 : List Value} {own host C : String} {A : Nat → Prop} {wf : σ → va_W} {val : σ → Option Value} {post : σ → Prop} {xp : Heap → Prop} {xq : σ → Heap → Prop} {nm : τ → String} {adr : τ → Nat} {wy ex : τ → va_W} {px : τ → Prop} {xx : τ → Heap → Prop}
theorem ti_callX {a : Array Value} (hr : ty_Run p l e R s m args below meth c H locs cells slots mc ms (F0 m pc ls st0) rest (ti_QF D wf val post xq (va_A wc H.size) a) (ti_XC D nm adr wy ex px xx H.size (va_A wc H.size)) (va_A wc H.size)) (hP : va_P D vwCl ws H) (hD : va_D A ws) (hS : va_S A s.heap H locs) (hA : ∀ q, s.heap.size ≤ q → A q) (isC : List Nat) (hC : isC.map (fun i => ws[i]?) = wc.map some) (hwf : ∀ u, (wf u).map (·.1) = wc.map (·.1)) (hwy : ∀ w, (wy w).map (·.1) = wc.map (·.1))
    (kk : ∀ (u : σ) (H1 : Heap) (locs : List Loc), post u → xq u H1 → (∀ q : Nat, q < H.size → ¬ va_A wc H.size q → H1[q]? = H[q]?) → va_P D vwCl (ti_sets ws isC (wf u)) H1 → va_D A (ti_sets ws isC (wf u)) → va_S A s.heap H1 locs → W p l e R s m args below meth c H1 locs (cells + mc) (slots + ms) Q (F0 m (pc + 3) ls ((val u).toList ++ rest)))
    (kx : ∀ (w : τ) (H1 : Heap) (locs : List Loc) (ce : Cell), px w → xx w H1 → (∀ q : Nat, q < H.size → ¬ va_A wc H.size q → H1[q]? = H[q]?) → va_P D vwCl (ti_sets ws isC (wy w)) H1 → va_D A (ti_sets ws isC (wy w)) → va_P D vwCl (ex w) H1 → (∀ (k : Nat) (z : Nat × va_E), (ex w)[k]? = some z → H.size ≤ z.1) → va_S A s.heap H1 locs → H1[adr w]? = some ce → ce.vm = .none → s.vm.findClass (nm w) = some ce.cls →
      vx_W p l e R s m args below meth c H1 locs (cells + mc) (slots + ms) Q (F0 m pc ls rest) (adr w)) : W p l e R s m args below meth c H locs cells slots Q (F0 m pc ls st0) := by
  intro T hT X
  have hF := va_free hD hS hA isC hC
  rcases hr T hT X with ⟨v, st₀, t, T', L, h0, X', hL, e1, e2, ⟨⟨u, hv, hp, hb, hxq⟩, hz, hk⟩, st⟩ | ⟨q, st₀, t, T', L, E9, ce, h0, X', hL, e1, e2, ⟨w, rfl, rfl, hp, hb, hex, hnew, hxx, hz, hk⟩, hce, hcv, hcl, st⟩
  · cases hv
    rw [h0] at hz hk
    obtain ⟨g1, g2⟩ := ti_back hP hD isC hC (hwf u) hk hb
    obtain ⟨t2, a1, b1⟩ := kk u T'.heap (locs ++ L) hp (by rw [e1]; exact hxq) (fun q h1 h2 => by rw [e1]; exact hk q h1 h2) (by rw [e1]; exact g1) g2
      ⟨Nat.le_trans hS.1 (by rw [e1]; exact hz), fun q h1 h2 => by rw [e1, hk q (Nat.lt_of_lt_of_le h1 hS.1) (fun z => h2 (hF q z))]; exact hS.2.1 q h1 h2, fun q hq => by
        rcases List.mem_append.mp hq with h | h
        · exact hS.2.2 q h
        · exact hF _ (hL q h)⟩ T' rfl X'
    exact ⟨t2, st t2 a1, b1⟩
  · rw [h0] at hz hk
    obtain ⟨g1, g2⟩ := ti_back hP hD isC hC (hwy w) hk hb
    obtain ⟨t2, a1, b1⟩ := kx w T'.heap (locs ++ L) ce hp (by rw [e1]; exact hxx) (fun q h1 h2 => by rw [e1]; exact hk q h1 h2) (by rw [e1]; exact g1) g2 (by rw [e1]; exact hex) hnew
      ⟨Nat.le_trans hS.1 (by rw [e1]; exact hz), fun q h1 h2 => by rw [e1, hk q (Nat.lt_of_lt_of_le h1 hS.1) (fun z => h2 (hF q z))]; exact hS.2.1 q h1 h2, fun q hq => by
        rcases List.mem_append.mp hq with h | h
        · exact hS.2.2 q h
        · exact hF _ (hL q h)⟩ (by rw [e1]; exact hce) hcv hcl T' rfl X'
    exact ⟨t2, st.trans a1, b1⟩
end TXB
