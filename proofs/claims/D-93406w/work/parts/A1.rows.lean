/-! rows for the law: a callee's world is a prefix of the world -/
set_option maxRecDepth 100000
theorem ti_rg_nd : ∀ (k n : Nat), va_nd (List.range' k n) = true
  | _, 0 => rfl
  | k, n + 1 => by
    rw [List.range'_succ, va_nd, Bool.and_eq_true]
    exact ⟨decide_eq_true (fun z => by obtain ⟨i, h1, h2⟩ := List.mem_range'.mp z; omega), ti_rg_nd (k + 1) n⟩
theorem ti_rg_map {wc tl : va_W} : (List.range' 0 wc.length).map (fun i => (wc ++ tl)[i]?) = wc.map some := by
  apply List.ext_getElem?
  intro k
  by_cases hk : k < wc.length
  · rw [List.getElem?_map, List.getElem?_map, List.getElem?_range' hk]
    show some ((wc ++ tl)[0 + 1 * k]?) = _
    rw [Nat.zero_add, Nat.one_mul, List.getElem?_append_left hk, List.getElem?_eq_getElem hk]
    rfl
  · rw [List.getElem?_eq_none (by rw [List.length_map, List.length_range']; omega), List.getElem?_eq_none (by rw [List.length_map]; omega)]
theorem ti_rg_sets {wc tl w1 : va_W} (h : w1.length = wc.length) : ti_sets (wc ++ tl) (List.range' 0 wc.length) w1 = w1 ++ tl := by
  apply List.ext_getElem?
  intro k
  by_cases hk : k < wc.length
  · have h1 : w1[k]? = some (w1[k]'(by omega)) := List.getElem?_eq_getElem _
    rw [ti_sets_in (List.range' 0 wc.length) (wc ++ tl) w1 k k _ (ti_rg_nd _ _) (by rw [List.getElem?_range' hk, Nat.zero_add, Nat.one_mul]) h1 (by rw [List.length_append]; omega), List.getElem?_append_left (by omega), h1]
  · rw [ti_sets_out _ _ _ _ (fun z => by obtain ⟨i, h1, h2⟩ := List.mem_range'.mp z; omega), List.getElem?_append_right (by omega), List.getElem?_append_right (by omega), h]
section TLR
variable {σ : Type} {p : Program} {l : Launch} {e : Env} {R : Room} {s : State} {m : MethodId} {args : Array Value} {below : List Frame} {meth : Method} {c : Code} {H H0 : Heap} {locs : List Loc} {cells slots : Nat} {Q : State → Prop}
variable {D : va_G} {E : Nat → ClassId} {y : MethodName} {bytes cc : ByteArray} {maxL nL k mc ms n index : Nat} {ret : Option FieldType} {wc tl : va_W} {As rest : List Value} {b pc : Nat} {ls : Array Slot} {st0 : List Value} {own C : String} {A : Nat → Prop} {wf : σ → va_W} {val : σ → Option Value} {post : σ → Prop}
theorem ti_mVp (S : CallFix p m c cc nL s args lw_all own) (hE : ti_E D E s) (hP : va_P D vwCl (wc ++ tl) H) (hD : va_D A (wc ++ tl)) (hS : va_S A H0 H locs) (hA : ∀ q, H0.size ≤ q → A q) (hM : ti_MetM l D E y bytes maxL ret k mc ms wc (.ref b :: As) wf val post) (hwf : ∀ u, (wf u).map (·.1) = wc.map (·.1))
    (hg : GoodIn lw_all (wsV own index C y (ws_ y bytes maxL ret))) (na : Nat) (hna : As.length = na) (q0 : Nat) {ci : Nat} {fs : List Value} (hb : (wc ++ tl)[q0]? = some (b, .inr (ci, fs))) {T : u_T} {N : Nat} (hc : vwCl[ci]? = some (C, T, N))
    (hd : y.cls = C ∧ y.cls ≠ "java/lang/invoke/MethodHandle" ∧ y.cls ≠ "java/lang/invoke/VarHandle" ∧ (parseMethodDescriptor y.desc).map (fun d => d.parameters.length) = some na) (hR : k + 1 ≤ R.frames ∧ 8 + (maxL + 11) + 64 * k ≤ R.locals)
    (hsz : ls.size = nL) (hst : st0 = As.reverse ++ .ref b :: rest) (hW : (rest.map fun v => v.category).sum ≤ 8) (hcs : cells + mc ≤ R.cells ∧ slots + ms ≤ R.slots) (hdg : decode cc pc = .ok (.invokevirtual index, 3))
    (kk : ∀ (u : σ) (H : Heap) (locs : List Loc), post u → va_P D vwCl (wf u ++ tl) H → va_D A (wf u ++ tl) → va_S A H0 H locs → W p l e R s m args below meth c H locs (cells + mc) (slots + ms) Q (F0 m (pc + 3) ls ((val u).toList ++ rest))) : W p l e R s m args below meth c H locs cells slots Q (F0 m pc ls st0) := by
  refine ti_mV S hE hP hD hS hA (List.range' 0 wc.length) (ti_rg_nd _ _) hM ti_rg_map hwf hg na hna q0 hb hc hd hR hsz hst hW hcs hdg ?_
  intro u H1 locs1 hp hP1 hD1 hS1
  have hlen : (wf u).length = wc.length := by
    have := congrArg List.length (hwf u)
    rw [List.length_map, List.length_map] at this
    exact this
  rw [ti_rg_sets hlen] at hP1 hD1
  exact kk u H1 locs1 hp hP1 hD1 hS1
end TLR
