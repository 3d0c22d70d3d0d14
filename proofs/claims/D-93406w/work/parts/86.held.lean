/-! TermIdeals: asks, behind, held, reason (printed by w_held.py) -/
set_option maxRecDepth 100000

section THB
variable {σ : Type} {p : Program} {l : Launch} {e : Env} {R : Room} {s : State} {m : MethodId} {args : Array Value} {below : List Frame} {meth : Method} {c : Code} {H H0 : Heap} {locs : List Loc} {cells slots : Nat} {Q : State → Prop}
variable {D : va_G} {E : Nat → ClassId} {y : MethodName} {bytes cc : ByteArray} {maxL nL k mc ms n index z0 : Nat} {ret : Option FieldType} {wc ws wz : va_W} {As rest : List Value} {b pc : Nat} {ls : Array Slot} {st0 : List Value} {own host C : String} {A : Nat → Prop} {wf : σ → va_W} {val : σ → Option Value} {post : σ → Prop} {xp : Heap → Prop} {xq : σ → Heap → Prop}
theorem ti_fS (S : CallFix p m c cc nL s args lw_all own) (hE : ti_E D E s) (hP : va_P D vwCl ws H) (hD : va_D A ws) (hS : va_S A H0 H locs) (hA : ∀ q, H0.size ≤ q → A q) (h0 : s.heap = H0) (hZ : ti_Z z0 wz s) (hAz : ∀ q, A q → z0 ≤ q) (hx : xp H) (isC : List Nat) (hn : va_nd isC = true) (hM : ti_MetF l D E y bytes maxL ret k mc ms z0 wc As xp wf val post xq) (hC : isC.map (fun i => ws[i]?) = wc.map some) (hwf : ∀ u, (wf u).map (·.1) = wc.map (·.1))
    (hg : GoodIn lw_all (va_wsS own index y (ws_ y bytes maxL ret))) (na : Nat) (hna : As.length = na)
    (hd : y.cls ≠ "java/lang/invoke/MethodHandle" ∧ y.cls ≠ "java/lang/invoke/VarHandle" ∧ (parseMethodDescriptor y.desc).map (fun d => d.parameters.length) = some na) (hR : k + 1 ≤ R.frames ∧ 8 + (maxL + 11) + 64 * k ≤ R.locals)
    (hsz : ls.size = nL) (hst : st0 = As.reverse ++ rest) (hW : (rest.map fun v => v.category).sum ≤ 8) (hcs : cells + mc ≤ R.cells ∧ slots + ms ≤ R.slots) (hdg : decode cc pc = .ok (.invokestatic index, 3))
    (kk : ∀ (u : σ) (H1 : Heap) (locs : List Loc), post u → xq u H1 → (∀ q : Nat, q < H.size → ¬ va_A wc H.size q → H1[q]? = H[q]?) → va_P D vwCl (ti_sets ws isC (wf u)) H1 → va_D A (ti_sets ws isC (wf u)) → va_S A H0 H1 locs → W p l e R s m args below meth c H1 locs (cells + mc) (slots + ms) Q (F0 m (pc + 3) ls ((val u).toList ++ rest))) : W p l e R s m args below meth c H locs cells slots Q (F0 m pc ls st0) :=
  ti_callF (va_runS S (hM H.size) (va_cwS na S.2.2.2.2 hg rfl rfl rfl hd hR) (ti_preF hE (ti_subC hC hP) (hD.sub isC hn hC) hS h0 hZ hAz hx) rfl hna hsz hst (lv_room hW) hdg hcs) hP hD hS hA isC hC hwf kk
theorem ti_pVs {v : Value} (S : CallFix p m c cc nL s args lw_all own) (hE : ti_E D E s) (hP : va_P D vwCl ws H) (isC : List Nat) (hM : ti_MetP l D E y bytes maxL ret k wc (.ref b :: As) (some v)) (hs : isC.filterMap (fun i => ws[i]?) = wc)
    (hg : GoodIn lw_all (ws_ y bytes maxL ret)) (hini : Cond.initialized y.cls ∈ lw_all) (hlk : Cond.methodLink own index y ∈ lw_all) (hinst : Cond.instanceMethod y ∈ lw_all) (hsel : Cond.selects C y y ∈ lw_all) (na : Nat) (hna : As.length = na) (q0 : Nat) {ci : Nat} {fs : List Value} (hb : ws[q0]? = some (b, .inr (ci, fs))) {T : u_T} {N : Nat} (hc : vwCl[ci]? = some (C, T, N))
    (hd : y.cls ≠ "java/lang/invoke/MethodHandle" ∧ y.cls ≠ "java/lang/invoke/VarHandle" ∧ (parseMethodDescriptor y.desc).map (fun d => d.parameters.length) = some na) (hR : k + 1 ≤ R.frames ∧ 8 + (maxL + 11) + 64 * k ≤ R.locals)
    (hsz : ls.size = nL) (hst : st0 = As.reverse ++ .ref b :: rest) (hW : (rest.map fun v => v.category).sum ≤ 8) (hcs : cells ≤ R.cells ∧ slots ≤ R.slots) (hdg : decode cc pc = .ok (.invokevirtual index, 3))
    (kk : W p l e R s m args below meth c H locs cells slots Q (F0 m (pc + 3) ls (v :: rest))) : W p l e R s m args below meth c H locs cells slots Q (F0 m pc ls st0) := by
  have hr := va_recv hE.1 hP (ci := ci) (q0 := q0) (q := (C, T, N)) hc hb
  have hts := S.2.2.2.2
  refine ti_callR (va_runV S hM (⟨callB_of na hts hg rfl rfl rfl (hts _ hini) (hts _ hlk) hd hR, hts _ hinst, hts _ hsel⟩ : CallW R s args own C index y bytes maxL ret (ws_ y bytes maxL ret) _ _ _ na) ⟨(ti_preS (Pc := []) hE (hP.sub isC hs)).1, hr, (ti_preS (Pc := []) hE (hP.sub isC hs)).2⟩ rfl hna hsz hst (lv_room hW) hdg hcs) kk
theorem ti_recvX {cl : List vw_C} {tys : List (ClassId × FieldType)} (hK : va_K D cl tys s) (hP : va_P D cl ws H) (q0 : Nat) {a ci N : Nat} {fs : List Value} {T : u_T} (ha : ws[q0]? = some (a, .inr (ci, fs))) (hc : cl[ci]? = some (C, T, N)) : ∃ cell : Cell, H[a]? = some cell ∧ cell.vm.isStatics = false ∧ s.vm.findClass C = some cell.cls := by
  obtain ⟨r, hr, ce, hce, hcls, hvm, -⟩ := hP q0 _ ha
  have hr9 : r = (C, T, N) := Option.some.inj (hr.symm.trans hc)
  subst hr9
  exact ⟨ce, hce, by rw [hvm]; rfl, by rw [hcls]; exact (hK.1 ci _ hc).2.1⟩
theorem ti_appD {ex : va_W} (hP : va_P D vwCl ws H) (hD : va_D A ws) (he : va_D A ex) (hn : ∀ (k : Nat) (z : Nat × va_E), ws[k]? = some z → ∀ (j : Nat) (y : Nat × va_E), ex[j]? = some y → z.1 < y.1) : va_D A (ws ++ ex) := by
  refine ⟨fun i j x y hi hj e9 => ?_, fun k q hq => ?_⟩
  · by_cases h1 : i < ws.length
    · by_cases h2 : j < ws.length
      · rw [List.getElem?_append_left h1] at hi
        rw [List.getElem?_append_left h2] at hj
        exact hD.1 i j x y hi hj e9
      · rw [List.getElem?_append_left h1] at hi
        rw [List.getElem?_append_right (by omega)] at hj
        have := hn i x hi _ y hj
        omega
    · by_cases h2 : j < ws.length
      · rw [List.getElem?_append_right (by omega)] at hi
        rw [List.getElem?_append_left h2] at hj
        have := hn j y hj _ x hi
        omega
      · rw [List.getElem?_append_right (by omega)] at hi
        rw [List.getElem?_append_right (by omega)] at hj
        have := he.1 _ _ x y hi hj e9
        omega
  · by_cases h1 : k < ws.length
    · rw [List.getElem?_append_left h1] at hq
      exact hD.2 k q hq
    · rw [List.getElem?_append_right (by omega)] at hq
      exact he.2 _ q hq
end THB
def ti_c5 (c0 c1 c2 c3 c4 : Int32) : Nat → Int32
  | 0 => c0
  | 1 => c1
  | 2 => c2
  | 3 => c3
  | _ => c4
abbrev ti_w5 (q0 q1 q2 q3 q4 : Nat) (v0 v1 v2 v3 v4 : Value × Value) (c0 c1 c2 c3 c4 : Int32) : va_W := [(q0, .inr (14, [.ref q1, v0.1, v0.2, .null, .null, .int 0, .int c0])), (q1, .inr (13, [.ref q2, v1.1, v1.2, .null, .null, .int 0, .int c1])), (q2, .inr (12, [.ref q3, v2.1, v2.2, .null, .null, .int 0, .int c2])), (q3, .inr (12, [.ref q4, v3.1, v3.2, .null, .null, .int 0, .int c3])), (q4, .inr (12, [.ref q4, v4.1, v4.2, .null, .null, .int 0, .int c4]))]
theorem ti_w5D {A : Nat → Prop} {q0 q1 q2 q3 q4 : Nat} {v0 v1 v2 v3 v4 : Value × Value} {c0 c1 c2 c3 c4 : Int32} (h1 : q1 < q2) (h2 : q2 < q3) (h3 : q3 < q4) (h0 : q4 < q0) (hA : A q0 ∧ A q1 ∧ A q2 ∧ A q3 ∧ A q4) : va_D A (ti_w5 q0 q1 q2 q3 q4 v0 v1 v2 v3 v4 c0 c1 c2 c3 c4) := by
  refine ⟨fun i j x y hi hj e9 => ?_, fun k q hq => ?_⟩
  · have hi5 : i < 5 := (List.getElem?_eq_some_iff.mp hi).1
    have hj5 : j < 5 := (List.getElem?_eq_some_iff.mp hj).1
    match i, hi5, j, hj5 with
    | 0, _, 0, _ => rfl
    | 0, _, 1, _ => cases hi; cases hj; exact absurd (show q0 = q1 from e9) (by omega)
    | 0, _, 2, _ => cases hi; cases hj; exact absurd (show q0 = q2 from e9) (by omega)
    | 0, _, 3, _ => cases hi; cases hj; exact absurd (show q0 = q3 from e9) (by omega)
    | 0, _, 4, _ => cases hi; cases hj; exact absurd (show q0 = q4 from e9) (by omega)
    | 1, _, 0, _ => cases hi; cases hj; exact absurd (show q1 = q0 from e9) (by omega)
    | 1, _, 1, _ => rfl
    | 1, _, 2, _ => cases hi; cases hj; exact absurd (show q1 = q2 from e9) (by omega)
    | 1, _, 3, _ => cases hi; cases hj; exact absurd (show q1 = q3 from e9) (by omega)
    | 1, _, 4, _ => cases hi; cases hj; exact absurd (show q1 = q4 from e9) (by omega)
    | 2, _, 0, _ => cases hi; cases hj; exact absurd (show q2 = q0 from e9) (by omega)
    | 2, _, 1, _ => cases hi; cases hj; exact absurd (show q2 = q1 from e9) (by omega)
    | 2, _, 2, _ => rfl
    | 2, _, 3, _ => cases hi; cases hj; exact absurd (show q2 = q3 from e9) (by omega)
    | 2, _, 4, _ => cases hi; cases hj; exact absurd (show q2 = q4 from e9) (by omega)
    | 3, _, 0, _ => cases hi; cases hj; exact absurd (show q3 = q0 from e9) (by omega)
    | 3, _, 1, _ => cases hi; cases hj; exact absurd (show q3 = q1 from e9) (by omega)
    | 3, _, 2, _ => cases hi; cases hj; exact absurd (show q3 = q2 from e9) (by omega)
    | 3, _, 3, _ => rfl
    | 3, _, 4, _ => cases hi; cases hj; exact absurd (show q3 = q4 from e9) (by omega)
    | 4, _, 0, _ => cases hi; cases hj; exact absurd (show q4 = q0 from e9) (by omega)
    | 4, _, 1, _ => cases hi; cases hj; exact absurd (show q4 = q1 from e9) (by omega)
    | 4, _, 2, _ => cases hi; cases hj; exact absurd (show q4 = q2 from e9) (by omega)
    | 4, _, 3, _ => cases hi; cases hj; exact absurd (show q4 = q3 from e9) (by omega)
    | 4, _, 4, _ => rfl
  · have hk5 : k < 5 := (List.getElem?_eq_some_iff.mp hq).1
    match k, hk5 with
    | 0, _ => cases hq; exact hA.1
    | 1, _ => cases hq; exact hA.2.1
    | 2, _ => cases hq; exact hA.2.2.1
    | 3, _ => cases hq; exact hA.2.2.2.1
    | 4, _ => cases hq; exact hA.2.2.2.2

set_option maxHeartbeats 1000000 in
theorem met_X12_code_12 (l : Launch) (D : va_G) (E : Nat → ClassId) (a : Nat) (x : Int32) (v0 v1 v2 v3 v4 v5 : Value) : ti_MetP l D E yX12_code cX12_code 1 (some .int) 0 ([(a, .inr (12, [v0, v1, v2, v3, v4, v5, .int x]))]) [.ref a] (some (.int x)) := by
  refine ti_pureI (by decide) (Nat.le_of_ble_eq_true rfl) ?_
  intro p e s m below meth c H locs Q ls S hE hP hl hret
  have hx := S.1
  have hb := S.2.1
  have hown := S.2.2.2.1
  have hts := S.2.2.2.2
  have hK := hE.1
  have hl : lv_has ls 1 [(0, .ref a)] := hl
  refine lv_aload_n hx hb dX12_code_0 rfl (lv_at hl 0 rfl) ?_
  refine va_get (v := .int x) hx hb hts in_X12 hown hK hP 0 rfl rfl 6 (by decide) (hts _ q677) (fun _ h => h) rfl dX12_code_1 ?_
  exact hret _ _ _ dX12_code_4 (rfl)

set_option maxHeartbeats 1000000 in
theorem met_X12_code_13 (l : Launch) (D : va_G) (E : Nat → ClassId) (a : Nat) (x : Int32) (v0 v1 v2 v3 v4 v5 : Value) : ti_MetP l D E yX12_code cX12_code 1 (some .int) 0 ([(a, .inr (13, [v0, v1, v2, v3, v4, v5, .int x]))]) [.ref a] (some (.int x)) := by
  refine ti_pureI (by decide) (Nat.le_of_ble_eq_true rfl) ?_
  intro p e s m below meth c H locs Q ls S hE hP hl hret
  have hx := S.1
  have hb := S.2.1
  have hown := S.2.2.2.1
  have hts := S.2.2.2.2
  have hK := hE.1
  have hl : lv_has ls 1 [(0, .ref a)] := hl
  refine lv_aload_n hx hb dX12_code_0 rfl (lv_at hl 0 rfl) ?_
  refine va_get (v := .int x) hx hb hts in_X13 hown hK hP 0 rfl rfl 6 (by decide) (hts _ q677) (fun _ h => h) rfl dX12_code_1 ?_
  exact hret _ _ _ dX12_code_4 (rfl)

set_option maxHeartbeats 1000000 in
theorem met_X12_code_14 (l : Launch) (D : va_G) (E : Nat → ClassId) (a : Nat) (x : Int32) (v0 v1 v2 v3 v4 v5 : Value) : ti_MetP l D E yX12_code cX12_code 1 (some .int) 0 ([(a, .inr (14, [v0, v1, v2, v3, v4, v5, .int x]))]) [.ref a] (some (.int x)) := by
  refine ti_pureI (by decide) (Nat.le_of_ble_eq_true rfl) ?_
  intro p e s m below meth c H locs Q ls S hE hP hl hret
  have hx := S.1
  have hb := S.2.1
  have hown := S.2.2.2.1
  have hts := S.2.2.2.2
  have hK := hE.1
  have hl : lv_has ls 1 [(0, .ref a)] := hl
  refine lv_aload_n hx hb dX12_code_0 rfl (lv_at hl 0 rfl) ?_
  refine va_get (v := .int x) hx hb hts in_X14 hown hK hP 0 rfl rfl 6 (by decide) (hts _ q677) (fun _ h => h) rfl dX12_code_1 ?_
  exact hret _ _ _ dX12_code_4 (rfl)

set_option maxHeartbeats 2000000 in
theorem met_X0_behind (l : Launch) (D : va_G) (E : Nat → ClassId) (htr : l.stackTraces = false) (z0 : Nat) (q0 q1 q2 q3 q4 : Nat) (v0 v1 v2 v3 v4 : Value × Value) (c0 c1 c2 c3 c4 : Int32) (i : Nat) (hi : i ≤ 4) : ti_MetF (σ := Unit) l D E yX0_behind cX0_behind 4 (some .int) 3 0 0 z0 (ti_w5 q0 q1 q2 q3 q4 v0 v1 v2 v3 v4 c0 c1 c2 c3 c4) [.ref q0, .int (nI i)] (fun H => ti_free q0 H ∧ ti_free q1 H ∧ ti_free q2 H ∧ ti_free q3 H) (fun _ => ti_w5 q0 q1 q2 q3 q4 v0 v1 v2 v3 v4 c0 c1 c2 c3 c4) (fun _ => some (.int (ti_c5 c0 c1 c2 c3 c4 i))) (fun _ => True) (fun _ _ => True) := by
  refine ti_metF (by decide) (Nat.le_of_ble_eq_true rfl) ?_
  intro p e s m below meth c H H0 A Q ls S hE hP hD hS hA h0 hZ hAz hx0 hinit hl hret hq
  subst h0
  obtain ⟨rfl, hr, hlk⟩ := hq
  refine ti_withFree hx0.1 (fun fr0 => ?_)
  refine ti_withFree hx0.2.1 (fun fr1 => ?_)
  refine ti_withFree hx0.2.2.1 (fun fr2 => ?_)
  refine ti_withFree hx0.2.2.2 (fun fr3 => ?_)
  have hx := S.1
  have hb := S.2.1
  have hown := S.2.2.2.1
  have hts := S.2.2.2.2
  have hK := hE.1
  have hl : lv_has ls 4 [(0, .ref q0), (1, .int (nI i))] := hl
  rcases (show i = 0 ∨ i = 1 ∨ i = 2 ∨ i = 3 ∨ i = 4 by omega) with rfl | rfl | rfl | rfl | rfl
  · skip
    refine lv_aload_n hx hb dX0_behind_0 rfl (lv_at hl 0 rfl) ?_
    refine lv_astore_n (lv' := [(2, .ref q0), (0, .ref q0), (1, .int (nI 0))]) hx hb dX0_behind_1 rfl hl (by decide) rfl (fun ls hl => ?_)
    refine lv_iconst (v := nI 0) hx hb dX0_behind_2 (by decide) ?_
    refine lv_istore_n (lv' := [(3, .int (nI 0)), (2, .ref q0), (0, .ref q0), (1, .int (nI 0))]) hx hb dX0_behind_3 rfl hl (by decide) rfl (fun ls hl => ?_)
    refine lv_iload_n hx hb dX0_behind_4 rfl (lv_at hl 0 rfl) ?_
    refine lv_iload_n hx hb dX0_behind_5 rfl (lv_at hl 3 rfl) ?_
    refine tn_ge (tgt := 20) hx hb dX0_behind_6 (by decide) (by omega) (by omega) (fun c6 => ?_) (fun c6 => ?_)
    · skip
      refine lv_aload_n hx hb dX0_behind_20 rfl (lv_at hl 1 rfl) ?_
      refine va_castY hx hb hown (hts _ q736) (hE.use q1579 rfl rfl) (ti_recvX hK hP 0 rfl rfl) dX0_behind_21 ?_
      refine ti_pVs (As := []) (rest := []) (v := .int c0) S hE hP [0] (met_X12_code_14 l D E q0 c0 _ _ _ _ _ _) rfl (lw_meth q743) q82 q737 q738 q741 0 rfl 0 rfl rfl (by decide +kernel) ⟨Nat.le_of_ble_eq_true rfl, Nat.le_of_ble_eq_true rfl⟩ hl.1 rfl (Nat.le_of_ble_eq_true rfl) ⟨Nat.le_refl _, Nat.le_refl _⟩ dX0_behind_24 ?_
      have hv9 : c0 = (fun _ => ti_c5 c0 c1 c2 c3 c4 0) () := rfl
      refine W.eq (g2 := F0 m 27 ls [.int ((fun _ => ti_c5 c0 c1 c2 c3 c4 0) ())]) (congrArg (fun z => F0 m 27 ls [.int z]) hv9) ?_
      exact hret _ () _ _ _ _ (trivial) hP trivial hS (Nat.le_of_ble_eq_true rfl) (Nat.le_of_ble_eq_true rfl) (fun hq hf9 => W.iret hx hb hr hq hf9 dX0_behind_27 hlk)
    · skip
      exact absurd c6 (by decide)
  · skip
    refine lv_aload_n hx hb dX0_behind_0 rfl (lv_at hl 0 rfl) ?_
    refine lv_astore_n (lv' := [(2, .ref q0), (0, .ref q0), (1, .int (nI 1))]) hx hb dX0_behind_1 rfl hl (by decide) rfl (fun ls hl => ?_)
    refine lv_iconst (v := nI 0) hx hb dX0_behind_2 (by decide) ?_
    refine lv_istore_n (lv' := [(3, .int (nI 0)), (2, .ref q0), (0, .ref q0), (1, .int (nI 1))]) hx hb dX0_behind_3 rfl hl (by decide) rfl (fun ls hl => ?_)
    refine lv_iload_n hx hb dX0_behind_4 rfl (lv_at hl 0 rfl) ?_
    refine lv_iload_n hx hb dX0_behind_5 rfl (lv_at hl 3 rfl) ?_
    refine tn_ge (tgt := 20) hx hb dX0_behind_6 (by decide) (by omega) (by omega) (fun c6 => ?_) (fun c6 => ?_)
    · skip
      exact absurd c6 (by decide)
    · skip
      refine lv_aload_n hx hb dX0_behind_9 rfl (lv_at hl 1 rfl) ?_
      refine ti_gcW S hK hP 0 rfl rfl rfl (by decide) rfl (fun e9 => absurd (hD.1 1 0 _ _ rfl rfl e9) (by decide)) q724 q721 fr0 (by decide) ⟨Nat.le_of_ble_eq_true rfl, Nat.le_of_ble_eq_true rfl⟩ hl.1 dX0_behind_10 ?_
      refine lv_astore_n (lv' := [(2, .ref q1), (3, .int (nI 0)), (0, .ref q0), (1, .int (nI 1))]) hx hb dX0_behind_13 rfl hl (by decide) rfl (fun ls hl => ?_)
      refine lv_iinc (v := nI 1) (lv' := [(3, .int (nI 1)), (2, .ref q1), (0, .ref q0), (1, .int (nI 1))]) hx hb dX0_behind_14 hl (k := 1) rfl (by decide) (by decide) rfl (fun ls hl => ?_)
      refine lv_goto (tgt := 4) hx hb dX0_behind_17 (by decide) ?_
      refine lv_iload_n hx hb dX0_behind_4 rfl (lv_at hl 0 rfl) ?_
      refine lv_iload_n hx hb dX0_behind_5 rfl (lv_at hl 3 rfl) ?_
      refine tn_ge (tgt := 20) hx hb dX0_behind_6 (by decide) (by omega) (by omega) (fun c6 => ?_) (fun c6 => ?_)
      · skip
        refine lv_aload_n hx hb dX0_behind_20 rfl (lv_at hl 1 rfl) ?_
        refine va_castY hx hb hown (hts _ q736) (hE.use q1580 rfl rfl) (ti_recvX hK hP 1 rfl rfl) dX0_behind_21 ?_
        refine ti_pVs (As := []) (rest := []) (v := .int c1) S hE hP [1] (met_X12_code_13 l D E q1 c1 _ _ _ _ _ _) rfl (lw_meth q743) q82 q737 q738 q742 0 rfl 1 rfl rfl (by decide +kernel) ⟨Nat.le_of_ble_eq_true rfl, Nat.le_of_ble_eq_true rfl⟩ hl.1 rfl (Nat.le_of_ble_eq_true rfl) ⟨Nat.le_refl _, Nat.le_refl _⟩ dX0_behind_24 ?_
        have hv9 : c1 = (fun _ => ti_c5 c0 c1 c2 c3 c4 1) () := rfl
        refine W.eq (g2 := F0 m 27 ls [.int ((fun _ => ti_c5 c0 c1 c2 c3 c4 1) ())]) (congrArg (fun z => F0 m 27 ls [.int z]) hv9) ?_
        exact hret _ () _ _ _ _ (trivial) hP trivial hS (Nat.le_of_ble_eq_true rfl) (Nat.le_of_ble_eq_true rfl) (fun hq hf9 => W.iret hx hb hr hq hf9 dX0_behind_27 hlk)
      · skip
        exact absurd c6 (by decide)
  · skip
    refine lv_aload_n hx hb dX0_behind_0 rfl (lv_at hl 0 rfl) ?_
    refine lv_astore_n (lv' := [(2, .ref q0), (0, .ref q0), (1, .int (nI 2))]) hx hb dX0_behind_1 rfl hl (by decide) rfl (fun ls hl => ?_)
    refine lv_iconst (v := nI 0) hx hb dX0_behind_2 (by decide) ?_
    refine lv_istore_n (lv' := [(3, .int (nI 0)), (2, .ref q0), (0, .ref q0), (1, .int (nI 2))]) hx hb dX0_behind_3 rfl hl (by decide) rfl (fun ls hl => ?_)
    refine lv_iload_n hx hb dX0_behind_4 rfl (lv_at hl 0 rfl) ?_
    refine lv_iload_n hx hb dX0_behind_5 rfl (lv_at hl 3 rfl) ?_
    refine tn_ge (tgt := 20) hx hb dX0_behind_6 (by decide) (by omega) (by omega) (fun c6 => ?_) (fun c6 => ?_)
    · skip
      exact absurd c6 (by decide)
    · skip
      refine lv_aload_n hx hb dX0_behind_9 rfl (lv_at hl 1 rfl) ?_
      refine ti_gcW S hK hP 0 rfl rfl rfl (by decide) rfl (fun e9 => absurd (hD.1 1 0 _ _ rfl rfl e9) (by decide)) q724 q721 fr0 (by decide) ⟨Nat.le_of_ble_eq_true rfl, Nat.le_of_ble_eq_true rfl⟩ hl.1 dX0_behind_10 ?_
      refine lv_astore_n (lv' := [(2, .ref q1), (3, .int (nI 0)), (0, .ref q0), (1, .int (nI 2))]) hx hb dX0_behind_13 rfl hl (by decide) rfl (fun ls hl => ?_)
      refine lv_iinc (v := nI 1) (lv' := [(3, .int (nI 1)), (2, .ref q1), (0, .ref q0), (1, .int (nI 2))]) hx hb dX0_behind_14 hl (k := 1) rfl (by decide) (by decide) rfl (fun ls hl => ?_)
      refine lv_goto (tgt := 4) hx hb dX0_behind_17 (by decide) ?_
      refine lv_iload_n hx hb dX0_behind_4 rfl (lv_at hl 0 rfl) ?_
      refine lv_iload_n hx hb dX0_behind_5 rfl (lv_at hl 3 rfl) ?_
      refine tn_ge (tgt := 20) hx hb dX0_behind_6 (by decide) (by omega) (by omega) (fun c6 => ?_) (fun c6 => ?_)
      · skip
        exact absurd c6 (by decide)
      · skip
        refine lv_aload_n hx hb dX0_behind_9 rfl (lv_at hl 1 rfl) ?_
        refine ti_gcW S hK hP 1 rfl rfl rfl (by decide) rfl (fun e9 => absurd (hD.1 2 1 _ _ rfl rfl e9) (by decide)) q726 q721 fr1 (by decide) ⟨Nat.le_of_ble_eq_true rfl, Nat.le_of_ble_eq_true rfl⟩ hl.1 dX0_behind_10 ?_
        refine lv_astore_n (lv' := [(2, .ref q2), (3, .int (nI 1)), (0, .ref q0), (1, .int (nI 2))]) hx hb dX0_behind_13 rfl hl (by decide) rfl (fun ls hl => ?_)
        refine lv_iinc (v := nI 2) (lv' := [(3, .int (nI 2)), (2, .ref q2), (0, .ref q0), (1, .int (nI 2))]) hx hb dX0_behind_14 hl (k := 1) rfl (by decide) (by decide) rfl (fun ls hl => ?_)
        refine lv_goto (tgt := 4) hx hb dX0_behind_17 (by decide) ?_
        refine lv_iload_n hx hb dX0_behind_4 rfl (lv_at hl 0 rfl) ?_
        refine lv_iload_n hx hb dX0_behind_5 rfl (lv_at hl 3 rfl) ?_
        refine tn_ge (tgt := 20) hx hb dX0_behind_6 (by decide) (by omega) (by omega) (fun c6 => ?_) (fun c6 => ?_)
        · skip
          refine lv_aload_n hx hb dX0_behind_20 rfl (lv_at hl 1 rfl) ?_
          refine va_castY hx hb hown (hts _ q736) (hE.use q666 rfl rfl) (ti_recvX hK hP 2 rfl rfl) dX0_behind_21 ?_
          refine ti_pVs (As := []) (rest := []) (v := .int c2) S hE hP [2] (met_X12_code_12 l D E q2 c2 _ _ _ _ _ _) rfl (lw_meth q743) q82 q737 q738 q739 0 rfl 2 rfl rfl (by decide +kernel) ⟨Nat.le_of_ble_eq_true rfl, Nat.le_of_ble_eq_true rfl⟩ hl.1 rfl (Nat.le_of_ble_eq_true rfl) ⟨Nat.le_refl _, Nat.le_refl _⟩ dX0_behind_24 ?_
          have hv9 : c2 = (fun _ => ti_c5 c0 c1 c2 c3 c4 2) () := rfl
          refine W.eq (g2 := F0 m 27 ls [.int ((fun _ => ti_c5 c0 c1 c2 c3 c4 2) ())]) (congrArg (fun z => F0 m 27 ls [.int z]) hv9) ?_
          exact hret _ () _ _ _ _ (trivial) hP trivial hS (Nat.le_of_ble_eq_true rfl) (Nat.le_of_ble_eq_true rfl) (fun hq hf9 => W.iret hx hb hr hq hf9 dX0_behind_27 hlk)
        · skip
          exact absurd c6 (by decide)
  · skip
    refine lv_aload_n hx hb dX0_behind_0 rfl (lv_at hl 0 rfl) ?_
    refine lv_astore_n (lv' := [(2, .ref q0), (0, .ref q0), (1, .int (nI 3))]) hx hb dX0_behind_1 rfl hl (by decide) rfl (fun ls hl => ?_)
    refine lv_iconst (v := nI 0) hx hb dX0_behind_2 (by decide) ?_
    refine lv_istore_n (lv' := [(3, .int (nI 0)), (2, .ref q0), (0, .ref q0), (1, .int (nI 3))]) hx hb dX0_behind_3 rfl hl (by decide) rfl (fun ls hl => ?_)
    refine lv_iload_n hx hb dX0_behind_4 rfl (lv_at hl 0 rfl) ?_
    refine lv_iload_n hx hb dX0_behind_5 rfl (lv_at hl 3 rfl) ?_
    refine tn_ge (tgt := 20) hx hb dX0_behind_6 (by decide) (by omega) (by omega) (fun c6 => ?_) (fun c6 => ?_)
    · skip
      exact absurd c6 (by decide)
    · skip
      refine lv_aload_n hx hb dX0_behind_9 rfl (lv_at hl 1 rfl) ?_
      refine ti_gcW S hK hP 0 rfl rfl rfl (by decide) rfl (fun e9 => absurd (hD.1 1 0 _ _ rfl rfl e9) (by decide)) q724 q721 fr0 (by decide) ⟨Nat.le_of_ble_eq_true rfl, Nat.le_of_ble_eq_true rfl⟩ hl.1 dX0_behind_10 ?_
      refine lv_astore_n (lv' := [(2, .ref q1), (3, .int (nI 0)), (0, .ref q0), (1, .int (nI 3))]) hx hb dX0_behind_13 rfl hl (by decide) rfl (fun ls hl => ?_)
      refine lv_iinc (v := nI 1) (lv' := [(3, .int (nI 1)), (2, .ref q1), (0, .ref q0), (1, .int (nI 3))]) hx hb dX0_behind_14 hl (k := 1) rfl (by decide) (by decide) rfl (fun ls hl => ?_)
      refine lv_goto (tgt := 4) hx hb dX0_behind_17 (by decide) ?_
      refine lv_iload_n hx hb dX0_behind_4 rfl (lv_at hl 0 rfl) ?_
      refine lv_iload_n hx hb dX0_behind_5 rfl (lv_at hl 3 rfl) ?_
      refine tn_ge (tgt := 20) hx hb dX0_behind_6 (by decide) (by omega) (by omega) (fun c6 => ?_) (fun c6 => ?_)
      · skip
        exact absurd c6 (by decide)
      · skip
        refine lv_aload_n hx hb dX0_behind_9 rfl (lv_at hl 1 rfl) ?_
        refine ti_gcW S hK hP 1 rfl rfl rfl (by decide) rfl (fun e9 => absurd (hD.1 2 1 _ _ rfl rfl e9) (by decide)) q726 q721 fr1 (by decide) ⟨Nat.le_of_ble_eq_true rfl, Nat.le_of_ble_eq_true rfl⟩ hl.1 dX0_behind_10 ?_
        refine lv_astore_n (lv' := [(2, .ref q2), (3, .int (nI 1)), (0, .ref q0), (1, .int (nI 3))]) hx hb dX0_behind_13 rfl hl (by decide) rfl (fun ls hl => ?_)
        refine lv_iinc (v := nI 2) (lv' := [(3, .int (nI 2)), (2, .ref q2), (0, .ref q0), (1, .int (nI 3))]) hx hb dX0_behind_14 hl (k := 1) rfl (by decide) (by decide) rfl (fun ls hl => ?_)
        refine lv_goto (tgt := 4) hx hb dX0_behind_17 (by decide) ?_
        refine lv_iload_n hx hb dX0_behind_4 rfl (lv_at hl 0 rfl) ?_
        refine lv_iload_n hx hb dX0_behind_5 rfl (lv_at hl 3 rfl) ?_
        refine tn_ge (tgt := 20) hx hb dX0_behind_6 (by decide) (by omega) (by omega) (fun c6 => ?_) (fun c6 => ?_)
        · skip
          exact absurd c6 (by decide)
        · skip
          refine lv_aload_n hx hb dX0_behind_9 rfl (lv_at hl 1 rfl) ?_
          refine ti_gcW S hK hP 2 rfl rfl rfl (by decide) rfl (fun e9 => absurd (hD.1 3 2 _ _ rfl rfl e9) (by decide)) q729 q721 fr2 (by decide) ⟨Nat.le_of_ble_eq_true rfl, Nat.le_of_ble_eq_true rfl⟩ hl.1 dX0_behind_10 ?_
          refine lv_astore_n (lv' := [(2, .ref q3), (3, .int (nI 2)), (0, .ref q0), (1, .int (nI 3))]) hx hb dX0_behind_13 rfl hl (by decide) rfl (fun ls hl => ?_)
          refine lv_iinc (v := nI 3) (lv' := [(3, .int (nI 3)), (2, .ref q3), (0, .ref q0), (1, .int (nI 3))]) hx hb dX0_behind_14 hl (k := 1) rfl (by decide) (by decide) rfl (fun ls hl => ?_)
          refine lv_goto (tgt := 4) hx hb dX0_behind_17 (by decide) ?_
          refine lv_iload_n hx hb dX0_behind_4 rfl (lv_at hl 0 rfl) ?_
          refine lv_iload_n hx hb dX0_behind_5 rfl (lv_at hl 3 rfl) ?_
          refine tn_ge (tgt := 20) hx hb dX0_behind_6 (by decide) (by omega) (by omega) (fun c6 => ?_) (fun c6 => ?_)
          · skip
            refine lv_aload_n hx hb dX0_behind_20 rfl (lv_at hl 1 rfl) ?_
            refine va_castY hx hb hown (hts _ q736) (hE.use q666 rfl rfl) (ti_recvX hK hP 3 rfl rfl) dX0_behind_21 ?_
            refine ti_pVs (As := []) (rest := []) (v := .int c3) S hE hP [3] (met_X12_code_12 l D E q3 c3 _ _ _ _ _ _) rfl (lw_meth q743) q82 q737 q738 q739 0 rfl 3 rfl rfl (by decide +kernel) ⟨Nat.le_of_ble_eq_true rfl, Nat.le_of_ble_eq_true rfl⟩ hl.1 rfl (Nat.le_of_ble_eq_true rfl) ⟨Nat.le_refl _, Nat.le_refl _⟩ dX0_behind_24 ?_
            have hv9 : c3 = (fun _ => ti_c5 c0 c1 c2 c3 c4 3) () := rfl
            refine W.eq (g2 := F0 m 27 ls [.int ((fun _ => ti_c5 c0 c1 c2 c3 c4 3) ())]) (congrArg (fun z => F0 m 27 ls [.int z]) hv9) ?_
            exact hret _ () _ _ _ _ (trivial) hP trivial hS (Nat.le_of_ble_eq_true rfl) (Nat.le_of_ble_eq_true rfl) (fun hq hf9 => W.iret hx hb hr hq hf9 dX0_behind_27 hlk)
          · skip
            exact absurd c6 (by decide)
  · skip
    refine lv_aload_n hx hb dX0_behind_0 rfl (lv_at hl 0 rfl) ?_
    refine lv_astore_n (lv' := [(2, .ref q0), (0, .ref q0), (1, .int (nI 4))]) hx hb dX0_behind_1 rfl hl (by decide) rfl (fun ls hl => ?_)
    refine lv_iconst (v := nI 0) hx hb dX0_behind_2 (by decide) ?_
    refine lv_istore_n (lv' := [(3, .int (nI 0)), (2, .ref q0), (0, .ref q0), (1, .int (nI 4))]) hx hb dX0_behind_3 rfl hl (by decide) rfl (fun ls hl => ?_)
    refine lv_iload_n hx hb dX0_behind_4 rfl (lv_at hl 0 rfl) ?_
    refine lv_iload_n hx hb dX0_behind_5 rfl (lv_at hl 3 rfl) ?_
    refine tn_ge (tgt := 20) hx hb dX0_behind_6 (by decide) (by omega) (by omega) (fun c6 => ?_) (fun c6 => ?_)
    · skip
      exact absurd c6 (by decide)
    · skip
      refine lv_aload_n hx hb dX0_behind_9 rfl (lv_at hl 1 rfl) ?_
      refine ti_gcW S hK hP 0 rfl rfl rfl (by decide) rfl (fun e9 => absurd (hD.1 1 0 _ _ rfl rfl e9) (by decide)) q724 q721 fr0 (by decide) ⟨Nat.le_of_ble_eq_true rfl, Nat.le_of_ble_eq_true rfl⟩ hl.1 dX0_behind_10 ?_
      refine lv_astore_n (lv' := [(2, .ref q1), (3, .int (nI 0)), (0, .ref q0), (1, .int (nI 4))]) hx hb dX0_behind_13 rfl hl (by decide) rfl (fun ls hl => ?_)
      refine lv_iinc (v := nI 1) (lv' := [(3, .int (nI 1)), (2, .ref q1), (0, .ref q0), (1, .int (nI 4))]) hx hb dX0_behind_14 hl (k := 1) rfl (by decide) (by decide) rfl (fun ls hl => ?_)
      refine lv_goto (tgt := 4) hx hb dX0_behind_17 (by decide) ?_
      refine lv_iload_n hx hb dX0_behind_4 rfl (lv_at hl 0 rfl) ?_
      refine lv_iload_n hx hb dX0_behind_5 rfl (lv_at hl 3 rfl) ?_
      refine tn_ge (tgt := 20) hx hb dX0_behind_6 (by decide) (by omega) (by omega) (fun c6 => ?_) (fun c6 => ?_)
      · skip
        exact absurd c6 (by decide)
      · skip
        refine lv_aload_n hx hb dX0_behind_9 rfl (lv_at hl 1 rfl) ?_
        refine ti_gcW S hK hP 1 rfl rfl rfl (by decide) rfl (fun e9 => absurd (hD.1 2 1 _ _ rfl rfl e9) (by decide)) q726 q721 fr1 (by decide) ⟨Nat.le_of_ble_eq_true rfl, Nat.le_of_ble_eq_true rfl⟩ hl.1 dX0_behind_10 ?_
        refine lv_astore_n (lv' := [(2, .ref q2), (3, .int (nI 1)), (0, .ref q0), (1, .int (nI 4))]) hx hb dX0_behind_13 rfl hl (by decide) rfl (fun ls hl => ?_)
        refine lv_iinc (v := nI 2) (lv' := [(3, .int (nI 2)), (2, .ref q2), (0, .ref q0), (1, .int (nI 4))]) hx hb dX0_behind_14 hl (k := 1) rfl (by decide) (by decide) rfl (fun ls hl => ?_)
        refine lv_goto (tgt := 4) hx hb dX0_behind_17 (by decide) ?_
        refine lv_iload_n hx hb dX0_behind_4 rfl (lv_at hl 0 rfl) ?_
        refine lv_iload_n hx hb dX0_behind_5 rfl (lv_at hl 3 rfl) ?_
        refine tn_ge (tgt := 20) hx hb dX0_behind_6 (by decide) (by omega) (by omega) (fun c6 => ?_) (fun c6 => ?_)
        · skip
          exact absurd c6 (by decide)
        · skip
          refine lv_aload_n hx hb dX0_behind_9 rfl (lv_at hl 1 rfl) ?_
          refine ti_gcW S hK hP 2 rfl rfl rfl (by decide) rfl (fun e9 => absurd (hD.1 3 2 _ _ rfl rfl e9) (by decide)) q729 q721 fr2 (by decide) ⟨Nat.le_of_ble_eq_true rfl, Nat.le_of_ble_eq_true rfl⟩ hl.1 dX0_behind_10 ?_
          refine lv_astore_n (lv' := [(2, .ref q3), (3, .int (nI 2)), (0, .ref q0), (1, .int (nI 4))]) hx hb dX0_behind_13 rfl hl (by decide) rfl (fun ls hl => ?_)
          refine lv_iinc (v := nI 3) (lv' := [(3, .int (nI 3)), (2, .ref q3), (0, .ref q0), (1, .int (nI 4))]) hx hb dX0_behind_14 hl (k := 1) rfl (by decide) (by decide) rfl (fun ls hl => ?_)
          refine lv_goto (tgt := 4) hx hb dX0_behind_17 (by decide) ?_
          refine lv_iload_n hx hb dX0_behind_4 rfl (lv_at hl 0 rfl) ?_
          refine lv_iload_n hx hb dX0_behind_5 rfl (lv_at hl 3 rfl) ?_
          refine tn_ge (tgt := 20) hx hb dX0_behind_6 (by decide) (by omega) (by omega) (fun c6 => ?_) (fun c6 => ?_)
          · skip
            exact absurd c6 (by decide)
          · skip
            refine lv_aload_n hx hb dX0_behind_9 rfl (lv_at hl 1 rfl) ?_
            refine ti_gcW S hK hP 3 rfl rfl rfl (by decide) rfl (fun e9 => absurd (hD.1 4 3 _ _ rfl rfl e9) (by decide)) q729 q721 fr3 (by decide) ⟨Nat.le_of_ble_eq_true rfl, Nat.le_of_ble_eq_true rfl⟩ hl.1 dX0_behind_10 ?_
            refine lv_astore_n (lv' := [(2, .ref q4), (3, .int (nI 3)), (0, .ref q0), (1, .int (nI 4))]) hx hb dX0_behind_13 rfl hl (by decide) rfl (fun ls hl => ?_)
            refine lv_iinc (v := nI 4) (lv' := [(3, .int (nI 4)), (2, .ref q4), (0, .ref q0), (1, .int (nI 4))]) hx hb dX0_behind_14 hl (k := 1) rfl (by decide) (by decide) rfl (fun ls hl => ?_)
            refine lv_goto (tgt := 4) hx hb dX0_behind_17 (by decide) ?_
            refine lv_iload_n hx hb dX0_behind_4 rfl (lv_at hl 0 rfl) ?_
            refine lv_iload_n hx hb dX0_behind_5 rfl (lv_at hl 3 rfl) ?_
            refine tn_ge (tgt := 20) hx hb dX0_behind_6 (by decide) (by omega) (by omega) (fun c6 => ?_) (fun c6 => ?_)
            · skip
              refine lv_aload_n hx hb dX0_behind_20 rfl (lv_at hl 1 rfl) ?_
              refine va_castY hx hb hown (hts _ q736) (hE.use q666 rfl rfl) (ti_recvX hK hP 4 rfl rfl) dX0_behind_21 ?_
              refine ti_pVs (As := []) (rest := []) (v := .int c4) S hE hP [4] (met_X12_code_12 l D E q4 c4 _ _ _ _ _ _) rfl (lw_meth q743) q82 q737 q738 q739 0 rfl 4 rfl rfl (by decide +kernel) ⟨Nat.le_of_ble_eq_true rfl, Nat.le_of_ble_eq_true rfl⟩ hl.1 rfl (Nat.le_of_ble_eq_true rfl) ⟨Nat.le_refl _, Nat.le_refl _⟩ dX0_behind_24 ?_
              have hv9 : c4 = (fun _ => ti_c5 c0 c1 c2 c3 c4 4) () := rfl
              refine W.eq (g2 := F0 m 27 ls [.int ((fun _ => ti_c5 c0 c1 c2 c3 c4 4) ())]) (congrArg (fun z => F0 m 27 ls [.int z]) hv9) ?_
              exact hret _ () _ _ _ _ (trivial) hP trivial hS (Nat.le_of_ble_eq_true rfl) (Nat.le_of_ble_eq_true rfl) (fun hq hf9 => W.iret hx hb hr hq hf9 dX0_behind_27 hlk)
            · skip
              exact absurd c6 (by decide)

set_option maxHeartbeats 2000000 in
theorem met_X0_asks_ok (l : Launch) (D : va_G) (E : Nat → ClassId) (htr : l.stackTraces = false) (z0 : Nat) (ad dh du dv jh ju jv kh ku kv : Nat → Nat) (tx : Nat) (hi : Bool) (xi : ti_Ti) (xf : ti_Tf) (hxi : ti_Jok xi) (I : Nat → ti_GL) (hJ : ti_JI xi I) (hxf : ti_Fok xf) (hnd : ∀ i, i < 2 → (I i).Nodup) (i : Nat) (hi2 : i < 2) (a b : Nat) (ha9 : a ≤ 9) (hb9 : b ≤ 9) (num den : Nat) (hnum : num ≤ 99) (hden : den ≤ 99) (hpos : 0 < xi.2.2 i) (hnone : ti_fb a b num den (ti_FF (I i)) 0 = none) : ti_MetX (σ := ti_Tf) (τ := Unit) l D E yX0_asks (ws_ yX0_asks cX0_asks 6 none) 10 1 6 z0 (ti_wMJF E ad dh du dv jh ju jv kh ku kv tx hi xi xf) [.ref (ad 0), .int (nI i), .int (nI a), .int (nI b), .int (nI num), .int (nI den)] (fun _ => True) (fun u => ti_wMJF E ad dh du dv jh ju jv kh ku kv tx hi xi u) (fun _ => none) (fun u => ti_Fok u) (fun _ _ => True) (fun w => RX14) (fun w => 0) (fun w => ti_wMJF E ad dh du dv jh ju jv kh ku kv tx hi xi xf) (fun w => []) (fun w => False) (fun w H => True) := by
  refine ti_metX (by decide) (Nat.le_of_ble_eq_true rfl) ?_
  intro p e s m below meth c H A Q ls S hE hP hD hS hA hZ hAz hx0 htab hl hret hq
  obtain ⟨hQ, hr, hlk, hinit⟩ := hq
  have hsz0 := hS.1
  have hx := S.1
  have hb := S.2.1
  have hown := S.2.2.2.1
  have hts := S.2.2.2.2
  have hK := hE.1
  have hl : lv_has ls 6 [(0, .ref (ad 0)), (1, .int (nI i)), (2, .int (nI a)), (3, .int (nI b)), (4, .int (nI num)), (5, .int (nI den))] := hl
  refine lv_aload_n hx hb dX0_asks_0 rfl (lv_at hl 0 rfl) ?_
  refine va_get (v := .ref (ad 5)) hx hb hts in_X0 hown hK hP 0 rfl rfl 2 (by decide) (hts _ q239) (fun _ h => h) rfl dX0_asks_1 ?_
  refine lv_aload_n hx hb dX0_asks_4 rfl (lv_at hl 0 rfl) ?_
  refine va_get (v := .ref (ad 1)) hx hb hts in_X0 hown hK hP 0 rfl rfl 0 (by decide) (hts _ q237) (fun _ h => h) rfl dX0_asks_5 ?_
  rcases (show i = 0 ∨ i = 1 by omega) with rfl | rfl
  · skip
    refine lv_iload_n hx hb dX0_asks_8 rfl (lv_at hl 1 rfl) ?_
    refine tn_aald hx hb hK hP 1 5 rfl rfl (by omega) (by decide) dX0_asks_9 ?_
    by_cases hz10 : xi.2.2 0 = 0
    · skip
      refine ti_callX (ty_runV (As := [.ref (jh 0)]) (rest := []) S (met_X2_looks_z l D E htr z0 (ad 5) (ad 6) (ad 7) (ad 8) (ad 9) (ad 10) xf.1 xf.2.1 xf.2.2.1 xf.2.2.2.1 xf.2.2.2.2.1 xf.2.2.2.2.2.1 xf.2.2.2.2.2.2.1 xf.2.2.2.2.2.2.2.1 xf.2.2.2.2.2.2.2.2.1 xf.2.2.2.2.2.2.2.2.2 (jh 0) (ju 0) (jv 0) (xi.1 0) (xi.2.1 0) (xi.2.2 0) hz10 H.size) (cwV 1 S.2.2.2.2 (lw_V q357 q358 q359 q68 q360) rfl rfl rfl (by decide +kernel) ⟨Nat.le_of_ble_eq_true rfl, Nat.le_of_ble_eq_true rfl⟩) (ti_preXV (xp := fun _ => True) hE hP hD hS rfl hZ hAz trivial [8, 9, 10, 11, 12, 13, 2, 3, 4] rfl rfl 8 rfl rfl) rfl rfl hl.1 rfl (lv_room (Nat.le_of_ble_eq_true rfl)) dX0_asks_10 ⟨Nat.le_of_ble_eq_true rfl, Nat.le_of_ble_eq_true rfl⟩) hP hD hS hA [8, 9, 10, 11, 12, 13, 2, 3, 4] rfl (fun _ => rfl) (fun _ => rfl) (fun _ _ _ h9 => absurd h9 id) (fun we H locs ce hpx hxx hFr hP hD hPe hnew hS hce hcv hcl => ?_)
      have hP : va_P D vwCl (ti_wMJF E ad dh du dv jh ju jv kh ku kv tx hi xi xf) H := ti_asP hP [.inl 0, .inl 1, .inr 6, .inr 7, .inr 8, .inl 5, .inl 6, .inl 7, .inr 0, .inr 1, .inr 2, .inr 3, .inr 4, .inr 5] rfl rfl rfl rfl
      have hD : va_D A (ti_wMJF E ad dh du dv jh ju jv kh ku kv tx hi xi xf) := ti_asD hD [.inl 0, .inl 1, .inr 6, .inr 7, .inr 8, .inl 5, .inl 6, .inl 7, .inr 0, .inr 1, .inr 2, .inr 3, .inr 4, .inr 5] rfl rfl rfl rfl
      exact absurd hz10 (by omega)
    · skip
      have hz1 : 0 < xi.2.2 0 := Nat.pos_of_ne_zero hz10
      have hnd9 : (ti_gr (xi.1 0) (xi.2.1 0) 0 (xi.2.2 0)).Nodup := by have h9 := hnd 0 (by decide); rw [← hJ 0 (by decide)] at h9; exact h9
      have hN9 : ti_r2 (ti_gr (xi.1 0) (xi.2.1 0) 0 (xi.2.2 0)) 9999 (List.range' 1 9) ≤ 6 := Nat.le_trans (ti_r2_le hnd9 9999) (by rw [ti_gr_len]; exact (hxi.2.2 0))
      refine ti_mV (As := [.ref (jh 0)]) (rest := []) S hE hP hD hS hA [8, 9, 10, 11, 12, 13, 2, 3, 4] rfl (met_X2_looks l D E (ad 5) (ad 6) (ad 7) (ad 8) (ad 9) (ad 10) xf.1 xf.2.1 xf.2.2.1 xf.2.2.2.1 xf.2.2.2.2.1 xf.2.2.2.2.2.1 xf.2.2.2.2.2.2.1 xf.2.2.2.2.2.2.2.1 xf.2.2.2.2.2.2.2.2.1 xf.2.2.2.2.2.2.2.2.2 (jh 0) (ju 0) (jv 0) (xi.1 0) (xi.2.1 0) (xi.2.2 0) (hxi.2.2 0) (hxi.1 0) (hxi.2.1 0) hxf.1 hxf.2.1 hxf.2.2.1 hxf.2.2.2.1 hz1 hN9) rfl (fun _ => rfl) (lw_V q357 q358 q359 q68 q360) 1 rfl 8 rfl rfl (by decide +kernel) ⟨Nat.le_of_ble_eq_true rfl, Nat.le_of_ble_eq_true rfl⟩ hl.1 rfl (Nat.le_of_ble_eq_true rfl) ⟨Nat.le_of_ble_eq_true rfl, Nat.le_of_ble_eq_true rfl⟩ dX0_asks_10 (fun u1 H locs hu hP hD hS => ?_)
      obtain ⟨hF1, hF2, hF3, hF4, hF5⟩ := hu
      have hFF : ti_fr u1.1 u1.2.1 u1.2.2.1 0 u1.2.2.2 = ti_FF (ti_gr (xi.1 0) (xi.2.1 0) 0 (xi.2.2 0)) := by rw [hF1]; exact ti_fxm (by rw [ti_gr_len]; exact hz1) (ti_gr_9 (hxi.1 0) (hxi.2.1 0) 0 _)
      have hFo : ti_Fok (Value.ref (jh 0), u1.1, u1.2.1, u1.2.2.1, u1.2.2.2, xf.2.2.2.2.2.1, xf.2.2.2.2.2.2.1, xf.2.2.2.2.2.2.2.1, xf.2.2.2.2.2.2.2.2.1, xf.2.2.2.2.2.2.2.2.2) := ⟨hF2, hF3, hF4, hF5, hxf.2.2.2.2⟩
      have hP : va_P D vwCl (ti_wMJF E ad dh du dv jh ju jv kh ku kv tx hi xi (Value.ref (jh 0), u1.1, u1.2.1, u1.2.2.1, u1.2.2.2, xf.2.2.2.2.2.1, xf.2.2.2.2.2.2.1, xf.2.2.2.2.2.2.2.1, xf.2.2.2.2.2.2.2.2.1, xf.2.2.2.2.2.2.2.2.2)) H := ti_asP hP [.inl 0, .inl 1, .inr 6, .inr 7, .inr 8, .inl 5, .inl 6, .inl 7, .inr 0, .inr 1, .inr 2, .inr 3, .inr 4, .inr 5] rfl rfl rfl rfl
      have hD : va_D A (ti_wMJF E ad dh du dv jh ju jv kh ku kv tx hi xi (Value.ref (jh 0), u1.1, u1.2.1, u1.2.2.1, u1.2.2.2, xf.2.2.2.2.2.1, xf.2.2.2.2.2.2.1, xf.2.2.2.2.2.2.2.1, xf.2.2.2.2.2.2.2.2.1, xf.2.2.2.2.2.2.2.2.2)) := ti_asD hD [.inl 0, .inl 1, .inr 6, .inr 7, .inr 8, .inl 5, .inl 6, .inl 7, .inr 0, .inr 1, .inr 2, .inr 3, .inr 4, .inr 5] rfl rfl rfl rfl
      refine W.eq (g2 := F0 m 13 ls [.ref (ad 5)]) rfl ?_
      refine lv_iload_n hx hb dX0_asks_13 rfl (lv_at hl 2 rfl) ?_
      refine lv_iload_n hx hb dX0_asks_14 rfl (lv_at hl 3 rfl) ?_
      refine lv_iload hx hb dX0_asks_15 (lv_at hl 4 rfl) ?_
      refine lv_iload hx hb dX0_asks_17 (lv_at hl 5 rfl) ?_
      have hfr9 : ti_fr u1.1 u1.2.1 u1.2.2.1 0 u1.2.2.2 = ti_FF (I 0) := by rw [hFF, show (ti_gr (xi.1 0) (xi.2.1 0) 0 (xi.2.2 0)) = I 0 from hJ 0 (by decide)]
      refine ti_callX (ty_runV (As := [.int (nI a), .int (nI b), .int (nI num), .int (nI den)]) (rest := []) S (met_X2_bars_ok l D E htr z0 (ad 5) (ad 6) (ad 7) (ad 8) (ad 9) (ad 10) (Value.ref (jh 0)) u1.1 u1.2.1 u1.2.2.1 u1.2.2.2 xf.2.2.2.2.2.1 xf.2.2.2.2.2.2.1 xf.2.2.2.2.2.2.2.1 xf.2.2.2.2.2.2.2.2.1 xf.2.2.2.2.2.2.2.2.2 hFo.1 hFo.2.1 hFo.2.2.1 hFo.2.2.2.1 a b ha9 hb9 num den hnum hden (by rw [hfr9]; exact hnone) H.size) (cwV 4 S.2.2.2.2 (lw_V q643 q644 q645 q68 q646) rfl rfl rfl (by decide +kernel) ⟨Nat.le_of_ble_eq_true rfl, Nat.le_of_ble_eq_true rfl⟩) (ti_preXV (xp := fun _ => True) hE hP hD hS rfl hZ hAz trivial [8, 9, 10, 11, 12, 13] rfl rfl 8 rfl rfl) rfl rfl hl.1 rfl (lv_room (Nat.le_of_ble_eq_true rfl)) dX0_asks_19 ⟨Nat.le_of_ble_eq_true rfl, Nat.le_of_ble_eq_true rfl⟩) hP hD hS hA [8, 9, 10, 11, 12, 13] rfl (fun _ => rfl) (fun _ => rfl) (fun _ H locs _ _ _ hP hD hS => ?_) (fun _ _ _ _ h9 => absurd h9 id)
      have hP : va_P D vwCl (ti_wMJF E ad dh du dv jh ju jv kh ku kv tx hi xi (Value.ref (jh 0), u1.1, u1.2.1, u1.2.2.1, u1.2.2.2, xf.2.2.2.2.2.1, xf.2.2.2.2.2.2.1, xf.2.2.2.2.2.2.2.1, xf.2.2.2.2.2.2.2.2.1, xf.2.2.2.2.2.2.2.2.2)) H := hP
      have hD : va_D A (ti_wMJF E ad dh du dv jh ju jv kh ku kv tx hi xi (Value.ref (jh 0), u1.1, u1.2.1, u1.2.2.1, u1.2.2.2, xf.2.2.2.2.2.1, xf.2.2.2.2.2.2.1, xf.2.2.2.2.2.2.2.1, xf.2.2.2.2.2.2.2.2.1, xf.2.2.2.2.2.2.2.2.2)) := hD
      refine W.eq (g2 := F0 m 22 ls []) rfl ?_
      exact hret _ ((Value.ref (jh 0), u1.1, u1.2.1, u1.2.2.1, u1.2.2.2, xf.2.2.2.2.2.1, xf.2.2.2.2.2.2.1, xf.2.2.2.2.2.2.2.1, xf.2.2.2.2.2.2.2.2.1, xf.2.2.2.2.2.2.2.2.2)) _ _ _ _ (hFo) hP trivial hS (Nat.le_of_ble_eq_true rfl) (Nat.le_of_ble_eq_true rfl) (fun hq hf9 => W.vret hx hb hr hq hf9 dX0_asks_22 hlk)
  · skip
    refine lv_iload_n hx hb dX0_asks_8 rfl (lv_at hl 1 rfl) ?_
    refine tn_aald hx hb hK hP 1 5 rfl rfl (by omega) (by decide) dX0_asks_9 ?_
    by_cases hz10 : xi.2.2 1 = 0
    · skip
      refine ti_callX (ty_runV (As := [.ref (jh 1)]) (rest := []) S (met_X2_looks_z l D E htr z0 (ad 5) (ad 6) (ad 7) (ad 8) (ad 9) (ad 10) xf.1 xf.2.1 xf.2.2.1 xf.2.2.2.1 xf.2.2.2.2.1 xf.2.2.2.2.2.1 xf.2.2.2.2.2.2.1 xf.2.2.2.2.2.2.2.1 xf.2.2.2.2.2.2.2.2.1 xf.2.2.2.2.2.2.2.2.2 (jh 1) (ju 1) (jv 1) (xi.1 1) (xi.2.1 1) (xi.2.2 1) hz10 H.size) (cwV 1 S.2.2.2.2 (lw_V q357 q358 q359 q68 q360) rfl rfl rfl (by decide +kernel) ⟨Nat.le_of_ble_eq_true rfl, Nat.le_of_ble_eq_true rfl⟩) (ti_preXV (xp := fun _ => True) hE hP hD hS rfl hZ hAz trivial [8, 9, 10, 11, 12, 13, 5, 6, 7] rfl rfl 8 rfl rfl) rfl rfl hl.1 rfl (lv_room (Nat.le_of_ble_eq_true rfl)) dX0_asks_10 ⟨Nat.le_of_ble_eq_true rfl, Nat.le_of_ble_eq_true rfl⟩) hP hD hS hA [8, 9, 10, 11, 12, 13, 5, 6, 7] rfl (fun _ => rfl) (fun _ => rfl) (fun _ _ _ h9 => absurd h9 id) (fun we H locs ce hpx hxx hFr hP hD hPe hnew hS hce hcv hcl => ?_)
      have hP : va_P D vwCl (ti_wMJF E ad dh du dv jh ju jv kh ku kv tx hi xi xf) H := ti_asP hP [.inl 0, .inl 1, .inl 2, .inl 3, .inl 4, .inr 6, .inr 7, .inr 8, .inr 0, .inr 1, .inr 2, .inr 3, .inr 4, .inr 5] rfl rfl rfl rfl
      have hD : va_D A (ti_wMJF E ad dh du dv jh ju jv kh ku kv tx hi xi xf) := ti_asD hD [.inl 0, .inl 1, .inl 2, .inl 3, .inl 4, .inr 6, .inr 7, .inr 8, .inr 0, .inr 1, .inr 2, .inr 3, .inr 4, .inr 5] rfl rfl rfl rfl
      exact absurd hz10 (by omega)
    · skip
      have hz1 : 0 < xi.2.2 1 := Nat.pos_of_ne_zero hz10
      have hnd9 : (ti_gr (xi.1 1) (xi.2.1 1) 0 (xi.2.2 1)).Nodup := by have h9 := hnd 1 (by decide); rw [← hJ 1 (by decide)] at h9; exact h9
      have hN9 : ti_r2 (ti_gr (xi.1 1) (xi.2.1 1) 0 (xi.2.2 1)) 9999 (List.range' 1 9) ≤ 6 := Nat.le_trans (ti_r2_le hnd9 9999) (by rw [ti_gr_len]; exact (hxi.2.2 1))
      refine ti_mV (As := [.ref (jh 1)]) (rest := []) S hE hP hD hS hA [8, 9, 10, 11, 12, 13, 5, 6, 7] rfl (met_X2_looks l D E (ad 5) (ad 6) (ad 7) (ad 8) (ad 9) (ad 10) xf.1 xf.2.1 xf.2.2.1 xf.2.2.2.1 xf.2.2.2.2.1 xf.2.2.2.2.2.1 xf.2.2.2.2.2.2.1 xf.2.2.2.2.2.2.2.1 xf.2.2.2.2.2.2.2.2.1 xf.2.2.2.2.2.2.2.2.2 (jh 1) (ju 1) (jv 1) (xi.1 1) (xi.2.1 1) (xi.2.2 1) (hxi.2.2 1) (hxi.1 1) (hxi.2.1 1) hxf.1 hxf.2.1 hxf.2.2.1 hxf.2.2.2.1 hz1 hN9) rfl (fun _ => rfl) (lw_V q357 q358 q359 q68 q360) 1 rfl 8 rfl rfl (by decide +kernel) ⟨Nat.le_of_ble_eq_true rfl, Nat.le_of_ble_eq_true rfl⟩ hl.1 rfl (Nat.le_of_ble_eq_true rfl) ⟨Nat.le_of_ble_eq_true rfl, Nat.le_of_ble_eq_true rfl⟩ dX0_asks_10 (fun u1 H locs hu hP hD hS => ?_)
      obtain ⟨hF1, hF2, hF3, hF4, hF5⟩ := hu
      have hFF : ti_fr u1.1 u1.2.1 u1.2.2.1 0 u1.2.2.2 = ti_FF (ti_gr (xi.1 1) (xi.2.1 1) 0 (xi.2.2 1)) := by rw [hF1]; exact ti_fxm (by rw [ti_gr_len]; exact hz1) (ti_gr_9 (hxi.1 1) (hxi.2.1 1) 0 _)
      have hFo : ti_Fok (Value.ref (jh 1), u1.1, u1.2.1, u1.2.2.1, u1.2.2.2, xf.2.2.2.2.2.1, xf.2.2.2.2.2.2.1, xf.2.2.2.2.2.2.2.1, xf.2.2.2.2.2.2.2.2.1, xf.2.2.2.2.2.2.2.2.2) := ⟨hF2, hF3, hF4, hF5, hxf.2.2.2.2⟩
      have hP : va_P D vwCl (ti_wMJF E ad dh du dv jh ju jv kh ku kv tx hi xi (Value.ref (jh 1), u1.1, u1.2.1, u1.2.2.1, u1.2.2.2, xf.2.2.2.2.2.1, xf.2.2.2.2.2.2.1, xf.2.2.2.2.2.2.2.1, xf.2.2.2.2.2.2.2.2.1, xf.2.2.2.2.2.2.2.2.2)) H := ti_asP hP [.inl 0, .inl 1, .inl 2, .inl 3, .inl 4, .inr 6, .inr 7, .inr 8, .inr 0, .inr 1, .inr 2, .inr 3, .inr 4, .inr 5] rfl rfl rfl rfl
      have hD : va_D A (ti_wMJF E ad dh du dv jh ju jv kh ku kv tx hi xi (Value.ref (jh 1), u1.1, u1.2.1, u1.2.2.1, u1.2.2.2, xf.2.2.2.2.2.1, xf.2.2.2.2.2.2.1, xf.2.2.2.2.2.2.2.1, xf.2.2.2.2.2.2.2.2.1, xf.2.2.2.2.2.2.2.2.2)) := ti_asD hD [.inl 0, .inl 1, .inl 2, .inl 3, .inl 4, .inr 6, .inr 7, .inr 8, .inr 0, .inr 1, .inr 2, .inr 3, .inr 4, .inr 5] rfl rfl rfl rfl
      refine W.eq (g2 := F0 m 13 ls [.ref (ad 5)]) rfl ?_
      refine lv_iload_n hx hb dX0_asks_13 rfl (lv_at hl 2 rfl) ?_
      refine lv_iload_n hx hb dX0_asks_14 rfl (lv_at hl 3 rfl) ?_
      refine lv_iload hx hb dX0_asks_15 (lv_at hl 4 rfl) ?_
      refine lv_iload hx hb dX0_asks_17 (lv_at hl 5 rfl) ?_
      have hfr9 : ti_fr u1.1 u1.2.1 u1.2.2.1 0 u1.2.2.2 = ti_FF (I 1) := by rw [hFF, show (ti_gr (xi.1 1) (xi.2.1 1) 0 (xi.2.2 1)) = I 1 from hJ 1 (by decide)]
      refine ti_callX (ty_runV (As := [.int (nI a), .int (nI b), .int (nI num), .int (nI den)]) (rest := []) S (met_X2_bars_ok l D E htr z0 (ad 5) (ad 6) (ad 7) (ad 8) (ad 9) (ad 10) (Value.ref (jh 1)) u1.1 u1.2.1 u1.2.2.1 u1.2.2.2 xf.2.2.2.2.2.1 xf.2.2.2.2.2.2.1 xf.2.2.2.2.2.2.2.1 xf.2.2.2.2.2.2.2.2.1 xf.2.2.2.2.2.2.2.2.2 hFo.1 hFo.2.1 hFo.2.2.1 hFo.2.2.2.1 a b ha9 hb9 num den hnum hden (by rw [hfr9]; exact hnone) H.size) (cwV 4 S.2.2.2.2 (lw_V q643 q644 q645 q68 q646) rfl rfl rfl (by decide +kernel) ⟨Nat.le_of_ble_eq_true rfl, Nat.le_of_ble_eq_true rfl⟩) (ti_preXV (xp := fun _ => True) hE hP hD hS rfl hZ hAz trivial [8, 9, 10, 11, 12, 13] rfl rfl 8 rfl rfl) rfl rfl hl.1 rfl (lv_room (Nat.le_of_ble_eq_true rfl)) dX0_asks_19 ⟨Nat.le_of_ble_eq_true rfl, Nat.le_of_ble_eq_true rfl⟩) hP hD hS hA [8, 9, 10, 11, 12, 13] rfl (fun _ => rfl) (fun _ => rfl) (fun _ H locs _ _ _ hP hD hS => ?_) (fun _ _ _ _ h9 => absurd h9 id)
      have hP : va_P D vwCl (ti_wMJF E ad dh du dv jh ju jv kh ku kv tx hi xi (Value.ref (jh 1), u1.1, u1.2.1, u1.2.2.1, u1.2.2.2, xf.2.2.2.2.2.1, xf.2.2.2.2.2.2.1, xf.2.2.2.2.2.2.2.1, xf.2.2.2.2.2.2.2.2.1, xf.2.2.2.2.2.2.2.2.2)) H := hP
      have hD : va_D A (ti_wMJF E ad dh du dv jh ju jv kh ku kv tx hi xi (Value.ref (jh 1), u1.1, u1.2.1, u1.2.2.1, u1.2.2.2, xf.2.2.2.2.2.1, xf.2.2.2.2.2.2.1, xf.2.2.2.2.2.2.2.1, xf.2.2.2.2.2.2.2.2.1, xf.2.2.2.2.2.2.2.2.2)) := hD
      refine W.eq (g2 := F0 m 22 ls []) rfl ?_
      exact hret _ ((Value.ref (jh 1), u1.1, u1.2.1, u1.2.2.1, u1.2.2.2, xf.2.2.2.2.2.1, xf.2.2.2.2.2.2.1, xf.2.2.2.2.2.2.2.1, xf.2.2.2.2.2.2.2.2.1, xf.2.2.2.2.2.2.2.2.2)) _ _ _ _ (hFo) hP trivial hS (Nat.le_of_ble_eq_true rfl) (Nat.le_of_ble_eq_true rfl) (fun hq hf9 => W.vret hx hb hr hq hf9 dX0_asks_22 hlk)

set_option maxHeartbeats 2000000 in
theorem met_X0_asks_0 (l : Launch) (D : va_G) (E : Nat → ClassId) (htr : l.stackTraces = false) (z0 : Nat) (ad dh du dv jh ju jv kh ku kv : Nat → Nat) (tx : Nat) (hi : Bool) (xi : ti_Ti) (xf : ti_Tf) (hxi : ti_Jok xi) (I : Nat → ti_GL) (hJ : ti_JI xi I) (hxf : ti_Fok xf) (hnd : ∀ i, i < 2 → (I i).Nodup) (i : Nat) (hi2 : i < 2) (a b : Nat) (ha9 : a ≤ 9) (hb9 : b ≤ 9) (num den : Nat) (hnum : num ≤ 99) (hden : den ≤ 99) (hpos : xi.2.2 i = 0) : ti_MetX (σ := Unit) (τ := Nat × Value × Value) l D E yX0_asks (ws_ yX0_asks cX0_asks 6 none) 10 1 6 z0 (ti_wMJF E ad dh du dv jh ju jv kh ku kv tx hi xi xf) [.ref (ad 0), .int (nI i), .int (nI a), .int (nI b), .int (nI num), .int (nI den)] (fun _ => True) (fun _ => ti_wMJF E ad dh du dv jh ju jv kh ku kv tx hi xi xf) (fun _ => none) (fun _ => False) (fun _ _ => True) (fun w => RX8) (fun w => w.1) (fun w => ti_wMJF E ad dh du dv jh ju jv kh ku kv tx hi xi xf) (fun w => ti_exE w) (fun w => True) (fun w H => ti_free w.1 H) := by
  refine ti_metX (by decide) (Nat.le_of_ble_eq_true rfl) ?_
  intro p e s m below meth c H A Q ls S hE hP hD hS hA hZ hAz hx0 htab hl hret hq
  obtain ⟨hQ, hr, hlk, hinit⟩ := hq
  have hsz0 := hS.1
  have hx := S.1
  have hb := S.2.1
  have hown := S.2.2.2.1
  have hts := S.2.2.2.2
  have hK := hE.1
  have hl : lv_has ls 6 [(0, .ref (ad 0)), (1, .int (nI i)), (2, .int (nI a)), (3, .int (nI b)), (4, .int (nI num)), (5, .int (nI den))] := hl
  refine lv_aload_n hx hb dX0_asks_0 rfl (lv_at hl 0 rfl) ?_
  refine va_get (v := .ref (ad 5)) hx hb hts in_X0 hown hK hP 0 rfl rfl 2 (by decide) (hts _ q239) (fun _ h => h) rfl dX0_asks_1 ?_
  refine lv_aload_n hx hb dX0_asks_4 rfl (lv_at hl 0 rfl) ?_
  refine va_get (v := .ref (ad 1)) hx hb hts in_X0 hown hK hP 0 rfl rfl 0 (by decide) (hts _ q237) (fun _ h => h) rfl dX0_asks_5 ?_
  rcases (show i = 0 ∨ i = 1 by omega) with rfl | rfl
  · skip
    refine lv_iload_n hx hb dX0_asks_8 rfl (lv_at hl 1 rfl) ?_
    refine tn_aald hx hb hK hP 1 5 rfl rfl (by omega) (by decide) dX0_asks_9 ?_
    by_cases hz10 : xi.2.2 0 = 0
    · skip
      refine ti_callX (ty_runV (As := [.ref (jh 0)]) (rest := []) S (met_X2_looks_z l D E htr z0 (ad 5) (ad 6) (ad 7) (ad 8) (ad 9) (ad 10) xf.1 xf.2.1 xf.2.2.1 xf.2.2.2.1 xf.2.2.2.2.1 xf.2.2.2.2.2.1 xf.2.2.2.2.2.2.1 xf.2.2.2.2.2.2.2.1 xf.2.2.2.2.2.2.2.2.1 xf.2.2.2.2.2.2.2.2.2 (jh 0) (ju 0) (jv 0) (xi.1 0) (xi.2.1 0) (xi.2.2 0) hz10 H.size) (cwV 1 S.2.2.2.2 (lw_V q357 q358 q359 q68 q360) rfl rfl rfl (by decide +kernel) ⟨Nat.le_of_ble_eq_true rfl, Nat.le_of_ble_eq_true rfl⟩) (ti_preXV (xp := fun _ => True) hE hP hD hS rfl hZ hAz trivial [8, 9, 10, 11, 12, 13, 2, 3, 4] rfl rfl 8 rfl rfl) rfl rfl hl.1 rfl (lv_room (Nat.le_of_ble_eq_true rfl)) dX0_asks_10 ⟨Nat.le_of_ble_eq_true rfl, Nat.le_of_ble_eq_true rfl⟩) hP hD hS hA [8, 9, 10, 11, 12, 13, 2, 3, 4] rfl (fun _ => rfl) (fun _ => rfl) (fun _ _ _ h9 => absurd h9 id) (fun we H locs ce hpx hxx hFr hP hD hPe hnew hS hce hcv hcl => ?_)
      have hP : va_P D vwCl (ti_wMJF E ad dh du dv jh ju jv kh ku kv tx hi xi xf) H := ti_asP hP [.inl 0, .inl 1, .inr 6, .inr 7, .inr 8, .inl 5, .inl 6, .inl 7, .inr 0, .inr 1, .inr 2, .inr 3, .inr 4, .inr 5] rfl rfl rfl rfl
      have hD : va_D A (ti_wMJF E ad dh du dv jh ju jv kh ku kv tx hi xi xf) := ti_asD hD [.inl 0, .inl 1, .inr 6, .inr 7, .inr 8, .inl 5, .inl 6, .inl 7, .inr 0, .inr 1, .inr 2, .inr 3, .inr 4, .inr 5] rfl rfl rfl rfl
      rw [hQ]
      exact ty_out (fun x hx9 => absurd (htab x hx9) id) hlk hce hcv hcl (fun t ht hal => ⟨we, rfl, rfl, trivial, by rw [ht]; exact hP, by rw [ht]; exact hPe, fun k9 z9 hz9 => Nat.le_trans hsz0 (hnew k9 z9 hz9), by rw [ht]; exact hxx, hS.F ht⟩) hS.2.2 (Nat.le_of_ble_eq_true rfl) (Nat.le_of_ble_eq_true rfl)
    · skip
      have hz1 : 0 < xi.2.2 0 := Nat.pos_of_ne_zero hz10
      have hnd9 : (ti_gr (xi.1 0) (xi.2.1 0) 0 (xi.2.2 0)).Nodup := by have h9 := hnd 0 (by decide); rw [← hJ 0 (by decide)] at h9; exact h9
      have hN9 : ti_r2 (ti_gr (xi.1 0) (xi.2.1 0) 0 (xi.2.2 0)) 9999 (List.range' 1 9) ≤ 6 := Nat.le_trans (ti_r2_le hnd9 9999) (by rw [ti_gr_len]; exact (hxi.2.2 0))
      refine ti_mV (As := [.ref (jh 0)]) (rest := []) S hE hP hD hS hA [8, 9, 10, 11, 12, 13, 2, 3, 4] rfl (met_X2_looks l D E (ad 5) (ad 6) (ad 7) (ad 8) (ad 9) (ad 10) xf.1 xf.2.1 xf.2.2.1 xf.2.2.2.1 xf.2.2.2.2.1 xf.2.2.2.2.2.1 xf.2.2.2.2.2.2.1 xf.2.2.2.2.2.2.2.1 xf.2.2.2.2.2.2.2.2.1 xf.2.2.2.2.2.2.2.2.2 (jh 0) (ju 0) (jv 0) (xi.1 0) (xi.2.1 0) (xi.2.2 0) (hxi.2.2 0) (hxi.1 0) (hxi.2.1 0) hxf.1 hxf.2.1 hxf.2.2.1 hxf.2.2.2.1 hz1 hN9) rfl (fun _ => rfl) (lw_V q357 q358 q359 q68 q360) 1 rfl 8 rfl rfl (by decide +kernel) ⟨Nat.le_of_ble_eq_true rfl, Nat.le_of_ble_eq_true rfl⟩ hl.1 rfl (Nat.le_of_ble_eq_true rfl) ⟨Nat.le_of_ble_eq_true rfl, Nat.le_of_ble_eq_true rfl⟩ dX0_asks_10 (fun u1 H locs hu hP hD hS => ?_)
      obtain ⟨hF1, hF2, hF3, hF4, hF5⟩ := hu
      have hFF : ti_fr u1.1 u1.2.1 u1.2.2.1 0 u1.2.2.2 = ti_FF (ti_gr (xi.1 0) (xi.2.1 0) 0 (xi.2.2 0)) := by rw [hF1]; exact ti_fxm (by rw [ti_gr_len]; exact hz1) (ti_gr_9 (hxi.1 0) (hxi.2.1 0) 0 _)
      have hFo : ti_Fok (Value.ref (jh 0), u1.1, u1.2.1, u1.2.2.1, u1.2.2.2, xf.2.2.2.2.2.1, xf.2.2.2.2.2.2.1, xf.2.2.2.2.2.2.2.1, xf.2.2.2.2.2.2.2.2.1, xf.2.2.2.2.2.2.2.2.2) := ⟨hF2, hF3, hF4, hF5, hxf.2.2.2.2⟩
      have hP : va_P D vwCl (ti_wMJF E ad dh du dv jh ju jv kh ku kv tx hi xi (Value.ref (jh 0), u1.1, u1.2.1, u1.2.2.1, u1.2.2.2, xf.2.2.2.2.2.1, xf.2.2.2.2.2.2.1, xf.2.2.2.2.2.2.2.1, xf.2.2.2.2.2.2.2.2.1, xf.2.2.2.2.2.2.2.2.2)) H := ti_asP hP [.inl 0, .inl 1, .inr 6, .inr 7, .inr 8, .inl 5, .inl 6, .inl 7, .inr 0, .inr 1, .inr 2, .inr 3, .inr 4, .inr 5] rfl rfl rfl rfl
      have hD : va_D A (ti_wMJF E ad dh du dv jh ju jv kh ku kv tx hi xi (Value.ref (jh 0), u1.1, u1.2.1, u1.2.2.1, u1.2.2.2, xf.2.2.2.2.2.1, xf.2.2.2.2.2.2.1, xf.2.2.2.2.2.2.2.1, xf.2.2.2.2.2.2.2.2.1, xf.2.2.2.2.2.2.2.2.2)) := ti_asD hD [.inl 0, .inl 1, .inr 6, .inr 7, .inr 8, .inl 5, .inl 6, .inl 7, .inr 0, .inr 1, .inr 2, .inr 3, .inr 4, .inr 5] rfl rfl rfl rfl
      refine W.eq (g2 := F0 m 13 ls [.ref (ad 5)]) rfl ?_
      exact absurd hpos (by omega)
  · skip
    refine lv_iload_n hx hb dX0_asks_8 rfl (lv_at hl 1 rfl) ?_
    refine tn_aald hx hb hK hP 1 5 rfl rfl (by omega) (by decide) dX0_asks_9 ?_
    by_cases hz10 : xi.2.2 1 = 0
    · skip
      refine ti_callX (ty_runV (As := [.ref (jh 1)]) (rest := []) S (met_X2_looks_z l D E htr z0 (ad 5) (ad 6) (ad 7) (ad 8) (ad 9) (ad 10) xf.1 xf.2.1 xf.2.2.1 xf.2.2.2.1 xf.2.2.2.2.1 xf.2.2.2.2.2.1 xf.2.2.2.2.2.2.1 xf.2.2.2.2.2.2.2.1 xf.2.2.2.2.2.2.2.2.1 xf.2.2.2.2.2.2.2.2.2 (jh 1) (ju 1) (jv 1) (xi.1 1) (xi.2.1 1) (xi.2.2 1) hz10 H.size) (cwV 1 S.2.2.2.2 (lw_V q357 q358 q359 q68 q360) rfl rfl rfl (by decide +kernel) ⟨Nat.le_of_ble_eq_true rfl, Nat.le_of_ble_eq_true rfl⟩) (ti_preXV (xp := fun _ => True) hE hP hD hS rfl hZ hAz trivial [8, 9, 10, 11, 12, 13, 5, 6, 7] rfl rfl 8 rfl rfl) rfl rfl hl.1 rfl (lv_room (Nat.le_of_ble_eq_true rfl)) dX0_asks_10 ⟨Nat.le_of_ble_eq_true rfl, Nat.le_of_ble_eq_true rfl⟩) hP hD hS hA [8, 9, 10, 11, 12, 13, 5, 6, 7] rfl (fun _ => rfl) (fun _ => rfl) (fun _ _ _ h9 => absurd h9 id) (fun we H locs ce hpx hxx hFr hP hD hPe hnew hS hce hcv hcl => ?_)
      have hP : va_P D vwCl (ti_wMJF E ad dh du dv jh ju jv kh ku kv tx hi xi xf) H := ti_asP hP [.inl 0, .inl 1, .inl 2, .inl 3, .inl 4, .inr 6, .inr 7, .inr 8, .inr 0, .inr 1, .inr 2, .inr 3, .inr 4, .inr 5] rfl rfl rfl rfl
      have hD : va_D A (ti_wMJF E ad dh du dv jh ju jv kh ku kv tx hi xi xf) := ti_asD hD [.inl 0, .inl 1, .inl 2, .inl 3, .inl 4, .inr 6, .inr 7, .inr 8, .inr 0, .inr 1, .inr 2, .inr 3, .inr 4, .inr 5] rfl rfl rfl rfl
      rw [hQ]
      exact ty_out (fun x hx9 => absurd (htab x hx9) id) hlk hce hcv hcl (fun t ht hal => ⟨we, rfl, rfl, trivial, by rw [ht]; exact hP, by rw [ht]; exact hPe, fun k9 z9 hz9 => Nat.le_trans hsz0 (hnew k9 z9 hz9), by rw [ht]; exact hxx, hS.F ht⟩) hS.2.2 (Nat.le_of_ble_eq_true rfl) (Nat.le_of_ble_eq_true rfl)
    · skip
      have hz1 : 0 < xi.2.2 1 := Nat.pos_of_ne_zero hz10
      have hnd9 : (ti_gr (xi.1 1) (xi.2.1 1) 0 (xi.2.2 1)).Nodup := by have h9 := hnd 1 (by decide); rw [← hJ 1 (by decide)] at h9; exact h9
      have hN9 : ti_r2 (ti_gr (xi.1 1) (xi.2.1 1) 0 (xi.2.2 1)) 9999 (List.range' 1 9) ≤ 6 := Nat.le_trans (ti_r2_le hnd9 9999) (by rw [ti_gr_len]; exact (hxi.2.2 1))
      refine ti_mV (As := [.ref (jh 1)]) (rest := []) S hE hP hD hS hA [8, 9, 10, 11, 12, 13, 5, 6, 7] rfl (met_X2_looks l D E (ad 5) (ad 6) (ad 7) (ad 8) (ad 9) (ad 10) xf.1 xf.2.1 xf.2.2.1 xf.2.2.2.1 xf.2.2.2.2.1 xf.2.2.2.2.2.1 xf.2.2.2.2.2.2.1 xf.2.2.2.2.2.2.2.1 xf.2.2.2.2.2.2.2.2.1 xf.2.2.2.2.2.2.2.2.2 (jh 1) (ju 1) (jv 1) (xi.1 1) (xi.2.1 1) (xi.2.2 1) (hxi.2.2 1) (hxi.1 1) (hxi.2.1 1) hxf.1 hxf.2.1 hxf.2.2.1 hxf.2.2.2.1 hz1 hN9) rfl (fun _ => rfl) (lw_V q357 q358 q359 q68 q360) 1 rfl 8 rfl rfl (by decide +kernel) ⟨Nat.le_of_ble_eq_true rfl, Nat.le_of_ble_eq_true rfl⟩ hl.1 rfl (Nat.le_of_ble_eq_true rfl) ⟨Nat.le_of_ble_eq_true rfl, Nat.le_of_ble_eq_true rfl⟩ dX0_asks_10 (fun u1 H locs hu hP hD hS => ?_)
      obtain ⟨hF1, hF2, hF3, hF4, hF5⟩ := hu
      have hFF : ti_fr u1.1 u1.2.1 u1.2.2.1 0 u1.2.2.2 = ti_FF (ti_gr (xi.1 1) (xi.2.1 1) 0 (xi.2.2 1)) := by rw [hF1]; exact ti_fxm (by rw [ti_gr_len]; exact hz1) (ti_gr_9 (hxi.1 1) (hxi.2.1 1) 0 _)
      have hFo : ti_Fok (Value.ref (jh 1), u1.1, u1.2.1, u1.2.2.1, u1.2.2.2, xf.2.2.2.2.2.1, xf.2.2.2.2.2.2.1, xf.2.2.2.2.2.2.2.1, xf.2.2.2.2.2.2.2.2.1, xf.2.2.2.2.2.2.2.2.2) := ⟨hF2, hF3, hF4, hF5, hxf.2.2.2.2⟩
      have hP : va_P D vwCl (ti_wMJF E ad dh du dv jh ju jv kh ku kv tx hi xi (Value.ref (jh 1), u1.1, u1.2.1, u1.2.2.1, u1.2.2.2, xf.2.2.2.2.2.1, xf.2.2.2.2.2.2.1, xf.2.2.2.2.2.2.2.1, xf.2.2.2.2.2.2.2.2.1, xf.2.2.2.2.2.2.2.2.2)) H := ti_asP hP [.inl 0, .inl 1, .inl 2, .inl 3, .inl 4, .inr 6, .inr 7, .inr 8, .inr 0, .inr 1, .inr 2, .inr 3, .inr 4, .inr 5] rfl rfl rfl rfl
      have hD : va_D A (ti_wMJF E ad dh du dv jh ju jv kh ku kv tx hi xi (Value.ref (jh 1), u1.1, u1.2.1, u1.2.2.1, u1.2.2.2, xf.2.2.2.2.2.1, xf.2.2.2.2.2.2.1, xf.2.2.2.2.2.2.2.1, xf.2.2.2.2.2.2.2.2.1, xf.2.2.2.2.2.2.2.2.2)) := ti_asD hD [.inl 0, .inl 1, .inl 2, .inl 3, .inl 4, .inr 6, .inr 7, .inr 8, .inr 0, .inr 1, .inr 2, .inr 3, .inr 4, .inr 5] rfl rfl rfl rfl
      refine W.eq (g2 := F0 m 13 ls [.ref (ad 5)]) rfl ?_
      exact absurd hpos (by omega)

set_option maxHeartbeats 2000000 in
theorem met_X0_asks_x (l : Launch) (D : va_G) (E : Nat → ClassId) (htr : l.stackTraces = false) (z0 : Nat) (ad dh du dv jh ju jv kh ku kv : Nat → Nat) (tx : Nat) (hi : Bool) (xi : ti_Ti) (xf : ti_Tf) (hxi : ti_Jok xi) (I : Nat → ti_GL) (hJ : ti_JI xi I) (hxf : ti_Fok xf) (hnd : ∀ i, i < 2 → (I i).Nodup) (i : Nat) (hi2 : i < 2) (a b : Nat) (ha9 : a ≤ 9) (hb9 : b ≤ 9) (num den : Nat) (hnum : num ≤ 99) (hden : den ≤ 99) (hpos : 0 < xi.2.2 i) (f : Nat) (hsome : ti_fb a b num den (ti_FF (I i)) 0 = some f) : ti_MetX (σ := Unit) (τ := ti_Tf × (Nat × Nat × Nat × Nat × Nat) × (Value × Value) × (Value × Value) × (Value × Value) × (Value × Value) × (Value × Value)) l D E yX0_asks (ws_ yX0_asks cX0_asks 6 none) 10 6 41 z0 (ti_wMJF E ad dh du dv jh ju jv kh ku kv tx hi xi xf) [.ref (ad 0), .int (nI i), .int (nI a), .int (nI b), .int (nI num), .int (nI den)] (fun _ => True) (fun _ => ti_wMJF E ad dh du dv jh ju jv kh ku kv tx hi xi xf) (fun _ => none) (fun _ => False) (fun _ _ => True) (fun w => RX14) (fun w => w.2.1.1) (fun w => ti_wMJF E ad dh du dv jh ju jv kh ku kv tx hi xi w.1) (fun w => ti_w5 w.2.1.1 w.2.1.2.1 w.2.1.2.2.1 w.2.1.2.2.2.1 w.2.1.2.2.2.2 w.2.2.1 w.2.2.2.1 w.2.2.2.2.1 w.2.2.2.2.2.1 w.2.2.2.2.2.2 (nI f) (nI (ti_wt ((ti_FF (I i)).getD f (0, 0, 0)) a b)) (nI ((ti_FF (I i)).getD f (0, 0, 0)).2.2) (nI num) (nI den)) (fun w => ti_Fok w.1) (fun w H => ti_free w.2.1.1 H ∧ ti_free w.2.1.2.1 H ∧ ti_free w.2.1.2.2.1 H ∧ ti_free w.2.1.2.2.2.1 H ∧ ti_free w.2.1.2.2.2.2 H ∧ w.2.1.2.1 < w.2.1.2.2.1 ∧ w.2.1.2.2.1 < w.2.1.2.2.2.1 ∧ w.2.1.2.2.2.1 < w.2.1.2.2.2.2 ∧ w.2.1.2.2.2.2 < w.2.1.1) := by
  refine ti_metX (by decide) (Nat.le_of_ble_eq_true rfl) ?_
  intro p e s m below meth c H A Q ls S hE hP hD hS hA hZ hAz hx0 htab hl hret hq
  obtain ⟨hQ, hr, hlk, hinit⟩ := hq
  have hsz0 := hS.1
  have hx := S.1
  have hb := S.2.1
  have hown := S.2.2.2.1
  have hts := S.2.2.2.2
  have hK := hE.1
  have hl : lv_has ls 6 [(0, .ref (ad 0)), (1, .int (nI i)), (2, .int (nI a)), (3, .int (nI b)), (4, .int (nI num)), (5, .int (nI den))] := hl
  refine lv_aload_n hx hb dX0_asks_0 rfl (lv_at hl 0 rfl) ?_
  refine va_get (v := .ref (ad 5)) hx hb hts in_X0 hown hK hP 0 rfl rfl 2 (by decide) (hts _ q239) (fun _ h => h) rfl dX0_asks_1 ?_
  refine lv_aload_n hx hb dX0_asks_4 rfl (lv_at hl 0 rfl) ?_
  refine va_get (v := .ref (ad 1)) hx hb hts in_X0 hown hK hP 0 rfl rfl 0 (by decide) (hts _ q237) (fun _ h => h) rfl dX0_asks_5 ?_
  rcases (show i = 0 ∨ i = 1 by omega) with rfl | rfl
  · skip
    refine lv_iload_n hx hb dX0_asks_8 rfl (lv_at hl 1 rfl) ?_
    refine tn_aald hx hb hK hP 1 5 rfl rfl (by omega) (by decide) dX0_asks_9 ?_
    by_cases hz10 : xi.2.2 0 = 0
    · skip
      refine ti_callX (ty_runV (As := [.ref (jh 0)]) (rest := []) S (met_X2_looks_z l D E htr z0 (ad 5) (ad 6) (ad 7) (ad 8) (ad 9) (ad 10) xf.1 xf.2.1 xf.2.2.1 xf.2.2.2.1 xf.2.2.2.2.1 xf.2.2.2.2.2.1 xf.2.2.2.2.2.2.1 xf.2.2.2.2.2.2.2.1 xf.2.2.2.2.2.2.2.2.1 xf.2.2.2.2.2.2.2.2.2 (jh 0) (ju 0) (jv 0) (xi.1 0) (xi.2.1 0) (xi.2.2 0) hz10 H.size) (cwV 1 S.2.2.2.2 (lw_V q357 q358 q359 q68 q360) rfl rfl rfl (by decide +kernel) ⟨Nat.le_of_ble_eq_true rfl, Nat.le_of_ble_eq_true rfl⟩) (ti_preXV (xp := fun _ => True) hE hP hD hS rfl hZ hAz trivial [8, 9, 10, 11, 12, 13, 2, 3, 4] rfl rfl 8 rfl rfl) rfl rfl hl.1 rfl (lv_room (Nat.le_of_ble_eq_true rfl)) dX0_asks_10 ⟨Nat.le_of_ble_eq_true rfl, Nat.le_of_ble_eq_true rfl⟩) hP hD hS hA [8, 9, 10, 11, 12, 13, 2, 3, 4] rfl (fun _ => rfl) (fun _ => rfl) (fun _ _ _ h9 => absurd h9 id) (fun we H locs ce hpx hxx hFr hP hD hPe hnew hS hce hcv hcl => ?_)
      have hP : va_P D vwCl (ti_wMJF E ad dh du dv jh ju jv kh ku kv tx hi xi xf) H := ti_asP hP [.inl 0, .inl 1, .inr 6, .inr 7, .inr 8, .inl 5, .inl 6, .inl 7, .inr 0, .inr 1, .inr 2, .inr 3, .inr 4, .inr 5] rfl rfl rfl rfl
      have hD : va_D A (ti_wMJF E ad dh du dv jh ju jv kh ku kv tx hi xi xf) := ti_asD hD [.inl 0, .inl 1, .inr 6, .inr 7, .inr 8, .inl 5, .inl 6, .inl 7, .inr 0, .inr 1, .inr 2, .inr 3, .inr 4, .inr 5] rfl rfl rfl rfl
      exact absurd hz10 (by omega)
    · skip
      have hz1 : 0 < xi.2.2 0 := Nat.pos_of_ne_zero hz10
      have hnd9 : (ti_gr (xi.1 0) (xi.2.1 0) 0 (xi.2.2 0)).Nodup := by have h9 := hnd 0 (by decide); rw [← hJ 0 (by decide)] at h9; exact h9
      have hN9 : ti_r2 (ti_gr (xi.1 0) (xi.2.1 0) 0 (xi.2.2 0)) 9999 (List.range' 1 9) ≤ 6 := Nat.le_trans (ti_r2_le hnd9 9999) (by rw [ti_gr_len]; exact (hxi.2.2 0))
      refine ti_mV (As := [.ref (jh 0)]) (rest := []) S hE hP hD hS hA [8, 9, 10, 11, 12, 13, 2, 3, 4] rfl (met_X2_looks l D E (ad 5) (ad 6) (ad 7) (ad 8) (ad 9) (ad 10) xf.1 xf.2.1 xf.2.2.1 xf.2.2.2.1 xf.2.2.2.2.1 xf.2.2.2.2.2.1 xf.2.2.2.2.2.2.1 xf.2.2.2.2.2.2.2.1 xf.2.2.2.2.2.2.2.2.1 xf.2.2.2.2.2.2.2.2.2 (jh 0) (ju 0) (jv 0) (xi.1 0) (xi.2.1 0) (xi.2.2 0) (hxi.2.2 0) (hxi.1 0) (hxi.2.1 0) hxf.1 hxf.2.1 hxf.2.2.1 hxf.2.2.2.1 hz1 hN9) rfl (fun _ => rfl) (lw_V q357 q358 q359 q68 q360) 1 rfl 8 rfl rfl (by decide +kernel) ⟨Nat.le_of_ble_eq_true rfl, Nat.le_of_ble_eq_true rfl⟩ hl.1 rfl (Nat.le_of_ble_eq_true rfl) ⟨Nat.le_of_ble_eq_true rfl, Nat.le_of_ble_eq_true rfl⟩ dX0_asks_10 (fun u1 H locs hu hP hD hS => ?_)
      obtain ⟨hF1, hF2, hF3, hF4, hF5⟩ := hu
      have hFF : ti_fr u1.1 u1.2.1 u1.2.2.1 0 u1.2.2.2 = ti_FF (ti_gr (xi.1 0) (xi.2.1 0) 0 (xi.2.2 0)) := by rw [hF1]; exact ti_fxm (by rw [ti_gr_len]; exact hz1) (ti_gr_9 (hxi.1 0) (hxi.2.1 0) 0 _)
      have hFo : ti_Fok (Value.ref (jh 0), u1.1, u1.2.1, u1.2.2.1, u1.2.2.2, xf.2.2.2.2.2.1, xf.2.2.2.2.2.2.1, xf.2.2.2.2.2.2.2.1, xf.2.2.2.2.2.2.2.2.1, xf.2.2.2.2.2.2.2.2.2) := ⟨hF2, hF3, hF4, hF5, hxf.2.2.2.2⟩
      have hP : va_P D vwCl (ti_wMJF E ad dh du dv jh ju jv kh ku kv tx hi xi (Value.ref (jh 0), u1.1, u1.2.1, u1.2.2.1, u1.2.2.2, xf.2.2.2.2.2.1, xf.2.2.2.2.2.2.1, xf.2.2.2.2.2.2.2.1, xf.2.2.2.2.2.2.2.2.1, xf.2.2.2.2.2.2.2.2.2)) H := ti_asP hP [.inl 0, .inl 1, .inr 6, .inr 7, .inr 8, .inl 5, .inl 6, .inl 7, .inr 0, .inr 1, .inr 2, .inr 3, .inr 4, .inr 5] rfl rfl rfl rfl
      have hD : va_D A (ti_wMJF E ad dh du dv jh ju jv kh ku kv tx hi xi (Value.ref (jh 0), u1.1, u1.2.1, u1.2.2.1, u1.2.2.2, xf.2.2.2.2.2.1, xf.2.2.2.2.2.2.1, xf.2.2.2.2.2.2.2.1, xf.2.2.2.2.2.2.2.2.1, xf.2.2.2.2.2.2.2.2.2)) := ti_asD hD [.inl 0, .inl 1, .inr 6, .inr 7, .inr 8, .inl 5, .inl 6, .inl 7, .inr 0, .inr 1, .inr 2, .inr 3, .inr 4, .inr 5] rfl rfl rfl rfl
      refine W.eq (g2 := F0 m 13 ls [.ref (ad 5)]) rfl ?_
      refine lv_iload_n hx hb dX0_asks_13 rfl (lv_at hl 2 rfl) ?_
      refine lv_iload_n hx hb dX0_asks_14 rfl (lv_at hl 3 rfl) ?_
      refine lv_iload hx hb dX0_asks_15 (lv_at hl 4 rfl) ?_
      refine lv_iload hx hb dX0_asks_17 (lv_at hl 5 rfl) ?_
      have hfr9 : ti_fr u1.1 u1.2.1 u1.2.2.1 0 u1.2.2.2 = ti_FF (I 0) := by rw [hFF, show (ti_gr (xi.1 0) (xi.2.1 0) 0 (xi.2.2 0)) = I 0 from hJ 0 (by decide)]
      have hsz1 := hS.1
      refine ti_callX (ty_runV (As := [.int (nI a), .int (nI b), .int (nI num), .int (nI den)]) (rest := []) S (met_X2_bars_x l D E htr z0 (ad 5) (ad 6) (ad 7) (ad 8) (ad 9) (ad 10) (Value.ref (jh 0)) u1.1 u1.2.1 u1.2.2.1 u1.2.2.2 xf.2.2.2.2.2.1 xf.2.2.2.2.2.2.1 xf.2.2.2.2.2.2.2.1 xf.2.2.2.2.2.2.2.2.1 xf.2.2.2.2.2.2.2.2.2 hFo.1 hFo.2.1 hFo.2.2.1 hFo.2.2.2.1 a b ha9 hb9 num den hnum hden f (by rw [hfr9]; exact hsome) H.size) (cwV 4 S.2.2.2.2 (lw_V q643 q644 q645 q68 q646) rfl rfl rfl (by decide +kernel) ⟨Nat.le_of_ble_eq_true rfl, Nat.le_of_ble_eq_true rfl⟩) (ti_preXV (xp := fun _ => True) hE hP hD hS rfl hZ hAz trivial [8, 9, 10, 11, 12, 13] rfl rfl 8 rfl rfl) rfl rfl hl.1 rfl (lv_room (Nat.le_of_ble_eq_true rfl)) dX0_asks_19 ⟨Nat.le_of_ble_eq_true rfl, Nat.le_of_ble_eq_true rfl⟩) hP hD hS hA [8, 9, 10, 11, 12, 13] rfl (fun _ => rfl) (fun _ => rfl) (fun _ _ _ h9 => absurd h9 id) (fun w H locs ce hpx hxx hFr hP hD hPe hnew hS hce hcv hcl => ?_)
      have hP : va_P D vwCl (ti_wMJF E ad dh du dv jh ju jv kh ku kv tx hi xi (Value.ref (jh 0), u1.1, u1.2.1, u1.2.2.1, u1.2.2.2, xf.2.2.2.2.2.1, xf.2.2.2.2.2.2.1, xf.2.2.2.2.2.2.2.1, xf.2.2.2.2.2.2.2.2.1, xf.2.2.2.2.2.2.2.2.2)) H := hP
      have hD : va_D A (ti_wMJF E ad dh du dv jh ju jv kh ku kv tx hi xi (Value.ref (jh 0), u1.1, u1.2.1, u1.2.2.1, u1.2.2.2, xf.2.2.2.2.2.1, xf.2.2.2.2.2.2.1, xf.2.2.2.2.2.2.2.1, xf.2.2.2.2.2.2.2.2.1, xf.2.2.2.2.2.2.2.2.2)) := hD
      have hfl := ti_fb_lt _ _ _ _ _ _ _ hsome
      have hgd : (ti_FF (I 0)).getD f (0, 0, 0) = (u1.1 f, u1.2.1 f, u1.2.2.1 f) := by rw [← hfr9] at hfl ⊢; rw [ti_fr_len, Nat.zero_add] at hfl; exact ti_fr_getD hfl
      rw [hQ]
      exact ty_out (fun x hx9 => absurd (htab x hx9) id) hlk hce hcv hcl (fun t ht hal => ⟨((Value.ref (jh 0), u1.1, u1.2.1, u1.2.2.1, u1.2.2.2, xf.2.2.2.2.2.1, xf.2.2.2.2.2.2.1, xf.2.2.2.2.2.2.2.1, xf.2.2.2.2.2.2.2.2.1, xf.2.2.2.2.2.2.2.2.2), w), rfl, rfl, hFo, by rw [ht]; exact hP, by rw [ht]; rw [hgd]; exact hPe, fun k9 z9 hz9 => Nat.le_trans hsz1 (hnew k9 z9 (by rw [hgd] at hz9; exact hz9)), by rw [ht]; exact hxx, hS.F ht⟩) hS.2.2 (Nat.le_of_ble_eq_true rfl) (Nat.le_of_ble_eq_true rfl)
  · skip
    refine lv_iload_n hx hb dX0_asks_8 rfl (lv_at hl 1 rfl) ?_
    refine tn_aald hx hb hK hP 1 5 rfl rfl (by omega) (by decide) dX0_asks_9 ?_
    by_cases hz10 : xi.2.2 1 = 0
    · skip
      refine ti_callX (ty_runV (As := [.ref (jh 1)]) (rest := []) S (met_X2_looks_z l D E htr z0 (ad 5) (ad 6) (ad 7) (ad 8) (ad 9) (ad 10) xf.1 xf.2.1 xf.2.2.1 xf.2.2.2.1 xf.2.2.2.2.1 xf.2.2.2.2.2.1 xf.2.2.2.2.2.2.1 xf.2.2.2.2.2.2.2.1 xf.2.2.2.2.2.2.2.2.1 xf.2.2.2.2.2.2.2.2.2 (jh 1) (ju 1) (jv 1) (xi.1 1) (xi.2.1 1) (xi.2.2 1) hz10 H.size) (cwV 1 S.2.2.2.2 (lw_V q357 q358 q359 q68 q360) rfl rfl rfl (by decide +kernel) ⟨Nat.le_of_ble_eq_true rfl, Nat.le_of_ble_eq_true rfl⟩) (ti_preXV (xp := fun _ => True) hE hP hD hS rfl hZ hAz trivial [8, 9, 10, 11, 12, 13, 5, 6, 7] rfl rfl 8 rfl rfl) rfl rfl hl.1 rfl (lv_room (Nat.le_of_ble_eq_true rfl)) dX0_asks_10 ⟨Nat.le_of_ble_eq_true rfl, Nat.le_of_ble_eq_true rfl⟩) hP hD hS hA [8, 9, 10, 11, 12, 13, 5, 6, 7] rfl (fun _ => rfl) (fun _ => rfl) (fun _ _ _ h9 => absurd h9 id) (fun we H locs ce hpx hxx hFr hP hD hPe hnew hS hce hcv hcl => ?_)
      have hP : va_P D vwCl (ti_wMJF E ad dh du dv jh ju jv kh ku kv tx hi xi xf) H := ti_asP hP [.inl 0, .inl 1, .inl 2, .inl 3, .inl 4, .inr 6, .inr 7, .inr 8, .inr 0, .inr 1, .inr 2, .inr 3, .inr 4, .inr 5] rfl rfl rfl rfl
      have hD : va_D A (ti_wMJF E ad dh du dv jh ju jv kh ku kv tx hi xi xf) := ti_asD hD [.inl 0, .inl 1, .inl 2, .inl 3, .inl 4, .inr 6, .inr 7, .inr 8, .inr 0, .inr 1, .inr 2, .inr 3, .inr 4, .inr 5] rfl rfl rfl rfl
      exact absurd hz10 (by omega)
    · skip
      have hz1 : 0 < xi.2.2 1 := Nat.pos_of_ne_zero hz10
      have hnd9 : (ti_gr (xi.1 1) (xi.2.1 1) 0 (xi.2.2 1)).Nodup := by have h9 := hnd 1 (by decide); rw [← hJ 1 (by decide)] at h9; exact h9
      have hN9 : ti_r2 (ti_gr (xi.1 1) (xi.2.1 1) 0 (xi.2.2 1)) 9999 (List.range' 1 9) ≤ 6 := Nat.le_trans (ti_r2_le hnd9 9999) (by rw [ti_gr_len]; exact (hxi.2.2 1))
      refine ti_mV (As := [.ref (jh 1)]) (rest := []) S hE hP hD hS hA [8, 9, 10, 11, 12, 13, 5, 6, 7] rfl (met_X2_looks l D E (ad 5) (ad 6) (ad 7) (ad 8) (ad 9) (ad 10) xf.1 xf.2.1 xf.2.2.1 xf.2.2.2.1 xf.2.2.2.2.1 xf.2.2.2.2.2.1 xf.2.2.2.2.2.2.1 xf.2.2.2.2.2.2.2.1 xf.2.2.2.2.2.2.2.2.1 xf.2.2.2.2.2.2.2.2.2 (jh 1) (ju 1) (jv 1) (xi.1 1) (xi.2.1 1) (xi.2.2 1) (hxi.2.2 1) (hxi.1 1) (hxi.2.1 1) hxf.1 hxf.2.1 hxf.2.2.1 hxf.2.2.2.1 hz1 hN9) rfl (fun _ => rfl) (lw_V q357 q358 q359 q68 q360) 1 rfl 8 rfl rfl (by decide +kernel) ⟨Nat.le_of_ble_eq_true rfl, Nat.le_of_ble_eq_true rfl⟩ hl.1 rfl (Nat.le_of_ble_eq_true rfl) ⟨Nat.le_of_ble_eq_true rfl, Nat.le_of_ble_eq_true rfl⟩ dX0_asks_10 (fun u1 H locs hu hP hD hS => ?_)
      obtain ⟨hF1, hF2, hF3, hF4, hF5⟩ := hu
      have hFF : ti_fr u1.1 u1.2.1 u1.2.2.1 0 u1.2.2.2 = ti_FF (ti_gr (xi.1 1) (xi.2.1 1) 0 (xi.2.2 1)) := by rw [hF1]; exact ti_fxm (by rw [ti_gr_len]; exact hz1) (ti_gr_9 (hxi.1 1) (hxi.2.1 1) 0 _)
      have hFo : ti_Fok (Value.ref (jh 1), u1.1, u1.2.1, u1.2.2.1, u1.2.2.2, xf.2.2.2.2.2.1, xf.2.2.2.2.2.2.1, xf.2.2.2.2.2.2.2.1, xf.2.2.2.2.2.2.2.2.1, xf.2.2.2.2.2.2.2.2.2) := ⟨hF2, hF3, hF4, hF5, hxf.2.2.2.2⟩
      have hP : va_P D vwCl (ti_wMJF E ad dh du dv jh ju jv kh ku kv tx hi xi (Value.ref (jh 1), u1.1, u1.2.1, u1.2.2.1, u1.2.2.2, xf.2.2.2.2.2.1, xf.2.2.2.2.2.2.1, xf.2.2.2.2.2.2.2.1, xf.2.2.2.2.2.2.2.2.1, xf.2.2.2.2.2.2.2.2.2)) H := ti_asP hP [.inl 0, .inl 1, .inl 2, .inl 3, .inl 4, .inr 6, .inr 7, .inr 8, .inr 0, .inr 1, .inr 2, .inr 3, .inr 4, .inr 5] rfl rfl rfl rfl
      have hD : va_D A (ti_wMJF E ad dh du dv jh ju jv kh ku kv tx hi xi (Value.ref (jh 1), u1.1, u1.2.1, u1.2.2.1, u1.2.2.2, xf.2.2.2.2.2.1, xf.2.2.2.2.2.2.1, xf.2.2.2.2.2.2.2.1, xf.2.2.2.2.2.2.2.2.1, xf.2.2.2.2.2.2.2.2.2)) := ti_asD hD [.inl 0, .inl 1, .inl 2, .inl 3, .inl 4, .inr 6, .inr 7, .inr 8, .inr 0, .inr 1, .inr 2, .inr 3, .inr 4, .inr 5] rfl rfl rfl rfl
      refine W.eq (g2 := F0 m 13 ls [.ref (ad 5)]) rfl ?_
      refine lv_iload_n hx hb dX0_asks_13 rfl (lv_at hl 2 rfl) ?_
      refine lv_iload_n hx hb dX0_asks_14 rfl (lv_at hl 3 rfl) ?_
      refine lv_iload hx hb dX0_asks_15 (lv_at hl 4 rfl) ?_
      refine lv_iload hx hb dX0_asks_17 (lv_at hl 5 rfl) ?_
      have hfr9 : ti_fr u1.1 u1.2.1 u1.2.2.1 0 u1.2.2.2 = ti_FF (I 1) := by rw [hFF, show (ti_gr (xi.1 1) (xi.2.1 1) 0 (xi.2.2 1)) = I 1 from hJ 1 (by decide)]
      have hsz1 := hS.1
      refine ti_callX (ty_runV (As := [.int (nI a), .int (nI b), .int (nI num), .int (nI den)]) (rest := []) S (met_X2_bars_x l D E htr z0 (ad 5) (ad 6) (ad 7) (ad 8) (ad 9) (ad 10) (Value.ref (jh 1)) u1.1 u1.2.1 u1.2.2.1 u1.2.2.2 xf.2.2.2.2.2.1 xf.2.2.2.2.2.2.1 xf.2.2.2.2.2.2.2.1 xf.2.2.2.2.2.2.2.2.1 xf.2.2.2.2.2.2.2.2.2 hFo.1 hFo.2.1 hFo.2.2.1 hFo.2.2.2.1 a b ha9 hb9 num den hnum hden f (by rw [hfr9]; exact hsome) H.size) (cwV 4 S.2.2.2.2 (lw_V q643 q644 q645 q68 q646) rfl rfl rfl (by decide +kernel) ⟨Nat.le_of_ble_eq_true rfl, Nat.le_of_ble_eq_true rfl⟩) (ti_preXV (xp := fun _ => True) hE hP hD hS rfl hZ hAz trivial [8, 9, 10, 11, 12, 13] rfl rfl 8 rfl rfl) rfl rfl hl.1 rfl (lv_room (Nat.le_of_ble_eq_true rfl)) dX0_asks_19 ⟨Nat.le_of_ble_eq_true rfl, Nat.le_of_ble_eq_true rfl⟩) hP hD hS hA [8, 9, 10, 11, 12, 13] rfl (fun _ => rfl) (fun _ => rfl) (fun _ _ _ h9 => absurd h9 id) (fun w H locs ce hpx hxx hFr hP hD hPe hnew hS hce hcv hcl => ?_)
      have hP : va_P D vwCl (ti_wMJF E ad dh du dv jh ju jv kh ku kv tx hi xi (Value.ref (jh 1), u1.1, u1.2.1, u1.2.2.1, u1.2.2.2, xf.2.2.2.2.2.1, xf.2.2.2.2.2.2.1, xf.2.2.2.2.2.2.2.1, xf.2.2.2.2.2.2.2.2.1, xf.2.2.2.2.2.2.2.2.2)) H := hP
      have hD : va_D A (ti_wMJF E ad dh du dv jh ju jv kh ku kv tx hi xi (Value.ref (jh 1), u1.1, u1.2.1, u1.2.2.1, u1.2.2.2, xf.2.2.2.2.2.1, xf.2.2.2.2.2.2.1, xf.2.2.2.2.2.2.2.1, xf.2.2.2.2.2.2.2.2.1, xf.2.2.2.2.2.2.2.2.2)) := hD
      have hfl := ti_fb_lt _ _ _ _ _ _ _ hsome
      have hgd : (ti_FF (I 1)).getD f (0, 0, 0) = (u1.1 f, u1.2.1 f, u1.2.2.1 f) := by rw [← hfr9] at hfl ⊢; rw [ti_fr_len, Nat.zero_add] at hfl; exact ti_fr_getD hfl
      rw [hQ]
      exact ty_out (fun x hx9 => absurd (htab x hx9) id) hlk hce hcv hcl (fun t ht hal => ⟨((Value.ref (jh 1), u1.1, u1.2.1, u1.2.2.1, u1.2.2.2, xf.2.2.2.2.2.1, xf.2.2.2.2.2.2.1, xf.2.2.2.2.2.2.2.1, xf.2.2.2.2.2.2.2.2.1, xf.2.2.2.2.2.2.2.2.2), w), rfl, rfl, hFo, by rw [ht]; exact hP, by rw [ht]; rw [hgd]; exact hPe, fun k9 z9 hz9 => Nat.le_trans hsz1 (hnew k9 z9 (by rw [hgd] at hz9; exact hz9)), by rw [ht]; exact hxx, hS.F ht⟩) hS.2.2 (Nat.le_of_ble_eq_true rfl) (Nat.le_of_ble_eq_true rfl)
