/-! calls over the whole world; the model's cells -/
set_option maxRecDepth 100000
section TWA
variable {σ : Type} {p : Program} {l : Launch} {e : Env} {R : Room} {s : State} {m : MethodId} {args : Array Value} {below : List Frame} {meth : Method} {c : Code} {H H0 : Heap} {locs : List Loc} {cells slots : Nat} {Q : State → Prop}
variable {D : va_G} {E : Nat → ClassId} {y : MethodName} {bytes cc : ByteArray} {maxL nL k mc ms n index : Nat} {ret : Option FieldType} {ws : va_W} {As rest : List Value} {b pc : Nat} {ls : Array Slot} {st0 : List Value} {own host C : String} {A : Nat → Prop} {wf : σ → va_W} {val : σ → Option Value} {post : σ → Prop} {v : Value}
theorem ti_pVa (S : CallFix p m c cc nL s args lw_all own) (hE : ti_E D E s) (hP : va_P D vwCl ws H) (hM : ti_MetP l D E y bytes maxL ret k ws (.ref b :: As) (some v))
    (hg : GoodIn lw_all (wsV own index C y (ws_ y bytes maxL ret))) (na : Nat) (hna : As.length = na) (q0 : Nat) {ci : Nat} {fs : List Value} (hb : ws[q0]? = some (b, .inr (ci, fs))) {T : u_T} {N : Nat} (hc : vwCl[ci]? = some (C, T, N))
    (hd : y.cls = C ∧ y.cls ≠ "java/lang/invoke/MethodHandle" ∧ y.cls ≠ "java/lang/invoke/VarHandle" ∧ (parseMethodDescriptor y.desc).map (fun d => d.parameters.length) = some na) (hR : k + 1 ≤ R.frames ∧ 8 + (maxL + 11) + 64 * k ≤ R.locals)
    (hsz : ls.size = nL) (hst : st0 = As.reverse ++ .ref b :: rest) (hW : (rest.map fun v => v.category).sum ≤ 8) (hcs : cells ≤ R.cells ∧ slots ≤ R.slots) (hdg : decode cc pc = .ok (.invokevirtual index, 3))
    (kk : W p l e R s m args below meth c H locs cells slots Q (F0 m (pc + 3) ls (v :: rest))) : W p l e R s m args below meth c H locs cells slots Q (F0 m pc ls st0) := by
  have hr := va_recv hE.1 hP (ci := ci) (q0 := q0) (q := (C, T, N)) hc hb
  refine ti_callR (va_runV S hM (cwV na S.2.2.2.2 hg rfl rfl rfl hd hR) ⟨(ti_preS (Pc := []) hE hP).1, hr, (ti_preS (Pc := []) hE hP).2⟩ rfl hna hsz hst (lv_room hW) hdg hcs) kk
theorem ti_callMa {a : Array Value} (hr : va_Run p l e R s m args below meth c H locs cells slots mc ms (F0 m pc ls st0) rest (ti_Q D wf val post (va_A ws H.size) a) (va_A ws H.size)) (hD : va_D A ws) (hS : va_S A H0 H locs) (hA : ∀ q, H0.size ≤ q → A q) (hwf : ∀ u, (wf u).map (·.1) = ws.map (·.1))
    (kk : ∀ (u : σ) (H : Heap) (locs : List Loc), post u → va_P D vwCl (wf u) H → va_D A (wf u) → va_S A H0 H locs → W p l e R s m args below meth c H locs (cells + mc) (slots + ms) Q (F0 m (pc + 3) ls ((val u).toList ++ rest))) : W p l e R s m args below meth c H locs cells slots Q (F0 m pc ls st0) := by
  intro T hT X
  obtain ⟨v, st₀, t, T', L, h0, X', hL, e1, e2, ⟨⟨u, hv, hp, hb⟩, hz, hk⟩, st⟩ := hr T hT X
  cases hv
  rw [h0] at hz hk
  have hF : ∀ q, va_A ws H.size q → A q := fun q h => by
    rcases h with ⟨k, e9, h⟩ | h
    · exact hD.2 k (q, e9) h
    · exact hA q (Nat.le_trans hS.1 h)
  obtain ⟨t2, a1, b1⟩ := kk u T'.heap (locs ++ L) hp (by rw [e1]; exact hb) (ti_D_addr hD (hwf u))
    ⟨Nat.le_trans hS.1 (by rw [e1]; exact hz), fun q h1 h2 => by rw [e1, hk q (Nat.lt_of_lt_of_le h1 hS.1) (fun z => h2 (hF q z))]; exact hS.2.1 q h1 h2, fun q hq => by
      rcases List.mem_append.mp hq with h | h
      · exact hS.2.2 q h
      · exact hF _ (hL q h)⟩ T' rfl X'
  exact ⟨t2, st t2 a1, b1⟩
theorem ti_mVa (S : CallFix p m c cc nL s args lw_all own) (hE : ti_E D E s) (hP : va_P D vwCl ws H) (hD : va_D A ws) (hS : va_S A H0 H locs) (hA : ∀ q, H0.size ≤ q → A q) (hM : ti_MetM l D E y bytes maxL ret k mc ms ws (.ref b :: As) wf val post) (hwf : ∀ u, (wf u).map (·.1) = ws.map (·.1))
    (hg : GoodIn lw_all (wsV own index C y (ws_ y bytes maxL ret))) (na : Nat) (hna : As.length = na) (q0 : Nat) {ci : Nat} {fs : List Value} (hb : ws[q0]? = some (b, .inr (ci, fs))) {T : u_T} {N : Nat} (hc : vwCl[ci]? = some (C, T, N))
    (hd : y.cls = C ∧ y.cls ≠ "java/lang/invoke/MethodHandle" ∧ y.cls ≠ "java/lang/invoke/VarHandle" ∧ (parseMethodDescriptor y.desc).map (fun d => d.parameters.length) = some na) (hR : k + 1 ≤ R.frames ∧ 8 + (maxL + 11) + 64 * k ≤ R.locals)
    (hsz : ls.size = nL) (hst : st0 = As.reverse ++ .ref b :: rest) (hW : (rest.map fun v => v.category).sum ≤ 8) (hcs : cells + mc ≤ R.cells ∧ slots + ms ≤ R.slots) (hdg : decode cc pc = .ok (.invokevirtual index, 3))
    (kk : ∀ (u : σ) (H : Heap) (locs : List Loc), post u → va_P D vwCl (wf u) H → va_D A (wf u) → va_S A H0 H locs → W p l e R s m args below meth c H locs (cells + mc) (slots + ms) Q (F0 m (pc + 3) ls ((val u).toList ++ rest))) : W p l e R s m args below meth c H locs cells slots Q (F0 m pc ls st0) := by
  have hr := va_recv hE.1 hP (ci := ci) (q0 := q0) (q := (C, T, N)) hc hb
  have hp := ti_preM (As := .ref b :: As) hE hP hD
  exact ti_callMa (va_runV S (hM H.size) (cwV na S.2.2.2.2 hg rfl rfl rfl hd hR) ⟨hp.1, hr, hp.2⟩ rfl hna hsz hst (lv_room hW) hdg hcs) hD hS hA hwf kk
end TWA
abbrev ti_Mg : Type := (Nat → Nat) × (Nat → Nat) × (Nat → Nat)
abbrev ti_Md : Type := Nat × (Nat → Nat) × (Nat → Nat) × (Nat → Nat) × (Nat → Nat)
abbrev ti_Mt : Type := (Nat → Nat) × Nat × Nat × (Nat → Nat)
abbrev ti_Mf : Type := Nat × (Nat → Nat) × (Nat → Nat) × (Nat → Nat)
abbrev ti_Mj : Type := Nat × (Nat → Nat) × (Nat → Nat)
abbrev ti_Mh : Type := (Nat → Nat) × (Nat → Nat) × (Nat → Nat)
abbrev ti_Ms : Type := Nat × (Nat → Nat) × (Nat → Nat) × (Nat → Nat)
abbrev ti_Mv : Type := Nat × (Nat → Nat) × (Nat → Nat)
abbrev ti_Mb : Type := Nat × (Nat → Nat) × (Nat → Nat)
abbrev ti_Mq : Type := (Nat → Int32) × (Nat → Nat) × (Nat → Int64) × (Nat → Int64)
abbrev ti_Mk : Type := Bool × (Nat → Nat) × (Nat → Nat) × (Nat → Nat) × Nat × (Nat → Nat) × Nat × (Nat → Nat) × Nat × (Nat → Nat)
/-- the model's cells -/
abbrev ti_wM (E : Nat → ClassId) (ad : Nat → Nat) (xg : ti_Mg) (xd : ti_Md) (xt : ti_Mt) (xf : ti_Mf) (xj : ti_Mj) (xh : ti_Mh) (xs : ti_Ms) (xv : ti_Mv) (xb : ti_Mb) (xq : ti_Mq) (xk : ti_Mk) : va_W := [(ad 0, .inr (7, [.ref (ad 1), .ref (ad 2), .ref (ad 3), .int (nI xd.1), .ref (ad 4), .ref (ad 5), .ref (ad 6), .ref (ad 7), .ref (ad 8), .int (nI xt.2.1), .int (nI xt.2.2.1), .ref (ad 9), .int (nI xf.1), .ref (ad 10), .ref (ad 11), .ref (ad 12), .int (nI xj.1), .ref (ad 13), .ref (ad 14), .ref (ad 15), .ref (ad 16), .ref (ad 17), .int (nI xs.1), .ref (ad 18), .ref (ad 19), .ref (ad 20), .int (nI xv.1), .ref (ad 21), .ref (ad 22), .int (nI xb.1), .ref (ad 23), .ref (ad 24), .ref (ad 25), .ref (ad 26), .ref (ad 27), .ref (ad 28), .int (ti_b xk.1), .ref (ad 29), .ref (ad 30), .ref (ad 31), .int (nI xk.2.2.2.2.1), .ref (ad 32), .int (nI xk.2.2.2.2.2.2.1), .ref (ad 33), .int (nI xk.2.2.2.2.2.2.2.2.1), .ref (ad 34)])), (ad 1, .inl (E 0, 3, .inl (ti_n xg.1))), (ad 2, .inl (E 0, 18, .inl (ti_n xg.2.1))), (ad 3, .inl (E 0, 18, .inl (ti_n xg.2.2))), (ad 4, .inl (E 0, 10, .inl (ti_n xd.2.1))), (ad 5, .inl (E 0, 10, .inl (ti_n xd.2.2.1))), (ad 6, .inl (E 0, 60, .inl (ti_n xd.2.2.2.1))), (ad 7, .inl (E 0, 60, .inl (ti_n xd.2.2.2.2))), (ad 8, .inl (E 0, 100, .inl (ti_n xt.1))), (ad 9, .inl (E 0, 3, .inl (ti_n xt.2.2.2))), (ad 10, .inl (E 0, 64, .inl (ti_n xf.2.1))), (ad 11, .inl (E 0, 64, .inl (ti_n xf.2.2.1))), (ad 12, .inl (E 0, 64, .inl (ti_n xf.2.2.2))), (ad 13, .inl (E 0, 100, .inl (ti_n xj.2.1))), (ad 14, .inl (E 0, 100, .inl (ti_n xj.2.2))), (ad 15, .inl (E 0, 72, .inl (ti_n xh.1))), (ad 16, .inl (E 0, 72, .inl (ti_n xh.2.1))), (ad 17, .inl (E 0, 72, .inl (ti_n xh.2.2))), (ad 18, .inl (E 0, 4, .inl (ti_n xs.2.1))), (ad 19, .inl (E 0, 4, .inl (ti_n xs.2.2.1))), (ad 20, .inl (E 0, 4, .inl (ti_n xs.2.2.2))), (ad 21, .inl (E 0, 8, .inl (ti_n xv.2.1))), (ad 22, .inl (E 0, 8, .inl (ti_n xv.2.2))), (ad 23, .inl (E 0, 8, .inl (ti_n xb.2.1))), (ad 24, .inl (E 0, 8, .inl (ti_n xb.2.2))), (ad 25, .inl (E 0, 6, .inl xq.1)), (ad 26, .inl (E 0, 6, .inl (ti_n xq.2.1))), (ad 27, .inl (E 3, 360, .inr (.inl xq.2.2.1))), (ad 28, .inl (E 3, 60, .inr (.inl xq.2.2.2))), (ad 29, .inl (E 0, 2, .inl (ti_n xk.2.1))), (ad 30, .inl (E 0, 12, .inl (ti_n xk.2.2.1))), (ad 31, .inl (E 0, 12, .inl (ti_n xk.2.2.2.1))), (ad 32, .inl (E 0, 12, .inl (ti_n xk.2.2.2.2.2.1))), (ad 33, .inl (E 0, 16, .inl (ti_n xk.2.2.2.2.2.2.2.1))), (ad 34, .inl (E 0, 16, .inl (ti_n xk.2.2.2.2.2.2.2.2.2)))]
def ti_Mgok (x : ti_Mg) : Prop := (∀ k, x.1 k ≤ 6) ∧ (∀ k, x.2.1 k ≤ 9) ∧ ∀ k, x.2.2 k ≤ 9
def ti_Mdok (x : ti_Md) : Prop := x.1 ≤ 10 ∧ (∀ k, x.2.1 k ≤ 1) ∧ (∀ k, x.2.2.1 k ≤ 6) ∧ (∀ k, x.2.2.2.1 k ≤ 9) ∧ ∀ k, x.2.2.2.2 k ≤ 9
def ti_Mtok (x : ti_Mt) : Prop := (∀ k, x.1 k ≤ 127) ∧ x.2.1 ≤ 100 ∧ x.2.2.1 ≤ 1000 ∧ ∀ k, x.2.2.2 k ≤ 9
def ti_Mfok (x : ti_Mf) : Prop := x.1 ≤ 64 ∧ (∀ k, x.2.1 k ≤ 9) ∧ (∀ k, x.2.2.1 k ≤ 9) ∧ ∀ k, x.2.2.2 k ≤ 1000
def ti_Mjok (x : ti_Mj) : Prop := x.1 ≤ 100 ∧ (∀ k, x.2.1 k ≤ 1000) ∧ ∀ k, x.2.2 k ≤ 1000
def ti_Mhok (x : ti_Mh) : Prop := (∀ k, x.1 k ≤ 1000) ∧ True ∧ ∀ k, x.2.2 k ≤ 1000
def ti_Msok (x : ti_Ms) : Prop := x.1 ≤ 4 ∧ (∀ k, x.2.1 k ≤ 99) ∧ (∀ k, x.2.2.1 k ≤ 99) ∧ ∀ k, x.2.2.2 k ≤ 99
def ti_Mvok (x : ti_Mv) : Prop := x.1 ≤ 8 ∧ (∀ k, x.2.1 k ≤ 2) ∧ ∀ k, x.2.2 k ≤ 99
def ti_Mbok (x : ti_Mb) : Prop := x.1 ≤ 8 ∧ (∀ k, x.2.1 k ≤ 99) ∧ ∀ k, x.2.2 k ≤ 1
/-- an ideal's rows in the model -/
def ti_ma (x : ti_Mg) (i : Nat) : Nat → Nat := fun k => x.2.1 (6 * i + k)
def ti_mb (x : ti_Mg) (i : Nat) : Nat → Nat := fun k => x.2.2 (6 * i + k)
/-- an ideal's generators in the model -/
abbrev ti_G (x : ti_Mg) (i : Nat) : List (Nat × Nat) := ti_gr (ti_ma x i) (ti_mb x i) 0 (x.1 i)
def ti_pm (o : Option Nat) : Int32 := match o with
  | none => -1
  | some k => nI k
/-! the model's generators and deeds -/
def ti_mcm (x : ti_Mg) (i a b : Nat) : ti_Mg := (va_up x.1 i (x.1 i + 1), va_up x.2.1 (6 * i + x.1 i) a, va_up x.2.2 (6 * i + x.1 i) b)
def ti_mgo (x : ti_Mg) (i k : Nat) : ti_Mg := (va_up x.1 i (x.1 i - 1), ti_sh (6 * i + k) (6 * i + x.1 i - 1) x.2.1, ti_sh (6 * i + k) (6 * i + x.1 i - 1) x.2.2)
def ti_mlk (x : ti_Mg) (i t : Nat) : ti_Mg := (va_up x.1 t (x.1 i), va_cpy x.2.1 x.2.1 (6 * i) (6 * t) 6, va_cpy x.2.2 x.2.2 (6 * i) (6 * t) 6)
theorem ti_mcm_ok {x : ti_Mg} (h : ti_Mgok x) {i a b : Nat} (hi : x.1 i < 6) (ha : a ≤ 9) (hb : b ≤ 9) : ti_Mgok (ti_mcm x i a b) := ⟨ti_up_le h.1 (by omega), ti_up_le h.2.1 ha, ti_up_le h.2.2 hb⟩
theorem ti_mgo_ok {x : ti_Mg} (h : ti_Mgok x) {i k : Nat} : ti_Mgok (ti_mgo x i k) := ⟨ti_up_le h.1 (by have := h.1 i; omega), ti_sh_le h.2.1, ti_sh_le h.2.2⟩
theorem ti_cpy_le {f g : Nat → Nat} {sp dp n B : Nat} (hf : ∀ k, f k ≤ B) (hg : ∀ k, g k ≤ B) : ∀ k, va_cpy f g sp dp n k ≤ B := by
  intro k
  unfold va_cpy
  by_cases h : dp ≤ k ∧ k < dp + n
  · rw [if_pos h]; exact hf _
  · rw [if_neg h]; exact hg _
theorem ti_mlk_ok {x : ti_Mg} (h : ti_Mgok x) {i t : Nat} : ti_Mgok (ti_mlk x i t) := ⟨ti_up_le h.1 (h.1 i), ti_cpy_le h.2.1 h.2.1, ti_cpy_le h.2.2 h.2.2⟩
theorem ti_cpy_s {f g : Nat → Nat} {sp dp k : Nat} {v : Nat} (hv : v = f (sp + k)) : va_up (va_cpy f g sp dp k) (dp + k) v = va_cpy f g sp dp (k + 1) := by
  funext j
  unfold va_up va_cpy
  by_cases hj : j = dp + k
  · subst hj
    rw [if_pos rfl, if_pos (by omega), hv, show dp + k - dp = k by omega]
  · rw [if_neg hj]
    by_cases h2 : dp ≤ j ∧ j < dp + k
    · rw [if_pos h2, if_pos (by omega)]
    · rw [if_neg h2, if_neg (by omega)]
theorem ti_cpy_0 {f g : Nat → Nat} {sp dp : Nat} : va_cpy f g sp dp 0 = g := by
  funext j
  unfold va_cpy
  rw [if_neg (by omega)]
theorem ti_mcm_G {x : ti_Mg} {i a b : Nat} : ti_G (ti_mcm x i a b) i = ti_G x i ++ [(a, b)] := by
  unfold ti_G
  show ti_gr (ti_ma (ti_mcm x i a b) i) (ti_mb (ti_mcm x i a b) i) 0 (va_up x.1 i (x.1 i + 1) i) = _
  rw [va_up_self, ← ti_gr_push]
  refine ti_gr_congr fun j _ => ?_
  unfold ti_ma ti_mb ti_mcm
  dsimp only
  by_cases h : 0 + j = x.1 i
  · rw [h, va_up_self, va_up_self, va_up_self, va_up_self]; exact ⟨rfl, rfl⟩
  · refine ⟨?_, ?_⟩ <;> (unfold va_up; rw [if_neg (by omega), if_neg (by omega)])
theorem ti_mcm_Gn {x : ti_Mg} (hx : ti_Mgok x) {i i' a b : Nat} (hi : x.1 i < 6) (h : i' ≠ i) : ti_G (ti_mcm x i a b) i' = ti_G x i' := by
  have h6 := hx.1 i'
  show ti_gr (ti_ma (ti_mcm x i a b) i') (ti_mb (ti_mcm x i a b) i') 0 (va_up x.1 i (x.1 i + 1) i') = _
  rw [va_up_ne _ _ h]
  refine ti_gr_congr fun j hj => ?_
  unfold ti_ma ti_mb ti_mcm
  dsimp only
  rw [va_up_ne _ _ (by omega), va_up_ne _ _ (by omega)]
  exact ⟨rfl, rfl⟩
theorem ti_mgo_G {x : ti_Mg} {i k : Nat} (hk : k < x.1 i) : ti_G (ti_mgo x i k) i = (ti_G x i).eraseIdx k := by
  show ti_gr (ti_ma (ti_mgo x i k) i) (ti_mb (ti_mgo x i k) i) 0 (va_up x.1 i (x.1 i - 1) i) = _
  rw [va_up_self, ← ti_sh_gr hk]
  refine ti_gr_congr fun j hj => ?_
  unfold ti_ma ti_mb ti_mgo ti_sh
  dsimp only
  by_cases h : k ≤ 0 + j ∧ 0 + j < x.1 i - 1
  · rw [if_pos h, if_pos h, if_pos (by omega), if_pos (by omega)]; exact ⟨rfl, rfl⟩
  · rw [if_neg h, if_neg h, if_neg (by omega), if_neg (by omega)]; exact ⟨rfl, rfl⟩
theorem ti_mgo_Gn {x : ti_Mg} (hx : ti_Mgok x) {i i' k : Nat} (h : i' ≠ i) : ti_G (ti_mgo x i k) i' = ti_G x i' := by
  have h6 := hx.1 i'
  have h7 := hx.1 i
  show ti_gr (ti_ma (ti_mgo x i k) i') (ti_mb (ti_mgo x i k) i') 0 (va_up x.1 i (x.1 i - 1) i') = _
  rw [va_up_ne _ _ h]
  refine ti_gr_congr fun j hj => ?_
  unfold ti_ma ti_mb ti_mgo ti_sh
  dsimp only
  rw [if_neg (by omega), if_neg (by omega)]
  exact ⟨rfl, rfl⟩
theorem ti_mlk_G {x : ti_Mg} (hx : ti_Mgok x) {i t : Nat} : ti_G (ti_mlk x i t) t = ti_G x i := by
  have h6 := hx.1 i
  show ti_gr (ti_ma (ti_mlk x i t) t) (ti_mb (ti_mlk x i t) t) 0 (va_up x.1 t (x.1 i) t) = _
  rw [va_up_self]
  refine ti_gr_congr fun j hj => ?_
  unfold ti_ma ti_mb ti_mlk
  dsimp only
  rw [pk_cpy_in (by omega) (by omega), pk_cpy_in (by omega) (by omega), show 6 * t + (0 + j) - 6 * t = 0 + j by omega]
  exact ⟨rfl, rfl⟩
theorem ti_mlk_Gn {x : ti_Mg} (hx : ti_Mgok x) {i t i' : Nat} (h : i' ≠ t) : ti_G (ti_mlk x i t) i' = ti_G x i' := by
  have h6 := hx.1 i'
  show ti_gr (ti_ma (ti_mlk x i t) i') (ti_mb (ti_mlk x i t) i') 0 (va_up x.1 t (x.1 i) i') = _
  rw [va_up_ne _ _ h]
  refine ti_gr_congr fun j hj => ?_
  unfold ti_ma ti_mb ti_mlk
  dsimp only
  rw [pk_cpy_out (by omega), pk_cpy_out (by omega)]
  exact ⟨rfl, rfl⟩
/-- the model's deeds in their order -/
def ti_mdl (x : ti_Md) (k m : Nat) : List (Nat × List (Nat × Nat)) := (List.range' k m).map fun j => (x.2.1 j, ti_gr (fun k => x.2.2.2.1 (6 * j + k)) (fun k => x.2.2.2.2 (6 * j + k)) 0 (x.2.2.1 j))
theorem ti_mdl_at {x : ti_Md} {k m j : Nat} (h : j < m) : (ti_mdl x k m)[j]? = some (x.2.1 (k + j), ti_gr (fun i => x.2.2.2.1 (6 * (k + j) + i)) (fun i => x.2.2.2.2 (6 * (k + j) + i)) 0 (x.2.2.1 (k + j))) := by
  simp [ti_mdl, h]
theorem ti_mdl_len (x : ti_Md) (k m : Nat) : (ti_mdl x k m).length = m := by simp [ti_mdl]
/-- places moved by six -/
def ti_s6 (m : Nat) (f : Nat → Nat) : Nat → Nat := fun j => if j < m then f (j + 6) else f j
theorem ti_s6_0 (f : Nat → Nat) : ti_s6 0 f = f := by
  funext j
  unfold ti_s6
  rw [if_neg (by omega)]
theorem ti_s6_up {k : Nat} (hk : 6 ≤ k) (f : Nat → Nat) : va_up (ti_s6 (k - 6) f) (k - 6) (ti_s6 (k - 6) f k) = ti_s6 (k + 1 - 6) f := by
  funext j
  unfold va_up ti_s6
  by_cases hj : j = k - 6
  · subst hj
    rw [if_pos rfl, if_neg (by omega), if_pos (by omega), show k - 6 + 6 = k by omega]
  · rw [if_neg hj]
    by_cases h2 : j < k - 6
    · rw [if_pos h2, if_pos (by omega)]
    · rw [if_neg h2, if_neg (by omega)]
theorem ti_s6_le {m B : Nat} {f : Nat → Nat} (h : ∀ j, f j ≤ B) : ∀ j, ti_s6 m f j ≤ B := by
  intro j
  unfold ti_s6
  by_cases h2 : j < m
  · rw [if_pos h2]; exact h _
  · rw [if_neg h2]; exact h _
theorem ti_mdl_rot {x : ti_Md} (hx : ti_Mdok x) {c : Nat} : ti_mdl (c, ti_sh 0 9 x.2.1, ti_sh 0 9 x.2.2.1, ti_s6 54 x.2.2.2.1, ti_s6 54 x.2.2.2.2) 0 9 = (ti_mdl x 0 10).drop 1 := by
  apply List.ext_getElem?
  intro j
  rw [List.getElem?_drop]
  by_cases hj : j < 9
  · rw [ti_mdl_at hj, ti_mdl_at (by omega)]
    dsimp only
    have e : ∀ f : Nat → Nat, ti_sh 0 9 f (0 + j) = f (0 + (1 + j)) := fun f => by
      unfold ti_sh
      rw [if_pos (by omega)]
      congr 1; omega
    rw [e, e]
    congr 2
    refine ti_gr_congr fun i hi => ?_
    have h6 := hx.2.2.1 (0 + (1 + j))
    unfold ti_s6
    rw [if_pos (by omega), if_pos (by omega)]
    rw [show 6 * (0 + j) + (0 + i) + 6 = 6 * (0 + (1 + j)) + (0 + i) by omega]
    exact ⟨rfl, rfl⟩
  · rw [List.getElem?_eq_none (by rw [ti_mdl_len]; omega), List.getElem?_eq_none (by rw [ti_mdl_len]; omega)]
theorem ti_mdl_push {x : ti_Md} (hx : ∀ k, x.2.2.1 k ≤ 6) {c i cc : Nat} {z : ti_Mg} (hz : ti_Mgok z) : ti_mdl (cc, va_up x.2.1 c i, va_up x.2.2.1 c (z.1 i), va_cpy z.2.1 x.2.2.2.1 (6 * i) (6 * c) 6, va_cpy z.2.2 x.2.2.2.2 (6 * i) (6 * c) 6) 0 (c + 1) = ti_mdl x 0 c ++ [(i, ti_G z i)] := by
  apply List.ext_getElem?
  intro j
  by_cases hj : j < c
  · rw [ti_mdl_at (by omega), List.getElem?_append_left (by rw [ti_mdl_len]; exact hj), ti_mdl_at hj]
    dsimp only
    rw [va_up_ne _ _ (by omega), va_up_ne _ _ (by omega)]
    congr 2
    refine ti_gr_congr fun k hk => ?_
    have h6 := hx (0 + j)
    rw [pk_cpy_out (by omega), pk_cpy_out (by omega)]
    exact ⟨rfl, rfl⟩
  · by_cases he : j = c
    · subst he
      rw [ti_mdl_at (by omega), List.getElem?_append_right (by rw [ti_mdl_len]; omega), ti_mdl_len, Nat.sub_self]
      dsimp only
      rw [Nat.zero_add, va_up_self, va_up_self]
      show some _ = some _
      congr 2
      refine ti_gr_congr fun k hk => ?_
      have h6 := hz.1 i
      rw [pk_cpy_in (by omega) (by omega), pk_cpy_in (by omega) (by omega), show 6 * j + (0 + k) - 6 * j = 0 + k by omega]
      exact ⟨rfl, rfl⟩
    · rw [List.getElem?_eq_none (by rw [ti_mdl_len]; omega), List.getElem?_eq_none (by simp [ti_mdl_len]; omega)]
/-! faces in the model -/
abbrev ti_F (x : ti_Mf) : List (Nat × Nat × Nat) := ti_fr x.2.1 x.2.2.1 x.2.2.2 0 x.1
/-- whether a term stands at a corner -/
def ti_cn (a b : Nat) (F : List (Nat × Nat × Nat)) : Bool := ti_hull a b F && !(decide (0 < a) && ti_hull (a - 1) b F) && !(decide (0 < b) && ti_hull a (b - 1) F)
/-- the first face that bars -/
def ti_fb (a b num den : Nat) : List (Nat × Nat × Nat) → Nat → Option Nat
  | [], _ => none
  | q :: r, k => if ti_bar a b num den q then some k else ti_fb a b num den r (k + 1)
theorem ti_fb_hd (a b num den : Nat) : ∀ (F : List (Nat × Nat × Nat)) (k : Nat), ti_hd a b num den F = (ti_fb a b num den F k).isNone
  | [], _ => rfl
  | q :: r, k => by
    unfold ti_hd ti_fb
    by_cases h : ti_bar a b num den q = true
    · rw [if_pos h, if_pos h]; rfl
    · rw [if_neg h, if_neg h]; exact ti_fb_hd a b num den r (k + 1)
/-- whether s, t tell a face of the generators -/
def ti_isf (G : List (Nat × Nat)) (far s t : Nat) : Bool := decide (Nat.gcd s t = 1 ∧ 1 < ti_ct s t (ti_lv s t G far) G 0)
def ti_fc (G : List (Nat × Nat)) (far s t : Nat) (L : List (Nat × Nat × Nat)) : List (Nat × Nat × Nat) := if ti_isf G far s t then ti_fi (s, t, ti_lv s t G far) L else L
def ti_f1 (G : List (Nat × Nat)) (far s : Nat) : List Nat → List (Nat × Nat × Nat) → List (Nat × Nat × Nat)
  | [], L => L
  | t :: r, L => ti_f1 G far s r (ti_fc G far s t L)
def ti_f2 (G : List (Nat × Nat)) (far : Nat) : List Nat → List (Nat × Nat × Nat) → List (Nat × Nat × Nat)
  | [], L => L
  | s :: r, L => ti_f2 G far r (ti_f1 G far s (List.range' 1 9) L)
/-- how many faces are still to come -/
def ti_r1 (G : List (Nat × Nat)) (far s : Nat) : List Nat → Nat
  | [] => 0
  | t :: r => (if ti_isf G far s t then 1 else 0) + ti_r1 G far s r
def ti_r2 (G : List (Nat × Nat)) (far : Nat) : List Nat → Nat
  | [] => 0
  | s :: r => ti_r1 G far s (List.range' 1 9) + ti_r2 G far r
theorem ti_fi_len (x : Nat × Nat × Nat) : ∀ L : List (Nat × Nat × Nat), (ti_fi x L).length = L.length + 1
  | [] => rfl
  | y :: r => by
    unfold ti_fi
    by_cases h : y.1 * x.2.1 < x.1 * y.2.1
    · rw [if_pos h, List.length_cons, ti_fi_len x r, List.length_cons]
    · rw [if_neg h, List.length_cons, List.length_cons]
def ti_fx (G : List (Nat × Nat)) (far : Nat) : List (Nat × Nat × Nat) := ti_f2 G far (List.range' 1 9) (ti_fi (0, 1, ti_lv 0 1 G far) (ti_fi (1, 0, ti_lv 1 0 G far) []))
def ti_fm (G : List (Nat × Nat)) (far : Nat) : List (Nat × Nat × Nat) := ti_fi (0, 1, ti_lv 0 1 G far) (ti_f2 G far (List.range' 1 9) (ti_fi (1, 0, ti_lv 1 0 G far) []))
/-- whether all of the terms k of a list that are in the hull are held -/
def ti_clm (F : List (Nat × Nat × Nat)) (G : List (Nat × Nat)) : List Nat → Bool
  | [] => true
  | k :: r => if ti_hull (k / 10) (k % 10) F = true ∧ ti_hb (k / 10) (k % 10) (-5) G 0 = false then false else ti_clm F G r
/-- the face by which a term's jump is least, by its place -/
def ti_jc (a b : Nat) (ss ts lv : Nat → Nat) (k : Nat) (o : Option Nat) : Bool := match o with
  | none => true
  | some f => decide (ti_wt (ss k, ts k, lv k) a b * lv f < ti_wt (ss f, ts f, lv f) a b * lv k)
def ti_jm (a b : Nat) (ss ts lv : Nat → Nat) : Nat → Nat → Option Nat → Option Nat
  | 0, _, o => o
  | m + 1, k, o => ti_jm a b ss ts lv m (k + 1) (if 0 < lv k ∧ ti_jc a b ss ts lv k o = true then some k else o)
def ti_jp (a b : Nat) (ss ts lv : Nat → Nat) (o : Option Nat) : Nat × Nat := match o with
  | none => (0, 0)
  | some f => (ti_wt (ss f, ts f, lv f) a b, lv f)
theorem ti_jm_jf (a b : Nat) (ss ts lv : Nat → Nat) : ∀ (m k : Nat) (o : Option Nat), (∀ f, o = some f → 0 < lv f) → ti_jf a b (ti_fr ss ts lv k m) (ti_jp a b ss ts lv o) = ti_jp a b ss ts lv (ti_jm a b ss ts lv m k o)
  | 0, _, _, _ => rfl
  | m + 1, k, o, ho => by
    rw [ti_fr_s, ti_jf, ti_jm]
    dsimp only
    by_cases h0 : lv k = 0
    · rw [if_pos h0, if_neg (fun z => by omega)]
      exact ti_jm_jf a b ss ts lv m (k + 1) o ho
    · rw [if_neg h0]
      cases o with
      | none =>
        rw [if_neg (by simp [ti_jp]), if_pos ⟨by omega, rfl⟩]
        exact ti_jm_jf a b ss ts lv m (k + 1) (some k) (fun f hf => by cases hf; omega)
      | some f =>
        have hf := ho f rfl
        by_cases hc : ti_wt (ss k, ts k, lv k) a b * lv f < ti_wt (ss f, ts f, lv f) a b * lv k
        · rw [if_neg (by simp only [ti_jp]; exact fun z => absurd z.2 (by omega)), if_pos ⟨by omega, by simp only [ti_jc]; exact decide_eq_true hc⟩]
          exact ti_jm_jf a b ss ts lv m (k + 1) (some k) (fun f hf => by cases hf; omega)
        · rw [if_pos (by simp only [ti_jp]; exact ⟨by omega, by omega⟩), if_neg (fun z => by simp only [ti_jc] at z; exact hc (of_decide_eq_true z.2))]
          exact ti_jm_jf a b ss ts lv m (k + 1) (some f) ho
theorem ti_jm_lt (a b : Nat) (ss ts lv : Nat → Nat) : ∀ (m k : Nat) (o : Option Nat), (∀ f, o = some f → f < k ∧ 0 < lv f) → ∀ f, ti_jm a b ss ts lv m k o = some f → f < k + m ∧ 0 < lv f
  | 0, _, _, ho, f, h => ho f h
  | m + 1, k, o, ho, f, h => by
    rw [ti_jm] at h
    have := ti_jm_lt a b ss ts lv m (k + 1) _ (fun f' hf' => by
      by_cases hc : 0 < lv k ∧ ti_jc a b ss ts lv k o = true
      · rw [if_pos hc] at hf'
        cases hf'
        exact ⟨by omega, hc.1⟩
      · rw [if_neg hc] at hf'
        have := ho f' hf'
        exact ⟨by omega, this.2⟩) f h
    exact ⟨by omega, this.2⟩
theorem ti_pm_n1 {o : Option Nat} (h : ∀ j, o = some j → j < 2 ^ 31) : ti_pm o = -1 ↔ o = none := by
  cases o with
  | none => exact ⟨fun _ => rfl, fun _ => rfl⟩
  | some j => exact ⟨fun e => absurd e (ti_n1 (h j rfl)), fun e => by cases e⟩
theorem ti_fb_lt (a b num den : Nat) : ∀ (F : List (Nat × Nat × Nat)) (k j : Nat), ti_fb a b num den F k = some j → j < k + F.length
  | [], _, _, h => by cases h
  | q :: r, k, j, h => by
    unfold ti_fb at h
    by_cases hq : ti_bar a b num den q = true
    · rw [if_pos hq] at h
      cases h
      simp
    · rw [if_neg hq] at h
      have := ti_fb_lt a b num den r (k + 1) j h
      simp
      omega
/-- a jump in lowest terms put to its place, the least first -/
def ti_mi (x : Nat × Nat) : List (Nat × Nat) → List (Nat × Nat)
  | [] => [x]
  | y :: r => if y.1 * x.2 < x.1 * y.2 then y :: ti_mi x r else if y.1 = x.1 ∧ y.2 = x.2 then y :: r else x :: y :: r
def ti_low (x : Nat × Nat) : Nat × Nat := (x.1 / Nat.gcd x.1 x.2, x.2 / Nat.gcd x.1 x.2)
def ti_ml (F : List (Nat × Nat × Nat)) : List Nat → List (Nat × Nat) → List (Nat × Nat)
  | [], J => J
  | k :: r, J => ti_ml F r (if (ti_jf (k / 10) (k % 10) F (0, 0)).2 = 0 then J else ti_mi (ti_low (ti_jf (k / 10) (k % 10) F (0, 0))) J)
/-! heights in the model -/
def ti_h0 : Nat → Nat := fun x => if x = 0 then 0 else 1000
def ti_t0 (h : Nat → Nat) (a b : Nat) (nx : Nat → Nat) (x : Nat) : Nat → Nat := fun y => if a ≤ y ∧ y < a + x then min (nx y) (h (y - a) + b) else nx y
def ti_t1 (h : Nat → Nat) (a b : Nat) (nx : Nat → Nat) : Nat → Nat := ti_t0 h a b nx (72 - a)
def ti_tg (h : Nat → Nat) (G : List (Nat × Nat)) (nx : Nat → Nat) : Nat → Nat := G.foldl (fun nx q => ti_t1 h q.1 q.2 nx) nx
def ti_tm (h : Nat → Nat) (G : List (Nat × Nat)) : Nat → Nat := fun y => min (ti_tg h G (fun _ => 1000) y) 1000
def ti_pfx (h : Nat → Nat) : Nat → Nat
  | 0 => h 0
  | x + 1 => min (h (x + 1)) (ti_pfx h x)
def ti_pn (G : List (Nat × Nat)) : Nat → Nat → Nat
  | 0 => ti_h0
  | k + 1 => ti_tm (ti_pn G k) G
def ti_hx (v : Nat) : Int32 := if v = 1000 then -5 else nI v
theorem ti_h0_le (j : Nat) : ti_h0 j ≤ 1000 := by
  unfold ti_h0
  by_cases h : j = 0
  · rw [if_pos h]; omega
  · rw [if_neg h]; omega
theorem ti_tm_le (h : Nat → Nat) (G : List (Nat × Nat)) (j : Nat) : ti_tm h G j ≤ 1000 := Nat.min_le_right _ _
theorem ti_pn_le (G : List (Nat × Nat)) : ∀ (k j : Nat), ti_pn G k j ≤ 1000
  | 0, j => ti_h0_le j
  | _ + 1, j => ti_tm_le _ _ j
theorem ti_pfx_le {h : Nat → Nat} {B : Nat} (hb : ∀ j, h j ≤ B) : ∀ j, ti_pfx h j ≤ B
  | 0 => hb 0
  | x + 1 => Nat.le_trans (Nat.min_le_left _ _) (hb _)
theorem ti_t0_0 (h : Nat → Nat) (a b : Nat) (nx : Nat → Nat) : ti_t0 h a b nx 0 = nx := by
  funext y
  unfold ti_t0
  rw [if_neg (by omega)]
theorem ti_t0_s (h : Nat → Nat) (a b : Nat) (nx : Nat → Nat) (x : Nat) : va_up (ti_t0 h a b nx x) (x + a) (min (ti_t0 h a b nx x (x + a)) (h x + b)) = ti_t0 h a b nx (x + 1) := by
  funext y
  unfold va_up ti_t0
  by_cases hy : y = x + a
  · subst hy
    rw [if_pos rfl, if_neg (by omega), if_pos (by omega), Nat.add_sub_cancel]
  · rw [if_neg hy]
    by_cases h2 : a ≤ y ∧ y < a + x
    · rw [if_pos h2, if_pos (by omega)]
    · rw [if_neg h2, if_neg (by omega)]
theorem ti_t0_le {h : Nat → Nat} {a b : Nat} {nx : Nat → Nat} {B : Nat} (hn : ∀ j, nx j ≤ B) (x : Nat) : ∀ j, ti_t0 h a b nx x j ≤ B := by
  intro j
  unfold ti_t0
  by_cases h2 : a ≤ j ∧ j < a + x
  · rw [if_pos h2]; exact Nat.le_trans (Nat.min_le_left _ _) (hn j)
  · rw [if_neg h2]; exact hn j
theorem ti_pfx_s {h f : Nat → Nat} {x : Nat} (hx : 0 < x) (h1 : ∀ j, j < x → f j = ti_pfx h j) (h2 : ∀ j, x ≤ j → f j = h j) : (∀ j, j < x + 1 → va_up f x (min (f x) (f (x - 1))) j = ti_pfx h j) ∧ ∀ j, x + 1 ≤ j → va_up f x (min (f x) (f (x - 1))) j = h j := by
  refine ⟨fun j hj => ?_, fun j hj => by rw [va_up_ne _ _ (by omega)]; exact h2 j (by omega)⟩
  by_cases e : j = x
  · subst e
    rw [va_up_self, h2 j (Nat.le_refl _), h1 (j - 1) (by omega)]
    obtain ⟨y, rfl⟩ : ∃ y, j = y + 1 := ⟨j - 1, by omega⟩
    rfl
  · rw [va_up_ne _ _ e]
    exact h1 j (by omega)
