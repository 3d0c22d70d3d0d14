/-! TermIdeals$Reader.does, TermIdeals.read (printed by w_read4.py) -/
set_option maxRecDepth 100000
theorem ti_sets_len : ∀ (is : List Nat) (ws xs : va_W), (ti_sets ws is xs).length = ws.length
  | [], ws, xs => by cases xs <;> rfl
  | _ :: _, ws, [] => rfl
  | i :: is, ws, x :: xs => by rw [ti_sets, ti_sets_len is _ xs, List.length_set]
theorem ti_asE {ws w1 W' : va_W} {isC : List Nat} (src : List (Nat ⊕ Nat)) (h : src.map (ti_src ws w1) = W'.map some) (hs : ti_sok isC src 0 = true) (hn : va_nd isC = true) (hl : W'.length = ws.length) : ti_sets ws isC w1 = W' := by
  apply List.ext_getElem?
  intro k
  cases hk : W'[k]? with
  | some q => exact ti_asx src h hs hn hl k q hk
  | none =>
    rw [List.getElem?_eq_none_iff] at hk ⊢
    rw [ti_sets_len]; omega
theorem ti_sets_same {ws w1 : va_W} {j : Nat} {is : List Nat} {q : Nat × va_E} (h : ws[j]? = some q) : ti_sets ws (j :: is) (q :: w1) = ti_sets ws is w1 := by
  rw [ti_sets]
  congr 1
  apply List.ext_getElem?
  intro k
  rw [List.getElem?_set]
  split
  · rename_i e
    subst e
    rw [if_pos (List.getElem?_eq_some_iff.mp h).1, h]
  · rfl
theorem ti_sets_appL : ∀ (is : List Nat) (a b w1 : va_W), (∀ i ∈ is, i < a.length) → ti_sets (a ++ b) is w1 = ti_sets a is w1 ++ b
  | [], a, b, w1, _ => by cases w1 <;> rfl
  | _ :: _, a, b, [], _ => rfl
  | i :: is, a, b, x :: w, h => by
    rw [ti_sets, ti_sets, List.set_append_left _ _ (h i List.mem_cons_self)]
    exact ti_sets_appL is (a.set i x) b w (fun j hj => by rw [List.length_set]; exact h j (List.mem_cons_of_mem _ hj))
theorem ti_nd_cons {n : Nat} {l : List Nat} (h : va_nd l = true) (hl : ∀ i ∈ l, i < n) (k : Nat) : va_nd ((n + k) :: l) = true := by
  rw [va_nd, Bool.and_eq_true]
  exact ⟨decide_eq_true (fun z => by have := hl _ z; omega), h⟩
section TRA
variable {p : Program} {l : Launch} {e : Env} {R : Room} {s : State} {m : MethodId} {args : Array Value} {below : List Frame} {meth : Method} {c : Code} {H : Heap} {locs : List Loc} {cells slots : Nat} {Q : State → Prop}
variable {cc : ByteArray} {pc : Nat} {ls : Array Slot} {rest : List Value} {D : va_G} {tys : List (ClassId × FieldType)} {ws : va_W} {a : Nat}
theorem tn_aaldR (hx : p.tables.exec = Jvm.exec) (hb : c.code = cc) (hK : va_K D vwCl tys s) (hP : va_P D vwCl ws H) (q0 t0 : Nat) {cA : ClassId} {C : String} {n i v : Nat} {f : Nat → Option Nat} (ha : ws[q0]? = some (a, .inl (cA, n, .inr (.inr (.inr (.inr f)))))) (ht : tys[t0]? = some (cA, .object C)) (hi : i < n) (hn : n < 2 ^ 31) (hv : f i = some v) (hd : decode cc pc = .ok (.aaload, 1))
    (k : W p l e R s m args below meth c H locs cells slots Q (F0 m (pc + 1) ls (.ref v :: rest))) : W p l e R s m args below meth c H locs cells slots Q (F0 m pc ls (.int (nI i) :: .ref a :: rest)) :=
  va_aldq hx hb hK hP q0 t0 ha ht (vp_in_nI hi hn) hd (by rw [nI_clamp (Nat.lt_trans hi hn), hv]; exact k)
end TRA
section TRB
variable {σ τ : Type} {p : Program} {l : Launch} {e : Env} {R : Room} {s : State} {m : MethodId} {args : Array Value} {below : List Frame} {meth : Method} {c : Code} {H : Heap} {locs : List Loc} {cells slots mc ms pc : Nat} {Q : State → Prop} {ls : Array Slot} {st0 rest : List Value}
variable {D : va_G} {ws : va_W} {A : Nat → Prop} {wf : σ → va_W} {val : σ → Option Value} {post : σ → Prop} {xq : σ → Heap → Prop} {nm : τ → String} {adr : τ → Nat} {wy ex : τ → va_W} {px : τ → Prop} {xx : τ → Heap → Prop}
/-- a call that takes the whole world, and always returns -/
theorem ti_callXa {a : Array Value} (hr : ty_Run p l e R s m args below meth c H locs cells slots mc ms (F0 m pc ls st0) rest (ti_QF D wf val post xq (va_A ws H.size) a) (ti_XC D nm adr wy ex px xx H.size (va_A ws H.size)) (va_A ws H.size)) (hD : va_D A ws) (hS : va_S A s.heap H locs) (hA : ∀ q, s.heap.size ≤ q → A q) (hwf : ∀ u, (wf u).map (·.1) = ws.map (·.1)) (hpx : ∀ w, ¬ px w)
    (kk : ∀ (u : σ) (H1 : Heap) (locs : List Loc), post u → va_P D vwCl (wf u) H1 → va_D A (wf u) → va_S A s.heap H1 locs → W p l e R s m args below meth c H1 locs (cells + mc) (slots + ms) Q (F0 m (pc + 3) ls ((val u).toList ++ rest))) : W p l e R s m args below meth c H locs cells slots Q (F0 m pc ls st0) := by
  intro T hT X
  have hF : ∀ q, va_A ws H.size q → A q := fun q h => by
    rcases h with ⟨k, e9, h⟩ | h
    · exact hD.2 k (q, e9) h
    · exact hA q (Nat.le_trans hS.1 h)
  rcases hr T hT X with ⟨v, st₀, t, T', L, h0, X', hL, e1, e2, ⟨⟨u, hv, hp, hb, hxq⟩, hz, hk⟩, st⟩ | ⟨q, st₀, t, T', L, E9, ce, h0, X', hL, e1, e2, ⟨w, rfl, rfl, hp, -⟩, -⟩
  · cases hv
    rw [h0] at hz hk
    obtain ⟨t2, a1, b1⟩ := kk u T'.heap (locs ++ L) hp (by rw [e1]; exact hb) (ti_D_addr hD (hwf u))
      ⟨Nat.le_trans hS.1 (by rw [e1]; exact hz), fun q h1 h2 => by rw [e1, hk q (Nat.lt_of_lt_of_le h1 hS.1) (fun z => h2 (hF q z))]; exact hS.2.1 q h1 h2, fun q hq => by
        rcases List.mem_append.mp hq with h | h
        · exact hS.2.2 q h
        · exact hF _ (hL q h)⟩ T' rfl X'
    exact ⟨t2, st t2 a1, b1⟩
  · exact absurd hp (hpx w)
theorem ti_preXVa {E : Nat → ClassId} {z0 b ci N : Nat} {wz : va_W} {As fs : List Value} {C : String} {T : u_T} {H0 : Heap} (hE : ti_E D E s) (hP : va_P D vwCl ws H) (hD : va_D A ws) (hS : va_S A H0 H locs) (h0 : s.heap = H0) (hZ : ti_Z z0 wz s) (hAz : ∀ q, A q → z0 ≤ q) (q0 : Nat) (hb : ws[q0]? = some (b, .inr (ci, fs))) (hc : vwCl[ci]? = some (C, T, N)) :
    PreV s H C b (va_Pc (.ref b :: As) (fun U => U.heap.size = H.size ∧ ti_E D E U ∧ va_P D vwCl ws U.heap ∧ va_D (fun _ => True) ws ∧ ti_Z z0 ws U ∧ (fun _ => True) U.heap)) As := by
  have hp := ti_preF (As := .ref b :: As) (xp := fun _ => True) hE hP hD hS h0 hZ hAz trivial
  exact ⟨hp.1, va_recv hE.1 hP (ci := ci) (q0 := q0) (q := (C, T, N)) hc hb, hp.2⟩
end TRB
theorem ti_drop_s {α : Type} : ∀ {T : List α} {k : Nat} {x : α}, T[k]? = some x → T.drop k = x :: T.drop (k + 1)
  | [], _, _, h => by cases h
  | y :: r, 0, x, h => by cases h; rfl
  | y :: r, k + 1, x, h => by
    have h : r[k]? = some x := h
    show r.drop k = x :: r.drop (k + 1)
    exact ti_drop_s h

abbrev ti_wMJRFDX (E : Nat → ClassId) (ad dh du dv jh ju jv kh ku kv : Nat → Nat) (tx : Nat) (hi : Bool) (xi : ti_Ti) (xr : ti_Tr) (xf : ti_Tf) (xd : ti_Td) (xt : Nat → Nat) : va_W := [(ad 0, .inr (0, [.ref (ad 1), .ref (ad 2), .ref (ad 5), .ref (ad 11), .ref (ad 14), .ref (ad 16), .ref (ad 18), .ref (ad 20), .ref (ad 22), .int (nI tx), .ref (ad 23), .ref (ad 27), .ref (ad 31), .ref (ad 35), .ref (ad 36), .ref (ad 37), .ref (ad 41), .ref (ad 45), .int (ti_b hi)])), (ad 1, .inl (E 5, 2, .inr (.inr (.inr (.inr (ti_o jh (fun j => j))))))), (jh 0, .inr (1, [.ref (ju 0), .ref (jv 0), .int (nI (xi.2.2 0))])), (ju 0, .inl (E 0, 6, .inl (ti_n (xi.1 0)))), (jv 0, .inl (E 0, 6, .inl (ti_n (xi.2.1 0)))), (jh 1, .inr (1, [.ref (ju 1), .ref (jv 1), .int (nI (xi.2.2 1))])), (ju 1, .inl (E 0, 6, .inl (ti_n (xi.1 1)))), (jv 1, .inl (E 0, 6, .inl (ti_n (xi.2.1 1)))), (ad 2, .inr (1, [.ref (ad 3), .ref (ad 4), .int (nI xr.2.2)])), (ad 3, .inl (E 0, 6, .inl (ti_n xr.1))), (ad 4, .inl (E 0, 6, .inl (ti_n xr.2.1))), (ad 5, .inr (2, [xf.1, .ref (ad 6), .ref (ad 7), .ref (ad 8), .int (nI xf.2.2.2.2.1), .int (nI xf.2.2.2.2.2.1), .int (nI xf.2.2.2.2.2.2.1), .ref (ad 9), .ref (ad 10), .int (nI xf.2.2.2.2.2.2.2.2.2)])), (ad 6, .inl (E 0, 8, .inl (ti_n xf.2.1))), (ad 7, .inl (E 0, 8, .inl (ti_n xf.2.2.1))), (ad 8, .inl (E 0, 8, .inl (ti_n xf.2.2.2.1))), (ad 9, .inl (E 0, 100, .inl (ti_n xf.2.2.2.2.2.2.2.1))), (ad 10, .inl (E 0, 100, .inl (ti_n xf.2.2.2.2.2.2.2.2.1))), (ad 11, .inr (3, [.ref (ad 12), .ref (ad 13), .int (nI xd.2.2.1)])), (ad 12, .inl (E 5, 10, .inr (.inr (.inr (.inr (ti_o dh xd.1)))))), (ad 13, .inl (E 0, 10, .inl (ti_n xd.2.1))), (dh 0, .inr (1, [.ref (du 0), .ref (dv 0), .int (nI (xd.2.2.2.2.2 0))])), (du 0, .inl (E 0, 6, .inl (ti_n (xd.2.2.2.1 0)))), (dv 0, .inl (E 0, 6, .inl (ti_n (xd.2.2.2.2.1 0)))), (dh 1, .inr (1, [.ref (du 1), .ref (dv 1), .int (nI (xd.2.2.2.2.2 1))])), (du 1, .inl (E 0, 6, .inl (ti_n (xd.2.2.2.1 1)))), (dv 1, .inl (E 0, 6, .inl (ti_n (xd.2.2.2.2.1 1)))), (dh 2, .inr (1, [.ref (du 2), .ref (dv 2), .int (nI (xd.2.2.2.2.2 2))])), (du 2, .inl (E 0, 6, .inl (ti_n (xd.2.2.2.1 2)))), (dv 2, .inl (E 0, 6, .inl (ti_n (xd.2.2.2.2.1 2)))), (dh 3, .inr (1, [.ref (du 3), .ref (dv 3), .int (nI (xd.2.2.2.2.2 3))])), (du 3, .inl (E 0, 6, .inl (ti_n (xd.2.2.2.1 3)))), (dv 3, .inl (E 0, 6, .inl (ti_n (xd.2.2.2.2.1 3)))), (dh 4, .inr (1, [.ref (du 4), .ref (dv 4), .int (nI (xd.2.2.2.2.2 4))])), (du 4, .inl (E 0, 6, .inl (ti_n (xd.2.2.2.1 4)))), (dv 4, .inl (E 0, 6, .inl (ti_n (xd.2.2.2.2.1 4)))), (dh 5, .inr (1, [.ref (du 5), .ref (dv 5), .int (nI (xd.2.2.2.2.2 5))])), (du 5, .inl (E 0, 6, .inl (ti_n (xd.2.2.2.1 5)))), (dv 5, .inl (E 0, 6, .inl (ti_n (xd.2.2.2.2.1 5)))), (dh 6, .inr (1, [.ref (du 6), .ref (dv 6), .int (nI (xd.2.2.2.2.2 6))])), (du 6, .inl (E 0, 6, .inl (ti_n (xd.2.2.2.1 6)))), (dv 6, .inl (E 0, 6, .inl (ti_n (xd.2.2.2.2.1 6)))), (dh 7, .inr (1, [.ref (du 7), .ref (dv 7), .int (nI (xd.2.2.2.2.2 7))])), (du 7, .inl (E 0, 6, .inl (ti_n (xd.2.2.2.1 7)))), (dv 7, .inl (E 0, 6, .inl (ti_n (xd.2.2.2.2.1 7)))), (dh 8, .inr (1, [.ref (du 8), .ref (dv 8), .int (nI (xd.2.2.2.2.2 8))])), (du 8, .inl (E 0, 6, .inl (ti_n (xd.2.2.2.1 8)))), (dv 8, .inl (E 0, 6, .inl (ti_n (xd.2.2.2.2.1 8)))), (dh 9, .inr (1, [.ref (du 9), .ref (dv 9), .int (nI (xd.2.2.2.2.2 9))])), (du 9, .inl (E 0, 6, .inl (ti_n (xd.2.2.2.1 9)))), (dv 9, .inl (E 0, 6, .inl (ti_n (xd.2.2.2.2.1 9)))), (ad 22, .inl (E 1, 100, .inl (ti_n xt)))]

abbrev ti_wMJRFDXZ (E : Nat → ClassId) (ad dh du dv jh ju jv kh ku kv : Nat → Nat) (tx : Nat) (hi : Bool) (xi : ti_Ti) (xr : ti_Tr) (xf : ti_Tf) (xd : ti_Td) (xt : Nat → Nat) (rd : Nat) (ra : Nat) (sz : Nat) (pp : Nat) (mn : Nat) (fr : Nat → Option Nat) : va_W := [(ad 0, .inr (0, [.ref (ad 1), .ref (ad 2), .ref (ad 5), .ref (ad 11), .ref (ad 14), .ref (ad 16), .ref (ad 18), .ref (ad 20), .ref (ad 22), .int (nI tx), .ref (ad 23), .ref (ad 27), .ref (ad 31), .ref (ad 35), .ref (ad 36), .ref (ad 37), .ref (ad 41), .ref (ad 45), .int (ti_b hi)])), (ad 1, .inl (E 5, 2, .inr (.inr (.inr (.inr (ti_o jh (fun j => j))))))), (jh 0, .inr (1, [.ref (ju 0), .ref (jv 0), .int (nI (xi.2.2 0))])), (ju 0, .inl (E 0, 6, .inl (ti_n (xi.1 0)))), (jv 0, .inl (E 0, 6, .inl (ti_n (xi.2.1 0)))), (jh 1, .inr (1, [.ref (ju 1), .ref (jv 1), .int (nI (xi.2.2 1))])), (ju 1, .inl (E 0, 6, .inl (ti_n (xi.1 1)))), (jv 1, .inl (E 0, 6, .inl (ti_n (xi.2.1 1)))), (ad 2, .inr (1, [.ref (ad 3), .ref (ad 4), .int (nI xr.2.2)])), (ad 3, .inl (E 0, 6, .inl (ti_n xr.1))), (ad 4, .inl (E 0, 6, .inl (ti_n xr.2.1))), (ad 5, .inr (2, [xf.1, .ref (ad 6), .ref (ad 7), .ref (ad 8), .int (nI xf.2.2.2.2.1), .int (nI xf.2.2.2.2.2.1), .int (nI xf.2.2.2.2.2.2.1), .ref (ad 9), .ref (ad 10), .int (nI xf.2.2.2.2.2.2.2.2.2)])), (ad 6, .inl (E 0, 8, .inl (ti_n xf.2.1))), (ad 7, .inl (E 0, 8, .inl (ti_n xf.2.2.1))), (ad 8, .inl (E 0, 8, .inl (ti_n xf.2.2.2.1))), (ad 9, .inl (E 0, 100, .inl (ti_n xf.2.2.2.2.2.2.2.1))), (ad 10, .inl (E 0, 100, .inl (ti_n xf.2.2.2.2.2.2.2.2.1))), (ad 11, .inr (3, [.ref (ad 12), .ref (ad 13), .int (nI xd.2.2.1)])), (ad 12, .inl (E 5, 10, .inr (.inr (.inr (.inr (ti_o dh xd.1)))))), (ad 13, .inl (E 0, 10, .inl (ti_n xd.2.1))), (dh 0, .inr (1, [.ref (du 0), .ref (dv 0), .int (nI (xd.2.2.2.2.2 0))])), (du 0, .inl (E 0, 6, .inl (ti_n (xd.2.2.2.1 0)))), (dv 0, .inl (E 0, 6, .inl (ti_n (xd.2.2.2.2.1 0)))), (dh 1, .inr (1, [.ref (du 1), .ref (dv 1), .int (nI (xd.2.2.2.2.2 1))])), (du 1, .inl (E 0, 6, .inl (ti_n (xd.2.2.2.1 1)))), (dv 1, .inl (E 0, 6, .inl (ti_n (xd.2.2.2.2.1 1)))), (dh 2, .inr (1, [.ref (du 2), .ref (dv 2), .int (nI (xd.2.2.2.2.2 2))])), (du 2, .inl (E 0, 6, .inl (ti_n (xd.2.2.2.1 2)))), (dv 2, .inl (E 0, 6, .inl (ti_n (xd.2.2.2.2.1 2)))), (dh 3, .inr (1, [.ref (du 3), .ref (dv 3), .int (nI (xd.2.2.2.2.2 3))])), (du 3, .inl (E 0, 6, .inl (ti_n (xd.2.2.2.1 3)))), (dv 3, .inl (E 0, 6, .inl (ti_n (xd.2.2.2.2.1 3)))), (dh 4, .inr (1, [.ref (du 4), .ref (dv 4), .int (nI (xd.2.2.2.2.2 4))])), (du 4, .inl (E 0, 6, .inl (ti_n (xd.2.2.2.1 4)))), (dv 4, .inl (E 0, 6, .inl (ti_n (xd.2.2.2.2.1 4)))), (dh 5, .inr (1, [.ref (du 5), .ref (dv 5), .int (nI (xd.2.2.2.2.2 5))])), (du 5, .inl (E 0, 6, .inl (ti_n (xd.2.2.2.1 5)))), (dv 5, .inl (E 0, 6, .inl (ti_n (xd.2.2.2.2.1 5)))), (dh 6, .inr (1, [.ref (du 6), .ref (dv 6), .int (nI (xd.2.2.2.2.2 6))])), (du 6, .inl (E 0, 6, .inl (ti_n (xd.2.2.2.1 6)))), (dv 6, .inl (E 0, 6, .inl (ti_n (xd.2.2.2.2.1 6)))), (dh 7, .inr (1, [.ref (du 7), .ref (dv 7), .int (nI (xd.2.2.2.2.2 7))])), (du 7, .inl (E 0, 6, .inl (ti_n (xd.2.2.2.1 7)))), (dv 7, .inl (E 0, 6, .inl (ti_n (xd.2.2.2.2.1 7)))), (dh 8, .inr (1, [.ref (du 8), .ref (dv 8), .int (nI (xd.2.2.2.2.2 8))])), (du 8, .inl (E 0, 6, .inl (ti_n (xd.2.2.2.1 8)))), (dv 8, .inl (E 0, 6, .inl (ti_n (xd.2.2.2.2.1 8)))), (dh 9, .inr (1, [.ref (du 9), .ref (dv 9), .int (nI (xd.2.2.2.2.2 9))])), (du 9, .inl (E 0, 6, .inl (ti_n (xd.2.2.2.1 9)))), (dv 9, .inl (E 0, 6, .inl (ti_n (xd.2.2.2.2.1 9)))), (ad 22, .inl (E 1, 100, .inl (ti_n xt))), (rd, .inr (9, [.ref (ad 22), .int (nI sz), .int (nI pp), .ref ra, .int (nI mn)])), (ra, .inl (E 7, 12, .inr (.inr (.inr (.inr fr)))))]

set_option maxHeartbeats 4000000 in
theorem met_X9_does (l : Launch) (D : va_G) (E : Nat → ClassId) (htr : l.stackTraces = false) (z0 : Nat) (ad dh du dv jh ju jv kh ku kv : Nat → Nat) (tx : Nat) (hi : Bool) (xi : ti_Ti) (xr : ti_Tr) (xf : ti_Tf) (xd : ti_Td) (xt : Nat → Nat) (rd : Nat) (ra : Nat) (sz : Nat) (pp : Nat) (mn : Nat) (fr : Nat → Option Nat) (T : List (Nat × Nat × List Nat)) (hxi : ti_Jok xi) (I : Nat → ti_GL) (hJ : ti_JI xi I) (hxd : ti_Dok xd) (DD : ti_DL) (hDD : ti_Dl xd = DD) (hxr : ti_Rok xr) (hxf : ti_Fok xf) (hinv : ti_inv I DD) (hmn : mn = T.length) (hm12 : mn ≤ 12) (hfr : ti_frT fr T) : ti_MetX (σ := ti_Ti × ti_Tr × ti_Tf × ti_Td) (τ := Unit) l D E yX9_does (ws_ yX9_does cX9_does 4 (some .int)) 9 12 72 z0 (ti_wMJRFDXZ E ad dh du dv jh ju jv kh ku kv tx hi xi xr xf xd xt rd ra sz pp mn fr ++ ti_cls T) [.ref rd, .ref (ad 0)] (fun _ => True) (fun u => ti_wMJRFDXZ E ad dh du dv jh ju jv kh ku kv tx hi u.1 u.2.1 u.2.2.1 u.2.2.2 xt rd ra sz pp mn fr ++ ti_cls T) (fun u => some (.int ((fun _ => nI (ti_rd I DD (T.map (·.2)) 0).1) u))) (fun u => ti_JI u.1 (ti_rd I DD (T.map (·.2)) 0).2.1 ∧ ti_Dl u.2.2.2 = (ti_rd I DD (T.map (·.2)) 0).2.2 ∧ ti_Jok u.1 ∧ ti_Rok u.2.1 ∧ ti_Fok u.2.2.1 ∧ ti_Dok u.2.2.2) (fun _ _ => True) (fun w => RX14) (fun w => 0) (fun w => ti_wMJRFDXZ E ad dh du dv jh ju jv kh ku kv tx hi xi xr xf xd xt rd ra sz pp mn fr ++ ti_cls T) (fun w => []) (fun w => False) (fun w H => True) := by
  refine ti_metX (by decide) (Nat.le_of_ble_eq_true rfl) ?_
  intro p e s m below meth c H A Q ls S hE hP hD hS hA hZ hAz hx0 htab hl hret hq
  obtain ⟨hQ, hr, hlk, hinit⟩ := hq
  have hsz0 := hS.1
  have hx := S.1
  have hb := S.2.1
  have hown := S.2.2.2.1
  have hts := S.2.2.2.2
  have hK := hE.1
  have hl : lv_has ls 4 [(0, .ref rd), (1, .ref (ad 0))] := hl
  refine lv_iconst (v := nI 0) hx hb dX9_does_0 (by decide) ?_
  refine lv_istore_n (lv' := [(2, .int (nI 0)), (0, .ref rd), (1, .ref (ad 0))]) hx hb dX9_does_1 rfl hl (by decide) rfl (fun ls hl => ?_)
  refine lv_iconst (v := nI 0) hx hb dX9_does_2 (by decide) ?_
  refine lv_istore_n (lv' := [(3, .int (nI 0)), (2, .int (nI 0)), (0, .ref rd), (1, .ref (ad 0))]) hx hb dX9_does_3 rfl hl (by decide) rfl (fun ls hl => ?_)
  have L4 : ∀ (N : Nat) (k cnt : Nat) (yi : ti_Ti) (yr : ti_Tr) (yf : ti_Tf) (yd : ti_Td) (I1 : Nat → ti_GL) (D1 : ti_DL) (cz sl : Nat) (ls : Array Slot) (H : Heap) (locs : List Loc), va_P D vwCl (ti_wMJRFDXZ E ad dh du dv jh ju jv kh ku kv tx hi yi (yr.1, yr.2.1, yr.2.2) yf yd xt rd ra sz pp mn fr ++ ti_cls T) H → va_D A (ti_wMJRFDXZ E ad dh du dv jh ju jv kh ku kv tx hi yi (yr.1, yr.2.1, yr.2.2) yf yd xt rd ra sz pp mn fr ++ ti_cls T) → va_S A s.heap H locs → (mn - k) < N → (k ≤ mn) → (cnt ≤ k) → (cz ≤ k) → (sl ≤ 6 * k) → (ti_Jok yi) → (ti_JI yi I1) → (ti_Rok yr) → (ti_Fok yf) → (ti_Dok yd) → (ti_Dl yd = D1) → (ti_inv I1 D1) → (ti_rd I1 D1 ((T.drop k).map (·.2)) cnt = ti_rd I DD (T.map (·.2)) 0) → lv_has ls 4 [(0, .ref rd), (1, .ref (ad 0)), (2, .int (nI cnt)), (3, .int (nI k))] → W p l e (ti_rm 9 12 72) s m ([.ref rd, .ref (ad 0)] : List Value).toArray below meth c H locs cz sl Q (F0 m 4 ls []) := by
    intro N
    induction N with
    | zero => intro k cnt yi yr yf yd I1 D1 cz sl ls H locs hP hD hS h0; exact absurd h0 (Nat.not_lt_zero _)
    | succ N ih4 =>
      intro k cnt yi yr yf yd I1 D1 cz sl ls H locs hP hD hS hN hk hcn hcz hsl hyi hJ1 hyr hyf hyd hDD1 hinv1 hrd hl
      refine lv_iload_n hx hb dX9_does_4 rfl (lv_at hl 3 rfl) ?_
      refine lv_aload_n hx hb dX9_does_5 rfl (lv_at hl 0 rfl) ?_
      refine va_get (v := .int (nI mn)) hx hb hts in_X9 hown hK hP 51 rfl rfl 4 (by decide) (hts _ q496) (fun _ h => h) rfl dX9_does_6 ?_
      refine tn_ge (tgt := 39) hx hb dX9_does_9 (by decide) (by omega) (by omega) (fun c9 => ?_) (fun c9 => ?_)
      · skip
        refine lv_iload_n hx hb dX9_does_39 rfl (lv_at hl 2 rfl) ?_
        have hv9 : (nI cnt) = (fun _ => nI (ti_rd I DD (T.map (·.2)) 0).1) (yi, yr, yf, yd) := by rw [← hrd, show k = T.length by omega, List.drop_length]; rfl
        refine W.eq (g2 := F0 m 40 ls [.int ((fun _ => nI (ti_rd I DD (T.map (·.2)) 0).1) (yi, yr, yf, yd))]) (congrArg (fun z => F0 m 40 ls [.int z]) hv9) ?_
        exact hret _ (yi, yr, yf, yd) _ _ _ _ (by rw [← hrd, show k = T.length by omega, List.drop_length]; exact ⟨hJ1, hDD1, hyi, hyr, hyf, hyd⟩) hP trivial hS (by omega) (by omega) (fun hq hf9 => W.iret hx hb hr hq hf9 dX9_does_40 hlk)
      · skip
        obtain ⟨cx, hcx⟩ : ∃ cx, T[k]? = some cx := ⟨T[k]'(by omega), List.getElem?_eq_getElem _⟩
        refine lv_iload_n hx hb dX9_does_12 rfl (lv_at hl 2 rfl) ?_
        refine lv_aload_n hx hb dX9_does_13 rfl (lv_at hl 0 rfl) ?_
        refine va_get (v := .ref ra) hx hb hts in_X9 hown hK hP 51 rfl rfl 3 (by decide) (hts _ q495) (fun _ h => h) rfl dX9_does_14 ?_
        refine lv_iload_n hx hb dX9_does_17 rfl (lv_at hl 3 rfl) ?_
        refine tn_aaldR hx hb hK hP 52 7 rfl rfl (show k < 12 by omega) (by decide) (hfr k cx hcx) dX9_does_18 ?_
        refine lv_aload_n hx hb dX9_does_19 rfl (lv_at hl 1 rfl) ?_
        have hj9 : (ti_wMJRFDXZ E ad dh du dv jh ju jv kh ku kv tx hi yi (yr.1, yr.2.1, yr.2.2) yf yd xt rd ra sz pp mn fr ++ ti_cls T)[53 + k]? = some (cx.1, ti_cC cx.2) := ti_cls_at rfl hcx
        have hn9 : va_nd ((53 + k) :: [0, 1, 2, 3, 4, 5, 6, 7, 8, 9, 10, 11, 12, 13, 14, 15, 16, 17, 18, 19, 20, 21, 22, 23, 24, 25, 26, 27, 28, 29, 30, 31, 32, 33, 34, 35, 36, 37, 38, 39, 40, 41, 42, 43, 44, 45, 46, 47, 48, 49]) = true := ti_nd_cons rfl (by decide) k
        have hC9 : ((53 + k) :: [0, 1, 2, 3, 4, 5, 6, 7, 8, 9, 10, 11, 12, 13, 14, 15, 16, 17, 18, 19, 20, 21, 22, 23, 24, 25, 26, 27, 28, 29, 30, 31, 32, 33, 34, 35, 36, 37, 38, 39, 40, 41, 42, 43, 44, 45, 46, 47, 48, 49]).map (fun i => (ti_wMJRFDXZ E ad dh du dv jh ju jv kh ku kv tx hi yi (yr.1, yr.2.1, yr.2.2) yf yd xt rd ra sz pp mn fr ++ ti_cls T)[i]?) = ((cx.1, ti_cC cx.2) :: ti_wMJRFD E ad dh du dv jh ju jv kh ku kv tx hi yi yr yf yd).map some := by rw [List.map_cons, hj9]; rfl
        have hDo := hD
        refine ti_callX (ty_runV (As := [.ref (ad 0)]) (rest := [.int (nI cnt)]) S (met_X11_does l D E htr z0 cx.1 (nI cx.2.1) (cx.2.2.getD 0 0) (cx.2.2.getD 1 0) (cx.2.2.getD 2 0) ad dh du dv jh ju jv kh ku kv tx hi yi yr yf yd hyi I1 hJ1 hyd D1 hDD1 hyr hyf hinv1 H.size) (cwV 1 S.2.2.2.2 (lw_V q566 q567 q568 q81 q569) rfl rfl rfl (by decide +kernel) ⟨Nat.le_of_ble_eq_true rfl, Nat.le_of_ble_eq_true rfl⟩) (ti_preXV (xp := fun _ => True) hE hP hD hS rfl hZ hAz trivial ((53 + k) :: [0, 1, 2, 3, 4, 5, 6, 7, 8, 9, 10, 11, 12, 13, 14, 15, 16, 17, 18, 19, 20, 21, 22, 23, 24, 25, 26, 27, 28, 29, 30, 31, 32, 33, 34, 35, 36, 37, 38, 39, 40, 41, 42, 43, 44, 45, 46, 47, 48, 49]) hn9 hC9 (53 + k) hj9 rfl) rfl rfl hl.1 rfl (lv_room (Nat.le_of_ble_eq_true rfl)) dX9_does_20 ⟨show cz + 1 ≤ 12 by omega, show sl + 6 ≤ 72 by omega⟩) hP hD hS hA ((53 + k) :: [0, 1, 2, 3, 4, 5, 6, 7, 8, 9, 10, 11, 12, 13, 14, 15, 16, 17, 18, 19, 20, 21, 22, 23, 24, 25, 26, 27, 28, 29, 30, 31, 32, 33, 34, 35, 36, 37, 38, 39, 40, 41, 42, 43, 44, 45, 46, 47, 48, 49]) hC9 (fun _ => rfl) (fun _ => rfl) (fun ug H locs hu _ _ hP hD hS => ?_) (fun _ _ _ _ h9 => absurd h9 id)
        obtain ⟨hu1, hu2, hu3, hu4, hu5, hu6⟩ := hu
        have hP : va_P D vwCl (ti_sets (ti_wMJRFDXZ E ad dh du dv jh ju jv kh ku kv tx hi yi (yr.1, yr.2.1, yr.2.2) yf yd xt rd ra sz pp mn fr ++ ti_cls T) ((53 + k) :: [0, 1, 2, 3, 4, 5, 6, 7, 8, 9, 10, 11, 12, 13, 14, 15, 16, 17, 18, 19, 20, 21, 22, 23, 24, 25, 26, 27, 28, 29, 30, 31, 32, 33, 34, 35, 36, 37, 38, 39, 40, 41, 42, 43, 44, 45, 46, 47, 48, 49]) ((cx.1, ti_cC cx.2) :: ti_wMJRFD E ad dh du dv jh ju jv kh ku kv tx hi ug.1 ug.2.1 ug.2.2.1 ug.2.2.2)) H := hP
        have hQ9 : ti_sets (ti_wMJRFDXZ E ad dh du dv jh ju jv kh ku kv tx hi yi (yr.1, yr.2.1, yr.2.2) yf yd xt rd ra sz pp mn fr) [0, 1, 2, 3, 4, 5, 6, 7, 8, 9, 10, 11, 12, 13, 14, 15, 16, 17, 18, 19, 20, 21, 22, 23, 24, 25, 26, 27, 28, 29, 30, 31, 32, 33, 34, 35, 36, 37, 38, 39, 40, 41, 42, 43, 44, 45, 46, 47, 48, 49] (ti_wMJRFD E ad dh du dv jh ju jv kh ku kv tx hi ug.1 ug.2.1 ug.2.2.1 ug.2.2.2) = ti_wMJRFDXZ E ad dh du dv jh ju jv kh ku kv tx hi ug.1 ug.2.1 ug.2.2.1 ug.2.2.2 xt rd ra sz pp mn fr := ti_asE [.inr 0, .inr 1, .inr 2, .inr 3, .inr 4, .inr 5, .inr 6, .inr 7, .inr 8, .inr 9, .inr 10, .inr 11, .inr 12, .inr 13, .inr 14, .inr 15, .inr 16, .inr 17, .inr 18, .inr 19, .inr 20, .inr 21, .inr 22, .inr 23, .inr 24, .inr 25, .inr 26, .inr 27, .inr 28, .inr 29, .inr 30, .inr 31, .inr 32, .inr 33, .inr 34, .inr 35, .inr 36, .inr 37, .inr 38, .inr 39, .inr 40, .inr 41, .inr 42, .inr 43, .inr 44, .inr 45, .inr 46, .inr 47, .inr 48, .inr 49, .inl 50, .inl 51, .inl 52] rfl rfl rfl rfl
        rw [ti_sets_same hj9, ti_sets_appL [0, 1, 2, 3, 4, 5, 6, 7, 8, 9, 10, 11, 12, 13, 14, 15, 16, 17, 18, 19, 20, 21, 22, 23, 24, 25, 26, 27, 28, 29, 30, 31, 32, 33, 34, 35, 36, 37, 38, 39, 40, 41, 42, 43, 44, 45, 46, 47, 48, 49] (ti_wMJRFDXZ E ad dh du dv jh ju jv kh ku kv tx hi yi (yr.1, yr.2.1, yr.2.2) yf yd xt rd ra sz pp mn fr) (ti_cls T) (ti_wMJRFD E ad dh du dv jh ju jv kh ku kv tx hi ug.1 ug.2.1 ug.2.2.1 ug.2.2.2) (fun i hi9 => (by decide : ∀ i ∈ [0, 1, 2, 3, 4, 5, 6, 7, 8, 9, 10, 11, 12, 13, 14, 15, 16, 17, 18, 19, 20, 21, 22, 23, 24, 25, 26, 27, 28, 29, 30, 31, 32, 33, 34, 35, 36, 37, 38, 39, 40, 41, 42, 43, 44, 45, 46, 47, 48, 49], i < 53) i hi9), hQ9] at hP
        have hD : va_D A (ti_wMJRFDXZ E ad dh du dv jh ju jv kh ku kv tx hi ug.1 ug.2.1 ug.2.2.1 ug.2.2.2 xt rd ra sz pp mn fr ++ ti_cls T) := ti_D_addr hDo (by rw [List.map_append, List.map_append]; rfl)
        refine W.eq (g2 := F0 m 23 ls [.int (ti_b (!decide ((ti_Sdc I1 D1 cx.2).1 < 0))), .int (nI cnt)]) rfl ?_
        refine tb_eq (tgt := 30) hx hb dX9_does_23 (by decide) (fun c23 => ?_) (fun c23 => ?_)
        · skip
          have hc9 : (ti_Sdc I1 D1 cx.2).1 < 0 := by simpa using c23
          refine lv_iconst (v := nI 0) hx hb dX9_does_30 (by decide) ?_
          refine tn_add hx hb dX9_does_31 ?_
          refine lv_istore_n (lv' := [(2, .int (nI (cnt + 0))), (0, .ref rd), (1, .ref (ad 0)), (3, .int (nI k))]) hx hb dX9_does_32 rfl hl (by decide) rfl (fun ls hl => ?_)
          refine lv_iinc (v := nI (k + 1)) (lv' := [(3, .int (nI (k + 1))), (2, .int (nI (cnt + 0))), (0, .ref rd), (1, .ref (ad 0))]) hx hb dX9_does_33 hl (k := 3) rfl (nI_1 k) (by decide) rfl (fun ls hl => ?_)
          refine lv_goto (tgt := 4) hx hb dX9_does_36 (by decide) ?_
          exact ih4 (k + 1) (cnt + 0) ug.1 ug.2.1 ug.2.2.1 ug.2.2.2 ((ti_Sdc I1 D1 cx.2).2.1) ((ti_Sdc I1 D1 cx.2).2.2) (cz + 1) (sl + 6) _ _ _ hP hD hS (by omega) (by omega) (by omega) (by omega) (by omega) (hu3) (hu1) (hu4) (hu5) (hu6) (hu2) (ti_inv_do hinv1 _ _ _ _) (by have h9 := hrd; rw [ti_drop_s hcx, List.map_cons, ti_rd, if_pos hc9] at h9; exact h9) (lv_sub hl [2, 3, 1, 0] rfl)
        · skip
          have hc9 : ¬ (ti_Sdc I1 D1 cx.2).1 < 0 := by simpa using c23
          refine lv_iconst (v := nI 1) hx hb dX9_does_26 (by decide) ?_
          refine lv_goto (tgt := 31) hx hb dX9_does_27 (by decide) ?_
          refine tn_add hx hb dX9_does_31 ?_
          refine lv_istore_n (lv' := [(2, .int (nI (cnt + 1))), (0, .ref rd), (1, .ref (ad 0)), (3, .int (nI k))]) hx hb dX9_does_32 rfl hl (by decide) rfl (fun ls hl => ?_)
          refine lv_iinc (v := nI (k + 1)) (lv' := [(3, .int (nI (k + 1))), (2, .int (nI (cnt + 1))), (0, .ref rd), (1, .ref (ad 0))]) hx hb dX9_does_33 hl (k := 3) rfl (nI_1 k) (by decide) rfl (fun ls hl => ?_)
          refine lv_goto (tgt := 4) hx hb dX9_does_36 (by decide) ?_
          exact ih4 (k + 1) (cnt + 1) ug.1 ug.2.1 ug.2.2.1 ug.2.2.2 ((ti_Sdc I1 D1 cx.2).2.1) ((ti_Sdc I1 D1 cx.2).2.2) (cz + 1) (sl + 6) _ _ _ hP hD hS (by omega) (by omega) (by omega) (by omega) (by omega) (hu3) (hu1) (hu4) (hu5) (hu6) (hu2) (ti_inv_do hinv1 _ _ _ _) (by have h9 := hrd; rw [ti_drop_s hcx, List.map_cons, ti_rd, if_neg hc9] at h9; exact h9) (lv_sub hl [2, 3, 1, 0] rfl)
  exact L4 _ 0 0 xi xr xf xd I DD 0 0 _ _ _ hP hD hS (Nat.lt_succ_self _) (by omega) (by omega) (by omega) (by omega) (hxi) (hJ) (hxr) (hxf) (hxd) (hDD) (hinv) (rfl) (lv_sub hl [2, 3, 1, 0] rfl)
