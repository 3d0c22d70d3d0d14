/-! constructors that make cells (printed by w_ctor.py) -/
set_option maxRecDepth 100000

section TQA
variable {p : Program} {l : Launch} {e : Env} {R : Room} {s : State} {m : MethodId} {args : Array Value} {below : List Frame} {meth : Method} {c : Code} {H : Heap} {locs : List Loc} {cells slots : Nat} {Q : State → Prop}
variable {cc : ByteArray} {pc : Nat} {ls : Array Slot} {rest : List Value} {D : va_G} {A : Nat → Prop} {a : Nat} {tys : List (ClassId × FieldType)} {ws : va_W} {H0 : Heap}
theorem tn_aastR (hx : p.tables.exec = Jvm.exec) (hb : c.code = cc) (hK : va_K D vwCl tys s) (hP : va_P D vwCl ws H) (hD : va_D A ws) (hS : va_S A H0 H locs) (q0 t0 qk ci : Nat) {cA : ClassId} {r : vw_C} {n i v : Nat} {vs : List Value} {f : Nat → Option Nat} (ha : ws[q0]? = some (a, .inl (cA, n, .inr (.inr (.inr (.inr f)))))) (ht : tys[t0]? = some (cA, .object r.1)) (hv : ws[qk]? = some (v, .inr (ci, vs))) (hc : vwCl[ci]? = some r) (hi : i < n) (hn : n < 2 ^ 31) (hd : decode cc pc = .ok (.aastore, 1))
    (k : ∀ (H : Heap) (locs : List Loc), va_P D vwCl (ws.set q0 (a, .inl (cA, n, .inr (.inr (.inr (.inr (va_up f i (some v)))))))) H → va_D A (ws.set q0 (a, .inl (cA, n, .inr (.inr (.inr (.inr (va_up f i (some v)))))))) → va_S A H0 H locs → W p l e R s m args below meth c H locs cells slots Q (F0 m (pc + 1) ls rest)) : W p l e R s m args below meth c H locs cells slots Q (F0 m pc ls (.ref v :: .int (nI i) :: .ref a :: rest)) :=
  va_astq hx hb hK hP hD hS q0 t0 qk ci ha ht hv hc (vp_in_nI hi hn) hd (by rw [nI_clamp (Nat.lt_trans hi hn)]; exact k)
end TQA
theorem ti_cell_extQ {cA : ClassId} {N : Nat} {f g : Nat → Option Nat} (h : ∀ j, j < N → f j = g j) : vp_cell cA (N, .inr (.inr (.inr (.inr f)))) = vp_cell cA (N, .inr (.inr (.inr (.inr g)))) := by
  show arrV cA N (fun j => va_rf (f j)) = arrV cA N (fun j => va_rf (g j))
  unfold arrV
  congr 1
  apply Array.ext
  · simp
  · intro i h1 h2
    simp at h1
    simp [h i h1]
theorem ti_P_repQ {D : va_G} {cl : List vw_C} {ws : va_W} {a : Nat} {cA : ClassId} {N : Nat} {f g : Nat → Option Nat} {H : Heap} (hP : va_P D cl ws H) (q : Nat) (hq : ws[q]? = some (a, .inl (cA, N, .inr (.inr (.inr (.inr f)))))) (h : ∀ j, j < N → f j = g j) : va_P D cl (ws.set q (a, .inl (cA, N, .inr (.inr (.inr (.inr g)))))) H := by
  intro k x hk
  rw [List.getElem?_set] at hk
  by_cases hqk : q = k
  · subst hqk
    have hl := (List.getElem?_eq_some_iff.mp hq).1
    rw [if_pos rfl, if_pos hl] at hk
    cases hk
    have h1 := hP q _ hq
    show H[a]? = some (vp_cell _ _)
    rw [← ti_cell_extQ h]
    exact h1
  · rw [if_neg hqk] at hk
    exact hP k x hk

theorem ti_df0 : ∀ j, j < 19 → defaultValue (tyX0 j) = vp_V [.null, .null, .null, .null, .null, .null, .null, .null, .null, .int (nI 0), .null, .null, .null, .null, .null, .null, .null, .null, .int (ti_b false)] j := by
  intro j hj
  match j, hj with
  | 0, _ => rfl
  | 1, _ => rfl
  | 2, _ => rfl
  | 3, _ => rfl
  | 4, _ => rfl
  | 5, _ => rfl
  | 6, _ => rfl
  | 7, _ => rfl
  | 8, _ => rfl
  | 9, _ => rfl
  | 10, _ => rfl
  | 11, _ => rfl
  | 12, _ => rfl
  | 13, _ => rfl
  | 14, _ => rfl
  | 15, _ => rfl
  | 16, _ => rfl
  | 17, _ => rfl
  | 18, _ => rfl
  | _ + 19, hh => exact absurd hh (by omega)

theorem ti_df1 : ∀ j, j < 3 → defaultValue (tyX1 j) = vp_V [.null, .null, .int (nI 0)] j := by
  intro j hj
  match j, hj with
  | 0, _ => rfl
  | 1, _ => rfl
  | 2, _ => rfl
  | _ + 3, hh => exact absurd hh (by omega)

theorem ti_df2 : ∀ j, j < 10 → defaultValue (tyX2 j) = vp_V [.null, .null, .null, .null, .int (nI 0), .int (nI 0), .int (nI 0), .null, .null, .int (nI 0)] j := by
  intro j hj
  match j, hj with
  | 0, _ => rfl
  | 1, _ => rfl
  | 2, _ => rfl
  | 3, _ => rfl
  | 4, _ => rfl
  | 5, _ => rfl
  | 6, _ => rfl
  | 7, _ => rfl
  | 8, _ => rfl
  | 9, _ => rfl
  | _ + 10, hh => exact absurd hh (by omega)

theorem ti_df3 : ∀ j, j < 3 → defaultValue (tyX3 j) = vp_V [.null, .null, .int (nI 0)] j := by
  intro j hj
  match j, hj with
  | 0, _ => rfl
  | 1, _ => rfl
  | 2, _ => rfl
  | _ + 3, hh => exact absurd hh (by omega)

theorem ti_df4 : ∀ j, j < 1 → defaultValue (tyX4 j) = vp_V [.null] j := by
  intro j hj
  match j, hj with
  | 0, _ => rfl
  | _ + 1, hh => exact absurd hh (by omega)

theorem ti_df5 : ∀ j, j < 4 → defaultValue (tyX5 j) = vp_V [.null, .null, .null, .int (nI 0)] j := by
  intro j hj
  match j, hj with
  | 0, _ => rfl
  | 1, _ => rfl
  | 2, _ => rfl
  | 3, _ => rfl
  | _ + 4, hh => exact absurd hh (by omega)

theorem ti_df6 : ∀ j, j < 1 → defaultValue (tyX6 j) = vp_V [.null] j := by
  intro j hj
  match j, hj with
  | 0, _ => rfl
  | _ + 1, hh => exact absurd hh (by omega)

theorem ti_df7 : ∀ j, j < 46 → defaultValue (tyX7 j) = vp_V [.null, .null, .null, .int (nI 0), .null, .null, .null, .null, .null, .int (nI 0), .int (nI 0), .null, .int (nI 0), .null, .null, .null, .int (nI 0), .null, .null, .null, .null, .null, .int (nI 0), .null, .null, .null, .int (nI 0), .null, .null, .int (nI 0), .null, .null, .null, .null, .null, .null, .int (ti_b false), .null, .null, .null, .int (nI 0), .null, .int (nI 0), .null, .int (nI 0), .null] j := by
  intro j hj
  match j, hj with
  | 0, _ => rfl
  | 1, _ => rfl
  | 2, _ => rfl
  | 3, _ => rfl
  | 4, _ => rfl
  | 5, _ => rfl
  | 6, _ => rfl
  | 7, _ => rfl
  | 8, _ => rfl
  | 9, _ => rfl
  | 10, _ => rfl
  | 11, _ => rfl
  | 12, _ => rfl
  | 13, _ => rfl
  | 14, _ => rfl
  | 15, _ => rfl
  | 16, _ => rfl
  | 17, _ => rfl
  | 18, _ => rfl
  | 19, _ => rfl
  | 20, _ => rfl
  | 21, _ => rfl
  | 22, _ => rfl
  | 23, _ => rfl
  | 24, _ => rfl
  | 25, _ => rfl
  | 26, _ => rfl
  | 27, _ => rfl
  | 28, _ => rfl
  | 29, _ => rfl
  | 30, _ => rfl
  | 31, _ => rfl
  | 32, _ => rfl
  | 33, _ => rfl
  | 34, _ => rfl
  | 35, _ => rfl
  | 36, _ => rfl
  | 37, _ => rfl
  | 38, _ => rfl
  | 39, _ => rfl
  | 40, _ => rfl
  | 41, _ => rfl
  | 42, _ => rfl
  | 43, _ => rfl
  | 44, _ => rfl
  | 45, _ => rfl
  | _ + 46, hh => exact absurd hh (by omega)

theorem ti_df9 : ∀ j, j < 5 → defaultValue (tyX9 j) = vp_V [.null, .int (nI 0), .int (nI 0), .null, .int (nI 0)] j := by
  intro j hj
  match j, hj with
  | 0, _ => rfl
  | 1, _ => rfl
  | 2, _ => rfl
  | 3, _ => rfl
  | 4, _ => rfl
  | _ + 5, hh => exact absurd hh (by omega)

theorem ti_df11 : ∀ j, j < 4 → defaultValue (tyX11 j) = vp_V [.int (nI 0), .int (nI 0), .int (nI 0), .int (nI 0)] j := by
  intro j hj
  match j, hj with
  | 0, _ => rfl
  | 1, _ => rfl
  | 2, _ => rfl
  | 3, _ => rfl
  | _ + 4, hh => exact absurd hh (by omega)

set_option maxHeartbeats 2000000 in
theorem met_X1_init (l : Launch) (D : va_G) (E : Nat → ClassId) (h : Nat)  : ti_MetN (σ := Nat × Nat) l D E yX1_init cX1_init 1 none 1 2 12 ([(h, .inr (1, [.null, .null, .int (nI 0)]))]) [.ref h] (fun u => [(h, .inr (1, [.ref u.1, .ref u.2, .int (nI 0)]))]) (fun u => [(u.1, .inl (E 0, 6, .inl (ti_n (fun _ => 0)))), (u.2, .inl (E 0, 6, .inl (ti_n (fun _ => 0))))]) (fun _ => none) (fun _ => True) := by
  refine ti_metNV (σ := Nat × Nat) (by decide) (Nat.le_of_ble_eq_true rfl) ?_
  intro p e s m below meth c H H0 A Q ls S hE hP hD hS hA hinit hl hret
  have hx := S.1
  have hb := S.2.1
  have hown := S.2.2.2.1
  have hts := S.2.2.2.2
  have hK := hE.1
  have hl : lv_has ls 1 [(0, .ref h)] := hl
  refine lv_aload_n hx hb dX1_init_0 rfl (lv_at hl 0 rfl) ?_
  refine W.objInit hx hb hown (hts _ q108) (hts _ q100) (hts _ q101) rfl (by rw [S.2.2.1]; exact hl.1) rfl dX1_init_1 (Nat.le_of_ble_eq_true rfl) (Nat.le_of_ble_eq_true rfl) ?_
  refine W.eq (g2 := F0 m 4 ls []) rfl ?_
  refine lv_aload_n hx hb dX1_init_4 rfl (lv_at hl 0 rfl) ?_
  refine lv_bipush (v := nI 6) hx hb dX1_init_5 (by decide) ?_
  have hb1 := hS.1
  refine ti_newaM hx hb .int (hts _ q125) hK hP hD hS hA 0 rfl (a0 := (6, .inl (ti_n (fun _ => 0)))) rfl (nI_pos (by decide)) (nI_clamp (by decide)) (Nat.le_of_ble_eq_true rfl) (Nat.le_of_ble_eq_true rfl) (Nat.le_of_ble_eq_true rfl) dX1_init_7 (fun q1 H hq1 hs1 ho1 hP hD hS => ?_)
  have g_q1 : H0.size ≤ q1 := by omega
  have hP : va_P D vwCl ([(h, .inr (1, [.null, .null, .int (nI 0)])), (q1, .inl (E 0, 6, .inl (ti_n (fun _ => 0))))]) H := hP
  have hD : va_D A ([(h, .inr (1, [.null, .null, .int (nI 0)])), (q1, .inl (E 0, 6, .inl (ti_n (fun _ => 0))))]) := hD
  refine va_putF (ty := .array .int) hx hb hts in_X1 tyX1 tyX1_ok nmX1 hown hK hP hD hS 0 rfl rfl 0 (by decide) (hts _ q109) (fun _ h => h) rfl hinit rfl rfl rfl rfl (Nat.le_of_ble_eq_true rfl) dX1_init_9 (fun H locs hP hD hS => ?_)
  have hP : va_P D vwCl ([(h, .inr (1, [.ref q1, .null, .int (nI 0)])), (q1, .inl (E 0, 6, .inl (ti_n (fun _ => 0))))]) H := hP
  have hD : va_D A ([(h, .inr (1, [.ref q1, .null, .int (nI 0)])), (q1, .inl (E 0, 6, .inl (ti_n (fun _ => 0))))]) := hD
  refine lv_aload_n hx hb dX1_init_12 rfl (lv_at hl 0 rfl) ?_
  refine lv_bipush (v := nI 6) hx hb dX1_init_13 (by decide) ?_
  have hb2 := hS.1
  refine ti_newaM hx hb .int (hts _ q125) hK hP hD hS hA 0 rfl (a0 := (6, .inl (ti_n (fun _ => 0)))) rfl (nI_pos (by decide)) (nI_clamp (by decide)) (Nat.le_of_ble_eq_true rfl) (Nat.le_of_ble_eq_true rfl) (Nat.le_of_ble_eq_true rfl) dX1_init_15 (fun q2 H hq2 hs2 ho2 hP hD hS => ?_)
  have g_q2 : H0.size ≤ q2 := by omega
  have hP : va_P D vwCl ([(h, .inr (1, [.ref q1, .null, .int (nI 0)])), (q1, .inl (E 0, 6, .inl (ti_n (fun _ => 0)))), (q2, .inl (E 0, 6, .inl (ti_n (fun _ => 0))))]) H := hP
  have hD : va_D A ([(h, .inr (1, [.ref q1, .null, .int (nI 0)])), (q1, .inl (E 0, 6, .inl (ti_n (fun _ => 0)))), (q2, .inl (E 0, 6, .inl (ti_n (fun _ => 0))))]) := hD
  refine va_putF (ty := .array .int) hx hb hts in_X1 tyX1 tyX1_ok nmX1 hown hK hP hD hS 0 rfl rfl 1 (by decide) (hts _ q112) (fun _ h => h) rfl hinit rfl rfl rfl rfl (Nat.le_of_ble_eq_true rfl) dX1_init_17 (fun H locs hP hD hS => ?_)
  have hP : va_P D vwCl ([(h, .inr (1, [.ref q1, .ref q2, .int (nI 0)])), (q1, .inl (E 0, 6, .inl (ti_n (fun _ => 0)))), (q2, .inl (E 0, 6, .inl (ti_n (fun _ => 0))))]) H := hP
  have hD : va_D A ([(h, .inr (1, [.ref q1, .ref q2, .int (nI 0)])), (q1, .inl (E 0, 6, .inl (ti_n (fun _ => 0)))), (q2, .inl (E 0, 6, .inl (ti_n (fun _ => 0))))]) := hD
  exact hret (q1, q2) _ _ _ _ _ _ dX1_init_20 trivial hP hD (ti_nu1 g_q1 (ti_nu1 g_q2 ti_nu0)) hS (Nat.le_of_ble_eq_true rfl) (Nat.le_of_ble_eq_true rfl)

set_option maxHeartbeats 2000000 in
theorem met_X2_init (l : Launch) (D : va_G) (E : Nat → ClassId) (h : Nat)  : ti_MetN (σ := Nat × Nat × Nat × Nat × Nat) l D E yX2_init cX2_init 1 none 1 5 224 ([(h, .inr (2, [.null, .null, .null, .null, .int (nI 0), .int (nI 0), .int (nI 0), .null, .null, .int (nI 0)]))]) [.ref h] (fun u => [(h, .inr (2, [.null, .ref u.1, .ref u.2.1, .ref u.2.2.1, .int (nI 0), .int (nI 0), .int (nI 0), .ref u.2.2.2.1, .ref u.2.2.2.2, .int (nI 0)]))]) (fun u => [(u.1, .inl (E 0, 8, .inl (ti_n (fun _ => 0)))), (u.2.1, .inl (E 0, 8, .inl (ti_n (fun _ => 0)))), (u.2.2.1, .inl (E 0, 8, .inl (ti_n (fun _ => 0)))), (u.2.2.2.1, .inl (E 0, 100, .inl (ti_n (fun _ => 0)))), (u.2.2.2.2, .inl (E 0, 100, .inl (ti_n (fun _ => 0))))]) (fun _ => none) (fun _ => True) := by
  refine ti_metNV (σ := Nat × Nat × Nat × Nat × Nat) (by decide) (Nat.le_of_ble_eq_true rfl) ?_
  intro p e s m below meth c H H0 A Q ls S hE hP hD hS hA hinit hl hret
  have hx := S.1
  have hb := S.2.1
  have hown := S.2.2.2.1
  have hts := S.2.2.2.2
  have hK := hE.1
  have hl : lv_has ls 1 [(0, .ref h)] := hl
  refine lv_aload_n hx hb dX2_init_0 rfl (lv_at hl 0 rfl) ?_
  refine W.objInit hx hb hown (hts _ q131) (hts _ q100) (hts _ q101) rfl (by rw [S.2.2.1]; exact hl.1) rfl dX2_init_1 (Nat.le_of_ble_eq_true rfl) (Nat.le_of_ble_eq_true rfl) ?_
  refine W.eq (g2 := F0 m 4 ls []) rfl ?_
  refine lv_aload_n hx hb dX2_init_4 rfl (lv_at hl 0 rfl) ?_
  refine lv_bipush (v := nI 8) hx hb dX2_init_5 (by decide) ?_
  have hb1 := hS.1
  refine ti_newaM hx hb .int (hts _ q125) hK hP hD hS hA 0 rfl (a0 := (8, .inl (ti_n (fun _ => 0)))) rfl (nI_pos (by decide)) (nI_clamp (by decide)) (Nat.le_of_ble_eq_true rfl) (Nat.le_of_ble_eq_true rfl) (Nat.le_of_ble_eq_true rfl) dX2_init_7 (fun q1 H hq1 hs1 ho1 hP hD hS => ?_)
  have g_q1 : H0.size ≤ q1 := by omega
  have hP : va_P D vwCl ([(h, .inr (2, [.null, .null, .null, .null, .int (nI 0), .int (nI 0), .int (nI 0), .null, .null, .int (nI 0)])), (q1, .inl (E 0, 8, .inl (ti_n (fun _ => 0))))]) H := hP
  have hD : va_D A ([(h, .inr (2, [.null, .null, .null, .null, .int (nI 0), .int (nI 0), .int (nI 0), .null, .null, .int (nI 0)])), (q1, .inl (E 0, 8, .inl (ti_n (fun _ => 0))))]) := hD
  refine va_putF (ty := .array .int) hx hb hts in_X2 tyX2 tyX2_ok nmX2 hown hK hP hD hS 0 rfl rfl 1 (by decide) (hts _ q133) (fun _ h => h) rfl hinit rfl rfl rfl rfl (Nat.le_of_ble_eq_true rfl) dX2_init_9 (fun H locs hP hD hS => ?_)
  have hP : va_P D vwCl ([(h, .inr (2, [.null, .ref q1, .null, .null, .int (nI 0), .int (nI 0), .int (nI 0), .null, .null, .int (nI 0)])), (q1, .inl (E 0, 8, .inl (ti_n (fun _ => 0))))]) H := hP
  have hD : va_D A ([(h, .inr (2, [.null, .ref q1, .null, .null, .int (nI 0), .int (nI 0), .int (nI 0), .null, .null, .int (nI 0)])), (q1, .inl (E 0, 8, .inl (ti_n (fun _ => 0))))]) := hD
  refine lv_aload_n hx hb dX2_init_12 rfl (lv_at hl 0 rfl) ?_
  refine lv_bipush (v := nI 8) hx hb dX2_init_13 (by decide) ?_
  have hb2 := hS.1
  refine ti_newaM hx hb .int (hts _ q125) hK hP hD hS hA 0 rfl (a0 := (8, .inl (ti_n (fun _ => 0)))) rfl (nI_pos (by decide)) (nI_clamp (by decide)) (Nat.le_of_ble_eq_true rfl) (Nat.le_of_ble_eq_true rfl) (Nat.le_of_ble_eq_true rfl) dX2_init_15 (fun q2 H hq2 hs2 ho2 hP hD hS => ?_)
  have g_q2 : H0.size ≤ q2 := by omega
  have hP : va_P D vwCl ([(h, .inr (2, [.null, .ref q1, .null, .null, .int (nI 0), .int (nI 0), .int (nI 0), .null, .null, .int (nI 0)])), (q1, .inl (E 0, 8, .inl (ti_n (fun _ => 0)))), (q2, .inl (E 0, 8, .inl (ti_n (fun _ => 0))))]) H := hP
  have hD : va_D A ([(h, .inr (2, [.null, .ref q1, .null, .null, .int (nI 0), .int (nI 0), .int (nI 0), .null, .null, .int (nI 0)])), (q1, .inl (E 0, 8, .inl (ti_n (fun _ => 0)))), (q2, .inl (E 0, 8, .inl (ti_n (fun _ => 0))))]) := hD
  refine va_putF (ty := .array .int) hx hb hts in_X2 tyX2 tyX2_ok nmX2 hown hK hP hD hS 0 rfl rfl 2 (by decide) (hts _ q135) (fun _ h => h) rfl hinit rfl rfl rfl rfl (Nat.le_of_ble_eq_true rfl) dX2_init_17 (fun H locs hP hD hS => ?_)
  have hP : va_P D vwCl ([(h, .inr (2, [.null, .ref q1, .ref q2, .null, .int (nI 0), .int (nI 0), .int (nI 0), .null, .null, .int (nI 0)])), (q1, .inl (E 0, 8, .inl (ti_n (fun _ => 0)))), (q2, .inl (E 0, 8, .inl (ti_n (fun _ => 0))))]) H := hP
  have hD : va_D A ([(h, .inr (2, [.null, .ref q1, .ref q2, .null, .int (nI 0), .int (nI 0), .int (nI 0), .null, .null, .int (nI 0)])), (q1, .inl (E 0, 8, .inl (ti_n (fun _ => 0)))), (q2, .inl (E 0, 8, .inl (ti_n (fun _ => 0))))]) := hD
  refine lv_aload_n hx hb dX2_init_20 rfl (lv_at hl 0 rfl) ?_
  refine lv_bipush (v := nI 8) hx hb dX2_init_21 (by decide) ?_
  have hb3 := hS.1
  refine ti_newaM hx hb .int (hts _ q125) hK hP hD hS hA 0 rfl (a0 := (8, .inl (ti_n (fun _ => 0)))) rfl (nI_pos (by decide)) (nI_clamp (by decide)) (Nat.le_of_ble_eq_true rfl) (Nat.le_of_ble_eq_true rfl) (Nat.le_of_ble_eq_true rfl) dX2_init_23 (fun q3 H hq3 hs3 ho3 hP hD hS => ?_)
  have g_q3 : H0.size ≤ q3 := by omega
  have hP : va_P D vwCl ([(h, .inr (2, [.null, .ref q1, .ref q2, .null, .int (nI 0), .int (nI 0), .int (nI 0), .null, .null, .int (nI 0)])), (q1, .inl (E 0, 8, .inl (ti_n (fun _ => 0)))), (q2, .inl (E 0, 8, .inl (ti_n (fun _ => 0)))), (q3, .inl (E 0, 8, .inl (ti_n (fun _ => 0))))]) H := hP
  have hD : va_D A ([(h, .inr (2, [.null, .ref q1, .ref q2, .null, .int (nI 0), .int (nI 0), .int (nI 0), .null, .null, .int (nI 0)])), (q1, .inl (E 0, 8, .inl (ti_n (fun _ => 0)))), (q2, .inl (E 0, 8, .inl (ti_n (fun _ => 0)))), (q3, .inl (E 0, 8, .inl (ti_n (fun _ => 0))))]) := hD
  refine va_putF (ty := .array .int) hx hb hts in_X2 tyX2 tyX2_ok nmX2 hown hK hP hD hS 0 rfl rfl 3 (by decide) (hts _ q137) (fun _ h => h) rfl hinit rfl rfl rfl rfl (Nat.le_of_ble_eq_true rfl) dX2_init_25 (fun H locs hP hD hS => ?_)
  have hP : va_P D vwCl ([(h, .inr (2, [.null, .ref q1, .ref q2, .ref q3, .int (nI 0), .int (nI 0), .int (nI 0), .null, .null, .int (nI 0)])), (q1, .inl (E 0, 8, .inl (ti_n (fun _ => 0)))), (q2, .inl (E 0, 8, .inl (ti_n (fun _ => 0)))), (q3, .inl (E 0, 8, .inl (ti_n (fun _ => 0))))]) H := hP
  have hD : va_D A ([(h, .inr (2, [.null, .ref q1, .ref q2, .ref q3, .int (nI 0), .int (nI 0), .int (nI 0), .null, .null, .int (nI 0)])), (q1, .inl (E 0, 8, .inl (ti_n (fun _ => 0)))), (q2, .inl (E 0, 8, .inl (ti_n (fun _ => 0)))), (q3, .inl (E 0, 8, .inl (ti_n (fun _ => 0))))]) := hD
  refine lv_aload_n hx hb dX2_init_28 rfl (lv_at hl 0 rfl) ?_
  refine lv_bipush (v := nI 100) hx hb dX2_init_29 (by decide) ?_
  have hb4 := hS.1
  refine ti_newaM hx hb .int (hts _ q125) hK hP hD hS hA 0 rfl (a0 := (100, .inl (ti_n (fun _ => 0)))) rfl (nI_pos (by decide)) (nI_clamp (by decide)) (Nat.le_of_ble_eq_true rfl) (Nat.le_of_ble_eq_true rfl) (Nat.le_of_ble_eq_true rfl) dX2_init_31 (fun q4 H hq4 hs4 ho4 hP hD hS => ?_)
  have g_q4 : H0.size ≤ q4 := by omega
  have hP : va_P D vwCl ([(h, .inr (2, [.null, .ref q1, .ref q2, .ref q3, .int (nI 0), .int (nI 0), .int (nI 0), .null, .null, .int (nI 0)])), (q1, .inl (E 0, 8, .inl (ti_n (fun _ => 0)))), (q2, .inl (E 0, 8, .inl (ti_n (fun _ => 0)))), (q3, .inl (E 0, 8, .inl (ti_n (fun _ => 0)))), (q4, .inl (E 0, 100, .inl (ti_n (fun _ => 0))))]) H := hP
  have hD : va_D A ([(h, .inr (2, [.null, .ref q1, .ref q2, .ref q3, .int (nI 0), .int (nI 0), .int (nI 0), .null, .null, .int (nI 0)])), (q1, .inl (E 0, 8, .inl (ti_n (fun _ => 0)))), (q2, .inl (E 0, 8, .inl (ti_n (fun _ => 0)))), (q3, .inl (E 0, 8, .inl (ti_n (fun _ => 0)))), (q4, .inl (E 0, 100, .inl (ti_n (fun _ => 0))))]) := hD
  refine va_putF (ty := .array .int) hx hb hts in_X2 tyX2 tyX2_ok nmX2 hown hK hP hD hS 0 rfl rfl 7 (by decide) (hts _ q145) (fun _ h => h) rfl hinit rfl rfl rfl rfl (Nat.le_of_ble_eq_true rfl) dX2_init_33 (fun H locs hP hD hS => ?_)
  have hP : va_P D vwCl ([(h, .inr (2, [.null, .ref q1, .ref q2, .ref q3, .int (nI 0), .int (nI 0), .int (nI 0), .ref q4, .null, .int (nI 0)])), (q1, .inl (E 0, 8, .inl (ti_n (fun _ => 0)))), (q2, .inl (E 0, 8, .inl (ti_n (fun _ => 0)))), (q3, .inl (E 0, 8, .inl (ti_n (fun _ => 0)))), (q4, .inl (E 0, 100, .inl (ti_n (fun _ => 0))))]) H := hP
  have hD : va_D A ([(h, .inr (2, [.null, .ref q1, .ref q2, .ref q3, .int (nI 0), .int (nI 0), .int (nI 0), .ref q4, .null, .int (nI 0)])), (q1, .inl (E 0, 8, .inl (ti_n (fun _ => 0)))), (q2, .inl (E 0, 8, .inl (ti_n (fun _ => 0)))), (q3, .inl (E 0, 8, .inl (ti_n (fun _ => 0)))), (q4, .inl (E 0, 100, .inl (ti_n (fun _ => 0))))]) := hD
  refine lv_aload_n hx hb dX2_init_36 rfl (lv_at hl 0 rfl) ?_
  refine lv_bipush (v := nI 100) hx hb dX2_init_37 (by decide) ?_
  have hb5 := hS.1
  refine ti_newaM hx hb .int (hts _ q125) hK hP hD hS hA 0 rfl (a0 := (100, .inl (ti_n (fun _ => 0)))) rfl (nI_pos (by decide)) (nI_clamp (by decide)) (Nat.le_of_ble_eq_true rfl) (Nat.le_of_ble_eq_true rfl) (Nat.le_of_ble_eq_true rfl) dX2_init_39 (fun q5 H hq5 hs5 ho5 hP hD hS => ?_)
  have g_q5 : H0.size ≤ q5 := by omega
  have hP : va_P D vwCl ([(h, .inr (2, [.null, .ref q1, .ref q2, .ref q3, .int (nI 0), .int (nI 0), .int (nI 0), .ref q4, .null, .int (nI 0)])), (q1, .inl (E 0, 8, .inl (ti_n (fun _ => 0)))), (q2, .inl (E 0, 8, .inl (ti_n (fun _ => 0)))), (q3, .inl (E 0, 8, .inl (ti_n (fun _ => 0)))), (q4, .inl (E 0, 100, .inl (ti_n (fun _ => 0)))), (q5, .inl (E 0, 100, .inl (ti_n (fun _ => 0))))]) H := hP
  have hD : va_D A ([(h, .inr (2, [.null, .ref q1, .ref q2, .ref q3, .int (nI 0), .int (nI 0), .int (nI 0), .ref q4, .null, .int (nI 0)])), (q1, .inl (E 0, 8, .inl (ti_n (fun _ => 0)))), (q2, .inl (E 0, 8, .inl (ti_n (fun _ => 0)))), (q3, .inl (E 0, 8, .inl (ti_n (fun _ => 0)))), (q4, .inl (E 0, 100, .inl (ti_n (fun _ => 0)))), (q5, .inl (E 0, 100, .inl (ti_n (fun _ => 0))))]) := hD
  refine va_putF (ty := .array .int) hx hb hts in_X2 tyX2 tyX2_ok nmX2 hown hK hP hD hS 0 rfl rfl 8 (by decide) (hts _ q147) (fun _ h => h) rfl hinit rfl rfl rfl rfl (Nat.le_of_ble_eq_true rfl) dX2_init_41 (fun H locs hP hD hS => ?_)
  have hP : va_P D vwCl ([(h, .inr (2, [.null, .ref q1, .ref q2, .ref q3, .int (nI 0), .int (nI 0), .int (nI 0), .ref q4, .ref q5, .int (nI 0)])), (q1, .inl (E 0, 8, .inl (ti_n (fun _ => 0)))), (q2, .inl (E 0, 8, .inl (ti_n (fun _ => 0)))), (q3, .inl (E 0, 8, .inl (ti_n (fun _ => 0)))), (q4, .inl (E 0, 100, .inl (ti_n (fun _ => 0)))), (q5, .inl (E 0, 100, .inl (ti_n (fun _ => 0))))]) H := hP
  have hD : va_D A ([(h, .inr (2, [.null, .ref q1, .ref q2, .ref q3, .int (nI 0), .int (nI 0), .int (nI 0), .ref q4, .ref q5, .int (nI 0)])), (q1, .inl (E 0, 8, .inl (ti_n (fun _ => 0)))), (q2, .inl (E 0, 8, .inl (ti_n (fun _ => 0)))), (q3, .inl (E 0, 8, .inl (ti_n (fun _ => 0)))), (q4, .inl (E 0, 100, .inl (ti_n (fun _ => 0)))), (q5, .inl (E 0, 100, .inl (ti_n (fun _ => 0))))]) := hD
  exact hret (q1, q2, q3, q4, q5) _ _ _ _ _ _ dX2_init_44 trivial hP hD (ti_nu1 g_q1 (ti_nu1 g_q2 (ti_nu1 g_q3 (ti_nu1 g_q4 (ti_nu1 g_q5 ti_nu0))))) hS (Nat.le_of_ble_eq_true rfl) (Nat.le_of_ble_eq_true rfl)

set_option maxHeartbeats 2000000 in
theorem met_X4_init (l : Launch) (D : va_G) (E : Nat → ClassId) (h : Nat)  : ti_MetN (σ := Nat) l D E yX4_init cX4_init 1 none 1 1 61 ([(h, .inr (4, [.null]))]) [.ref h] (fun u => [(h, .inr (4, [.ref u]))]) (fun u => [(u, .inl (E 0, 61, .inl (ti_n (fun _ => 0))))]) (fun _ => none) (fun _ => True) := by
  refine ti_metNV (σ := Nat) (by decide) (Nat.le_of_ble_eq_true rfl) ?_
  intro p e s m below meth c H H0 A Q ls S hE hP hD hS hA hinit hl hret
  have hx := S.1
  have hb := S.2.1
  have hown := S.2.2.2.1
  have hts := S.2.2.2.2
  have hK := hE.1
  have hl : lv_has ls 1 [(0, .ref h)] := hl
  refine lv_aload_n hx hb dX4_init_0 rfl (lv_at hl 0 rfl) ?_
  refine W.objInit hx hb hown (hts _ q195) (hts _ q100) (hts _ q101) rfl (by rw [S.2.2.1]; exact hl.1) rfl dX4_init_1 (Nat.le_of_ble_eq_true rfl) (Nat.le_of_ble_eq_true rfl) ?_
  refine W.eq (g2 := F0 m 4 ls []) rfl ?_
  refine lv_aload_n hx hb dX4_init_4 rfl (lv_at hl 0 rfl) ?_
  refine lv_bipush (v := nI 61) hx hb dX4_init_5 (by decide) ?_
  have hb1 := hS.1
  refine ti_newaM hx hb .int (hts _ q125) hK hP hD hS hA 0 rfl (a0 := (61, .inl (ti_n (fun _ => 0)))) rfl (nI_pos (by decide)) (nI_clamp (by decide)) (Nat.le_of_ble_eq_true rfl) (Nat.le_of_ble_eq_true rfl) (Nat.le_of_ble_eq_true rfl) dX4_init_7 (fun q1 H hq1 hs1 ho1 hP hD hS => ?_)
  have g_q1 : H0.size ≤ q1 := by omega
  have hP : va_P D vwCl ([(h, .inr (4, [.null])), (q1, .inl (E 0, 61, .inl (ti_n (fun _ => 0))))]) H := hP
  have hD : va_D A ([(h, .inr (4, [.null])), (q1, .inl (E 0, 61, .inl (ti_n (fun _ => 0))))]) := hD
  refine va_putF (ty := .array .int) hx hb hts in_X4 tyX4 tyX4_ok nmX4 hown hK hP hD hS 0 rfl rfl 0 (by decide) (hts _ q196) (fun _ h => h) rfl hinit rfl rfl rfl rfl (Nat.le_of_ble_eq_true rfl) dX4_init_9 (fun H locs hP hD hS => ?_)
  have hP : va_P D vwCl ([(h, .inr (4, [.ref q1])), (q1, .inl (E 0, 61, .inl (ti_n (fun _ => 0))))]) H := hP
  have hD : va_D A ([(h, .inr (4, [.ref q1])), (q1, .inl (E 0, 61, .inl (ti_n (fun _ => 0))))]) := hD
  exact hret q1 _ _ _ _ _ _ dX4_init_12 trivial hP hD (ti_nu1 g_q1 ti_nu0) hS (Nat.le_of_ble_eq_true rfl) (Nat.le_of_ble_eq_true rfl)

set_option maxHeartbeats 2000000 in
theorem met_X5_init_4 (l : Launch) (D : va_G) (E : Nat → ClassId) (h : Nat) : ti_MetN (σ := Nat × Nat × Nat) l D E yX5_init cX5_init 2 none 1 3 12 ([(h, .inr (5, [.null, .null, .null, .int (nI 0)]))]) [.ref h, .int (nI 4)] (fun u => [(h, .inr (5, [.ref u.1, .ref u.2.1, .ref u.2.2, .int (nI 0)]))]) (fun u => [(u.1, .inl (E 0, 4, .inl (ti_n (fun _ => 0)))), (u.2.1, .inl (E 0, 4, .inl (ti_n (fun _ => 0)))), (u.2.2, .inl (E 0, 4, .inl (ti_n (fun _ => 0))))]) (fun _ => none) (fun _ => True) := by
  refine ti_metNV (σ := Nat × Nat × Nat) (by decide) (Nat.le_of_ble_eq_true rfl) ?_
  intro p e s m below meth c H H0 A Q ls S hE hP hD hS hA hinit hl hret
  have hx := S.1
  have hb := S.2.1
  have hown := S.2.2.2.1
  have hts := S.2.2.2.2
  have hK := hE.1
  have hl : lv_has ls 2 [(0, .ref h), (1, .int (nI 4))] := hl
  refine lv_aload_n hx hb dX5_init_0 rfl (lv_at hl 0 rfl) ?_
  refine W.objInit hx hb hown (hts _ q206) (hts _ q100) (hts _ q101) rfl (by rw [S.2.2.1]; exact hl.1) rfl dX5_init_1 (Nat.le_of_ble_eq_true rfl) (Nat.le_of_ble_eq_true rfl) ?_
  refine W.eq (g2 := F0 m 4 ls []) rfl ?_
  refine lv_aload_n hx hb dX5_init_4 rfl (lv_at hl 0 rfl) ?_
  refine lv_iload_n hx hb dX5_init_5 rfl (lv_at hl 1 rfl) ?_
  have hb1 := hS.1
  refine ti_newaM hx hb .int (hts _ q125) hK hP hD hS hA 0 rfl (a0 := (4, .inl (ti_n (fun _ => 0)))) rfl (nI_pos (by decide)) (nI_clamp (by decide)) (Nat.le_of_ble_eq_true rfl) (Nat.le_of_ble_eq_true rfl) (Nat.le_of_ble_eq_true rfl) dX5_init_6 (fun q1 H hq1 hs1 ho1 hP hD hS => ?_)
  have g_q1 : H0.size ≤ q1 := by omega
  have hP : va_P D vwCl ([(h, .inr (5, [.null, .null, .null, .int (nI 0)])), (q1, .inl (E 0, 4, .inl (ti_n (fun _ => 0))))]) H := hP
  have hD : va_D A ([(h, .inr (5, [.null, .null, .null, .int (nI 0)])), (q1, .inl (E 0, 4, .inl (ti_n (fun _ => 0))))]) := hD
  refine va_putF (ty := .array .int) hx hb hts in_X5 tyX5 tyX5_ok nmX5 hown hK hP hD hS 0 rfl rfl 0 (by decide) (hts _ q207) (fun _ h => h) rfl hinit rfl rfl rfl rfl (Nat.le_of_ble_eq_true rfl) dX5_init_8 (fun H locs hP hD hS => ?_)
  have hP : va_P D vwCl ([(h, .inr (5, [.ref q1, .null, .null, .int (nI 0)])), (q1, .inl (E 0, 4, .inl (ti_n (fun _ => 0))))]) H := hP
  have hD : va_D A ([(h, .inr (5, [.ref q1, .null, .null, .int (nI 0)])), (q1, .inl (E 0, 4, .inl (ti_n (fun _ => 0))))]) := hD
  refine lv_aload_n hx hb dX5_init_11 rfl (lv_at hl 0 rfl) ?_
  refine lv_iload_n hx hb dX5_init_12 rfl (lv_at hl 1 rfl) ?_
  have hb2 := hS.1
  refine ti_newaM hx hb .int (hts _ q125) hK hP hD hS hA 0 rfl (a0 := (4, .inl (ti_n (fun _ => 0)))) rfl (nI_pos (by decide)) (nI_clamp (by decide)) (Nat.le_of_ble_eq_true rfl) (Nat.le_of_ble_eq_true rfl) (Nat.le_of_ble_eq_true rfl) dX5_init_13 (fun q2 H hq2 hs2 ho2 hP hD hS => ?_)
  have g_q2 : H0.size ≤ q2 := by omega
  have hP : va_P D vwCl ([(h, .inr (5, [.ref q1, .null, .null, .int (nI 0)])), (q1, .inl (E 0, 4, .inl (ti_n (fun _ => 0)))), (q2, .inl (E 0, 4, .inl (ti_n (fun _ => 0))))]) H := hP
  have hD : va_D A ([(h, .inr (5, [.ref q1, .null, .null, .int (nI 0)])), (q1, .inl (E 0, 4, .inl (ti_n (fun _ => 0)))), (q2, .inl (E 0, 4, .inl (ti_n (fun _ => 0))))]) := hD
  refine va_putF (ty := .array .int) hx hb hts in_X5 tyX5 tyX5_ok nmX5 hown hK hP hD hS 0 rfl rfl 1 (by decide) (hts _ q209) (fun _ h => h) rfl hinit rfl rfl rfl rfl (Nat.le_of_ble_eq_true rfl) dX5_init_15 (fun H locs hP hD hS => ?_)
  have hP : va_P D vwCl ([(h, .inr (5, [.ref q1, .ref q2, .null, .int (nI 0)])), (q1, .inl (E 0, 4, .inl (ti_n (fun _ => 0)))), (q2, .inl (E 0, 4, .inl (ti_n (fun _ => 0))))]) H := hP
  have hD : va_D A ([(h, .inr (5, [.ref q1, .ref q2, .null, .int (nI 0)])), (q1, .inl (E 0, 4, .inl (ti_n (fun _ => 0)))), (q2, .inl (E 0, 4, .inl (ti_n (fun _ => 0))))]) := hD
  refine lv_aload_n hx hb dX5_init_18 rfl (lv_at hl 0 rfl) ?_
  refine lv_iload_n hx hb dX5_init_19 rfl (lv_at hl 1 rfl) ?_
  have hb3 := hS.1
  refine ti_newaM hx hb .int (hts _ q125) hK hP hD hS hA 0 rfl (a0 := (4, .inl (ti_n (fun _ => 0)))) rfl (nI_pos (by decide)) (nI_clamp (by decide)) (Nat.le_of_ble_eq_true rfl) (Nat.le_of_ble_eq_true rfl) (Nat.le_of_ble_eq_true rfl) dX5_init_20 (fun q3 H hq3 hs3 ho3 hP hD hS => ?_)
  have g_q3 : H0.size ≤ q3 := by omega
  have hP : va_P D vwCl ([(h, .inr (5, [.ref q1, .ref q2, .null, .int (nI 0)])), (q1, .inl (E 0, 4, .inl (ti_n (fun _ => 0)))), (q2, .inl (E 0, 4, .inl (ti_n (fun _ => 0)))), (q3, .inl (E 0, 4, .inl (ti_n (fun _ => 0))))]) H := hP
  have hD : va_D A ([(h, .inr (5, [.ref q1, .ref q2, .null, .int (nI 0)])), (q1, .inl (E 0, 4, .inl (ti_n (fun _ => 0)))), (q2, .inl (E 0, 4, .inl (ti_n (fun _ => 0)))), (q3, .inl (E 0, 4, .inl (ti_n (fun _ => 0))))]) := hD
  refine va_putF (ty := .array .int) hx hb hts in_X5 tyX5 tyX5_ok nmX5 hown hK hP hD hS 0 rfl rfl 2 (by decide) (hts _ q211) (fun _ h => h) rfl hinit rfl rfl rfl rfl (Nat.le_of_ble_eq_true rfl) dX5_init_22 (fun H locs hP hD hS => ?_)
  have hP : va_P D vwCl ([(h, .inr (5, [.ref q1, .ref q2, .ref q3, .int (nI 0)])), (q1, .inl (E 0, 4, .inl (ti_n (fun _ => 0)))), (q2, .inl (E 0, 4, .inl (ti_n (fun _ => 0)))), (q3, .inl (E 0, 4, .inl (ti_n (fun _ => 0))))]) H := hP
  have hD : va_D A ([(h, .inr (5, [.ref q1, .ref q2, .ref q3, .int (nI 0)])), (q1, .inl (E 0, 4, .inl (ti_n (fun _ => 0)))), (q2, .inl (E 0, 4, .inl (ti_n (fun _ => 0)))), (q3, .inl (E 0, 4, .inl (ti_n (fun _ => 0))))]) := hD
  exact hret (q1, q2, q3) _ _ _ _ _ _ dX5_init_25 trivial hP hD (ti_nu1 g_q1 (ti_nu1 g_q2 (ti_nu1 g_q3 ti_nu0))) hS (Nat.le_of_ble_eq_true rfl) (Nat.le_of_ble_eq_true rfl)

set_option maxHeartbeats 2000000 in
theorem met_X5_init_8 (l : Launch) (D : va_G) (E : Nat → ClassId) (h : Nat) : ti_MetN (σ := Nat × Nat × Nat) l D E yX5_init cX5_init 2 none 1 3 24 ([(h, .inr (5, [.null, .null, .null, .int (nI 0)]))]) [.ref h, .int (nI 8)] (fun u => [(h, .inr (5, [.ref u.1, .ref u.2.1, .ref u.2.2, .int (nI 0)]))]) (fun u => [(u.1, .inl (E 0, 8, .inl (ti_n (fun _ => 0)))), (u.2.1, .inl (E 0, 8, .inl (ti_n (fun _ => 0)))), (u.2.2, .inl (E 0, 8, .inl (ti_n (fun _ => 0))))]) (fun _ => none) (fun _ => True) := by
  refine ti_metNV (σ := Nat × Nat × Nat) (by decide) (Nat.le_of_ble_eq_true rfl) ?_
  intro p e s m below meth c H H0 A Q ls S hE hP hD hS hA hinit hl hret
  have hx := S.1
  have hb := S.2.1
  have hown := S.2.2.2.1
  have hts := S.2.2.2.2
  have hK := hE.1
  have hl : lv_has ls 2 [(0, .ref h), (1, .int (nI 8))] := hl
  refine lv_aload_n hx hb dX5_init_0 rfl (lv_at hl 0 rfl) ?_
  refine W.objInit hx hb hown (hts _ q206) (hts _ q100) (hts _ q101) rfl (by rw [S.2.2.1]; exact hl.1) rfl dX5_init_1 (Nat.le_of_ble_eq_true rfl) (Nat.le_of_ble_eq_true rfl) ?_
  refine W.eq (g2 := F0 m 4 ls []) rfl ?_
  refine lv_aload_n hx hb dX5_init_4 rfl (lv_at hl 0 rfl) ?_
  refine lv_iload_n hx hb dX5_init_5 rfl (lv_at hl 1 rfl) ?_
  have hb1 := hS.1
  refine ti_newaM hx hb .int (hts _ q125) hK hP hD hS hA 0 rfl (a0 := (8, .inl (ti_n (fun _ => 0)))) rfl (nI_pos (by decide)) (nI_clamp (by decide)) (Nat.le_of_ble_eq_true rfl) (Nat.le_of_ble_eq_true rfl) (Nat.le_of_ble_eq_true rfl) dX5_init_6 (fun q1 H hq1 hs1 ho1 hP hD hS => ?_)
  have g_q1 : H0.size ≤ q1 := by omega
  have hP : va_P D vwCl ([(h, .inr (5, [.null, .null, .null, .int (nI 0)])), (q1, .inl (E 0, 8, .inl (ti_n (fun _ => 0))))]) H := hP
  have hD : va_D A ([(h, .inr (5, [.null, .null, .null, .int (nI 0)])), (q1, .inl (E 0, 8, .inl (ti_n (fun _ => 0))))]) := hD
  refine va_putF (ty := .array .int) hx hb hts in_X5 tyX5 tyX5_ok nmX5 hown hK hP hD hS 0 rfl rfl 0 (by decide) (hts _ q207) (fun _ h => h) rfl hinit rfl rfl rfl rfl (Nat.le_of_ble_eq_true rfl) dX5_init_8 (fun H locs hP hD hS => ?_)
  have hP : va_P D vwCl ([(h, .inr (5, [.ref q1, .null, .null, .int (nI 0)])), (q1, .inl (E 0, 8, .inl (ti_n (fun _ => 0))))]) H := hP
  have hD : va_D A ([(h, .inr (5, [.ref q1, .null, .null, .int (nI 0)])), (q1, .inl (E 0, 8, .inl (ti_n (fun _ => 0))))]) := hD
  refine lv_aload_n hx hb dX5_init_11 rfl (lv_at hl 0 rfl) ?_
  refine lv_iload_n hx hb dX5_init_12 rfl (lv_at hl 1 rfl) ?_
  have hb2 := hS.1
  refine ti_newaM hx hb .int (hts _ q125) hK hP hD hS hA 0 rfl (a0 := (8, .inl (ti_n (fun _ => 0)))) rfl (nI_pos (by decide)) (nI_clamp (by decide)) (Nat.le_of_ble_eq_true rfl) (Nat.le_of_ble_eq_true rfl) (Nat.le_of_ble_eq_true rfl) dX5_init_13 (fun q2 H hq2 hs2 ho2 hP hD hS => ?_)
  have g_q2 : H0.size ≤ q2 := by omega
  have hP : va_P D vwCl ([(h, .inr (5, [.ref q1, .null, .null, .int (nI 0)])), (q1, .inl (E 0, 8, .inl (ti_n (fun _ => 0)))), (q2, .inl (E 0, 8, .inl (ti_n (fun _ => 0))))]) H := hP
  have hD : va_D A ([(h, .inr (5, [.ref q1, .null, .null, .int (nI 0)])), (q1, .inl (E 0, 8, .inl (ti_n (fun _ => 0)))), (q2, .inl (E 0, 8, .inl (ti_n (fun _ => 0))))]) := hD
  refine va_putF (ty := .array .int) hx hb hts in_X5 tyX5 tyX5_ok nmX5 hown hK hP hD hS 0 rfl rfl 1 (by decide) (hts _ q209) (fun _ h => h) rfl hinit rfl rfl rfl rfl (Nat.le_of_ble_eq_true rfl) dX5_init_15 (fun H locs hP hD hS => ?_)
  have hP : va_P D vwCl ([(h, .inr (5, [.ref q1, .ref q2, .null, .int (nI 0)])), (q1, .inl (E 0, 8, .inl (ti_n (fun _ => 0)))), (q2, .inl (E 0, 8, .inl (ti_n (fun _ => 0))))]) H := hP
  have hD : va_D A ([(h, .inr (5, [.ref q1, .ref q2, .null, .int (nI 0)])), (q1, .inl (E 0, 8, .inl (ti_n (fun _ => 0)))), (q2, .inl (E 0, 8, .inl (ti_n (fun _ => 0))))]) := hD
  refine lv_aload_n hx hb dX5_init_18 rfl (lv_at hl 0 rfl) ?_
  refine lv_iload_n hx hb dX5_init_19 rfl (lv_at hl 1 rfl) ?_
  have hb3 := hS.1
  refine ti_newaM hx hb .int (hts _ q125) hK hP hD hS hA 0 rfl (a0 := (8, .inl (ti_n (fun _ => 0)))) rfl (nI_pos (by decide)) (nI_clamp (by decide)) (Nat.le_of_ble_eq_true rfl) (Nat.le_of_ble_eq_true rfl) (Nat.le_of_ble_eq_true rfl) dX5_init_20 (fun q3 H hq3 hs3 ho3 hP hD hS => ?_)
  have g_q3 : H0.size ≤ q3 := by omega
  have hP : va_P D vwCl ([(h, .inr (5, [.ref q1, .ref q2, .null, .int (nI 0)])), (q1, .inl (E 0, 8, .inl (ti_n (fun _ => 0)))), (q2, .inl (E 0, 8, .inl (ti_n (fun _ => 0)))), (q3, .inl (E 0, 8, .inl (ti_n (fun _ => 0))))]) H := hP
  have hD : va_D A ([(h, .inr (5, [.ref q1, .ref q2, .null, .int (nI 0)])), (q1, .inl (E 0, 8, .inl (ti_n (fun _ => 0)))), (q2, .inl (E 0, 8, .inl (ti_n (fun _ => 0)))), (q3, .inl (E 0, 8, .inl (ti_n (fun _ => 0))))]) := hD
  refine va_putF (ty := .array .int) hx hb hts in_X5 tyX5 tyX5_ok nmX5 hown hK hP hD hS 0 rfl rfl 2 (by decide) (hts _ q211) (fun _ h => h) rfl hinit rfl rfl rfl rfl (Nat.le_of_ble_eq_true rfl) dX5_init_22 (fun H locs hP hD hS => ?_)
  have hP : va_P D vwCl ([(h, .inr (5, [.ref q1, .ref q2, .ref q3, .int (nI 0)])), (q1, .inl (E 0, 8, .inl (ti_n (fun _ => 0)))), (q2, .inl (E 0, 8, .inl (ti_n (fun _ => 0)))), (q3, .inl (E 0, 8, .inl (ti_n (fun _ => 0))))]) H := hP
  have hD : va_D A ([(h, .inr (5, [.ref q1, .ref q2, .ref q3, .int (nI 0)])), (q1, .inl (E 0, 8, .inl (ti_n (fun _ => 0)))), (q2, .inl (E 0, 8, .inl (ti_n (fun _ => 0)))), (q3, .inl (E 0, 8, .inl (ti_n (fun _ => 0))))]) := hD
  exact hret (q1, q2, q3) _ _ _ _ _ _ dX5_init_25 trivial hP hD (ti_nu1 g_q1 (ti_nu1 g_q2 (ti_nu1 g_q3 ti_nu0))) hS (Nat.le_of_ble_eq_true rfl) (Nat.le_of_ble_eq_true rfl)

set_option maxHeartbeats 2000000 in
theorem met_X6_init (l : Launch) (D : va_G) (E : Nat → ClassId) (h : Nat) : ti_MetN (σ := Unit) l D E yX6_init cX6_init 1 none 1 0 0 ([(h, .inr (6, [.null]))]) [.ref h] (fun _ => [(h, .inr (6, [.null]))]) (fun _ => []) (fun _ => none) (fun _ => True) := by
  refine ti_metNV (σ := Unit) (by decide) (Nat.le_of_ble_eq_true rfl) ?_
  intro p e s m below meth c H H0 A Q ls S hE hP hD hS hA hinit hl hret
  have hx := S.1
  have hb := S.2.1
  have hown := S.2.2.2.1
  have hts := S.2.2.2.2
  have hK := hE.1
  have hl : lv_has ls 1 [(0, .ref h)] := hl
  refine lv_aload_n hx hb dX6_init_0 rfl (lv_at hl 0 rfl) ?_
  refine W.objInit hx hb hown (hts _ q231) (hts _ q100) (hts _ q101) rfl (by rw [S.2.2.1]; exact hl.1) rfl dX6_init_1 (Nat.le_of_ble_eq_true rfl) (Nat.le_of_ble_eq_true rfl) ?_
  refine W.eq (g2 := F0 m 4 ls []) rfl ?_
  exact hret () _ _ _ _ _ _ dX6_init_4 trivial hP hD ti_nu0 hS (Nat.le_of_ble_eq_true rfl) (Nat.le_of_ble_eq_true rfl)

set_option maxHeartbeats 1000000 in
theorem met_X11_init (l : Launch) (D : va_G) (E : Nat → ClassId) (h a b c0 d : Nat) : ti_MetM (σ := Unit) l D E yX11_init cX11_init 5 none 1 0 0 ([(h, .inr (11, [.int (nI 0), .int (nI 0), .int (nI 0), .int (nI 0)]))]) [.ref h, .int (nI a), .int (nI b), .int (nI c0), .int (nI d)] (fun _ => [(h, .inr (11, [.int (nI a), .int (nI b), .int (nI c0), .int (nI d)]))]) (fun _ => none) (fun _ => True) := by
  refine ti_mutV (σ := Unit) (by decide) (Nat.le_of_ble_eq_true rfl) ?_
  intro p e s m below meth c H H0 A Q ls S hE hP hD hS hA hinit hl hret
  have hx := S.1
  have hb := S.2.1
  have hown := S.2.2.2.1
  have hts := S.2.2.2.2
  have hK := hE.1
  have hl : lv_has ls 5 [(0, .ref h), (1, .int (nI a)), (2, .int (nI b)), (3, .int (nI c0)), (4, .int (nI d))] := hl
  refine lv_aload_n hx hb dX11_init_0 rfl (lv_at hl 0 rfl) ?_
  refine W.objInit hx hb hown (hts _ q548) (hts _ q100) (hts _ q101) rfl (by rw [S.2.2.1]; exact hl.1) rfl dX11_init_1 (Nat.le_of_ble_eq_true rfl) (Nat.le_of_ble_eq_true rfl) ?_
  refine W.eq (g2 := F0 m 4 ls []) rfl ?_
  refine lv_aload_n hx hb dX11_init_4 rfl (lv_at hl 0 rfl) ?_
  refine lv_iload_n hx hb dX11_init_5 rfl (lv_at hl 1 rfl) ?_
  refine va_putF (ty := .int) hx hb hts in_X11 tyX11 tyX11_ok nmX11 hown hK hP hD hS 0 rfl rfl 0 (by decide) (hts _ q549) (fun _ h => h) rfl hinit rfl rfl rfl rfl (Nat.le_of_ble_eq_true rfl) dX11_init_6 (fun H locs hP hD hS => ?_)
  have hP : va_P D vwCl ([(h, .inr (11, [.int (nI a), .int (nI 0), .int (nI 0), .int (nI 0)]))]) H := hP
  have hD : va_D A ([(h, .inr (11, [.int (nI a), .int (nI 0), .int (nI 0), .int (nI 0)]))]) := hD
  refine lv_aload_n hx hb dX11_init_9 rfl (lv_at hl 0 rfl) ?_
  refine lv_iload_n hx hb dX11_init_10 rfl (lv_at hl 2 rfl) ?_
  refine va_putF (ty := .int) hx hb hts in_X11 tyX11 tyX11_ok nmX11 hown hK hP hD hS 0 rfl rfl 1 (by decide) (hts _ q550) (fun _ h => h) rfl hinit rfl rfl rfl rfl (Nat.le_of_ble_eq_true rfl) dX11_init_11 (fun H locs hP hD hS => ?_)
  have hP : va_P D vwCl ([(h, .inr (11, [.int (nI a), .int (nI b), .int (nI 0), .int (nI 0)]))]) H := hP
  have hD : va_D A ([(h, .inr (11, [.int (nI a), .int (nI b), .int (nI 0), .int (nI 0)]))]) := hD
  refine lv_aload_n hx hb dX11_init_14 rfl (lv_at hl 0 rfl) ?_
  refine lv_iload_n hx hb dX11_init_15 rfl (lv_at hl 3 rfl) ?_
  refine va_putF (ty := .int) hx hb hts in_X11 tyX11 tyX11_ok nmX11 hown hK hP hD hS 0 rfl rfl 2 (by decide) (hts _ q551) (fun _ h => h) rfl hinit rfl rfl rfl rfl (Nat.le_of_ble_eq_true rfl) dX11_init_16 (fun H locs hP hD hS => ?_)
  have hP : va_P D vwCl ([(h, .inr (11, [.int (nI a), .int (nI b), .int (nI c0), .int (nI 0)]))]) H := hP
  have hD : va_D A ([(h, .inr (11, [.int (nI a), .int (nI b), .int (nI c0), .int (nI 0)]))]) := hD
  refine lv_aload_n hx hb dX11_init_19 rfl (lv_at hl 0 rfl) ?_
  refine lv_iload hx hb dX11_init_20 (lv_at hl 4 rfl) ?_
  refine va_putF (ty := .int) hx hb hts in_X11 tyX11 tyX11_ok nmX11 hown hK hP hD hS 0 rfl rfl 3 (by decide) (hts _ q552) (fun _ h => h) rfl hinit rfl rfl rfl rfl (Nat.le_of_ble_eq_true rfl) dX11_init_22 (fun H locs hP hD hS => ?_)
  have hP : va_P D vwCl ([(h, .inr (11, [.int (nI a), .int (nI b), .int (nI c0), .int (nI d)]))]) H := hP
  have hD : va_D A ([(h, .inr (11, [.int (nI a), .int (nI b), .int (nI c0), .int (nI d)]))]) := hD
  exact hret () _ _ _ _ _ _ dX11_init_25 (trivial) hP hS (Nat.le_refl _) (Nat.le_refl _)

set_option maxHeartbeats 2000000 in
theorem met_X3_init (l : Launch) (D : va_G) (E : Nat → ClassId) (h : Nat) : ti_MetN (σ := (Nat × Nat) × (Nat → Nat) × (Nat → Nat) × (Nat → Nat)) l D E yX3_init cX3_init 2 none 2 32 170 ([(h, .inr (3, [.null, .null, .int (nI 0)]))]) [.ref h] (fun u => [(h, .inr (3, [.ref u.1.1, .ref u.1.2, .int (nI 0)]))]) (fun u => [(u.1.1, .inl (E 5, 10, .inr (.inr (.inr (.inr (ti_o u.2.1 (fun j => j))))))), (u.1.2, .inl (E 0, 10, .inl (ti_n (fun _ => 0)))), (u.2.1 0, .inr (1, [.ref (u.2.2.1 0), .ref (u.2.2.2 0), .int (nI 0)])), (u.2.2.1 0, .inl (E 0, 6, .inl (ti_n (fun _ => 0)))), (u.2.2.2 0, .inl (E 0, 6, .inl (ti_n (fun _ => 0)))), (u.2.1 1, .inr (1, [.ref (u.2.2.1 1), .ref (u.2.2.2 1), .int (nI 0)])), (u.2.2.1 1, .inl (E 0, 6, .inl (ti_n (fun _ => 0)))), (u.2.2.2 1, .inl (E 0, 6, .inl (ti_n (fun _ => 0)))), (u.2.1 2, .inr (1, [.ref (u.2.2.1 2), .ref (u.2.2.2 2), .int (nI 0)])), (u.2.2.1 2, .inl (E 0, 6, .inl (ti_n (fun _ => 0)))), (u.2.2.2 2, .inl (E 0, 6, .inl (ti_n (fun _ => 0)))), (u.2.1 3, .inr (1, [.ref (u.2.2.1 3), .ref (u.2.2.2 3), .int (nI 0)])), (u.2.2.1 3, .inl (E 0, 6, .inl (ti_n (fun _ => 0)))), (u.2.2.2 3, .inl (E 0, 6, .inl (ti_n (fun _ => 0)))), (u.2.1 4, .inr (1, [.ref (u.2.2.1 4), .ref (u.2.2.2 4), .int (nI 0)])), (u.2.2.1 4, .inl (E 0, 6, .inl (ti_n (fun _ => 0)))), (u.2.2.2 4, .inl (E 0, 6, .inl (ti_n (fun _ => 0)))), (u.2.1 5, .inr (1, [.ref (u.2.2.1 5), .ref (u.2.2.2 5), .int (nI 0)])), (u.2.2.1 5, .inl (E 0, 6, .inl (ti_n (fun _ => 0)))), (u.2.2.2 5, .inl (E 0, 6, .inl (ti_n (fun _ => 0)))), (u.2.1 6, .inr (1, [.ref (u.2.2.1 6), .ref (u.2.2.2 6), .int (nI 0)])), (u.2.2.1 6, .inl (E 0, 6, .inl (ti_n (fun _ => 0)))), (u.2.2.2 6, .inl (E 0, 6, .inl (ti_n (fun _ => 0)))), (u.2.1 7, .inr (1, [.ref (u.2.2.1 7), .ref (u.2.2.2 7), .int (nI 0)])), (u.2.2.1 7, .inl (E 0, 6, .inl (ti_n (fun _ => 0)))), (u.2.2.2 7, .inl (E 0, 6, .inl (ti_n (fun _ => 0)))), (u.2.1 8, .inr (1, [.ref (u.2.2.1 8), .ref (u.2.2.2 8), .int (nI 0)])), (u.2.2.1 8, .inl (E 0, 6, .inl (ti_n (fun _ => 0)))), (u.2.2.2 8, .inl (E 0, 6, .inl (ti_n (fun _ => 0)))), (u.2.1 9, .inr (1, [.ref (u.2.2.1 9), .ref (u.2.2.2 9), .int (nI 0)])), (u.2.2.1 9, .inl (E 0, 6, .inl (ti_n (fun _ => 0)))), (u.2.2.2 9, .inl (E 0, 6, .inl (ti_n (fun _ => 0))))]) (fun _ => none) (fun _ => True) := by
  refine ti_metNV (σ := (Nat × Nat) × (Nat → Nat) × (Nat → Nat) × (Nat → Nat)) (by decide) (Nat.le_of_ble_eq_true rfl) ?_
  intro p e s m below meth c H H0 A Q ls S hE hP hD hS hA hinit hl hret
  have hx := S.1
  have hb := S.2.1
  have hown := S.2.2.2.1
  have hts := S.2.2.2.2
  have hK := hE.1
  have hl : lv_has ls 2 [(0, .ref h)] := hl
  refine lv_aload_n hx hb dX3_init_0 rfl (lv_at hl 0 rfl) ?_
  refine W.objInit hx hb hown (hts _ q176) (hts _ q100) (hts _ q101) rfl (by rw [S.2.2.1]; exact hl.1) rfl dX3_init_1 (Nat.le_of_ble_eq_true rfl) (Nat.le_of_ble_eq_true rfl) ?_
  refine W.eq (g2 := F0 m 4 ls []) rfl ?_
  refine lv_aload_n hx hb dX3_init_4 rfl (lv_at hl 0 rfl) ?_
  refine lv_bipush (v := nI 10) hx hb dX3_init_5 (by decide) ?_
  have hb1 := hS.1
  refine ti_newqM hx hb hown (hts _ q177) (hE.nw q103 rfl) hK hP hD hS hA 5 rfl (nI_pos (by decide)) (nI_clamp (by decide)) (Nat.le_of_ble_eq_true rfl) (Nat.le_of_ble_eq_true rfl) (Nat.le_of_ble_eq_true rfl) dX3_init_7 (fun q1 H hq1 hs1 ho1 hP hD hS => ?_)
  have g_q1 : H0.size ≤ q1 := by omega
  have hP : va_P D vwCl ([(h, .inr (3, [.null, .null, .int (nI 0)])), (q1, .inl (E 5, 10, .inr (.inr (.inr (.inr (fun _ => none))))))]) H := hP
  have hD : va_D A ([(h, .inr (3, [.null, .null, .int (nI 0)])), (q1, .inl (E 5, 10, .inr (.inr (.inr (.inr (fun _ => none))))))]) := hD
  refine va_putF (ty := .array (.object "TermIdeals$Ideal")) hx hb hts in_X3 tyX3 tyX3_ok nmX3 hown hK hP hD hS 0 rfl rfl 0 (by decide) (hts _ q179) (fun _ h => h) rfl hinit rfl rfl rfl rfl (Nat.le_of_ble_eq_true rfl) dX3_init_10 (fun H locs hP hD hS => ?_)
  have hP : va_P D vwCl ([(h, .inr (3, [.ref q1, .null, .int (nI 0)])), (q1, .inl (E 5, 10, .inr (.inr (.inr (.inr (fun _ => none))))))]) H := hP
  have hD : va_D A ([(h, .inr (3, [.ref q1, .null, .int (nI 0)])), (q1, .inl (E 5, 10, .inr (.inr (.inr (.inr (fun _ => none))))))]) := hD
  refine lv_aload_n hx hb dX3_init_13 rfl (lv_at hl 0 rfl) ?_
  refine lv_bipush (v := nI 10) hx hb dX3_init_14 (by decide) ?_
  have hb2 := hS.1
  refine ti_newaM hx hb .int (hts _ q125) hK hP hD hS hA 0 rfl (a0 := (10, .inl (ti_n (fun _ => 0)))) rfl (nI_pos (by decide)) (nI_clamp (by decide)) (Nat.le_of_ble_eq_true rfl) (Nat.le_of_ble_eq_true rfl) (Nat.le_of_ble_eq_true rfl) dX3_init_16 (fun q2 H hq2 hs2 ho2 hP hD hS => ?_)
  have g_q2 : H0.size ≤ q2 := by omega
  have hP : va_P D vwCl ([(h, .inr (3, [.ref q1, .null, .int (nI 0)])), (q1, .inl (E 5, 10, .inr (.inr (.inr (.inr (fun _ => none)))))), (q2, .inl (E 0, 10, .inl (ti_n (fun _ => 0))))]) H := hP
  have hD : va_D A ([(h, .inr (3, [.ref q1, .null, .int (nI 0)])), (q1, .inl (E 5, 10, .inr (.inr (.inr (.inr (fun _ => none)))))), (q2, .inl (E 0, 10, .inl (ti_n (fun _ => 0))))]) := hD
  refine va_putF (ty := .array .int) hx hb hts in_X3 tyX3 tyX3_ok nmX3 hown hK hP hD hS 0 rfl rfl 1 (by decide) (hts _ q180) (fun _ h => h) rfl hinit rfl rfl rfl rfl (Nat.le_of_ble_eq_true rfl) dX3_init_18 (fun H locs hP hD hS => ?_)
  have hP : va_P D vwCl ([(h, .inr (3, [.ref q1, .ref q2, .int (nI 0)])), (q1, .inl (E 5, 10, .inr (.inr (.inr (.inr (fun _ => none)))))), (q2, .inl (E 0, 10, .inl (ti_n (fun _ => 0))))]) H := hP
  have hD : va_D A ([(h, .inr (3, [.ref q1, .ref q2, .int (nI 0)])), (q1, .inl (E 5, 10, .inr (.inr (.inr (.inr (fun _ => none)))))), (q2, .inl (E 0, 10, .inl (ti_n (fun _ => 0))))]) := hD
  refine lv_iconst (v := nI 0) hx hb dX3_init_21 (by decide) ?_
  refine lv_istore_n (lv' := [(1, .int (nI 0)), (0, .ref h)]) hx hb dX3_init_22 rfl hl (by decide) rfl (fun ls hl => ?_)
  refine lv_iload_n hx hb dX3_init_23 rfl (lv_at hl 0 rfl) ?_
  refine lv_bipush (v := nI 10) hx hb dX3_init_24 (by decide) ?_
  refine tn_ge (tgt := 48) hx hb dX3_init_26 (by decide) (by omega) (by omega) (fun c26 => ?_) (fun c26 => ?_)
  · skip
    exact absurd c26 (by decide)
  · skip
    refine lv_aload_n hx hb dX3_init_29 rfl (lv_at hl 1 rfl) ?_
    refine va_get (v := .ref q1) hx hb hts in_X3 hown hK hP 0 rfl rfl 0 (by decide) (hts _ q179) (fun _ h => h) rfl dX3_init_30 ?_
    refine lv_iload_n hx hb dX3_init_33 rfl (lv_at hl 0 rfl) ?_
    have hb3 := hS.1
    refine ti_newM hx hb hts in_X1 tyX1 tyX1_ok hown (hts _ q177) (hts _ q104) (hts _ q67) hK hP hD hS hA (ci := 1) rfl ti_df1 (Nat.le_of_ble_eq_true rfl) (Nat.le_of_ble_eq_true rfl) dX3_init_34 (fun q3 H hq3 hs3 hf3 ho3 hP hD hS => ?_)
    have g_q3 : H0.size ≤ q3 := by omega
    have hP : va_P D vwCl ([(h, .inr (3, [.ref q1, .ref q2, .int (nI 0)])), (q1, .inl (E 5, 10, .inr (.inr (.inr (.inr (fun _ => none)))))), (q2, .inl (E 0, 10, .inl (ti_n (fun _ => 0)))), (q3, .inr (1, [.null, .null, .int (nI 0)]))]) H := hP
    have hD : va_D A ([(h, .inr (3, [.ref q1, .ref q2, .int (nI 0)])), (q1, .inl (E 5, 10, .inr (.inr (.inr (.inr (fun _ => none)))))), (q2, .inl (E 0, 10, .inl (ti_n (fun _ => 0)))), (q3, .inr (1, [.null, .null, .int (nI 0)]))]) := hD
    refine lv_dup hx hb dX3_init_37 rfl ?_
    have hb4 := hS.1
    refine ti_nIN (As := []) (rest := [.ref q3, .int (nI 0), .ref q1]) S hE hP hD hS hA [3] rfl (met_X1_init l D E q3) rfl (fun _ => rfl) (lw_meth q107) q67 q178 q106 rfl 0 rfl (by decide +kernel) ⟨Nat.le_of_ble_eq_true rfl, Nat.le_of_ble_eq_true rfl⟩ hl.1 rfl (Nat.le_of_ble_eq_true rfl) ⟨Nat.le_of_ble_eq_true rfl, Nat.le_of_ble_eq_true rfl⟩ dX3_init_38 (fun u4 H locs hu hn4 hP hD hS => ?_)
    have g_u4a : H0.size ≤ u4.1 := Nat.le_trans hb4 (hn4 0 _ rfl)
    have g_u4b : H0.size ≤ u4.2 := Nat.le_trans hb4 (hn4 1 _ rfl)
    have hP : va_P D vwCl ([(h, .inr (3, [.ref q1, .ref q2, .int (nI 0)])), (q1, .inl (E 5, 10, .inr (.inr (.inr (.inr (fun _ => none)))))), (q2, .inl (E 0, 10, .inl (ti_n (fun _ => 0)))), (q3, .inr (1, [.ref u4.1, .ref u4.2, .int (nI 0)])), (u4.1, .inl (E 0, 6, .inl (ti_n (fun _ => 0)))), (u4.2, .inl (E 0, 6, .inl (ti_n (fun _ => 0))))]) H := hP
    have hD : va_D A ([(h, .inr (3, [.ref q1, .ref q2, .int (nI 0)])), (q1, .inl (E 5, 10, .inr (.inr (.inr (.inr (fun _ => none)))))), (q2, .inl (E 0, 10, .inl (ti_n (fun _ => 0)))), (q3, .inr (1, [.ref u4.1, .ref u4.2, .int (nI 0)])), (u4.1, .inl (E 0, 6, .inl (ti_n (fun _ => 0)))), (u4.2, .inl (E 0, 6, .inl (ti_n (fun _ => 0))))]) := hD
    refine W.eq (g2 := F0 m 41 ls [.ref q3, .int (nI 0), .ref q1]) rfl ?_
    refine tn_aastR hx hb hK hP hD hS 1 5 3 1 rfl rfl rfl rfl (by decide) (by decide) dX3_init_41 (fun H locs hP hD hS => ?_)
    have hP : va_P D vwCl ([(h, .inr (3, [.ref q1, .ref q2, .int (nI 0)])), (q1, .inl (E 5, 10, .inr (.inr (.inr (.inr (va_up (fun _ => none) 0 (some q3))))))), (q2, .inl (E 0, 10, .inl (ti_n (fun _ => 0)))), (q3, .inr (1, [.ref u4.1, .ref u4.2, .int (nI 0)])), (u4.1, .inl (E 0, 6, .inl (ti_n (fun _ => 0)))), (u4.2, .inl (E 0, 6, .inl (ti_n (fun _ => 0))))]) H := hP
    have hD : va_D A ([(h, .inr (3, [.ref q1, .ref q2, .int (nI 0)])), (q1, .inl (E 5, 10, .inr (.inr (.inr (.inr (va_up (fun _ => none) 0 (some q3))))))), (q2, .inl (E 0, 10, .inl (ti_n (fun _ => 0)))), (q3, .inr (1, [.ref u4.1, .ref u4.2, .int (nI 0)])), (u4.1, .inl (E 0, 6, .inl (ti_n (fun _ => 0)))), (u4.2, .inl (E 0, 6, .inl (ti_n (fun _ => 0))))]) := hD
    refine lv_iinc (v := nI 1) (lv' := [(1, .int (nI 1)), (0, .ref h)]) hx hb dX3_init_42 hl (k := 0) rfl (by decide) (by decide) rfl (fun ls hl => ?_)
    refine lv_goto (tgt := 23) hx hb dX3_init_45 (by decide) ?_
    refine lv_iload_n hx hb dX3_init_23 rfl (lv_at hl 0 rfl) ?_
    refine lv_bipush (v := nI 10) hx hb dX3_init_24 (by decide) ?_
    refine tn_ge (tgt := 48) hx hb dX3_init_26 (by decide) (by omega) (by omega) (fun c26 => ?_) (fun c26 => ?_)
    · skip
      exact absurd c26 (by decide)
    · skip
      refine lv_aload_n hx hb dX3_init_29 rfl (lv_at hl 1 rfl) ?_
      refine va_get (v := .ref q1) hx hb hts in_X3 hown hK hP 0 rfl rfl 0 (by decide) (hts _ q179) (fun _ h => h) rfl dX3_init_30 ?_
      refine lv_iload_n hx hb dX3_init_33 rfl (lv_at hl 0 rfl) ?_
      have hb5 := hS.1
      refine ti_newM hx hb hts in_X1 tyX1 tyX1_ok hown (hts _ q177) (hts _ q104) (hts _ q67) hK hP hD hS hA (ci := 1) rfl ti_df1 (Nat.le_of_ble_eq_true rfl) (Nat.le_of_ble_eq_true rfl) dX3_init_34 (fun q5 H hq5 hs5 hf5 ho5 hP hD hS => ?_)
      have g_q5 : H0.size ≤ q5 := by omega
      have hP : va_P D vwCl ([(h, .inr (3, [.ref q1, .ref q2, .int (nI 0)])), (q1, .inl (E 5, 10, .inr (.inr (.inr (.inr (va_up (fun _ => none) 0 (some q3))))))), (q2, .inl (E 0, 10, .inl (ti_n (fun _ => 0)))), (q3, .inr (1, [.ref u4.1, .ref u4.2, .int (nI 0)])), (u4.1, .inl (E 0, 6, .inl (ti_n (fun _ => 0)))), (u4.2, .inl (E 0, 6, .inl (ti_n (fun _ => 0)))), (q5, .inr (1, [.null, .null, .int (nI 0)]))]) H := hP
      have hD : va_D A ([(h, .inr (3, [.ref q1, .ref q2, .int (nI 0)])), (q1, .inl (E 5, 10, .inr (.inr (.inr (.inr (va_up (fun _ => none) 0 (some q3))))))), (q2, .inl (E 0, 10, .inl (ti_n (fun _ => 0)))), (q3, .inr (1, [.ref u4.1, .ref u4.2, .int (nI 0)])), (u4.1, .inl (E 0, 6, .inl (ti_n (fun _ => 0)))), (u4.2, .inl (E 0, 6, .inl (ti_n (fun _ => 0)))), (q5, .inr (1, [.null, .null, .int (nI 0)]))]) := hD
      refine lv_dup hx hb dX3_init_37 rfl ?_
      have hb6 := hS.1
      refine ti_nIN (As := []) (rest := [.ref q5, .int (nI 1), .ref q1]) S hE hP hD hS hA [6] rfl (met_X1_init l D E q5) rfl (fun _ => rfl) (lw_meth q107) q67 q178 q106 rfl 0 rfl (by decide +kernel) ⟨Nat.le_of_ble_eq_true rfl, Nat.le_of_ble_eq_true rfl⟩ hl.1 rfl (Nat.le_of_ble_eq_true rfl) ⟨Nat.le_of_ble_eq_true rfl, Nat.le_of_ble_eq_true rfl⟩ dX3_init_38 (fun u6 H locs hu hn6 hP hD hS => ?_)
      have g_u6a : H0.size ≤ u6.1 := Nat.le_trans hb6 (hn6 0 _ rfl)
      have g_u6b : H0.size ≤ u6.2 := Nat.le_trans hb6 (hn6 1 _ rfl)
      have hP : va_P D vwCl ([(h, .inr (3, [.ref q1, .ref q2, .int (nI 0)])), (q1, .inl (E 5, 10, .inr (.inr (.inr (.inr (va_up (fun _ => none) 0 (some q3))))))), (q2, .inl (E 0, 10, .inl (ti_n (fun _ => 0)))), (q3, .inr (1, [.ref u4.1, .ref u4.2, .int (nI 0)])), (u4.1, .inl (E 0, 6, .inl (ti_n (fun _ => 0)))), (u4.2, .inl (E 0, 6, .inl (ti_n (fun _ => 0)))), (q5, .inr (1, [.ref u6.1, .ref u6.2, .int (nI 0)])), (u6.1, .inl (E 0, 6, .inl (ti_n (fun _ => 0)))), (u6.2, .inl (E 0, 6, .inl (ti_n (fun _ => 0))))]) H := hP
      have hD : va_D A ([(h, .inr (3, [.ref q1, .ref q2, .int (nI 0)])), (q1, .inl (E 5, 10, .inr (.inr (.inr (.inr (va_up (fun _ => none) 0 (some q3))))))), (q2, .inl (E 0, 10, .inl (ti_n (fun _ => 0)))), (q3, .inr (1, [.ref u4.1, .ref u4.2, .int (nI 0)])), (u4.1, .inl (E 0, 6, .inl (ti_n (fun _ => 0)))), (u4.2, .inl (E 0, 6, .inl (ti_n (fun _ => 0)))), (q5, .inr (1, [.ref u6.1, .ref u6.2, .int (nI 0)])), (u6.1, .inl (E 0, 6, .inl (ti_n (fun _ => 0)))), (u6.2, .inl (E 0, 6, .inl (ti_n (fun _ => 0))))]) := hD
      refine W.eq (g2 := F0 m 41 ls [.ref q5, .int (nI 1), .ref q1]) rfl ?_
      refine tn_aastR hx hb hK hP hD hS 1 5 6 1 rfl rfl rfl rfl (by decide) (by decide) dX3_init_41 (fun H locs hP hD hS => ?_)
      have hP : va_P D vwCl ([(h, .inr (3, [.ref q1, .ref q2, .int (nI 0)])), (q1, .inl (E 5, 10, .inr (.inr (.inr (.inr (va_up (va_up (fun _ => none) 0 (some q3)) 1 (some q5))))))), (q2, .inl (E 0, 10, .inl (ti_n (fun _ => 0)))), (q3, .inr (1, [.ref u4.1, .ref u4.2, .int (nI 0)])), (u4.1, .inl (E 0, 6, .inl (ti_n (fun _ => 0)))), (u4.2, .inl (E 0, 6, .inl (ti_n (fun _ => 0)))), (q5, .inr (1, [.ref u6.1, .ref u6.2, .int (nI 0)])), (u6.1, .inl (E 0, 6, .inl (ti_n (fun _ => 0)))), (u6.2, .inl (E 0, 6, .inl (ti_n (fun _ => 0))))]) H := hP
      have hD : va_D A ([(h, .inr (3, [.ref q1, .ref q2, .int (nI 0)])), (q1, .inl (E 5, 10, .inr (.inr (.inr (.inr (va_up (va_up (fun _ => none) 0 (some q3)) 1 (some q5))))))), (q2, .inl (E 0, 10, .inl (ti_n (fun _ => 0)))), (q3, .inr (1, [.ref u4.1, .ref u4.2, .int (nI 0)])), (u4.1, .inl (E 0, 6, .inl (ti_n (fun _ => 0)))), (u4.2, .inl (E 0, 6, .inl (ti_n (fun _ => 0)))), (q5, .inr (1, [.ref u6.1, .ref u6.2, .int (nI 0)])), (u6.1, .inl (E 0, 6, .inl (ti_n (fun _ => 0)))), (u6.2, .inl (E 0, 6, .inl (ti_n (fun _ => 0))))]) := hD
      refine lv_iinc (v := nI 2) (lv' := [(1, .int (nI 2)), (0, .ref h)]) hx hb dX3_init_42 hl (k := 0) rfl (by decide) (by decide) rfl (fun ls hl => ?_)
      refine lv_goto (tgt := 23) hx hb dX3_init_45 (by decide) ?_
      refine lv_iload_n hx hb dX3_init_23 rfl (lv_at hl 0 rfl) ?_
      refine lv_bipush (v := nI 10) hx hb dX3_init_24 (by decide) ?_
      refine tn_ge (tgt := 48) hx hb dX3_init_26 (by decide) (by omega) (by omega) (fun c26 => ?_) (fun c26 => ?_)
      · skip
        exact absurd c26 (by decide)
      · skip
        refine lv_aload_n hx hb dX3_init_29 rfl (lv_at hl 1 rfl) ?_
        refine va_get (v := .ref q1) hx hb hts in_X3 hown hK hP 0 rfl rfl 0 (by decide) (hts _ q179) (fun _ h => h) rfl dX3_init_30 ?_
        refine lv_iload_n hx hb dX3_init_33 rfl (lv_at hl 0 rfl) ?_
        have hb7 := hS.1
        refine ti_newM hx hb hts in_X1 tyX1 tyX1_ok hown (hts _ q177) (hts _ q104) (hts _ q67) hK hP hD hS hA (ci := 1) rfl ti_df1 (Nat.le_of_ble_eq_true rfl) (Nat.le_of_ble_eq_true rfl) dX3_init_34 (fun q7 H hq7 hs7 hf7 ho7 hP hD hS => ?_)
        have g_q7 : H0.size ≤ q7 := by omega
        have hP : va_P D vwCl ([(h, .inr (3, [.ref q1, .ref q2, .int (nI 0)])), (q1, .inl (E 5, 10, .inr (.inr (.inr (.inr (va_up (va_up (fun _ => none) 0 (some q3)) 1 (some q5))))))), (q2, .inl (E 0, 10, .inl (ti_n (fun _ => 0)))), (q3, .inr (1, [.ref u4.1, .ref u4.2, .int (nI 0)])), (u4.1, .inl (E 0, 6, .inl (ti_n (fun _ => 0)))), (u4.2, .inl (E 0, 6, .inl (ti_n (fun _ => 0)))), (q5, .inr (1, [.ref u6.1, .ref u6.2, .int (nI 0)])), (u6.1, .inl (E 0, 6, .inl (ti_n (fun _ => 0)))), (u6.2, .inl (E 0, 6, .inl (ti_n (fun _ => 0)))), (q7, .inr (1, [.null, .null, .int (nI 0)]))]) H := hP
        have hD : va_D A ([(h, .inr (3, [.ref q1, .ref q2, .int (nI 0)])), (q1, .inl (E 5, 10, .inr (.inr (.inr (.inr (va_up (va_up (fun _ => none) 0 (some q3)) 1 (some q5))))))), (q2, .inl (E 0, 10, .inl (ti_n (fun _ => 0)))), (q3, .inr (1, [.ref u4.1, .ref u4.2, .int (nI 0)])), (u4.1, .inl (E 0, 6, .inl (ti_n (fun _ => 0)))), (u4.2, .inl (E 0, 6, .inl (ti_n (fun _ => 0)))), (q5, .inr (1, [.ref u6.1, .ref u6.2, .int (nI 0)])), (u6.1, .inl (E 0, 6, .inl (ti_n (fun _ => 0)))), (u6.2, .inl (E 0, 6, .inl (ti_n (fun _ => 0)))), (q7, .inr (1, [.null, .null, .int (nI 0)]))]) := hD
        refine lv_dup hx hb dX3_init_37 rfl ?_
        have hb8 := hS.1
        refine ti_nIN (As := []) (rest := [.ref q7, .int (nI 2), .ref q1]) S hE hP hD hS hA [9] rfl (met_X1_init l D E q7) rfl (fun _ => rfl) (lw_meth q107) q67 q178 q106 rfl 0 rfl (by decide +kernel) ⟨Nat.le_of_ble_eq_true rfl, Nat.le_of_ble_eq_true rfl⟩ hl.1 rfl (Nat.le_of_ble_eq_true rfl) ⟨Nat.le_of_ble_eq_true rfl, Nat.le_of_ble_eq_true rfl⟩ dX3_init_38 (fun u8 H locs hu hn8 hP hD hS => ?_)
        have g_u8a : H0.size ≤ u8.1 := Nat.le_trans hb8 (hn8 0 _ rfl)
        have g_u8b : H0.size ≤ u8.2 := Nat.le_trans hb8 (hn8 1 _ rfl)
        have hP : va_P D vwCl ([(h, .inr (3, [.ref q1, .ref q2, .int (nI 0)])), (q1, .inl (E 5, 10, .inr (.inr (.inr (.inr (va_up (va_up (fun _ => none) 0 (some q3)) 1 (some q5))))))), (q2, .inl (E 0, 10, .inl (ti_n (fun _ => 0)))), (q3, .inr (1, [.ref u4.1, .ref u4.2, .int (nI 0)])), (u4.1, .inl (E 0, 6, .inl (ti_n (fun _ => 0)))), (u4.2, .inl (E 0, 6, .inl (ti_n (fun _ => 0)))), (q5, .inr (1, [.ref u6.1, .ref u6.2, .int (nI 0)])), (u6.1, .inl (E 0, 6, .inl (ti_n (fun _ => 0)))), (u6.2, .inl (E 0, 6, .inl (ti_n (fun _ => 0)))), (q7, .inr (1, [.ref u8.1, .ref u8.2, .int (nI 0)])), (u8.1, .inl (E 0, 6, .inl (ti_n (fun _ => 0)))), (u8.2, .inl (E 0, 6, .inl (ti_n (fun _ => 0))))]) H := hP
        have hD : va_D A ([(h, .inr (3, [.ref q1, .ref q2, .int (nI 0)])), (q1, .inl (E 5, 10, .inr (.inr (.inr (.inr (va_up (va_up (fun _ => none) 0 (some q3)) 1 (some q5))))))), (q2, .inl (E 0, 10, .inl (ti_n (fun _ => 0)))), (q3, .inr (1, [.ref u4.1, .ref u4.2, .int (nI 0)])), (u4.1, .inl (E 0, 6, .inl (ti_n (fun _ => 0)))), (u4.2, .inl (E 0, 6, .inl (ti_n (fun _ => 0)))), (q5, .inr (1, [.ref u6.1, .ref u6.2, .int (nI 0)])), (u6.1, .inl (E 0, 6, .inl (ti_n (fun _ => 0)))), (u6.2, .inl (E 0, 6, .inl (ti_n (fun _ => 0)))), (q7, .inr (1, [.ref u8.1, .ref u8.2, .int (nI 0)])), (u8.1, .inl (E 0, 6, .inl (ti_n (fun _ => 0)))), (u8.2, .inl (E 0, 6, .inl (ti_n (fun _ => 0))))]) := hD
        refine W.eq (g2 := F0 m 41 ls [.ref q7, .int (nI 2), .ref q1]) rfl ?_
        refine tn_aastR hx hb hK hP hD hS 1 5 9 1 rfl rfl rfl rfl (by decide) (by decide) dX3_init_41 (fun H locs hP hD hS => ?_)
        have hP : va_P D vwCl ([(h, .inr (3, [.ref q1, .ref q2, .int (nI 0)])), (q1, .inl (E 5, 10, .inr (.inr (.inr (.inr (va_up (va_up (va_up (fun _ => none) 0 (some q3)) 1 (some q5)) 2 (some q7))))))), (q2, .inl (E 0, 10, .inl (ti_n (fun _ => 0)))), (q3, .inr (1, [.ref u4.1, .ref u4.2, .int (nI 0)])), (u4.1, .inl (E 0, 6, .inl (ti_n (fun _ => 0)))), (u4.2, .inl (E 0, 6, .inl (ti_n (fun _ => 0)))), (q5, .inr (1, [.ref u6.1, .ref u6.2, .int (nI 0)])), (u6.1, .inl (E 0, 6, .inl (ti_n (fun _ => 0)))), (u6.2, .inl (E 0, 6, .inl (ti_n (fun _ => 0)))), (q7, .inr (1, [.ref u8.1, .ref u8.2, .int (nI 0)])), (u8.1, .inl (E 0, 6, .inl (ti_n (fun _ => 0)))), (u8.2, .inl (E 0, 6, .inl (ti_n (fun _ => 0))))]) H := hP
        have hD : va_D A ([(h, .inr (3, [.ref q1, .ref q2, .int (nI 0)])), (q1, .inl (E 5, 10, .inr (.inr (.inr (.inr (va_up (va_up (va_up (fun _ => none) 0 (some q3)) 1 (some q5)) 2 (some q7))))))), (q2, .inl (E 0, 10, .inl (ti_n (fun _ => 0)))), (q3, .inr (1, [.ref u4.1, .ref u4.2, .int (nI 0)])), (u4.1, .inl (E 0, 6, .inl (ti_n (fun _ => 0)))), (u4.2, .inl (E 0, 6, .inl (ti_n (fun _ => 0)))), (q5, .inr (1, [.ref u6.1, .ref u6.2, .int (nI 0)])), (u6.1, .inl (E 0, 6, .inl (ti_n (fun _ => 0)))), (u6.2, .inl (E 0, 6, .inl (ti_n (fun _ => 0)))), (q7, .inr (1, [.ref u8.1, .ref u8.2, .int (nI 0)])), (u8.1, .inl (E 0, 6, .inl (ti_n (fun _ => 0)))), (u8.2, .inl (E 0, 6, .inl (ti_n (fun _ => 0))))]) := hD
        refine lv_iinc (v := nI 3) (lv' := [(1, .int (nI 3)), (0, .ref h)]) hx hb dX3_init_42 hl (k := 0) rfl (by decide) (by decide) rfl (fun ls hl => ?_)
        refine lv_goto (tgt := 23) hx hb dX3_init_45 (by decide) ?_
        refine lv_iload_n hx hb dX3_init_23 rfl (lv_at hl 0 rfl) ?_
        refine lv_bipush (v := nI 10) hx hb dX3_init_24 (by decide) ?_
        refine tn_ge (tgt := 48) hx hb dX3_init_26 (by decide) (by omega) (by omega) (fun c26 => ?_) (fun c26 => ?_)
        · skip
          exact absurd c26 (by decide)
        · skip
          refine lv_aload_n hx hb dX3_init_29 rfl (lv_at hl 1 rfl) ?_
          refine va_get (v := .ref q1) hx hb hts in_X3 hown hK hP 0 rfl rfl 0 (by decide) (hts _ q179) (fun _ h => h) rfl dX3_init_30 ?_
          refine lv_iload_n hx hb dX3_init_33 rfl (lv_at hl 0 rfl) ?_
          have hb9 := hS.1
          refine ti_newM hx hb hts in_X1 tyX1 tyX1_ok hown (hts _ q177) (hts _ q104) (hts _ q67) hK hP hD hS hA (ci := 1) rfl ti_df1 (Nat.le_of_ble_eq_true rfl) (Nat.le_of_ble_eq_true rfl) dX3_init_34 (fun q9 H hq9 hs9 hf9 ho9 hP hD hS => ?_)
          have g_q9 : H0.size ≤ q9 := by omega
          have hP : va_P D vwCl ([(h, .inr (3, [.ref q1, .ref q2, .int (nI 0)])), (q1, .inl (E 5, 10, .inr (.inr (.inr (.inr (va_up (va_up (va_up (fun _ => none) 0 (some q3)) 1 (some q5)) 2 (some q7))))))), (q2, .inl (E 0, 10, .inl (ti_n (fun _ => 0)))), (q3, .inr (1, [.ref u4.1, .ref u4.2, .int (nI 0)])), (u4.1, .inl (E 0, 6, .inl (ti_n (fun _ => 0)))), (u4.2, .inl (E 0, 6, .inl (ti_n (fun _ => 0)))), (q5, .inr (1, [.ref u6.1, .ref u6.2, .int (nI 0)])), (u6.1, .inl (E 0, 6, .inl (ti_n (fun _ => 0)))), (u6.2, .inl (E 0, 6, .inl (ti_n (fun _ => 0)))), (q7, .inr (1, [.ref u8.1, .ref u8.2, .int (nI 0)])), (u8.1, .inl (E 0, 6, .inl (ti_n (fun _ => 0)))), (u8.2, .inl (E 0, 6, .inl (ti_n (fun _ => 0)))), (q9, .inr (1, [.null, .null, .int (nI 0)]))]) H := hP
          have hD : va_D A ([(h, .inr (3, [.ref q1, .ref q2, .int (nI 0)])), (q1, .inl (E 5, 10, .inr (.inr (.inr (.inr (va_up (va_up (va_up (fun _ => none) 0 (some q3)) 1 (some q5)) 2 (some q7))))))), (q2, .inl (E 0, 10, .inl (ti_n (fun _ => 0)))), (q3, .inr (1, [.ref u4.1, .ref u4.2, .int (nI 0)])), (u4.1, .inl (E 0, 6, .inl (ti_n (fun _ => 0)))), (u4.2, .inl (E 0, 6, .inl (ti_n (fun _ => 0)))), (q5, .inr (1, [.ref u6.1, .ref u6.2, .int (nI 0)])), (u6.1, .inl (E 0, 6, .inl (ti_n (fun _ => 0)))), (u6.2, .inl (E 0, 6, .inl (ti_n (fun _ => 0)))), (q7, .inr (1, [.ref u8.1, .ref u8.2, .int (nI 0)])), (u8.1, .inl (E 0, 6, .inl (ti_n (fun _ => 0)))), (u8.2, .inl (E 0, 6, .inl (ti_n (fun _ => 0)))), (q9, .inr (1, [.null, .null, .int (nI 0)]))]) := hD
          refine lv_dup hx hb dX3_init_37 rfl ?_
          have hb10 := hS.1
          refine ti_nIN (As := []) (rest := [.ref q9, .int (nI 3), .ref q1]) S hE hP hD hS hA [12] rfl (met_X1_init l D E q9) rfl (fun _ => rfl) (lw_meth q107) q67 q178 q106 rfl 0 rfl (by decide +kernel) ⟨Nat.le_of_ble_eq_true rfl, Nat.le_of_ble_eq_true rfl⟩ hl.1 rfl (Nat.le_of_ble_eq_true rfl) ⟨Nat.le_of_ble_eq_true rfl, Nat.le_of_ble_eq_true rfl⟩ dX3_init_38 (fun u10 H locs hu hn10 hP hD hS => ?_)
          have g_u10a : H0.size ≤ u10.1 := Nat.le_trans hb10 (hn10 0 _ rfl)
          have g_u10b : H0.size ≤ u10.2 := Nat.le_trans hb10 (hn10 1 _ rfl)
          have hP : va_P D vwCl ([(h, .inr (3, [.ref q1, .ref q2, .int (nI 0)])), (q1, .inl (E 5, 10, .inr (.inr (.inr (.inr (va_up (va_up (va_up (fun _ => none) 0 (some q3)) 1 (some q5)) 2 (some q7))))))), (q2, .inl (E 0, 10, .inl (ti_n (fun _ => 0)))), (q3, .inr (1, [.ref u4.1, .ref u4.2, .int (nI 0)])), (u4.1, .inl (E 0, 6, .inl (ti_n (fun _ => 0)))), (u4.2, .inl (E 0, 6, .inl (ti_n (fun _ => 0)))), (q5, .inr (1, [.ref u6.1, .ref u6.2, .int (nI 0)])), (u6.1, .inl (E 0, 6, .inl (ti_n (fun _ => 0)))), (u6.2, .inl (E 0, 6, .inl (ti_n (fun _ => 0)))), (q7, .inr (1, [.ref u8.1, .ref u8.2, .int (nI 0)])), (u8.1, .inl (E 0, 6, .inl (ti_n (fun _ => 0)))), (u8.2, .inl (E 0, 6, .inl (ti_n (fun _ => 0)))), (q9, .inr (1, [.ref u10.1, .ref u10.2, .int (nI 0)])), (u10.1, .inl (E 0, 6, .inl (ti_n (fun _ => 0)))), (u10.2, .inl (E 0, 6, .inl (ti_n (fun _ => 0))))]) H := hP
          have hD : va_D A ([(h, .inr (3, [.ref q1, .ref q2, .int (nI 0)])), (q1, .inl (E 5, 10, .inr (.inr (.inr (.inr (va_up (va_up (va_up (fun _ => none) 0 (some q3)) 1 (some q5)) 2 (some q7))))))), (q2, .inl (E 0, 10, .inl (ti_n (fun _ => 0)))), (q3, .inr (1, [.ref u4.1, .ref u4.2, .int (nI 0)])), (u4.1, .inl (E 0, 6, .inl (ti_n (fun _ => 0)))), (u4.2, .inl (E 0, 6, .inl (ti_n (fun _ => 0)))), (q5, .inr (1, [.ref u6.1, .ref u6.2, .int (nI 0)])), (u6.1, .inl (E 0, 6, .inl (ti_n (fun _ => 0)))), (u6.2, .inl (E 0, 6, .inl (ti_n (fun _ => 0)))), (q7, .inr (1, [.ref u8.1, .ref u8.2, .int (nI 0)])), (u8.1, .inl (E 0, 6, .inl (ti_n (fun _ => 0)))), (u8.2, .inl (E 0, 6, .inl (ti_n (fun _ => 0)))), (q9, .inr (1, [.ref u10.1, .ref u10.2, .int (nI 0)])), (u10.1, .inl (E 0, 6, .inl (ti_n (fun _ => 0)))), (u10.2, .inl (E 0, 6, .inl (ti_n (fun _ => 0))))]) := hD
          refine W.eq (g2 := F0 m 41 ls [.ref q9, .int (nI 3), .ref q1]) rfl ?_
          refine tn_aastR hx hb hK hP hD hS 1 5 12 1 rfl rfl rfl rfl (by decide) (by decide) dX3_init_41 (fun H locs hP hD hS => ?_)
          have hP : va_P D vwCl ([(h, .inr (3, [.ref q1, .ref q2, .int (nI 0)])), (q1, .inl (E 5, 10, .inr (.inr (.inr (.inr (va_up (va_up (va_up (va_up (fun _ => none) 0 (some q3)) 1 (some q5)) 2 (some q7)) 3 (some q9))))))), (q2, .inl (E 0, 10, .inl (ti_n (fun _ => 0)))), (q3, .inr (1, [.ref u4.1, .ref u4.2, .int (nI 0)])), (u4.1, .inl (E 0, 6, .inl (ti_n (fun _ => 0)))), (u4.2, .inl (E 0, 6, .inl (ti_n (fun _ => 0)))), (q5, .inr (1, [.ref u6.1, .ref u6.2, .int (nI 0)])), (u6.1, .inl (E 0, 6, .inl (ti_n (fun _ => 0)))), (u6.2, .inl (E 0, 6, .inl (ti_n (fun _ => 0)))), (q7, .inr (1, [.ref u8.1, .ref u8.2, .int (nI 0)])), (u8.1, .inl (E 0, 6, .inl (ti_n (fun _ => 0)))), (u8.2, .inl (E 0, 6, .inl (ti_n (fun _ => 0)))), (q9, .inr (1, [.ref u10.1, .ref u10.2, .int (nI 0)])), (u10.1, .inl (E 0, 6, .inl (ti_n (fun _ => 0)))), (u10.2, .inl (E 0, 6, .inl (ti_n (fun _ => 0))))]) H := hP
          have hD : va_D A ([(h, .inr (3, [.ref q1, .ref q2, .int (nI 0)])), (q1, .inl (E 5, 10, .inr (.inr (.inr (.inr (va_up (va_up (va_up (va_up (fun _ => none) 0 (some q3)) 1 (some q5)) 2 (some q7)) 3 (some q9))))))), (q2, .inl (E 0, 10, .inl (ti_n (fun _ => 0)))), (q3, .inr (1, [.ref u4.1, .ref u4.2, .int (nI 0)])), (u4.1, .inl (E 0, 6, .inl (ti_n (fun _ => 0)))), (u4.2, .inl (E 0, 6, .inl (ti_n (fun _ => 0)))), (q5, .inr (1, [.ref u6.1, .ref u6.2, .int (nI 0)])), (u6.1, .inl (E 0, 6, .inl (ti_n (fun _ => 0)))), (u6.2, .inl (E 0, 6, .inl (ti_n (fun _ => 0)))), (q7, .inr (1, [.ref u8.1, .ref u8.2, .int (nI 0)])), (u8.1, .inl (E 0, 6, .inl (ti_n (fun _ => 0)))), (u8.2, .inl (E 0, 6, .inl (ti_n (fun _ => 0)))), (q9, .inr (1, [.ref u10.1, .ref u10.2, .int (nI 0)])), (u10.1, .inl (E 0, 6, .inl (ti_n (fun _ => 0)))), (u10.2, .inl (E 0, 6, .inl (ti_n (fun _ => 0))))]) := hD
          refine lv_iinc (v := nI 4) (lv' := [(1, .int (nI 4)), (0, .ref h)]) hx hb dX3_init_42 hl (k := 0) rfl (by decide) (by decide) rfl (fun ls hl => ?_)
          refine lv_goto (tgt := 23) hx hb dX3_init_45 (by decide) ?_
          refine lv_iload_n hx hb dX3_init_23 rfl (lv_at hl 0 rfl) ?_
          refine lv_bipush (v := nI 10) hx hb dX3_init_24 (by decide) ?_
          refine tn_ge (tgt := 48) hx hb dX3_init_26 (by decide) (by omega) (by omega) (fun c26 => ?_) (fun c26 => ?_)
          · skip
            exact absurd c26 (by decide)
          · skip
            refine lv_aload_n hx hb dX3_init_29 rfl (lv_at hl 1 rfl) ?_
            refine va_get (v := .ref q1) hx hb hts in_X3 hown hK hP 0 rfl rfl 0 (by decide) (hts _ q179) (fun _ h => h) rfl dX3_init_30 ?_
            refine lv_iload_n hx hb dX3_init_33 rfl (lv_at hl 0 rfl) ?_
            have hb11 := hS.1
            refine ti_newM hx hb hts in_X1 tyX1 tyX1_ok hown (hts _ q177) (hts _ q104) (hts _ q67) hK hP hD hS hA (ci := 1) rfl ti_df1 (Nat.le_of_ble_eq_true rfl) (Nat.le_of_ble_eq_true rfl) dX3_init_34 (fun q11 H hq11 hs11 hf11 ho11 hP hD hS => ?_)
            have g_q11 : H0.size ≤ q11 := by omega
            have hP : va_P D vwCl ([(h, .inr (3, [.ref q1, .ref q2, .int (nI 0)])), (q1, .inl (E 5, 10, .inr (.inr (.inr (.inr (va_up (va_up (va_up (va_up (fun _ => none) 0 (some q3)) 1 (some q5)) 2 (some q7)) 3 (some q9))))))), (q2, .inl (E 0, 10, .inl (ti_n (fun _ => 0)))), (q3, .inr (1, [.ref u4.1, .ref u4.2, .int (nI 0)])), (u4.1, .inl (E 0, 6, .inl (ti_n (fun _ => 0)))), (u4.2, .inl (E 0, 6, .inl (ti_n (fun _ => 0)))), (q5, .inr (1, [.ref u6.1, .ref u6.2, .int (nI 0)])), (u6.1, .inl (E 0, 6, .inl (ti_n (fun _ => 0)))), (u6.2, .inl (E 0, 6, .inl (ti_n (fun _ => 0)))), (q7, .inr (1, [.ref u8.1, .ref u8.2, .int (nI 0)])), (u8.1, .inl (E 0, 6, .inl (ti_n (fun _ => 0)))), (u8.2, .inl (E 0, 6, .inl (ti_n (fun _ => 0)))), (q9, .inr (1, [.ref u10.1, .ref u10.2, .int (nI 0)])), (u10.1, .inl (E 0, 6, .inl (ti_n (fun _ => 0)))), (u10.2, .inl (E 0, 6, .inl (ti_n (fun _ => 0)))), (q11, .inr (1, [.null, .null, .int (nI 0)]))]) H := hP
            have hD : va_D A ([(h, .inr (3, [.ref q1, .ref q2, .int (nI 0)])), (q1, .inl (E 5, 10, .inr (.inr (.inr (.inr (va_up (va_up (va_up (va_up (fun _ => none) 0 (some q3)) 1 (some q5)) 2 (some q7)) 3 (some q9))))))), (q2, .inl (E 0, 10, .inl (ti_n (fun _ => 0)))), (q3, .inr (1, [.ref u4.1, .ref u4.2, .int (nI 0)])), (u4.1, .inl (E 0, 6, .inl (ti_n (fun _ => 0)))), (u4.2, .inl (E 0, 6, .inl (ti_n (fun _ => 0)))), (q5, .inr (1, [.ref u6.1, .ref u6.2, .int (nI 0)])), (u6.1, .inl (E 0, 6, .inl (ti_n (fun _ => 0)))), (u6.2, .inl (E 0, 6, .inl (ti_n (fun _ => 0)))), (q7, .inr (1, [.ref u8.1, .ref u8.2, .int (nI 0)])), (u8.1, .inl (E 0, 6, .inl (ti_n (fun _ => 0)))), (u8.2, .inl (E 0, 6, .inl (ti_n (fun _ => 0)))), (q9, .inr (1, [.ref u10.1, .ref u10.2, .int (nI 0)])), (u10.1, .inl (E 0, 6, .inl (ti_n (fun _ => 0)))), (u10.2, .inl (E 0, 6, .inl (ti_n (fun _ => 0)))), (q11, .inr (1, [.null, .null, .int (nI 0)]))]) := hD
            refine lv_dup hx hb dX3_init_37 rfl ?_
            have hb12 := hS.1
            refine ti_nIN (As := []) (rest := [.ref q11, .int (nI 4), .ref q1]) S hE hP hD hS hA [15] rfl (met_X1_init l D E q11) rfl (fun _ => rfl) (lw_meth q107) q67 q178 q106 rfl 0 rfl (by decide +kernel) ⟨Nat.le_of_ble_eq_true rfl, Nat.le_of_ble_eq_true rfl⟩ hl.1 rfl (Nat.le_of_ble_eq_true rfl) ⟨Nat.le_of_ble_eq_true rfl, Nat.le_of_ble_eq_true rfl⟩ dX3_init_38 (fun u12 H locs hu hn12 hP hD hS => ?_)
            have g_u12a : H0.size ≤ u12.1 := Nat.le_trans hb12 (hn12 0 _ rfl)
            have g_u12b : H0.size ≤ u12.2 := Nat.le_trans hb12 (hn12 1 _ rfl)
            have hP : va_P D vwCl ([(h, .inr (3, [.ref q1, .ref q2, .int (nI 0)])), (q1, .inl (E 5, 10, .inr (.inr (.inr (.inr (va_up (va_up (va_up (va_up (fun _ => none) 0 (some q3)) 1 (some q5)) 2 (some q7)) 3 (some q9))))))), (q2, .inl (E 0, 10, .inl (ti_n (fun _ => 0)))), (q3, .inr (1, [.ref u4.1, .ref u4.2, .int (nI 0)])), (u4.1, .inl (E 0, 6, .inl (ti_n (fun _ => 0)))), (u4.2, .inl (E 0, 6, .inl (ti_n (fun _ => 0)))), (q5, .inr (1, [.ref u6.1, .ref u6.2, .int (nI 0)])), (u6.1, .inl (E 0, 6, .inl (ti_n (fun _ => 0)))), (u6.2, .inl (E 0, 6, .inl (ti_n (fun _ => 0)))), (q7, .inr (1, [.ref u8.1, .ref u8.2, .int (nI 0)])), (u8.1, .inl (E 0, 6, .inl (ti_n (fun _ => 0)))), (u8.2, .inl (E 0, 6, .inl (ti_n (fun _ => 0)))), (q9, .inr (1, [.ref u10.1, .ref u10.2, .int (nI 0)])), (u10.1, .inl (E 0, 6, .inl (ti_n (fun _ => 0)))), (u10.2, .inl (E 0, 6, .inl (ti_n (fun _ => 0)))), (q11, .inr (1, [.ref u12.1, .ref u12.2, .int (nI 0)])), (u12.1, .inl (E 0, 6, .inl (ti_n (fun _ => 0)))), (u12.2, .inl (E 0, 6, .inl (ti_n (fun _ => 0))))]) H := hP
            have hD : va_D A ([(h, .inr (3, [.ref q1, .ref q2, .int (nI 0)])), (q1, .inl (E 5, 10, .inr (.inr (.inr (.inr (va_up (va_up (va_up (va_up (fun _ => none) 0 (some q3)) 1 (some q5)) 2 (some q7)) 3 (some q9))))))), (q2, .inl (E 0, 10, .inl (ti_n (fun _ => 0)))), (q3, .inr (1, [.ref u4.1, .ref u4.2, .int (nI 0)])), (u4.1, .inl (E 0, 6, .inl (ti_n (fun _ => 0)))), (u4.2, .inl (E 0, 6, .inl (ti_n (fun _ => 0)))), (q5, .inr (1, [.ref u6.1, .ref u6.2, .int (nI 0)])), (u6.1, .inl (E 0, 6, .inl (ti_n (fun _ => 0)))), (u6.2, .inl (E 0, 6, .inl (ti_n (fun _ => 0)))), (q7, .inr (1, [.ref u8.1, .ref u8.2, .int (nI 0)])), (u8.1, .inl (E 0, 6, .inl (ti_n (fun _ => 0)))), (u8.2, .inl (E 0, 6, .inl (ti_n (fun _ => 0)))), (q9, .inr (1, [.ref u10.1, .ref u10.2, .int (nI 0)])), (u10.1, .inl (E 0, 6, .inl (ti_n (fun _ => 0)))), (u10.2, .inl (E 0, 6, .inl (ti_n (fun _ => 0)))), (q11, .inr (1, [.ref u12.1, .ref u12.2, .int (nI 0)])), (u12.1, .inl (E 0, 6, .inl (ti_n (fun _ => 0)))), (u12.2, .inl (E 0, 6, .inl (ti_n (fun _ => 0))))]) := hD
            refine W.eq (g2 := F0 m 41 ls [.ref q11, .int (nI 4), .ref q1]) rfl ?_
            refine tn_aastR hx hb hK hP hD hS 1 5 15 1 rfl rfl rfl rfl (by decide) (by decide) dX3_init_41 (fun H locs hP hD hS => ?_)
            have hP : va_P D vwCl ([(h, .inr (3, [.ref q1, .ref q2, .int (nI 0)])), (q1, .inl (E 5, 10, .inr (.inr (.inr (.inr (va_up (va_up (va_up (va_up (va_up (fun _ => none) 0 (some q3)) 1 (some q5)) 2 (some q7)) 3 (some q9)) 4 (some q11))))))), (q2, .inl (E 0, 10, .inl (ti_n (fun _ => 0)))), (q3, .inr (1, [.ref u4.1, .ref u4.2, .int (nI 0)])), (u4.1, .inl (E 0, 6, .inl (ti_n (fun _ => 0)))), (u4.2, .inl (E 0, 6, .inl (ti_n (fun _ => 0)))), (q5, .inr (1, [.ref u6.1, .ref u6.2, .int (nI 0)])), (u6.1, .inl (E 0, 6, .inl (ti_n (fun _ => 0)))), (u6.2, .inl (E 0, 6, .inl (ti_n (fun _ => 0)))), (q7, .inr (1, [.ref u8.1, .ref u8.2, .int (nI 0)])), (u8.1, .inl (E 0, 6, .inl (ti_n (fun _ => 0)))), (u8.2, .inl (E 0, 6, .inl (ti_n (fun _ => 0)))), (q9, .inr (1, [.ref u10.1, .ref u10.2, .int (nI 0)])), (u10.1, .inl (E 0, 6, .inl (ti_n (fun _ => 0)))), (u10.2, .inl (E 0, 6, .inl (ti_n (fun _ => 0)))), (q11, .inr (1, [.ref u12.1, .ref u12.2, .int (nI 0)])), (u12.1, .inl (E 0, 6, .inl (ti_n (fun _ => 0)))), (u12.2, .inl (E 0, 6, .inl (ti_n (fun _ => 0))))]) H := hP
            have hD : va_D A ([(h, .inr (3, [.ref q1, .ref q2, .int (nI 0)])), (q1, .inl (E 5, 10, .inr (.inr (.inr (.inr (va_up (va_up (va_up (va_up (va_up (fun _ => none) 0 (some q3)) 1 (some q5)) 2 (some q7)) 3 (some q9)) 4 (some q11))))))), (q2, .inl (E 0, 10, .inl (ti_n (fun _ => 0)))), (q3, .inr (1, [.ref u4.1, .ref u4.2, .int (nI 0)])), (u4.1, .inl (E 0, 6, .inl (ti_n (fun _ => 0)))), (u4.2, .inl (E 0, 6, .inl (ti_n (fun _ => 0)))), (q5, .inr (1, [.ref u6.1, .ref u6.2, .int (nI 0)])), (u6.1, .inl (E 0, 6, .inl (ti_n (fun _ => 0)))), (u6.2, .inl (E 0, 6, .inl (ti_n (fun _ => 0)))), (q7, .inr (1, [.ref u8.1, .ref u8.2, .int (nI 0)])), (u8.1, .inl (E 0, 6, .inl (ti_n (fun _ => 0)))), (u8.2, .inl (E 0, 6, .inl (ti_n (fun _ => 0)))), (q9, .inr (1, [.ref u10.1, .ref u10.2, .int (nI 0)])), (u10.1, .inl (E 0, 6, .inl (ti_n (fun _ => 0)))), (u10.2, .inl (E 0, 6, .inl (ti_n (fun _ => 0)))), (q11, .inr (1, [.ref u12.1, .ref u12.2, .int (nI 0)])), (u12.1, .inl (E 0, 6, .inl (ti_n (fun _ => 0)))), (u12.2, .inl (E 0, 6, .inl (ti_n (fun _ => 0))))]) := hD
            refine lv_iinc (v := nI 5) (lv' := [(1, .int (nI 5)), (0, .ref h)]) hx hb dX3_init_42 hl (k := 0) rfl (by decide) (by decide) rfl (fun ls hl => ?_)
            refine lv_goto (tgt := 23) hx hb dX3_init_45 (by decide) ?_
            refine lv_iload_n hx hb dX3_init_23 rfl (lv_at hl 0 rfl) ?_
            refine lv_bipush (v := nI 10) hx hb dX3_init_24 (by decide) ?_
            refine tn_ge (tgt := 48) hx hb dX3_init_26 (by decide) (by omega) (by omega) (fun c26 => ?_) (fun c26 => ?_)
            · skip
              exact absurd c26 (by decide)
            · skip
              refine lv_aload_n hx hb dX3_init_29 rfl (lv_at hl 1 rfl) ?_
              refine va_get (v := .ref q1) hx hb hts in_X3 hown hK hP 0 rfl rfl 0 (by decide) (hts _ q179) (fun _ h => h) rfl dX3_init_30 ?_
              refine lv_iload_n hx hb dX3_init_33 rfl (lv_at hl 0 rfl) ?_
              have hb13 := hS.1
              refine ti_newM hx hb hts in_X1 tyX1 tyX1_ok hown (hts _ q177) (hts _ q104) (hts _ q67) hK hP hD hS hA (ci := 1) rfl ti_df1 (Nat.le_of_ble_eq_true rfl) (Nat.le_of_ble_eq_true rfl) dX3_init_34 (fun q13 H hq13 hs13 hf13 ho13 hP hD hS => ?_)
              have g_q13 : H0.size ≤ q13 := by omega
              have hP : va_P D vwCl ([(h, .inr (3, [.ref q1, .ref q2, .int (nI 0)])), (q1, .inl (E 5, 10, .inr (.inr (.inr (.inr (va_up (va_up (va_up (va_up (va_up (fun _ => none) 0 (some q3)) 1 (some q5)) 2 (some q7)) 3 (some q9)) 4 (some q11))))))), (q2, .inl (E 0, 10, .inl (ti_n (fun _ => 0)))), (q3, .inr (1, [.ref u4.1, .ref u4.2, .int (nI 0)])), (u4.1, .inl (E 0, 6, .inl (ti_n (fun _ => 0)))), (u4.2, .inl (E 0, 6, .inl (ti_n (fun _ => 0)))), (q5, .inr (1, [.ref u6.1, .ref u6.2, .int (nI 0)])), (u6.1, .inl (E 0, 6, .inl (ti_n (fun _ => 0)))), (u6.2, .inl (E 0, 6, .inl (ti_n (fun _ => 0)))), (q7, .inr (1, [.ref u8.1, .ref u8.2, .int (nI 0)])), (u8.1, .inl (E 0, 6, .inl (ti_n (fun _ => 0)))), (u8.2, .inl (E 0, 6, .inl (ti_n (fun _ => 0)))), (q9, .inr (1, [.ref u10.1, .ref u10.2, .int (nI 0)])), (u10.1, .inl (E 0, 6, .inl (ti_n (fun _ => 0)))), (u10.2, .inl (E 0, 6, .inl (ti_n (fun _ => 0)))), (q11, .inr (1, [.ref u12.1, .ref u12.2, .int (nI 0)])), (u12.1, .inl (E 0, 6, .inl (ti_n (fun _ => 0)))), (u12.2, .inl (E 0, 6, .inl (ti_n (fun _ => 0)))), (q13, .inr (1, [.null, .null, .int (nI 0)]))]) H := hP
              have hD : va_D A ([(h, .inr (3, [.ref q1, .ref q2, .int (nI 0)])), (q1, .inl (E 5, 10, .inr (.inr (.inr (.inr (va_up (va_up (va_up (va_up (va_up (fun _ => none) 0 (some q3)) 1 (some q5)) 2 (some q7)) 3 (some q9)) 4 (some q11))))))), (q2, .inl (E 0, 10, .inl (ti_n (fun _ => 0)))), (q3, .inr (1, [.ref u4.1, .ref u4.2, .int (nI 0)])), (u4.1, .inl (E 0, 6, .inl (ti_n (fun _ => 0)))), (u4.2, .inl (E 0, 6, .inl (ti_n (fun _ => 0)))), (q5, .inr (1, [.ref u6.1, .ref u6.2, .int (nI 0)])), (u6.1, .inl (E 0, 6, .inl (ti_n (fun _ => 0)))), (u6.2, .inl (E 0, 6, .inl (ti_n (fun _ => 0)))), (q7, .inr (1, [.ref u8.1, .ref u8.2, .int (nI 0)])), (u8.1, .inl (E 0, 6, .inl (ti_n (fun _ => 0)))), (u8.2, .inl (E 0, 6, .inl (ti_n (fun _ => 0)))), (q9, .inr (1, [.ref u10.1, .ref u10.2, .int (nI 0)])), (u10.1, .inl (E 0, 6, .inl (ti_n (fun _ => 0)))), (u10.2, .inl (E 0, 6, .inl (ti_n (fun _ => 0)))), (q11, .inr (1, [.ref u12.1, .ref u12.2, .int (nI 0)])), (u12.1, .inl (E 0, 6, .inl (ti_n (fun _ => 0)))), (u12.2, .inl (E 0, 6, .inl (ti_n (fun _ => 0)))), (q13, .inr (1, [.null, .null, .int (nI 0)]))]) := hD
              refine lv_dup hx hb dX3_init_37 rfl ?_
              have hb14 := hS.1
              refine ti_nIN (As := []) (rest := [.ref q13, .int (nI 5), .ref q1]) S hE hP hD hS hA [18] rfl (met_X1_init l D E q13) rfl (fun _ => rfl) (lw_meth q107) q67 q178 q106 rfl 0 rfl (by decide +kernel) ⟨Nat.le_of_ble_eq_true rfl, Nat.le_of_ble_eq_true rfl⟩ hl.1 rfl (Nat.le_of_ble_eq_true rfl) ⟨Nat.le_of_ble_eq_true rfl, Nat.le_of_ble_eq_true rfl⟩ dX3_init_38 (fun u14 H locs hu hn14 hP hD hS => ?_)
              have g_u14a : H0.size ≤ u14.1 := Nat.le_trans hb14 (hn14 0 _ rfl)
              have g_u14b : H0.size ≤ u14.2 := Nat.le_trans hb14 (hn14 1 _ rfl)
              have hP : va_P D vwCl ([(h, .inr (3, [.ref q1, .ref q2, .int (nI 0)])), (q1, .inl (E 5, 10, .inr (.inr (.inr (.inr (va_up (va_up (va_up (va_up (va_up (fun _ => none) 0 (some q3)) 1 (some q5)) 2 (some q7)) 3 (some q9)) 4 (some q11))))))), (q2, .inl (E 0, 10, .inl (ti_n (fun _ => 0)))), (q3, .inr (1, [.ref u4.1, .ref u4.2, .int (nI 0)])), (u4.1, .inl (E 0, 6, .inl (ti_n (fun _ => 0)))), (u4.2, .inl (E 0, 6, .inl (ti_n (fun _ => 0)))), (q5, .inr (1, [.ref u6.1, .ref u6.2, .int (nI 0)])), (u6.1, .inl (E 0, 6, .inl (ti_n (fun _ => 0)))), (u6.2, .inl (E 0, 6, .inl (ti_n (fun _ => 0)))), (q7, .inr (1, [.ref u8.1, .ref u8.2, .int (nI 0)])), (u8.1, .inl (E 0, 6, .inl (ti_n (fun _ => 0)))), (u8.2, .inl (E 0, 6, .inl (ti_n (fun _ => 0)))), (q9, .inr (1, [.ref u10.1, .ref u10.2, .int (nI 0)])), (u10.1, .inl (E 0, 6, .inl (ti_n (fun _ => 0)))), (u10.2, .inl (E 0, 6, .inl (ti_n (fun _ => 0)))), (q11, .inr (1, [.ref u12.1, .ref u12.2, .int (nI 0)])), (u12.1, .inl (E 0, 6, .inl (ti_n (fun _ => 0)))), (u12.2, .inl (E 0, 6, .inl (ti_n (fun _ => 0)))), (q13, .inr (1, [.ref u14.1, .ref u14.2, .int (nI 0)])), (u14.1, .inl (E 0, 6, .inl (ti_n (fun _ => 0)))), (u14.2, .inl (E 0, 6, .inl (ti_n (fun _ => 0))))]) H := hP
              have hD : va_D A ([(h, .inr (3, [.ref q1, .ref q2, .int (nI 0)])), (q1, .inl (E 5, 10, .inr (.inr (.inr (.inr (va_up (va_up (va_up (va_up (va_up (fun _ => none) 0 (some q3)) 1 (some q5)) 2 (some q7)) 3 (some q9)) 4 (some q11))))))), (q2, .inl (E 0, 10, .inl (ti_n (fun _ => 0)))), (q3, .inr (1, [.ref u4.1, .ref u4.2, .int (nI 0)])), (u4.1, .inl (E 0, 6, .inl (ti_n (fun _ => 0)))), (u4.2, .inl (E 0, 6, .inl (ti_n (fun _ => 0)))), (q5, .inr (1, [.ref u6.1, .ref u6.2, .int (nI 0)])), (u6.1, .inl (E 0, 6, .inl (ti_n (fun _ => 0)))), (u6.2, .inl (E 0, 6, .inl (ti_n (fun _ => 0)))), (q7, .inr (1, [.ref u8.1, .ref u8.2, .int (nI 0)])), (u8.1, .inl (E 0, 6, .inl (ti_n (fun _ => 0)))), (u8.2, .inl (E 0, 6, .inl (ti_n (fun _ => 0)))), (q9, .inr (1, [.ref u10.1, .ref u10.2, .int (nI 0)])), (u10.1, .inl (E 0, 6, .inl (ti_n (fun _ => 0)))), (u10.2, .inl (E 0, 6, .inl (ti_n (fun _ => 0)))), (q11, .inr (1, [.ref u12.1, .ref u12.2, .int (nI 0)])), (u12.1, .inl (E 0, 6, .inl (ti_n (fun _ => 0)))), (u12.2, .inl (E 0, 6, .inl (ti_n (fun _ => 0)))), (q13, .inr (1, [.ref u14.1, .ref u14.2, .int (nI 0)])), (u14.1, .inl (E 0, 6, .inl (ti_n (fun _ => 0)))), (u14.2, .inl (E 0, 6, .inl (ti_n (fun _ => 0))))]) := hD
              refine W.eq (g2 := F0 m 41 ls [.ref q13, .int (nI 5), .ref q1]) rfl ?_
              refine tn_aastR hx hb hK hP hD hS 1 5 18 1 rfl rfl rfl rfl (by decide) (by decide) dX3_init_41 (fun H locs hP hD hS => ?_)
              have hP : va_P D vwCl ([(h, .inr (3, [.ref q1, .ref q2, .int (nI 0)])), (q1, .inl (E 5, 10, .inr (.inr (.inr (.inr (va_up (va_up (va_up (va_up (va_up (va_up (fun _ => none) 0 (some q3)) 1 (some q5)) 2 (some q7)) 3 (some q9)) 4 (some q11)) 5 (some q13))))))), (q2, .inl (E 0, 10, .inl (ti_n (fun _ => 0)))), (q3, .inr (1, [.ref u4.1, .ref u4.2, .int (nI 0)])), (u4.1, .inl (E 0, 6, .inl (ti_n (fun _ => 0)))), (u4.2, .inl (E 0, 6, .inl (ti_n (fun _ => 0)))), (q5, .inr (1, [.ref u6.1, .ref u6.2, .int (nI 0)])), (u6.1, .inl (E 0, 6, .inl (ti_n (fun _ => 0)))), (u6.2, .inl (E 0, 6, .inl (ti_n (fun _ => 0)))), (q7, .inr (1, [.ref u8.1, .ref u8.2, .int (nI 0)])), (u8.1, .inl (E 0, 6, .inl (ti_n (fun _ => 0)))), (u8.2, .inl (E 0, 6, .inl (ti_n (fun _ => 0)))), (q9, .inr (1, [.ref u10.1, .ref u10.2, .int (nI 0)])), (u10.1, .inl (E 0, 6, .inl (ti_n (fun _ => 0)))), (u10.2, .inl (E 0, 6, .inl (ti_n (fun _ => 0)))), (q11, .inr (1, [.ref u12.1, .ref u12.2, .int (nI 0)])), (u12.1, .inl (E 0, 6, .inl (ti_n (fun _ => 0)))), (u12.2, .inl (E 0, 6, .inl (ti_n (fun _ => 0)))), (q13, .inr (1, [.ref u14.1, .ref u14.2, .int (nI 0)])), (u14.1, .inl (E 0, 6, .inl (ti_n (fun _ => 0)))), (u14.2, .inl (E 0, 6, .inl (ti_n (fun _ => 0))))]) H := hP
              have hD : va_D A ([(h, .inr (3, [.ref q1, .ref q2, .int (nI 0)])), (q1, .inl (E 5, 10, .inr (.inr (.inr (.inr (va_up (va_up (va_up (va_up (va_up (va_up (fun _ => none) 0 (some q3)) 1 (some q5)) 2 (some q7)) 3 (some q9)) 4 (some q11)) 5 (some q13))))))), (q2, .inl (E 0, 10, .inl (ti_n (fun _ => 0)))), (q3, .inr (1, [.ref u4.1, .ref u4.2, .int (nI 0)])), (u4.1, .inl (E 0, 6, .inl (ti_n (fun _ => 0)))), (u4.2, .inl (E 0, 6, .inl (ti_n (fun _ => 0)))), (q5, .inr (1, [.ref u6.1, .ref u6.2, .int (nI 0)])), (u6.1, .inl (E 0, 6, .inl (ti_n (fun _ => 0)))), (u6.2, .inl (E 0, 6, .inl (ti_n (fun _ => 0)))), (q7, .inr (1, [.ref u8.1, .ref u8.2, .int (nI 0)])), (u8.1, .inl (E 0, 6, .inl (ti_n (fun _ => 0)))), (u8.2, .inl (E 0, 6, .inl (ti_n (fun _ => 0)))), (q9, .inr (1, [.ref u10.1, .ref u10.2, .int (nI 0)])), (u10.1, .inl (E 0, 6, .inl (ti_n (fun _ => 0)))), (u10.2, .inl (E 0, 6, .inl (ti_n (fun _ => 0)))), (q11, .inr (1, [.ref u12.1, .ref u12.2, .int (nI 0)])), (u12.1, .inl (E 0, 6, .inl (ti_n (fun _ => 0)))), (u12.2, .inl (E 0, 6, .inl (ti_n (fun _ => 0)))), (q13, .inr (1, [.ref u14.1, .ref u14.2, .int (nI 0)])), (u14.1, .inl (E 0, 6, .inl (ti_n (fun _ => 0)))), (u14.2, .inl (E 0, 6, .inl (ti_n (fun _ => 0))))]) := hD
              refine lv_iinc (v := nI 6) (lv' := [(1, .int (nI 6)), (0, .ref h)]) hx hb dX3_init_42 hl (k := 0) rfl (by decide) (by decide) rfl (fun ls hl => ?_)
              refine lv_goto (tgt := 23) hx hb dX3_init_45 (by decide) ?_
              refine lv_iload_n hx hb dX3_init_23 rfl (lv_at hl 0 rfl) ?_
              refine lv_bipush (v := nI 10) hx hb dX3_init_24 (by decide) ?_
              refine tn_ge (tgt := 48) hx hb dX3_init_26 (by decide) (by omega) (by omega) (fun c26 => ?_) (fun c26 => ?_)
              · skip
                exact absurd c26 (by decide)
              · skip
                refine lv_aload_n hx hb dX3_init_29 rfl (lv_at hl 1 rfl) ?_
                refine va_get (v := .ref q1) hx hb hts in_X3 hown hK hP 0 rfl rfl 0 (by decide) (hts _ q179) (fun _ h => h) rfl dX3_init_30 ?_
                refine lv_iload_n hx hb dX3_init_33 rfl (lv_at hl 0 rfl) ?_
                have hb15 := hS.1
                refine ti_newM hx hb hts in_X1 tyX1 tyX1_ok hown (hts _ q177) (hts _ q104) (hts _ q67) hK hP hD hS hA (ci := 1) rfl ti_df1 (Nat.le_of_ble_eq_true rfl) (Nat.le_of_ble_eq_true rfl) dX3_init_34 (fun q15 H hq15 hs15 hf15 ho15 hP hD hS => ?_)
                have g_q15 : H0.size ≤ q15 := by omega
                have hP : va_P D vwCl ([(h, .inr (3, [.ref q1, .ref q2, .int (nI 0)])), (q1, .inl (E 5, 10, .inr (.inr (.inr (.inr (va_up (va_up (va_up (va_up (va_up (va_up (fun _ => none) 0 (some q3)) 1 (some q5)) 2 (some q7)) 3 (some q9)) 4 (some q11)) 5 (some q13))))))), (q2, .inl (E 0, 10, .inl (ti_n (fun _ => 0)))), (q3, .inr (1, [.ref u4.1, .ref u4.2, .int (nI 0)])), (u4.1, .inl (E 0, 6, .inl (ti_n (fun _ => 0)))), (u4.2, .inl (E 0, 6, .inl (ti_n (fun _ => 0)))), (q5, .inr (1, [.ref u6.1, .ref u6.2, .int (nI 0)])), (u6.1, .inl (E 0, 6, .inl (ti_n (fun _ => 0)))), (u6.2, .inl (E 0, 6, .inl (ti_n (fun _ => 0)))), (q7, .inr (1, [.ref u8.1, .ref u8.2, .int (nI 0)])), (u8.1, .inl (E 0, 6, .inl (ti_n (fun _ => 0)))), (u8.2, .inl (E 0, 6, .inl (ti_n (fun _ => 0)))), (q9, .inr (1, [.ref u10.1, .ref u10.2, .int (nI 0)])), (u10.1, .inl (E 0, 6, .inl (ti_n (fun _ => 0)))), (u10.2, .inl (E 0, 6, .inl (ti_n (fun _ => 0)))), (q11, .inr (1, [.ref u12.1, .ref u12.2, .int (nI 0)])), (u12.1, .inl (E 0, 6, .inl (ti_n (fun _ => 0)))), (u12.2, .inl (E 0, 6, .inl (ti_n (fun _ => 0)))), (q13, .inr (1, [.ref u14.1, .ref u14.2, .int (nI 0)])), (u14.1, .inl (E 0, 6, .inl (ti_n (fun _ => 0)))), (u14.2, .inl (E 0, 6, .inl (ti_n (fun _ => 0)))), (q15, .inr (1, [.null, .null, .int (nI 0)]))]) H := hP
                have hD : va_D A ([(h, .inr (3, [.ref q1, .ref q2, .int (nI 0)])), (q1, .inl (E 5, 10, .inr (.inr (.inr (.inr (va_up (va_up (va_up (va_up (va_up (va_up (fun _ => none) 0 (some q3)) 1 (some q5)) 2 (some q7)) 3 (some q9)) 4 (some q11)) 5 (some q13))))))), (q2, .inl (E 0, 10, .inl (ti_n (fun _ => 0)))), (q3, .inr (1, [.ref u4.1, .ref u4.2, .int (nI 0)])), (u4.1, .inl (E 0, 6, .inl (ti_n (fun _ => 0)))), (u4.2, .inl (E 0, 6, .inl (ti_n (fun _ => 0)))), (q5, .inr (1, [.ref u6.1, .ref u6.2, .int (nI 0)])), (u6.1, .inl (E 0, 6, .inl (ti_n (fun _ => 0)))), (u6.2, .inl (E 0, 6, .inl (ti_n (fun _ => 0)))), (q7, .inr (1, [.ref u8.1, .ref u8.2, .int (nI 0)])), (u8.1, .inl (E 0, 6, .inl (ti_n (fun _ => 0)))), (u8.2, .inl (E 0, 6, .inl (ti_n (fun _ => 0)))), (q9, .inr (1, [.ref u10.1, .ref u10.2, .int (nI 0)])), (u10.1, .inl (E 0, 6, .inl (ti_n (fun _ => 0)))), (u10.2, .inl (E 0, 6, .inl (ti_n (fun _ => 0)))), (q11, .inr (1, [.ref u12.1, .ref u12.2, .int (nI 0)])), (u12.1, .inl (E 0, 6, .inl (ti_n (fun _ => 0)))), (u12.2, .inl (E 0, 6, .inl (ti_n (fun _ => 0)))), (q13, .inr (1, [.ref u14.1, .ref u14.2, .int (nI 0)])), (u14.1, .inl (E 0, 6, .inl (ti_n (fun _ => 0)))), (u14.2, .inl (E 0, 6, .inl (ti_n (fun _ => 0)))), (q15, .inr (1, [.null, .null, .int (nI 0)]))]) := hD
                refine lv_dup hx hb dX3_init_37 rfl ?_
                have hb16 := hS.1
                refine ti_nIN (As := []) (rest := [.ref q15, .int (nI 6), .ref q1]) S hE hP hD hS hA [21] rfl (met_X1_init l D E q15) rfl (fun _ => rfl) (lw_meth q107) q67 q178 q106 rfl 0 rfl (by decide +kernel) ⟨Nat.le_of_ble_eq_true rfl, Nat.le_of_ble_eq_true rfl⟩ hl.1 rfl (Nat.le_of_ble_eq_true rfl) ⟨Nat.le_of_ble_eq_true rfl, Nat.le_of_ble_eq_true rfl⟩ dX3_init_38 (fun u16 H locs hu hn16 hP hD hS => ?_)
                have g_u16a : H0.size ≤ u16.1 := Nat.le_trans hb16 (hn16 0 _ rfl)
                have g_u16b : H0.size ≤ u16.2 := Nat.le_trans hb16 (hn16 1 _ rfl)
                have hP : va_P D vwCl ([(h, .inr (3, [.ref q1, .ref q2, .int (nI 0)])), (q1, .inl (E 5, 10, .inr (.inr (.inr (.inr (va_up (va_up (va_up (va_up (va_up (va_up (fun _ => none) 0 (some q3)) 1 (some q5)) 2 (some q7)) 3 (some q9)) 4 (some q11)) 5 (some q13))))))), (q2, .inl (E 0, 10, .inl (ti_n (fun _ => 0)))), (q3, .inr (1, [.ref u4.1, .ref u4.2, .int (nI 0)])), (u4.1, .inl (E 0, 6, .inl (ti_n (fun _ => 0)))), (u4.2, .inl (E 0, 6, .inl (ti_n (fun _ => 0)))), (q5, .inr (1, [.ref u6.1, .ref u6.2, .int (nI 0)])), (u6.1, .inl (E 0, 6, .inl (ti_n (fun _ => 0)))), (u6.2, .inl (E 0, 6, .inl (ti_n (fun _ => 0)))), (q7, .inr (1, [.ref u8.1, .ref u8.2, .int (nI 0)])), (u8.1, .inl (E 0, 6, .inl (ti_n (fun _ => 0)))), (u8.2, .inl (E 0, 6, .inl (ti_n (fun _ => 0)))), (q9, .inr (1, [.ref u10.1, .ref u10.2, .int (nI 0)])), (u10.1, .inl (E 0, 6, .inl (ti_n (fun _ => 0)))), (u10.2, .inl (E 0, 6, .inl (ti_n (fun _ => 0)))), (q11, .inr (1, [.ref u12.1, .ref u12.2, .int (nI 0)])), (u12.1, .inl (E 0, 6, .inl (ti_n (fun _ => 0)))), (u12.2, .inl (E 0, 6, .inl (ti_n (fun _ => 0)))), (q13, .inr (1, [.ref u14.1, .ref u14.2, .int (nI 0)])), (u14.1, .inl (E 0, 6, .inl (ti_n (fun _ => 0)))), (u14.2, .inl (E 0, 6, .inl (ti_n (fun _ => 0)))), (q15, .inr (1, [.ref u16.1, .ref u16.2, .int (nI 0)])), (u16.1, .inl (E 0, 6, .inl (ti_n (fun _ => 0)))), (u16.2, .inl (E 0, 6, .inl (ti_n (fun _ => 0))))]) H := hP
                have hD : va_D A ([(h, .inr (3, [.ref q1, .ref q2, .int (nI 0)])), (q1, .inl (E 5, 10, .inr (.inr (.inr (.inr (va_up (va_up (va_up (va_up (va_up (va_up (fun _ => none) 0 (some q3)) 1 (some q5)) 2 (some q7)) 3 (some q9)) 4 (some q11)) 5 (some q13))))))), (q2, .inl (E 0, 10, .inl (ti_n (fun _ => 0)))), (q3, .inr (1, [.ref u4.1, .ref u4.2, .int (nI 0)])), (u4.1, .inl (E 0, 6, .inl (ti_n (fun _ => 0)))), (u4.2, .inl (E 0, 6, .inl (ti_n (fun _ => 0)))), (q5, .inr (1, [.ref u6.1, .ref u6.2, .int (nI 0)])), (u6.1, .inl (E 0, 6, .inl (ti_n (fun _ => 0)))), (u6.2, .inl (E 0, 6, .inl (ti_n (fun _ => 0)))), (q7, .inr (1, [.ref u8.1, .ref u8.2, .int (nI 0)])), (u8.1, .inl (E 0, 6, .inl (ti_n (fun _ => 0)))), (u8.2, .inl (E 0, 6, .inl (ti_n (fun _ => 0)))), (q9, .inr (1, [.ref u10.1, .ref u10.2, .int (nI 0)])), (u10.1, .inl (E 0, 6, .inl (ti_n (fun _ => 0)))), (u10.2, .inl (E 0, 6, .inl (ti_n (fun _ => 0)))), (q11, .inr (1, [.ref u12.1, .ref u12.2, .int (nI 0)])), (u12.1, .inl (E 0, 6, .inl (ti_n (fun _ => 0)))), (u12.2, .inl (E 0, 6, .inl (ti_n (fun _ => 0)))), (q13, .inr (1, [.ref u14.1, .ref u14.2, .int (nI 0)])), (u14.1, .inl (E 0, 6, .inl (ti_n (fun _ => 0)))), (u14.2, .inl (E 0, 6, .inl (ti_n (fun _ => 0)))), (q15, .inr (1, [.ref u16.1, .ref u16.2, .int (nI 0)])), (u16.1, .inl (E 0, 6, .inl (ti_n (fun _ => 0)))), (u16.2, .inl (E 0, 6, .inl (ti_n (fun _ => 0))))]) := hD
                refine W.eq (g2 := F0 m 41 ls [.ref q15, .int (nI 6), .ref q1]) rfl ?_
                refine tn_aastR hx hb hK hP hD hS 1 5 21 1 rfl rfl rfl rfl (by decide) (by decide) dX3_init_41 (fun H locs hP hD hS => ?_)
                have hP : va_P D vwCl ([(h, .inr (3, [.ref q1, .ref q2, .int (nI 0)])), (q1, .inl (E 5, 10, .inr (.inr (.inr (.inr (va_up (va_up (va_up (va_up (va_up (va_up (va_up (fun _ => none) 0 (some q3)) 1 (some q5)) 2 (some q7)) 3 (some q9)) 4 (some q11)) 5 (some q13)) 6 (some q15))))))), (q2, .inl (E 0, 10, .inl (ti_n (fun _ => 0)))), (q3, .inr (1, [.ref u4.1, .ref u4.2, .int (nI 0)])), (u4.1, .inl (E 0, 6, .inl (ti_n (fun _ => 0)))), (u4.2, .inl (E 0, 6, .inl (ti_n (fun _ => 0)))), (q5, .inr (1, [.ref u6.1, .ref u6.2, .int (nI 0)])), (u6.1, .inl (E 0, 6, .inl (ti_n (fun _ => 0)))), (u6.2, .inl (E 0, 6, .inl (ti_n (fun _ => 0)))), (q7, .inr (1, [.ref u8.1, .ref u8.2, .int (nI 0)])), (u8.1, .inl (E 0, 6, .inl (ti_n (fun _ => 0)))), (u8.2, .inl (E 0, 6, .inl (ti_n (fun _ => 0)))), (q9, .inr (1, [.ref u10.1, .ref u10.2, .int (nI 0)])), (u10.1, .inl (E 0, 6, .inl (ti_n (fun _ => 0)))), (u10.2, .inl (E 0, 6, .inl (ti_n (fun _ => 0)))), (q11, .inr (1, [.ref u12.1, .ref u12.2, .int (nI 0)])), (u12.1, .inl (E 0, 6, .inl (ti_n (fun _ => 0)))), (u12.2, .inl (E 0, 6, .inl (ti_n (fun _ => 0)))), (q13, .inr (1, [.ref u14.1, .ref u14.2, .int (nI 0)])), (u14.1, .inl (E 0, 6, .inl (ti_n (fun _ => 0)))), (u14.2, .inl (E 0, 6, .inl (ti_n (fun _ => 0)))), (q15, .inr (1, [.ref u16.1, .ref u16.2, .int (nI 0)])), (u16.1, .inl (E 0, 6, .inl (ti_n (fun _ => 0)))), (u16.2, .inl (E 0, 6, .inl (ti_n (fun _ => 0))))]) H := hP
                have hD : va_D A ([(h, .inr (3, [.ref q1, .ref q2, .int (nI 0)])), (q1, .inl (E 5, 10, .inr (.inr (.inr (.inr (va_up (va_up (va_up (va_up (va_up (va_up (va_up (fun _ => none) 0 (some q3)) 1 (some q5)) 2 (some q7)) 3 (some q9)) 4 (some q11)) 5 (some q13)) 6 (some q15))))))), (q2, .inl (E 0, 10, .inl (ti_n (fun _ => 0)))), (q3, .inr (1, [.ref u4.1, .ref u4.2, .int (nI 0)])), (u4.1, .inl (E 0, 6, .inl (ti_n (fun _ => 0)))), (u4.2, .inl (E 0, 6, .inl (ti_n (fun _ => 0)))), (q5, .inr (1, [.ref u6.1, .ref u6.2, .int (nI 0)])), (u6.1, .inl (E 0, 6, .inl (ti_n (fun _ => 0)))), (u6.2, .inl (E 0, 6, .inl (ti_n (fun _ => 0)))), (q7, .inr (1, [.ref u8.1, .ref u8.2, .int (nI 0)])), (u8.1, .inl (E 0, 6, .inl (ti_n (fun _ => 0)))), (u8.2, .inl (E 0, 6, .inl (ti_n (fun _ => 0)))), (q9, .inr (1, [.ref u10.1, .ref u10.2, .int (nI 0)])), (u10.1, .inl (E 0, 6, .inl (ti_n (fun _ => 0)))), (u10.2, .inl (E 0, 6, .inl (ti_n (fun _ => 0)))), (q11, .inr (1, [.ref u12.1, .ref u12.2, .int (nI 0)])), (u12.1, .inl (E 0, 6, .inl (ti_n (fun _ => 0)))), (u12.2, .inl (E 0, 6, .inl (ti_n (fun _ => 0)))), (q13, .inr (1, [.ref u14.1, .ref u14.2, .int (nI 0)])), (u14.1, .inl (E 0, 6, .inl (ti_n (fun _ => 0)))), (u14.2, .inl (E 0, 6, .inl (ti_n (fun _ => 0)))), (q15, .inr (1, [.ref u16.1, .ref u16.2, .int (nI 0)])), (u16.1, .inl (E 0, 6, .inl (ti_n (fun _ => 0)))), (u16.2, .inl (E 0, 6, .inl (ti_n (fun _ => 0))))]) := hD
                refine lv_iinc (v := nI 7) (lv' := [(1, .int (nI 7)), (0, .ref h)]) hx hb dX3_init_42 hl (k := 0) rfl (by decide) (by decide) rfl (fun ls hl => ?_)
                refine lv_goto (tgt := 23) hx hb dX3_init_45 (by decide) ?_
                refine lv_iload_n hx hb dX3_init_23 rfl (lv_at hl 0 rfl) ?_
                refine lv_bipush (v := nI 10) hx hb dX3_init_24 (by decide) ?_
                refine tn_ge (tgt := 48) hx hb dX3_init_26 (by decide) (by omega) (by omega) (fun c26 => ?_) (fun c26 => ?_)
                · skip
                  exact absurd c26 (by decide)
                · skip
                  refine lv_aload_n hx hb dX3_init_29 rfl (lv_at hl 1 rfl) ?_
                  refine va_get (v := .ref q1) hx hb hts in_X3 hown hK hP 0 rfl rfl 0 (by decide) (hts _ q179) (fun _ h => h) rfl dX3_init_30 ?_
                  refine lv_iload_n hx hb dX3_init_33 rfl (lv_at hl 0 rfl) ?_
                  have hb17 := hS.1
                  refine ti_newM hx hb hts in_X1 tyX1 tyX1_ok hown (hts _ q177) (hts _ q104) (hts _ q67) hK hP hD hS hA (ci := 1) rfl ti_df1 (Nat.le_of_ble_eq_true rfl) (Nat.le_of_ble_eq_true rfl) dX3_init_34 (fun q17 H hq17 hs17 hf17 ho17 hP hD hS => ?_)
                  have g_q17 : H0.size ≤ q17 := by omega
                  have hP : va_P D vwCl ([(h, .inr (3, [.ref q1, .ref q2, .int (nI 0)])), (q1, .inl (E 5, 10, .inr (.inr (.inr (.inr (va_up (va_up (va_up (va_up (va_up (va_up (va_up (fun _ => none) 0 (some q3)) 1 (some q5)) 2 (some q7)) 3 (some q9)) 4 (some q11)) 5 (some q13)) 6 (some q15))))))), (q2, .inl (E 0, 10, .inl (ti_n (fun _ => 0)))), (q3, .inr (1, [.ref u4.1, .ref u4.2, .int (nI 0)])), (u4.1, .inl (E 0, 6, .inl (ti_n (fun _ => 0)))), (u4.2, .inl (E 0, 6, .inl (ti_n (fun _ => 0)))), (q5, .inr (1, [.ref u6.1, .ref u6.2, .int (nI 0)])), (u6.1, .inl (E 0, 6, .inl (ti_n (fun _ => 0)))), (u6.2, .inl (E 0, 6, .inl (ti_n (fun _ => 0)))), (q7, .inr (1, [.ref u8.1, .ref u8.2, .int (nI 0)])), (u8.1, .inl (E 0, 6, .inl (ti_n (fun _ => 0)))), (u8.2, .inl (E 0, 6, .inl (ti_n (fun _ => 0)))), (q9, .inr (1, [.ref u10.1, .ref u10.2, .int (nI 0)])), (u10.1, .inl (E 0, 6, .inl (ti_n (fun _ => 0)))), (u10.2, .inl (E 0, 6, .inl (ti_n (fun _ => 0)))), (q11, .inr (1, [.ref u12.1, .ref u12.2, .int (nI 0)])), (u12.1, .inl (E 0, 6, .inl (ti_n (fun _ => 0)))), (u12.2, .inl (E 0, 6, .inl (ti_n (fun _ => 0)))), (q13, .inr (1, [.ref u14.1, .ref u14.2, .int (nI 0)])), (u14.1, .inl (E 0, 6, .inl (ti_n (fun _ => 0)))), (u14.2, .inl (E 0, 6, .inl (ti_n (fun _ => 0)))), (q15, .inr (1, [.ref u16.1, .ref u16.2, .int (nI 0)])), (u16.1, .inl (E 0, 6, .inl (ti_n (fun _ => 0)))), (u16.2, .inl (E 0, 6, .inl (ti_n (fun _ => 0)))), (q17, .inr (1, [.null, .null, .int (nI 0)]))]) H := hP
                  have hD : va_D A ([(h, .inr (3, [.ref q1, .ref q2, .int (nI 0)])), (q1, .inl (E 5, 10, .inr (.inr (.inr (.inr (va_up (va_up (va_up (va_up (va_up (va_up (va_up (fun _ => none) 0 (some q3)) 1 (some q5)) 2 (some q7)) 3 (some q9)) 4 (some q11)) 5 (some q13)) 6 (some q15))))))), (q2, .inl (E 0, 10, .inl (ti_n (fun _ => 0)))), (q3, .inr (1, [.ref u4.1, .ref u4.2, .int (nI 0)])), (u4.1, .inl (E 0, 6, .inl (ti_n (fun _ => 0)))), (u4.2, .inl (E 0, 6, .inl (ti_n (fun _ => 0)))), (q5, .inr (1, [.ref u6.1, .ref u6.2, .int (nI 0)])), (u6.1, .inl (E 0, 6, .inl (ti_n (fun _ => 0)))), (u6.2, .inl (E 0, 6, .inl (ti_n (fun _ => 0)))), (q7, .inr (1, [.ref u8.1, .ref u8.2, .int (nI 0)])), (u8.1, .inl (E 0, 6, .inl (ti_n (fun _ => 0)))), (u8.2, .inl (E 0, 6, .inl (ti_n (fun _ => 0)))), (q9, .inr (1, [.ref u10.1, .ref u10.2, .int (nI 0)])), (u10.1, .inl (E 0, 6, .inl (ti_n (fun _ => 0)))), (u10.2, .inl (E 0, 6, .inl (ti_n (fun _ => 0)))), (q11, .inr (1, [.ref u12.1, .ref u12.2, .int (nI 0)])), (u12.1, .inl (E 0, 6, .inl (ti_n (fun _ => 0)))), (u12.2, .inl (E 0, 6, .inl (ti_n (fun _ => 0)))), (q13, .inr (1, [.ref u14.1, .ref u14.2, .int (nI 0)])), (u14.1, .inl (E 0, 6, .inl (ti_n (fun _ => 0)))), (u14.2, .inl (E 0, 6, .inl (ti_n (fun _ => 0)))), (q15, .inr (1, [.ref u16.1, .ref u16.2, .int (nI 0)])), (u16.1, .inl (E 0, 6, .inl (ti_n (fun _ => 0)))), (u16.2, .inl (E 0, 6, .inl (ti_n (fun _ => 0)))), (q17, .inr (1, [.null, .null, .int (nI 0)]))]) := hD
                  refine lv_dup hx hb dX3_init_37 rfl ?_
                  have hb18 := hS.1
                  refine ti_nIN (As := []) (rest := [.ref q17, .int (nI 7), .ref q1]) S hE hP hD hS hA [24] rfl (met_X1_init l D E q17) rfl (fun _ => rfl) (lw_meth q107) q67 q178 q106 rfl 0 rfl (by decide +kernel) ⟨Nat.le_of_ble_eq_true rfl, Nat.le_of_ble_eq_true rfl⟩ hl.1 rfl (Nat.le_of_ble_eq_true rfl) ⟨Nat.le_of_ble_eq_true rfl, Nat.le_of_ble_eq_true rfl⟩ dX3_init_38 (fun u18 H locs hu hn18 hP hD hS => ?_)
                  have g_u18a : H0.size ≤ u18.1 := Nat.le_trans hb18 (hn18 0 _ rfl)
                  have g_u18b : H0.size ≤ u18.2 := Nat.le_trans hb18 (hn18 1 _ rfl)
                  have hP : va_P D vwCl ([(h, .inr (3, [.ref q1, .ref q2, .int (nI 0)])), (q1, .inl (E 5, 10, .inr (.inr (.inr (.inr (va_up (va_up (va_up (va_up (va_up (va_up (va_up (fun _ => none) 0 (some q3)) 1 (some q5)) 2 (some q7)) 3 (some q9)) 4 (some q11)) 5 (some q13)) 6 (some q15))))))), (q2, .inl (E 0, 10, .inl (ti_n (fun _ => 0)))), (q3, .inr (1, [.ref u4.1, .ref u4.2, .int (nI 0)])), (u4.1, .inl (E 0, 6, .inl (ti_n (fun _ => 0)))), (u4.2, .inl (E 0, 6, .inl (ti_n (fun _ => 0)))), (q5, .inr (1, [.ref u6.1, .ref u6.2, .int (nI 0)])), (u6.1, .inl (E 0, 6, .inl (ti_n (fun _ => 0)))), (u6.2, .inl (E 0, 6, .inl (ti_n (fun _ => 0)))), (q7, .inr (1, [.ref u8.1, .ref u8.2, .int (nI 0)])), (u8.1, .inl (E 0, 6, .inl (ti_n (fun _ => 0)))), (u8.2, .inl (E 0, 6, .inl (ti_n (fun _ => 0)))), (q9, .inr (1, [.ref u10.1, .ref u10.2, .int (nI 0)])), (u10.1, .inl (E 0, 6, .inl (ti_n (fun _ => 0)))), (u10.2, .inl (E 0, 6, .inl (ti_n (fun _ => 0)))), (q11, .inr (1, [.ref u12.1, .ref u12.2, .int (nI 0)])), (u12.1, .inl (E 0, 6, .inl (ti_n (fun _ => 0)))), (u12.2, .inl (E 0, 6, .inl (ti_n (fun _ => 0)))), (q13, .inr (1, [.ref u14.1, .ref u14.2, .int (nI 0)])), (u14.1, .inl (E 0, 6, .inl (ti_n (fun _ => 0)))), (u14.2, .inl (E 0, 6, .inl (ti_n (fun _ => 0)))), (q15, .inr (1, [.ref u16.1, .ref u16.2, .int (nI 0)])), (u16.1, .inl (E 0, 6, .inl (ti_n (fun _ => 0)))), (u16.2, .inl (E 0, 6, .inl (ti_n (fun _ => 0)))), (q17, .inr (1, [.ref u18.1, .ref u18.2, .int (nI 0)])), (u18.1, .inl (E 0, 6, .inl (ti_n (fun _ => 0)))), (u18.2, .inl (E 0, 6, .inl (ti_n (fun _ => 0))))]) H := hP
                  have hD : va_D A ([(h, .inr (3, [.ref q1, .ref q2, .int (nI 0)])), (q1, .inl (E 5, 10, .inr (.inr (.inr (.inr (va_up (va_up (va_up (va_up (va_up (va_up (va_up (fun _ => none) 0 (some q3)) 1 (some q5)) 2 (some q7)) 3 (some q9)) 4 (some q11)) 5 (some q13)) 6 (some q15))))))), (q2, .inl (E 0, 10, .inl (ti_n (fun _ => 0)))), (q3, .inr (1, [.ref u4.1, .ref u4.2, .int (nI 0)])), (u4.1, .inl (E 0, 6, .inl (ti_n (fun _ => 0)))), (u4.2, .inl (E 0, 6, .inl (ti_n (fun _ => 0)))), (q5, .inr (1, [.ref u6.1, .ref u6.2, .int (nI 0)])), (u6.1, .inl (E 0, 6, .inl (ti_n (fun _ => 0)))), (u6.2, .inl (E 0, 6, .inl (ti_n (fun _ => 0)))), (q7, .inr (1, [.ref u8.1, .ref u8.2, .int (nI 0)])), (u8.1, .inl (E 0, 6, .inl (ti_n (fun _ => 0)))), (u8.2, .inl (E 0, 6, .inl (ti_n (fun _ => 0)))), (q9, .inr (1, [.ref u10.1, .ref u10.2, .int (nI 0)])), (u10.1, .inl (E 0, 6, .inl (ti_n (fun _ => 0)))), (u10.2, .inl (E 0, 6, .inl (ti_n (fun _ => 0)))), (q11, .inr (1, [.ref u12.1, .ref u12.2, .int (nI 0)])), (u12.1, .inl (E 0, 6, .inl (ti_n (fun _ => 0)))), (u12.2, .inl (E 0, 6, .inl (ti_n (fun _ => 0)))), (q13, .inr (1, [.ref u14.1, .ref u14.2, .int (nI 0)])), (u14.1, .inl (E 0, 6, .inl (ti_n (fun _ => 0)))), (u14.2, .inl (E 0, 6, .inl (ti_n (fun _ => 0)))), (q15, .inr (1, [.ref u16.1, .ref u16.2, .int (nI 0)])), (u16.1, .inl (E 0, 6, .inl (ti_n (fun _ => 0)))), (u16.2, .inl (E 0, 6, .inl (ti_n (fun _ => 0)))), (q17, .inr (1, [.ref u18.1, .ref u18.2, .int (nI 0)])), (u18.1, .inl (E 0, 6, .inl (ti_n (fun _ => 0)))), (u18.2, .inl (E 0, 6, .inl (ti_n (fun _ => 0))))]) := hD
                  refine W.eq (g2 := F0 m 41 ls [.ref q17, .int (nI 7), .ref q1]) rfl ?_
                  refine tn_aastR hx hb hK hP hD hS 1 5 24 1 rfl rfl rfl rfl (by decide) (by decide) dX3_init_41 (fun H locs hP hD hS => ?_)
                  have hP : va_P D vwCl ([(h, .inr (3, [.ref q1, .ref q2, .int (nI 0)])), (q1, .inl (E 5, 10, .inr (.inr (.inr (.inr (va_up (va_up (va_up (va_up (va_up (va_up (va_up (va_up (fun _ => none) 0 (some q3)) 1 (some q5)) 2 (some q7)) 3 (some q9)) 4 (some q11)) 5 (some q13)) 6 (some q15)) 7 (some q17))))))), (q2, .inl (E 0, 10, .inl (ti_n (fun _ => 0)))), (q3, .inr (1, [.ref u4.1, .ref u4.2, .int (nI 0)])), (u4.1, .inl (E 0, 6, .inl (ti_n (fun _ => 0)))), (u4.2, .inl (E 0, 6, .inl (ti_n (fun _ => 0)))), (q5, .inr (1, [.ref u6.1, .ref u6.2, .int (nI 0)])), (u6.1, .inl (E 0, 6, .inl (ti_n (fun _ => 0)))), (u6.2, .inl (E 0, 6, .inl (ti_n (fun _ => 0)))), (q7, .inr (1, [.ref u8.1, .ref u8.2, .int (nI 0)])), (u8.1, .inl (E 0, 6, .inl (ti_n (fun _ => 0)))), (u8.2, .inl (E 0, 6, .inl (ti_n (fun _ => 0)))), (q9, .inr (1, [.ref u10.1, .ref u10.2, .int (nI 0)])), (u10.1, .inl (E 0, 6, .inl (ti_n (fun _ => 0)))), (u10.2, .inl (E 0, 6, .inl (ti_n (fun _ => 0)))), (q11, .inr (1, [.ref u12.1, .ref u12.2, .int (nI 0)])), (u12.1, .inl (E 0, 6, .inl (ti_n (fun _ => 0)))), (u12.2, .inl (E 0, 6, .inl (ti_n (fun _ => 0)))), (q13, .inr (1, [.ref u14.1, .ref u14.2, .int (nI 0)])), (u14.1, .inl (E 0, 6, .inl (ti_n (fun _ => 0)))), (u14.2, .inl (E 0, 6, .inl (ti_n (fun _ => 0)))), (q15, .inr (1, [.ref u16.1, .ref u16.2, .int (nI 0)])), (u16.1, .inl (E 0, 6, .inl (ti_n (fun _ => 0)))), (u16.2, .inl (E 0, 6, .inl (ti_n (fun _ => 0)))), (q17, .inr (1, [.ref u18.1, .ref u18.2, .int (nI 0)])), (u18.1, .inl (E 0, 6, .inl (ti_n (fun _ => 0)))), (u18.2, .inl (E 0, 6, .inl (ti_n (fun _ => 0))))]) H := hP
                  have hD : va_D A ([(h, .inr (3, [.ref q1, .ref q2, .int (nI 0)])), (q1, .inl (E 5, 10, .inr (.inr (.inr (.inr (va_up (va_up (va_up (va_up (va_up (va_up (va_up (va_up (fun _ => none) 0 (some q3)) 1 (some q5)) 2 (some q7)) 3 (some q9)) 4 (some q11)) 5 (some q13)) 6 (some q15)) 7 (some q17))))))), (q2, .inl (E 0, 10, .inl (ti_n (fun _ => 0)))), (q3, .inr (1, [.ref u4.1, .ref u4.2, .int (nI 0)])), (u4.1, .inl (E 0, 6, .inl (ti_n (fun _ => 0)))), (u4.2, .inl (E 0, 6, .inl (ti_n (fun _ => 0)))), (q5, .inr (1, [.ref u6.1, .ref u6.2, .int (nI 0)])), (u6.1, .inl (E 0, 6, .inl (ti_n (fun _ => 0)))), (u6.2, .inl (E 0, 6, .inl (ti_n (fun _ => 0)))), (q7, .inr (1, [.ref u8.1, .ref u8.2, .int (nI 0)])), (u8.1, .inl (E 0, 6, .inl (ti_n (fun _ => 0)))), (u8.2, .inl (E 0, 6, .inl (ti_n (fun _ => 0)))), (q9, .inr (1, [.ref u10.1, .ref u10.2, .int (nI 0)])), (u10.1, .inl (E 0, 6, .inl (ti_n (fun _ => 0)))), (u10.2, .inl (E 0, 6, .inl (ti_n (fun _ => 0)))), (q11, .inr (1, [.ref u12.1, .ref u12.2, .int (nI 0)])), (u12.1, .inl (E 0, 6, .inl (ti_n (fun _ => 0)))), (u12.2, .inl (E 0, 6, .inl (ti_n (fun _ => 0)))), (q13, .inr (1, [.ref u14.1, .ref u14.2, .int (nI 0)])), (u14.1, .inl (E 0, 6, .inl (ti_n (fun _ => 0)))), (u14.2, .inl (E 0, 6, .inl (ti_n (fun _ => 0)))), (q15, .inr (1, [.ref u16.1, .ref u16.2, .int (nI 0)])), (u16.1, .inl (E 0, 6, .inl (ti_n (fun _ => 0)))), (u16.2, .inl (E 0, 6, .inl (ti_n (fun _ => 0)))), (q17, .inr (1, [.ref u18.1, .ref u18.2, .int (nI 0)])), (u18.1, .inl (E 0, 6, .inl (ti_n (fun _ => 0)))), (u18.2, .inl (E 0, 6, .inl (ti_n (fun _ => 0))))]) := hD
                  refine lv_iinc (v := nI 8) (lv' := [(1, .int (nI 8)), (0, .ref h)]) hx hb dX3_init_42 hl (k := 0) rfl (by decide) (by decide) rfl (fun ls hl => ?_)
                  refine lv_goto (tgt := 23) hx hb dX3_init_45 (by decide) ?_
                  refine lv_iload_n hx hb dX3_init_23 rfl (lv_at hl 0 rfl) ?_
                  refine lv_bipush (v := nI 10) hx hb dX3_init_24 (by decide) ?_
                  refine tn_ge (tgt := 48) hx hb dX3_init_26 (by decide) (by omega) (by omega) (fun c26 => ?_) (fun c26 => ?_)
                  · skip
                    exact absurd c26 (by decide)
                  · skip
                    refine lv_aload_n hx hb dX3_init_29 rfl (lv_at hl 1 rfl) ?_
                    refine va_get (v := .ref q1) hx hb hts in_X3 hown hK hP 0 rfl rfl 0 (by decide) (hts _ q179) (fun _ h => h) rfl dX3_init_30 ?_
                    refine lv_iload_n hx hb dX3_init_33 rfl (lv_at hl 0 rfl) ?_
                    have hb19 := hS.1
                    refine ti_newM hx hb hts in_X1 tyX1 tyX1_ok hown (hts _ q177) (hts _ q104) (hts _ q67) hK hP hD hS hA (ci := 1) rfl ti_df1 (Nat.le_of_ble_eq_true rfl) (Nat.le_of_ble_eq_true rfl) dX3_init_34 (fun q19 H hq19 hs19 hf19 ho19 hP hD hS => ?_)
                    have g_q19 : H0.size ≤ q19 := by omega
                    have hP : va_P D vwCl ([(h, .inr (3, [.ref q1, .ref q2, .int (nI 0)])), (q1, .inl (E 5, 10, .inr (.inr (.inr (.inr (va_up (va_up (va_up (va_up (va_up (va_up (va_up (va_up (fun _ => none) 0 (some q3)) 1 (some q5)) 2 (some q7)) 3 (some q9)) 4 (some q11)) 5 (some q13)) 6 (some q15)) 7 (some q17))))))), (q2, .inl (E 0, 10, .inl (ti_n (fun _ => 0)))), (q3, .inr (1, [.ref u4.1, .ref u4.2, .int (nI 0)])), (u4.1, .inl (E 0, 6, .inl (ti_n (fun _ => 0)))), (u4.2, .inl (E 0, 6, .inl (ti_n (fun _ => 0)))), (q5, .inr (1, [.ref u6.1, .ref u6.2, .int (nI 0)])), (u6.1, .inl (E 0, 6, .inl (ti_n (fun _ => 0)))), (u6.2, .inl (E 0, 6, .inl (ti_n (fun _ => 0)))), (q7, .inr (1, [.ref u8.1, .ref u8.2, .int (nI 0)])), (u8.1, .inl (E 0, 6, .inl (ti_n (fun _ => 0)))), (u8.2, .inl (E 0, 6, .inl (ti_n (fun _ => 0)))), (q9, .inr (1, [.ref u10.1, .ref u10.2, .int (nI 0)])), (u10.1, .inl (E 0, 6, .inl (ti_n (fun _ => 0)))), (u10.2, .inl (E 0, 6, .inl (ti_n (fun _ => 0)))), (q11, .inr (1, [.ref u12.1, .ref u12.2, .int (nI 0)])), (u12.1, .inl (E 0, 6, .inl (ti_n (fun _ => 0)))), (u12.2, .inl (E 0, 6, .inl (ti_n (fun _ => 0)))), (q13, .inr (1, [.ref u14.1, .ref u14.2, .int (nI 0)])), (u14.1, .inl (E 0, 6, .inl (ti_n (fun _ => 0)))), (u14.2, .inl (E 0, 6, .inl (ti_n (fun _ => 0)))), (q15, .inr (1, [.ref u16.1, .ref u16.2, .int (nI 0)])), (u16.1, .inl (E 0, 6, .inl (ti_n (fun _ => 0)))), (u16.2, .inl (E 0, 6, .inl (ti_n (fun _ => 0)))), (q17, .inr (1, [.ref u18.1, .ref u18.2, .int (nI 0)])), (u18.1, .inl (E 0, 6, .inl (ti_n (fun _ => 0)))), (u18.2, .inl (E 0, 6, .inl (ti_n (fun _ => 0)))), (q19, .inr (1, [.null, .null, .int (nI 0)]))]) H := hP
                    have hD : va_D A ([(h, .inr (3, [.ref q1, .ref q2, .int (nI 0)])), (q1, .inl (E 5, 10, .inr (.inr (.inr (.inr (va_up (va_up (va_up (va_up (va_up (va_up (va_up (va_up (fun _ => none) 0 (some q3)) 1 (some q5)) 2 (some q7)) 3 (some q9)) 4 (some q11)) 5 (some q13)) 6 (some q15)) 7 (some q17))))))), (q2, .inl (E 0, 10, .inl (ti_n (fun _ => 0)))), (q3, .inr (1, [.ref u4.1, .ref u4.2, .int (nI 0)])), (u4.1, .inl (E 0, 6, .inl (ti_n (fun _ => 0)))), (u4.2, .inl (E 0, 6, .inl (ti_n (fun _ => 0)))), (q5, .inr (1, [.ref u6.1, .ref u6.2, .int (nI 0)])), (u6.1, .inl (E 0, 6, .inl (ti_n (fun _ => 0)))), (u6.2, .inl (E 0, 6, .inl (ti_n (fun _ => 0)))), (q7, .inr (1, [.ref u8.1, .ref u8.2, .int (nI 0)])), (u8.1, .inl (E 0, 6, .inl (ti_n (fun _ => 0)))), (u8.2, .inl (E 0, 6, .inl (ti_n (fun _ => 0)))), (q9, .inr (1, [.ref u10.1, .ref u10.2, .int (nI 0)])), (u10.1, .inl (E 0, 6, .inl (ti_n (fun _ => 0)))), (u10.2, .inl (E 0, 6, .inl (ti_n (fun _ => 0)))), (q11, .inr (1, [.ref u12.1, .ref u12.2, .int (nI 0)])), (u12.1, .inl (E 0, 6, .inl (ti_n (fun _ => 0)))), (u12.2, .inl (E 0, 6, .inl (ti_n (fun _ => 0)))), (q13, .inr (1, [.ref u14.1, .ref u14.2, .int (nI 0)])), (u14.1, .inl (E 0, 6, .inl (ti_n (fun _ => 0)))), (u14.2, .inl (E 0, 6, .inl (ti_n (fun _ => 0)))), (q15, .inr (1, [.ref u16.1, .ref u16.2, .int (nI 0)])), (u16.1, .inl (E 0, 6, .inl (ti_n (fun _ => 0)))), (u16.2, .inl (E 0, 6, .inl (ti_n (fun _ => 0)))), (q17, .inr (1, [.ref u18.1, .ref u18.2, .int (nI 0)])), (u18.1, .inl (E 0, 6, .inl (ti_n (fun _ => 0)))), (u18.2, .inl (E 0, 6, .inl (ti_n (fun _ => 0)))), (q19, .inr (1, [.null, .null, .int (nI 0)]))]) := hD
                    refine lv_dup hx hb dX3_init_37 rfl ?_
                    have hb20 := hS.1
                    refine ti_nIN (As := []) (rest := [.ref q19, .int (nI 8), .ref q1]) S hE hP hD hS hA [27] rfl (met_X1_init l D E q19) rfl (fun _ => rfl) (lw_meth q107) q67 q178 q106 rfl 0 rfl (by decide +kernel) ⟨Nat.le_of_ble_eq_true rfl, Nat.le_of_ble_eq_true rfl⟩ hl.1 rfl (Nat.le_of_ble_eq_true rfl) ⟨Nat.le_of_ble_eq_true rfl, Nat.le_of_ble_eq_true rfl⟩ dX3_init_38 (fun u20 H locs hu hn20 hP hD hS => ?_)
                    have g_u20a : H0.size ≤ u20.1 := Nat.le_trans hb20 (hn20 0 _ rfl)
                    have g_u20b : H0.size ≤ u20.2 := Nat.le_trans hb20 (hn20 1 _ rfl)
                    have hP : va_P D vwCl ([(h, .inr (3, [.ref q1, .ref q2, .int (nI 0)])), (q1, .inl (E 5, 10, .inr (.inr (.inr (.inr (va_up (va_up (va_up (va_up (va_up (va_up (va_up (va_up (fun _ => none) 0 (some q3)) 1 (some q5)) 2 (some q7)) 3 (some q9)) 4 (some q11)) 5 (some q13)) 6 (some q15)) 7 (some q17))))))), (q2, .inl (E 0, 10, .inl (ti_n (fun _ => 0)))), (q3, .inr (1, [.ref u4.1, .ref u4.2, .int (nI 0)])), (u4.1, .inl (E 0, 6, .inl (ti_n (fun _ => 0)))), (u4.2, .inl (E 0, 6, .inl (ti_n (fun _ => 0)))), (q5, .inr (1, [.ref u6.1, .ref u6.2, .int (nI 0)])), (u6.1, .inl (E 0, 6, .inl (ti_n (fun _ => 0)))), (u6.2, .inl (E 0, 6, .inl (ti_n (fun _ => 0)))), (q7, .inr (1, [.ref u8.1, .ref u8.2, .int (nI 0)])), (u8.1, .inl (E 0, 6, .inl (ti_n (fun _ => 0)))), (u8.2, .inl (E 0, 6, .inl (ti_n (fun _ => 0)))), (q9, .inr (1, [.ref u10.1, .ref u10.2, .int (nI 0)])), (u10.1, .inl (E 0, 6, .inl (ti_n (fun _ => 0)))), (u10.2, .inl (E 0, 6, .inl (ti_n (fun _ => 0)))), (q11, .inr (1, [.ref u12.1, .ref u12.2, .int (nI 0)])), (u12.1, .inl (E 0, 6, .inl (ti_n (fun _ => 0)))), (u12.2, .inl (E 0, 6, .inl (ti_n (fun _ => 0)))), (q13, .inr (1, [.ref u14.1, .ref u14.2, .int (nI 0)])), (u14.1, .inl (E 0, 6, .inl (ti_n (fun _ => 0)))), (u14.2, .inl (E 0, 6, .inl (ti_n (fun _ => 0)))), (q15, .inr (1, [.ref u16.1, .ref u16.2, .int (nI 0)])), (u16.1, .inl (E 0, 6, .inl (ti_n (fun _ => 0)))), (u16.2, .inl (E 0, 6, .inl (ti_n (fun _ => 0)))), (q17, .inr (1, [.ref u18.1, .ref u18.2, .int (nI 0)])), (u18.1, .inl (E 0, 6, .inl (ti_n (fun _ => 0)))), (u18.2, .inl (E 0, 6, .inl (ti_n (fun _ => 0)))), (q19, .inr (1, [.ref u20.1, .ref u20.2, .int (nI 0)])), (u20.1, .inl (E 0, 6, .inl (ti_n (fun _ => 0)))), (u20.2, .inl (E 0, 6, .inl (ti_n (fun _ => 0))))]) H := hP
                    have hD : va_D A ([(h, .inr (3, [.ref q1, .ref q2, .int (nI 0)])), (q1, .inl (E 5, 10, .inr (.inr (.inr (.inr (va_up (va_up (va_up (va_up (va_up (va_up (va_up (va_up (fun _ => none) 0 (some q3)) 1 (some q5)) 2 (some q7)) 3 (some q9)) 4 (some q11)) 5 (some q13)) 6 (some q15)) 7 (some q17))))))), (q2, .inl (E 0, 10, .inl (ti_n (fun _ => 0)))), (q3, .inr (1, [.ref u4.1, .ref u4.2, .int (nI 0)])), (u4.1, .inl (E 0, 6, .inl (ti_n (fun _ => 0)))), (u4.2, .inl (E 0, 6, .inl (ti_n (fun _ => 0)))), (q5, .inr (1, [.ref u6.1, .ref u6.2, .int (nI 0)])), (u6.1, .inl (E 0, 6, .inl (ti_n (fun _ => 0)))), (u6.2, .inl (E 0, 6, .inl (ti_n (fun _ => 0)))), (q7, .inr (1, [.ref u8.1, .ref u8.2, .int (nI 0)])), (u8.1, .inl (E 0, 6, .inl (ti_n (fun _ => 0)))), (u8.2, .inl (E 0, 6, .inl (ti_n (fun _ => 0)))), (q9, .inr (1, [.ref u10.1, .ref u10.2, .int (nI 0)])), (u10.1, .inl (E 0, 6, .inl (ti_n (fun _ => 0)))), (u10.2, .inl (E 0, 6, .inl (ti_n (fun _ => 0)))), (q11, .inr (1, [.ref u12.1, .ref u12.2, .int (nI 0)])), (u12.1, .inl (E 0, 6, .inl (ti_n (fun _ => 0)))), (u12.2, .inl (E 0, 6, .inl (ti_n (fun _ => 0)))), (q13, .inr (1, [.ref u14.1, .ref u14.2, .int (nI 0)])), (u14.1, .inl (E 0, 6, .inl (ti_n (fun _ => 0)))), (u14.2, .inl (E 0, 6, .inl (ti_n (fun _ => 0)))), (q15, .inr (1, [.ref u16.1, .ref u16.2, .int (nI 0)])), (u16.1, .inl (E 0, 6, .inl (ti_n (fun _ => 0)))), (u16.2, .inl (E 0, 6, .inl (ti_n (fun _ => 0)))), (q17, .inr (1, [.ref u18.1, .ref u18.2, .int (nI 0)])), (u18.1, .inl (E 0, 6, .inl (ti_n (fun _ => 0)))), (u18.2, .inl (E 0, 6, .inl (ti_n (fun _ => 0)))), (q19, .inr (1, [.ref u20.1, .ref u20.2, .int (nI 0)])), (u20.1, .inl (E 0, 6, .inl (ti_n (fun _ => 0)))), (u20.2, .inl (E 0, 6, .inl (ti_n (fun _ => 0))))]) := hD
                    refine W.eq (g2 := F0 m 41 ls [.ref q19, .int (nI 8), .ref q1]) rfl ?_
                    refine tn_aastR hx hb hK hP hD hS 1 5 27 1 rfl rfl rfl rfl (by decide) (by decide) dX3_init_41 (fun H locs hP hD hS => ?_)
                    have hP : va_P D vwCl ([(h, .inr (3, [.ref q1, .ref q2, .int (nI 0)])), (q1, .inl (E 5, 10, .inr (.inr (.inr (.inr (va_up (va_up (va_up (va_up (va_up (va_up (va_up (va_up (va_up (fun _ => none) 0 (some q3)) 1 (some q5)) 2 (some q7)) 3 (some q9)) 4 (some q11)) 5 (some q13)) 6 (some q15)) 7 (some q17)) 8 (some q19))))))), (q2, .inl (E 0, 10, .inl (ti_n (fun _ => 0)))), (q3, .inr (1, [.ref u4.1, .ref u4.2, .int (nI 0)])), (u4.1, .inl (E 0, 6, .inl (ti_n (fun _ => 0)))), (u4.2, .inl (E 0, 6, .inl (ti_n (fun _ => 0)))), (q5, .inr (1, [.ref u6.1, .ref u6.2, .int (nI 0)])), (u6.1, .inl (E 0, 6, .inl (ti_n (fun _ => 0)))), (u6.2, .inl (E 0, 6, .inl (ti_n (fun _ => 0)))), (q7, .inr (1, [.ref u8.1, .ref u8.2, .int (nI 0)])), (u8.1, .inl (E 0, 6, .inl (ti_n (fun _ => 0)))), (u8.2, .inl (E 0, 6, .inl (ti_n (fun _ => 0)))), (q9, .inr (1, [.ref u10.1, .ref u10.2, .int (nI 0)])), (u10.1, .inl (E 0, 6, .inl (ti_n (fun _ => 0)))), (u10.2, .inl (E 0, 6, .inl (ti_n (fun _ => 0)))), (q11, .inr (1, [.ref u12.1, .ref u12.2, .int (nI 0)])), (u12.1, .inl (E 0, 6, .inl (ti_n (fun _ => 0)))), (u12.2, .inl (E 0, 6, .inl (ti_n (fun _ => 0)))), (q13, .inr (1, [.ref u14.1, .ref u14.2, .int (nI 0)])), (u14.1, .inl (E 0, 6, .inl (ti_n (fun _ => 0)))), (u14.2, .inl (E 0, 6, .inl (ti_n (fun _ => 0)))), (q15, .inr (1, [.ref u16.1, .ref u16.2, .int (nI 0)])), (u16.1, .inl (E 0, 6, .inl (ti_n (fun _ => 0)))), (u16.2, .inl (E 0, 6, .inl (ti_n (fun _ => 0)))), (q17, .inr (1, [.ref u18.1, .ref u18.2, .int (nI 0)])), (u18.1, .inl (E 0, 6, .inl (ti_n (fun _ => 0)))), (u18.2, .inl (E 0, 6, .inl (ti_n (fun _ => 0)))), (q19, .inr (1, [.ref u20.1, .ref u20.2, .int (nI 0)])), (u20.1, .inl (E 0, 6, .inl (ti_n (fun _ => 0)))), (u20.2, .inl (E 0, 6, .inl (ti_n (fun _ => 0))))]) H := hP
                    have hD : va_D A ([(h, .inr (3, [.ref q1, .ref q2, .int (nI 0)])), (q1, .inl (E 5, 10, .inr (.inr (.inr (.inr (va_up (va_up (va_up (va_up (va_up (va_up (va_up (va_up (va_up (fun _ => none) 0 (some q3)) 1 (some q5)) 2 (some q7)) 3 (some q9)) 4 (some q11)) 5 (some q13)) 6 (some q15)) 7 (some q17)) 8 (some q19))))))), (q2, .inl (E 0, 10, .inl (ti_n (fun _ => 0)))), (q3, .inr (1, [.ref u4.1, .ref u4.2, .int (nI 0)])), (u4.1, .inl (E 0, 6, .inl (ti_n (fun _ => 0)))), (u4.2, .inl (E 0, 6, .inl (ti_n (fun _ => 0)))), (q5, .inr (1, [.ref u6.1, .ref u6.2, .int (nI 0)])), (u6.1, .inl (E 0, 6, .inl (ti_n (fun _ => 0)))), (u6.2, .inl (E 0, 6, .inl (ti_n (fun _ => 0)))), (q7, .inr (1, [.ref u8.1, .ref u8.2, .int (nI 0)])), (u8.1, .inl (E 0, 6, .inl (ti_n (fun _ => 0)))), (u8.2, .inl (E 0, 6, .inl (ti_n (fun _ => 0)))), (q9, .inr (1, [.ref u10.1, .ref u10.2, .int (nI 0)])), (u10.1, .inl (E 0, 6, .inl (ti_n (fun _ => 0)))), (u10.2, .inl (E 0, 6, .inl (ti_n (fun _ => 0)))), (q11, .inr (1, [.ref u12.1, .ref u12.2, .int (nI 0)])), (u12.1, .inl (E 0, 6, .inl (ti_n (fun _ => 0)))), (u12.2, .inl (E 0, 6, .inl (ti_n (fun _ => 0)))), (q13, .inr (1, [.ref u14.1, .ref u14.2, .int (nI 0)])), (u14.1, .inl (E 0, 6, .inl (ti_n (fun _ => 0)))), (u14.2, .inl (E 0, 6, .inl (ti_n (fun _ => 0)))), (q15, .inr (1, [.ref u16.1, .ref u16.2, .int (nI 0)])), (u16.1, .inl (E 0, 6, .inl (ti_n (fun _ => 0)))), (u16.2, .inl (E 0, 6, .inl (ti_n (fun _ => 0)))), (q17, .inr (1, [.ref u18.1, .ref u18.2, .int (nI 0)])), (u18.1, .inl (E 0, 6, .inl (ti_n (fun _ => 0)))), (u18.2, .inl (E 0, 6, .inl (ti_n (fun _ => 0)))), (q19, .inr (1, [.ref u20.1, .ref u20.2, .int (nI 0)])), (u20.1, .inl (E 0, 6, .inl (ti_n (fun _ => 0)))), (u20.2, .inl (E 0, 6, .inl (ti_n (fun _ => 0))))]) := hD
                    refine lv_iinc (v := nI 9) (lv' := [(1, .int (nI 9)), (0, .ref h)]) hx hb dX3_init_42 hl (k := 0) rfl (by decide) (by decide) rfl (fun ls hl => ?_)
                    refine lv_goto (tgt := 23) hx hb dX3_init_45 (by decide) ?_
                    refine lv_iload_n hx hb dX3_init_23 rfl (lv_at hl 0 rfl) ?_
                    refine lv_bipush (v := nI 10) hx hb dX3_init_24 (by decide) ?_
                    refine tn_ge (tgt := 48) hx hb dX3_init_26 (by decide) (by omega) (by omega) (fun c26 => ?_) (fun c26 => ?_)
                    · skip
                      exact absurd c26 (by decide)
                    · skip
                      refine lv_aload_n hx hb dX3_init_29 rfl (lv_at hl 1 rfl) ?_
                      refine va_get (v := .ref q1) hx hb hts in_X3 hown hK hP 0 rfl rfl 0 (by decide) (hts _ q179) (fun _ h => h) rfl dX3_init_30 ?_
                      refine lv_iload_n hx hb dX3_init_33 rfl (lv_at hl 0 rfl) ?_
                      have hb21 := hS.1
                      refine ti_newM hx hb hts in_X1 tyX1 tyX1_ok hown (hts _ q177) (hts _ q104) (hts _ q67) hK hP hD hS hA (ci := 1) rfl ti_df1 (Nat.le_of_ble_eq_true rfl) (Nat.le_of_ble_eq_true rfl) dX3_init_34 (fun q21 H hq21 hs21 hf21 ho21 hP hD hS => ?_)
                      have g_q21 : H0.size ≤ q21 := by omega
                      have hP : va_P D vwCl ([(h, .inr (3, [.ref q1, .ref q2, .int (nI 0)])), (q1, .inl (E 5, 10, .inr (.inr (.inr (.inr (va_up (va_up (va_up (va_up (va_up (va_up (va_up (va_up (va_up (fun _ => none) 0 (some q3)) 1 (some q5)) 2 (some q7)) 3 (some q9)) 4 (some q11)) 5 (some q13)) 6 (some q15)) 7 (some q17)) 8 (some q19))))))), (q2, .inl (E 0, 10, .inl (ti_n (fun _ => 0)))), (q3, .inr (1, [.ref u4.1, .ref u4.2, .int (nI 0)])), (u4.1, .inl (E 0, 6, .inl (ti_n (fun _ => 0)))), (u4.2, .inl (E 0, 6, .inl (ti_n (fun _ => 0)))), (q5, .inr (1, [.ref u6.1, .ref u6.2, .int (nI 0)])), (u6.1, .inl (E 0, 6, .inl (ti_n (fun _ => 0)))), (u6.2, .inl (E 0, 6, .inl (ti_n (fun _ => 0)))), (q7, .inr (1, [.ref u8.1, .ref u8.2, .int (nI 0)])), (u8.1, .inl (E 0, 6, .inl (ti_n (fun _ => 0)))), (u8.2, .inl (E 0, 6, .inl (ti_n (fun _ => 0)))), (q9, .inr (1, [.ref u10.1, .ref u10.2, .int (nI 0)])), (u10.1, .inl (E 0, 6, .inl (ti_n (fun _ => 0)))), (u10.2, .inl (E 0, 6, .inl (ti_n (fun _ => 0)))), (q11, .inr (1, [.ref u12.1, .ref u12.2, .int (nI 0)])), (u12.1, .inl (E 0, 6, .inl (ti_n (fun _ => 0)))), (u12.2, .inl (E 0, 6, .inl (ti_n (fun _ => 0)))), (q13, .inr (1, [.ref u14.1, .ref u14.2, .int (nI 0)])), (u14.1, .inl (E 0, 6, .inl (ti_n (fun _ => 0)))), (u14.2, .inl (E 0, 6, .inl (ti_n (fun _ => 0)))), (q15, .inr (1, [.ref u16.1, .ref u16.2, .int (nI 0)])), (u16.1, .inl (E 0, 6, .inl (ti_n (fun _ => 0)))), (u16.2, .inl (E 0, 6, .inl (ti_n (fun _ => 0)))), (q17, .inr (1, [.ref u18.1, .ref u18.2, .int (nI 0)])), (u18.1, .inl (E 0, 6, .inl (ti_n (fun _ => 0)))), (u18.2, .inl (E 0, 6, .inl (ti_n (fun _ => 0)))), (q19, .inr (1, [.ref u20.1, .ref u20.2, .int (nI 0)])), (u20.1, .inl (E 0, 6, .inl (ti_n (fun _ => 0)))), (u20.2, .inl (E 0, 6, .inl (ti_n (fun _ => 0)))), (q21, .inr (1, [.null, .null, .int (nI 0)]))]) H := hP
                      have hD : va_D A ([(h, .inr (3, [.ref q1, .ref q2, .int (nI 0)])), (q1, .inl (E 5, 10, .inr (.inr (.inr (.inr (va_up (va_up (va_up (va_up (va_up (va_up (va_up (va_up (va_up (fun _ => none) 0 (some q3)) 1 (some q5)) 2 (some q7)) 3 (some q9)) 4 (some q11)) 5 (some q13)) 6 (some q15)) 7 (some q17)) 8 (some q19))))))), (q2, .inl (E 0, 10, .inl (ti_n (fun _ => 0)))), (q3, .inr (1, [.ref u4.1, .ref u4.2, .int (nI 0)])), (u4.1, .inl (E 0, 6, .inl (ti_n (fun _ => 0)))), (u4.2, .inl (E 0, 6, .inl (ti_n (fun _ => 0)))), (q5, .inr (1, [.ref u6.1, .ref u6.2, .int (nI 0)])), (u6.1, .inl (E 0, 6, .inl (ti_n (fun _ => 0)))), (u6.2, .inl (E 0, 6, .inl (ti_n (fun _ => 0)))), (q7, .inr (1, [.ref u8.1, .ref u8.2, .int (nI 0)])), (u8.1, .inl (E 0, 6, .inl (ti_n (fun _ => 0)))), (u8.2, .inl (E 0, 6, .inl (ti_n (fun _ => 0)))), (q9, .inr (1, [.ref u10.1, .ref u10.2, .int (nI 0)])), (u10.1, .inl (E 0, 6, .inl (ti_n (fun _ => 0)))), (u10.2, .inl (E 0, 6, .inl (ti_n (fun _ => 0)))), (q11, .inr (1, [.ref u12.1, .ref u12.2, .int (nI 0)])), (u12.1, .inl (E 0, 6, .inl (ti_n (fun _ => 0)))), (u12.2, .inl (E 0, 6, .inl (ti_n (fun _ => 0)))), (q13, .inr (1, [.ref u14.1, .ref u14.2, .int (nI 0)])), (u14.1, .inl (E 0, 6, .inl (ti_n (fun _ => 0)))), (u14.2, .inl (E 0, 6, .inl (ti_n (fun _ => 0)))), (q15, .inr (1, [.ref u16.1, .ref u16.2, .int (nI 0)])), (u16.1, .inl (E 0, 6, .inl (ti_n (fun _ => 0)))), (u16.2, .inl (E 0, 6, .inl (ti_n (fun _ => 0)))), (q17, .inr (1, [.ref u18.1, .ref u18.2, .int (nI 0)])), (u18.1, .inl (E 0, 6, .inl (ti_n (fun _ => 0)))), (u18.2, .inl (E 0, 6, .inl (ti_n (fun _ => 0)))), (q19, .inr (1, [.ref u20.1, .ref u20.2, .int (nI 0)])), (u20.1, .inl (E 0, 6, .inl (ti_n (fun _ => 0)))), (u20.2, .inl (E 0, 6, .inl (ti_n (fun _ => 0)))), (q21, .inr (1, [.null, .null, .int (nI 0)]))]) := hD
                      refine lv_dup hx hb dX3_init_37 rfl ?_
                      have hb22 := hS.1
                      refine ti_nIN (As := []) (rest := [.ref q21, .int (nI 9), .ref q1]) S hE hP hD hS hA [30] rfl (met_X1_init l D E q21) rfl (fun _ => rfl) (lw_meth q107) q67 q178 q106 rfl 0 rfl (by decide +kernel) ⟨Nat.le_of_ble_eq_true rfl, Nat.le_of_ble_eq_true rfl⟩ hl.1 rfl (Nat.le_of_ble_eq_true rfl) ⟨Nat.le_of_ble_eq_true rfl, Nat.le_of_ble_eq_true rfl⟩ dX3_init_38 (fun u22 H locs hu hn22 hP hD hS => ?_)
                      have g_u22a : H0.size ≤ u22.1 := Nat.le_trans hb22 (hn22 0 _ rfl)
                      have g_u22b : H0.size ≤ u22.2 := Nat.le_trans hb22 (hn22 1 _ rfl)
                      have hP : va_P D vwCl ([(h, .inr (3, [.ref q1, .ref q2, .int (nI 0)])), (q1, .inl (E 5, 10, .inr (.inr (.inr (.inr (va_up (va_up (va_up (va_up (va_up (va_up (va_up (va_up (va_up (fun _ => none) 0 (some q3)) 1 (some q5)) 2 (some q7)) 3 (some q9)) 4 (some q11)) 5 (some q13)) 6 (some q15)) 7 (some q17)) 8 (some q19))))))), (q2, .inl (E 0, 10, .inl (ti_n (fun _ => 0)))), (q3, .inr (1, [.ref u4.1, .ref u4.2, .int (nI 0)])), (u4.1, .inl (E 0, 6, .inl (ti_n (fun _ => 0)))), (u4.2, .inl (E 0, 6, .inl (ti_n (fun _ => 0)))), (q5, .inr (1, [.ref u6.1, .ref u6.2, .int (nI 0)])), (u6.1, .inl (E 0, 6, .inl (ti_n (fun _ => 0)))), (u6.2, .inl (E 0, 6, .inl (ti_n (fun _ => 0)))), (q7, .inr (1, [.ref u8.1, .ref u8.2, .int (nI 0)])), (u8.1, .inl (E 0, 6, .inl (ti_n (fun _ => 0)))), (u8.2, .inl (E 0, 6, .inl (ti_n (fun _ => 0)))), (q9, .inr (1, [.ref u10.1, .ref u10.2, .int (nI 0)])), (u10.1, .inl (E 0, 6, .inl (ti_n (fun _ => 0)))), (u10.2, .inl (E 0, 6, .inl (ti_n (fun _ => 0)))), (q11, .inr (1, [.ref u12.1, .ref u12.2, .int (nI 0)])), (u12.1, .inl (E 0, 6, .inl (ti_n (fun _ => 0)))), (u12.2, .inl (E 0, 6, .inl (ti_n (fun _ => 0)))), (q13, .inr (1, [.ref u14.1, .ref u14.2, .int (nI 0)])), (u14.1, .inl (E 0, 6, .inl (ti_n (fun _ => 0)))), (u14.2, .inl (E 0, 6, .inl (ti_n (fun _ => 0)))), (q15, .inr (1, [.ref u16.1, .ref u16.2, .int (nI 0)])), (u16.1, .inl (E 0, 6, .inl (ti_n (fun _ => 0)))), (u16.2, .inl (E 0, 6, .inl (ti_n (fun _ => 0)))), (q17, .inr (1, [.ref u18.1, .ref u18.2, .int (nI 0)])), (u18.1, .inl (E 0, 6, .inl (ti_n (fun _ => 0)))), (u18.2, .inl (E 0, 6, .inl (ti_n (fun _ => 0)))), (q19, .inr (1, [.ref u20.1, .ref u20.2, .int (nI 0)])), (u20.1, .inl (E 0, 6, .inl (ti_n (fun _ => 0)))), (u20.2, .inl (E 0, 6, .inl (ti_n (fun _ => 0)))), (q21, .inr (1, [.ref u22.1, .ref u22.2, .int (nI 0)])), (u22.1, .inl (E 0, 6, .inl (ti_n (fun _ => 0)))), (u22.2, .inl (E 0, 6, .inl (ti_n (fun _ => 0))))]) H := hP
                      have hD : va_D A ([(h, .inr (3, [.ref q1, .ref q2, .int (nI 0)])), (q1, .inl (E 5, 10, .inr (.inr (.inr (.inr (va_up (va_up (va_up (va_up (va_up (va_up (va_up (va_up (va_up (fun _ => none) 0 (some q3)) 1 (some q5)) 2 (some q7)) 3 (some q9)) 4 (some q11)) 5 (some q13)) 6 (some q15)) 7 (some q17)) 8 (some q19))))))), (q2, .inl (E 0, 10, .inl (ti_n (fun _ => 0)))), (q3, .inr (1, [.ref u4.1, .ref u4.2, .int (nI 0)])), (u4.1, .inl (E 0, 6, .inl (ti_n (fun _ => 0)))), (u4.2, .inl (E 0, 6, .inl (ti_n (fun _ => 0)))), (q5, .inr (1, [.ref u6.1, .ref u6.2, .int (nI 0)])), (u6.1, .inl (E 0, 6, .inl (ti_n (fun _ => 0)))), (u6.2, .inl (E 0, 6, .inl (ti_n (fun _ => 0)))), (q7, .inr (1, [.ref u8.1, .ref u8.2, .int (nI 0)])), (u8.1, .inl (E 0, 6, .inl (ti_n (fun _ => 0)))), (u8.2, .inl (E 0, 6, .inl (ti_n (fun _ => 0)))), (q9, .inr (1, [.ref u10.1, .ref u10.2, .int (nI 0)])), (u10.1, .inl (E 0, 6, .inl (ti_n (fun _ => 0)))), (u10.2, .inl (E 0, 6, .inl (ti_n (fun _ => 0)))), (q11, .inr (1, [.ref u12.1, .ref u12.2, .int (nI 0)])), (u12.1, .inl (E 0, 6, .inl (ti_n (fun _ => 0)))), (u12.2, .inl (E 0, 6, .inl (ti_n (fun _ => 0)))), (q13, .inr (1, [.ref u14.1, .ref u14.2, .int (nI 0)])), (u14.1, .inl (E 0, 6, .inl (ti_n (fun _ => 0)))), (u14.2, .inl (E 0, 6, .inl (ti_n (fun _ => 0)))), (q15, .inr (1, [.ref u16.1, .ref u16.2, .int (nI 0)])), (u16.1, .inl (E 0, 6, .inl (ti_n (fun _ => 0)))), (u16.2, .inl (E 0, 6, .inl (ti_n (fun _ => 0)))), (q17, .inr (1, [.ref u18.1, .ref u18.2, .int (nI 0)])), (u18.1, .inl (E 0, 6, .inl (ti_n (fun _ => 0)))), (u18.2, .inl (E 0, 6, .inl (ti_n (fun _ => 0)))), (q19, .inr (1, [.ref u20.1, .ref u20.2, .int (nI 0)])), (u20.1, .inl (E 0, 6, .inl (ti_n (fun _ => 0)))), (u20.2, .inl (E 0, 6, .inl (ti_n (fun _ => 0)))), (q21, .inr (1, [.ref u22.1, .ref u22.2, .int (nI 0)])), (u22.1, .inl (E 0, 6, .inl (ti_n (fun _ => 0)))), (u22.2, .inl (E 0, 6, .inl (ti_n (fun _ => 0))))]) := hD
                      refine W.eq (g2 := F0 m 41 ls [.ref q21, .int (nI 9), .ref q1]) rfl ?_
                      refine tn_aastR hx hb hK hP hD hS 1 5 30 1 rfl rfl rfl rfl (by decide) (by decide) dX3_init_41 (fun H locs hP hD hS => ?_)
                      have hP : va_P D vwCl ([(h, .inr (3, [.ref q1, .ref q2, .int (nI 0)])), (q1, .inl (E 5, 10, .inr (.inr (.inr (.inr (va_up (va_up (va_up (va_up (va_up (va_up (va_up (va_up (va_up (va_up (fun _ => none) 0 (some q3)) 1 (some q5)) 2 (some q7)) 3 (some q9)) 4 (some q11)) 5 (some q13)) 6 (some q15)) 7 (some q17)) 8 (some q19)) 9 (some q21))))))), (q2, .inl (E 0, 10, .inl (ti_n (fun _ => 0)))), (q3, .inr (1, [.ref u4.1, .ref u4.2, .int (nI 0)])), (u4.1, .inl (E 0, 6, .inl (ti_n (fun _ => 0)))), (u4.2, .inl (E 0, 6, .inl (ti_n (fun _ => 0)))), (q5, .inr (1, [.ref u6.1, .ref u6.2, .int (nI 0)])), (u6.1, .inl (E 0, 6, .inl (ti_n (fun _ => 0)))), (u6.2, .inl (E 0, 6, .inl (ti_n (fun _ => 0)))), (q7, .inr (1, [.ref u8.1, .ref u8.2, .int (nI 0)])), (u8.1, .inl (E 0, 6, .inl (ti_n (fun _ => 0)))), (u8.2, .inl (E 0, 6, .inl (ti_n (fun _ => 0)))), (q9, .inr (1, [.ref u10.1, .ref u10.2, .int (nI 0)])), (u10.1, .inl (E 0, 6, .inl (ti_n (fun _ => 0)))), (u10.2, .inl (E 0, 6, .inl (ti_n (fun _ => 0)))), (q11, .inr (1, [.ref u12.1, .ref u12.2, .int (nI 0)])), (u12.1, .inl (E 0, 6, .inl (ti_n (fun _ => 0)))), (u12.2, .inl (E 0, 6, .inl (ti_n (fun _ => 0)))), (q13, .inr (1, [.ref u14.1, .ref u14.2, .int (nI 0)])), (u14.1, .inl (E 0, 6, .inl (ti_n (fun _ => 0)))), (u14.2, .inl (E 0, 6, .inl (ti_n (fun _ => 0)))), (q15, .inr (1, [.ref u16.1, .ref u16.2, .int (nI 0)])), (u16.1, .inl (E 0, 6, .inl (ti_n (fun _ => 0)))), (u16.2, .inl (E 0, 6, .inl (ti_n (fun _ => 0)))), (q17, .inr (1, [.ref u18.1, .ref u18.2, .int (nI 0)])), (u18.1, .inl (E 0, 6, .inl (ti_n (fun _ => 0)))), (u18.2, .inl (E 0, 6, .inl (ti_n (fun _ => 0)))), (q19, .inr (1, [.ref u20.1, .ref u20.2, .int (nI 0)])), (u20.1, .inl (E 0, 6, .inl (ti_n (fun _ => 0)))), (u20.2, .inl (E 0, 6, .inl (ti_n (fun _ => 0)))), (q21, .inr (1, [.ref u22.1, .ref u22.2, .int (nI 0)])), (u22.1, .inl (E 0, 6, .inl (ti_n (fun _ => 0)))), (u22.2, .inl (E 0, 6, .inl (ti_n (fun _ => 0))))]) H := hP
                      have hD : va_D A ([(h, .inr (3, [.ref q1, .ref q2, .int (nI 0)])), (q1, .inl (E 5, 10, .inr (.inr (.inr (.inr (va_up (va_up (va_up (va_up (va_up (va_up (va_up (va_up (va_up (va_up (fun _ => none) 0 (some q3)) 1 (some q5)) 2 (some q7)) 3 (some q9)) 4 (some q11)) 5 (some q13)) 6 (some q15)) 7 (some q17)) 8 (some q19)) 9 (some q21))))))), (q2, .inl (E 0, 10, .inl (ti_n (fun _ => 0)))), (q3, .inr (1, [.ref u4.1, .ref u4.2, .int (nI 0)])), (u4.1, .inl (E 0, 6, .inl (ti_n (fun _ => 0)))), (u4.2, .inl (E 0, 6, .inl (ti_n (fun _ => 0)))), (q5, .inr (1, [.ref u6.1, .ref u6.2, .int (nI 0)])), (u6.1, .inl (E 0, 6, .inl (ti_n (fun _ => 0)))), (u6.2, .inl (E 0, 6, .inl (ti_n (fun _ => 0)))), (q7, .inr (1, [.ref u8.1, .ref u8.2, .int (nI 0)])), (u8.1, .inl (E 0, 6, .inl (ti_n (fun _ => 0)))), (u8.2, .inl (E 0, 6, .inl (ti_n (fun _ => 0)))), (q9, .inr (1, [.ref u10.1, .ref u10.2, .int (nI 0)])), (u10.1, .inl (E 0, 6, .inl (ti_n (fun _ => 0)))), (u10.2, .inl (E 0, 6, .inl (ti_n (fun _ => 0)))), (q11, .inr (1, [.ref u12.1, .ref u12.2, .int (nI 0)])), (u12.1, .inl (E 0, 6, .inl (ti_n (fun _ => 0)))), (u12.2, .inl (E 0, 6, .inl (ti_n (fun _ => 0)))), (q13, .inr (1, [.ref u14.1, .ref u14.2, .int (nI 0)])), (u14.1, .inl (E 0, 6, .inl (ti_n (fun _ => 0)))), (u14.2, .inl (E 0, 6, .inl (ti_n (fun _ => 0)))), (q15, .inr (1, [.ref u16.1, .ref u16.2, .int (nI 0)])), (u16.1, .inl (E 0, 6, .inl (ti_n (fun _ => 0)))), (u16.2, .inl (E 0, 6, .inl (ti_n (fun _ => 0)))), (q17, .inr (1, [.ref u18.1, .ref u18.2, .int (nI 0)])), (u18.1, .inl (E 0, 6, .inl (ti_n (fun _ => 0)))), (u18.2, .inl (E 0, 6, .inl (ti_n (fun _ => 0)))), (q19, .inr (1, [.ref u20.1, .ref u20.2, .int (nI 0)])), (u20.1, .inl (E 0, 6, .inl (ti_n (fun _ => 0)))), (u20.2, .inl (E 0, 6, .inl (ti_n (fun _ => 0)))), (q21, .inr (1, [.ref u22.1, .ref u22.2, .int (nI 0)])), (u22.1, .inl (E 0, 6, .inl (ti_n (fun _ => 0)))), (u22.2, .inl (E 0, 6, .inl (ti_n (fun _ => 0))))]) := hD
                      refine lv_iinc (v := nI 10) (lv' := [(1, .int (nI 10)), (0, .ref h)]) hx hb dX3_init_42 hl (k := 0) rfl (by decide) (by decide) rfl (fun ls hl => ?_)
                      refine lv_goto (tgt := 23) hx hb dX3_init_45 (by decide) ?_
                      refine lv_iload_n hx hb dX3_init_23 rfl (lv_at hl 0 rfl) ?_
                      refine lv_bipush (v := nI 10) hx hb dX3_init_24 (by decide) ?_
                      refine tn_ge (tgt := 48) hx hb dX3_init_26 (by decide) (by omega) (by omega) (fun c26 => ?_) (fun c26 => ?_)
                      · skip
                        have hQ9 : ∀ j, j < 10 → (va_up (va_up (va_up (va_up (va_up (va_up (va_up (va_up (va_up (va_up (fun _ => none) 0 (some q3)) 1 (some q5)) 2 (some q7)) 3 (some q9)) 4 (some q11)) 5 (some q13)) 6 (some q15)) 7 (some q17)) 8 (some q19)) 9 (some q21)) j = ti_o (fun j => [q3, q5, q7, q9, q11, q13, q15, q17, q19, q21].getD j 0) (fun j => j) j := by
                          intro j hj
                          match j, hj with
                          | 0, _ => rfl
                          | 1, _ => rfl
                          | 2, _ => rfl
                          | 3, _ => rfl
                          | 4, _ => rfl
                          | 5, _ => rfl
                          | 6, _ => rfl
                          | 7, _ => rfl
                          | 8, _ => rfl
                          | 9, _ => rfl
                        have hP := ti_P_repQ hP 1 rfl hQ9
                        have hD := ti_D_rep (q := 1) hD rfl (e := .inl (E 5, 10, .inr (.inr (.inr (.inr (ti_o (fun j => [q3, q5, q7, q9, q11, q13, q15, q17, q19, q21].getD j 0) (fun j => j)))))))
                        exact hret (((q1, q2), fun j => [q3, q5, q7, q9, q11, q13, q15, q17, q19, q21].getD j 0, fun j => [u4.1, u6.1, u8.1, u10.1, u12.1, u14.1, u16.1, u18.1, u20.1, u22.1].getD j 0, fun j => [u4.2, u6.2, u8.2, u10.2, u12.2, u14.2, u16.2, u18.2, u20.2, u22.2].getD j 0)) _ _ _ _ _ _ dX3_init_48 trivial hP hD (ti_nu1 g_q1 (ti_nu1 g_q2 (ti_nu1 g_q3 (ti_nu1 g_u4a (ti_nu1 g_u4b (ti_nu1 g_q5 (ti_nu1 g_u6a (ti_nu1 g_u6b (ti_nu1 g_q7 (ti_nu1 g_u8a (ti_nu1 g_u8b (ti_nu1 g_q9 (ti_nu1 g_u10a (ti_nu1 g_u10b (ti_nu1 g_q11 (ti_nu1 g_u12a (ti_nu1 g_u12b (ti_nu1 g_q13 (ti_nu1 g_u14a (ti_nu1 g_u14b (ti_nu1 g_q15 (ti_nu1 g_u16a (ti_nu1 g_u16b (ti_nu1 g_q17 (ti_nu1 g_u18a (ti_nu1 g_u18b (ti_nu1 g_q19 (ti_nu1 g_u20a (ti_nu1 g_u20b (ti_nu1 g_q21 (ti_nu1 g_u22a (ti_nu1 g_u22b ti_nu0)))))))))))))))))))))))))))))))) hS (Nat.le_of_ble_eq_true rfl) (Nat.le_of_ble_eq_true rfl)
                      · skip
                        exact absurd c26 (by decide)
