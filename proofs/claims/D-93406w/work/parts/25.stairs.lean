/-! TermIdeals$Stairs, TermIdeals$Rows (printed by w_stairs.py) -/
set_option maxRecDepth 100000

set_option maxHeartbeats 1000000 in
theorem met_X4_of (l : Launch) (D : va_G) (E : Nat → ClassId) (s0 s1 : Nat) (sf : Nat → Nat) (h ua ub : Nat) (fa fb : Nat → Nat) (n : Nat) (hn : n ≤ 6) (hfa : ∀ k, fa k ≤ 9) (hfb : ∀ k, fb k ≤ 9) : ti_MetM (σ := Unit) l D E yX4_of cX4_of 3 (some (.object "TermIdeals$Stairs")) 2 0 0 (ti_wS E s0 s1 sf ++ ti_wI E h ua ub fa fb n) [.ref s0, .ref h] (fun _ => ti_wS E s0 s1 (ti_st (ti_gr fa fb 0 n)) ++ ti_wI E h ua ub fa fb n) (fun u => some (.ref ((fun _ => s0) u))) (fun _ => True) := by
  refine ti_mutA (σ := Unit) (va := fun _ => s0) (by decide) (Nat.le_of_ble_eq_true rfl) ?_
  intro p e s m below meth c H H0 A Q ls S hE hP hD hS hA hinit hl hret
  have hx := S.1
  have hb := S.2.1
  have hown := S.2.2.2.1
  have hts := S.2.2.2.2
  have hK := hE.1
  have hl : lv_has ls 3 [(0, .ref s0), (1, .ref h)] := hl
  refine lv_iconst (v := nI 0) hx hb dX4_of_0 (by decide) ?_
  refine lv_istore_n (lv' := [(2, .int (nI 0)), (0, .ref s0), (1, .ref h)]) hx hb dX4_of_1 rfl hl (by decide) rfl (fun ls hl => ?_)
  have L2 : ∀ (N : Nat) (a : Nat) (g : Nat → Nat) (ls : Array Slot) (H : Heap) (locs : List Loc), va_P D vwCl (ti_wS E s0 s1 g ++ ti_wI E h ua ub fa fb n) H → va_D A (ti_wS E s0 s1 g ++ ti_wI E h ua ub fa fb n) → va_S A H0 H locs → (61 - a) < N → (a ≤ 61) → (∀ j, j < a → g j = ti_st (ti_gr fa fb 0 n) j) → lv_has ls 3 [(0, .ref s0), (1, .ref h), (2, .int (nI a))] → W p l e (ti_rm 2 0 0) s m ([.ref s0, .ref h] : List Value).toArray below meth c H locs 0 0 Q (F0 m 2 ls []) := by
    intro N
    induction N with
    | zero => intro a g ls H locs hP hD hS h0; exact absurd h0 (Nat.not_lt_zero _)
    | succ N ih2 =>
      intro a g ls H locs hP hD hS hN han hv hl
      refine lv_iload_n hx hb dX4_of_2 rfl (lv_at hl 2 rfl) ?_
      refine lv_bipush (v := nI 61) hx hb dX4_of_3 (by decide) ?_
      refine tn_ge (tgt := 25) hx hb dX4_of_5 (by decide) (by omega) (by omega) (fun c5 => ?_) (fun c5 => ?_)
      · skip
        have hP := ti_P_rep (g := ti_n (ti_st (ti_gr fa fb 0 n))) hP 1 rfl (fun j hj => ti_n_at (hv j (by omega)))
        have hD := ti_D_rep (q := 1) hD rfl (e := .inl (E 0, 61, .inl (ti_n (ti_st (ti_gr fa fb 0 n)))))
        have hP : va_P D vwCl (ti_wS E s0 s1 (ti_st (ti_gr fa fb 0 n)) ++ ti_wI E h ua ub fa fb n) H := hP
        have hD : va_D A (ti_wS E s0 s1 (ti_st (ti_gr fa fb 0 n)) ++ ti_wI E h ua ub fa fb n) := hD
        refine lv_aload_n hx hb dX4_of_25 rfl (lv_at hl 0 rfl) ?_
        exact hret () _ _ _ _ _ _ _ dX4_of_26 (rfl) (trivial) hP hS (Nat.le_refl _) (Nat.le_refl _)
      · skip
        refine lv_aload_n hx hb dX4_of_8 rfl (lv_at hl 0 rfl) ?_
        refine va_get (v := .ref s1) hx hb hts in_X4 hown hK hP 0 rfl rfl 0 (by decide) (hts _ q196) (fun _ h => h) rfl dX4_of_9 ?_
        refine lv_iload_n hx hb dX4_of_12 rfl (lv_at hl 2 rfl) ?_
        refine lv_aload_n hx hb dX4_of_13 rfl (lv_at hl 1 rfl) ?_
        refine lv_iload_n hx hb dX4_of_14 rfl (lv_at hl 2 rfl) ?_
        refine ti_pV (As := [.int (nI a)]) (rest := [.int (nI a), .ref s1]) (v := .int (nI (ti_ht a (ti_gr fa fb 0 n) 9999))) S hE hP [2, 3, 4] (met_X1_height l D E h ua ub fa fb n hn hfa hfb a (by omega)) rfl (lw_V q778 q779 q780 q67 q781) 1 rfl 2 rfl rfl (by decide +kernel) ⟨Nat.le_of_ble_eq_true rfl, Nat.le_of_ble_eq_true rfl⟩ hl.1 rfl (Nat.le_of_ble_eq_true rfl) ⟨Nat.le_refl _, Nat.le_refl _⟩ dX4_of_15 ?_
        refine tn_iast hx hb hK hP hD hS 1 0 rfl rfl (by omega) (by decide) dX4_of_18 (fun H locs hP hD hS => ?_)
        have hP : va_P D vwCl (ti_wS E s0 s1 (va_up g a (ti_ht a (ti_gr fa fb 0 n) 9999)) ++ ti_wI E h ua ub fa fb n) H := hP
        have hD : va_D A (ti_wS E s0 s1 (va_up g a (ti_ht a (ti_gr fa fb 0 n) 9999)) ++ ti_wI E h ua ub fa fb n) := hD
        refine lv_iinc (v := nI (a + 1)) (lv' := [(2, .int (nI (a + 1))), (0, .ref s0), (1, .ref h)]) hx hb dX4_of_19 hl (k := 2) rfl (nI_1 a) (by decide) rfl (fun ls hl => ?_)
        refine lv_goto (tgt := 2) hx hb dX4_of_22 (by decide) ?_
        exact ih2 (a + 1) (va_up g a (ti_ht a (ti_gr fa fb 0 n) 9999)) _ _ _ hP hD hS (by omega) (by omega) (ti_fill hv rfl) (lv_sub hl [1, 2, 0] rfl)
  exact L2 _ 0 sf _ _ _ hP hD hS (Nat.lt_succ_self _) (by omega) (fun j hj => absurd hj (Nat.not_lt_zero _)) (lv_sub hl [1, 2, 0] rfl)

set_option maxHeartbeats 1000000 in
theorem met_X4_all (l : Launch) (D : va_G) (E : Nat → ClassId) (s0 s1 : Nat) (sf : Nat → Nat)  : ti_MetM (σ := Unit) l D E yX4_all cX4_all 2 none 0 0 0 (ti_wS E s0 s1 sf) [.ref s0] (fun _ => ti_wS E s0 s1 (fun _ => 0)) (fun _ => none) (fun _ => True) := by
  refine ti_mutV (σ := Unit) (by decide) (Nat.le_of_ble_eq_true rfl) ?_
  intro p e s m below meth c H H0 A Q ls S hE hP hD hS hA hinit hl hret
  have hx := S.1
  have hb := S.2.1
  have hown := S.2.2.2.1
  have hts := S.2.2.2.2
  have hK := hE.1
  have hl : lv_has ls 2 [(0, .ref s0)] := hl
  refine lv_iconst (v := nI 0) hx hb dX4_all_0 (by decide) ?_
  refine lv_istore_n (lv' := [(1, .int (nI 0)), (0, .ref s0)]) hx hb dX4_all_1 rfl hl (by decide) rfl (fun ls hl => ?_)
  have L2 : ∀ (N : Nat) (a : Nat) (g : Nat → Nat) (ls : Array Slot) (H : Heap) (locs : List Loc), va_P D vwCl (ti_wS E s0 s1 g) H → va_D A (ti_wS E s0 s1 g) → va_S A H0 H locs → (61 - a) < N → (a ≤ 61) → (∀ j, j < a → g j = (fun _ => 0) j) → lv_has ls 2 [(0, .ref s0), (1, .int (nI a))] → W p l e (ti_rm 0 0 0) s m ([.ref s0] : List Value).toArray below meth c H locs 0 0 Q (F0 m 2 ls []) := by
    intro N
    induction N with
    | zero => intro a g ls H locs hP hD hS h0; exact absurd h0 (Nat.not_lt_zero _)
    | succ N ih2 =>
      intro a g ls H locs hP hD hS hN han hv hl
      refine lv_iload_n hx hb dX4_all_2 rfl (lv_at hl 1 rfl) ?_
      refine lv_bipush (v := nI 61) hx hb dX4_all_3 (by decide) ?_
      refine tn_ge (tgt := 21) hx hb dX4_all_5 (by decide) (by omega) (by omega) (fun c5 => ?_) (fun c5 => ?_)
      · skip
        have hP := ti_P_rep (g := ti_n (fun _ => 0)) hP 1 rfl (fun j hj => ti_n_at (hv j (by omega)))
        have hD := ti_D_rep (q := 1) hD rfl (e := .inl (E 0, 61, .inl (ti_n (fun _ => 0))))
        have hP : va_P D vwCl (ti_wS E s0 s1 (fun _ => 0)) H := hP
        have hD : va_D A (ti_wS E s0 s1 (fun _ => 0)) := hD
        exact hret () _ _ _ _ _ _ dX4_all_21 (trivial) hP hS (Nat.le_refl _) (Nat.le_refl _)
      · skip
        refine lv_aload_n hx hb dX4_all_8 rfl (lv_at hl 0 rfl) ?_
        refine va_get (v := .ref s1) hx hb hts in_X4 hown hK hP 0 rfl rfl 0 (by decide) (hts _ q196) (fun _ h => h) rfl dX4_all_9 ?_
        refine lv_iload_n hx hb dX4_all_12 rfl (lv_at hl 1 rfl) ?_
        refine lv_iconst (v := nI 0) hx hb dX4_all_13 (by decide) ?_
        refine tn_iast hx hb hK hP hD hS 1 0 rfl rfl (by omega) (by decide) dX4_all_14 (fun H locs hP hD hS => ?_)
        have hP : va_P D vwCl (ti_wS E s0 s1 (va_up g a 0)) H := hP
        have hD : va_D A (ti_wS E s0 s1 (va_up g a 0)) := hD
        refine lv_iinc (v := nI (a + 1)) (lv' := [(1, .int (nI (a + 1))), (0, .ref s0)]) hx hb dX4_all_15 hl (k := 1) rfl (nI_1 a) (by decide) rfl (fun ls hl => ?_)
        refine lv_goto (tgt := 2) hx hb dX4_all_18 (by decide) ?_
        exact ih2 (a + 1) (va_up g a 0) _ _ _ hP hD hS (by omega) (by omega) (ti_fill hv rfl) (lv_sub hl [1, 0] rfl)
  exact L2 _ 0 sf _ _ _ hP hD hS (Nat.lt_succ_self _) (by omega) (fun j hj => absurd hj (Nat.not_lt_zero _)) (lv_sub hl [1, 0] rfl)

set_option maxHeartbeats 1000000 in
theorem met_X4_takes (l : Launch) (D : va_G) (E : Nat → ClassId) (s0 s1 : Nat) (sf : Nat → Nat) (t0 t1 : Nat) (tf : Nat → Nat) : ti_MetM (σ := Unit) l D E yX4_takes cX4_takes 2 none 1 0 0 (ti_wS E s0 s1 sf ++ ti_wS E t0 t1 tf) [.ref s0, .ref t0] (fun _ => ti_wS E s0 s1 tf ++ ti_wS E t0 t1 tf) (fun _ => none) (fun _ => True) := by
  refine ti_mutV (σ := Unit) (by decide) (Nat.le_of_ble_eq_true rfl) ?_
  intro p e s m below meth c H H0 A Q ls S hE hP hD hS hA hinit hl hret
  have hx := S.1
  have hb := S.2.1
  have hown := S.2.2.2.1
  have hts := S.2.2.2.2
  have hK := hE.1
  have hl : lv_has ls 2 [(0, .ref s0), (1, .ref t0)] := hl
  refine lv_aload_n hx hb dX4_takes_0 rfl (lv_at hl 1 rfl) ?_
  refine va_get (v := .ref t1) hx hb hts in_X4 hown hK hP 2 rfl rfl 0 (by decide) (hts _ q196) (fun _ h => h) rfl dX4_takes_1 ?_
  refine lv_iconst (v := nI 0) hx hb dX4_takes_4 (by decide) ?_
  refine lv_aload_n hx hb dX4_takes_5 rfl (lv_at hl 0 rfl) ?_
  refine va_get (v := .ref s1) hx hb hts in_X4 hown hK hP 0 rfl rfl 0 (by decide) (hts _ q196) (fun _ h => h) rfl dX4_takes_6 ?_
  refine lv_iconst (v := nI 0) hx hb dX4_takes_9 (by decide) ?_
  refine lv_bipush (v := nI 61) hx hb dX4_takes_10 (by decide) ?_
  refine tn_copyA S hE hP hD hS hl.1 3 1 rfl rfl (by decide) q804 (Nat.le_of_ble_eq_true rfl) (Nat.le_of_ble_eq_true rfl) dX4_takes_12 (fun H locs hP hD hS => ?_)
  have hP : va_P D vwCl (ti_wS E s0 s1 tf ++ ti_wS E t0 t1 tf) H := hP
  have hD : va_D A (ti_wS E s0 s1 tf ++ ti_wS E t0 t1 tf) := hD
  exact hret () _ _ _ _ _ _ dX4_takes_15 (trivial) hP hS (Nat.le_refl _) (Nat.le_refl _)

set_option maxHeartbeats 1000000 in
theorem met_X4_sum (l : Launch) (D : va_G) (E : Nat → ClassId) (s0 s1 : Nat) (sf : Nat → Nat) (t0 t1 : Nat) (tf : Nat → Nat) (v0 v1 : Nat) (vf : Nat → Nat) (htf : ∀ k, tf k ≤ 9999) (hvf : ∀ k, vf k ≤ 9999) : ti_MetM (σ := Unit) l D E yX4_sum cX4_sum 4 none 1 0 0 (ti_wS E s0 s1 sf ++ ti_wS E t0 t1 tf ++ ti_wS E v0 v1 vf) [.ref s0, .ref t0, .ref v0] (fun _ => ti_wS E s0 s1 (fun j => min (tf j) (vf j)) ++ ti_wS E t0 t1 tf ++ ti_wS E v0 v1 vf) (fun _ => none) (fun _ => True) := by
  refine ti_mutV (σ := Unit) (by decide) (Nat.le_of_ble_eq_true rfl) ?_
  intro p e s m below meth c H H0 A Q ls S hE hP hD hS hA hinit hl hret
  have hx := S.1
  have hb := S.2.1
  have hown := S.2.2.2.1
  have hts := S.2.2.2.2
  have hK := hE.1
  have hl : lv_has ls 4 [(0, .ref s0), (1, .ref t0), (2, .ref v0)] := hl
  refine lv_iconst (v := nI 0) hx hb dX4_sum_0 (by decide) ?_
  refine lv_istore_n (lv' := [(3, .int (nI 0)), (0, .ref s0), (1, .ref t0), (2, .ref v0)]) hx hb dX4_sum_1 rfl hl (by decide) rfl (fun ls hl => ?_)
  have L2 : ∀ (N : Nat) (a : Nat) (g : Nat → Nat) (ls : Array Slot) (H : Heap) (locs : List Loc), va_P D vwCl (ti_wS E s0 s1 g ++ ti_wS E t0 t1 tf ++ ti_wS E v0 v1 vf) H → va_D A (ti_wS E s0 s1 g ++ ti_wS E t0 t1 tf ++ ti_wS E v0 v1 vf) → va_S A H0 H locs → (61 - a) < N → (a ≤ 61) → (∀ j, j < a → g j = (fun i => min (tf i) (vf i)) j) → lv_has ls 4 [(0, .ref s0), (1, .ref t0), (2, .ref v0), (3, .int (nI a))] → W p l e (ti_rm 1 0 0) s m ([.ref s0, .ref t0, .ref v0] : List Value).toArray below meth c H locs 0 0 Q (F0 m 2 ls []) := by
    intro N
    induction N with
    | zero => intro a g ls H locs hP hD hS h0; exact absurd h0 (Nat.not_lt_zero _)
    | succ N ih2 =>
      intro a g ls H locs hP hD hS hN han hv hl
      refine lv_iload_n hx hb dX4_sum_2 rfl (lv_at hl 3 rfl) ?_
      refine lv_bipush (v := nI 61) hx hb dX4_sum_3 (by decide) ?_
      refine tn_ge (tgt := 35) hx hb dX4_sum_5 (by decide) (by omega) (by omega) (fun c5 => ?_) (fun c5 => ?_)
      · skip
        have hP := ti_P_rep (g := ti_n (fun j => min (tf j) (vf j))) hP 1 rfl (fun j hj => ti_n_at (hv j (by omega)))
        have hD := ti_D_rep (q := 1) hD rfl (e := .inl (E 0, 61, .inl (ti_n (fun j => min (tf j) (vf j)))))
        have hP : va_P D vwCl (ti_wS E s0 s1 (fun j => min (tf j) (vf j)) ++ ti_wS E t0 t1 tf ++ ti_wS E v0 v1 vf) H := hP
        have hD : va_D A (ti_wS E s0 s1 (fun j => min (tf j) (vf j)) ++ ti_wS E t0 t1 tf ++ ti_wS E v0 v1 vf) := hD
        exact hret () _ _ _ _ _ _ dX4_sum_35 (trivial) hP hS (Nat.le_refl _) (Nat.le_refl _)
      · skip
        refine lv_aload_n hx hb dX4_sum_8 rfl (lv_at hl 0 rfl) ?_
        refine va_get (v := .ref s1) hx hb hts in_X4 hown hK hP 0 rfl rfl 0 (by decide) (hts _ q196) (fun _ h => h) rfl dX4_sum_9 ?_
        refine lv_iload_n hx hb dX4_sum_12 rfl (lv_at hl 3 rfl) ?_
        refine lv_aload_n hx hb dX4_sum_13 rfl (lv_at hl 1 rfl) ?_
        refine va_get (v := .ref t1) hx hb hts in_X4 hown hK hP 2 rfl rfl 0 (by decide) (hts _ q196) (fun _ h => h) rfl dX4_sum_14 ?_
        refine lv_iload_n hx hb dX4_sum_17 rfl (lv_at hl 3 rfl) ?_
        refine tn_iald hx hb hK hP 3 0 rfl rfl (by omega) (by decide) dX4_sum_18 ?_
        have b18 := htf a
        refine lv_aload_n hx hb dX4_sum_19 rfl (lv_at hl 2 rfl) ?_
        refine va_get (v := .ref v1) hx hb hts in_X4 hown hK hP 4 rfl rfl 0 (by decide) (hts _ q196) (fun _ h => h) rfl dX4_sum_20 ?_
        refine lv_iload_n hx hb dX4_sum_23 rfl (lv_at hl 3 rfl) ?_
        refine tn_iald hx hb hK hP 5 0 rfl rfl (by omega) (by decide) dX4_sum_24 ?_
        have b24 := hvf a
        refine tn_min S hl.1 q787 (Nat.le_of_ble_eq_true rfl) (Nat.le_of_ble_eq_true rfl) ⟨Nat.le_refl _, Nat.le_refl _⟩ (by omega) (by omega) dX4_sum_25 ?_
        refine tn_iast hx hb hK hP hD hS 1 0 rfl rfl (by omega) (by decide) dX4_sum_28 (fun H locs hP hD hS => ?_)
        have hP : va_P D vwCl (ti_wS E s0 s1 (va_up g a (min (tf a) (vf a))) ++ ti_wS E t0 t1 tf ++ ti_wS E v0 v1 vf) H := hP
        have hD : va_D A (ti_wS E s0 s1 (va_up g a (min (tf a) (vf a))) ++ ti_wS E t0 t1 tf ++ ti_wS E v0 v1 vf) := hD
        refine lv_iinc (v := nI (a + 1)) (lv' := [(3, .int (nI (a + 1))), (0, .ref s0), (1, .ref t0), (2, .ref v0)]) hx hb dX4_sum_29 hl (k := 3) rfl (nI_1 a) (by decide) rfl (fun ls hl => ?_)
        refine lv_goto (tgt := 2) hx hb dX4_sum_32 (by decide) ?_
        exact ih2 (a + 1) (va_up g a (min (tf a) (vf a))) _ _ _ hP hD hS (by omega) (by omega) (ti_fill hv rfl) (lv_sub hl [1, 2, 3, 0] rfl)
  exact L2 _ 0 sf _ _ _ hP hD hS (Nat.lt_succ_self _) (by omega) (fun j hj => absurd hj (Nat.not_lt_zero _)) (lv_sub hl [1, 2, 3, 0] rfl)

set_option maxHeartbeats 1000000 in
theorem met_X4_product (l : Launch) (D : va_G) (E : Nat → ClassId) (s0 s1 : Nat) (sf : Nat → Nat) (t0 t1 : Nat) (tf : Nat → Nat) (v0 v1 : Nat) (vf : Nat → Nat) (htf : ∀ k, tf k ≤ 9999) (hvf : ∀ k, vf k ≤ 9999) : ti_MetM (σ := Unit) l D E yX4_product cX4_product 5 none 1 0 0 (ti_wS E s0 s1 sf ++ ti_wS E t0 t1 tf ++ ti_wS E v0 v1 vf) [.ref s0, .ref t0, .ref v0] (fun _ => ti_wS E s0 s1 (ti_pr tf vf) ++ ti_wS E t0 t1 tf ++ ti_wS E v0 v1 vf) (fun _ => none) (fun _ => True) := by
  refine ti_mutV (σ := Unit) (by decide) (Nat.le_of_ble_eq_true rfl) ?_
  intro p e s m below meth c H H0 A Q ls S hE hP hD hS hA hinit hl hret
  have hx := S.1
  have hb := S.2.1
  have hown := S.2.2.2.1
  have hts := S.2.2.2.2
  have hK := hE.1
  have hl : lv_has ls 5 [(0, .ref s0), (1, .ref t0), (2, .ref v0)] := hl
  refine lv_iconst (v := nI 0) hx hb dX4_product_0 (by decide) ?_
  refine lv_istore_n (lv' := [(3, .int (nI 0)), (0, .ref s0), (1, .ref t0), (2, .ref v0)]) hx hb dX4_product_1 rfl hl (by decide) rfl (fun ls hl => ?_)
  have L2 : ∀ (N : Nat) (a : Nat) (g : Nat → Nat) (ls : Array Slot) (H : Heap) (locs : List Loc), va_P D vwCl (ti_wS E s0 s1 g ++ ti_wS E t0 t1 tf ++ ti_wS E v0 v1 vf) H → va_D A (ti_wS E s0 s1 g ++ ti_wS E t0 t1 tf ++ ti_wS E v0 v1 vf) → va_S A H0 H locs → (61 - a) < N → (a ≤ 61) → (∀ j, j < a → g j = ti_pr tf vf j) → lv_has ls 5 [(0, .ref s0), (1, .ref t0), (2, .ref v0), (3, .int (nI a))] → W p l e (ti_rm 1 0 0) s m ([.ref s0, .ref t0, .ref v0] : List Value).toArray below meth c H locs 0 0 Q (F0 m 2 ls []) := by
    intro N
    induction N with
    | zero => intro a g ls H locs hP hD hS h0; exact absurd h0 (Nat.not_lt_zero _)
    | succ N ih2 =>
      intro a g ls H locs hP hD hS hN han hv hl
      refine lv_iload_n hx hb dX4_product_2 rfl (lv_at hl 3 rfl) ?_
      refine lv_bipush (v := nI 61) hx hb dX4_product_3 (by decide) ?_
      refine tn_ge (tgt := 70) hx hb dX4_product_5 (by decide) (by omega) (by omega) (fun c5 => ?_) (fun c5 => ?_)
      · skip
        have hP := ti_P_rep (g := ti_n (ti_pr tf vf)) hP 1 rfl (fun j hj => ti_n_at (hv j (by omega)))
        have hD := ti_D_rep (q := 1) hD rfl (e := .inl (E 0, 61, .inl (ti_n (ti_pr tf vf))))
        have hP : va_P D vwCl (ti_wS E s0 s1 (ti_pr tf vf) ++ ti_wS E t0 t1 tf ++ ti_wS E v0 v1 vf) H := hP
        have hD : va_D A (ti_wS E s0 s1 (ti_pr tf vf) ++ ti_wS E t0 t1 tf ++ ti_wS E v0 v1 vf) := hD
        exact hret () _ _ _ _ _ _ dX4_product_70 (trivial) hP hS (Nat.le_refl _) (Nat.le_refl _)
      · skip
        refine lv_aload_n hx hb dX4_product_8 rfl (lv_at hl 0 rfl) ?_
        refine va_get (v := .ref s1) hx hb hts in_X4 hown hK hP 0 rfl rfl 0 (by decide) (hts _ q196) (fun _ h => h) rfl dX4_product_9 ?_
        refine lv_iload_n hx hb dX4_product_12 rfl (lv_at hl 3 rfl) ?_
        refine lv_sipush (v := nI 9999) hx hb dX4_product_13 (by decide) ?_
        refine tn_iast hx hb hK hP hD hS 1 0 rfl rfl (by omega) (by decide) dX4_product_16 (fun H locs hP hD hS => ?_)
        have hP : va_P D vwCl (ti_wS E s0 s1 (va_up g a 9999) ++ ti_wS E t0 t1 tf ++ ti_wS E v0 v1 vf) H := hP
        have hD : va_D A (ti_wS E s0 s1 (va_up g a 9999) ++ ti_wS E t0 t1 tf ++ ti_wS E v0 v1 vf) := hD
        refine lv_iconst (v := nI 0) hx hb dX4_product_17 (by decide) ?_
        refine lv_istore (lv' := [(4, .int (nI 0)), (0, .ref s0), (1, .ref t0), (2, .ref v0), (3, .int (nI a))]) hx hb dX4_product_18 hl (by decide) rfl (fun ls hl => ?_)
        have L20 : ∀ (N : Nat) (d : Nat) (g2 : Nat → Nat) (ls : Array Slot) (H : Heap) (locs : List Loc), va_P D vwCl (ti_wS E s0 s1 g2 ++ ti_wS E t0 t1 tf ++ ti_wS E v0 v1 vf) H → va_D A (ti_wS E s0 s1 g2 ++ ti_wS E t0 t1 tf ++ ti_wS E v0 v1 vf) → va_S A H0 H locs → (a + 1 - d) < N → (d ≤ a + 1) → (g2 a ≤ 9999) → (∀ j, j < a → g2 j = ti_pr tf vf j) → (ti_pr tf vf a = ti_cv tf vf a (List.range' d (a + 1 - d)) (g2 a)) → lv_has ls 5 [(0, .ref s0), (1, .ref t0), (2, .ref v0), (3, .int (nI a)), (4, .int (nI d))] → W p l e (ti_rm 1 0 0) s m ([.ref s0, .ref t0, .ref v0] : List Value).toArray below meth c H locs 0 0 Q (F0 m 20 ls []) := by
          intro N
          induction N with
          | zero => intro d g2 ls H locs hP hD hS h0; exact absurd h0 (Nat.not_lt_zero _)
          | succ N ih20 =>
            intro d g2 ls H locs hP hD hS hN hda hi1 hi2 hi3 hl
            refine lv_iload hx hb dX4_product_20 (lv_at hl 4 rfl) ?_
            refine lv_iload_n hx hb dX4_product_22 rfl (lv_at hl 3 rfl) ?_
            refine tn_gt (tgt := 64) hx hb dX4_product_23 (by decide) (by omega) (by omega) (fun c23 => ?_) (fun c23 => ?_)
            · skip
              rw [show a + 1 - d = 0 by omega] at hi3
              have hi3 : ti_pr tf vf a = g2 a := hi3
              refine lv_iinc (v := nI (a + 1)) (lv' := [(3, .int (nI (a + 1))), (0, .ref s0), (1, .ref t0), (2, .ref v0), (4, .int (nI d))]) hx hb dX4_product_64 hl (k := 3) rfl (nI_1 a) (by decide) rfl (fun ls hl => ?_)
              refine lv_goto (tgt := 2) hx hb dX4_product_67 (by decide) ?_
              exact ih2 (a + 1) g2 _ _ _ hP hD hS (by omega) (by omega) (ti_fill2 hi2 hi3.symm) (lv_sub hl [1, 2, 3, 0] rfl)
            · skip
              obtain ⟨m9, hm9⟩ : ∃ m9, a + 1 - d = m9 + 1 := ⟨a + 1 - d - 1, by omega⟩
              rw [hm9, show List.range' d (m9 + 1) = d :: List.range' (d + 1) m9 from rfl] at hi3
              refine lv_aload_n hx hb dX4_product_26 rfl (lv_at hl 0 rfl) ?_
              refine va_get (v := .ref s1) hx hb hts in_X4 hown hK hP 0 rfl rfl 0 (by decide) (hts _ q196) (fun _ h => h) rfl dX4_product_27 ?_
              refine lv_iload_n hx hb dX4_product_30 rfl (lv_at hl 3 rfl) ?_
              refine lv_aload_n hx hb dX4_product_31 rfl (lv_at hl 0 rfl) ?_
              refine va_get (v := .ref s1) hx hb hts in_X4 hown hK hP 0 rfl rfl 0 (by decide) (hts _ q196) (fun _ h => h) rfl dX4_product_32 ?_
              refine lv_iload_n hx hb dX4_product_35 rfl (lv_at hl 3 rfl) ?_
              refine tn_iald hx hb hK hP 1 0 rfl rfl (by omega) (by decide) dX4_product_36 ?_
              refine lv_aload_n hx hb dX4_product_37 rfl (lv_at hl 1 rfl) ?_
              refine va_get (v := .ref t1) hx hb hts in_X4 hown hK hP 2 rfl rfl 0 (by decide) (hts _ q196) (fun _ h => h) rfl dX4_product_38 ?_
              refine lv_iload hx hb dX4_product_41 (lv_at hl 4 rfl) ?_
              refine tn_iald hx hb hK hP 3 0 rfl rfl (by omega) (by decide) dX4_product_43 ?_
              have b43 := htf d
              refine lv_aload_n hx hb dX4_product_44 rfl (lv_at hl 2 rfl) ?_
              refine va_get (v := .ref v1) hx hb hts in_X4 hown hK hP 4 rfl rfl 0 (by decide) (hts _ q196) (fun _ h => h) rfl dX4_product_45 ?_
              refine lv_iload_n hx hb dX4_product_48 rfl (lv_at hl 3 rfl) ?_
              refine lv_iload hx hb dX4_product_49 (lv_at hl 4 rfl) ?_
              refine tn_sub hx hb dX4_product_51 (by omega) ?_
              refine tn_iald hx hb hK hP 5 0 rfl rfl (by omega) (by decide) dX4_product_52 ?_
              have b52 := hvf (a - d)
              refine tn_add hx hb dX4_product_53 ?_
              have b53 : (tf d) + (vf (a - d)) ≤ 19998 := Nat.add_le_add b43 b52
              refine tn_min S hl.1 q787 (Nat.le_of_ble_eq_true rfl) (Nat.le_of_ble_eq_true rfl) ⟨Nat.le_refl _, Nat.le_refl _⟩ (by omega) (by omega) dX4_product_54 ?_
              refine tn_iast hx hb hK hP hD hS 1 0 rfl rfl (by omega) (by decide) dX4_product_57 (fun H locs hP hD hS => ?_)
              have hP : va_P D vwCl (ti_wS E s0 s1 (va_up g2 a (min (g2 a) ((tf d) + (vf (a - d))))) ++ ti_wS E t0 t1 tf ++ ti_wS E v0 v1 vf) H := hP
              have hD : va_D A (ti_wS E s0 s1 (va_up g2 a (min (g2 a) ((tf d) + (vf (a - d))))) ++ ti_wS E t0 t1 tf ++ ti_wS E v0 v1 vf) := hD
              refine lv_iinc (v := nI (d + 1)) (lv' := [(4, .int (nI (d + 1))), (0, .ref s0), (1, .ref t0), (2, .ref v0), (3, .int (nI a))]) hx hb dX4_product_58 hl (k := 4) rfl (nI_1 d) (by decide) rfl (fun ls hl => ?_)
              refine lv_goto (tgt := 20) hx hb dX4_product_61 (by decide) ?_
              exact ih20 (d + 1) (va_up g2 a (min (g2 a) ((tf d) + (vf (a - d))))) _ _ _ hP hD hS (by omega) (by omega) (by rw [va_up_self]; omega) (fun j hj => by rw [va_up_ne _ _ (by omega)]; exact hi2 j hj) (by rw [hi3, va_up_self, show a + 1 - (d + 1) = m9 by omega]; rfl) (lv_sub hl [1, 2, 3, 4, 0] rfl)
        exact L20 _ 0 (va_up g a 9999) _ _ _ hP hD hS (Nat.lt_succ_self _) (by omega) (by rw [va_up_self]; omega) (fun j hj => by rw [va_up_ne _ _ (by omega)]; exact hv j hj) (by rw [va_up_self]; rfl) (lv_sub hl [1, 2, 3, 4, 0] rfl)
  exact L2 _ 0 sf _ _ _ hP hD hS (Nat.lt_succ_self _) (by omega) (fun j hj => absurd hj (Nat.not_lt_zero _)) (lv_sub hl [1, 2, 3, 0] rfl)

set_option maxHeartbeats 1000000 in
theorem met_X4_isAs (l : Launch) (D : va_G) (E : Nat → ClassId) (s0 s1 : Nat) (sf : Nat → Nat) (t0 t1 : Nat) (tf : Nat → Nat) (hsf : ∀ k, sf k ≤ 9999) (htf : ∀ k, tf k ≤ 9999) : ti_MetP l D E yX4_isAs cX4_isAs 3 (some .boolean) 0 (ti_wS E s0 s1 sf ++ ti_wS E t0 t1 tf) [.ref s0, .ref t0] (some (.int (ti_b (ti_eq sf tf (List.range' 0 61))))) := by
  refine ti_pureZ (by decide) (Nat.le_of_ble_eq_true rfl) ?_
  intro p e s m below meth c H locs Q ls S hE hP hl hret
  have hx := S.1
  have hb := S.2.1
  have hown := S.2.2.2.1
  have hts := S.2.2.2.2
  have hK := hE.1
  have hl : lv_has ls 3 [(0, .ref s0), (1, .ref t0)] := hl
  refine lv_iconst (v := nI 0) hx hb dX4_isAs_0 (by decide) ?_
  refine lv_istore_n (lv' := [(2, .int (nI 0)), (0, .ref s0), (1, .ref t0)]) hx hb dX4_isAs_1 rfl hl (by decide) rfl (fun ls hl => ?_)
  have L2 : ∀ (N : Nat) (a : Nat) (ls : Array Slot), (61 - a) < N → (a ≤ 61) → (ti_eq sf tf (List.range' 0 61) = ti_eq sf tf (List.range' a (61 - a))) → lv_has ls 3 [(0, .ref s0), (1, .ref t0), (2, .int (nI a))] → W p l e (ti_rm 0 0 0) s m ([.ref s0, .ref t0] : List Value).toArray below meth c H locs 0 0 Q (F0 m 2 ls []) := by
    intro N
    induction N with
    | zero => intro a ls h0; exact absurd h0 (Nat.not_lt_zero _)
    | succ N ih2 =>
      intro a ls hN han hv hl
      refine lv_iload_n hx hb dX4_isAs_2 rfl (lv_at hl 2 rfl) ?_
      refine lv_bipush (v := nI 61) hx hb dX4_isAs_3 (by decide) ?_
      refine tn_ge (tgt := 31) hx hb dX4_isAs_5 (by decide) (by omega) (by omega) (fun c5 => ?_) (fun c5 => ?_)
      · skip
        rw [show 61 - a = 0 by omega] at hv
        refine lv_iconst (v := nI 1) hx hb dX4_isAs_31 (by decide) ?_
        exact hret _ _ _ dX4_isAs_32 (by rw [hv]; rfl)
      · skip
        obtain ⟨m9, hm9⟩ : ∃ m9, 61 - a = m9 + 1 := ⟨61 - a - 1, by omega⟩
        rw [hm9, show List.range' a (m9 + 1) = a :: List.range' (a + 1) m9 from rfl] at hv
        refine lv_aload_n hx hb dX4_isAs_8 rfl (lv_at hl 0 rfl) ?_
        refine va_get (v := .ref s1) hx hb hts in_X4 hown hK hP 0 rfl rfl 0 (by decide) (hts _ q196) (fun _ h => h) rfl dX4_isAs_9 ?_
        refine lv_iload_n hx hb dX4_isAs_12 rfl (lv_at hl 2 rfl) ?_
        refine tn_iald hx hb hK hP 1 0 rfl rfl (by omega) (by decide) dX4_isAs_13 ?_
        have b13 := hsf a
        refine lv_aload_n hx hb dX4_isAs_14 rfl (lv_at hl 1 rfl) ?_
        refine va_get (v := .ref t1) hx hb hts in_X4 hown hK hP 2 rfl rfl 0 (by decide) (hts _ q196) (fun _ h => h) rfl dX4_isAs_15 ?_
        refine lv_iload_n hx hb dX4_isAs_18 rfl (lv_at hl 2 rfl) ?_
        refine tn_iald hx hb hK hP 3 0 rfl rfl (by omega) (by decide) dX4_isAs_19 ?_
        have b19 := htf a
        refine tn_eq (tgt := 25) hx hb dX4_isAs_20 (by decide) (by omega) (by omega) (fun c20 => ?_) (fun c20 => ?_)
        · skip
          refine lv_iinc (v := nI (a + 1)) (lv' := [(2, .int (nI (a + 1))), (0, .ref s0), (1, .ref t0)]) hx hb dX4_isAs_25 hl (k := 2) rfl (nI_1 a) (by decide) rfl (fun ls hl => ?_)
          refine lv_goto (tgt := 2) hx hb dX4_isAs_28 (by decide) ?_
          exact ih2 (a + 1) _ (by omega) (by omega) (by rw [hv, ti_eq, if_pos c20, show 61 - (a + 1) = m9 by omega]) (lv_sub hl [1, 2, 0] rfl)
        · skip
          refine lv_iconst (v := nI 0) hx hb dX4_isAs_23 (by decide) ?_
          exact hret _ _ _ dX4_isAs_24 (by rw [hv, ti_eq, if_neg c20]; rfl)
  exact L2 _ 0 _ (Nat.lt_succ_self _) (by omega) (rfl) (lv_sub hl [1, 2, 0] rfl)

set_option maxHeartbeats 1000000 in
theorem met_X5_adds (l : Launch) (D : va_G) (E : Nat → ClassId) (N : Nat) (hN : N ≤ 100) (r0 r1 r2 r3 : Nat) (fa fb fc : Nat → Nat) (n : Nat) (hn : n ≤ N) (x y z : Nat) : ti_MetM (σ := (Nat → Nat) × (Nat → Nat) × (Nat → Nat) × Nat) l D E yX5_adds cX5_adds 4 (some .int) 0 0 0 (ti_wR E N r0 r1 r2 r3 fa fb fc n) [.ref r0, .int (nI x), .int (nI y), .int (nI z)] (fun u => ti_wR E N r0 r1 r2 r3 u.1 u.2.1 u.2.2.1 u.2.2.2) (fun u => some (.int ((fun _ => if n = N then -4 else nI (n + 1)) u))) (fun u => u = if n = N then (fa, fb, fc, n) else (va_up fa n x, va_up fb n y, va_up fc n z, n + 1)) := by
  refine ti_mutI (σ := (Nat → Nat) × (Nat → Nat) × (Nat → Nat) × Nat) (vi := fun _ => if n = N then -4 else nI (n + 1)) (by decide) (Nat.le_of_ble_eq_true rfl) ?_
  intro p e s m below meth c H H0 A Q ls S hE hP hD hS hA hinit hl hret
  have hx := S.1
  have hb := S.2.1
  have hown := S.2.2.2.1
  have hts := S.2.2.2.2
  have hK := hE.1
  have hl : lv_has ls 4 [(0, .ref r0), (1, .int (nI x)), (2, .int (nI y)), (3, .int (nI z))] := hl
  refine lv_aload_n hx hb dX5_adds_0 rfl (lv_at hl 0 rfl) ?_
  refine va_get (v := .int (nI n)) hx hb hts in_X5 hown hK hP 0 rfl rfl 3 (by decide) (hts _ q213) (fun _ h => h) rfl dX5_adds_1 ?_
  refine lv_aload_n hx hb dX5_adds_4 rfl (lv_at hl 0 rfl) ?_
  refine va_get (v := .ref r1) hx hb hts in_X5 hown hK hP 0 rfl rfl 0 (by decide) (hts _ q207) (fun _ h => h) rfl dX5_adds_5 ?_
  refine va_alen (v := nI N) hx hb hK hP 1 0 rfl rfl rfl dX5_adds_8 ?_
  refine tn_ne (tgt := 15) hx hb dX5_adds_9 (by decide) (by omega) (by omega) (fun c9 => ?_) (fun c9 => ?_)
  · skip
    refine lv_aload_n hx hb dX5_adds_15 rfl (lv_at hl 0 rfl) ?_
    refine va_get (v := .ref r1) hx hb hts in_X5 hown hK hP 0 rfl rfl 0 (by decide) (hts _ q207) (fun _ h => h) rfl dX5_adds_16 ?_
    refine lv_aload_n hx hb dX5_adds_19 rfl (lv_at hl 0 rfl) ?_
    refine va_get (v := .int (nI n)) hx hb hts in_X5 hown hK hP 0 rfl rfl 3 (by decide) (hts _ q213) (fun _ h => h) rfl dX5_adds_20 ?_
    refine lv_iload_n hx hb dX5_adds_23 rfl (lv_at hl 1 rfl) ?_
    refine tn_iast hx hb hK hP hD hS 1 0 rfl rfl (by omega) (by omega) dX5_adds_24 (fun H locs hP hD hS => ?_)
    have hP : va_P D vwCl (ti_wR E N r0 r1 r2 r3 (va_up fa n x) fb fc n) H := hP
    have hD : va_D A (ti_wR E N r0 r1 r2 r3 (va_up fa n x) fb fc n) := hD
    refine lv_aload_n hx hb dX5_adds_25 rfl (lv_at hl 0 rfl) ?_
    refine va_get (v := .ref r2) hx hb hts in_X5 hown hK hP 0 rfl rfl 1 (by decide) (hts _ q209) (fun _ h => h) rfl dX5_adds_26 ?_
    refine lv_aload_n hx hb dX5_adds_29 rfl (lv_at hl 0 rfl) ?_
    refine va_get (v := .int (nI n)) hx hb hts in_X5 hown hK hP 0 rfl rfl 3 (by decide) (hts _ q213) (fun _ h => h) rfl dX5_adds_30 ?_
    refine lv_iload_n hx hb dX5_adds_33 rfl (lv_at hl 2 rfl) ?_
    refine tn_iast hx hb hK hP hD hS 2 0 rfl rfl (by omega) (by omega) dX5_adds_34 (fun H locs hP hD hS => ?_)
    have hP : va_P D vwCl (ti_wR E N r0 r1 r2 r3 (va_up fa n x) (va_up fb n y) fc n) H := hP
    have hD : va_D A (ti_wR E N r0 r1 r2 r3 (va_up fa n x) (va_up fb n y) fc n) := hD
    refine lv_aload_n hx hb dX5_adds_35 rfl (lv_at hl 0 rfl) ?_
    refine va_get (v := .ref r3) hx hb hts in_X5 hown hK hP 0 rfl rfl 2 (by decide) (hts _ q211) (fun _ h => h) rfl dX5_adds_36 ?_
    refine lv_aload_n hx hb dX5_adds_39 rfl (lv_at hl 0 rfl) ?_
    refine va_get (v := .int (nI n)) hx hb hts in_X5 hown hK hP 0 rfl rfl 3 (by decide) (hts _ q213) (fun _ h => h) rfl dX5_adds_40 ?_
    refine lv_iload_n hx hb dX5_adds_43 rfl (lv_at hl 3 rfl) ?_
    refine tn_iast hx hb hK hP hD hS 3 0 rfl rfl (by omega) (by omega) dX5_adds_44 (fun H locs hP hD hS => ?_)
    have hP : va_P D vwCl (ti_wR E N r0 r1 r2 r3 (va_up fa n x) (va_up fb n y) (va_up fc n z) n) H := hP
    have hD : va_D A (ti_wR E N r0 r1 r2 r3 (va_up fa n x) (va_up fb n y) (va_up fc n z) n) := hD
    refine lv_aload_n hx hb dX5_adds_45 rfl (lv_at hl 0 rfl) ?_
    refine lv_dup hx hb dX5_adds_46 rfl ?_
    refine va_get (v := .int (nI n)) hx hb hts in_X5 hown hK hP 0 rfl rfl 3 (by decide) (hts _ q213) (fun _ h => h) rfl dX5_adds_47 ?_
    refine lv_iconst (v := nI 1) hx hb dX5_adds_50 (by decide) ?_
    refine tn_add hx hb dX5_adds_51 ?_
    refine va_put (ty := .int) hx hb hts in_X5 tyX5 tyX5_ok nmX5 hown hK hP hD hS 0 rfl rfl 3 (by decide) (hts _ q213) (fun _ h => h) rfl rfl rfl rfl (Nat.le_of_ble_eq_true rfl) dX5_adds_52 (fun H locs hP hD hS => ?_)
    have hP : va_P D vwCl (ti_wR E N r0 r1 r2 r3 (va_up fa n x) (va_up fb n y) (va_up fc n z) (n + 1)) H := hP
    have hD : va_D A (ti_wR E N r0 r1 r2 r3 (va_up fa n x) (va_up fb n y) (va_up fc n z) (n + 1)) := hD
    refine lv_aload_n hx hb dX5_adds_55 rfl (lv_at hl 0 rfl) ?_
    refine va_get (v := .int (nI (n + 1))) hx hb hts in_X5 hown hK hP 0 rfl rfl 3 (by decide) (hts _ q213) (fun _ h => h) rfl dX5_adds_56 ?_
    exact hret (va_up fa n x, va_up fb n y, va_up fc n z, n + 1) _ _ _ _ _ _ _ dX5_adds_59 (by rw [if_neg c9]) (by rw [if_neg c9]) hP hS (Nat.le_refl _) (Nat.le_refl _)
  · skip
    refine lv_bipush (v := (-4)) hx hb dX5_adds_12 (by decide) ?_
    exact hret (fa, fb, fc, n) _ _ _ _ _ _ _ dX5_adds_14 (by rw [if_pos c9]) (by rw [if_pos c9]) hP hS (Nat.le_refl _) (Nat.le_refl _)

set_option maxHeartbeats 1000000 in
theorem met_X5_none (l : Launch) (D : va_G) (E : Nat → ClassId) (N : Nat) (hN : N ≤ 100) (r0 r1 r2 r3 : Nat) (fa fb fc : Nat → Nat) (n : Nat)  : ti_MetM (σ := Unit) l D E yX5_none cX5_none 1 (some .int) 0 0 0 (ti_wR E N r0 r1 r2 r3 fa fb fc n) [.ref r0] (fun _ => ti_wR E N r0 r1 r2 r3 fa fb fc 0) (fun u => some (.int ((fun _ => 0) u))) (fun _ => True) := by
  refine ti_mutI (σ := Unit) (vi := fun _ => 0) (by decide) (Nat.le_of_ble_eq_true rfl) ?_
  intro p e s m below meth c H H0 A Q ls S hE hP hD hS hA hinit hl hret
  have hx := S.1
  have hb := S.2.1
  have hown := S.2.2.2.1
  have hts := S.2.2.2.2
  have hK := hE.1
  have hl : lv_has ls 1 [(0, .ref r0)] := hl
  refine lv_aload_n hx hb dX5_none_0 rfl (lv_at hl 0 rfl) ?_
  refine lv_iconst (v := nI 0) hx hb dX5_none_1 (by decide) ?_
  refine va_put (ty := .int) hx hb hts in_X5 tyX5 tyX5_ok nmX5 hown hK hP hD hS 0 rfl rfl 3 (by decide) (hts _ q213) (fun _ h => h) rfl rfl rfl rfl (Nat.le_of_ble_eq_true rfl) dX5_none_2 (fun H locs hP hD hS => ?_)
  have hP : va_P D vwCl (ti_wR E N r0 r1 r2 r3 fa fb fc 0) H := hP
  have hD : va_D A (ti_wR E N r0 r1 r2 r3 fa fb fc 0) := hD
  refine lv_iconst (v := nI 0) hx hb dX5_none_5 (by decide) ?_
  exact hret () _ _ _ _ _ _ _ dX5_none_6 (rfl) (trivial) hP hS (Nat.le_refl _) (Nat.le_refl _)

set_option maxHeartbeats 1000000 in
theorem met_X5_takes (l : Launch) (D : va_G) (E : Nat → ClassId) (N : Nat) (hN : N ≤ 100) (r0 r1 r2 r3 : Nat) (fa fb fc : Nat → Nat) (n : Nat) (t0 t1 t2 t3 : Nat) (ga gb gc : Nat → Nat) (m9 : Nat) : ti_MetM (σ := Unit) l D E yX5_takes cX5_takes 2 none 1 0 0 (ti_wR E N r0 r1 r2 r3 fa fb fc n ++ ti_wR E N t0 t1 t2 t3 ga gb gc m9) [.ref r0, .ref t0] (fun _ => ti_wR E N r0 r1 r2 r3 ga gb gc m9 ++ ti_wR E N t0 t1 t2 t3 ga gb gc m9) (fun _ => none) (fun _ => True) := by
  refine ti_mutV (σ := Unit) (by decide) (Nat.le_of_ble_eq_true rfl) ?_
  intro p e s m below meth c H H0 A Q ls S hE hP hD hS hA hinit hl hret
  have hx := S.1
  have hb := S.2.1
  have hown := S.2.2.2.1
  have hts := S.2.2.2.2
  have hK := hE.1
  have hl : lv_has ls 2 [(0, .ref r0), (1, .ref t0)] := hl
  refine lv_aload_n hx hb dX5_takes_0 rfl (lv_at hl 1 rfl) ?_
  refine va_get (v := .ref t1) hx hb hts in_X5 hown hK hP 4 rfl rfl 0 (by decide) (hts _ q207) (fun _ h => h) rfl dX5_takes_1 ?_
  refine lv_iconst (v := nI 0) hx hb dX5_takes_4 (by decide) ?_
  refine lv_aload_n hx hb dX5_takes_5 rfl (lv_at hl 0 rfl) ?_
  refine va_get (v := .ref r1) hx hb hts in_X5 hown hK hP 0 rfl rfl 0 (by decide) (hts _ q207) (fun _ h => h) rfl dX5_takes_6 ?_
  refine lv_iconst (v := nI 0) hx hb dX5_takes_9 (by decide) ?_
  refine lv_aload_n hx hb dX5_takes_10 rfl (lv_at hl 0 rfl) ?_
  refine va_get (v := .ref r1) hx hb hts in_X5 hown hK hP 0 rfl rfl 0 (by decide) (hts _ q207) (fun _ h => h) rfl dX5_takes_11 ?_
  refine va_alen (v := nI N) hx hb hK hP 1 0 rfl rfl rfl dX5_takes_14 ?_
  refine tn_copyA S hE hP hD hS hl.1 5 1 rfl rfl (by omega) q978 (Nat.le_of_ble_eq_true rfl) (Nat.le_of_ble_eq_true rfl) dX5_takes_15 (fun H locs hP hD hS => ?_)
  have hP : va_P D vwCl (ti_wR E N r0 r1 r2 r3 ga fb fc n ++ ti_wR E N t0 t1 t2 t3 ga gb gc m9) H := hP
  have hD : va_D A (ti_wR E N r0 r1 r2 r3 ga fb fc n ++ ti_wR E N t0 t1 t2 t3 ga gb gc m9) := hD
  refine lv_aload_n hx hb dX5_takes_18 rfl (lv_at hl 1 rfl) ?_
  refine va_get (v := .ref t2) hx hb hts in_X5 hown hK hP 4 rfl rfl 1 (by decide) (hts _ q209) (fun _ h => h) rfl dX5_takes_19 ?_
  refine lv_iconst (v := nI 0) hx hb dX5_takes_22 (by decide) ?_
  refine lv_aload_n hx hb dX5_takes_23 rfl (lv_at hl 0 rfl) ?_
  refine va_get (v := .ref r2) hx hb hts in_X5 hown hK hP 0 rfl rfl 1 (by decide) (hts _ q209) (fun _ h => h) rfl dX5_takes_24 ?_
  refine lv_iconst (v := nI 0) hx hb dX5_takes_27 (by decide) ?_
  refine lv_aload_n hx hb dX5_takes_28 rfl (lv_at hl 0 rfl) ?_
  refine va_get (v := .ref r2) hx hb hts in_X5 hown hK hP 0 rfl rfl 1 (by decide) (hts _ q209) (fun _ h => h) rfl dX5_takes_29 ?_
  refine va_alen (v := nI N) hx hb hK hP 2 0 rfl rfl rfl dX5_takes_32 ?_
  refine tn_copyA S hE hP hD hS hl.1 6 2 rfl rfl (by omega) q978 (Nat.le_of_ble_eq_true rfl) (Nat.le_of_ble_eq_true rfl) dX5_takes_33 (fun H locs hP hD hS => ?_)
  have hP : va_P D vwCl (ti_wR E N r0 r1 r2 r3 ga gb fc n ++ ti_wR E N t0 t1 t2 t3 ga gb gc m9) H := hP
  have hD : va_D A (ti_wR E N r0 r1 r2 r3 ga gb fc n ++ ti_wR E N t0 t1 t2 t3 ga gb gc m9) := hD
  refine lv_aload_n hx hb dX5_takes_36 rfl (lv_at hl 1 rfl) ?_
  refine va_get (v := .ref t3) hx hb hts in_X5 hown hK hP 4 rfl rfl 2 (by decide) (hts _ q211) (fun _ h => h) rfl dX5_takes_37 ?_
  refine lv_iconst (v := nI 0) hx hb dX5_takes_40 (by decide) ?_
  refine lv_aload_n hx hb dX5_takes_41 rfl (lv_at hl 0 rfl) ?_
  refine va_get (v := .ref r3) hx hb hts in_X5 hown hK hP 0 rfl rfl 2 (by decide) (hts _ q211) (fun _ h => h) rfl dX5_takes_42 ?_
  refine lv_iconst (v := nI 0) hx hb dX5_takes_45 (by decide) ?_
  refine lv_aload_n hx hb dX5_takes_46 rfl (lv_at hl 0 rfl) ?_
  refine va_get (v := .ref r3) hx hb hts in_X5 hown hK hP 0 rfl rfl 2 (by decide) (hts _ q211) (fun _ h => h) rfl dX5_takes_47 ?_
  refine va_alen (v := nI N) hx hb hK hP 3 0 rfl rfl rfl dX5_takes_50 ?_
  refine tn_copyA S hE hP hD hS hl.1 7 3 rfl rfl (by omega) q978 (Nat.le_of_ble_eq_true rfl) (Nat.le_of_ble_eq_true rfl) dX5_takes_51 (fun H locs hP hD hS => ?_)
  have hP : va_P D vwCl (ti_wR E N r0 r1 r2 r3 ga gb gc n ++ ti_wR E N t0 t1 t2 t3 ga gb gc m9) H := hP
  have hD : va_D A (ti_wR E N r0 r1 r2 r3 ga gb gc n ++ ti_wR E N t0 t1 t2 t3 ga gb gc m9) := hD
  refine lv_aload_n hx hb dX5_takes_54 rfl (lv_at hl 0 rfl) ?_
  refine lv_aload_n hx hb dX5_takes_55 rfl (lv_at hl 1 rfl) ?_
  refine va_get (v := .int (nI m9)) hx hb hts in_X5 hown hK hP 4 rfl rfl 3 (by decide) (hts _ q213) (fun _ h => h) rfl dX5_takes_56 ?_
  refine va_put (ty := .int) hx hb hts in_X5 tyX5 tyX5_ok nmX5 hown hK hP hD hS 0 rfl rfl 3 (by decide) (hts _ q213) (fun _ h => h) rfl rfl rfl rfl (Nat.le_of_ble_eq_true rfl) dX5_takes_59 (fun H locs hP hD hS => ?_)
  have hP : va_P D vwCl (ti_wR E N r0 r1 r2 r3 ga gb gc m9 ++ ti_wR E N t0 t1 t2 t3 ga gb gc m9) H := hP
  have hD : va_D A (ti_wR E N r0 r1 r2 r3 ga gb gc m9 ++ ti_wR E N t0 t1 t2 t3 ga gb gc m9) := hD
  exact hret () _ _ _ _ _ _ dX5_takes_62 (trivial) hP hS (Nat.le_refl _) (Nat.le_refl _)
