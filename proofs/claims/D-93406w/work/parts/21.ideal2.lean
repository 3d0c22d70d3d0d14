/-! TermIdeals$Ideal: the methods that write (printed by w_ideal2.py) -/
set_option maxRecDepth 100000

set_option maxHeartbeats 1000000 in
theorem met_X1_comes (l : Launch) (D : va_G) (E : Nat → ClassId) (h ua ub : Nat) (fa fb : Nat → Nat) (n : Nat) (hn : n < 6) (a b : Nat) : ti_MetM (σ := Unit) l D E yX1_comes cX1_comes 3 none 0 0 0 (ti_wI E h ua ub fa fb n) [.ref h, .int (nI a), .int (nI b)] (fun _ => ti_wI E h ua ub (va_up fa n a) (va_up fb n b) (n + 1)) (fun _ => none) (fun _ => True) := by
  refine ti_mutV (by decide) (Nat.le_of_ble_eq_true rfl) ?_
  intro p e s m below meth c H H0 A Q ls S hE hP hD hS hA hinit hl hret
  have hx := S.1
  have hb := S.2.1
  have hown := S.2.2.2.1
  have hts := S.2.2.2.2
  have hK := hE.1
  have hl : lv_has ls 3 [(0, .ref h), (1, .int (nI a)), (2, .int (nI b))] := hl
  refine lv_aload_n hx hb dX1_comes_0 rfl (lv_at hl 0 rfl) ?_
  refine va_get (v := .ref ua) hx hb hts in_X1 hown hK hP 0 rfl rfl 0 (by decide) (hts _ q109) (fun _ h => h) rfl dX1_comes_1 ?_
  refine lv_aload_n hx hb dX1_comes_4 rfl (lv_at hl 0 rfl) ?_
  refine va_get (v := .int (nI n)) hx hb hts in_X1 hown hK hP 0 rfl rfl 2 (by decide) (hts _ q116) (fun _ h => h) rfl dX1_comes_5 ?_
  refine lv_iload_n hx hb dX1_comes_8 rfl (lv_at hl 1 rfl) ?_
  refine tn_iast hx hb hK hP hD hS 1 0 rfl rfl (by omega) (by decide) dX1_comes_9 (fun H locs hP hD hS => ?_)
  have hP : va_P D vwCl (ti_wI E h ua ub (va_up fa n a) fb n) H := hP
  have hD : va_D A (ti_wI E h ua ub (va_up fa n a) fb n) := hD
  refine lv_aload_n hx hb dX1_comes_10 rfl (lv_at hl 0 rfl) ?_
  refine va_get (v := .ref ub) hx hb hts in_X1 hown hK hP 0 rfl rfl 1 (by decide) (hts _ q112) (fun _ h => h) rfl dX1_comes_11 ?_
  refine lv_aload_n hx hb dX1_comes_14 rfl (lv_at hl 0 rfl) ?_
  refine va_get (v := .int (nI n)) hx hb hts in_X1 hown hK hP 0 rfl rfl 2 (by decide) (hts _ q116) (fun _ h => h) rfl dX1_comes_15 ?_
  refine lv_iload_n hx hb dX1_comes_18 rfl (lv_at hl 2 rfl) ?_
  refine tn_iast hx hb hK hP hD hS 2 0 rfl rfl (by omega) (by decide) dX1_comes_19 (fun H locs hP hD hS => ?_)
  have hP : va_P D vwCl (ti_wI E h ua ub (va_up fa n a) (va_up fb n b) n) H := hP
  have hD : va_D A (ti_wI E h ua ub (va_up fa n a) (va_up fb n b) n) := hD
  refine lv_aload_n hx hb dX1_comes_20 rfl (lv_at hl 0 rfl) ?_
  refine lv_dup hx hb dX1_comes_21 rfl ?_
  refine va_get (v := .int (nI n)) hx hb hts in_X1 hown hK hP 0 rfl rfl 2 (by decide) (hts _ q116) (fun _ h => h) rfl dX1_comes_22 ?_
  refine lv_iconst (v := nI 1) hx hb dX1_comes_25 (by decide) ?_
  refine tn_add hx hb dX1_comes_26 ?_
  refine va_put (ty := .int) hx hb hts in_X1 tyX1 tyX1_ok nmX1 hown hK hP hD hS 0 rfl rfl 2 (by decide) (hts _ q116) (fun _ h => h) rfl rfl rfl rfl (Nat.le_of_ble_eq_true rfl) dX1_comes_27 (fun H locs hP hD hS => ?_)
  have hP : va_P D vwCl (ti_wI E h ua ub (va_up fa n a) (va_up fb n b) (n + 1)) H := hP
  have hD : va_D A (ti_wI E h ua ub (va_up fa n a) (va_up fb n b) (n + 1)) := hD
  exact hret () _ _ _ _ _ _ dX1_comes_30 (trivial) hP hS (Nat.le_refl _) (Nat.le_refl _)

set_option maxHeartbeats 1000000 in
theorem met_X1_takes (l : Launch) (D : va_G) (E : Nat → ClassId) (h ua ub : Nat) (fa fb : Nat → Nat) (n : Nat) (h2 ua2 ub2 : Nat) (fa2 fb2 : Nat → Nat) (n2 : Nat) : ti_MetM (σ := Unit) l D E yX1_takes cX1_takes 2 none 1 0 0 (ti_wI E h ua ub fa fb n ++ ti_wI E h2 ua2 ub2 fa2 fb2 n2) [.ref h, .ref h2] (fun _ => ti_wI E h ua ub fa2 fb2 n2 ++ ti_wI E h2 ua2 ub2 fa2 fb2 n2) (fun _ => none) (fun _ => True) := by
  refine ti_mutV (by decide) (Nat.le_of_ble_eq_true rfl) ?_
  intro p e s m below meth c H H0 A Q ls S hE hP hD hS hA hinit hl hret
  have hx := S.1
  have hb := S.2.1
  have hown := S.2.2.2.1
  have hts := S.2.2.2.2
  have hK := hE.1
  have hl : lv_has ls 2 [(0, .ref h), (1, .ref h2)] := hl
  refine lv_aload_n hx hb dX1_takes_0 rfl (lv_at hl 1 rfl) ?_
  refine va_get (v := .ref ua2) hx hb hts in_X1 hown hK hP 3 rfl rfl 0 (by decide) (hts _ q109) (fun _ h => h) rfl dX1_takes_1 ?_
  refine lv_iconst (v := nI 0) hx hb dX1_takes_4 (by decide) ?_
  refine lv_aload_n hx hb dX1_takes_5 rfl (lv_at hl 0 rfl) ?_
  refine va_get (v := .ref ua) hx hb hts in_X1 hown hK hP 0 rfl rfl 0 (by decide) (hts _ q109) (fun _ h => h) rfl dX1_takes_6 ?_
  refine lv_iconst (v := nI 0) hx hb dX1_takes_9 (by decide) ?_
  refine lv_bipush (v := nI 6) hx hb dX1_takes_10 (by decide) ?_
  refine tn_copyA S hE hP hD hS hl.1 4 1 rfl rfl (by decide) q320 (Nat.le_of_ble_eq_true rfl) (Nat.le_of_ble_eq_true rfl) dX1_takes_12 (fun H locs hP hD hS => ?_)
  have hP : va_P D vwCl (ti_wI E h ua ub fa2 fb n ++ ti_wI E h2 ua2 ub2 fa2 fb2 n2) H := hP
  have hD : va_D A (ti_wI E h ua ub fa2 fb n ++ ti_wI E h2 ua2 ub2 fa2 fb2 n2) := hD
  refine lv_aload_n hx hb dX1_takes_15 rfl (lv_at hl 1 rfl) ?_
  refine va_get (v := .ref ub2) hx hb hts in_X1 hown hK hP 3 rfl rfl 1 (by decide) (hts _ q112) (fun _ h => h) rfl dX1_takes_16 ?_
  refine lv_iconst (v := nI 0) hx hb dX1_takes_19 (by decide) ?_
  refine lv_aload_n hx hb dX1_takes_20 rfl (lv_at hl 0 rfl) ?_
  refine va_get (v := .ref ub) hx hb hts in_X1 hown hK hP 0 rfl rfl 1 (by decide) (hts _ q112) (fun _ h => h) rfl dX1_takes_21 ?_
  refine lv_iconst (v := nI 0) hx hb dX1_takes_24 (by decide) ?_
  refine lv_bipush (v := nI 6) hx hb dX1_takes_25 (by decide) ?_
  refine tn_copyA S hE hP hD hS hl.1 5 2 rfl rfl (by decide) q320 (Nat.le_of_ble_eq_true rfl) (Nat.le_of_ble_eq_true rfl) dX1_takes_27 (fun H locs hP hD hS => ?_)
  have hP : va_P D vwCl (ti_wI E h ua ub fa2 fb2 n ++ ti_wI E h2 ua2 ub2 fa2 fb2 n2) H := hP
  have hD : va_D A (ti_wI E h ua ub fa2 fb2 n ++ ti_wI E h2 ua2 ub2 fa2 fb2 n2) := hD
  refine lv_aload_n hx hb dX1_takes_30 rfl (lv_at hl 0 rfl) ?_
  refine lv_aload_n hx hb dX1_takes_31 rfl (lv_at hl 1 rfl) ?_
  refine va_get (v := .int (nI n2)) hx hb hts in_X1 hown hK hP 3 rfl rfl 2 (by decide) (hts _ q116) (fun _ h => h) rfl dX1_takes_32 ?_
  refine va_put (ty := .int) hx hb hts in_X1 tyX1 tyX1_ok nmX1 hown hK hP hD hS 0 rfl rfl 2 (by decide) (hts _ q116) (fun _ h => h) rfl rfl rfl rfl (Nat.le_of_ble_eq_true rfl) dX1_takes_35 (fun H locs hP hD hS => ?_)
  have hP : va_P D vwCl (ti_wI E h ua ub fa2 fb2 n2 ++ ti_wI E h2 ua2 ub2 fa2 fb2 n2) H := hP
  have hD : va_D A (ti_wI E h ua ub fa2 fb2 n2 ++ ti_wI E h2 ua2 ub2 fa2 fb2 n2) := hD
  exact hret () _ _ _ _ _ _ dX1_takes_38 (trivial) hP hS (Nat.le_refl _) (Nat.le_refl _)

set_option maxHeartbeats 1000000 in
theorem met_X1_goes (l : Launch) (D : va_G) (E : Nat → ClassId) (h ua ub : Nat) (fa fb : Nat → Nat) (n : Nat) (hn : n ≤ 6) (k : Nat) (hk : k < n) : ti_MetM (σ := Unit) l D E yX1_goes cX1_goes 3 none 0 0 0 (ti_wI E h ua ub fa fb n) [.ref h, .int (nI k)] (fun _ => ti_wI E h ua ub (ti_sh k (n - 1) fa) (ti_sh k (n - 1) fb) (n - 1)) (fun _ => none) (fun _ => True) := by
  refine ti_mutV (by decide) (Nat.le_of_ble_eq_true rfl) ?_
  intro p e s m below meth c H H0 A Q ls S hE hP hD hS hA hinit hl hret
  have hx := S.1
  have hb := S.2.1
  have hown := S.2.2.2.1
  have hts := S.2.2.2.2
  have hK := hE.1
  have hl : lv_has ls 3 [(0, .ref h), (1, .int (nI k))] := hl
  refine lv_aload_n hx hb dX1_goes_0 rfl (lv_at hl 0 rfl) ?_
  refine lv_dup hx hb dX1_goes_1 rfl ?_
  refine va_get (v := .int (nI n)) hx hb hts in_X1 hown hK hP 0 rfl rfl 2 (by decide) (hts _ q116) (fun _ h => h) rfl dX1_goes_2 ?_
  refine lv_iconst (v := nI 1) hx hb dX1_goes_5 (by decide) ?_
  refine tn_sub hx hb dX1_goes_6 (by omega) ?_
  refine va_put (ty := .int) hx hb hts in_X1 tyX1 tyX1_ok nmX1 hown hK hP hD hS 0 rfl rfl 2 (by decide) (hts _ q116) (fun _ h => h) rfl rfl rfl rfl (Nat.le_of_ble_eq_true rfl) dX1_goes_7 (fun H locs hP hD hS => ?_)
  have hP : va_P D vwCl (ti_wI E h ua ub fa fb (n - 1)) H := hP
  have hD : va_D A (ti_wI E h ua ub fa fb (n - 1)) := hD
  refine lv_iload_n hx hb dX1_goes_10 rfl (lv_at hl 1 rfl) ?_
  refine lv_istore_n (lv' := [(2, .int (nI k)), (0, .ref h), (1, .int (nI k))]) hx hb dX1_goes_11 rfl hl (by decide) rfl (fun ls hl => ?_)
  have L12 : ∀ (N : Nat) (i : Nat) (f1 f2 : Nat → Nat) (ls : Array Slot) (H : Heap) (locs : List Loc), va_P D vwCl (ti_wI E h ua ub f1 f2 (n - 1)) H → va_D A (ti_wI E h ua ub f1 f2 (n - 1)) → va_S A H0 H locs → (n - i) < N → (k ≤ i) → (i ≤ n - 1) → (f1 = ti_sh k i fa) → (f2 = ti_sh k i fb) → lv_has ls 3 [(0, .ref h), (1, .int (nI k)), (2, .int (nI i))] → W p l e (ti_rm 0 0 0) s m ([.ref h, .int (nI k)] : List Value).toArray below meth c H locs 0 0 Q (F0 m 12 ls []) := by
    intro N
    induction N with
    | zero => intro i f1 f2 ls H locs hP hD hS h0; exact absurd h0 (Nat.not_lt_zero _)
    | succ N ih12 =>
      intro i f1 f2 ls H locs hP hD hS hN hki hin e1 e2 hl
      refine lv_iload_n hx hb dX1_goes_12 rfl (lv_at hl 2 rfl) ?_
      refine lv_aload_n hx hb dX1_goes_13 rfl (lv_at hl 0 rfl) ?_
      refine va_get (v := .int (nI (n - 1))) hx hb hts in_X1 hown hK hP 0 rfl rfl 2 (by decide) (hts _ q116) (fun _ h => h) rfl dX1_goes_14 ?_
      refine tn_ge (tgt := 54) hx hb dX1_goes_17 (by decide) (by omega) (by omega) (fun c17 => ?_) (fun c17 => ?_)
      · skip
        obtain rfl : i = n - 1 := by omega
        subst e1
        subst e2
        exact hret () _ _ _ _ _ _ dX1_goes_54 (trivial) hP hS (Nat.le_refl _) (Nat.le_refl _)
      · skip
        refine lv_aload_n hx hb dX1_goes_20 rfl (lv_at hl 0 rfl) ?_
        refine va_get (v := .ref ua) hx hb hts in_X1 hown hK hP 0 rfl rfl 0 (by decide) (hts _ q109) (fun _ h => h) rfl dX1_goes_21 ?_
        refine lv_iload_n hx hb dX1_goes_24 rfl (lv_at hl 2 rfl) ?_
        refine lv_aload_n hx hb dX1_goes_25 rfl (lv_at hl 0 rfl) ?_
        refine va_get (v := .ref ua) hx hb hts in_X1 hown hK hP 0 rfl rfl 0 (by decide) (hts _ q109) (fun _ h => h) rfl dX1_goes_26 ?_
        refine lv_iload_n hx hb dX1_goes_29 rfl (lv_at hl 2 rfl) ?_
        refine lv_iconst (v := nI 1) hx hb dX1_goes_30 (by decide) ?_
        refine tn_add hx hb dX1_goes_31 ?_
        refine tn_iald hx hb hK hP 1 0 rfl rfl (by omega) (by decide) dX1_goes_32 ?_
        refine tn_iast hx hb hK hP hD hS 1 0 rfl rfl (by omega) (by decide) dX1_goes_33 (fun H locs hP hD hS => ?_)
        have hP : va_P D vwCl (ti_wI E h ua ub (va_up f1 i (f1 (i + 1))) f2 (n - 1)) H := hP
        have hD : va_D A (ti_wI E h ua ub (va_up f1 i (f1 (i + 1))) f2 (n - 1)) := hD
        refine lv_aload_n hx hb dX1_goes_34 rfl (lv_at hl 0 rfl) ?_
        refine va_get (v := .ref ub) hx hb hts in_X1 hown hK hP 0 rfl rfl 1 (by decide) (hts _ q112) (fun _ h => h) rfl dX1_goes_35 ?_
        refine lv_iload_n hx hb dX1_goes_38 rfl (lv_at hl 2 rfl) ?_
        refine lv_aload_n hx hb dX1_goes_39 rfl (lv_at hl 0 rfl) ?_
        refine va_get (v := .ref ub) hx hb hts in_X1 hown hK hP 0 rfl rfl 1 (by decide) (hts _ q112) (fun _ h => h) rfl dX1_goes_40 ?_
        refine lv_iload_n hx hb dX1_goes_43 rfl (lv_at hl 2 rfl) ?_
        refine lv_iconst (v := nI 1) hx hb dX1_goes_44 (by decide) ?_
        refine tn_add hx hb dX1_goes_45 ?_
        refine tn_iald hx hb hK hP 2 0 rfl rfl (by omega) (by decide) dX1_goes_46 ?_
        refine tn_iast hx hb hK hP hD hS 2 0 rfl rfl (by omega) (by decide) dX1_goes_47 (fun H locs hP hD hS => ?_)
        have hP : va_P D vwCl (ti_wI E h ua ub (va_up f1 i (f1 (i + 1))) (va_up f2 i (f2 (i + 1))) (n - 1)) H := hP
        have hD : va_D A (ti_wI E h ua ub (va_up f1 i (f1 (i + 1))) (va_up f2 i (f2 (i + 1))) (n - 1)) := hD
        refine lv_iinc (v := nI (i + 1)) (lv' := [(2, .int (nI (i + 1))), (0, .ref h), (1, .int (nI k))]) hx hb dX1_goes_48 hl (k := 2) rfl (nI_1 i) (by decide) rfl (fun ls hl => ?_)
        refine lv_goto (tgt := 12) hx hb dX1_goes_51 (by decide) ?_
        exact ih12 (i + 1) (va_up f1 i (f1 (i + 1))) (va_up f2 i (f2 (i + 1))) _ _ _ hP hD hS (by omega) (by omega) (by omega) (by rw [e1]; exact ti_sh_up hki fa) (by rw [e2]; exact ti_sh_up hki fb) (lv_sub hl [1, 2, 0] rfl)
  exact L12 _ k fa fb _ _ _ hP hD hS (Nat.lt_succ_self _) (by omega) (by omega) (ti_sh_0 k fa).symm (ti_sh_0 k fb).symm (lv_sub hl [1, 2, 0] rfl)

set_option maxHeartbeats 1000000 in
theorem met_X1_lessens (l : Launch) (D : va_G) (E : Nat → ClassId) (h ua ub : Nat) (fa fb : Nat → Nat) (n : Nat) (hn : n ≤ 6) (hfa : ∀ k, fa k ≤ 9) (hfb : ∀ k, fb k ≤ 9) (d : Nat) (hd : d ≤ 9) : ti_MetM (σ := (Nat → Nat) × (Nat → Nat) × Nat) l D E yX1_lessens cX1_lessens 6 none 2 0 0 (ti_wI E h ua ub fa fb n) [.ref h, .int (nI d)] (fun u => ti_wI E h ua ub u.1 u.2.1 u.2.2) (fun _ => none) (fun u => ti_gr u.1 u.2.1 0 u.2.2 = ti_ls d (ti_gr fa fb 0 n) [] ∧ u.2.2 ≤ 6 ∧ (∀ k, u.1 k ≤ 9) ∧ (∀ k, u.2.1 k ≤ 9)) := by
  refine ti_mutV (by decide) (Nat.le_of_ble_eq_true rfl) ?_
  intro p e s m below meth c H H0 A Q ls S hE hP hD hS hA hinit hl hret
  have hx := S.1
  have hb := S.2.1
  have hown := S.2.2.2.1
  have hts := S.2.2.2.2
  have hK := hE.1
  have hl : lv_has ls 6 [(0, .ref h), (1, .int (nI d))] := hl
  refine lv_aload_n hx hb dX1_lessens_0 rfl (lv_at hl 0 rfl) ?_
  refine va_get (v := .int (nI n)) hx hb hts in_X1 hown hK hP 0 rfl rfl 2 (by decide) (hts _ q116) (fun _ h => h) rfl dX1_lessens_1 ?_
  refine lv_istore_n (lv' := [(2, .int (nI n)), (0, .ref h), (1, .int (nI d))]) hx hb dX1_lessens_4 rfl hl (by decide) rfl (fun ls hl => ?_)
  refine lv_aload_n hx hb dX1_lessens_5 rfl (lv_at hl 1 rfl) ?_
  refine lv_iconst (v := nI 0) hx hb dX1_lessens_6 (by decide) ?_
  refine va_put (ty := .int) hx hb hts in_X1 tyX1 tyX1_ok nmX1 hown hK hP hD hS 0 rfl rfl 2 (by decide) (hts _ q116) (fun _ h => h) rfl rfl rfl rfl (Nat.le_of_ble_eq_true rfl) dX1_lessens_7 (fun H locs hP hD hS => ?_)
  have hP : va_P D vwCl (ti_wI E h ua ub fa fb 0) H := hP
  have hD : va_D A (ti_wI E h ua ub fa fb 0) := hD
  refine lv_iconst (v := nI 0) hx hb dX1_lessens_10 (by decide) ?_
  refine lv_istore_n (lv' := [(3, .int (nI 0)), (2, .int (nI n)), (0, .ref h), (1, .int (nI d))]) hx hb dX1_lessens_11 rfl hl (by decide) rfl (fun ls hl => ?_)
  have L12 : ∀ (N : Nat) (k z : Nat) (f1 f2 : Nat → Nat) (ls : Array Slot) (H : Heap) (locs : List Loc), va_P D vwCl (ti_wI E h ua ub f1 f2 z) H → va_D A (ti_wI E h ua ub f1 f2 z) → va_S A H0 H locs → (n - k) < N → (k ≤ n) → (z ≤ k) → (∀ j, k ≤ j → f1 j = fa j) → (∀ j, k ≤ j → f2 j = fb j) → (∀ j, f1 j ≤ 9) → (∀ j, f2 j ≤ 9) → (ti_ls d (ti_gr fa fb 0 n) [] = ti_ls d (ti_gr fa fb k (n - k)) (ti_gr f1 f2 0 z)) → lv_has ls 6 [(0, .ref h), (1, .int (nI d)), (2, .int (nI n)), (3, .int (nI k))] → W p l e (ti_rm 2 0 0) s m ([.ref h, .int (nI d)] : List Value).toArray below meth c H locs 0 0 Q (F0 m 12 ls []) := by
    intro N
    induction N with
    | zero => intro k z f1 f2 ls H locs hP hD hS h0; exact absurd h0 (Nat.not_lt_zero _)
    | succ N ih12 =>
      intro k z f1 f2 ls H locs hP hD hS hN hkn hz hf1 hf2 hb1 hb2 hv hl
      refine lv_iload_n hx hb dX1_lessens_12 rfl (lv_at hl 3 rfl) ?_
      refine lv_iload_n hx hb dX1_lessens_13 rfl (lv_at hl 2 rfl) ?_
      refine tn_ge (tgt := 72) hx hb dX1_lessens_14 (by decide) (by omega) (by omega) (fun c14 => ?_) (fun c14 => ?_)
      · skip
        rw [show n - k = 0 by omega, ti_gr_0] at hv
        exact hret (f1, f2, z) _ _ _ _ _ _ dX1_lessens_72 (⟨hv.symm, by show z ≤ 6; omega, hb1, hb2⟩) hP hS (Nat.le_refl _) (Nat.le_refl _)
      · skip
        obtain ⟨m9, hm9⟩ : ∃ m9, n - k = m9 + 1 := ⟨n - k - 1, by omega⟩
        rw [hm9, ti_gr_s] at hv
        refine lv_iconst (v := nI 0) hx hb dX1_lessens_17 (by decide) ?_
        refine lv_aload_n hx hb dX1_lessens_18 rfl (lv_at hl 0 rfl) ?_
        refine va_get (v := .ref ua) hx hb hts in_X1 hown hK hP 0 rfl rfl 0 (by decide) (hts _ q109) (fun _ h => h) rfl dX1_lessens_19 ?_
        refine lv_iload_n hx hb dX1_lessens_22 rfl (lv_at hl 3 rfl) ?_
        refine tn_iald hx hb hK hP 1 0 rfl rfl (by omega) (by decide) dX1_lessens_23 ?_
        have b23 := hb1 k
        refine lv_iload_n hx hb dX1_lessens_24 rfl (lv_at hl 1 rfl) ?_
        refine lv_isub hx hb dX1_lessens_25 ?_
        have e1 : f1 k - d = fa k - d := by rw [hf1 k (Nat.le_refl _)]
        refine tn_maxsub S hl.1 q874 (Nat.le_of_ble_eq_true rfl) (Nat.le_of_ble_eq_true rfl) ⟨Nat.le_refl _, Nat.le_refl _⟩ (by omega) (by omega) dX1_lessens_26 ?_
        refine lv_istore (lv' := [(4, .int (nI (f1 k - d))), (0, .ref h), (1, .int (nI d)), (2, .int (nI n)), (3, .int (nI k))]) hx hb dX1_lessens_29 hl (by decide) rfl (fun ls hl => ?_)
        refine lv_iconst (v := nI 0) hx hb dX1_lessens_31 (by decide) ?_
        refine lv_aload_n hx hb dX1_lessens_32 rfl (lv_at hl 1 rfl) ?_
        refine va_get (v := .ref ub) hx hb hts in_X1 hown hK hP 0 rfl rfl 1 (by decide) (hts _ q112) (fun _ h => h) rfl dX1_lessens_33 ?_
        refine lv_iload_n hx hb dX1_lessens_36 rfl (lv_at hl 4 rfl) ?_
        refine tn_iald hx hb hK hP 2 0 rfl rfl (by omega) (by decide) dX1_lessens_37 ?_
        have b37 := hb2 k
        refine lv_iload_n hx hb dX1_lessens_38 rfl (lv_at hl 2 rfl) ?_
        refine lv_isub hx hb dX1_lessens_39 ?_
        have e2 : f2 k - d = fb k - d := by rw [hf2 k (Nat.le_refl _)]
        refine tn_maxsub S hl.1 q874 (Nat.le_of_ble_eq_true rfl) (Nat.le_of_ble_eq_true rfl) ⟨Nat.le_refl _, Nat.le_refl _⟩ (by omega) (by omega) dX1_lessens_40 ?_
        refine lv_istore (lv' := [(5, .int (nI (f2 k - d))), (4, .int (nI (f1 k - d))), (0, .ref h), (1, .int (nI d)), (2, .int (nI n)), (3, .int (nI k))]) hx hb dX1_lessens_43 hl (by decide) rfl (fun ls hl => ?_)
        refine lv_aload_n hx hb dX1_lessens_45 rfl (lv_at hl 2 rfl) ?_
        refine lv_iload hx hb dX1_lessens_46 (lv_at hl 1 rfl) ?_
        refine lv_iload hx hb dX1_lessens_48 (lv_at hl 0 rfl) ?_
        refine ti_pV (As := [.int (nI (f1 k - d)), .int (nI (f2 k - d))]) (rest := []) (v := .int (ti_px (ti_pl (f1 k - d) (f2 k - d) (ti_gr f1 f2 0 z) 0))) S hE hP [0, 1, 2] (met_X1_placeOf l D E h ua ub f1 f2 z (by omega) hb1 hb2 (f1 k - d) (f2 k - d) (by omega) (by omega)) rfl (lw_V q877 q309 q310 q67 q311) 2 rfl 0 rfl rfl (by decide +kernel) ⟨Nat.le_of_ble_eq_true rfl, Nat.le_of_ble_eq_true rfl⟩ hl.1 rfl (Nat.le_of_ble_eq_true rfl) ⟨Nat.le_refl _, Nat.le_refl _⟩ dX1_lessens_50 ?_
        refine lv_bipush (v := (-5)) hx hb dX1_lessens_53 (by decide) ?_
        refine lv_icmp_ne (tgt := 66) hx hb dX1_lessens_55 (by decide) (fun c55 => ?_) (fun c55 => ?_)
        · skip
          refine lv_iinc (v := nI (k + 1)) (lv' := [(3, .int (nI (k + 1))), (5, .int (nI (f2 k - d))), (4, .int (nI (f1 k - d))), (0, .ref h), (1, .int (nI d)), (2, .int (nI n))]) hx hb dX1_lessens_66 hl (k := 5) rfl (nI_1 k) (by decide) rfl (fun ls hl => ?_)
          refine lv_goto (tgt := 12) hx hb dX1_lessens_69 (by decide) ?_
          exact ih12 (k + 1) z f1 f2 _ _ _ hP hD hS (by omega) (by omega) (by omega) (fun j hj => hf1 j (by omega)) (fun j hj => hf2 j (by omega)) (hb1) (hb2) (by rw [hv]; show ti_ls d (ti_gr fa fb (k + 1) m9) (if (fa k - d, fb k - d) ∈ ti_gr f1 f2 0 z then ti_gr f1 f2 0 z else ti_gr f1 f2 0 z ++ [(fa k - d, fb k - d)]) = _; rw [if_pos (by rw [← e1, ← e2]; exact Classical.not_not.mp fun z9 => c55 ((ti_place5 (by rw [ti_gr_len]; omega)).mpr z9)), show n - (k + 1) = m9 by omega]) (lv_sub hl [3, 4, 5, 0] rfl)
        · skip
          refine lv_aload_n hx hb dX1_lessens_58 rfl (lv_at hl 2 rfl) ?_
          refine lv_iload hx hb dX1_lessens_59 (lv_at hl 1 rfl) ?_
          refine lv_iload hx hb dX1_lessens_61 (lv_at hl 0 rfl) ?_
          refine ti_mV (As := [.int (nI (f1 k - d)), .int (nI (f2 k - d))]) (rest := []) S hE hP hD hS hA [0, 1, 2] rfl (met_X1_comes l D E h ua ub f1 f2 z (by omega) (f1 k - d) (f2 k - d)) rfl (fun _ => rfl) (lw_V q878 q324 q325 q67 q326) 2 rfl 0 rfl rfl (by decide +kernel) ⟨Nat.le_of_ble_eq_true rfl, Nat.le_of_ble_eq_true rfl⟩ hl.1 rfl (Nat.le_of_ble_eq_true rfl) ⟨Nat.le_refl _, Nat.le_refl _⟩ dX1_lessens_63 (fun _ H locs hu hP hD hS => ?_)
          have hP : va_P D vwCl (ti_wI E h ua ub (va_up f1 z (f1 k - d)) (va_up f2 z (f2 k - d)) (z + 1)) H := hP
          have hD : va_D A (ti_wI E h ua ub (va_up f1 z (f1 k - d)) (va_up f2 z (f2 k - d)) (z + 1)) := hD
          refine W.eq (g2 := F0 m 66 ls []) rfl ?_
          refine lv_iinc (v := nI (k + 1)) (lv' := [(3, .int (nI (k + 1))), (5, .int (nI (f2 k - d))), (4, .int (nI (f1 k - d))), (0, .ref h), (1, .int (nI d)), (2, .int (nI n))]) hx hb dX1_lessens_66 hl (k := 5) rfl (nI_1 k) (by decide) rfl (fun ls hl => ?_)
          refine lv_goto (tgt := 12) hx hb dX1_lessens_69 (by decide) ?_
          exact ih12 (k + 1) (z + 1) (va_up f1 z (f1 k - d)) (va_up f2 z (f2 k - d)) _ _ _ hP hD hS (by omega) (by omega) (by omega) (fun j hj => by rw [va_up_ne _ _ (by omega)]; exact hf1 j (by omega)) (fun j hj => by rw [va_up_ne _ _ (by omega)]; exact hf2 j (by omega)) (ti_up_le hb1 (by omega)) (ti_up_le hb2 (by omega)) (by rw [hv]; show ti_ls d (ti_gr fa fb (k + 1) m9) (if (fa k - d, fb k - d) ∈ ti_gr f1 f2 0 z then ti_gr f1 f2 0 z else ti_gr f1 f2 0 z ++ [(fa k - d, fb k - d)]) = _; rw [if_neg (by rw [← e1, ← e2]; exact (ti_place5 (by rw [ti_gr_len]; omega)).mp c55), ← e1, ← e2, ← ti_gr_push, show n - (k + 1) = m9 by omega]) (lv_sub hl [3, 4, 5, 0] rfl)
  exact L12 _ 0 0 fa fb _ _ _ hP hD hS (Nat.lt_succ_self _) (by omega) (by omega) (fun _ _ => rfl) (fun _ _ => rfl) (hfa) (hfb) (rfl) (lv_sub hl [2, 3, 1, 0] rfl)
