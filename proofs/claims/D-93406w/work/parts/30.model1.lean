/-! TermIdealsModel: generators (printed by w_model1.py) -/
set_option maxRecDepth 100000

set_option maxHeartbeats 1000000 in
theorem met_X7_a (l : Launch) (D : va_G) (E : Nat → ClassId) (ad : Nat → Nat) (xg : ti_Mg) (xd : ti_Md) (xt : ti_Mt) (xf : ti_Mf) (xj : ti_Mj) (xh : ti_Mh) (xs : ti_Ms) (xv : ti_Mv) (xb : ti_Mb) (xq : ti_Mq) (xk : ti_Mk) (i k : Nat) (hik : 6 * i + k < 18) : ti_MetP l D E yX7_a cX7_a 3 (some .int) 0 (ti_wM E ad xg xd xt xf xj xh xs xv xb xq xk) [.ref (ad 0), .int (nI i), .int (nI k)] (some (.int (nI (ti_ma xg i k)))) := by
  refine ti_pureI (by decide) (Nat.le_of_ble_eq_true rfl) ?_
  intro p e s m below meth c H locs Q ls S hE hP hl hret
  have hx := S.1
  have hb := S.2.1
  have hown := S.2.2.2.1
  have hts := S.2.2.2.2
  have hK := hE.1
  have hl : lv_has ls 3 [(0, .ref (ad 0)), (1, .int (nI i)), (2, .int (nI k))] := hl
  refine lv_aload_n hx hb dX7_a_0 rfl (lv_at hl 0 rfl) ?_
  refine va_get (v := .ref (ad 2)) hx hb hts in_X7 hown hK hP 0 rfl rfl 1 (by decide) (hts _ q1089) (fun _ h => h) rfl dX7_a_1 ?_
  refine lv_bipush (v := nI 6) hx hb dX7_a_4 (by decide) ?_
  refine lv_iload_n hx hb dX7_a_6 rfl (lv_at hl 1 rfl) ?_
  refine tn_mul hx hb dX7_a_7 ?_
  refine lv_iload_n hx hb dX7_a_8 rfl (lv_at hl 2 rfl) ?_
  refine tn_add hx hb dX7_a_9 ?_
  refine tn_iald (f := xg.2.1) hx hb hK hP 2 0 rfl rfl (by omega) (by decide) dX7_a_10 ?_
  exact hret _ _ _ dX7_a_11 (rfl)

set_option maxHeartbeats 1000000 in
theorem met_X7_b (l : Launch) (D : va_G) (E : Nat → ClassId) (ad : Nat → Nat) (xg : ti_Mg) (xd : ti_Md) (xt : ti_Mt) (xf : ti_Mf) (xj : ti_Mj) (xh : ti_Mh) (xs : ti_Ms) (xv : ti_Mv) (xb : ti_Mb) (xq : ti_Mq) (xk : ti_Mk) (i k : Nat) (hik : 6 * i + k < 18) : ti_MetP l D E yX7_b cX7_b 3 (some .int) 0 (ti_wM E ad xg xd xt xf xj xh xs xv xb xq xk) [.ref (ad 0), .int (nI i), .int (nI k)] (some (.int (nI (ti_mb xg i k)))) := by
  refine ti_pureI (by decide) (Nat.le_of_ble_eq_true rfl) ?_
  intro p e s m below meth c H locs Q ls S hE hP hl hret
  have hx := S.1
  have hb := S.2.1
  have hown := S.2.2.2.1
  have hts := S.2.2.2.2
  have hK := hE.1
  have hl : lv_has ls 3 [(0, .ref (ad 0)), (1, .int (nI i)), (2, .int (nI k))] := hl
  refine lv_aload_n hx hb dX7_b_0 rfl (lv_at hl 0 rfl) ?_
  refine va_get (v := .ref (ad 3)) hx hb hts in_X7 hown hK hP 0 rfl rfl 2 (by decide) (hts _ q1090) (fun _ h => h) rfl dX7_b_1 ?_
  refine lv_bipush (v := nI 6) hx hb dX7_b_4 (by decide) ?_
  refine lv_iload_n hx hb dX7_b_6 rfl (lv_at hl 1 rfl) ?_
  refine tn_mul hx hb dX7_b_7 ?_
  refine lv_iload_n hx hb dX7_b_8 rfl (lv_at hl 2 rfl) ?_
  refine tn_add hx hb dX7_b_9 ?_
  refine tn_iald (f := xg.2.2) hx hb hK hP 3 0 rfl rfl (by omega) (by decide) dX7_b_10 ?_
  exact hret _ _ _ dX7_b_11 (rfl)

set_option maxHeartbeats 1000000 in
theorem met_X7_which (l : Launch) (D : va_G) (E : Nat → ClassId) (ad : Nat → Nat) (xg : ti_Mg) (xd : ti_Md) (xt : ti_Mt) (xf : ti_Mf) (xj : ti_Mj) (xh : ti_Mh) (xs : ti_Ms) (xv : ti_Mv) (xb : ti_Mb) (xq : ti_Mq) (xk : ti_Mk) (hxg : ti_Mgok xg) (i : Nat) (hi : i < 3) (a b : Nat) (ha9 : a ≤ 9) (hb9 : b ≤ 9) : ti_MetP l D E yX7_which cX7_which 5 (some .int) 1 (ti_wM E ad xg xd xt xf xj xh xs xv xb xq xk) [.ref (ad 0), .int (nI i), .int (nI a), .int (nI b)] (some (.int (ti_pm (ti_pl a b (ti_gr (ti_ma xg i) (ti_mb xg i) 0 (xg.1 i)) 0)))) := by
  refine ti_pureI (by decide) (Nat.le_of_ble_eq_true rfl) ?_
  intro p e s m below meth c H locs Q ls S hE hP hl hret
  have hx := S.1
  have hb := S.2.1
  have hown := S.2.2.2.1
  have hts := S.2.2.2.2
  have hK := hE.1
  have hl : lv_has ls 5 [(0, .ref (ad 0)), (1, .int (nI i)), (2, .int (nI a)), (3, .int (nI b))] := hl
  refine lv_iconst (v := nI 0) hx hb dX7_which_0 (by decide) ?_
  refine lv_istore (lv' := [(4, .int (nI 0)), (0, .ref (ad 0)), (1, .int (nI i)), (2, .int (nI a)), (3, .int (nI b))]) hx hb dX7_which_1 hl (by decide) rfl (fun ls hl => ?_)
  have L3 : ∀ (N : Nat) (k : Nat) (ls : Array Slot), (xg.1 i - k) < N → (k ≤ xg.1 i) → (ti_pm (ti_pl a b (ti_gr (ti_ma xg i) (ti_mb xg i) 0 (xg.1 i)) 0) = ti_pm (ti_pl a b (ti_gr (ti_ma xg i) (ti_mb xg i) k (xg.1 i - k)) k)) → lv_has ls 5 [(0, .ref (ad 0)), (1, .int (nI i)), (2, .int (nI a)), (3, .int (nI b)), (4, .int (nI k))] → W p l e (ti_rm 1 0 0) s m ([.ref (ad 0), .int (nI i), .int (nI a), .int (nI b)] : List Value).toArray below meth c H locs 0 0 Q (F0 m 3 ls []) := by
    intro N
    induction N with
    | zero => intro k ls h0; exact absurd h0 (Nat.not_lt_zero _)
    | succ N ih3 =>
      intro k ls hN hkn hv hl
      refine lv_iload hx hb dX7_which_3 (lv_at hl 4 rfl) ?_
      refine lv_aload_n hx hb dX7_which_5 rfl (lv_at hl 0 rfl) ?_
      refine va_get (v := .ref (ad 1)) hx hb hts in_X7 hown hK hP 0 rfl rfl 0 (by decide) (hts _ q1088) (fun _ h => h) rfl dX7_which_6 ?_
      refine lv_iload_n hx hb dX7_which_9 rfl (lv_at hl 1 rfl) ?_
      refine tn_iald (f := xg.1) hx hb hK hP 1 0 rfl rfl (by omega) (by decide) dX7_which_10 ?_
      have b10 := hxg.1 i
      refine tn_ge (tgt := 45) hx hb dX7_which_11 (by decide) (by omega) (by omega) (fun c11 => ?_) (fun c11 => ?_)
      · skip
        rw [show xg.1 i - k = 0 by omega, ti_gr_0] at hv
        refine lv_iconst (v := (-1)) hx hb dX7_which_45 (by decide) ?_
        exact hret _ _ _ dX7_which_46 (by rw [hv]; rfl)
      · skip
        obtain ⟨m9, hm9⟩ : ∃ m9, xg.1 i - k = m9 + 1 := ⟨xg.1 i - k - 1, by omega⟩
        rw [hm9, ti_gr_s] at hv
        refine lv_aload_n hx hb dX7_which_14 rfl (lv_at hl 0 rfl) ?_
        refine lv_iload_n hx hb dX7_which_15 rfl (lv_at hl 1 rfl) ?_
        refine lv_iload hx hb dX7_which_16 (lv_at hl 4 rfl) ?_
        refine ti_pVa (As := [.int (nI i), .int (nI k)]) (rest := []) (v := .int (nI (ti_ma xg i k))) S hE hP (met_X7_a l D E ad xg xd xt xf xj xh xs xv xb xq xk i k (by omega)) (lw_V q1245 q1247 qs26 q73 q1248) 2 rfl 0 rfl rfl (by decide +kernel) ⟨Nat.le_of_ble_eq_true rfl, Nat.le_of_ble_eq_true rfl⟩ hl.1 rfl (Nat.le_of_ble_eq_true rfl) ⟨Nat.le_refl _, Nat.le_refl _⟩ dX7_which_18 ?_
        have ha18 : ti_ma xg i k ≤ 9 := hxg.2.1 _
        refine lv_iload_n hx hb dX7_which_21 rfl (lv_at hl 2 rfl) ?_
        refine tn_ne (tgt := 39) hx hb dX7_which_22 (by decide) (by omega) (by omega) (fun c22 => ?_) (fun c22 => ?_)
        · skip
          refine lv_iinc (v := nI (k + 1)) (lv' := [(4, .int (nI (k + 1))), (0, .ref (ad 0)), (1, .int (nI i)), (2, .int (nI a)), (3, .int (nI b))]) hx hb dX7_which_39 hl (k := 4) rfl (nI_1 k) (by decide) rfl (fun ls hl => ?_)
          refine lv_goto (tgt := 3) hx hb dX7_which_42 (by decide) ?_
          exact ih3 (k + 1) _ (by omega) (by omega) (by rw [hv, ti_pl, if_neg (by dsimp only; omega), show xg.1 i - (k + 1) = m9 by omega]) (lv_sub hl [1, 2, 3, 4, 0] rfl)
        · skip
          refine lv_aload_n hx hb dX7_which_25 rfl (lv_at hl 0 rfl) ?_
          refine lv_iload_n hx hb dX7_which_26 rfl (lv_at hl 1 rfl) ?_
          refine lv_iload hx hb dX7_which_27 (lv_at hl 4 rfl) ?_
          refine ti_pVa (As := [.int (nI i), .int (nI k)]) (rest := []) (v := .int (nI (ti_mb xg i k))) S hE hP (met_X7_b l D E ad xg xd xt xf xj xh xs xv xb xq xk i k (by omega)) (lw_V q1249 q1251 qs27 q73 q1252) 2 rfl 0 rfl rfl (by decide +kernel) ⟨Nat.le_of_ble_eq_true rfl, Nat.le_of_ble_eq_true rfl⟩ hl.1 rfl (Nat.le_of_ble_eq_true rfl) ⟨Nat.le_refl _, Nat.le_refl _⟩ dX7_which_29 ?_
          have hb29 : ti_mb xg i k ≤ 9 := hxg.2.2 _
          refine lv_iload_n hx hb dX7_which_32 rfl (lv_at hl 3 rfl) ?_
          refine tn_ne (tgt := 39) hx hb dX7_which_33 (by decide) (by omega) (by omega) (fun c33 => ?_) (fun c33 => ?_)
          · skip
            refine lv_iinc (v := nI (k + 1)) (lv' := [(4, .int (nI (k + 1))), (0, .ref (ad 0)), (1, .int (nI i)), (2, .int (nI a)), (3, .int (nI b))]) hx hb dX7_which_39 hl (k := 4) rfl (nI_1 k) (by decide) rfl (fun ls hl => ?_)
            refine lv_goto (tgt := 3) hx hb dX7_which_42 (by decide) ?_
            exact ih3 (k + 1) _ (by omega) (by omega) (by rw [hv, ti_pl, if_neg (by dsimp only; omega), show xg.1 i - (k + 1) = m9 by omega]) (lv_sub hl [1, 2, 3, 4, 0] rfl)
          · skip
            refine lv_iload hx hb dX7_which_36 (lv_at hl 4 rfl) ?_
            exact hret _ _ _ dX7_which_38 (by rw [hv, ti_pl, if_pos ⟨c22, c33⟩]; rfl)
  exact L3 _ 0 _ (Nat.lt_succ_self _) (by omega) (rfl) (lv_sub hl [1, 2, 3, 4, 0] rfl)

set_option maxHeartbeats 1000000 in
theorem met_X7_comes (l : Launch) (D : va_G) (E : Nat → ClassId) (ad : Nat → Nat) (xg : ti_Mg) (xd : ti_Md) (xt : ti_Mt) (xf : ti_Mf) (xj : ti_Mj) (xh : ti_Mh) (xs : ti_Ms) (xv : ti_Mv) (xb : ti_Mb) (xq : ti_Mq) (xk : ti_Mk) (i : Nat) (hi : i < 3) (a b : Nat) (hs6 : xg.1 i < 6) : ti_MetM (σ := Unit) l D E yX7_comes cX7_comes 4 none 0 0 0 (ti_wM E ad xg xd xt xf xj xh xs xv xb xq xk) [.ref (ad 0), .int (nI i), .int (nI a), .int (nI b)] (fun _ => ti_wM E ad (ti_mcm xg i a b) xd xt xf xj xh xs xv xb xq xk) (fun _ => none) (fun _ => True) := by
  refine ti_mutV (σ := Unit) (by decide) (Nat.le_of_ble_eq_true rfl) ?_
  intro p e s m below meth c H H0 A Q ls S hE hP hD hS hA hinit hl hret
  have hx := S.1
  have hb := S.2.1
  have hown := S.2.2.2.1
  have hts := S.2.2.2.2
  have hK := hE.1
  have hl : lv_has ls 4 [(0, .ref (ad 0)), (1, .int (nI i)), (2, .int (nI a)), (3, .int (nI b))] := hl
  refine lv_aload_n hx hb dX7_comes_0 rfl (lv_at hl 0 rfl) ?_
  refine va_get (v := .ref (ad 2)) hx hb hts in_X7 hown hK hP 0 rfl rfl 1 (by decide) (hts _ q1089) (fun _ h => h) rfl dX7_comes_1 ?_
  refine lv_bipush (v := nI 6) hx hb dX7_comes_4 (by decide) ?_
  refine lv_iload_n hx hb dX7_comes_6 rfl (lv_at hl 1 rfl) ?_
  refine tn_mul hx hb dX7_comes_7 ?_
  refine lv_aload_n hx hb dX7_comes_8 rfl (lv_at hl 0 rfl) ?_
  refine va_get (v := .ref (ad 1)) hx hb hts in_X7 hown hK hP 0 rfl rfl 0 (by decide) (hts _ q1088) (fun _ h => h) rfl dX7_comes_9 ?_
  refine lv_iload_n hx hb dX7_comes_12 rfl (lv_at hl 1 rfl) ?_
  refine tn_iald (f := xg.1) hx hb hK hP 1 0 rfl rfl (by omega) (by decide) dX7_comes_13 ?_
  refine tn_add hx hb dX7_comes_14 ?_
  refine lv_iload_n hx hb dX7_comes_15 rfl (lv_at hl 2 rfl) ?_
  refine tn_iast (f := xg.2.1) hx hb hK hP hD hS 2 0 rfl rfl (by omega) (by decide) dX7_comes_16 (fun H locs hP hD hS => ?_)
  have hP : va_P D vwCl (ti_wM E ad (xg.1, va_up xg.2.1 ((6 * i) + (xg.1 i)) a, xg.2.2) xd xt xf xj xh xs xv xb xq xk) H := hP
  have hD : va_D A (ti_wM E ad (xg.1, va_up xg.2.1 ((6 * i) + (xg.1 i)) a, xg.2.2) xd xt xf xj xh xs xv xb xq xk) := hD
  refine lv_aload_n hx hb dX7_comes_17 rfl (lv_at hl 0 rfl) ?_
  refine va_get (v := .ref (ad 3)) hx hb hts in_X7 hown hK hP 0 rfl rfl 2 (by decide) (hts _ q1090) (fun _ h => h) rfl dX7_comes_18 ?_
  refine lv_bipush (v := nI 6) hx hb dX7_comes_21 (by decide) ?_
  refine lv_iload_n hx hb dX7_comes_23 rfl (lv_at hl 1 rfl) ?_
  refine tn_mul hx hb dX7_comes_24 ?_
  refine lv_aload_n hx hb dX7_comes_25 rfl (lv_at hl 0 rfl) ?_
  refine va_get (v := .ref (ad 1)) hx hb hts in_X7 hown hK hP 0 rfl rfl 0 (by decide) (hts _ q1088) (fun _ h => h) rfl dX7_comes_26 ?_
  refine lv_iload_n hx hb dX7_comes_29 rfl (lv_at hl 1 rfl) ?_
  refine tn_iald (f := xg.1) hx hb hK hP 1 0 rfl rfl (by omega) (by decide) dX7_comes_30 ?_
  refine tn_add hx hb dX7_comes_31 ?_
  refine lv_iload_n hx hb dX7_comes_32 rfl (lv_at hl 3 rfl) ?_
  refine tn_iast (f := xg.2.2) hx hb hK hP hD hS 3 0 rfl rfl (by omega) (by decide) dX7_comes_33 (fun H locs hP hD hS => ?_)
  have hP : va_P D vwCl (ti_wM E ad (xg.1, va_up xg.2.1 ((6 * i) + (xg.1 i)) a, va_up xg.2.2 ((6 * i) + (xg.1 i)) b) xd xt xf xj xh xs xv xb xq xk) H := hP
  have hD : va_D A (ti_wM E ad (xg.1, va_up xg.2.1 ((6 * i) + (xg.1 i)) a, va_up xg.2.2 ((6 * i) + (xg.1 i)) b) xd xt xf xj xh xs xv xb xq xk) := hD
  refine lv_aload_n hx hb dX7_comes_34 rfl (lv_at hl 0 rfl) ?_
  refine va_get (v := .ref (ad 1)) hx hb hts in_X7 hown hK hP 0 rfl rfl 0 (by decide) (hts _ q1088) (fun _ h => h) rfl dX7_comes_35 ?_
  refine lv_iload_n hx hb dX7_comes_38 rfl (lv_at hl 1 rfl) ?_
  refine lv_dup2_11 hx hb dX7_comes_39 rfl rfl ?_
  refine tn_iald (f := xg.1) hx hb hK hP 1 0 rfl rfl (by omega) (by decide) dX7_comes_40 ?_
  refine lv_iconst (v := nI 1) hx hb dX7_comes_41 (by decide) ?_
  refine tn_add hx hb dX7_comes_42 ?_
  refine tn_iast (f := xg.1) hx hb hK hP hD hS 1 0 rfl rfl (by omega) (by decide) dX7_comes_43 (fun H locs hP hD hS => ?_)
  have hP : va_P D vwCl (ti_wM E ad (va_up xg.1 i ((xg.1 i) + 1), va_up xg.2.1 ((6 * i) + (xg.1 i)) a, va_up xg.2.2 ((6 * i) + (xg.1 i)) b) xd xt xf xj xh xs xv xb xq xk) H := hP
  have hD : va_D A (ti_wM E ad (va_up xg.1 i ((xg.1 i) + 1), va_up xg.2.1 ((6 * i) + (xg.1 i)) a, va_up xg.2.2 ((6 * i) + (xg.1 i)) b) xd xt xf xj xh xs xv xb xq xk) := hD
  exact hret () _ _ _ _ _ _ dX7_comes_44 (trivial) hP hS (Nat.le_refl _) (Nat.le_refl _)

set_option maxHeartbeats 1000000 in
theorem met_X7_goes (l : Launch) (D : va_G) (E : Nat → ClassId) (ad : Nat → Nat) (xg : ti_Mg) (xd : ti_Md) (xt : ti_Mt) (xf : ti_Mf) (xj : ti_Mj) (xh : ti_Mh) (xs : ti_Ms) (xv : ti_Mv) (xb : ti_Mb) (xq : ti_Mq) (xk : ti_Mk) (hxg : ti_Mgok xg) (i : Nat) (hi : i < 3) (k : Nat) (hk : k < xg.1 i) : ti_MetM (σ := Unit) l D E yX7_goes cX7_goes 4 none 0 0 0 (ti_wM E ad xg xd xt xf xj xh xs xv xb xq xk) [.ref (ad 0), .int (nI i), .int (nI k)] (fun _ => ti_wM E ad (ti_mgo xg i k) xd xt xf xj xh xs xv xb xq xk) (fun _ => none) (fun _ => True) := by
  refine ti_mutV (σ := Unit) (by decide) (Nat.le_of_ble_eq_true rfl) ?_
  intro p e s m below meth c H H0 A Q ls S hE hP hD hS hA hinit hl hret
  have hx := S.1
  have hb := S.2.1
  have hown := S.2.2.2.1
  have hts := S.2.2.2.2
  have hK := hE.1
  have hl : lv_has ls 4 [(0, .ref (ad 0)), (1, .int (nI i)), (2, .int (nI k))] := hl
  have h6 := hxg.1 i
  refine lv_bipush (v := nI 6) hx hb dX7_goes_0 (by decide) ?_
  refine lv_iload_n hx hb dX7_goes_2 rfl (lv_at hl 1 rfl) ?_
  refine tn_mul hx hb dX7_goes_3 ?_
  refine lv_iload_n hx hb dX7_goes_4 rfl (lv_at hl 2 rfl) ?_
  refine tn_add hx hb dX7_goes_5 ?_
  refine lv_istore_n (lv' := [(3, .int (nI ((6 * i) + k))), (0, .ref (ad 0)), (1, .int (nI i)), (2, .int (nI k))]) hx hb dX7_goes_6 rfl hl (by decide) rfl (fun ls hl => ?_)
  have L7 : ∀ (N : Nat) (z : Nat) (f1 f2 : Nat → Nat) (ls : Array Slot) (H : Heap) (locs : List Loc), va_P D vwCl (ti_wM E ad (xg.1, f1, f2) xd xt xf xj xh xs xv xb xq xk) H → va_D A (ti_wM E ad (xg.1, f1, f2) xd xt xf xj xh xs xv xb xq xk) → va_S A H0 H locs → (18 - z) < N → (6 * i + k ≤ z) → (z ≤ 6 * i + xg.1 i - 1) → (f1 = ti_sh (6 * i + k) z xg.2.1) → (f2 = ti_sh (6 * i + k) z xg.2.2) → lv_has ls 4 [(0, .ref (ad 0)), (1, .int (nI i)), (2, .int (nI k)), (3, .int (nI z))] → W p l e (ti_rm 0 0 0) s m ([.ref (ad 0), .int (nI i), .int (nI k)] : List Value).toArray below meth c H locs 0 0 Q (F0 m 7 ls []) := by
    intro N
    induction N with
    | zero => intro z f1 f2 ls H locs hP hD hS h0; exact absurd h0 (Nat.not_lt_zero _)
    | succ N ih7 =>
      intro z f1 f2 ls H locs hP hD hS hN hz1 hz2 e1 e2 hl
      refine lv_iload_n hx hb dX7_goes_7 rfl (lv_at hl 3 rfl) ?_
      refine lv_bipush (v := nI 6) hx hb dX7_goes_8 (by decide) ?_
      refine lv_iload_n hx hb dX7_goes_10 rfl (lv_at hl 1 rfl) ?_
      refine tn_mul hx hb dX7_goes_11 ?_
      refine lv_aload_n hx hb dX7_goes_12 rfl (lv_at hl 0 rfl) ?_
      refine va_get (v := .ref (ad 1)) hx hb hts in_X7 hown hK hP 0 rfl rfl 0 (by decide) (hts _ q1088) (fun _ h => h) rfl dX7_goes_13 ?_
      refine lv_iload_n hx hb dX7_goes_16 rfl (lv_at hl 1 rfl) ?_
      refine tn_iald (f := xg.1) hx hb hK hP 1 0 rfl rfl (by omega) (by decide) dX7_goes_17 ?_
      refine tn_add hx hb dX7_goes_18 ?_
      refine lv_iconst (v := nI 1) hx hb dX7_goes_19 (by decide) ?_
      refine tn_sub hx hb dX7_goes_20 (by omega) ?_
      refine tn_ge (tgt := 58) hx hb dX7_goes_21 (by decide) (by omega) (by omega) (fun c21 => ?_) (fun c21 => ?_)
      · skip
        refine lv_aload_n hx hb dX7_goes_58 rfl (lv_at hl 0 rfl) ?_
        refine va_get (v := .ref (ad 1)) hx hb hts in_X7 hown hK hP 0 rfl rfl 0 (by decide) (hts _ q1088) (fun _ h => h) rfl dX7_goes_59 ?_
        refine lv_iload_n hx hb dX7_goes_62 rfl (lv_at hl 1 rfl) ?_
        refine lv_dup2_11 hx hb dX7_goes_63 rfl rfl ?_
        refine tn_iald (f := xg.1) hx hb hK hP 1 0 rfl rfl (by omega) (by decide) dX7_goes_64 ?_
        refine lv_iconst (v := nI 1) hx hb dX7_goes_65 (by decide) ?_
        refine tn_sub hx hb dX7_goes_66 (by omega) ?_
        refine tn_iast (f := xg.1) hx hb hK hP hD hS 1 0 rfl rfl (by omega) (by decide) dX7_goes_67 (fun H locs hP hD hS => ?_)
        have hP : va_P D vwCl (ti_wM E ad (va_up xg.1 i ((xg.1 i) - 1), f1, f2) xd xt xf xj xh xs xv xb xq xk) H := hP
        have hD : va_D A (ti_wM E ad (va_up xg.1 i ((xg.1 i) - 1), f1, f2) xd xt xf xj xh xs xv xb xq xk) := hD
        obtain rfl : z = 6 * i + xg.1 i - 1 := by omega
        subst e1
        subst e2
        exact hret () _ _ _ _ _ _ dX7_goes_68 (trivial) hP hS (Nat.le_refl _) (Nat.le_refl _)
      · skip
        refine lv_aload_n hx hb dX7_goes_24 rfl (lv_at hl 0 rfl) ?_
        refine va_get (v := .ref (ad 2)) hx hb hts in_X7 hown hK hP 0 rfl rfl 1 (by decide) (hts _ q1089) (fun _ h => h) rfl dX7_goes_25 ?_
        refine lv_iload_n hx hb dX7_goes_28 rfl (lv_at hl 3 rfl) ?_
        refine lv_aload_n hx hb dX7_goes_29 rfl (lv_at hl 0 rfl) ?_
        refine va_get (v := .ref (ad 2)) hx hb hts in_X7 hown hK hP 0 rfl rfl 1 (by decide) (hts _ q1089) (fun _ h => h) rfl dX7_goes_30 ?_
        refine lv_iload_n hx hb dX7_goes_33 rfl (lv_at hl 3 rfl) ?_
        refine lv_iconst (v := nI 1) hx hb dX7_goes_34 (by decide) ?_
        refine tn_add hx hb dX7_goes_35 ?_
        refine tn_iald (f := f1) hx hb hK hP 2 0 rfl rfl (by omega) (by decide) dX7_goes_36 ?_
        refine tn_iast (f := f1) hx hb hK hP hD hS 2 0 rfl rfl (by omega) (by decide) dX7_goes_37 (fun H locs hP hD hS => ?_)
        have hP : va_P D vwCl (ti_wM E ad (xg.1, va_up f1 z (f1 (z + 1)), f2) xd xt xf xj xh xs xv xb xq xk) H := hP
        have hD : va_D A (ti_wM E ad (xg.1, va_up f1 z (f1 (z + 1)), f2) xd xt xf xj xh xs xv xb xq xk) := hD
        refine lv_aload_n hx hb dX7_goes_38 rfl (lv_at hl 0 rfl) ?_
        refine va_get (v := .ref (ad 3)) hx hb hts in_X7 hown hK hP 0 rfl rfl 2 (by decide) (hts _ q1090) (fun _ h => h) rfl dX7_goes_39 ?_
        refine lv_iload_n hx hb dX7_goes_42 rfl (lv_at hl 3 rfl) ?_
        refine lv_aload_n hx hb dX7_goes_43 rfl (lv_at hl 0 rfl) ?_
        refine va_get (v := .ref (ad 3)) hx hb hts in_X7 hown hK hP 0 rfl rfl 2 (by decide) (hts _ q1090) (fun _ h => h) rfl dX7_goes_44 ?_
        refine lv_iload_n hx hb dX7_goes_47 rfl (lv_at hl 3 rfl) ?_
        refine lv_iconst (v := nI 1) hx hb dX7_goes_48 (by decide) ?_
        refine tn_add hx hb dX7_goes_49 ?_
        refine tn_iald (f := f2) hx hb hK hP 3 0 rfl rfl (by omega) (by decide) dX7_goes_50 ?_
        refine tn_iast (f := f2) hx hb hK hP hD hS 3 0 rfl rfl (by omega) (by decide) dX7_goes_51 (fun H locs hP hD hS => ?_)
        have hP : va_P D vwCl (ti_wM E ad (xg.1, va_up f1 z (f1 (z + 1)), va_up f2 z (f2 (z + 1))) xd xt xf xj xh xs xv xb xq xk) H := hP
        have hD : va_D A (ti_wM E ad (xg.1, va_up f1 z (f1 (z + 1)), va_up f2 z (f2 (z + 1))) xd xt xf xj xh xs xv xb xq xk) := hD
        refine lv_iinc (v := nI (z + 1)) (lv' := [(3, .int (nI (z + 1))), (0, .ref (ad 0)), (1, .int (nI i)), (2, .int (nI k))]) hx hb dX7_goes_52 hl (k := 3) rfl (nI_1 z) (by decide) rfl (fun ls hl => ?_)
        refine lv_goto (tgt := 7) hx hb dX7_goes_55 (by decide) ?_
        exact ih7 (z + 1) (va_up f1 z (f1 (z + 1))) (va_up f2 z (f2 (z + 1))) _ _ _ hP hD hS (by omega) (by omega) (by omega) (by rw [e1]; exact ti_sh_up hz1 _) (by rw [e2]; exact ti_sh_up hz1 _) (lv_sub hl [1, 2, 3, 0] rfl)
  exact L7 _ ((6 * i) + k) xg.2.1 xg.2.2 _ _ _ hP hD hS (Nat.lt_succ_self _) (Nat.le_refl _) (by omega) (ti_sh_0 _ _).symm (ti_sh_0 _ _).symm (lv_sub hl [1, 2, 3, 0] rfl)

set_option maxHeartbeats 1000000 in
theorem met_X7_likens (l : Launch) (D : va_G) (E : Nat → ClassId) (ad : Nat → Nat) (xg : ti_Mg) (xd : ti_Md) (xt : ti_Mt) (xf : ti_Mf) (xj : ti_Mj) (xh : ti_Mh) (xs : ti_Ms) (xv : ti_Mv) (xb : ti_Mb) (xq : ti_Mq) (xk : ti_Mk) (i : Nat) (hi : i < 3) (t : Nat) (ht3 : t < 3) (hit : i ≠ t) : ti_MetM (σ := Unit) l D E yX7_likens cX7_likens 4 none 1 0 0 (ti_wM E ad xg xd xt xf xj xh xs xv xb xq xk) [.ref (ad 0), .int (nI i), .int (nI t)] (fun _ => ti_wM E ad (ti_mlk xg i t) xd xt xf xj xh xs xv xb xq xk) (fun _ => none) (fun _ => True) := by
  refine ti_mutV (σ := Unit) (by decide) (Nat.le_of_ble_eq_true rfl) ?_
  intro p e s m below meth c H H0 A Q ls S hE hP hD hS hA hinit hl hret
  have hx := S.1
  have hb := S.2.1
  have hown := S.2.2.2.1
  have hts := S.2.2.2.2
  have hK := hE.1
  have hl : lv_has ls 4 [(0, .ref (ad 0)), (1, .int (nI i)), (2, .int (nI t))] := hl
  refine lv_aload_n hx hb dX7_likens_0 rfl (lv_at hl 0 rfl) ?_
  refine va_get (v := .ref (ad 1)) hx hb hts in_X7 hown hK hP 0 rfl rfl 0 (by decide) (hts _ q1088) (fun _ h => h) rfl dX7_likens_1 ?_
  refine lv_iload_n hx hb dX7_likens_4 rfl (lv_at hl 2 rfl) ?_
  refine lv_aload_n hx hb dX7_likens_5 rfl (lv_at hl 0 rfl) ?_
  refine va_get (v := .ref (ad 1)) hx hb hts in_X7 hown hK hP 0 rfl rfl 0 (by decide) (hts _ q1088) (fun _ h => h) rfl dX7_likens_6 ?_
  refine lv_iload_n hx hb dX7_likens_9 rfl (lv_at hl 1 rfl) ?_
  refine tn_iald (f := xg.1) hx hb hK hP 1 0 rfl rfl (by omega) (by decide) dX7_likens_10 ?_
  refine tn_iast (f := xg.1) hx hb hK hP hD hS 1 0 rfl rfl (by omega) (by decide) dX7_likens_11 (fun H locs hP hD hS => ?_)
  have hP : va_P D vwCl (ti_wM E ad (va_up xg.1 t (xg.1 i), xg.2.1, xg.2.2) xd xt xf xj xh xs xv xb xq xk) H := hP
  have hD : va_D A (ti_wM E ad (va_up xg.1 t (xg.1 i), xg.2.1, xg.2.2) xd xt xf xj xh xs xv xb xq xk) := hD
  refine lv_iconst (v := nI 0) hx hb dX7_likens_12 (by decide) ?_
  refine lv_istore_n (lv' := [(3, .int (nI 0)), (0, .ref (ad 0)), (1, .int (nI i)), (2, .int (nI t))]) hx hb dX7_likens_13 rfl hl (by decide) rfl (fun ls hl => ?_)
  have L14 : ∀ (N : Nat) (k : Nat) (f1 f2 : Nat → Nat) (ls : Array Slot) (H : Heap) (locs : List Loc), va_P D vwCl (ti_wM E ad (va_up xg.1 t (xg.1 i), f1, f2) xd xt xf xj xh xs xv xb xq xk) H → va_D A (ti_wM E ad (va_up xg.1 t (xg.1 i), f1, f2) xd xt xf xj xh xs xv xb xq xk) → va_S A H0 H locs → (6 - k) < N → (k ≤ 6) → (f1 = va_cpy xg.2.1 xg.2.1 (6 * i) (6 * t) k) → (f2 = va_cpy xg.2.2 xg.2.2 (6 * i) (6 * t) k) → lv_has ls 4 [(0, .ref (ad 0)), (1, .int (nI i)), (2, .int (nI t)), (3, .int (nI k))] → W p l e (ti_rm 1 0 0) s m ([.ref (ad 0), .int (nI i), .int (nI t)] : List Value).toArray below meth c H locs 0 0 Q (F0 m 14 ls []) := by
    intro N
    induction N with
    | zero => intro k f1 f2 ls H locs hP hD hS h0; exact absurd h0 (Nat.not_lt_zero _)
    | succ N ih14 =>
      intro k f1 f2 ls H locs hP hD hS hN hk e1 e2 hl
      refine lv_iload_n hx hb dX7_likens_14 rfl (lv_at hl 3 rfl) ?_
      refine lv_bipush (v := nI 6) hx hb dX7_likens_15 (by decide) ?_
      refine tn_ge (tgt := 60) hx hb dX7_likens_17 (by decide) (by omega) (by omega) (fun c17 => ?_) (fun c17 => ?_)
      · skip
        obtain rfl : k = 6 := by omega
        subst e1
        subst e2
        exact hret () _ _ _ _ _ _ dX7_likens_60 (trivial) hP hS (Nat.le_refl _) (Nat.le_refl _)
      · skip
        refine lv_aload_n hx hb dX7_likens_20 rfl (lv_at hl 0 rfl) ?_
        refine va_get (v := .ref (ad 2)) hx hb hts in_X7 hown hK hP 0 rfl rfl 1 (by decide) (hts _ q1089) (fun _ h => h) rfl dX7_likens_21 ?_
        refine lv_bipush (v := nI 6) hx hb dX7_likens_24 (by decide) ?_
        refine lv_iload_n hx hb dX7_likens_26 rfl (lv_at hl 2 rfl) ?_
        refine tn_mul hx hb dX7_likens_27 ?_
        refine lv_iload_n hx hb dX7_likens_28 rfl (lv_at hl 3 rfl) ?_
        refine tn_add hx hb dX7_likens_29 ?_
        refine lv_aload_n hx hb dX7_likens_30 rfl (lv_at hl 0 rfl) ?_
        refine lv_iload_n hx hb dX7_likens_31 rfl (lv_at hl 1 rfl) ?_
        refine lv_iload_n hx hb dX7_likens_32 rfl (lv_at hl 3 rfl) ?_
        refine ti_pVa (As := [.int (nI i), .int (nI k)]) (rest := [.int (nI ((6 * t) + k)), .ref (ad 2)]) (v := .int (nI (f1 (6 * i + k)))) S hE hP (met_X7_a l D E ad (va_up xg.1 t (xg.1 i), f1, f2) xd xt xf xj xh xs xv xb xq xk i k (by omega)) (lw_V q1245 q1247 qs26 q73 q1248) 2 rfl 0 rfl rfl (by decide +kernel) ⟨Nat.le_of_ble_eq_true rfl, Nat.le_of_ble_eq_true rfl⟩ hl.1 rfl (Nat.le_of_ble_eq_true rfl) ⟨Nat.le_refl _, Nat.le_refl _⟩ dX7_likens_33 ?_
        refine tn_iast (f := f1) hx hb hK hP hD hS 2 0 rfl rfl (by omega) (by decide) dX7_likens_36 (fun H locs hP hD hS => ?_)
        have hP : va_P D vwCl (ti_wM E ad (va_up xg.1 t (xg.1 i), va_up f1 ((6 * t) + k) (f1 (6 * i + k)), f2) xd xt xf xj xh xs xv xb xq xk) H := hP
        have hD : va_D A (ti_wM E ad (va_up xg.1 t (xg.1 i), va_up f1 ((6 * t) + k) (f1 (6 * i + k)), f2) xd xt xf xj xh xs xv xb xq xk) := hD
        refine lv_aload_n hx hb dX7_likens_37 rfl (lv_at hl 0 rfl) ?_
        refine va_get (v := .ref (ad 3)) hx hb hts in_X7 hown hK hP 0 rfl rfl 2 (by decide) (hts _ q1090) (fun _ h => h) rfl dX7_likens_38 ?_
        refine lv_bipush (v := nI 6) hx hb dX7_likens_41 (by decide) ?_
        refine lv_iload_n hx hb dX7_likens_43 rfl (lv_at hl 2 rfl) ?_
        refine tn_mul hx hb dX7_likens_44 ?_
        refine lv_iload_n hx hb dX7_likens_45 rfl (lv_at hl 3 rfl) ?_
        refine tn_add hx hb dX7_likens_46 ?_
        refine lv_aload_n hx hb dX7_likens_47 rfl (lv_at hl 0 rfl) ?_
        refine lv_iload_n hx hb dX7_likens_48 rfl (lv_at hl 1 rfl) ?_
        refine lv_iload_n hx hb dX7_likens_49 rfl (lv_at hl 3 rfl) ?_
        refine ti_pVa (As := [.int (nI i), .int (nI k)]) (rest := [.int (nI ((6 * t) + k)), .ref (ad 3)]) (v := .int (nI (f2 (6 * i + k)))) S hE hP (met_X7_b l D E ad (va_up xg.1 t (xg.1 i), va_up f1 ((6 * t) + k) (f1 (6 * i + k)), f2) xd xt xf xj xh xs xv xb xq xk i k (by omega)) (lw_V q1249 q1251 qs27 q73 q1252) 2 rfl 0 rfl rfl (by decide +kernel) ⟨Nat.le_of_ble_eq_true rfl, Nat.le_of_ble_eq_true rfl⟩ hl.1 rfl (Nat.le_of_ble_eq_true rfl) ⟨Nat.le_refl _, Nat.le_refl _⟩ dX7_likens_50 ?_
        refine tn_iast (f := f2) hx hb hK hP hD hS 3 0 rfl rfl (by omega) (by decide) dX7_likens_53 (fun H locs hP hD hS => ?_)
        have hP : va_P D vwCl (ti_wM E ad (va_up xg.1 t (xg.1 i), va_up f1 ((6 * t) + k) (f1 (6 * i + k)), va_up f2 ((6 * t) + k) (f2 (6 * i + k))) xd xt xf xj xh xs xv xb xq xk) H := hP
        have hD : va_D A (ti_wM E ad (va_up xg.1 t (xg.1 i), va_up f1 ((6 * t) + k) (f1 (6 * i + k)), va_up f2 ((6 * t) + k) (f2 (6 * i + k))) xd xt xf xj xh xs xv xb xq xk) := hD
        refine lv_iinc (v := nI (k + 1)) (lv' := [(3, .int (nI (k + 1))), (0, .ref (ad 0)), (1, .int (nI i)), (2, .int (nI t))]) hx hb dX7_likens_54 hl (k := 3) rfl (nI_1 k) (by decide) rfl (fun ls hl => ?_)
        refine lv_goto (tgt := 14) hx hb dX7_likens_57 (by decide) ?_
        exact ih14 (k + 1) (va_up f1 ((6 * t) + k) (f1 (6 * i + k))) (va_up f2 ((6 * t) + k) (f2 (6 * i + k))) _ _ _ hP hD hS (by omega) (by omega) (by rw [e1]; exact ti_cpy_s (by rw [pk_cpy_out (by omega)])) (by rw [e2]; exact ti_cpy_s (by rw [pk_cpy_out (by omega)])) (lv_sub hl [1, 2, 3, 0] rfl)
  exact L14 _ 0 xg.2.1 xg.2.2 _ _ _ hP hD hS (Nat.lt_succ_self _) (by omega) (ti_cpy_0.symm) (ti_cpy_0.symm) (lv_sub hl [1, 2, 3, 0] rfl)

set_option maxHeartbeats 1000000 in
theorem met_X7_deed (l : Launch) (D : va_G) (E : Nat → ClassId) (ad : Nat → Nat) (xg : ti_Mg) (xd : ti_Md) (xt : ti_Mt) (xf : ti_Mf) (xj : ti_Mj) (xh : ti_Mh) (xs : ti_Ms) (xv : ti_Mv) (xb : ti_Mb) (xq : ti_Mq) (xk : ti_Mk) (hxg : ti_Mgok xg) (hxd : ti_Mdok xd) (i : Nat) (hi : i ≤ 1) : ti_MetM (σ := ti_Md) l D E yX7_deed cX7_deed 3 none 1 0 0 (ti_wM E ad xg xd xt xf xj xh xs xv xb xq xk) [.ref (ad 0), .int (nI i)] (fun u => ti_wM E ad xg u xt xf xj xh xs xv xb xq xk) (fun _ => none) (fun u => ti_mdl u 0 u.1 = ti_keep (i, ti_G xg i) (ti_mdl xd 0 xd.1) ∧ ti_Mdok u ∧ 0 < u.1) := by
  refine ti_mutV (σ := ti_Md) (by decide) (Nat.le_of_ble_eq_true rfl) ?_
  intro p e s m below meth c H H0 A Q ls S hE hP hD hS hA hinit hl hret
  have hx := S.1
  have hb := S.2.1
  have hown := S.2.2.2.1
  have hts := S.2.2.2.2
  have hK := hE.1
  have hl : lv_has ls 3 [(0, .ref (ad 0)), (1, .int (nI i))] := hl
  have hd10 := hxd.1
  refine lv_aload_n hx hb dX7_deed_0 rfl (lv_at hl 0 rfl) ?_
  refine va_get (v := .int (nI xd.1)) hx hb hts in_X7 hown hK hP 0 rfl rfl 3 (by decide) (hts _ q1091) (fun _ h => h) rfl dX7_deed_1 ?_
  refine lv_bipush (v := nI 10) hx hb dX7_deed_4 (by decide) ?_
  refine tn_ne (tgt := 106) hx hb dX7_deed_6 (by decide) (by omega) (by omega) (fun c6 => ?_) (fun c6 => ?_)
  · skip
    refine lv_aload_n hx hb dX7_deed_106 rfl (lv_at hl 0 rfl) ?_
    refine va_get (v := .ref (ad 4)) hx hb hts in_X7 hown hK hP 0 rfl rfl 4 (by decide) (hts _ q1092) (fun _ h => h) rfl dX7_deed_107 ?_
    refine lv_aload_n hx hb dX7_deed_110 rfl (lv_at hl 0 rfl) ?_
    refine va_get (v := .int (nI xd.1)) hx hb hts in_X7 hown hK hP 0 rfl rfl 3 (by decide) (hts _ q1091) (fun _ h => h) rfl dX7_deed_111 ?_
    refine lv_iload_n hx hb dX7_deed_114 rfl (lv_at hl 1 rfl) ?_
    refine tn_iast (f := xd.2.1) hx hb hK hP hD hS 4 0 rfl rfl (by omega) (by decide) dX7_deed_115 (fun H locs hP hD hS => ?_)
    have hP : va_P D vwCl (ti_wM E ad xg (xd.1, va_up xd.2.1 xd.1 i, xd.2.2.1, xd.2.2.2.1, xd.2.2.2.2) xt xf xj xh xs xv xb xq xk) H := hP
    have hD : va_D A (ti_wM E ad xg (xd.1, va_up xd.2.1 xd.1 i, xd.2.2.1, xd.2.2.2.1, xd.2.2.2.2) xt xf xj xh xs xv xb xq xk) := hD
    refine lv_aload_n hx hb dX7_deed_116 rfl (lv_at hl 0 rfl) ?_
    refine va_get (v := .ref (ad 5)) hx hb hts in_X7 hown hK hP 0 rfl rfl 5 (by decide) (hts _ q1093) (fun _ h => h) rfl dX7_deed_117 ?_
    refine lv_aload_n hx hb dX7_deed_120 rfl (lv_at hl 0 rfl) ?_
    refine va_get (v := .int (nI xd.1)) hx hb hts in_X7 hown hK hP 0 rfl rfl 3 (by decide) (hts _ q1091) (fun _ h => h) rfl dX7_deed_121 ?_
    refine lv_aload_n hx hb dX7_deed_124 rfl (lv_at hl 0 rfl) ?_
    refine va_get (v := .ref (ad 1)) hx hb hts in_X7 hown hK hP 0 rfl rfl 0 (by decide) (hts _ q1088) (fun _ h => h) rfl dX7_deed_125 ?_
    refine lv_iload_n hx hb dX7_deed_128 rfl (lv_at hl 1 rfl) ?_
    refine tn_iald (f := xg.1) hx hb hK hP 1 0 rfl rfl (by omega) (by decide) dX7_deed_129 ?_
    refine tn_iast (f := xd.2.2.1) hx hb hK hP hD hS 5 0 rfl rfl (by omega) (by decide) dX7_deed_130 (fun H locs hP hD hS => ?_)
    have hP : va_P D vwCl (ti_wM E ad xg (xd.1, va_up xd.2.1 xd.1 i, va_up xd.2.2.1 xd.1 (xg.1 i), xd.2.2.2.1, xd.2.2.2.2) xt xf xj xh xs xv xb xq xk) H := hP
    have hD : va_D A (ti_wM E ad xg (xd.1, va_up xd.2.1 xd.1 i, va_up xd.2.2.1 xd.1 (xg.1 i), xd.2.2.2.1, xd.2.2.2.2) xt xf xj xh xs xv xb xq xk) := hD
    refine lv_iconst (v := nI 0) hx hb dX7_deed_131 (by decide) ?_
    refine lv_istore_n (lv' := [(2, .int (nI 0)), (0, .ref (ad 0)), (1, .int (nI i))]) hx hb dX7_deed_132 rfl hl (by decide) rfl (fun ls hl => ?_)
    have L133 : ∀ (N : Nat) (k : Nat) (g1 g2 : Nat → Nat) (ls : Array Slot) (H : Heap) (locs : List Loc), va_P D vwCl (ti_wM E ad xg (xd.1, va_up xd.2.1 xd.1 i, va_up xd.2.2.1 xd.1 (xg.1 i), g1, g2) xt xf xj xh xs xv xb xq xk) H → va_D A (ti_wM E ad xg (xd.1, va_up xd.2.1 xd.1 i, va_up xd.2.2.1 xd.1 (xg.1 i), g1, g2) xt xf xj xh xs xv xb xq xk) → va_S A H0 H locs → (6 - k) < N → (k ≤ 6) → (g1 = va_cpy xg.2.1 xd.2.2.2.1 (6 * i) (6 * xd.1) k) → (g2 = va_cpy xg.2.2 xd.2.2.2.2 (6 * i) (6 * xd.1) k) → lv_has ls 3 [(0, .ref (ad 0)), (1, .int (nI i)), (2, .int (nI k))] → W p l e (ti_rm 1 0 0) s m ([.ref (ad 0), .int (nI i)] : List Value).toArray below meth c H locs 0 0 Q (F0 m 133 ls []) := by
      intro N
      induction N with
      | zero => intro k g1 g2 ls H locs hP hD hS h0; exact absurd h0 (Nat.not_lt_zero _)
      | succ N ih133 =>
        intro k g1 g2 ls H locs hP hD hS hN hk g1e g2e hl
        refine lv_iload_n hx hb dX7_deed_133 rfl (lv_at hl 2 rfl) ?_
        refine lv_bipush (v := nI 6) hx hb dX7_deed_134 (by decide) ?_
        refine tn_ge (tgt := 185) hx hb dX7_deed_136 (by decide) (by omega) (by omega) (fun c136 => ?_) (fun c136 => ?_)
        · skip
          refine lv_aload_n hx hb dX7_deed_185 rfl (lv_at hl 0 rfl) ?_
          refine lv_dup hx hb dX7_deed_186 rfl ?_
          refine va_get (v := .int (nI xd.1)) hx hb hts in_X7 hown hK hP 0 rfl rfl 3 (by decide) (hts _ q1091) (fun _ h => h) rfl dX7_deed_187 ?_
          refine lv_iconst (v := nI 1) hx hb dX7_deed_190 (by decide) ?_
          refine tn_add hx hb dX7_deed_191 ?_
          refine va_put (ty := .int) hx hb hts in_X7 tyX7 tyX7_ok nmX7 hown hK hP hD hS 0 rfl rfl 3 (by decide) (hts _ q1091) (fun _ h => h) rfl rfl rfl rfl (Nat.le_of_ble_eq_true rfl) dX7_deed_192 (fun H locs hP hD hS => ?_)
          have hP : va_P D vwCl (ti_wM E ad xg (xd.1 + 1, va_up xd.2.1 xd.1 i, va_up xd.2.2.1 xd.1 (xg.1 i), g1, g2) xt xf xj xh xs xv xb xq xk) H := hP
          have hD : va_D A (ti_wM E ad xg (xd.1 + 1, va_up xd.2.1 xd.1 i, va_up xd.2.2.1 xd.1 (xg.1 i), g1, g2) xt xf xj xh xs xv xb xq xk) := hD
          exact hret ((xd.1 + 1, va_up xd.2.1 xd.1 i, va_up xd.2.2.1 xd.1 (xg.1 i), g1, g2)) _ _ _ _ _ _ dX7_deed_195 (⟨by rw [g1e, g2e, show k = 6 by omega]; exact (ti_mdl_push hxd.2.2.1 hxg).trans (by rw [ti_keep, if_neg (by rw [ti_mdl_len]; exact c6)]), ⟨by dsimp only; omega, ti_up_le hxd.2.1 hi, ti_up_le hxd.2.2.1 (hxg.1 i), by rw [g1e]; exact ti_cpy_le hxg.2.1 hxd.2.2.2.1, by rw [g2e]; exact ti_cpy_le hxg.2.2 hxd.2.2.2.2⟩, by dsimp only; omega⟩) hP hS (Nat.le_refl _) (Nat.le_refl _)
        · skip
          refine lv_aload_n hx hb dX7_deed_139 rfl (lv_at hl 0 rfl) ?_
          refine va_get (v := .ref (ad 6)) hx hb hts in_X7 hown hK hP 0 rfl rfl 6 (by decide) (hts _ q1094) (fun _ h => h) rfl dX7_deed_140 ?_
          refine lv_bipush (v := nI 6) hx hb dX7_deed_143 (by decide) ?_
          refine lv_aload_n hx hb dX7_deed_145 rfl (lv_at hl 0 rfl) ?_
          refine va_get (v := .int (nI xd.1)) hx hb hts in_X7 hown hK hP 0 rfl rfl 3 (by decide) (hts _ q1091) (fun _ h => h) rfl dX7_deed_146 ?_
          refine tn_mul hx hb dX7_deed_149 ?_
          refine lv_iload_n hx hb dX7_deed_150 rfl (lv_at hl 2 rfl) ?_
          refine tn_add hx hb dX7_deed_151 ?_
          refine lv_aload_n hx hb dX7_deed_152 rfl (lv_at hl 0 rfl) ?_
          refine lv_iload_n hx hb dX7_deed_153 rfl (lv_at hl 1 rfl) ?_
          refine lv_iload_n hx hb dX7_deed_154 rfl (lv_at hl 2 rfl) ?_
          refine ti_pVa (As := [.int (nI i), .int (nI k)]) (rest := [.int (nI ((6 * xd.1) + k)), .ref (ad 6)]) (v := .int (nI (ti_ma xg i k))) S hE hP (met_X7_a l D E ad xg (xd.1, va_up xd.2.1 xd.1 i, va_up xd.2.2.1 xd.1 (xg.1 i), g1, g2) xt xf xj xh xs xv xb xq xk i k (by omega)) (lw_V q1245 q1247 qs26 q73 q1248) 2 rfl 0 rfl rfl (by decide +kernel) ⟨Nat.le_of_ble_eq_true rfl, Nat.le_of_ble_eq_true rfl⟩ hl.1 rfl (Nat.le_of_ble_eq_true rfl) ⟨Nat.le_refl _, Nat.le_refl _⟩ dX7_deed_155 ?_
          refine tn_iast (f := g1) hx hb hK hP hD hS 6 0 rfl rfl (by omega) (by decide) dX7_deed_158 (fun H locs hP hD hS => ?_)
          have hP : va_P D vwCl (ti_wM E ad xg (xd.1, va_up xd.2.1 xd.1 i, va_up xd.2.2.1 xd.1 (xg.1 i), va_up g1 ((6 * xd.1) + k) (ti_ma xg i k), g2) xt xf xj xh xs xv xb xq xk) H := hP
          have hD : va_D A (ti_wM E ad xg (xd.1, va_up xd.2.1 xd.1 i, va_up xd.2.2.1 xd.1 (xg.1 i), va_up g1 ((6 * xd.1) + k) (ti_ma xg i k), g2) xt xf xj xh xs xv xb xq xk) := hD
          refine lv_aload_n hx hb dX7_deed_159 rfl (lv_at hl 0 rfl) ?_
          refine va_get (v := .ref (ad 7)) hx hb hts in_X7 hown hK hP 0 rfl rfl 7 (by decide) (hts _ q1095) (fun _ h => h) rfl dX7_deed_160 ?_
          refine lv_bipush (v := nI 6) hx hb dX7_deed_163 (by decide) ?_
          refine lv_aload_n hx hb dX7_deed_165 rfl (lv_at hl 0 rfl) ?_
          refine va_get (v := .int (nI xd.1)) hx hb hts in_X7 hown hK hP 0 rfl rfl 3 (by decide) (hts _ q1091) (fun _ h => h) rfl dX7_deed_166 ?_
          refine tn_mul hx hb dX7_deed_169 ?_
          refine lv_iload_n hx hb dX7_deed_170 rfl (lv_at hl 2 rfl) ?_
          refine tn_add hx hb dX7_deed_171 ?_
          refine lv_aload_n hx hb dX7_deed_172 rfl (lv_at hl 0 rfl) ?_
          refine lv_iload_n hx hb dX7_deed_173 rfl (lv_at hl 1 rfl) ?_
          refine lv_iload_n hx hb dX7_deed_174 rfl (lv_at hl 2 rfl) ?_
          refine ti_pVa (As := [.int (nI i), .int (nI k)]) (rest := [.int (nI ((6 * xd.1) + k)), .ref (ad 7)]) (v := .int (nI (ti_mb xg i k))) S hE hP (met_X7_b l D E ad xg (xd.1, va_up xd.2.1 xd.1 i, va_up xd.2.2.1 xd.1 (xg.1 i), va_up g1 ((6 * xd.1) + k) (ti_ma xg i k), g2) xt xf xj xh xs xv xb xq xk i k (by omega)) (lw_V q1249 q1251 qs27 q73 q1252) 2 rfl 0 rfl rfl (by decide +kernel) ⟨Nat.le_of_ble_eq_true rfl, Nat.le_of_ble_eq_true rfl⟩ hl.1 rfl (Nat.le_of_ble_eq_true rfl) ⟨Nat.le_refl _, Nat.le_refl _⟩ dX7_deed_175 ?_
          refine tn_iast (f := g2) hx hb hK hP hD hS 7 0 rfl rfl (by omega) (by decide) dX7_deed_178 (fun H locs hP hD hS => ?_)
          have hP : va_P D vwCl (ti_wM E ad xg (xd.1, va_up xd.2.1 xd.1 i, va_up xd.2.2.1 xd.1 (xg.1 i), va_up g1 ((6 * xd.1) + k) (ti_ma xg i k), va_up g2 ((6 * xd.1) + k) (ti_mb xg i k)) xt xf xj xh xs xv xb xq xk) H := hP
          have hD : va_D A (ti_wM E ad xg (xd.1, va_up xd.2.1 xd.1 i, va_up xd.2.2.1 xd.1 (xg.1 i), va_up g1 ((6 * xd.1) + k) (ti_ma xg i k), va_up g2 ((6 * xd.1) + k) (ti_mb xg i k)) xt xf xj xh xs xv xb xq xk) := hD
          refine lv_iinc (v := nI (k + 1)) (lv' := [(2, .int (nI (k + 1))), (0, .ref (ad 0)), (1, .int (nI i))]) hx hb dX7_deed_179 hl (k := 2) rfl (nI_1 k) (by decide) rfl (fun ls hl => ?_)
          refine lv_goto (tgt := 133) hx hb dX7_deed_182 (by decide) ?_
          exact ih133 (k + 1) (va_up g1 ((6 * xd.1) + k) (ti_ma xg i k)) (va_up g2 ((6 * xd.1) + k) (ti_mb xg i k)) _ _ _ hP hD hS (by omega) (by omega) (by rw [g1e]; exact ti_cpy_s rfl) (by rw [g2e]; exact ti_cpy_s rfl) (lv_sub hl [1, 2, 0] rfl)
    exact L133 _ 0 xd.2.2.2.1 xd.2.2.2.2 _ _ _ hP hD hS (Nat.lt_succ_self _) (by omega) (ti_cpy_0.symm) (ti_cpy_0.symm) (lv_sub hl [1, 2, 0] rfl)
  · skip
    refine lv_iconst (v := nI 1) hx hb dX7_deed_9 (by decide) ?_
    refine lv_istore_n (lv' := [(2, .int (nI 1)), (0, .ref (ad 0)), (1, .int (nI i))]) hx hb dX7_deed_10 rfl hl (by decide) rfl (fun ls hl => ?_)
    have L11 : ∀ (N : Nat) (k1 : Nat) (w1 w2 : Nat → Nat) (ls : Array Slot) (H : Heap) (locs : List Loc), va_P D vwCl (ti_wM E ad xg (xd.1, w1, w2, xd.2.2.2.1, xd.2.2.2.2) xt xf xj xh xs xv xb xq xk) H → va_D A (ti_wM E ad xg (xd.1, w1, w2, xd.2.2.2.1, xd.2.2.2.2) xt xf xj xh xs xv xb xq xk) → va_S A H0 H locs → (10 - k1) < N → (1 ≤ k1) → (k1 ≤ 10) → (w1 = ti_sh 0 (k1 - 1) xd.2.1) → (w2 = ti_sh 0 (k1 - 1) xd.2.2.1) → lv_has ls 3 [(0, .ref (ad 0)), (1, .int (nI i)), (2, .int (nI k1))] → W p l e (ti_rm 1 0 0) s m ([.ref (ad 0), .int (nI i)] : List Value).toArray below meth c H locs 0 0 Q (F0 m 11 ls []) := by
      intro N
      induction N with
      | zero => intro k1 w1 w2 ls H locs hP hD hS h0; exact absurd h0 (Nat.not_lt_zero _)
      | succ N ih11 =>
        intro k1 w1 w2 ls H locs hP hD hS hN h1 h2 e1 e2 hl
        refine lv_iload_n hx hb dX7_deed_11 rfl (lv_at hl 2 rfl) ?_
        refine lv_bipush (v := nI 10) hx hb dX7_deed_12 (by decide) ?_
        refine tn_ge (tgt := 51) hx hb dX7_deed_14 (by decide) (by omega) (by omega) (fun c14 => ?_) (fun c14 => ?_)
        · skip
          refine lv_bipush (v := nI 6) hx hb dX7_deed_51 (by decide) ?_
          refine lv_istore_n (lv' := [(2, .int (nI 6)), (0, .ref (ad 0)), (1, .int (nI i))]) hx hb dX7_deed_53 rfl hl (by decide) rfl (fun ls hl => ?_)
          have L54 : ∀ (N : Nat) (k2 : Nat) (a1 a2 : Nat → Nat) (ls : Array Slot) (H : Heap) (locs : List Loc), va_P D vwCl (ti_wM E ad xg (xd.1, w1, w2, a1, a2) xt xf xj xh xs xv xb xq xk) H → va_D A (ti_wM E ad xg (xd.1, w1, w2, a1, a2) xt xf xj xh xs xv xb xq xk) → va_S A H0 H locs → (60 - k2) < N → (6 ≤ k2) → (k2 ≤ 60) → (a1 = ti_s6 (k2 - 6) xd.2.2.2.1) → (a2 = ti_s6 (k2 - 6) xd.2.2.2.2) → lv_has ls 3 [(0, .ref (ad 0)), (1, .int (nI i)), (2, .int (nI k2))] → W p l e (ti_rm 1 0 0) s m ([.ref (ad 0), .int (nI i)] : List Value).toArray below meth c H locs 0 0 Q (F0 m 54 ls []) := by
            intro N
            induction N with
            | zero => intro k2 a1 a2 ls H locs hP hD hS h0; exact absurd h0 (Nat.not_lt_zero _)
            | succ N ih54 =>
              intro k2 a1 a2 ls H locs hP hD hS hN h3 h4 e3 e4 hl
              refine lv_iload_n hx hb dX7_deed_54 rfl (lv_at hl 2 rfl) ?_
              refine lv_bipush (v := nI 60) hx hb dX7_deed_55 (by decide) ?_
              refine tn_ge (tgt := 96) hx hb dX7_deed_57 (by decide) (by omega) (by omega) (fun c57 => ?_) (fun c57 => ?_)
              · skip
                refine lv_aload_n hx hb dX7_deed_96 rfl (lv_at hl 0 rfl) ?_
                refine lv_dup hx hb dX7_deed_97 rfl ?_
                refine va_get (v := .int (nI xd.1)) hx hb hts in_X7 hown hK hP 0 rfl rfl 3 (by decide) (hts _ q1091) (fun _ h => h) rfl dX7_deed_98 ?_
                refine lv_iconst (v := nI 1) hx hb dX7_deed_101 (by decide) ?_
                refine tn_sub hx hb dX7_deed_102 (by omega) ?_
                refine va_put (ty := .int) hx hb hts in_X7 tyX7 tyX7_ok nmX7 hown hK hP hD hS 0 rfl rfl 3 (by decide) (hts _ q1091) (fun _ h => h) rfl rfl rfl rfl (Nat.le_of_ble_eq_true rfl) dX7_deed_103 (fun H locs hP hD hS => ?_)
                have hP : va_P D vwCl (ti_wM E ad xg (xd.1 - 1, w1, w2, a1, a2) xt xf xj xh xs xv xb xq xk) H := hP
                have hD : va_D A (ti_wM E ad xg (xd.1 - 1, w1, w2, a1, a2) xt xf xj xh xs xv xb xq xk) := hD
                refine lv_aload_n hx hb dX7_deed_106 rfl (lv_at hl 0 rfl) ?_
                refine va_get (v := .ref (ad 4)) hx hb hts in_X7 hown hK hP 0 rfl rfl 4 (by decide) (hts _ q1092) (fun _ h => h) rfl dX7_deed_107 ?_
                refine lv_aload_n hx hb dX7_deed_110 rfl (lv_at hl 0 rfl) ?_
                refine va_get (v := .int (nI (xd.1 - 1))) hx hb hts in_X7 hown hK hP 0 rfl rfl 3 (by decide) (hts _ q1091) (fun _ h => h) rfl dX7_deed_111 ?_
                refine lv_iload_n hx hb dX7_deed_114 rfl (lv_at hl 1 rfl) ?_
                refine tn_iast (f := w1) hx hb hK hP hD hS 4 0 rfl rfl (by omega) (by decide) dX7_deed_115 (fun H locs hP hD hS => ?_)
                have hP : va_P D vwCl (ti_wM E ad xg (xd.1 - 1, va_up w1 (xd.1 - 1) i, w2, a1, a2) xt xf xj xh xs xv xb xq xk) H := hP
                have hD : va_D A (ti_wM E ad xg (xd.1 - 1, va_up w1 (xd.1 - 1) i, w2, a1, a2) xt xf xj xh xs xv xb xq xk) := hD
                refine lv_aload_n hx hb dX7_deed_116 rfl (lv_at hl 0 rfl) ?_
                refine va_get (v := .ref (ad 5)) hx hb hts in_X7 hown hK hP 0 rfl rfl 5 (by decide) (hts _ q1093) (fun _ h => h) rfl dX7_deed_117 ?_
                refine lv_aload_n hx hb dX7_deed_120 rfl (lv_at hl 0 rfl) ?_
                refine va_get (v := .int (nI (xd.1 - 1))) hx hb hts in_X7 hown hK hP 0 rfl rfl 3 (by decide) (hts _ q1091) (fun _ h => h) rfl dX7_deed_121 ?_
                refine lv_aload_n hx hb dX7_deed_124 rfl (lv_at hl 0 rfl) ?_
                refine va_get (v := .ref (ad 1)) hx hb hts in_X7 hown hK hP 0 rfl rfl 0 (by decide) (hts _ q1088) (fun _ h => h) rfl dX7_deed_125 ?_
                refine lv_iload_n hx hb dX7_deed_128 rfl (lv_at hl 1 rfl) ?_
                refine tn_iald (f := xg.1) hx hb hK hP 1 0 rfl rfl (by omega) (by decide) dX7_deed_129 ?_
                refine tn_iast (f := w2) hx hb hK hP hD hS 5 0 rfl rfl (by omega) (by decide) dX7_deed_130 (fun H locs hP hD hS => ?_)
                have hP : va_P D vwCl (ti_wM E ad xg (xd.1 - 1, va_up w1 (xd.1 - 1) i, va_up w2 (xd.1 - 1) (xg.1 i), a1, a2) xt xf xj xh xs xv xb xq xk) H := hP
                have hD : va_D A (ti_wM E ad xg (xd.1 - 1, va_up w1 (xd.1 - 1) i, va_up w2 (xd.1 - 1) (xg.1 i), a1, a2) xt xf xj xh xs xv xb xq xk) := hD
                refine lv_iconst (v := nI 0) hx hb dX7_deed_131 (by decide) ?_
                refine lv_istore_n (lv' := [(2, .int (nI 0)), (0, .ref (ad 0)), (1, .int (nI i))]) hx hb dX7_deed_132 rfl hl (by decide) rfl (fun ls hl => ?_)
                have L133 : ∀ (N : Nat) (k : Nat) (g1 g2 : Nat → Nat) (ls : Array Slot) (H : Heap) (locs : List Loc), va_P D vwCl (ti_wM E ad xg (xd.1 - 1, va_up w1 (xd.1 - 1) i, va_up w2 (xd.1 - 1) (xg.1 i), g1, g2) xt xf xj xh xs xv xb xq xk) H → va_D A (ti_wM E ad xg (xd.1 - 1, va_up w1 (xd.1 - 1) i, va_up w2 (xd.1 - 1) (xg.1 i), g1, g2) xt xf xj xh xs xv xb xq xk) → va_S A H0 H locs → (6 - k) < N → (k ≤ 6) → (g1 = va_cpy xg.2.1 a1 (6 * i) (6 * (xd.1 - 1)) k) → (g2 = va_cpy xg.2.2 a2 (6 * i) (6 * (xd.1 - 1)) k) → lv_has ls 3 [(0, .ref (ad 0)), (1, .int (nI i)), (2, .int (nI k))] → W p l e (ti_rm 1 0 0) s m ([.ref (ad 0), .int (nI i)] : List Value).toArray below meth c H locs 0 0 Q (F0 m 133 ls []) := by
                  intro N
                  induction N with
                  | zero => intro k g1 g2 ls H locs hP hD hS h0; exact absurd h0 (Nat.not_lt_zero _)
                  | succ N ih133 =>
                    intro k g1 g2 ls H locs hP hD hS hN hk g1e g2e hl
                    refine lv_iload_n hx hb dX7_deed_133 rfl (lv_at hl 2 rfl) ?_
                    refine lv_bipush (v := nI 6) hx hb dX7_deed_134 (by decide) ?_
                    refine tn_ge (tgt := 185) hx hb dX7_deed_136 (by decide) (by omega) (by omega) (fun c136 => ?_) (fun c136 => ?_)
                    · skip
                      refine lv_aload_n hx hb dX7_deed_185 rfl (lv_at hl 0 rfl) ?_
                      refine lv_dup hx hb dX7_deed_186 rfl ?_
                      refine va_get (v := .int (nI (xd.1 - 1))) hx hb hts in_X7 hown hK hP 0 rfl rfl 3 (by decide) (hts _ q1091) (fun _ h => h) rfl dX7_deed_187 ?_
                      refine lv_iconst (v := nI 1) hx hb dX7_deed_190 (by decide) ?_
                      refine tn_add hx hb dX7_deed_191 ?_
                      refine va_put (ty := .int) hx hb hts in_X7 tyX7 tyX7_ok nmX7 hown hK hP hD hS 0 rfl rfl 3 (by decide) (hts _ q1091) (fun _ h => h) rfl rfl rfl rfl (Nat.le_of_ble_eq_true rfl) dX7_deed_192 (fun H locs hP hD hS => ?_)
                      have hP : va_P D vwCl (ti_wM E ad xg ((xd.1 - 1) + 1, va_up w1 (xd.1 - 1) i, va_up w2 (xd.1 - 1) (xg.1 i), g1, g2) xt xf xj xh xs xv xb xq xk) H := hP
                      have hD : va_D A (ti_wM E ad xg ((xd.1 - 1) + 1, va_up w1 (xd.1 - 1) i, va_up w2 (xd.1 - 1) (xg.1 i), g1, g2) xt xf xj xh xs xv xb xq xk) := hD
                      exact hret ((xd.1 - 1 + 1, va_up w1 (xd.1 - 1) i, va_up w2 (xd.1 - 1) (xg.1 i), g1, g2)) _ _ _ _ _ _ dX7_deed_195 (⟨by rw [g1e, g2e, e1, e2, e3, e4, show k1 - 1 = 9 by omega, show k2 - 6 = 54 by omega, show k = 6 by omega, show xd.1 - 1 = 9 by omega]; exact (ti_mdl_push (x := (9, ti_sh 0 9 xd.2.1, ti_sh 0 9 xd.2.2.1, ti_s6 54 xd.2.2.2.1, ti_s6 54 xd.2.2.2.2)) (ti_sh_le hxd.2.2.1) hxg).trans (by rw [ti_mdl_rot hxd, ti_keep, if_pos (by rw [ti_mdl_len]; exact c6), c6]), ⟨by dsimp only; omega, ti_up_le (by rw [e1]; exact ti_sh_le hxd.2.1) hi, ti_up_le (by rw [e2]; exact ti_sh_le hxd.2.2.1) (hxg.1 i), by rw [g1e, e3]; exact ti_cpy_le hxg.2.1 (ti_s6_le hxd.2.2.2.1), by rw [g2e, e4]; exact ti_cpy_le hxg.2.2 (ti_s6_le hxd.2.2.2.2)⟩, by dsimp only; omega⟩) hP hS (Nat.le_refl _) (Nat.le_refl _)
                    · skip
                      refine lv_aload_n hx hb dX7_deed_139 rfl (lv_at hl 0 rfl) ?_
                      refine va_get (v := .ref (ad 6)) hx hb hts in_X7 hown hK hP 0 rfl rfl 6 (by decide) (hts _ q1094) (fun _ h => h) rfl dX7_deed_140 ?_
                      refine lv_bipush (v := nI 6) hx hb dX7_deed_143 (by decide) ?_
                      refine lv_aload_n hx hb dX7_deed_145 rfl (lv_at hl 0 rfl) ?_
                      refine va_get (v := .int (nI (xd.1 - 1))) hx hb hts in_X7 hown hK hP 0 rfl rfl 3 (by decide) (hts _ q1091) (fun _ h => h) rfl dX7_deed_146 ?_
                      refine tn_mul hx hb dX7_deed_149 ?_
                      refine lv_iload_n hx hb dX7_deed_150 rfl (lv_at hl 2 rfl) ?_
                      refine tn_add hx hb dX7_deed_151 ?_
                      refine lv_aload_n hx hb dX7_deed_152 rfl (lv_at hl 0 rfl) ?_
                      refine lv_iload_n hx hb dX7_deed_153 rfl (lv_at hl 1 rfl) ?_
                      refine lv_iload_n hx hb dX7_deed_154 rfl (lv_at hl 2 rfl) ?_
                      refine ti_pVa (As := [.int (nI i), .int (nI k)]) (rest := [.int (nI ((6 * (xd.1 - 1)) + k)), .ref (ad 6)]) (v := .int (nI (ti_ma xg i k))) S hE hP (met_X7_a l D E ad xg (xd.1 - 1, va_up w1 (xd.1 - 1) i, va_up w2 (xd.1 - 1) (xg.1 i), g1, g2) xt xf xj xh xs xv xb xq xk i k (by omega)) (lw_V q1245 q1247 qs26 q73 q1248) 2 rfl 0 rfl rfl (by decide +kernel) ⟨Nat.le_of_ble_eq_true rfl, Nat.le_of_ble_eq_true rfl⟩ hl.1 rfl (Nat.le_of_ble_eq_true rfl) ⟨Nat.le_refl _, Nat.le_refl _⟩ dX7_deed_155 ?_
                      refine tn_iast (f := g1) hx hb hK hP hD hS 6 0 rfl rfl (by omega) (by decide) dX7_deed_158 (fun H locs hP hD hS => ?_)
                      have hP : va_P D vwCl (ti_wM E ad xg (xd.1 - 1, va_up w1 (xd.1 - 1) i, va_up w2 (xd.1 - 1) (xg.1 i), va_up g1 ((6 * (xd.1 - 1)) + k) (ti_ma xg i k), g2) xt xf xj xh xs xv xb xq xk) H := hP
                      have hD : va_D A (ti_wM E ad xg (xd.1 - 1, va_up w1 (xd.1 - 1) i, va_up w2 (xd.1 - 1) (xg.1 i), va_up g1 ((6 * (xd.1 - 1)) + k) (ti_ma xg i k), g2) xt xf xj xh xs xv xb xq xk) := hD
                      refine lv_aload_n hx hb dX7_deed_159 rfl (lv_at hl 0 rfl) ?_
                      refine va_get (v := .ref (ad 7)) hx hb hts in_X7 hown hK hP 0 rfl rfl 7 (by decide) (hts _ q1095) (fun _ h => h) rfl dX7_deed_160 ?_
                      refine lv_bipush (v := nI 6) hx hb dX7_deed_163 (by decide) ?_
                      refine lv_aload_n hx hb dX7_deed_165 rfl (lv_at hl 0 rfl) ?_
                      refine va_get (v := .int (nI (xd.1 - 1))) hx hb hts in_X7 hown hK hP 0 rfl rfl 3 (by decide) (hts _ q1091) (fun _ h => h) rfl dX7_deed_166 ?_
                      refine tn_mul hx hb dX7_deed_169 ?_
                      refine lv_iload_n hx hb dX7_deed_170 rfl (lv_at hl 2 rfl) ?_
                      refine tn_add hx hb dX7_deed_171 ?_
                      refine lv_aload_n hx hb dX7_deed_172 rfl (lv_at hl 0 rfl) ?_
                      refine lv_iload_n hx hb dX7_deed_173 rfl (lv_at hl 1 rfl) ?_
                      refine lv_iload_n hx hb dX7_deed_174 rfl (lv_at hl 2 rfl) ?_
                      refine ti_pVa (As := [.int (nI i), .int (nI k)]) (rest := [.int (nI ((6 * (xd.1 - 1)) + k)), .ref (ad 7)]) (v := .int (nI (ti_mb xg i k))) S hE hP (met_X7_b l D E ad xg (xd.1 - 1, va_up w1 (xd.1 - 1) i, va_up w2 (xd.1 - 1) (xg.1 i), va_up g1 ((6 * (xd.1 - 1)) + k) (ti_ma xg i k), g2) xt xf xj xh xs xv xb xq xk i k (by omega)) (lw_V q1249 q1251 qs27 q73 q1252) 2 rfl 0 rfl rfl (by decide +kernel) ⟨Nat.le_of_ble_eq_true rfl, Nat.le_of_ble_eq_true rfl⟩ hl.1 rfl (Nat.le_of_ble_eq_true rfl) ⟨Nat.le_refl _, Nat.le_refl _⟩ dX7_deed_175 ?_
                      refine tn_iast (f := g2) hx hb hK hP hD hS 7 0 rfl rfl (by omega) (by decide) dX7_deed_178 (fun H locs hP hD hS => ?_)
                      have hP : va_P D vwCl (ti_wM E ad xg (xd.1 - 1, va_up w1 (xd.1 - 1) i, va_up w2 (xd.1 - 1) (xg.1 i), va_up g1 ((6 * (xd.1 - 1)) + k) (ti_ma xg i k), va_up g2 ((6 * (xd.1 - 1)) + k) (ti_mb xg i k)) xt xf xj xh xs xv xb xq xk) H := hP
                      have hD : va_D A (ti_wM E ad xg (xd.1 - 1, va_up w1 (xd.1 - 1) i, va_up w2 (xd.1 - 1) (xg.1 i), va_up g1 ((6 * (xd.1 - 1)) + k) (ti_ma xg i k), va_up g2 ((6 * (xd.1 - 1)) + k) (ti_mb xg i k)) xt xf xj xh xs xv xb xq xk) := hD
                      refine lv_iinc (v := nI (k + 1)) (lv' := [(2, .int (nI (k + 1))), (0, .ref (ad 0)), (1, .int (nI i))]) hx hb dX7_deed_179 hl (k := 2) rfl (nI_1 k) (by decide) rfl (fun ls hl => ?_)
                      refine lv_goto (tgt := 133) hx hb dX7_deed_182 (by decide) ?_
                      exact ih133 (k + 1) (va_up g1 ((6 * (xd.1 - 1)) + k) (ti_ma xg i k)) (va_up g2 ((6 * (xd.1 - 1)) + k) (ti_mb xg i k)) _ _ _ hP hD hS (by omega) (by omega) (by rw [g1e]; exact ti_cpy_s rfl) (by rw [g2e]; exact ti_cpy_s rfl) (lv_sub hl [1, 2, 0] rfl)
                exact L133 _ 0 a1 a2 _ _ _ hP hD hS (Nat.lt_succ_self _) (by omega) (ti_cpy_0.symm) (ti_cpy_0.symm) (lv_sub hl [1, 2, 0] rfl)
              · skip
                refine lv_aload_n hx hb dX7_deed_60 rfl (lv_at hl 0 rfl) ?_
                refine va_get (v := .ref (ad 6)) hx hb hts in_X7 hown hK hP 0 rfl rfl 6 (by decide) (hts _ q1094) (fun _ h => h) rfl dX7_deed_61 ?_
                refine lv_iload_n hx hb dX7_deed_64 rfl (lv_at hl 2 rfl) ?_
                refine lv_bipush (v := nI 6) hx hb dX7_deed_65 (by decide) ?_
                refine tn_sub hx hb dX7_deed_67 (by omega) ?_
                refine lv_aload_n hx hb dX7_deed_68 rfl (lv_at hl 0 rfl) ?_
                refine va_get (v := .ref (ad 6)) hx hb hts in_X7 hown hK hP 0 rfl rfl 6 (by decide) (hts _ q1094) (fun _ h => h) rfl dX7_deed_69 ?_
                refine lv_iload_n hx hb dX7_deed_72 rfl (lv_at hl 2 rfl) ?_
                refine tn_iald (f := a1) hx hb hK hP 6 0 rfl rfl (by omega) (by decide) dX7_deed_73 ?_
                refine tn_iast (f := a1) hx hb hK hP hD hS 6 0 rfl rfl (by omega) (by decide) dX7_deed_74 (fun H locs hP hD hS => ?_)
                have hP : va_P D vwCl (ti_wM E ad xg (xd.1, w1, w2, va_up a1 (k2 - 6) (a1 k2), a2) xt xf xj xh xs xv xb xq xk) H := hP
                have hD : va_D A (ti_wM E ad xg (xd.1, w1, w2, va_up a1 (k2 - 6) (a1 k2), a2) xt xf xj xh xs xv xb xq xk) := hD
                refine lv_aload_n hx hb dX7_deed_75 rfl (lv_at hl 0 rfl) ?_
                refine va_get (v := .ref (ad 7)) hx hb hts in_X7 hown hK hP 0 rfl rfl 7 (by decide) (hts _ q1095) (fun _ h => h) rfl dX7_deed_76 ?_
                refine lv_iload_n hx hb dX7_deed_79 rfl (lv_at hl 2 rfl) ?_
                refine lv_bipush (v := nI 6) hx hb dX7_deed_80 (by decide) ?_
                refine tn_sub hx hb dX7_deed_82 (by omega) ?_
                refine lv_aload_n hx hb dX7_deed_83 rfl (lv_at hl 0 rfl) ?_
                refine va_get (v := .ref (ad 7)) hx hb hts in_X7 hown hK hP 0 rfl rfl 7 (by decide) (hts _ q1095) (fun _ h => h) rfl dX7_deed_84 ?_
                refine lv_iload_n hx hb dX7_deed_87 rfl (lv_at hl 2 rfl) ?_
                refine tn_iald (f := a2) hx hb hK hP 7 0 rfl rfl (by omega) (by decide) dX7_deed_88 ?_
                refine tn_iast (f := a2) hx hb hK hP hD hS 7 0 rfl rfl (by omega) (by decide) dX7_deed_89 (fun H locs hP hD hS => ?_)
                have hP : va_P D vwCl (ti_wM E ad xg (xd.1, w1, w2, va_up a1 (k2 - 6) (a1 k2), va_up a2 (k2 - 6) (a2 k2)) xt xf xj xh xs xv xb xq xk) H := hP
                have hD : va_D A (ti_wM E ad xg (xd.1, w1, w2, va_up a1 (k2 - 6) (a1 k2), va_up a2 (k2 - 6) (a2 k2)) xt xf xj xh xs xv xb xq xk) := hD
                refine lv_iinc (v := nI (k2 + 1)) (lv' := [(2, .int (nI (k2 + 1))), (0, .ref (ad 0)), (1, .int (nI i))]) hx hb dX7_deed_90 hl (k := 2) rfl (nI_1 k2) (by decide) rfl (fun ls hl => ?_)
                refine lv_goto (tgt := 54) hx hb dX7_deed_93 (by decide) ?_
                exact ih54 (k2 + 1) (va_up a1 (k2 - 6) (a1 k2)) (va_up a2 (k2 - 6) (a2 k2)) _ _ _ hP hD hS (by omega) (by omega) (by omega) (by rw [e3]; exact ti_s6_up h3 _) (by rw [e4]; exact ti_s6_up h3 _) (lv_sub hl [1, 2, 0] rfl)
          exact L54 _ 6 xd.2.2.2.1 xd.2.2.2.2 _ _ _ hP hD hS (Nat.lt_succ_self _) (by omega) (by omega) (ti_s6_0 _).symm (ti_s6_0 _).symm (lv_sub hl [1, 2, 0] rfl)
        · skip
          refine lv_aload_n hx hb dX7_deed_17 rfl (lv_at hl 0 rfl) ?_
          refine va_get (v := .ref (ad 4)) hx hb hts in_X7 hown hK hP 0 rfl rfl 4 (by decide) (hts _ q1092) (fun _ h => h) rfl dX7_deed_18 ?_
          refine lv_iload_n hx hb dX7_deed_21 rfl (lv_at hl 2 rfl) ?_
          refine lv_iconst (v := nI 1) hx hb dX7_deed_22 (by decide) ?_
          refine tn_sub hx hb dX7_deed_23 (by omega) ?_
          refine lv_aload_n hx hb dX7_deed_24 rfl (lv_at hl 0 rfl) ?_
          refine va_get (v := .ref (ad 4)) hx hb hts in_X7 hown hK hP 0 rfl rfl 4 (by decide) (hts _ q1092) (fun _ h => h) rfl dX7_deed_25 ?_
          refine lv_iload_n hx hb dX7_deed_28 rfl (lv_at hl 2 rfl) ?_
          refine tn_iald (f := w1) hx hb hK hP 4 0 rfl rfl (by omega) (by decide) dX7_deed_29 ?_
          refine tn_iast (f := w1) hx hb hK hP hD hS 4 0 rfl rfl (by omega) (by decide) dX7_deed_30 (fun H locs hP hD hS => ?_)
          have hP : va_P D vwCl (ti_wM E ad xg (xd.1, va_up w1 (k1 - 1) (w1 k1), w2, xd.2.2.2.1, xd.2.2.2.2) xt xf xj xh xs xv xb xq xk) H := hP
          have hD : va_D A (ti_wM E ad xg (xd.1, va_up w1 (k1 - 1) (w1 k1), w2, xd.2.2.2.1, xd.2.2.2.2) xt xf xj xh xs xv xb xq xk) := hD
          refine lv_aload_n hx hb dX7_deed_31 rfl (lv_at hl 0 rfl) ?_
          refine va_get (v := .ref (ad 5)) hx hb hts in_X7 hown hK hP 0 rfl rfl 5 (by decide) (hts _ q1093) (fun _ h => h) rfl dX7_deed_32 ?_
          refine lv_iload_n hx hb dX7_deed_35 rfl (lv_at hl 2 rfl) ?_
          refine lv_iconst (v := nI 1) hx hb dX7_deed_36 (by decide) ?_
          refine tn_sub hx hb dX7_deed_37 (by omega) ?_
          refine lv_aload_n hx hb dX7_deed_38 rfl (lv_at hl 0 rfl) ?_
          refine va_get (v := .ref (ad 5)) hx hb hts in_X7 hown hK hP 0 rfl rfl 5 (by decide) (hts _ q1093) (fun _ h => h) rfl dX7_deed_39 ?_
          refine lv_iload_n hx hb dX7_deed_42 rfl (lv_at hl 2 rfl) ?_
          refine tn_iald (f := w2) hx hb hK hP 5 0 rfl rfl (by omega) (by decide) dX7_deed_43 ?_
          refine tn_iast (f := w2) hx hb hK hP hD hS 5 0 rfl rfl (by omega) (by decide) dX7_deed_44 (fun H locs hP hD hS => ?_)
          have hP : va_P D vwCl (ti_wM E ad xg (xd.1, va_up w1 (k1 - 1) (w1 k1), va_up w2 (k1 - 1) (w2 k1), xd.2.2.2.1, xd.2.2.2.2) xt xf xj xh xs xv xb xq xk) H := hP
          have hD : va_D A (ti_wM E ad xg (xd.1, va_up w1 (k1 - 1) (w1 k1), va_up w2 (k1 - 1) (w2 k1), xd.2.2.2.1, xd.2.2.2.2) xt xf xj xh xs xv xb xq xk) := hD
          refine lv_iinc (v := nI (k1 + 1)) (lv' := [(2, .int (nI (k1 + 1))), (0, .ref (ad 0)), (1, .int (nI i))]) hx hb dX7_deed_45 hl (k := 2) rfl (nI_1 k1) (by decide) rfl (fun ls hl => ?_)
          refine lv_goto (tgt := 11) hx hb dX7_deed_48 (by decide) ?_
          exact ih11 (k1 + 1) (va_up w1 (k1 - 1) (w1 k1)) (va_up w2 (k1 - 1) (w2 k1)) _ _ _ hP hD hS (by omega) (by omega) (by omega) (by rw [e1]; exact ti_sh_up1 h1 _) (by rw [e2]; exact ti_sh_up1 h1 _) (lv_sub hl [1, 2, 0] rfl)
    exact L11 _ 1 xd.2.1 xd.2.2.1 _ _ _ hP hD hS (Nat.lt_succ_self _) (by omega) (by omega) (ti_sh_0 _ _).symm (ti_sh_0 _ _).symm (lv_sub hl [1, 2, 0] rfl)
