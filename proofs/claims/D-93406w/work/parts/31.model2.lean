/-! TermIdealsModel: faces (printed by w_model2.py) -/
set_option maxRecDepth 100000

set_option maxHeartbeats 1000000 in
theorem met_X7_isGenerator (l : Launch) (D : va_G) (E : Nat → ClassId) (ad : Nat → Nat) (xg : ti_Mg) (xd : ti_Md) (xt : ti_Mt) (xf : ti_Mf) (xj : ti_Mj) (xh : ti_Mh) (xs : ti_Ms) (xv : ti_Mv) (xb : ti_Mb) (xq : ti_Mq) (xk : ti_Mk) (hxg : ti_Mgok xg) (v k : Int32) : ti_MetP l D E yX7_isGenerator cX7_isGenerator 3 (some .boolean) 2 (ti_wM E ad xg xd xt xf xj xh xs xv xb xq xk) [.ref (ad 0), .int v, .int k] (some (.int (ti_b (ti_in v (nI 0) (nI 1) && ti_lt k (xg.1 v.toNatClampNeg))))) := by
  refine ti_pureZ (by decide) (Nat.le_of_ble_eq_true rfl) ?_
  intro p e s m below meth c H locs Q ls S hE hP hl hret
  have hx := S.1
  have hb := S.2.1
  have hown := S.2.2.2.1
  have hts := S.2.2.2.2
  have hK := hE.1
  have hl : lv_has ls 3 [(0, .ref (ad 0)), (1, .int v), (2, .int k)] := hl
  refine lv_iload_n hx hb dX7_isGenerator_0 rfl (lv_at hl 1 rfl) ?_
  refine ti_pS (As := [.int v]) (rest := []) (v := .int (ti_b (ti_in v (nI 0) (nI 1)))) S hE hP [] (met_X7_isIdeal l D E v) rfl (lw_S q1231 q1232 q73 q1233) 1 rfl (by decide +kernel) ⟨Nat.le_of_ble_eq_true rfl, Nat.le_of_ble_eq_true rfl⟩ hl.1 rfl (Nat.le_of_ble_eq_true rfl) ⟨Nat.le_refl _, Nat.le_refl _⟩ dX7_isGenerator_1 ?_
  refine tb_eq (tgt := 29) hx hb dX7_isGenerator_4 (by decide) (fun c4 => ?_) (fun c4 => ?_)
  · skip
    refine lv_iconst (v := nI 0) hx hb dX7_isGenerator_29 (by decide) ?_
    exact hret _ _ _ dX7_isGenerator_30 (by rw [c4]; rfl)
  · skip
    obtain ⟨i, -, hi1, rfl⟩ := ti_in_nat (by decide) (by decide) c4
    refine lv_iload_n hx hb dX7_isGenerator_7 rfl (lv_at hl 2 rfl) ?_
    refine lv_i2l (v := Int32.toInt64 k) hx hb dX7_isGenerator_8 rfl ?_
    refine lv_lconst (v := lN 0) hx hb dX7_isGenerator_9 (by decide) ?_
    refine lv_aload_n hx hb dX7_isGenerator_10 rfl (lv_at hl 0 rfl) ?_
    refine va_get (v := .ref (ad 1)) hx hb hts in_X7 hown hK hP 0 rfl rfl 0 (by decide) (hts _ q1088) (fun _ h => h) rfl dX7_isGenerator_11 ?_
    refine lv_iload_n hx hb dX7_isGenerator_14 rfl (lv_at hl 1 rfl) ?_
    refine tn_iald (f := xg.1) hx hb hK hP 1 0 rfl rfl (by omega) (by decide) dX7_isGenerator_15 ?_
    have b15 := hxg.1 i
    refine lv_iconst (v := nI 1) hx hb dX7_isGenerator_16 (by decide) ?_
    refine lv_isub hx hb dX7_isGenerator_17 ?_
    refine lv_i2l (v := Int32.toInt64 (((nI (xg.1 i)) - (nI 1)))) hx hb dX7_isGenerator_18 rfl ?_
    refine ti_pS (As := [.long (Int32.toInt64 k), .long (lN 0), .long (Int32.toInt64 (((nI (xg.1 i)) - (nI 1))))]) (rest := []) (v := .int (ti_b (ti_inL (Int32.toInt64 k) (lN 0) ((Int32.toInt64 (((nI (xg.1 i)) - (nI 1)))))))) S hE hP [] (met_X7_isFrom l D E (Int32.toInt64 k) (lN 0) ((Int32.toInt64 (((nI (xg.1 i)) - (nI 1)))))) rfl (lw_S q1234 q1235 q73 q1236) 3 rfl (by decide +kernel) ⟨Nat.le_of_ble_eq_true rfl, Nat.le_of_ble_eq_true rfl⟩ hl.1 rfl (Nat.le_of_ble_eq_true rfl) ⟨Nat.le_refl _, Nat.le_refl _⟩ dX7_isGenerator_19 ?_
    refine tb_eq (tgt := 29) hx hb dX7_isGenerator_22 (by decide) (fun c22 => ?_) (fun c22 => ?_)
    · skip
      refine lv_iconst (v := nI 0) hx hb dX7_isGenerator_29 (by decide) ?_
      exact hret _ _ _ dX7_isGenerator_30 (by rw [c4, nI_clamp (by omega), ← ti_inL_lt (by omega), c22]; rfl)
    · skip
      refine lv_iconst (v := nI 1) hx hb dX7_isGenerator_25 (by decide) ?_
      refine lv_goto (tgt := 30) hx hb dX7_isGenerator_26 (by decide) ?_
      exact hret _ _ _ dX7_isGenerator_30 (by rw [c4, nI_clamp (by omega), ← ti_inL_lt (by omega), c22]; rfl)

set_option maxHeartbeats 1000000 in
theorem met_X7_levelOf (l : Launch) (D : va_G) (E : Nat → ClassId) (ad : Nat → Nat) (xg : ti_Mg) (xd : ti_Md) (xt : ti_Mt) (xf : ti_Mf) (xj : ti_Mj) (xh : ti_Mh) (xs : ti_Ms) (xv : ti_Mv) (xb : ti_Mb) (xq : ti_Mq) (xk : ti_Mk) (hxg : ti_Mgok xg) (i : Nat) (hi : i < 3) (s9 t9 : Nat) (hs9 : s9 ≤ 9) (ht9 : t9 ≤ 9) : ti_MetP l D E yX7_levelOf cX7_levelOf 6 (some .int) 1 (ti_wM E ad xg xd xt xf xj xh xs xv xb xq xk) [.ref (ad 0), .int (nI i), .int (nI s9), .int (nI t9)] (some (.int (nI (ti_lv s9 t9 (ti_gr (ti_ma xg i) (ti_mb xg i) 0 (xg.1 i)) 1000)))) := by
  refine ti_pureI (by decide) (Nat.le_of_ble_eq_true rfl) ?_
  intro p e s m below meth c H locs Q ls S hE hP hl hret
  have hx := S.1
  have hb := S.2.1
  have hown := S.2.2.2.1
  have hts := S.2.2.2.2
  have hK := hE.1
  have hl : lv_has ls 6 [(0, .ref (ad 0)), (1, .int (nI i)), (2, .int (nI s9)), (3, .int (nI t9))] := hl
  refine lv_sipush (v := nI 1000) hx hb dX7_levelOf_0 (by decide) ?_
  refine lv_istore (lv' := [(4, .int (nI 1000)), (0, .ref (ad 0)), (1, .int (nI i)), (2, .int (nI s9)), (3, .int (nI t9))]) hx hb dX7_levelOf_3 hl (by decide) rfl (fun ls hl => ?_)
  refine lv_iconst (v := nI 0) hx hb dX7_levelOf_5 (by decide) ?_
  refine lv_istore (lv' := [(5, .int (nI 0)), (4, .int (nI 1000)), (0, .ref (ad 0)), (1, .int (nI i)), (2, .int (nI s9)), (3, .int (nI t9))]) hx hb dX7_levelOf_6 hl (by decide) rfl (fun ls hl => ?_)
  have L8 : ∀ (N : Nat) (k z : Nat) (ls : Array Slot), (xg.1 i - k) < N → (k ≤ xg.1 i) → (z ≤ 1000) → (ti_lv s9 t9 (ti_gr (ti_ma xg i) (ti_mb xg i) 0 (xg.1 i)) 1000 = ti_lv s9 t9 (ti_gr (ti_ma xg i) (ti_mb xg i) k (xg.1 i - k)) z) → lv_has ls 6 [(0, .ref (ad 0)), (1, .int (nI i)), (2, .int (nI s9)), (3, .int (nI t9)), (4, .int (nI z)), (5, .int (nI k))] → W p l e (ti_rm 1 0 0) s m ([.ref (ad 0), .int (nI i), .int (nI s9), .int (nI t9)] : List Value).toArray below meth c H locs 0 0 Q (F0 m 8 ls []) := by
    intro N
    induction N with
    | zero => intro k z ls h0; exact absurd h0 (Nat.not_lt_zero _)
    | succ N ih8 =>
      intro k z ls hN hkn hz hv hl
      refine lv_iload hx hb dX7_levelOf_8 (lv_at hl 5 rfl) ?_
      refine lv_aload_n hx hb dX7_levelOf_10 rfl (lv_at hl 0 rfl) ?_
      refine va_get (v := .ref (ad 1)) hx hb hts in_X7 hown hK hP 0 rfl rfl 0 (by decide) (hts _ q1088) (fun _ h => h) rfl dX7_levelOf_11 ?_
      refine lv_iload_n hx hb dX7_levelOf_14 rfl (lv_at hl 1 rfl) ?_
      refine tn_iald (f := xg.1) hx hb hK hP 1 0 rfl rfl (by omega) (by decide) dX7_levelOf_15 ?_
      have b15 := hxg.1 i
      refine tn_ge (tgt := 51) hx hb dX7_levelOf_16 (by decide) (by omega) (by omega) (fun c16 => ?_) (fun c16 => ?_)
      · skip
        rw [show xg.1 i - k = 0 by omega, ti_gr_0] at hv
        refine lv_iload hx hb dX7_levelOf_51 (lv_at hl 4 rfl) ?_
        exact hret _ _ _ dX7_levelOf_53 (by rw [hv]; rfl)
      · skip
        obtain ⟨m9, hm9⟩ : ∃ m9, xg.1 i - k = m9 + 1 := ⟨xg.1 i - k - 1, by omega⟩
        rw [hm9, ti_gr_s] at hv
        refine lv_iload hx hb dX7_levelOf_19 (lv_at hl 4 rfl) ?_
        refine lv_iload_n hx hb dX7_levelOf_21 rfl (lv_at hl 2 rfl) ?_
        refine lv_aload_n hx hb dX7_levelOf_22 rfl (lv_at hl 0 rfl) ?_
        refine lv_iload_n hx hb dX7_levelOf_23 rfl (lv_at hl 1 rfl) ?_
        refine lv_iload hx hb dX7_levelOf_24 (lv_at hl 5 rfl) ?_
        refine ti_pVa (As := [.int (nI i), .int (nI k)]) (rest := [.int (nI s9), .int (nI z)]) (v := .int (nI (ti_ma xg i k))) S hE hP (met_X7_a l D E ad xg xd xt xf xj xh xs xv xb xq xk i k (by omega)) (lw_V q1245 q1247 qs26 q73 q1248) 2 rfl 0 rfl rfl (by decide +kernel) ⟨Nat.le_of_ble_eq_true rfl, Nat.le_of_ble_eq_true rfl⟩ hl.1 rfl (Nat.le_of_ble_eq_true rfl) ⟨Nat.le_refl _, Nat.le_refl _⟩ dX7_levelOf_26 ?_
        have ha26 : ti_ma xg i k ≤ 9 := hxg.2.1 _
        refine tn_mul hx hb dX7_levelOf_29 ?_
        have b29 : s9 * (ti_ma xg i k) ≤ 81 := Nat.mul_le_mul hs9 (hxg.2.1 _)
        refine lv_iload_n hx hb dX7_levelOf_30 rfl (lv_at hl 3 rfl) ?_
        refine lv_aload_n hx hb dX7_levelOf_31 rfl (lv_at hl 0 rfl) ?_
        refine lv_iload_n hx hb dX7_levelOf_32 rfl (lv_at hl 1 rfl) ?_
        refine lv_iload hx hb dX7_levelOf_33 (lv_at hl 5 rfl) ?_
        refine ti_pVa (As := [.int (nI i), .int (nI k)]) (rest := [.int (nI t9), .int (nI (s9 * (ti_ma xg i k))), .int (nI z)]) (v := .int (nI (ti_mb xg i k))) S hE hP (met_X7_b l D E ad xg xd xt xf xj xh xs xv xb xq xk i k (by omega)) (lw_V q1249 q1251 qs27 q73 q1252) 2 rfl 0 rfl rfl (by decide +kernel) ⟨Nat.le_of_ble_eq_true rfl, Nat.le_of_ble_eq_true rfl⟩ hl.1 rfl (Nat.le_of_ble_eq_true rfl) ⟨Nat.le_refl _, Nat.le_refl _⟩ dX7_levelOf_35 ?_
        have hb35 : ti_mb xg i k ≤ 9 := hxg.2.2 _
        refine tn_mul hx hb dX7_levelOf_38 ?_
        have b38 : t9 * (ti_mb xg i k) ≤ 81 := Nat.mul_le_mul ht9 (hxg.2.2 _)
        refine tn_add hx hb dX7_levelOf_39 ?_
        have b39 : (s9 * (ti_ma xg i k)) + (t9 * (ti_mb xg i k)) ≤ 162 := Nat.add_le_add b29 b38
        refine tn_min S hl.1 q1297 (Nat.le_of_ble_eq_true rfl) (Nat.le_of_ble_eq_true rfl) ⟨Nat.le_refl _, Nat.le_refl _⟩ (by omega) (by omega) dX7_levelOf_40 ?_
        refine lv_istore (lv' := [(4, .int (nI (min z ((s9 * (ti_ma xg i k)) + (t9 * (ti_mb xg i k)))))), (0, .ref (ad 0)), (1, .int (nI i)), (2, .int (nI s9)), (3, .int (nI t9)), (5, .int (nI k))]) hx hb dX7_levelOf_43 hl (by decide) rfl (fun ls hl => ?_)
        refine lv_iinc (v := nI (k + 1)) (lv' := [(5, .int (nI (k + 1))), (4, .int (nI (min z ((s9 * (ti_ma xg i k)) + (t9 * (ti_mb xg i k)))))), (0, .ref (ad 0)), (1, .int (nI i)), (2, .int (nI s9)), (3, .int (nI t9))]) hx hb dX7_levelOf_45 hl (k := 5) rfl (nI_1 k) (by decide) rfl (fun ls hl => ?_)
        refine lv_goto (tgt := 8) hx hb dX7_levelOf_48 (by decide) ?_
        exact ih8 (k + 1) (min z ((s9 * (ti_ma xg i k)) + (t9 * (ti_mb xg i k)))) _ (by omega) (by omega) (by omega) (by rw [hv, show xg.1 i - (k + 1) = m9 by omega]; rfl) (lv_sub hl [2, 3, 4, 5, 1, 0] rfl)
  exact L8 _ 0 1000 _ (Nat.lt_succ_self _) (by omega) (by omega) (rfl) (lv_sub hl [2, 3, 4, 5, 1, 0] rfl)

set_option maxHeartbeats 1000000 in
theorem met_X7_metBy (l : Launch) (D : va_G) (E : Nat → ClassId) (ad : Nat → Nat) (xg : ti_Mg) (xd : ti_Md) (xt : ti_Mt) (xf : ti_Mf) (xj : ti_Mj) (xh : ti_Mh) (xs : ti_Ms) (xv : ti_Mv) (xb : ti_Mb) (xq : ti_Mq) (xk : ti_Mk) (hxg : ti_Mgok xg) (i : Nat) (hi : i < 3) (s9 t9 : Nat) (hs9 : s9 ≤ 9) (ht9 : t9 ≤ 9) (lev : Nat) (hlev : lev ≤ 1000) : ti_MetP l D E yX7_metBy cX7_metBy 7 (some .int) 1 (ti_wM E ad xg xd xt xf xj xh xs xv xb xq xk) [.ref (ad 0), .int (nI i), .int (nI s9), .int (nI t9), .int (nI lev)] (some (.int (nI (ti_ct s9 t9 lev (ti_gr (ti_ma xg i) (ti_mb xg i) 0 (xg.1 i)) 0)))) := by
  refine ti_pureI (by decide) (Nat.le_of_ble_eq_true rfl) ?_
  intro p e s m below meth c H locs Q ls S hE hP hl hret
  have hx := S.1
  have hb := S.2.1
  have hown := S.2.2.2.1
  have hts := S.2.2.2.2
  have hK := hE.1
  have hl : lv_has ls 7 [(0, .ref (ad 0)), (1, .int (nI i)), (2, .int (nI s9)), (3, .int (nI t9)), (4, .int (nI lev))] := hl
  refine lv_iconst (v := nI 0) hx hb dX7_metBy_0 (by decide) ?_
  refine lv_istore (lv' := [(5, .int (nI 0)), (0, .ref (ad 0)), (1, .int (nI i)), (2, .int (nI s9)), (3, .int (nI t9)), (4, .int (nI lev))]) hx hb dX7_metBy_1 hl (by decide) rfl (fun ls hl => ?_)
  refine lv_iconst (v := nI 0) hx hb dX7_metBy_3 (by decide) ?_
  refine lv_istore (lv' := [(6, .int (nI 0)), (5, .int (nI 0)), (0, .ref (ad 0)), (1, .int (nI i)), (2, .int (nI s9)), (3, .int (nI t9)), (4, .int (nI lev))]) hx hb dX7_metBy_4 hl (by decide) rfl (fun ls hl => ?_)
  have L6 : ∀ (N : Nat) (k z : Nat) (ls : Array Slot), (xg.1 i - k) < N → (k ≤ xg.1 i) → (z ≤ k) → (ti_ct s9 t9 lev (ti_gr (ti_ma xg i) (ti_mb xg i) 0 (xg.1 i)) 0 = ti_ct s9 t9 lev (ti_gr (ti_ma xg i) (ti_mb xg i) k (xg.1 i - k)) z) → lv_has ls 7 [(0, .ref (ad 0)), (1, .int (nI i)), (2, .int (nI s9)), (3, .int (nI t9)), (4, .int (nI lev)), (5, .int (nI z)), (6, .int (nI k))] → W p l e (ti_rm 1 0 0) s m ([.ref (ad 0), .int (nI i), .int (nI s9), .int (nI t9), .int (nI lev)] : List Value).toArray below meth c H locs 0 0 Q (F0 m 6 ls []) := by
    intro N
    induction N with
    | zero => intro k z ls h0; exact absurd h0 (Nat.not_lt_zero _)
    | succ N ih6 =>
      intro k z ls hN hkn hz hv hl
      refine lv_iload hx hb dX7_metBy_6 (lv_at hl 6 rfl) ?_
      refine lv_aload_n hx hb dX7_metBy_8 rfl (lv_at hl 0 rfl) ?_
      refine va_get (v := .ref (ad 1)) hx hb hts in_X7 hown hK hP 0 rfl rfl 0 (by decide) (hts _ q1088) (fun _ h => h) rfl dX7_metBy_9 ?_
      refine lv_iload_n hx hb dX7_metBy_12 rfl (lv_at hl 1 rfl) ?_
      refine tn_iald (f := xg.1) hx hb hK hP 1 0 rfl rfl (by omega) (by decide) dX7_metBy_13 ?_
      have b13 := hxg.1 i
      refine tn_ge (tgt := 57) hx hb dX7_metBy_14 (by decide) (by omega) (by omega) (fun c14 => ?_) (fun c14 => ?_)
      · skip
        rw [show xg.1 i - k = 0 by omega, ti_gr_0] at hv
        refine lv_iload hx hb dX7_metBy_57 (lv_at hl 5 rfl) ?_
        exact hret _ _ _ dX7_metBy_59 (by rw [hv]; rfl)
      · skip
        obtain ⟨m9, hm9⟩ : ∃ m9, xg.1 i - k = m9 + 1 := ⟨xg.1 i - k - 1, by omega⟩
        rw [hm9, ti_gr_s] at hv
        refine lv_iload hx hb dX7_metBy_17 (lv_at hl 5 rfl) ?_
        refine lv_iload_n hx hb dX7_metBy_19 rfl (lv_at hl 2 rfl) ?_
        refine lv_aload_n hx hb dX7_metBy_20 rfl (lv_at hl 0 rfl) ?_
        refine lv_iload_n hx hb dX7_metBy_21 rfl (lv_at hl 1 rfl) ?_
        refine lv_iload hx hb dX7_metBy_22 (lv_at hl 6 rfl) ?_
        refine ti_pVa (As := [.int (nI i), .int (nI k)]) (rest := [.int (nI s9), .int (nI z)]) (v := .int (nI (ti_ma xg i k))) S hE hP (met_X7_a l D E ad xg xd xt xf xj xh xs xv xb xq xk i k (by omega)) (lw_V q1245 q1247 qs26 q73 q1248) 2 rfl 0 rfl rfl (by decide +kernel) ⟨Nat.le_of_ble_eq_true rfl, Nat.le_of_ble_eq_true rfl⟩ hl.1 rfl (Nat.le_of_ble_eq_true rfl) ⟨Nat.le_refl _, Nat.le_refl _⟩ dX7_metBy_24 ?_
        have ha24 : ti_ma xg i k ≤ 9 := hxg.2.1 _
        refine tn_mul hx hb dX7_metBy_27 ?_
        have b27 : s9 * (ti_ma xg i k) ≤ 81 := Nat.mul_le_mul hs9 (hxg.2.1 _)
        refine lv_iload_n hx hb dX7_metBy_28 rfl (lv_at hl 3 rfl) ?_
        refine lv_aload_n hx hb dX7_metBy_29 rfl (lv_at hl 0 rfl) ?_
        refine lv_iload_n hx hb dX7_metBy_30 rfl (lv_at hl 1 rfl) ?_
        refine lv_iload hx hb dX7_metBy_31 (lv_at hl 6 rfl) ?_
        refine ti_pVa (As := [.int (nI i), .int (nI k)]) (rest := [.int (nI t9), .int (nI (s9 * (ti_ma xg i k))), .int (nI z)]) (v := .int (nI (ti_mb xg i k))) S hE hP (met_X7_b l D E ad xg xd xt xf xj xh xs xv xb xq xk i k (by omega)) (lw_V q1249 q1251 qs27 q73 q1252) 2 rfl 0 rfl rfl (by decide +kernel) ⟨Nat.le_of_ble_eq_true rfl, Nat.le_of_ble_eq_true rfl⟩ hl.1 rfl (Nat.le_of_ble_eq_true rfl) ⟨Nat.le_refl _, Nat.le_refl _⟩ dX7_metBy_33 ?_
        have hb33 : ti_mb xg i k ≤ 9 := hxg.2.2 _
        refine tn_mul hx hb dX7_metBy_36 ?_
        have b36 : t9 * (ti_mb xg i k) ≤ 81 := Nat.mul_le_mul ht9 (hxg.2.2 _)
        refine tn_add hx hb dX7_metBy_37 ?_
        have b37 : (s9 * (ti_ma xg i k)) + (t9 * (ti_mb xg i k)) ≤ 162 := Nat.add_le_add b27 b36
        refine lv_iload hx hb dX7_metBy_38 (lv_at hl 4 rfl) ?_
        refine tn_ne (tgt := 47) hx hb dX7_metBy_40 (by decide) (by omega) (by omega) (fun c40 => ?_) (fun c40 => ?_)
        · skip
          refine lv_iconst (v := nI 0) hx hb dX7_metBy_47 (by decide) ?_
          refine tn_add hx hb dX7_metBy_48 ?_
          refine lv_istore (lv' := [(5, .int (nI (z + 0))), (0, .ref (ad 0)), (1, .int (nI i)), (2, .int (nI s9)), (3, .int (nI t9)), (4, .int (nI lev)), (6, .int (nI k))]) hx hb dX7_metBy_49 hl (by decide) rfl (fun ls hl => ?_)
          refine lv_iinc (v := nI (k + 1)) (lv' := [(6, .int (nI (k + 1))), (5, .int (nI (z + 0))), (0, .ref (ad 0)), (1, .int (nI i)), (2, .int (nI s9)), (3, .int (nI t9)), (4, .int (nI lev))]) hx hb dX7_metBy_51 hl (k := 6) rfl (nI_1 k) (by decide) rfl (fun ls hl => ?_)
          refine lv_goto (tgt := 6) hx hb dX7_metBy_54 (by decide) ?_
          exact ih6 (k + 1) (z + 0) _ (by omega) (by omega) (by omega) (by rw [hv]; show List.foldl _ (if s9 * ti_ma xg i k + t9 * ti_mb xg i k = lev then z + 1 else z) _ = _; rw [if_neg c40, show xg.1 i - (k + 1) = m9 by omega]; rfl) (lv_sub hl [2, 3, 4, 5, 6, 1, 0] rfl)
        · skip
          refine lv_iconst (v := nI 1) hx hb dX7_metBy_43 (by decide) ?_
          refine lv_goto (tgt := 48) hx hb dX7_metBy_44 (by decide) ?_
          refine tn_add hx hb dX7_metBy_48 ?_
          refine lv_istore (lv' := [(5, .int (nI (z + 1))), (0, .ref (ad 0)), (1, .int (nI i)), (2, .int (nI s9)), (3, .int (nI t9)), (4, .int (nI lev)), (6, .int (nI k))]) hx hb dX7_metBy_49 hl (by decide) rfl (fun ls hl => ?_)
          refine lv_iinc (v := nI (k + 1)) (lv' := [(6, .int (nI (k + 1))), (5, .int (nI (z + 1))), (0, .ref (ad 0)), (1, .int (nI i)), (2, .int (nI s9)), (3, .int (nI t9)), (4, .int (nI lev))]) hx hb dX7_metBy_51 hl (k := 6) rfl (nI_1 k) (by decide) rfl (fun ls hl => ?_)
          refine lv_goto (tgt := 6) hx hb dX7_metBy_54 (by decide) ?_
          exact ih6 (k + 1) (z + 1) _ (by omega) (by omega) (by omega) (by rw [hv]; show List.foldl _ (if s9 * ti_ma xg i k + t9 * ti_mb xg i k = lev then z + 1 else z) _ = _; rw [if_pos c40, show xg.1 i - (k + 1) = m9 by omega]; rfl) (lv_sub hl [2, 3, 4, 5, 6, 1, 0] rfl)
  exact L6 _ 0 0 _ (Nat.lt_succ_self _) (by omega) (by omega) (rfl) (lv_sub hl [2, 3, 4, 5, 6, 1, 0] rfl)

set_option maxHeartbeats 1000000 in
theorem met_X7_isInHull (l : Launch) (D : va_G) (E : Nat → ClassId) (ad : Nat → Nat) (xg : ti_Mg) (xd : ti_Md) (xt : ti_Mt) (xf : ti_Mf) (xj : ti_Mj) (xh : ti_Mh) (xs : ti_Ms) (xv : ti_Mv) (xb : ti_Mb) (xq : ti_Mq) (xk : ti_Mk) (hxf : ti_Mfok xf) (a b : Nat) (ha9 : a ≤ 9) (hb9 : b ≤ 9) : ti_MetP l D E yX7_isInHull cX7_isInHull 5 (some .boolean) 0 (ti_wM E ad xg xd xt xf xj xh xs xv xb xq xk) [.ref (ad 0), .int (nI a), .int (nI b)] (some (.int (ti_b (ti_hull a b (ti_F xf))))) := by
  refine ti_pureZ (by decide) (Nat.le_of_ble_eq_true rfl) ?_
  intro p e s m below meth c H locs Q ls S hE hP hl hret
  have hx := S.1
  have hb := S.2.1
  have hown := S.2.2.2.1
  have hts := S.2.2.2.2
  have hK := hE.1
  have hl : lv_has ls 5 [(0, .ref (ad 0)), (1, .int (nI a)), (2, .int (nI b))] := hl
  have hf64 := hxf.1
  refine lv_iconst (v := nI 1) hx hb dX7_isInHull_0 (by decide) ?_
  refine lv_istore_n (lv' := [(3, .int (nI 1)), (0, .ref (ad 0)), (1, .int (nI a)), (2, .int (nI b))]) hx hb dX7_isInHull_1 rfl hl (by decide) rfl (fun ls hl => ?_)
  refine lv_iconst (v := nI 0) hx hb dX7_isInHull_2 (by decide) ?_
  refine lv_istore (lv' := [(4, .int (nI 0)), (3, .int (nI 1)), (0, .ref (ad 0)), (1, .int (nI a)), (2, .int (nI b))]) hx hb dX7_isInHull_3 hl (by decide) rfl (fun ls hl => ?_)
  have L5 : ∀ (N : Nat) (z : Bool) (k : Nat) (ls : Array Slot), (xf.1 - k) < N → (k ≤ xf.1) → (ti_hull a b (ti_F xf) = (z && ti_hull a b (ti_fr xf.2.1 xf.2.2.1 xf.2.2.2 k (xf.1 - k)))) → lv_has ls 5 [(0, .ref (ad 0)), (1, .int (nI a)), (2, .int (nI b)), (3, .int (ti_b z)), (4, .int (nI k))] → W p l e (ti_rm 0 0 0) s m ([.ref (ad 0), .int (nI a), .int (nI b)] : List Value).toArray below meth c H locs 0 0 Q (F0 m 5 ls []) := by
    intro N
    induction N with
    | zero => intro z k ls h0; exact absurd h0 (Nat.not_lt_zero _)
    | succ N ih5 =>
      intro z k ls hN hkn hv hl
      refine lv_iload hx hb dX7_isInHull_5 (lv_at hl 4 rfl) ?_
      refine lv_aload_n hx hb dX7_isInHull_7 rfl (lv_at hl 0 rfl) ?_
      refine va_get (v := .int (nI xf.1)) hx hb hts in_X7 hown hK hP 0 rfl rfl 12 (by decide) (hts _ q1100) (fun _ h => h) rfl dX7_isInHull_8 ?_
      refine tn_ge (tgt := 59) hx hb dX7_isInHull_11 (by decide) (by omega) (by omega) (fun c11 => ?_) (fun c11 => ?_)
      · skip
        rw [show xf.1 - k = 0 by omega, ti_fr_0] at hv
        refine lv_iload_n hx hb dX7_isInHull_59 rfl (lv_at hl 3 rfl) ?_
        exact hret _ _ _ dX7_isInHull_60 (by rw [hv]; cases z <;> rfl)
      · skip
        obtain ⟨m9, hm9⟩ : ∃ m9, xf.1 - k = m9 + 1 := ⟨xf.1 - k - 1, by omega⟩
        rw [hm9, ti_fr_s] at hv
        refine lv_iload_n hx hb dX7_isInHull_14 rfl (lv_at hl 3 rfl) ?_
        refine tb_eq (tgt := 51) hx hb dX7_isInHull_15 (by decide) (fun c15 => ?_) (fun c15 => ?_)
        · skip
          refine lv_iconst (v := nI 0) hx hb dX7_isInHull_51 (by decide) ?_
          refine lv_istore_n (lv' := [(3, .int (nI 0)), (0, .ref (ad 0)), (1, .int (nI a)), (2, .int (nI b)), (4, .int (nI k))]) hx hb dX7_isInHull_52 rfl hl (by decide) rfl (fun ls hl => ?_)
          refine lv_iinc (v := nI (k + 1)) (lv' := [(4, .int (nI (k + 1))), (3, .int (nI 0)), (0, .ref (ad 0)), (1, .int (nI a)), (2, .int (nI b))]) hx hb dX7_isInHull_53 hl (k := 4) rfl (nI_1 k) (by decide) rfl (fun ls hl => ?_)
          refine lv_goto (tgt := 5) hx hb dX7_isInHull_56 (by decide) ?_
          exact ih5 false (k + 1) _ (by omega) (by omega) (by rw [hv, c15]; rfl) (lv_sub hl [2, 3, 4, 1, 0] rfl)
        · skip
          refine lv_aload_n hx hb dX7_isInHull_18 rfl (lv_at hl 0 rfl) ?_
          refine va_get (v := .ref (ad 10)) hx hb hts in_X7 hown hK hP 0 rfl rfl 13 (by decide) (hts _ q1101) (fun _ h => h) rfl dX7_isInHull_19 ?_
          refine lv_iload hx hb dX7_isInHull_22 (lv_at hl 4 rfl) ?_
          refine tn_iald (f := xf.2.1) hx hb hK hP 10 0 rfl rfl (by omega) (by decide) dX7_isInHull_24 ?_
          have b24 := hxf.2.1 k
          refine lv_iload_n hx hb dX7_isInHull_25 rfl (lv_at hl 1 rfl) ?_
          refine tn_mul hx hb dX7_isInHull_26 ?_
          have b26 : (xf.2.1 k) * a ≤ 81 := Nat.mul_le_mul b24 ha9
          refine lv_aload_n hx hb dX7_isInHull_27 rfl (lv_at hl 0 rfl) ?_
          refine va_get (v := .ref (ad 11)) hx hb hts in_X7 hown hK hP 0 rfl rfl 14 (by decide) (hts _ q1102) (fun _ h => h) rfl dX7_isInHull_28 ?_
          refine lv_iload hx hb dX7_isInHull_31 (lv_at hl 4 rfl) ?_
          refine tn_iald (f := xf.2.2.1) hx hb hK hP 11 0 rfl rfl (by omega) (by decide) dX7_isInHull_33 ?_
          have b33 := hxf.2.2.1 k
          refine lv_iload_n hx hb dX7_isInHull_34 rfl (lv_at hl 2 rfl) ?_
          refine tn_mul hx hb dX7_isInHull_35 ?_
          have b35 : (xf.2.2.1 k) * b ≤ 81 := Nat.mul_le_mul b33 hb9
          refine tn_add hx hb dX7_isInHull_36 ?_
          have b36 : ((xf.2.1 k) * a) + ((xf.2.2.1 k) * b) ≤ 162 := Nat.add_le_add b26 b35
          refine lv_aload_n hx hb dX7_isInHull_37 rfl (lv_at hl 0 rfl) ?_
          refine va_get (v := .ref (ad 12)) hx hb hts in_X7 hown hK hP 0 rfl rfl 15 (by decide) (hts _ q1103) (fun _ h => h) rfl dX7_isInHull_38 ?_
          refine lv_iload hx hb dX7_isInHull_41 (lv_at hl 4 rfl) ?_
          refine tn_iald (f := xf.2.2.2) hx hb hK hP 12 0 rfl rfl (by omega) (by decide) dX7_isInHull_43 ?_
          have b43 := hxf.2.2.2 k
          refine tn_lt (tgt := 51) hx hb dX7_isInHull_44 (by decide) (by omega) (by omega) (fun c44 => ?_) (fun c44 => ?_)
          · skip
            refine lv_iconst (v := nI 0) hx hb dX7_isInHull_51 (by decide) ?_
            refine lv_istore_n (lv' := [(3, .int (nI 0)), (0, .ref (ad 0)), (1, .int (nI a)), (2, .int (nI b)), (4, .int (nI k))]) hx hb dX7_isInHull_52 rfl hl (by decide) rfl (fun ls hl => ?_)
            refine lv_iinc (v := nI (k + 1)) (lv' := [(4, .int (nI (k + 1))), (3, .int (nI 0)), (0, .ref (ad 0)), (1, .int (nI a)), (2, .int (nI b))]) hx hb dX7_isInHull_53 hl (k := 4) rfl (nI_1 k) (by decide) rfl (fun ls hl => ?_)
            refine lv_goto (tgt := 5) hx hb dX7_isInHull_56 (by decide) ?_
            exact ih5 false (k + 1) _ (by omega) (by omega) (by rw [hv, c15, ti_hull, if_neg (Nat.not_le.mpr c44)]; rfl) (lv_sub hl [2, 3, 4, 1, 0] rfl)
          · skip
            refine lv_iconst (v := nI 1) hx hb dX7_isInHull_47 (by decide) ?_
            refine lv_goto (tgt := 52) hx hb dX7_isInHull_48 (by decide) ?_
            refine lv_istore_n (lv' := [(3, .int (nI 1)), (0, .ref (ad 0)), (1, .int (nI a)), (2, .int (nI b)), (4, .int (nI k))]) hx hb dX7_isInHull_52 rfl hl (by decide) rfl (fun ls hl => ?_)
            refine lv_iinc (v := nI (k + 1)) (lv' := [(4, .int (nI (k + 1))), (3, .int (nI 1)), (0, .ref (ad 0)), (1, .int (nI a)), (2, .int (nI b))]) hx hb dX7_isInHull_53 hl (k := 4) rfl (nI_1 k) (by decide) rfl (fun ls hl => ?_)
            refine lv_goto (tgt := 5) hx hb dX7_isInHull_56 (by decide) ?_
            exact ih5 true (k + 1) _ (by omega) (by omega) (by rw [hv, c15, ti_hull, if_pos c44, show xf.1 - (k + 1) = m9 by omega]) (lv_sub hl [2, 3, 4, 1, 0] rfl)
  exact L5 _ true 0 _ (Nat.lt_succ_self _) (by omega) (rfl) (lv_sub hl [2, 3, 4, 1, 0] rfl)

set_option maxHeartbeats 1000000 in
theorem met_X7_isWithin (l : Launch) (D : va_G) (E : Nat → ClassId) (ad : Nat → Nat) (xg : ti_Mg) (xd : ti_Md) (xt : ti_Mt) (xf : ti_Mf) (xj : ti_Mj) (xh : ti_Mh) (xs : ti_Ms) (xv : ti_Mv) (xb : ti_Mb) (xq : ti_Mq) (xk : ti_Mk) (hxg : ti_Mgok xg) (i : Nat) (hi : i < 3) (a b : Nat) (ha9 : a ≤ 9) (hb9 : b ≤ 9) : ti_MetP l D E yX7_isWithin cX7_isWithin 6 (some .boolean) 1 (ti_wM E ad xg xd xt xf xj xh xs xv xb xq xk) [.ref (ad 0), .int (nI i), .int (nI a), .int (nI b)] (some (.int (ti_b (ti_hb a b (-5) (ti_gr (ti_ma xg i) (ti_mb xg i) 0 (xg.1 i)) 0)))) := by
  refine ti_pureZ (by decide) (Nat.le_of_ble_eq_true rfl) ?_
  intro p e s m below meth c H locs Q ls S hE hP hl hret
  have hx := S.1
  have hb := S.2.1
  have hown := S.2.2.2.1
  have hts := S.2.2.2.2
  have hK := hE.1
  have hl : lv_has ls 6 [(0, .ref (ad 0)), (1, .int (nI i)), (2, .int (nI a)), (3, .int (nI b))] := hl
  refine lv_iconst (v := nI 0) hx hb dX7_isWithin_0 (by decide) ?_
  refine lv_istore (lv' := [(4, .int (nI 0)), (0, .ref (ad 0)), (1, .int (nI i)), (2, .int (nI a)), (3, .int (nI b))]) hx hb dX7_isWithin_1 hl (by decide) rfl (fun ls hl => ?_)
  refine lv_iconst (v := nI 0) hx hb dX7_isWithin_3 (by decide) ?_
  refine lv_istore (lv' := [(5, .int (nI 0)), (4, .int (nI 0)), (0, .ref (ad 0)), (1, .int (nI i)), (2, .int (nI a)), (3, .int (nI b))]) hx hb dX7_isWithin_4 hl (by decide) rfl (fun ls hl => ?_)
  have L6 : ∀ (N : Nat) (z : Bool) (k : Nat) (ls : Array Slot), (xg.1 i - k) < N → (k ≤ xg.1 i) → (ti_hb a b (-5) (ti_gr (ti_ma xg i) (ti_mb xg i) 0 (xg.1 i)) 0 = (z || ti_hb a b (-5) (ti_gr (ti_ma xg i) (ti_mb xg i) k (xg.1 i - k)) k)) → lv_has ls 6 [(0, .ref (ad 0)), (1, .int (nI i)), (2, .int (nI a)), (3, .int (nI b)), (4, .int (ti_b z)), (5, .int (nI k))] → W p l e (ti_rm 1 0 0) s m ([.ref (ad 0), .int (nI i), .int (nI a), .int (nI b)] : List Value).toArray below meth c H locs 0 0 Q (F0 m 6 ls []) := by
    intro N
    induction N with
    | zero => intro z k ls h0; exact absurd h0 (Nat.not_lt_zero _)
    | succ N ih6 =>
      intro z k ls hN hkn hv hl
      refine lv_iload hx hb dX7_isWithin_6 (lv_at hl 5 rfl) ?_
      refine lv_aload_n hx hb dX7_isWithin_8 rfl (lv_at hl 0 rfl) ?_
      refine va_get (v := .ref (ad 1)) hx hb hts in_X7 hown hK hP 0 rfl rfl 0 (by decide) (hts _ q1088) (fun _ h => h) rfl dX7_isWithin_9 ?_
      refine lv_iload_n hx hb dX7_isWithin_12 rfl (lv_at hl 1 rfl) ?_
      refine tn_iald (f := xg.1) hx hb hK hP 1 0 rfl rfl (by omega) (by decide) dX7_isWithin_13 ?_
      have b13 := hxg.1 i
      refine tn_ge (tgt := 57) hx hb dX7_isWithin_14 (by decide) (by omega) (by omega) (fun c14 => ?_) (fun c14 => ?_)
      · skip
        rw [show xg.1 i - k = 0 by omega, ti_gr_0] at hv
        refine lv_iload hx hb dX7_isWithin_57 (lv_at hl 4 rfl) ?_
        exact hret _ _ _ dX7_isWithin_59 (by rw [hv]; cases z <;> rfl)
      · skip
        obtain ⟨m9, hm9⟩ : ∃ m9, xg.1 i - k = m9 + 1 := ⟨xg.1 i - k - 1, by omega⟩
        rw [hm9, ti_gr_s] at hv
        refine lv_iload hx hb dX7_isWithin_17 (lv_at hl 4 rfl) ?_
        refine tb_ne (tgt := 44) hx hb dX7_isWithin_19 (by decide) (fun c19 => ?_) (fun c19 => ?_)
        · skip
          refine lv_iconst (v := nI 1) hx hb dX7_isWithin_44 (by decide) ?_
          refine lv_goto (tgt := 49) hx hb dX7_isWithin_45 (by decide) ?_
          refine lv_istore (lv' := [(4, .int (nI 1)), (0, .ref (ad 0)), (1, .int (nI i)), (2, .int (nI a)), (3, .int (nI b)), (5, .int (nI k))]) hx hb dX7_isWithin_49 hl (by decide) rfl (fun ls hl => ?_)
          refine lv_iinc (v := nI (k + 1)) (lv' := [(5, .int (nI (k + 1))), (4, .int (nI 1)), (0, .ref (ad 0)), (1, .int (nI i)), (2, .int (nI a)), (3, .int (nI b))]) hx hb dX7_isWithin_51 hl (k := 5) rfl (nI_1 k) (by decide) rfl (fun ls hl => ?_)
          refine lv_goto (tgt := 6) hx hb dX7_isWithin_54 (by decide) ?_
          exact ih6 true (k + 1) _ (by omega) (by omega) (by rw [hv, c19]; rfl) (lv_sub hl [2, 3, 4, 5, 1, 0] rfl)
        · skip
          refine lv_aload_n hx hb dX7_isWithin_22 rfl (lv_at hl 0 rfl) ?_
          refine lv_iload_n hx hb dX7_isWithin_23 rfl (lv_at hl 1 rfl) ?_
          refine lv_iload hx hb dX7_isWithin_24 (lv_at hl 5 rfl) ?_
          refine ti_pVa (As := [.int (nI i), .int (nI k)]) (rest := []) (v := .int (nI (ti_ma xg i k))) S hE hP (met_X7_a l D E ad xg xd xt xf xj xh xs xv xb xq xk i k (by omega)) (lw_V q1245 q1247 qs26 q73 q1248) 2 rfl 0 rfl rfl (by decide +kernel) ⟨Nat.le_of_ble_eq_true rfl, Nat.le_of_ble_eq_true rfl⟩ hl.1 rfl (Nat.le_of_ble_eq_true rfl) ⟨Nat.le_refl _, Nat.le_refl _⟩ dX7_isWithin_26 ?_
          have ha26 : ti_ma xg i k ≤ 9 := hxg.2.1 _
          refine lv_iload_n hx hb dX7_isWithin_29 rfl (lv_at hl 2 rfl) ?_
          refine tn_gt (tgt := 48) hx hb dX7_isWithin_30 (by decide) (by omega) (by omega) (fun c30 => ?_) (fun c30 => ?_)
          · skip
            refine lv_iconst (v := nI 0) hx hb dX7_isWithin_48 (by decide) ?_
            refine lv_istore (lv' := [(4, .int (nI 0)), (0, .ref (ad 0)), (1, .int (nI i)), (2, .int (nI a)), (3, .int (nI b)), (5, .int (nI k))]) hx hb dX7_isWithin_49 hl (by decide) rfl (fun ls hl => ?_)
            refine lv_iinc (v := nI (k + 1)) (lv' := [(5, .int (nI (k + 1))), (4, .int (nI 0)), (0, .ref (ad 0)), (1, .int (nI i)), (2, .int (nI a)), (3, .int (nI b))]) hx hb dX7_isWithin_51 hl (k := 5) rfl (nI_1 k) (by decide) rfl (fun ls hl => ?_)
            refine lv_goto (tgt := 6) hx hb dX7_isWithin_54 (by decide) ?_
            exact ih6 false (k + 1) _ (by omega) (by omega) (by rw [hv, c19, ti_hb, if_neg (fun z9 => absurd z9.2.1 (Nat.not_le.mpr c30)), show xg.1 i - (k + 1) = m9 by omega]) (lv_sub hl [2, 3, 4, 5, 1, 0] rfl)
          · skip
            refine lv_aload_n hx hb dX7_isWithin_33 rfl (lv_at hl 0 rfl) ?_
            refine lv_iload_n hx hb dX7_isWithin_34 rfl (lv_at hl 1 rfl) ?_
            refine lv_iload hx hb dX7_isWithin_35 (lv_at hl 5 rfl) ?_
            refine ti_pVa (As := [.int (nI i), .int (nI k)]) (rest := []) (v := .int (nI (ti_mb xg i k))) S hE hP (met_X7_b l D E ad xg xd xt xf xj xh xs xv xb xq xk i k (by omega)) (lw_V q1249 q1251 qs27 q73 q1252) 2 rfl 0 rfl rfl (by decide +kernel) ⟨Nat.le_of_ble_eq_true rfl, Nat.le_of_ble_eq_true rfl⟩ hl.1 rfl (Nat.le_of_ble_eq_true rfl) ⟨Nat.le_refl _, Nat.le_refl _⟩ dX7_isWithin_37 ?_
            have hb37 : ti_mb xg i k ≤ 9 := hxg.2.2 _
            refine lv_iload_n hx hb dX7_isWithin_40 rfl (lv_at hl 3 rfl) ?_
            refine tn_gt (tgt := 48) hx hb dX7_isWithin_41 (by decide) (by omega) (by omega) (fun c41 => ?_) (fun c41 => ?_)
            · skip
              refine lv_iconst (v := nI 0) hx hb dX7_isWithin_48 (by decide) ?_
              refine lv_istore (lv' := [(4, .int (nI 0)), (0, .ref (ad 0)), (1, .int (nI i)), (2, .int (nI a)), (3, .int (nI b)), (5, .int (nI k))]) hx hb dX7_isWithin_49 hl (by decide) rfl (fun ls hl => ?_)
              refine lv_iinc (v := nI (k + 1)) (lv' := [(5, .int (nI (k + 1))), (4, .int (nI 0)), (0, .ref (ad 0)), (1, .int (nI i)), (2, .int (nI a)), (3, .int (nI b))]) hx hb dX7_isWithin_51 hl (k := 5) rfl (nI_1 k) (by decide) rfl (fun ls hl => ?_)
              refine lv_goto (tgt := 6) hx hb dX7_isWithin_54 (by decide) ?_
              exact ih6 false (k + 1) _ (by omega) (by omega) (by rw [hv, c19, ti_hb, if_neg (fun z9 => absurd z9.2.2 (Nat.not_le.mpr c41)), show xg.1 i - (k + 1) = m9 by omega]) (lv_sub hl [2, 3, 4, 5, 1, 0] rfl)
            · skip
              refine lv_iconst (v := nI 1) hx hb dX7_isWithin_44 (by decide) ?_
              refine lv_goto (tgt := 49) hx hb dX7_isWithin_45 (by decide) ?_
              refine lv_istore (lv' := [(4, .int (nI 1)), (0, .ref (ad 0)), (1, .int (nI i)), (2, .int (nI a)), (3, .int (nI b)), (5, .int (nI k))]) hx hb dX7_isWithin_49 hl (by decide) rfl (fun ls hl => ?_)
              refine lv_iinc (v := nI (k + 1)) (lv' := [(5, .int (nI (k + 1))), (4, .int (nI 1)), (0, .ref (ad 0)), (1, .int (nI i)), (2, .int (nI a)), (3, .int (nI b))]) hx hb dX7_isWithin_51 hl (k := 5) rfl (nI_1 k) (by decide) rfl (fun ls hl => ?_)
              refine lv_goto (tgt := 6) hx hb dX7_isWithin_54 (by decide) ?_
              exact ih6 true (k + 1) _ (by omega) (by omega) (by rw [hv, c19, ti_hb, if_pos ⟨ti_n5 (by omega), c30, c41⟩]; rfl) (lv_sub hl [2, 3, 4, 5, 1, 0] rfl)
  exact L6 _ false 0 _ (Nat.lt_succ_self _) (by omega) (rfl) (lv_sub hl [2, 3, 4, 5, 1, 0] rfl)

set_option maxHeartbeats 1000000 in
theorem met_X7_isLeast (l : Launch) (D : va_G) (E : Nat → ClassId) (ad : Nat → Nat) (xg : ti_Mg) (xd : ti_Md) (xt : ti_Mt) (xf : ti_Mf) (xj : ti_Mj) (xh : ti_Mh) (xs : ti_Ms) (xv : ti_Mv) (xb : ti_Mb) (xq : ti_Mq) (xk : ti_Mk) (hxg : ti_Mgok xg) (i : Nat) (hi : i < 3) (k : Nat) (hk : k < xg.1 i) : ti_MetP l D E yX7_isLeast cX7_isLeast 5 (some .boolean) 1 (ti_wM E ad xg xd xt xf xj xh xs xv xb xq xk) [.ref (ad 0), .int (nI i), .int (nI k)] (some (.int (ti_b (!ti_hb (ti_ma xg i k) (ti_mb xg i k) (nI k) (ti_gr (ti_ma xg i) (ti_mb xg i) 0 (xg.1 i)) 0)))) := by
  refine ti_pureZ (by decide) (Nat.le_of_ble_eq_true rfl) ?_
  intro p e s m below meth c H locs Q ls S hE hP hl hret
  have hx := S.1
  have hb := S.2.1
  have hown := S.2.2.2.1
  have hts := S.2.2.2.2
  have hK := hE.1
  have hl : lv_has ls 5 [(0, .ref (ad 0)), (1, .int (nI i)), (2, .int (nI k))] := hl
  have h6 := hxg.1 i
  refine lv_iconst (v := nI 1) hx hb dX7_isLeast_0 (by decide) ?_
  refine lv_istore_n (lv' := [(3, .int (nI 1)), (0, .ref (ad 0)), (1, .int (nI i)), (2, .int (nI k))]) hx hb dX7_isLeast_1 rfl hl (by decide) rfl (fun ls hl => ?_)
  refine lv_iconst (v := nI 0) hx hb dX7_isLeast_2 (by decide) ?_
  refine lv_istore (lv' := [(4, .int (nI 0)), (3, .int (nI 1)), (0, .ref (ad 0)), (1, .int (nI i)), (2, .int (nI k))]) hx hb dX7_isLeast_3 hl (by decide) rfl (fun ls hl => ?_)
  have L5 : ∀ (N : Nat) (z : Bool) (j : Nat) (ls : Array Slot), (xg.1 i - j) < N → (j ≤ xg.1 i) → ((!ti_hb (ti_ma xg i k) (ti_mb xg i k) (nI k) (ti_gr (ti_ma xg i) (ti_mb xg i) 0 (xg.1 i)) 0) = (z && !ti_hb (ti_ma xg i k) (ti_mb xg i k) (nI k) (ti_gr (ti_ma xg i) (ti_mb xg i) j (xg.1 i - j)) j)) → lv_has ls 5 [(0, .ref (ad 0)), (1, .int (nI i)), (2, .int (nI k)), (3, .int (ti_b z)), (4, .int (nI j))] → W p l e (ti_rm 1 0 0) s m ([.ref (ad 0), .int (nI i), .int (nI k)] : List Value).toArray below meth c H locs 0 0 Q (F0 m 5 ls []) := by
    intro N
    induction N with
    | zero => intro z j ls h0; exact absurd h0 (Nat.not_lt_zero _)
    | succ N ih5 =>
      intro z j ls hN hkn hv hl
      refine lv_iload hx hb dX7_isLeast_5 (lv_at hl 4 rfl) ?_
      refine lv_aload_n hx hb dX7_isLeast_7 rfl (lv_at hl 0 rfl) ?_
      refine va_get (v := .ref (ad 1)) hx hb hts in_X7 hown hK hP 0 rfl rfl 0 (by decide) (hts _ q1088) (fun _ h => h) rfl dX7_isLeast_8 ?_
      refine lv_iload_n hx hb dX7_isLeast_11 rfl (lv_at hl 1 rfl) ?_
      refine tn_iald (f := xg.1) hx hb hK hP 1 0 rfl rfl (by omega) (by decide) dX7_isLeast_12 ?_
      have b12 := hxg.1 i
      refine tn_ge (tgt := 70) hx hb dX7_isLeast_13 (by decide) (by omega) (by omega) (fun c13 => ?_) (fun c13 => ?_)
      · skip
        rw [show xg.1 i - j = 0 by omega, ti_gr_0] at hv
        refine lv_iload_n hx hb dX7_isLeast_70 rfl (lv_at hl 3 rfl) ?_
        exact hret _ _ _ dX7_isLeast_71 (by rw [hv]; cases z <;> rfl)
      · skip
        obtain ⟨m9, hm9⟩ : ∃ m9, xg.1 i - j = m9 + 1 := ⟨xg.1 i - j - 1, by omega⟩
        rw [hm9, ti_gr_s] at hv
        refine lv_iload_n hx hb dX7_isLeast_16 rfl (lv_at hl 3 rfl) ?_
        refine tb_eq (tgt := 62) hx hb dX7_isLeast_17 (by decide) (fun c17 => ?_) (fun c17 => ?_)
        · skip
          refine lv_iconst (v := nI 0) hx hb dX7_isLeast_62 (by decide) ?_
          refine lv_istore_n (lv' := [(3, .int (nI 0)), (0, .ref (ad 0)), (1, .int (nI i)), (2, .int (nI k)), (4, .int (nI j))]) hx hb dX7_isLeast_63 rfl hl (by decide) rfl (fun ls hl => ?_)
          refine lv_iinc (v := nI (j + 1)) (lv' := [(4, .int (nI (j + 1))), (3, .int (nI 0)), (0, .ref (ad 0)), (1, .int (nI i)), (2, .int (nI k))]) hx hb dX7_isLeast_64 hl (k := 4) rfl (nI_1 j) (by decide) rfl (fun ls hl => ?_)
          refine lv_goto (tgt := 5) hx hb dX7_isLeast_67 (by decide) ?_
          exact ih5 false (j + 1) _ (by omega) (by omega) (by rw [hv, c17]; rfl) (lv_sub hl [2, 3, 4, 1, 0] rfl)
        · skip
          refine lv_iload hx hb dX7_isLeast_20 (lv_at hl 4 rfl) ?_
          refine lv_iload_n hx hb dX7_isLeast_22 rfl (lv_at hl 2 rfl) ?_
          refine tn_eq (tgt := 58) hx hb dX7_isLeast_23 (by decide) (by omega) (by omega) (fun c23 => ?_) (fun c23 => ?_)
          · skip
            refine lv_iconst (v := nI 1) hx hb dX7_isLeast_58 (by decide) ?_
            refine lv_goto (tgt := 63) hx hb dX7_isLeast_59 (by decide) ?_
            refine lv_istore_n (lv' := [(3, .int (nI 1)), (0, .ref (ad 0)), (1, .int (nI i)), (2, .int (nI k)), (4, .int (nI j))]) hx hb dX7_isLeast_63 rfl hl (by decide) rfl (fun ls hl => ?_)
            refine lv_iinc (v := nI (j + 1)) (lv' := [(4, .int (nI (j + 1))), (3, .int (nI 1)), (0, .ref (ad 0)), (1, .int (nI i)), (2, .int (nI k))]) hx hb dX7_isLeast_64 hl (k := 4) rfl (nI_1 j) (by decide) rfl (fun ls hl => ?_)
            refine lv_goto (tgt := 5) hx hb dX7_isLeast_67 (by decide) ?_
            exact ih5 true (j + 1) _ (by omega) (by omega) (by rw [hv, c17, ti_hb, if_neg (fun z9 => z9.1 (by rw [c23])), show xg.1 i - (j + 1) = m9 by omega]) (lv_sub hl [2, 3, 4, 1, 0] rfl)
          · skip
            refine lv_aload_n hx hb dX7_isLeast_26 rfl (lv_at hl 0 rfl) ?_
            refine lv_iload_n hx hb dX7_isLeast_27 rfl (lv_at hl 1 rfl) ?_
            refine lv_iload hx hb dX7_isLeast_28 (lv_at hl 4 rfl) ?_
            refine ti_pVa (As := [.int (nI i), .int (nI j)]) (rest := []) (v := .int (nI (ti_ma xg i j))) S hE hP (met_X7_a l D E ad xg xd xt xf xj xh xs xv xb xq xk i j (by omega)) (lw_V q1245 q1247 qs26 q73 q1248) 2 rfl 0 rfl rfl (by decide +kernel) ⟨Nat.le_of_ble_eq_true rfl, Nat.le_of_ble_eq_true rfl⟩ hl.1 rfl (Nat.le_of_ble_eq_true rfl) ⟨Nat.le_refl _, Nat.le_refl _⟩ dX7_isLeast_30 ?_
            have ha30 : ti_ma xg i j ≤ 9 := hxg.2.1 _
            refine lv_aload_n hx hb dX7_isLeast_33 rfl (lv_at hl 0 rfl) ?_
            refine lv_iload_n hx hb dX7_isLeast_34 rfl (lv_at hl 1 rfl) ?_
            refine lv_iload_n hx hb dX7_isLeast_35 rfl (lv_at hl 2 rfl) ?_
            refine ti_pVa (As := [.int (nI i), .int (nI k)]) (rest := [.int (nI (ti_ma xg i j))]) (v := .int (nI (ti_ma xg i k))) S hE hP (met_X7_a l D E ad xg xd xt xf xj xh xs xv xb xq xk i k (by omega)) (lw_V q1245 q1247 qs26 q73 q1248) 2 rfl 0 rfl rfl (by decide +kernel) ⟨Nat.le_of_ble_eq_true rfl, Nat.le_of_ble_eq_true rfl⟩ hl.1 rfl (Nat.le_of_ble_eq_true rfl) ⟨Nat.le_refl _, Nat.le_refl _⟩ dX7_isLeast_36 ?_
            have ha36 : ti_ma xg i k ≤ 9 := hxg.2.1 _
            refine tn_gt (tgt := 58) hx hb dX7_isLeast_39 (by decide) (by omega) (by omega) (fun c39 => ?_) (fun c39 => ?_)
            · skip
              refine lv_iconst (v := nI 1) hx hb dX7_isLeast_58 (by decide) ?_
              refine lv_goto (tgt := 63) hx hb dX7_isLeast_59 (by decide) ?_
              refine lv_istore_n (lv' := [(3, .int (nI 1)), (0, .ref (ad 0)), (1, .int (nI i)), (2, .int (nI k)), (4, .int (nI j))]) hx hb dX7_isLeast_63 rfl hl (by decide) rfl (fun ls hl => ?_)
              refine lv_iinc (v := nI (j + 1)) (lv' := [(4, .int (nI (j + 1))), (3, .int (nI 1)), (0, .ref (ad 0)), (1, .int (nI i)), (2, .int (nI k))]) hx hb dX7_isLeast_64 hl (k := 4) rfl (nI_1 j) (by decide) rfl (fun ls hl => ?_)
              refine lv_goto (tgt := 5) hx hb dX7_isLeast_67 (by decide) ?_
              exact ih5 true (j + 1) _ (by omega) (by omega) (by rw [hv, c17, ti_hb, if_neg (fun z9 => absurd z9.2.1 (Nat.not_le.mpr c39)), show xg.1 i - (j + 1) = m9 by omega]) (lv_sub hl [2, 3, 4, 1, 0] rfl)
            · skip
              refine lv_aload_n hx hb dX7_isLeast_42 rfl (lv_at hl 0 rfl) ?_
              refine lv_iload_n hx hb dX7_isLeast_43 rfl (lv_at hl 1 rfl) ?_
              refine lv_iload hx hb dX7_isLeast_44 (lv_at hl 4 rfl) ?_
              refine ti_pVa (As := [.int (nI i), .int (nI j)]) (rest := []) (v := .int (nI (ti_mb xg i j))) S hE hP (met_X7_b l D E ad xg xd xt xf xj xh xs xv xb xq xk i j (by omega)) (lw_V q1249 q1251 qs27 q73 q1252) 2 rfl 0 rfl rfl (by decide +kernel) ⟨Nat.le_of_ble_eq_true rfl, Nat.le_of_ble_eq_true rfl⟩ hl.1 rfl (Nat.le_of_ble_eq_true rfl) ⟨Nat.le_refl _, Nat.le_refl _⟩ dX7_isLeast_46 ?_
              have hb46 : ti_mb xg i j ≤ 9 := hxg.2.2 _
              refine lv_aload_n hx hb dX7_isLeast_49 rfl (lv_at hl 0 rfl) ?_
              refine lv_iload_n hx hb dX7_isLeast_50 rfl (lv_at hl 1 rfl) ?_
              refine lv_iload_n hx hb dX7_isLeast_51 rfl (lv_at hl 2 rfl) ?_
              refine ti_pVa (As := [.int (nI i), .int (nI k)]) (rest := [.int (nI (ti_mb xg i j))]) (v := .int (nI (ti_mb xg i k))) S hE hP (met_X7_b l D E ad xg xd xt xf xj xh xs xv xb xq xk i k (by omega)) (lw_V q1249 q1251 qs27 q73 q1252) 2 rfl 0 rfl rfl (by decide +kernel) ⟨Nat.le_of_ble_eq_true rfl, Nat.le_of_ble_eq_true rfl⟩ hl.1 rfl (Nat.le_of_ble_eq_true rfl) ⟨Nat.le_refl _, Nat.le_refl _⟩ dX7_isLeast_52 ?_
              have hb52 : ti_mb xg i k ≤ 9 := hxg.2.2 _
              refine tn_le (tgt := 62) hx hb dX7_isLeast_55 (by decide) (by omega) (by omega) (fun c55 => ?_) (fun c55 => ?_)
              · skip
                refine lv_iconst (v := nI 0) hx hb dX7_isLeast_62 (by decide) ?_
                refine lv_istore_n (lv' := [(3, .int (nI 0)), (0, .ref (ad 0)), (1, .int (nI i)), (2, .int (nI k)), (4, .int (nI j))]) hx hb dX7_isLeast_63 rfl hl (by decide) rfl (fun ls hl => ?_)
                refine lv_iinc (v := nI (j + 1)) (lv' := [(4, .int (nI (j + 1))), (3, .int (nI 0)), (0, .ref (ad 0)), (1, .int (nI i)), (2, .int (nI k))]) hx hb dX7_isLeast_64 hl (k := 4) rfl (nI_1 j) (by decide) rfl (fun ls hl => ?_)
                refine lv_goto (tgt := 5) hx hb dX7_isLeast_67 (by decide) ?_
                exact ih5 false (j + 1) _ (by omega) (by omega) (by rw [hv, c17, ti_hb, if_pos ⟨fun z9 => c23 ((nI_eq (by omega) (by omega)).mp z9), c39, c55⟩]; rfl) (lv_sub hl [2, 3, 4, 1, 0] rfl)
              · skip
                refine lv_iconst (v := nI 1) hx hb dX7_isLeast_58 (by decide) ?_
                refine lv_goto (tgt := 63) hx hb dX7_isLeast_59 (by decide) ?_
                refine lv_istore_n (lv' := [(3, .int (nI 1)), (0, .ref (ad 0)), (1, .int (nI i)), (2, .int (nI k)), (4, .int (nI j))]) hx hb dX7_isLeast_63 rfl hl (by decide) rfl (fun ls hl => ?_)
                refine lv_iinc (v := nI (j + 1)) (lv' := [(4, .int (nI (j + 1))), (3, .int (nI 1)), (0, .ref (ad 0)), (1, .int (nI i)), (2, .int (nI k))]) hx hb dX7_isLeast_64 hl (k := 4) rfl (nI_1 j) (by decide) rfl (fun ls hl => ?_)
                refine lv_goto (tgt := 5) hx hb dX7_isLeast_67 (by decide) ?_
                exact ih5 true (j + 1) _ (by omega) (by omega) (by rw [hv, c17, ti_hb, if_neg (fun z9 => absurd z9.2.2 (Nat.not_le.mpr c55)), show xg.1 i - (j + 1) = m9 by omega]) (lv_sub hl [2, 3, 4, 1, 0] rfl)
  exact L5 _ true 0 _ (Nat.lt_succ_self _) (by omega) (Bool.true_and _).symm (lv_sub hl [2, 3, 4, 1, 0] rfl)

set_option maxHeartbeats 1000000 in
theorem met_X7_leastMany (l : Launch) (D : va_G) (E : Nat → ClassId) (ad : Nat → Nat) (xg : ti_Mg) (xd : ti_Md) (xt : ti_Mt) (xf : ti_Mf) (xj : ti_Mj) (xh : ti_Mh) (xs : ti_Ms) (xv : ti_Mv) (xb : ti_Mb) (xq : ti_Mq) (xk : ti_Mk) (hxg : ti_Mgok xg) (i : Nat) (hi : i < 3) : ti_MetP l D E yX7_leastMany cX7_leastMany 4 (some .int) 2 (ti_wM E ad xg xd xt xf xj xh xs xv xb xq xk) [.ref (ad 0), .int (nI i)] (some (.int (nI (ti_lst (ti_gr (ti_ma xg i) (ti_mb xg i) 0 (xg.1 i)) (ti_gr (ti_ma xg i) (ti_mb xg i) 0 (xg.1 i)) 0 0)))) := by
  refine ti_pureI (by decide) (Nat.le_of_ble_eq_true rfl) ?_
  intro p e s m below meth c H locs Q ls S hE hP hl hret
  have hx := S.1
  have hb := S.2.1
  have hown := S.2.2.2.1
  have hts := S.2.2.2.2
  have hK := hE.1
  have hl : lv_has ls 4 [(0, .ref (ad 0)), (1, .int (nI i))] := hl
  refine lv_iconst (v := nI 0) hx hb dX7_leastMany_0 (by decide) ?_
  refine lv_istore_n (lv' := [(2, .int (nI 0)), (0, .ref (ad 0)), (1, .int (nI i))]) hx hb dX7_leastMany_1 rfl hl (by decide) rfl (fun ls hl => ?_)
  refine lv_iconst (v := nI 0) hx hb dX7_leastMany_2 (by decide) ?_
  refine lv_istore_n (lv' := [(3, .int (nI 0)), (2, .int (nI 0)), (0, .ref (ad 0)), (1, .int (nI i))]) hx hb dX7_leastMany_3 rfl hl (by decide) rfl (fun ls hl => ?_)
  have L4 : ∀ (N : Nat) (z k : Nat) (ls : Array Slot), (xg.1 i - k) < N → (k ≤ xg.1 i) → (ti_lst (ti_gr (ti_ma xg i) (ti_mb xg i) 0 (xg.1 i)) (ti_gr (ti_ma xg i) (ti_mb xg i) 0 (xg.1 i)) 0 0 = ti_lst (ti_gr (ti_ma xg i) (ti_mb xg i) 0 (xg.1 i)) (ti_gr (ti_ma xg i) (ti_mb xg i) k (xg.1 i - k)) k z) → lv_has ls 4 [(0, .ref (ad 0)), (1, .int (nI i)), (2, .int (nI z)), (3, .int (nI k))] → W p l e (ti_rm 2 0 0) s m ([.ref (ad 0), .int (nI i)] : List Value).toArray below meth c H locs 0 0 Q (F0 m 4 ls []) := by
    intro N
    induction N with
    | zero => intro z k ls h0; exact absurd h0 (Nat.not_lt_zero _)
    | succ N ih4 =>
      intro z k ls hN hkn hv hl
      refine lv_iload_n hx hb dX7_leastMany_4 rfl (lv_at hl 3 rfl) ?_
      refine lv_aload_n hx hb dX7_leastMany_5 rfl (lv_at hl 0 rfl) ?_
      refine va_get (v := .ref (ad 1)) hx hb hts in_X7 hown hK hP 0 rfl rfl 0 (by decide) (hts _ q1088) (fun _ h => h) rfl dX7_leastMany_6 ?_
      refine lv_iload_n hx hb dX7_leastMany_9 rfl (lv_at hl 1 rfl) ?_
      refine tn_iald (f := xg.1) hx hb hK hP 1 0 rfl rfl (by omega) (by decide) dX7_leastMany_10 ?_
      have b10 := hxg.1 i
      refine tn_ge (tgt := 37) hx hb dX7_leastMany_11 (by decide) (by omega) (by omega) (fun c11 => ?_) (fun c11 => ?_)
      · skip
        rw [show xg.1 i - k = 0 by omega, ti_gr_0] at hv
        refine lv_iload_n hx hb dX7_leastMany_37 rfl (lv_at hl 2 rfl) ?_
        exact hret _ _ _ dX7_leastMany_38 (by rw [hv]; rfl)
      · skip
        obtain ⟨m9, hm9⟩ : ∃ m9, xg.1 i - k = m9 + 1 := ⟨xg.1 i - k - 1, by omega⟩
        rw [hm9, ti_gr_s] at hv
        refine lv_iload_n hx hb dX7_leastMany_14 rfl (lv_at hl 2 rfl) ?_
        refine lv_aload_n hx hb dX7_leastMany_15 rfl (lv_at hl 0 rfl) ?_
        refine lv_iload_n hx hb dX7_leastMany_16 rfl (lv_at hl 1 rfl) ?_
        refine lv_iload_n hx hb dX7_leastMany_17 rfl (lv_at hl 3 rfl) ?_
        refine ti_pVa (As := [.int (nI i), .int (nI k)]) (rest := [.int (nI z)]) (v := .int (ti_b (!ti_hb (ti_ma xg i k) (ti_mb xg i k) (nI k) (ti_gr (ti_ma xg i) (ti_mb xg i) 0 (xg.1 i)) 0))) S hE hP (met_X7_isLeast l D E ad xg xd xt xf xj xh xs xv xb xq xk hxg i hi k (by omega)) (lw_V q1354 q1356 qs41 q73 q1357) 2 rfl 0 rfl rfl (by decide +kernel) ⟨Nat.le_of_ble_eq_true rfl, Nat.le_of_ble_eq_true rfl⟩ hl.1 rfl (Nat.le_of_ble_eq_true rfl) ⟨Nat.le_refl _, Nat.le_refl _⟩ dX7_leastMany_18 ?_
        refine tb_eq (tgt := 28) hx hb dX7_leastMany_21 (by decide) (fun c21 => ?_) (fun c21 => ?_)
        · skip
          refine lv_iconst (v := nI 0) hx hb dX7_leastMany_28 (by decide) ?_
          refine tn_add hx hb dX7_leastMany_29 ?_
          refine lv_istore_n (lv' := [(2, .int (nI (z + 0))), (0, .ref (ad 0)), (1, .int (nI i)), (3, .int (nI k))]) hx hb dX7_leastMany_30 rfl hl (by decide) rfl (fun ls hl => ?_)
          refine lv_iinc (v := nI (k + 1)) (lv' := [(3, .int (nI (k + 1))), (2, .int (nI (z + 0))), (0, .ref (ad 0)), (1, .int (nI i))]) hx hb dX7_leastMany_31 hl (k := 3) rfl (nI_1 k) (by decide) rfl (fun ls hl => ?_)
          refine lv_goto (tgt := 4) hx hb dX7_leastMany_34 (by decide) ?_
          exact ih4 (z + 0) (k + 1) _ (by omega) (by omega) (by rw [hv, ti_lst]; dsimp only; cases hq : ti_hb (ti_ma xg i k) (ti_mb xg i k) (nI k) (ti_gr (ti_ma xg i) (ti_mb xg i) 0 (xg.1 i)) 0 <;> rw [hq] at c21 <;> first | (cases c21; done) | rw [show xg.1 i - (k + 1) = m9 by omega]; rfl) (lv_sub hl [2, 3, 1, 0] rfl)
        · skip
          refine lv_iconst (v := nI 1) hx hb dX7_leastMany_24 (by decide) ?_
          refine lv_goto (tgt := 29) hx hb dX7_leastMany_25 (by decide) ?_
          refine tn_add hx hb dX7_leastMany_29 ?_
          refine lv_istore_n (lv' := [(2, .int (nI (z + 1))), (0, .ref (ad 0)), (1, .int (nI i)), (3, .int (nI k))]) hx hb dX7_leastMany_30 rfl hl (by decide) rfl (fun ls hl => ?_)
          refine lv_iinc (v := nI (k + 1)) (lv' := [(3, .int (nI (k + 1))), (2, .int (nI (z + 1))), (0, .ref (ad 0)), (1, .int (nI i))]) hx hb dX7_leastMany_31 hl (k := 3) rfl (nI_1 k) (by decide) rfl (fun ls hl => ?_)
          refine lv_goto (tgt := 4) hx hb dX7_leastMany_34 (by decide) ?_
          exact ih4 (z + 1) (k + 1) _ (by omega) (by omega) (by rw [hv, ti_lst]; dsimp only; cases hq : ti_hb (ti_ma xg i k) (ti_mb xg i k) (nI k) (ti_gr (ti_ma xg i) (ti_mb xg i) 0 (xg.1 i)) 0 <;> rw [hq] at c21 <;> first | (cases c21; done) | rw [show xg.1 i - (k + 1) = m9 by omega]; rfl) (lv_sub hl [2, 3, 1, 0] rfl)
  exact L4 _ 0 0 _ (Nat.lt_succ_self _) (by omega) (rfl) (lv_sub hl [2, 3, 1, 0] rfl)

set_option maxHeartbeats 1000000 in
theorem met_X7_isCorner (l : Launch) (D : va_G) (E : Nat → ClassId) (ad : Nat → Nat) (xg : ti_Mg) (xd : ti_Md) (xt : ti_Mt) (xf : ti_Mf) (xj : ti_Mj) (xh : ti_Mh) (xs : ti_Ms) (xv : ti_Mv) (xb : ti_Mb) (xq : ti_Mq) (xk : ti_Mk) (hxf : ti_Mfok xf) (a b : Nat) (ha9 : a ≤ 9) (hb9 : b ≤ 9) : ti_MetP l D E yX7_isCorner cX7_isCorner 3 (some .boolean) 1 (ti_wM E ad xg xd xt xf xj xh xs xv xb xq xk) [.ref (ad 0), .int (nI a), .int (nI b)] (some (.int (ti_b (ti_cn a b (ti_F xf))))) := by
  refine ti_pureZ (by decide) (Nat.le_of_ble_eq_true rfl) ?_
  intro p e s m below meth c H locs Q ls S hE hP hl hret
  have hx := S.1
  have hb := S.2.1
  have hown := S.2.2.2.1
  have hts := S.2.2.2.2
  have hK := hE.1
  have hl : lv_has ls 3 [(0, .ref (ad 0)), (1, .int (nI a)), (2, .int (nI b))] := hl
  refine lv_aload_n hx hb dX7_isCorner_0 rfl (lv_at hl 0 rfl) ?_
  refine lv_iload_n hx hb dX7_isCorner_1 rfl (lv_at hl 1 rfl) ?_
  refine lv_iload_n hx hb dX7_isCorner_2 rfl (lv_at hl 2 rfl) ?_
  refine ti_pVa (As := [.int (nI a), .int (nI b)]) (rest := []) (v := .int (ti_b (ti_hull a b (ti_F xf)))) S hE hP (met_X7_isInHull l D E ad xg xd xt xf xj xh xs xv xb xq xk hxf a b (by omega) (by omega)) (lw_V q1309 q1311 qs37 q73 q1312) 2 rfl 0 rfl rfl (by decide +kernel) ⟨Nat.le_of_ble_eq_true rfl, Nat.le_of_ble_eq_true rfl⟩ hl.1 rfl (Nat.le_of_ble_eq_true rfl) ⟨Nat.le_refl _, Nat.le_refl _⟩ dX7_isCorner_3 ?_
  refine tb_eq (tgt := 43) hx hb dX7_isCorner_6 (by decide) (fun c6 => ?_) (fun c6 => ?_)
  · skip
    refine lv_iconst (v := nI 0) hx hb dX7_isCorner_43 (by decide) ?_
    exact hret _ _ _ dX7_isCorner_44 (by unfold ti_cn; rw [c6]; rfl)
  · skip
    refine lv_iload_n hx hb dX7_isCorner_9 rfl (lv_at hl 1 rfl) ?_
    refine tn_if_eq (tgt := 24) hx hb dX7_isCorner_10 (by decide) (by omega) (fun c10 => ?_) (fun c10 => ?_)
    · skip
      refine lv_iload_n hx hb dX7_isCorner_24 rfl (lv_at hl 2 rfl) ?_
      refine tn_if_eq (tgt := 39) hx hb dX7_isCorner_25 (by decide) (by omega) (fun c25 => ?_) (fun c25 => ?_)
      · skip
        refine lv_iconst (v := nI 1) hx hb dX7_isCorner_39 (by decide) ?_
        refine lv_goto (tgt := 44) hx hb dX7_isCorner_40 (by decide) ?_
        exact hret _ _ _ dX7_isCorner_44 (by unfold ti_cn; rw [c6, decide_eq_false (by omega : ¬ 0 < a), decide_eq_false (by omega : ¬ 0 < b)]; rfl)
      · skip
        refine lv_aload_n hx hb dX7_isCorner_28 rfl (lv_at hl 0 rfl) ?_
        refine lv_iload_n hx hb dX7_isCorner_29 rfl (lv_at hl 1 rfl) ?_
        refine lv_iload_n hx hb dX7_isCorner_30 rfl (lv_at hl 2 rfl) ?_
        refine lv_iconst (v := nI 1) hx hb dX7_isCorner_31 (by decide) ?_
        refine tn_sub hx hb dX7_isCorner_32 (by omega) ?_
        refine ti_pVa (As := [.int (nI a), .int (nI (b - 1))]) (rest := []) (v := .int (ti_b (ti_hull a (b - 1) (ti_F xf)))) S hE hP (met_X7_isInHull l D E ad xg xd xt xf xj xh xs xv xb xq xk hxf a (b - 1) (by omega) (by omega)) (lw_V q1309 q1311 qs37 q73 q1312) 2 rfl 0 rfl rfl (by decide +kernel) ⟨Nat.le_of_ble_eq_true rfl, Nat.le_of_ble_eq_true rfl⟩ hl.1 rfl (Nat.le_of_ble_eq_true rfl) ⟨Nat.le_refl _, Nat.le_refl _⟩ dX7_isCorner_33 ?_
        refine tb_ne (tgt := 43) hx hb dX7_isCorner_36 (by decide) (fun c36 => ?_) (fun c36 => ?_)
        · skip
          refine lv_iconst (v := nI 0) hx hb dX7_isCorner_43 (by decide) ?_
          exact hret _ _ _ dX7_isCorner_44 (by unfold ti_cn; rw [c6, decide_eq_false (by omega : ¬ 0 < a), decide_eq_true (by omega : 0 < b), c36]; rfl)
        · skip
          refine lv_iconst (v := nI 1) hx hb dX7_isCorner_39 (by decide) ?_
          refine lv_goto (tgt := 44) hx hb dX7_isCorner_40 (by decide) ?_
          exact hret _ _ _ dX7_isCorner_44 (by unfold ti_cn; rw [c6, decide_eq_false (by omega : ¬ 0 < a), decide_eq_true (by omega : 0 < b), c36]; rfl)
    · skip
      refine lv_aload_n hx hb dX7_isCorner_13 rfl (lv_at hl 0 rfl) ?_
      refine lv_iload_n hx hb dX7_isCorner_14 rfl (lv_at hl 1 rfl) ?_
      refine lv_iconst (v := nI 1) hx hb dX7_isCorner_15 (by decide) ?_
      refine tn_sub hx hb dX7_isCorner_16 (by omega) ?_
      refine lv_iload_n hx hb dX7_isCorner_17 rfl (lv_at hl 2 rfl) ?_
      refine ti_pVa (As := [.int (nI (a - 1)), .int (nI b)]) (rest := []) (v := .int (ti_b (ti_hull (a - 1) b (ti_F xf)))) S hE hP (met_X7_isInHull l D E ad xg xd xt xf xj xh xs xv xb xq xk hxf (a - 1) b (by omega) (by omega)) (lw_V q1309 q1311 qs37 q73 q1312) 2 rfl 0 rfl rfl (by decide +kernel) ⟨Nat.le_of_ble_eq_true rfl, Nat.le_of_ble_eq_true rfl⟩ hl.1 rfl (Nat.le_of_ble_eq_true rfl) ⟨Nat.le_refl _, Nat.le_refl _⟩ dX7_isCorner_18 ?_
      refine tb_ne (tgt := 43) hx hb dX7_isCorner_21 (by decide) (fun c21 => ?_) (fun c21 => ?_)
      · skip
        refine lv_iconst (v := nI 0) hx hb dX7_isCorner_43 (by decide) ?_
        exact hret _ _ _ dX7_isCorner_44 (by unfold ti_cn; rw [c6, decide_eq_true (by omega : 0 < a), c21]; rfl)
      · skip
        refine lv_iload_n hx hb dX7_isCorner_24 rfl (lv_at hl 2 rfl) ?_
        refine tn_if_eq (tgt := 39) hx hb dX7_isCorner_25 (by decide) (by omega) (fun c25 => ?_) (fun c25 => ?_)
        · skip
          refine lv_iconst (v := nI 1) hx hb dX7_isCorner_39 (by decide) ?_
          refine lv_goto (tgt := 44) hx hb dX7_isCorner_40 (by decide) ?_
          exact hret _ _ _ dX7_isCorner_44 (by unfold ti_cn; rw [c6, decide_eq_true (by omega : 0 < a), c21, decide_eq_false (by omega : ¬ 0 < b)]; rfl)
        · skip
          refine lv_aload_n hx hb dX7_isCorner_28 rfl (lv_at hl 0 rfl) ?_
          refine lv_iload_n hx hb dX7_isCorner_29 rfl (lv_at hl 1 rfl) ?_
          refine lv_iload_n hx hb dX7_isCorner_30 rfl (lv_at hl 2 rfl) ?_
          refine lv_iconst (v := nI 1) hx hb dX7_isCorner_31 (by decide) ?_
          refine tn_sub hx hb dX7_isCorner_32 (by omega) ?_
          refine ti_pVa (As := [.int (nI a), .int (nI (b - 1))]) (rest := []) (v := .int (ti_b (ti_hull a (b - 1) (ti_F xf)))) S hE hP (met_X7_isInHull l D E ad xg xd xt xf xj xh xs xv xb xq xk hxf a (b - 1) (by omega) (by omega)) (lw_V q1309 q1311 qs37 q73 q1312) 2 rfl 0 rfl rfl (by decide +kernel) ⟨Nat.le_of_ble_eq_true rfl, Nat.le_of_ble_eq_true rfl⟩ hl.1 rfl (Nat.le_of_ble_eq_true rfl) ⟨Nat.le_refl _, Nat.le_refl _⟩ dX7_isCorner_33 ?_
          refine tb_ne (tgt := 43) hx hb dX7_isCorner_36 (by decide) (fun c36 => ?_) (fun c36 => ?_)
          · skip
            refine lv_iconst (v := nI 0) hx hb dX7_isCorner_43 (by decide) ?_
            exact hret _ _ _ dX7_isCorner_44 (by unfold ti_cn; rw [c6, decide_eq_true (by omega : 0 < a), c21, decide_eq_true (by omega : 0 < b), c36]; rfl)
          · skip
            refine lv_iconst (v := nI 1) hx hb dX7_isCorner_39 (by decide) ?_
            refine lv_goto (tgt := 44) hx hb dX7_isCorner_40 (by decide) ?_
            exact hret _ _ _ dX7_isCorner_44 (by unfold ti_cn; rw [c6, decide_eq_true (by omega : 0 < a), c21, decide_eq_true (by omega : 0 < b), c36]; rfl)

set_option maxHeartbeats 1000000 in
theorem met_X7_heavy (l : Launch) (D : va_G) (E : Nat → ClassId) (ad : Nat → Nat) (xg : ti_Mg) (xd : ti_Md) (xt : ti_Mt) (xf : ti_Mf) (xj : ti_Mj) (xh : ti_Mh) (xs : ti_Ms) (xv : ti_Mv) (xb : ti_Mb) (xq : ti_Mq) (xk : ti_Mk) (hxf : ti_Mfok xf) (f : Nat) (hf : f < 64) (a b : Nat) (ha9 : a ≤ 9) (hb9 : b ≤ 9) : ti_MetP l D E yX7_heavy cX7_heavy 4 (some .int) 0 (ti_wM E ad xg xd xt xf xj xh xs xv xb xq xk) [.ref (ad 0), .int (nI f), .int (nI a), .int (nI b)] (some (.int (nI (ti_wt (xf.2.1 f, xf.2.2.1 f, xf.2.2.2 f) a b)))) := by
  refine ti_pureI (by decide) (Nat.le_of_ble_eq_true rfl) ?_
  intro p e s m below meth c H locs Q ls S hE hP hl hret
  have hx := S.1
  have hb := S.2.1
  have hown := S.2.2.2.1
  have hts := S.2.2.2.2
  have hK := hE.1
  have hl : lv_has ls 4 [(0, .ref (ad 0)), (1, .int (nI f)), (2, .int (nI a)), (3, .int (nI b))] := hl
  refine lv_aload_n hx hb dX7_heavy_0 rfl (lv_at hl 0 rfl) ?_
  refine va_get (v := .ref (ad 10)) hx hb hts in_X7 hown hK hP 0 rfl rfl 13 (by decide) (hts _ q1101) (fun _ h => h) rfl dX7_heavy_1 ?_
  refine lv_iload_n hx hb dX7_heavy_4 rfl (lv_at hl 1 rfl) ?_
  refine tn_iald (f := xf.2.1) hx hb hK hP 10 0 rfl rfl (by omega) (by decide) dX7_heavy_5 ?_
  have b5 := hxf.2.1 f
  refine lv_iload_n hx hb dX7_heavy_6 rfl (lv_at hl 2 rfl) ?_
  refine lv_iconst (v := nI 1) hx hb dX7_heavy_7 (by decide) ?_
  refine tn_add hx hb dX7_heavy_8 ?_
  have b8 : a + 1 ≤ 10 := Nat.add_le_add ha9 (Nat.le_refl _)
  refine tn_mul hx hb dX7_heavy_9 ?_
  have b9 : (xf.2.1 f) * (a + 1) ≤ 90 := Nat.mul_le_mul b5 b8
  refine lv_aload_n hx hb dX7_heavy_10 rfl (lv_at hl 0 rfl) ?_
  refine va_get (v := .ref (ad 11)) hx hb hts in_X7 hown hK hP 0 rfl rfl 14 (by decide) (hts _ q1102) (fun _ h => h) rfl dX7_heavy_11 ?_
  refine lv_iload_n hx hb dX7_heavy_14 rfl (lv_at hl 1 rfl) ?_
  refine tn_iald (f := xf.2.2.1) hx hb hK hP 11 0 rfl rfl (by omega) (by decide) dX7_heavy_15 ?_
  have b15 := hxf.2.2.1 f
  refine lv_iload_n hx hb dX7_heavy_16 rfl (lv_at hl 3 rfl) ?_
  refine lv_iconst (v := nI 1) hx hb dX7_heavy_17 (by decide) ?_
  refine tn_add hx hb dX7_heavy_18 ?_
  have b18 : b + 1 ≤ 10 := Nat.add_le_add hb9 (Nat.le_refl _)
  refine tn_mul hx hb dX7_heavy_19 ?_
  have b19 : (xf.2.2.1 f) * (b + 1) ≤ 90 := Nat.mul_le_mul b15 b18
  refine tn_add hx hb dX7_heavy_20 ?_
  have b20 : ((xf.2.1 f) * (a + 1)) + ((xf.2.2.1 f) * (b + 1)) ≤ 180 := Nat.add_le_add b9 b19
  exact hret _ _ _ dX7_heavy_21 (rfl)

set_option maxHeartbeats 1000000 in
theorem met_X7_barring (l : Launch) (D : va_G) (E : Nat → ClassId) (ad : Nat → Nat) (xg : ti_Mg) (xd : ti_Md) (xt : ti_Mt) (xf : ti_Mf) (xj : ti_Mj) (xh : ti_Mh) (xs : ti_Ms) (xv : ti_Mv) (xb : ti_Mb) (xq : ti_Mq) (xk : ti_Mk) (hxf : ti_Mfok xf) (a b : Nat) (ha9 : a ≤ 9) (hb9 : b ≤ 9) (num den : Nat) (hnum : num ≤ 99) (hden : den ≤ 99) : ti_MetP l D E yX7_barring cX7_barring 6 (some .int) 1 (ti_wM E ad xg xd xt xf xj xh xs xv xb xq xk) [.ref (ad 0), .int (nI a), .int (nI b), .int (nI num), .int (nI den)] (some (.int (ti_pm (ti_fb a b num den (ti_F xf) 0)))) := by
  refine ti_pureI (by decide) (Nat.le_of_ble_eq_true rfl) ?_
  intro p e s m below meth c H locs Q ls S hE hP hl hret
  have hx := S.1
  have hb := S.2.1
  have hown := S.2.2.2.1
  have hts := S.2.2.2.2
  have hK := hE.1
  have hl : lv_has ls 6 [(0, .ref (ad 0)), (1, .int (nI a)), (2, .int (nI b)), (3, .int (nI num)), (4, .int (nI den))] := hl
  have hf64 := hxf.1
  refine lv_iconst (v := nI 0) hx hb dX7_barring_0 (by decide) ?_
  refine lv_istore (lv' := [(5, .int (nI 0)), (0, .ref (ad 0)), (1, .int (nI a)), (2, .int (nI b)), (3, .int (nI num)), (4, .int (nI den))]) hx hb dX7_barring_1 hl (by decide) rfl (fun ls hl => ?_)
  have L3 : ∀ (N : Nat) (k : Nat) (ls : Array Slot), (xf.1 - k) < N → (k ≤ xf.1) → (ti_pm (ti_fb a b num den (ti_F xf) 0) = ti_pm (ti_fb a b num den (ti_fr xf.2.1 xf.2.2.1 xf.2.2.2 k (xf.1 - k)) k)) → lv_has ls 6 [(0, .ref (ad 0)), (1, .int (nI a)), (2, .int (nI b)), (3, .int (nI num)), (4, .int (nI den)), (5, .int (nI k))] → W p l e (ti_rm 1 0 0) s m ([.ref (ad 0), .int (nI a), .int (nI b), .int (nI num), .int (nI den)] : List Value).toArray below meth c H locs 0 0 Q (F0 m 3 ls []) := by
    intro N
    induction N with
    | zero => intro k ls h0; exact absurd h0 (Nat.not_lt_zero _)
    | succ N ih3 =>
      intro k ls hN hkn hv hl
      refine lv_iload hx hb dX7_barring_3 (lv_at hl 5 rfl) ?_
      refine lv_aload_n hx hb dX7_barring_5 rfl (lv_at hl 0 rfl) ?_
      refine va_get (v := .int (nI xf.1)) hx hb hts in_X7 hown hK hP 0 rfl rfl 12 (by decide) (hts _ q1100) (fun _ h => h) rfl dX7_barring_6 ?_
      refine tn_ge (tgt := 54) hx hb dX7_barring_9 (by decide) (by omega) (by omega) (fun c9 => ?_) (fun c9 => ?_)
      · skip
        rw [show xf.1 - k = 0 by omega, ti_fr_0] at hv
        refine lv_iconst (v := (-1)) hx hb dX7_barring_54 (by decide) ?_
        exact hret _ _ _ dX7_barring_55 (by rw [hv]; rfl)
      · skip
        obtain ⟨m9, hm9⟩ : ∃ m9, xf.1 - k = m9 + 1 := ⟨xf.1 - k - 1, by omega⟩
        rw [hm9, ti_fr_s] at hv
        refine lv_aload_n hx hb dX7_barring_12 rfl (lv_at hl 0 rfl) ?_
        refine va_get (v := .ref (ad 12)) hx hb hts in_X7 hown hK hP 0 rfl rfl 15 (by decide) (hts _ q1103) (fun _ h => h) rfl dX7_barring_13 ?_
        refine lv_iload hx hb dX7_barring_16 (lv_at hl 5 rfl) ?_
        refine tn_iald (f := xf.2.2.2) hx hb hK hP 12 0 rfl rfl (by omega) (by decide) dX7_barring_18 ?_
        have b18 := hxf.2.2.2 k
        refine tn_if_le (tgt := 48) hx hb dX7_barring_19 (by decide) (by omega) (fun c19 => ?_) (fun c19 => ?_)
        · skip
          refine lv_iinc (v := nI (k + 1)) (lv' := [(5, .int (nI (k + 1))), (0, .ref (ad 0)), (1, .int (nI a)), (2, .int (nI b)), (3, .int (nI num)), (4, .int (nI den))]) hx hb dX7_barring_48 hl (k := 5) rfl (nI_1 k) (by decide) rfl (fun ls hl => ?_)
          refine lv_goto (tgt := 3) hx hb dX7_barring_51 (by decide) ?_
          exact ih3 (k + 1) _ (by omega) (by omega) (by rw [hv, ti_fb, if_neg (by rw [ti_bar, decide_eq_true_iff]; dsimp only; first | omega | exact fun z => absurd z.2 (Nat.not_le.mpr c42)), show xf.1 - (k + 1) = m9 by omega]) (lv_sub hl [1, 2, 3, 4, 5, 0] rfl)
        · skip
          refine lv_aload_n hx hb dX7_barring_22 rfl (lv_at hl 0 rfl) ?_
          refine lv_iload hx hb dX7_barring_23 (lv_at hl 5 rfl) ?_
          refine lv_iload_n hx hb dX7_barring_25 rfl (lv_at hl 1 rfl) ?_
          refine lv_iload_n hx hb dX7_barring_26 rfl (lv_at hl 2 rfl) ?_
          have hw : ti_wt (xf.2.1 k, xf.2.2.1 k, xf.2.2.2 k) a b ≤ 180 := ti_wt_le (hxf.2.1 k) (hxf.2.2.1 k) ha9 hb9
          refine ti_pVa (As := [.int (nI k), .int (nI a), .int (nI b)]) (rest := []) (v := .int (nI (ti_wt (xf.2.1 k, xf.2.2.1 k, xf.2.2.2 k) a b))) S hE hP (met_X7_heavy l D E ad xg xd xt xf xj xh xs xv xb xq xk hxf k (by omega) a b ha9 hb9) (lw_V q1387 q1389 qs48 q73 q1390) 3 rfl 0 rfl rfl (by decide +kernel) ⟨Nat.le_of_ble_eq_true rfl, Nat.le_of_ble_eq_true rfl⟩ hl.1 rfl (Nat.le_of_ble_eq_true rfl) ⟨Nat.le_refl _, Nat.le_refl _⟩ dX7_barring_27 ?_
          refine lv_iload hx hb dX7_barring_30 (lv_at hl 4 rfl) ?_
          refine tn_mul hx hb dX7_barring_32 ?_
          have b32 : (ti_wt (xf.2.1 k, xf.2.2.1 k, xf.2.2.2 k) a b) * den ≤ 17820 := Nat.mul_le_mul hw hden
          refine lv_iload_n hx hb dX7_barring_33 rfl (lv_at hl 3 rfl) ?_
          refine lv_aload_n hx hb dX7_barring_34 rfl (lv_at hl 0 rfl) ?_
          refine va_get (v := .ref (ad 12)) hx hb hts in_X7 hown hK hP 0 rfl rfl 15 (by decide) (hts _ q1103) (fun _ h => h) rfl dX7_barring_35 ?_
          refine lv_iload hx hb dX7_barring_38 (lv_at hl 5 rfl) ?_
          refine tn_iald (f := xf.2.2.2) hx hb hK hP 12 0 rfl rfl (by omega) (by decide) dX7_barring_40 ?_
          have b40 := hxf.2.2.2 k
          refine tn_mul hx hb dX7_barring_41 ?_
          have b41 : num * (xf.2.2.2 k) ≤ 99000 := Nat.mul_le_mul hnum b40
          refine tn_gt (tgt := 48) hx hb dX7_barring_42 (by decide) (by omega) (by omega) (fun c42 => ?_) (fun c42 => ?_)
          · skip
            refine lv_iinc (v := nI (k + 1)) (lv' := [(5, .int (nI (k + 1))), (0, .ref (ad 0)), (1, .int (nI a)), (2, .int (nI b)), (3, .int (nI num)), (4, .int (nI den))]) hx hb dX7_barring_48 hl (k := 5) rfl (nI_1 k) (by decide) rfl (fun ls hl => ?_)
            refine lv_goto (tgt := 3) hx hb dX7_barring_51 (by decide) ?_
            exact ih3 (k + 1) _ (by omega) (by omega) (by rw [hv, ti_fb, if_neg (by rw [ti_bar, decide_eq_true_iff]; dsimp only; first | omega | exact fun z => absurd z.2 (Nat.not_le.mpr c42)), show xf.1 - (k + 1) = m9 by omega]) (lv_sub hl [1, 2, 3, 4, 5, 0] rfl)
          · skip
            refine lv_iload hx hb dX7_barring_45 (lv_at hl 5 rfl) ?_
            exact hret _ _ _ dX7_barring_47 (by rw [hv, ti_fb, if_pos (by rw [ti_bar, decide_eq_true_iff]; exact ⟨c19, c42⟩)]; rfl)
  exact L3 _ 0 _ (Nat.lt_succ_self _) (by omega) (rfl) (lv_sub hl [1, 2, 3, 4, 5, 0] rfl)
