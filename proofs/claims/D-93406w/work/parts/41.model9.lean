/-! TermIdealsModel: public methods, fourth part (printed by w_model9.py) -/
set_option maxRecDepth 100000

set_option maxHeartbeats 1000000 in
theorem met_X7_held (l : Launch) (D : va_G) (E : Nat → ClassId) (ad : Nat → Nat) (xg : ti_Mg) (xd : ti_Md) (xt : ti_Mt) (xf : ti_Mf) (xj : ti_Mj) (xh : ti_Mh) (xs : ti_Ms) (xv : ti_Mv) (xb : ti_Mb) (xq : ti_Mq) (xk : ti_Mk) (hxg : ti_Mgok xg) (I : Nat → ti_GL) (hI : ti_MI xg I) (hxf : ti_Mfok xf) (hNi : ∀ i, i < 2 → 0 < xg.1 i → ti_r2 (ti_G xg i) 1000 (List.range' 1 9) ≤ 6) (v a b num den : Int32) : ti_MetM (σ := ti_Mf) l D E yX7_held cX7_held 6 (some .int) 4 0 0 (ti_wM E ad xg xd xt xf xj xh xs xv xb xq xk) [.ref (ad 0), .int v, .int a, .int b, .int num, .int den] (fun u => ti_wM E ad xg xd xt u xj xh xs xv xb xq xk) (fun u => some (.int ((fun _ => ti_Sheld I v a b num den) u))) (fun u => ti_Mfok u) := by
  refine ti_mutI (σ := ti_Mf) (vi := fun _ => ti_Sheld I v a b num den) (by decide) (Nat.le_of_ble_eq_true rfl) ?_
  intro p e s m below meth c H H0 A Q ls S hE hP hD hS hA hinit hl hret
  have hx := S.1
  have hb := S.2.1
  have hown := S.2.2.2.1
  have hts := S.2.2.2.2
  have hK := hE.1
  have hl : lv_has ls 6 [(0, .ref (ad 0)), (1, .int v), (2, .int a), (3, .int b), (4, .int num), (5, .int den)] := hl
  refine lv_iload_n hx hb dX7_held_0 rfl (lv_at hl 1 rfl) ?_
  refine ti_pS (As := [.int v]) (rest := []) (v := .int (ti_b (ti_bt v))) S hE hP [] (met_X7_isIdeal l D E v) rfl (lw_S q1231 q1232 q73 q1233) 1 rfl (by decide +kernel) ⟨Nat.le_of_ble_eq_true rfl, Nat.le_of_ble_eq_true rfl⟩ hl.1 rfl (Nat.le_of_ble_eq_true rfl) ⟨Nat.le_refl _, Nat.le_refl _⟩ dX7_held_1 ?_
  refine tb_ne (tgt := 9) hx hb dX7_held_4 (by decide) (fun c4 => ?_) (fun c4 => ?_)
  · skip
    obtain ⟨i, hi2, rfl⟩ := ti_bt_nat c4
    have hci : ti_cl (nI i) = i := ti_cl_nI (by omega)
    have hg := hI i hi2
    have hlen := ti_MI_len hI hi2
    have h6 := hxg.1 i
    refine lv_iload_n hx hb dX7_held_9 rfl (lv_at hl 2 rfl) ?_
    refine ti_pS (As := [.int a]) (rest := []) (v := .int (ti_b (ti_b9 a))) S hE hP [] (met_X7_isPower l D E a) rfl (lw_S q1237 q1238 q73 q1239) 1 rfl (by decide +kernel) ⟨Nat.le_of_ble_eq_true rfl, Nat.le_of_ble_eq_true rfl⟩ hl.1 rfl (Nat.le_of_ble_eq_true rfl) ⟨Nat.le_refl _, Nat.le_refl _⟩ dX7_held_10 ?_
    refine tb_eq (tgt := 33) hx hb dX7_held_13 (by decide) (fun c13 => ?_) (fun c13 => ?_)
    · skip
      refine lv_bipush (v := (-2)) hx hb dX7_held_33 (by decide) ?_
      exact hret xf _ _ _ _ _ _ _ dX7_held_35 (by rw [ti_Sheld, if_neg (by rw [c4]; decide), if_pos (by rw [c13]; simp)]) (hxf) hP hS (Nat.le_refl _) (Nat.le_refl _)
    · skip
      obtain ⟨a9, ha9, rfl⟩ := ti_b9_nat c13
      have hca : ti_cl (nI a9) = a9 := ti_cl_nI (by omega)
      refine lv_iload_n hx hb dX7_held_16 rfl (lv_at hl 3 rfl) ?_
      refine ti_pS (As := [.int b]) (rest := []) (v := .int (ti_b (ti_b9 b))) S hE hP [] (met_X7_isPower l D E b) rfl (lw_S q1237 q1238 q73 q1239) 1 rfl (by decide +kernel) ⟨Nat.le_of_ble_eq_true rfl, Nat.le_of_ble_eq_true rfl⟩ hl.1 rfl (Nat.le_of_ble_eq_true rfl) ⟨Nat.le_refl _, Nat.le_refl _⟩ dX7_held_17 ?_
      refine tb_eq (tgt := 33) hx hb dX7_held_20 (by decide) (fun c20 => ?_) (fun c20 => ?_)
      · skip
        refine lv_bipush (v := (-2)) hx hb dX7_held_33 (by decide) ?_
        exact hret xf _ _ _ _ _ _ _ dX7_held_35 (by rw [ti_Sheld, if_neg (by rw [c4]; decide), if_pos (by rw [c20]; simp)]) (hxf) hP hS (Nat.le_refl _) (Nat.le_refl _)
      · skip
        obtain ⟨b9, hb9, rfl⟩ := ti_b9_nat c20
        have hcb : ti_cl (nI b9) = b9 := ti_cl_nI (by omega)
        refine lv_iload hx hb dX7_held_23 (lv_at hl 4 rfl) ?_
        refine lv_iload hx hb dX7_held_25 (lv_at hl 5 rfl) ?_
        refine ti_pS (As := [.int num, .int den]) (rest := []) (v := .int (ti_b (ti_bf num && ti_bf den))) S hE hP [] (met_X7_isFraction l D E num den) rfl (lw_S q1410 q1411 q73 q1412) 2 rfl (by decide +kernel) ⟨Nat.le_of_ble_eq_true rfl, Nat.le_of_ble_eq_true rfl⟩ hl.1 rfl (Nat.le_of_ble_eq_true rfl) ⟨Nat.le_refl _, Nat.le_refl _⟩ dX7_held_27 ?_
        refine tb_ne (tgt := 36) hx hb dX7_held_30 (by decide) (fun c30 => ?_) (fun c30 => ?_)
        · skip
          have hfq : ti_bf num = true ∧ ti_bf den = true := by simpa using c30
          obtain ⟨n9, hn91, hn9, rfl⟩ := ti_bf_nat hfq.1
          obtain ⟨d9, hd91, hd9, rfl⟩ := ti_bf_nat hfq.2
          have hcn : ti_cl (nI n9) = n9 := ti_cl_nI (by omega)
          have hcd : ti_cl (nI d9) = d9 := ti_cl_nI (by omega)
          have hb3 : ¬ (ti_b9 (nI a9) && ti_b9 (nI b9) && (ti_bf (nI n9) && ti_bf (nI d9))) = false := by rw [c13, c20, hfq.1, hfq.2]; decide
          refine lv_aload_n hx hb dX7_held_36 rfl (lv_at hl 0 rfl) ?_
          refine va_get (v := .ref (ad 1)) hx hb hts in_X7 hown hK hP 0 rfl rfl 0 (by decide) (hts _ q1088) (fun _ h => h) rfl dX7_held_37 ?_
          refine lv_iload_n hx hb dX7_held_40 rfl (lv_at hl 1 rfl) ?_
          refine tn_iald (f := xg.1) hx hb hK hP 1 0 rfl rfl (by omega) (by decide) dX7_held_41 ?_
          have b41 := hxg.1 i
          refine tn_if_ne (tgt := 48) hx hb dX7_held_42 (by decide) (by omega) (fun c42 => ?_) (fun c42 => ?_)
          · skip
            refine lv_aload_n hx hb dX7_held_48 rfl (lv_at hl 0 rfl) ?_
            refine lv_iload_n hx hb dX7_held_49 rfl (lv_at hl 1 rfl) ?_
            refine ti_mVa (As := [.int (nI i)]) (rest := []) S hE hP hD hS hA (met_X7_tellsFaces l D E ad xg xd xt xf xj xh xs xv xb xq xk hxg i (by omega) (hNi i hi2 (by omega)) hxf) (fun _ => rfl) (lw_V q1285 q1287 qs32 q73 q1288) 1 rfl 0 rfl rfl (by decide +kernel) ⟨Nat.le_of_ble_eq_true rfl, Nat.le_of_ble_eq_true rfl⟩ hl.1 rfl (Nat.le_of_ble_eq_true rfl) ⟨Nat.le_refl _, Nat.le_refl _⟩ dX7_held_50 (fun u1 H locs hu hP hD hS => ?_)
            obtain ⟨hF1, hF2⟩ := hu
            have hF3 : ti_F u1 = ti_FF (I i) := by rw [hF1, ← hg]; rfl
            have hP : va_P D vwCl (ti_wM E ad xg xd xt u1 xj xh xs xv xb xq xk) H := hP
            have hD : va_D A (ti_wM E ad xg xd xt u1 xj xh xs xv xb xq xk) := hD
            refine W.eq (g2 := F0 m 53 ls []) rfl ?_
            refine lv_aload_n hx hb dX7_held_53 rfl (lv_at hl 0 rfl) ?_
            refine lv_iload_n hx hb dX7_held_54 rfl (lv_at hl 2 rfl) ?_
            refine lv_iload_n hx hb dX7_held_55 rfl (lv_at hl 3 rfl) ?_
            refine lv_iload hx hb dX7_held_56 (lv_at hl 4 rfl) ?_
            refine lv_iload hx hb dX7_held_58 (lv_at hl 5 rfl) ?_
            refine ti_pVa (As := [.int (nI a9), .int (nI b9), .int (nI n9), .int (nI d9)]) (rest := []) (v := .int (ti_pm (ti_fb a9 b9 n9 d9 (ti_F u1) 0))) S hE hP (met_X7_barring l D E ad xg xd xt u1 xj xh xs xv xb xq xk hF2 a9 b9 ha9 hb9 n9 d9 hn9 hd9) (lw_V q1414 q1416 qs50 q73 q1417) 4 rfl 0 rfl rfl (by decide +kernel) ⟨Nat.le_of_ble_eq_true rfl, Nat.le_of_ble_eq_true rfl⟩ hl.1 rfl (Nat.le_of_ble_eq_true rfl) ⟨Nat.le_refl _, Nat.le_refl _⟩ dX7_held_60 ?_
            refine lv_iconst (v := (-1)) hx hb dX7_held_63 (by decide) ?_
            refine lv_icmp_ne (tgt := 71) hx hb dX7_held_64 (by decide) (fun c64 => ?_) (fun c64 => ?_)
            · skip
              refine lv_iconst (v := nI 0) hx hb dX7_held_71 (by decide) ?_
              exact hret u1 _ _ _ _ _ _ _ dX7_held_72 (by rw [ti_Sheld, if_neg (by rw [c4]; decide), if_neg hb3, hci, hca, hcb, hcn, hcd, if_neg (by rw [hlen]; exact c42), ← hF3]; cases hq : ti_fb a9 b9 n9 d9 (ti_F u1) 0 with
                | none => exact absurd (by rw [hq]; rfl) c64
                | some f => rfl) (hF2) hP hS (Nat.le_refl _) (Nat.le_refl _)
            · skip
              refine lv_iconst (v := nI 1) hx hb dX7_held_67 (by decide) ?_
              refine lv_goto (tgt := 72) hx hb dX7_held_68 (by decide) ?_
              exact hret u1 _ _ _ _ _ _ _ dX7_held_72 (by rw [ti_Sheld, if_neg (by rw [c4]; decide), if_neg hb3, hci, hca, hcb, hcn, hcd, if_neg (by rw [hlen]; exact c42), ← hF3]; rw [(ti_pm_n1 (fun j hj => by have := ti_fb_lt _ _ _ _ _ _ _ hj; rw [ti_F_len] at this; have := hF2.1; omega)).mp c64]; rfl) (hF2) hP hS (Nat.le_refl _) (Nat.le_refl _)
          · skip
            refine lv_bipush (v := (-3)) hx hb dX7_held_45 (by decide) ?_
            exact hret xf _ _ _ _ _ _ _ dX7_held_47 (by rw [ti_Sheld, if_neg (by rw [c4]; decide), if_neg hb3, hci, hca, hcb, hcn, hcd, if_pos (by rw [hlen]; exact c42)]) (hxf) hP hS (Nat.le_refl _) (Nat.le_refl _)
        · skip
          refine lv_bipush (v := (-2)) hx hb dX7_held_33 (by decide) ?_
          exact hret xf _ _ _ _ _ _ _ dX7_held_35 (by rw [ti_Sheld, if_neg (by rw [c4]; decide), if_pos (by rw [c30]; simp)]) (hxf) hP hS (Nat.le_refl _) (Nat.le_refl _)
  · skip
    refine lv_iconst (v := (-1)) hx hb dX7_held_7 (by decide) ?_
    exact hret xf _ _ _ _ _ _ _ dX7_held_8 (by rw [ti_Sheld, if_pos c4]) (hxf) hP hS (Nat.le_refl _) (Nat.le_refl _)

set_option maxHeartbeats 1000000 in
theorem met_X7_reason (l : Launch) (D : va_G) (E : Nat → ClassId) (ad : Nat → Nat) (xg : ti_Mg) (xd : ti_Md) (xt : ti_Mt) (xf : ti_Mf) (xj : ti_Mj) (xh : ti_Mh) (xs : ti_Ms) (xv : ti_Mv) (xb : ti_Mb) (xq : ti_Mq) (xk : ti_Mk) (hxg : ti_Mgok xg) (I : Nat → ti_GL) (hI : ti_MI xg I) (hxf : ti_Mfok xf) (hNi : ∀ i, i < 2 → 0 < xg.1 i → ti_r2 (ti_G xg i) 1000 (List.range' 1 9) ≤ 6) (v a b num den j : Int32) : ti_MetM (σ := ti_Mf) l D E yX7_reason cX7_reason 8 (some .int) 4 0 0 (ti_wM E ad xg xd xt xf xj xh xs xv xb xq xk) [.ref (ad 0), .int v, .int a, .int b, .int num, .int den, .int j] (fun u => ti_wM E ad xg xd xt u xj xh xs xv xb xq xk) (fun u => some (.int ((fun _ => ti_Sreason I v a b num den j) u))) (fun u => ti_Mfok u) := by
  refine ti_mutI (σ := ti_Mf) (vi := fun _ => ti_Sreason I v a b num den j) (by decide) (Nat.le_of_ble_eq_true rfl) ?_
  intro p e s m below meth c H H0 A Q ls S hE hP hD hS hA hinit hl hret
  have hx := S.1
  have hb := S.2.1
  have hown := S.2.2.2.1
  have hts := S.2.2.2.2
  have hK := hE.1
  have hl : lv_has ls 8 [(0, .ref (ad 0)), (1, .int v), (2, .int a), (3, .int b), (4, .int num), (5, .int den), (6, .int j)] := hl
  refine lv_iload_n hx hb dX7_reason_0 rfl (lv_at hl 1 rfl) ?_
  refine ti_pS (As := [.int v]) (rest := []) (v := .int (ti_b (ti_bt v))) S hE hP [] (met_X7_isIdeal l D E v) rfl (lw_S q1231 q1232 q73 q1233) 1 rfl (by decide +kernel) ⟨Nat.le_of_ble_eq_true rfl, Nat.le_of_ble_eq_true rfl⟩ hl.1 rfl (Nat.le_of_ble_eq_true rfl) ⟨Nat.le_refl _, Nat.le_refl _⟩ dX7_reason_1 ?_
  refine tb_eq (tgt := 20) hx hb dX7_reason_4 (by decide) (fun c4 => ?_) (fun c4 => ?_)
  · skip
    refine lv_iconst (v := (-1)) hx hb dX7_reason_20 (by decide) ?_
    exact hret xf _ _ _ _ _ _ _ dX7_reason_21 (by rw [ti_Sreason, if_pos (by rw [c4]; rfl)]) (hxf) hP hS (Nat.le_refl _) (Nat.le_refl _)
  · skip
    obtain ⟨i, hi2, rfl⟩ := ti_bt_nat c4
    have hci : ti_cl (nI i) = i := ti_cl_nI (by omega)
    have hg := hI i hi2
    have hlen := ti_MI_len hI hi2
    have h6 := hxg.1 i
    refine lv_iload hx hb dX7_reason_7 (lv_at hl 6 rfl) ?_
    refine lv_i2l (v := Int32.toInt64 j) hx hb dX7_reason_9 rfl ?_
    refine lv_lconst (v := lN 0) hx hb dX7_reason_10 (by decide) ?_
    refine lv_ldc2 (v := lN 4) hx hb hown (hts _ q1362) dX7_reason_11 ?_
    refine ti_pS (As := [.long (Int32.toInt64 j), .long (lN 0), .long (lN 4)]) (rest := []) (v := .int (ti_b (ti_inL (Int32.toInt64 j) (lN 0) (lN 4)))) S hE hP [] (met_X7_isFrom l D E (Int32.toInt64 j) (lN 0) (lN 4)) rfl (lw_S q1234 q1235 q73 q1236) 3 rfl (by decide +kernel) ⟨Nat.le_of_ble_eq_true rfl, Nat.le_of_ble_eq_true rfl⟩ hl.1 rfl (Nat.le_of_ble_eq_true rfl) ⟨Nat.le_refl _, Nat.le_refl _⟩ dX7_reason_14 ?_
    refine tb_ne (tgt := 22) hx hb dX7_reason_17 (by decide) (fun c17 => ?_) (fun c17 => ?_)
    · skip
      rw [ti_inL_i (by decide) (by decide)] at c17
      obtain ⟨j9, hj9lo, hj9hi, rfl⟩ := ti_in_nat (by decide) (by decide) c17
      have hcj9 : ti_cl (nI j9) = j9 := ti_cl_nI (by omega)
      have hbb : ¬ (ti_bt (nI i) && ti_in (nI j9) (nI 0) (nI 4)) = false := by rw [c4, c17]; decide
      refine lv_iload_n hx hb dX7_reason_22 rfl (lv_at hl 2 rfl) ?_
      refine ti_pS (As := [.int a]) (rest := []) (v := .int (ti_b (ti_b9 a))) S hE hP [] (met_X7_isPower l D E a) rfl (lw_S q1237 q1238 q73 q1239) 1 rfl (by decide +kernel) ⟨Nat.le_of_ble_eq_true rfl, Nat.le_of_ble_eq_true rfl⟩ hl.1 rfl (Nat.le_of_ble_eq_true rfl) ⟨Nat.le_refl _, Nat.le_refl _⟩ dX7_reason_23 ?_
      refine tb_eq (tgt := 46) hx hb dX7_reason_26 (by decide) (fun c26 => ?_) (fun c26 => ?_)
      · skip
        refine lv_bipush (v := (-2)) hx hb dX7_reason_46 (by decide) ?_
        exact hret xf _ _ _ _ _ _ _ dX7_reason_48 (by rw [ti_Sreason, if_neg hbb, if_pos (by rw [c26]; simp)]) (hxf) hP hS (Nat.le_refl _) (Nat.le_refl _)
      · skip
        obtain ⟨a9, ha9, rfl⟩ := ti_b9_nat c26
        have hca : ti_cl (nI a9) = a9 := ti_cl_nI (by omega)
        refine lv_iload_n hx hb dX7_reason_29 rfl (lv_at hl 3 rfl) ?_
        refine ti_pS (As := [.int b]) (rest := []) (v := .int (ti_b (ti_b9 b))) S hE hP [] (met_X7_isPower l D E b) rfl (lw_S q1237 q1238 q73 q1239) 1 rfl (by decide +kernel) ⟨Nat.le_of_ble_eq_true rfl, Nat.le_of_ble_eq_true rfl⟩ hl.1 rfl (Nat.le_of_ble_eq_true rfl) ⟨Nat.le_refl _, Nat.le_refl _⟩ dX7_reason_30 ?_
        refine tb_eq (tgt := 46) hx hb dX7_reason_33 (by decide) (fun c33 => ?_) (fun c33 => ?_)
        · skip
          refine lv_bipush (v := (-2)) hx hb dX7_reason_46 (by decide) ?_
          exact hret xf _ _ _ _ _ _ _ dX7_reason_48 (by rw [ti_Sreason, if_neg hbb, if_pos (by rw [c33]; simp)]) (hxf) hP hS (Nat.le_refl _) (Nat.le_refl _)
        · skip
          obtain ⟨b9, hb9, rfl⟩ := ti_b9_nat c33
          have hcb : ti_cl (nI b9) = b9 := ti_cl_nI (by omega)
          refine lv_iload hx hb dX7_reason_36 (lv_at hl 4 rfl) ?_
          refine lv_iload hx hb dX7_reason_38 (lv_at hl 5 rfl) ?_
          refine ti_pS (As := [.int num, .int den]) (rest := []) (v := .int (ti_b (ti_bf num && ti_bf den))) S hE hP [] (met_X7_isFraction l D E num den) rfl (lw_S q1410 q1411 q73 q1412) 2 rfl (by decide +kernel) ⟨Nat.le_of_ble_eq_true rfl, Nat.le_of_ble_eq_true rfl⟩ hl.1 rfl (Nat.le_of_ble_eq_true rfl) ⟨Nat.le_refl _, Nat.le_refl _⟩ dX7_reason_40 ?_
          refine tb_ne (tgt := 49) hx hb dX7_reason_43 (by decide) (fun c43 => ?_) (fun c43 => ?_)
          · skip
            have hfq : ti_bf num = true ∧ ti_bf den = true := by simpa using c43
            obtain ⟨n9, hn91, hn9, rfl⟩ := ti_bf_nat hfq.1
            obtain ⟨d9, hd91, hd9, rfl⟩ := ti_bf_nat hfq.2
            have hcn : ti_cl (nI n9) = n9 := ti_cl_nI (by omega)
            have hcd : ti_cl (nI d9) = d9 := ti_cl_nI (by omega)
            have hb3 : ¬ (ti_b9 (nI a9) && ti_b9 (nI b9) && (ti_bf (nI n9) && ti_bf (nI d9))) = false := by rw [c26, c33, hfq.1, hfq.2]; decide
            refine lv_aload_n hx hb dX7_reason_49 rfl (lv_at hl 0 rfl) ?_
            refine va_get (v := .ref (ad 1)) hx hb hts in_X7 hown hK hP 0 rfl rfl 0 (by decide) (hts _ q1088) (fun _ h => h) rfl dX7_reason_50 ?_
            refine lv_iload_n hx hb dX7_reason_53 rfl (lv_at hl 1 rfl) ?_
            refine tn_iald (f := xg.1) hx hb hK hP 1 0 rfl rfl (by omega) (by decide) dX7_reason_54 ?_
            have b54 := hxg.1 i
            refine tn_if_ne (tgt := 61) hx hb dX7_reason_55 (by decide) (by omega) (fun c55 => ?_) (fun c55 => ?_)
            · skip
              refine lv_aload_n hx hb dX7_reason_61 rfl (lv_at hl 0 rfl) ?_
              refine lv_iload_n hx hb dX7_reason_62 rfl (lv_at hl 1 rfl) ?_
              refine ti_mVa (As := [.int (nI i)]) (rest := []) S hE hP hD hS hA (met_X7_tellsFaces l D E ad xg xd xt xf xj xh xs xv xb xq xk hxg i (by omega) (hNi i hi2 (by omega)) hxf) (fun _ => rfl) (lw_V q1285 q1287 qs32 q73 q1288) 1 rfl 0 rfl rfl (by decide +kernel) ⟨Nat.le_of_ble_eq_true rfl, Nat.le_of_ble_eq_true rfl⟩ hl.1 rfl (Nat.le_of_ble_eq_true rfl) ⟨Nat.le_refl _, Nat.le_refl _⟩ dX7_reason_63 (fun u1 H locs hu hP hD hS => ?_)
              obtain ⟨hF1, hF2⟩ := hu
              have hF3 : ti_F u1 = ti_FF (I i) := by rw [hF1, ← hg]; rfl
              have hP : va_P D vwCl (ti_wM E ad xg xd xt u1 xj xh xs xv xb xq xk) H := hP
              have hD : va_D A (ti_wM E ad xg xd xt u1 xj xh xs xv xb xq xk) := hD
              refine W.eq (g2 := F0 m 66 ls []) rfl ?_
              refine lv_aload_n hx hb dX7_reason_66 rfl (lv_at hl 0 rfl) ?_
              refine lv_iload_n hx hb dX7_reason_67 rfl (lv_at hl 2 rfl) ?_
              refine lv_iload_n hx hb dX7_reason_68 rfl (lv_at hl 3 rfl) ?_
              refine lv_iload hx hb dX7_reason_69 (lv_at hl 4 rfl) ?_
              refine lv_iload hx hb dX7_reason_71 (lv_at hl 5 rfl) ?_
              refine ti_pVa (As := [.int (nI a9), .int (nI b9), .int (nI n9), .int (nI d9)]) (rest := []) (v := .int (ti_pm (ti_fb a9 b9 n9 d9 (ti_F u1) 0))) S hE hP (met_X7_barring l D E ad xg xd xt u1 xj xh xs xv xb xq xk hF2 a9 b9 ha9 hb9 n9 d9 hn9 hd9) (lw_V q1414 q1416 qs50 q73 q1417) 4 rfl 0 rfl rfl (by decide +kernel) ⟨Nat.le_of_ble_eq_true rfl, Nat.le_of_ble_eq_true rfl⟩ hl.1 rfl (Nat.le_of_ble_eq_true rfl) ⟨Nat.le_refl _, Nat.le_refl _⟩ dX7_reason_73 ?_
              refine lv_istore (lv' := [(7, .int (ti_pm (ti_fb a9 b9 n9 d9 (ti_F u1) 0))), (0, .ref (ad 0)), (1, .int (nI i)), (2, .int (nI a9)), (3, .int (nI b9)), (4, .int (nI n9)), (5, .int (nI d9)), (6, .int (nI j9))]) hx hb dX7_reason_76 hl (by decide) rfl (fun ls hl => ?_)
              refine lv_iload hx hb dX7_reason_78 (lv_at hl 0 rfl) ?_
              refine lv_iconst (v := (-1)) hx hb dX7_reason_80 (by decide) ?_
              refine lv_icmp_ne (tgt := 87) hx hb dX7_reason_81 (by decide) (fun c81 => ?_) (fun c81 => ?_)
              · skip
                obtain ⟨f9, ho9⟩ : ∃ f9, ti_fb a9 b9 n9 d9 (ti_F u1) 0 = some f9 := by
                  cases ho : ti_fb a9 b9 n9 d9 (ti_F u1) 0 with
                  | none => rw [ho] at c81; exact absurd rfl c81
                  | some f9 => exact ⟨f9, rfl⟩
                have hf9 := ti_fb_lt _ _ _ _ _ _ _ ho9
                rw [ti_F_len] at hf9
                have hf64 := hF2.1
                rw [ho9] at hl
                have hfd : (ti_F u1).getD f9 (0, 0, 0) = (u1.2.1 f9, u1.2.2.1 f9, u1.2.2.2 f9) := ti_fr_getD (by omega)
                have hl : lv_has ls 8 [(7, .int (nI f9)), (0, .ref (ad 0)), (1, .int (nI i)), (2, .int (nI a9)), (3, .int (nI b9)), (4, .int (nI n9)), (5, .int (nI d9)), (6, .int (nI j9))] := hl
                refine lv_iload hx hb dX7_reason_87 (lv_at hl 7 rfl) ?_
                refine tn_if_ne (tgt := 97) hx hb dX7_reason_89 (by decide) (by omega) (fun c89 => ?_) (fun c89 => ?_)
                · skip
                  refine lv_iload hx hb dX7_reason_97 (lv_at hl 7 rfl) ?_
                  refine lv_iconst (v := nI 1) hx hb dX7_reason_99 (by decide) ?_
                  refine tn_ne (tgt := 114) hx hb dX7_reason_100 (by decide) (by omega) (by omega) (fun c100 => ?_) (fun c100 => ?_)
                  · skip
                    refine lv_iload hx hb dX7_reason_114 (lv_at hl 7 rfl) ?_
                    refine lv_iconst (v := nI 2) hx hb dX7_reason_116 (by decide) ?_
                    refine tn_ne (tgt := 130) hx hb dX7_reason_117 (by decide) (by omega) (by omega) (fun c117 => ?_) (fun c117 => ?_)
                    · skip
                      refine lv_iload hx hb dX7_reason_130 (lv_at hl 7 rfl) ?_
                      refine lv_iconst (v := nI 3) hx hb dX7_reason_132 (by decide) ?_
                      refine tn_ne (tgt := 141) hx hb dX7_reason_133 (by decide) (by omega) (by omega) (fun c133 => ?_) (fun c133 => ?_)
                      · skip
                        refine lv_iload hx hb dX7_reason_141 (lv_at hl 6 rfl) ?_
                        exact hret u1 _ _ _ _ _ _ _ dX7_reason_143 (by rw [ti_Sreason, if_neg hbb, if_neg hb3, hci, hca, hcb, hcn, hcd, if_neg (by rw [hlen]; exact c55), ← hF3, ho9]; show _ = (if nI j9 = 0 then _ else _); rw [if_neg (fun z => c89 ((ti_nI_0 (show j9 < 2 ^ 31 by omega)).mp z)), if_neg (fun z => c100 ((ti_nI_1 (show j9 < 2 ^ 31 by omega)).mp z)), if_neg (fun z => c117 ((ti_nI_2 (show j9 < 2 ^ 31 by omega)).mp z)), if_neg (fun z => c133 ((ti_nI_3 (show j9 < 2 ^ 31 by omega)).mp z))]) (hF2) hP hS (Nat.le_refl _) (Nat.le_refl _)
                      · skip
                        refine lv_iload hx hb dX7_reason_136 (lv_at hl 5 rfl) ?_
                        refine lv_goto (tgt := 143) hx hb dX7_reason_138 (by decide) ?_
                        exact hret u1 _ _ _ _ _ _ _ dX7_reason_143 (by rw [ti_Sreason, if_neg hbb, if_neg hb3, hci, hca, hcb, hcn, hcd, if_neg (by rw [hlen]; exact c55), ← hF3, ho9]; show _ = (if nI j9 = 0 then _ else _); rw [if_neg (fun z => c89 ((ti_nI_0 (show j9 < 2 ^ 31 by omega)).mp z)), if_neg (fun z => c100 ((ti_nI_1 (show j9 < 2 ^ 31 by omega)).mp z)), if_neg (fun z => c117 ((ti_nI_2 (show j9 < 2 ^ 31 by omega)).mp z)), if_pos ((ti_nI_3 (show j9 < 2 ^ 31 by omega)).mpr c133)]) (hF2) hP hS (Nat.le_refl _) (Nat.le_refl _)
                    · skip
                      refine lv_aload_n hx hb dX7_reason_120 rfl (lv_at hl 1 rfl) ?_
                      refine va_get (v := .ref (ad 12)) hx hb hts in_X7 hown hK hP 0 rfl rfl 15 (by decide) (hts _ q1103) (fun _ h => h) rfl dX7_reason_121 ?_
                      refine lv_iload hx hb dX7_reason_124 (lv_at hl 0 rfl) ?_
                      refine tn_iald (f := u1.2.2.2) hx hb hK hP 12 0 rfl rfl (by omega) (by decide) dX7_reason_126 ?_
                      have b126 := hF2.2.2.2 f9
                      refine lv_goto (tgt := 143) hx hb dX7_reason_127 (by decide) ?_
                      exact hret u1 _ _ _ _ _ _ _ dX7_reason_143 (by rw [ti_Sreason, if_neg hbb, if_neg hb3, hci, hca, hcb, hcn, hcd, if_neg (by rw [hlen]; exact c55), ← hF3, ho9]; show _ = (if nI j9 = 0 then _ else _); rw [if_neg (fun z => c89 ((ti_nI_0 (show j9 < 2 ^ 31 by omega)).mp z)), if_neg (fun z => c100 ((ti_nI_1 (show j9 < 2 ^ 31 by omega)).mp z)), if_pos ((ti_nI_2 (show j9 < 2 ^ 31 by omega)).mpr c117), hfd]) (hF2) hP hS (Nat.le_refl _) (Nat.le_refl _)
                  · skip
                    refine lv_aload_n hx hb dX7_reason_103 rfl (lv_at hl 1 rfl) ?_
                    refine lv_iload hx hb dX7_reason_104 (lv_at hl 0 rfl) ?_
                    refine lv_iload_n hx hb dX7_reason_106 rfl (lv_at hl 3 rfl) ?_
                    refine lv_iload_n hx hb dX7_reason_107 rfl (lv_at hl 4 rfl) ?_
                    refine ti_pVa (As := [.int (nI f9), .int (nI a9), .int (nI b9)]) (rest := []) (v := .int (nI (ti_wt (u1.2.1 f9, u1.2.2.1 f9, u1.2.2.2 f9) a9 b9))) S hE hP (met_X7_heavy l D E ad xg xd xt u1 xj xh xs xv xb xq xk hF2 f9 (by omega) a9 b9 ha9 hb9) (lw_V q1387 q1389 qs48 q73 q1390) 3 rfl 0 rfl rfl (by decide +kernel) ⟨Nat.le_of_ble_eq_true rfl, Nat.le_of_ble_eq_true rfl⟩ hl.1 rfl (Nat.le_of_ble_eq_true rfl) ⟨Nat.le_refl _, Nat.le_refl _⟩ dX7_reason_108 ?_
                    refine lv_goto (tgt := 143) hx hb dX7_reason_111 (by decide) ?_
                    exact hret u1 _ _ _ _ _ _ _ dX7_reason_143 (by rw [ti_Sreason, if_neg hbb, if_neg hb3, hci, hca, hcb, hcn, hcd, if_neg (by rw [hlen]; exact c55), ← hF3, ho9]; show _ = (if nI j9 = 0 then _ else _); rw [if_neg (fun z => c89 ((ti_nI_0 (show j9 < 2 ^ 31 by omega)).mp z)), if_pos ((ti_nI_1 (show j9 < 2 ^ 31 by omega)).mpr c100), hfd]) (hF2) hP hS (Nat.le_refl _) (Nat.le_refl _)
                · skip
                  refine lv_iload hx hb dX7_reason_92 (lv_at hl 0 rfl) ?_
                  refine lv_goto (tgt := 143) hx hb dX7_reason_94 (by decide) ?_
                  exact hret u1 _ _ _ _ _ _ _ dX7_reason_143 (by rw [ti_Sreason, if_neg hbb, if_neg hb3, hci, hca, hcb, hcn, hcd, if_neg (by rw [hlen]; exact c55), ← hF3, ho9]; show _ = (if nI j9 = 0 then _ else _); rw [if_pos ((ti_nI_0 (show j9 < 2 ^ 31 by omega)).mpr c89)]) (hF2) hP hS (Nat.le_refl _) (Nat.le_refl _)
              · skip
                refine lv_bipush (v := (-5)) hx hb dX7_reason_84 (by decide) ?_
                exact hret u1 _ _ _ _ _ _ _ dX7_reason_86 (by rw [ti_Sreason, if_neg hbb, if_neg hb3, hci, hca, hcb, hcn, hcd, if_neg (by rw [hlen]; exact c55), ← hF3, (ti_pm_n1 (fun j hj => by have := ti_fb_lt _ _ _ _ _ _ _ hj; rw [ti_F_len] at this; have := hF2.1; omega)).mp c81]) (hF2) hP hS (Nat.le_refl _) (Nat.le_refl _)
            · skip
              refine lv_bipush (v := (-3)) hx hb dX7_reason_58 (by decide) ?_
              exact hret xf _ _ _ _ _ _ _ dX7_reason_60 (by rw [ti_Sreason, if_neg hbb, if_neg hb3, hci, hca, hcb, hcn, hcd, if_pos (by rw [hlen]; exact c55)]) (hxf) hP hS (Nat.le_refl _) (Nat.le_refl _)
          · skip
            refine lv_bipush (v := (-2)) hx hb dX7_reason_46 (by decide) ?_
            exact hret xf _ _ _ _ _ _ _ dX7_reason_48 (by rw [ti_Sreason, if_neg hbb, if_pos (by rw [c43]; simp)]) (hxf) hP hS (Nat.le_refl _) (Nat.le_refl _)
    · skip
      rw [ti_inL_i (by decide) (by decide)] at c17
      refine lv_iconst (v := (-1)) hx hb dX7_reason_20 (by decide) ?_
      exact hret xf _ _ _ _ _ _ _ dX7_reason_21 (by rw [ti_Sreason, if_pos (by rw [c4, c17]; rfl)]) (hxf) hP hS (Nat.le_refl _) (Nat.le_refl _)

set_option maxHeartbeats 1000000 in
theorem met_X7_lacks (l : Launch) (D : va_G) (E : Nat → ClassId) (ad : Nat → Nat) (xg : ti_Mg) (xd : ti_Md) (xt : ti_Mt) (xf : ti_Mf) (xj : ti_Mj) (xh : ti_Mh) (xs : ti_Ms) (xv : ti_Mv) (xb : ti_Mb) (xq : ti_Mq) (xk : ti_Mk) (hxg : ti_Mgok xg) (I : Nat → ti_GL) (hI : ti_MI xg I) (hxf : ti_Mfok xf) (hNi : ∀ i, i < 2 → 0 < xg.1 i → ti_r2 (ti_G xg i) 1000 (List.range' 1 9) ≤ 6) (v num den : Int32) : ti_MetM (σ := ti_Mf) l D E yX7_lacks cX7_lacks 4 (some .int) 5 0 0 (ti_wM E ad xg xd xt xf xj xh xs xv xb xq xk) [.ref (ad 0), .int v, .int num, .int den] (fun u => ti_wM E ad xg xd xt u xj xh xs xv xb xq xk) (fun u => some (.int ((fun _ => ti_Slacks I v num den) u))) (fun u => ti_Mfok u) := by
  refine ti_mutI (σ := ti_Mf) (vi := fun _ => ti_Slacks I v num den) (by decide) (Nat.le_of_ble_eq_true rfl) ?_
  intro p e s m below meth c H H0 A Q ls S hE hP hD hS hA hinit hl hret
  have hx := S.1
  have hb := S.2.1
  have hown := S.2.2.2.1
  have hts := S.2.2.2.2
  have hK := hE.1
  have hl : lv_has ls 4 [(0, .ref (ad 0)), (1, .int v), (2, .int num), (3, .int den)] := hl
  refine lv_iload_n hx hb dX7_lacks_0 rfl (lv_at hl 1 rfl) ?_
  refine ti_pS (As := [.int v]) (rest := []) (v := .int (ti_b (ti_bt v))) S hE hP [] (met_X7_isIdeal l D E v) rfl (lw_S q1231 q1232 q73 q1233) 1 rfl (by decide +kernel) ⟨Nat.le_of_ble_eq_true rfl, Nat.le_of_ble_eq_true rfl⟩ hl.1 rfl (Nat.le_of_ble_eq_true rfl) ⟨Nat.le_refl _, Nat.le_refl _⟩ dX7_lacks_1 ?_
  refine tb_ne (tgt := 9) hx hb dX7_lacks_4 (by decide) (fun c4 => ?_) (fun c4 => ?_)
  · skip
    obtain ⟨i, hi2, rfl⟩ := ti_bt_nat c4
    have hci : ti_cl (nI i) = i := ti_cl_nI (by omega)
    have hg := hI i hi2
    have hlen := ti_MI_len hI hi2
    have h6 := hxg.1 i
    refine lv_iload_n hx hb dX7_lacks_9 rfl (lv_at hl 2 rfl) ?_
    refine lv_iload_n hx hb dX7_lacks_10 rfl (lv_at hl 3 rfl) ?_
    refine ti_pS (As := [.int num, .int den]) (rest := []) (v := .int (ti_b (ti_bf num && ti_bf den))) S hE hP [] (met_X7_isFraction l D E num den) rfl (lw_S q1410 q1411 q73 q1412) 2 rfl (by decide +kernel) ⟨Nat.le_of_ble_eq_true rfl, Nat.le_of_ble_eq_true rfl⟩ hl.1 rfl (Nat.le_of_ble_eq_true rfl) ⟨Nat.le_refl _, Nat.le_refl _⟩ dX7_lacks_11 ?_
    refine tb_ne (tgt := 20) hx hb dX7_lacks_14 (by decide) (fun c14 => ?_) (fun c14 => ?_)
    · skip
      have hfq : ti_bf num = true ∧ ti_bf den = true := by simpa using c14
      obtain ⟨n9, hn91, hn9, rfl⟩ := ti_bf_nat hfq.1
      obtain ⟨d9, hd91, hd9, rfl⟩ := ti_bf_nat hfq.2
      have hcn : ti_cl (nI n9) = n9 := ti_cl_nI (by omega)
      have hcd : ti_cl (nI d9) = d9 := ti_cl_nI (by omega)
      refine lv_aload_n hx hb dX7_lacks_20 rfl (lv_at hl 0 rfl) ?_
      refine va_get (v := .ref (ad 1)) hx hb hts in_X7 hown hK hP 0 rfl rfl 0 (by decide) (hts _ q1088) (fun _ h => h) rfl dX7_lacks_21 ?_
      refine lv_iload_n hx hb dX7_lacks_24 rfl (lv_at hl 1 rfl) ?_
      refine tn_iald (f := xg.1) hx hb hK hP 1 0 rfl rfl (by omega) (by decide) dX7_lacks_25 ?_
      have b25 := hxg.1 i
      refine tn_if_ne (tgt := 34) hx hb dX7_lacks_26 (by decide) (by omega) (fun c26 => ?_) (fun c26 => ?_)
      · skip
        refine lv_aload_n hx hb dX7_lacks_34 rfl (lv_at hl 0 rfl) ?_
        refine lv_iload_n hx hb dX7_lacks_35 rfl (lv_at hl 1 rfl) ?_
        refine lv_iload_n hx hb dX7_lacks_36 rfl (lv_at hl 2 rfl) ?_
        refine lv_iload_n hx hb dX7_lacks_37 rfl (lv_at hl 3 rfl) ?_
        refine ti_mVa (As := [.int (nI i), .int (nI n9), .int (nI d9)]) (rest := []) S hE hP hD hS hA (met_X7_lacking l D E ad xg xd xt xf xj xh xs xv xb xq xk hxg i (by omega) (hNi i hi2 (by omega)) hxf n9 d9 hn9 hd9) (fun _ => rfl) (lw_V q1435 q1437 qs51 q73 q1438) 3 rfl 0 rfl rfl (by decide +kernel) ⟨Nat.le_of_ble_eq_true rfl, Nat.le_of_ble_eq_true rfl⟩ hl.1 rfl (Nat.le_of_ble_eq_true rfl) ⟨Nat.le_refl _, Nat.le_refl _⟩ dX7_lacks_38 (fun u1 H locs hu hP hD hS => ?_)
        obtain ⟨hF1, hF2⟩ := hu
        have hF3 : ti_F u1 = ti_FF (I i) := by rw [hF1, ← hg]; rfl
        have hP : va_P D vwCl (ti_wM E ad xg xd xt u1 xj xh xs xv xb xq xk) H := hP
        have hD : va_D A (ti_wM E ad xg xd xt u1 xj xh xs xv xb xq xk) := hD
        refine W.eq (g2 := F0 m 41 ls [.int (nI (ti_lk (ti_F u1) n9 d9 (List.range' 0 100) 0))]) rfl ?_
        exact hret u1 _ _ _ _ _ _ _ dX7_lacks_41 (by rw [ti_Slacks, if_neg (by rw [c4]; decide), if_neg (by rw [hfq.1, hfq.2]; decide), hci, hcn, hcd, if_neg (by rw [hlen]; exact c26), ← hF3]) (hF2) hP hS (Nat.le_refl _) (Nat.le_refl _)
      · skip
        refine lv_bipush (v := (-3)) hx hb dX7_lacks_29 (by decide) ?_
        refine lv_goto (tgt := 41) hx hb dX7_lacks_31 (by decide) ?_
        exact hret xf _ _ _ _ _ _ _ dX7_lacks_41 (by rw [ti_Slacks, if_neg (by rw [c4]; decide), if_neg (by rw [hfq.1, hfq.2]; decide), hci, hcn, hcd, if_pos (by rw [hlen]; exact c26)]) (hxf) hP hS (Nat.le_refl _) (Nat.le_refl _)
    · skip
      refine lv_bipush (v := (-2)) hx hb dX7_lacks_17 (by decide) ?_
      exact hret xf _ _ _ _ _ _ _ dX7_lacks_19 (by rw [ti_Slacks, if_neg (by rw [c4]; decide), if_pos c14]) (hxf) hP hS (Nat.le_refl _) (Nat.le_refl _)
  · skip
    refine lv_iconst (v := (-1)) hx hb dX7_lacks_7 (by decide) ?_
    exact hret xf _ _ _ _ _ _ _ dX7_lacks_8 (by rw [ti_Slacks, if_pos c4]) (hxf) hP hS (Nat.le_refl _) (Nat.le_refl _)

set_option maxHeartbeats 1000000 in
theorem met_X7_jump (l : Launch) (D : va_G) (E : Nat → ClassId) (ad : Nat → Nat) (xg : ti_Mg) (xd : ti_Md) (xt : ti_Mt) (xf : ti_Mf) (xj : ti_Mj) (xh : ti_Mh) (xs : ti_Ms) (xv : ti_Mv) (xb : ti_Mb) (xq : ti_Mq) (xk : ti_Mk) (hxg : ti_Mgok xg) (I : Nat → ti_GL) (hI : ti_MI xg I) (hxf : ti_Mfok xf) (hNi : ∀ i, i < 2 → 0 < xg.1 i → ti_r2 (ti_G xg i) 1000 (List.range' 1 9) ≤ 6) (v a b pt : Int32) : ti_MetM (σ := ti_Mf) l D E yX7_jump cX7_jump 6 (some .long) 4 0 0 (ti_wM E ad xg xd xt xf xj xh xs xv xb xq xk) [.ref (ad 0), .int v, .int a, .int b, .int pt] (fun u => ti_wM E ad xg xd xt u xj xh xs xv xb xq xk) (fun u => some (.long ((fun _ => ti_Sjump I v a b pt) u))) (fun u => ti_Mfok u) := by
  refine ti_mutJ (σ := ti_Mf) (vi := fun _ => ti_Sjump I v a b pt) (by decide) (Nat.le_of_ble_eq_true rfl) ?_
  intro p e s m below meth c H H0 A Q ls S hE hP hD hS hA hinit hl hret
  have hx := S.1
  have hb := S.2.1
  have hown := S.2.2.2.1
  have hts := S.2.2.2.2
  have hK := hE.1
  have hl : lv_has ls 6 [(0, .ref (ad 0)), (1, .int v), (2, .int a), (3, .int b), (4, .int pt)] := hl
  refine lv_iload_n hx hb dX7_jump_0 rfl (lv_at hl 1 rfl) ?_
  refine ti_pS (As := [.int v]) (rest := []) (v := .int (ti_b (ti_bt v))) S hE hP [] (met_X7_isIdeal l D E v) rfl (lw_S q1231 q1232 q73 q1233) 1 rfl (by decide +kernel) ⟨Nat.le_of_ble_eq_true rfl, Nat.le_of_ble_eq_true rfl⟩ hl.1 rfl (Nat.le_of_ble_eq_true rfl) ⟨Nat.le_refl _, Nat.le_refl _⟩ dX7_jump_1 ?_
  refine tb_eq (tgt := 41) hx hb dX7_jump_4 (by decide) (fun c4 => ?_) (fun c4 => ?_)
  · skip
    refine lv_ldc2 (v := (-9223372036854775808)) hx hb hown (hts _ q1426) dX7_jump_41 ?_
    exact hret xf _ _ _ _ _ _ _ dX7_jump_44 (by rw [ti_Sjump, if_pos (by rw [c4]; simp)]; rfl) (hxf) hP hS (Nat.le_refl _) (Nat.le_refl _)
  · skip
    obtain ⟨i, hi2, rfl⟩ := ti_bt_nat c4
    have hci : ti_cl (nI i) = i := ti_cl_nI (by omega)
    have hg := hI i hi2
    have hlen := ti_MI_len hI hi2
    have h6 := hxg.1 i
    refine lv_iload_n hx hb dX7_jump_7 rfl (lv_at hl 2 rfl) ?_
    refine ti_pS (As := [.int a]) (rest := []) (v := .int (ti_b (ti_b9 a))) S hE hP [] (met_X7_isPower l D E a) rfl (lw_S q1237 q1238 q73 q1239) 1 rfl (by decide +kernel) ⟨Nat.le_of_ble_eq_true rfl, Nat.le_of_ble_eq_true rfl⟩ hl.1 rfl (Nat.le_of_ble_eq_true rfl) ⟨Nat.le_refl _, Nat.le_refl _⟩ dX7_jump_8 ?_
    refine tb_eq (tgt := 41) hx hb dX7_jump_11 (by decide) (fun c11 => ?_) (fun c11 => ?_)
    · skip
      refine lv_ldc2 (v := (-9223372036854775808)) hx hb hown (hts _ q1426) dX7_jump_41 ?_
      exact hret xf _ _ _ _ _ _ _ dX7_jump_44 (by rw [ti_Sjump, if_pos (by rw [c11]; simp)]; rfl) (hxf) hP hS (Nat.le_refl _) (Nat.le_refl _)
    · skip
      obtain ⟨a9, ha9, rfl⟩ := ti_b9_nat c11
      have hca : ti_cl (nI a9) = a9 := ti_cl_nI (by omega)
      refine lv_iload_n hx hb dX7_jump_14 rfl (lv_at hl 3 rfl) ?_
      refine ti_pS (As := [.int b]) (rest := []) (v := .int (ti_b (ti_b9 b))) S hE hP [] (met_X7_isPower l D E b) rfl (lw_S q1237 q1238 q73 q1239) 1 rfl (by decide +kernel) ⟨Nat.le_of_ble_eq_true rfl, Nat.le_of_ble_eq_true rfl⟩ hl.1 rfl (Nat.le_of_ble_eq_true rfl) ⟨Nat.le_refl _, Nat.le_refl _⟩ dX7_jump_15 ?_
      refine tb_eq (tgt := 41) hx hb dX7_jump_18 (by decide) (fun c18 => ?_) (fun c18 => ?_)
      · skip
        refine lv_ldc2 (v := (-9223372036854775808)) hx hb hown (hts _ q1426) dX7_jump_41 ?_
        exact hret xf _ _ _ _ _ _ _ dX7_jump_44 (by rw [ti_Sjump, if_pos (by rw [c18]; simp)]; rfl) (hxf) hP hS (Nat.le_refl _) (Nat.le_refl _)
      · skip
        obtain ⟨b9, hb9, rfl⟩ := ti_b9_nat c18
        have hcb : ti_cl (nI b9) = b9 := ti_cl_nI (by omega)
        refine lv_iload hx hb dX7_jump_21 (lv_at hl 4 rfl) ?_
        refine lv_i2l (v := Int32.toInt64 pt) hx hb dX7_jump_23 rfl ?_
        refine lv_lconst (v := lN 0) hx hb dX7_jump_24 (by decide) ?_
        refine lv_lconst (v := lN 1) hx hb dX7_jump_25 (by decide) ?_
        refine ti_pS (As := [.long (Int32.toInt64 pt), .long (lN 0), .long (lN 1)]) (rest := []) (v := .int (ti_b (ti_inL (Int32.toInt64 pt) (lN 0) (lN 1)))) S hE hP [] (met_X7_isFrom l D E (Int32.toInt64 pt) (lN 0) (lN 1)) rfl (lw_S q1234 q1235 q73 q1236) 3 rfl (by decide +kernel) ⟨Nat.le_of_ble_eq_true rfl, Nat.le_of_ble_eq_true rfl⟩ hl.1 rfl (Nat.le_of_ble_eq_true rfl) ⟨Nat.le_refl _, Nat.le_refl _⟩ dX7_jump_26 ?_
        refine tb_eq (tgt := 41) hx hb dX7_jump_29 (by decide) (fun c29 => ?_) (fun c29 => ?_)
        · skip
          have c29 : ti_bt pt = false := by rw [← c29]; exact (ti_inL_i (by decide) (by decide)).symm
          refine lv_ldc2 (v := (-9223372036854775808)) hx hb hown (hts _ q1426) dX7_jump_41 ?_
          exact hret xf _ _ _ _ _ _ _ dX7_jump_44 (by rw [ti_Sjump, if_pos (by rw [c29]; simp)]; rfl) (hxf) hP hS (Nat.le_refl _) (Nat.le_refl _)
        · skip
          have c29 : ti_bt pt = true := by rw [← c29]; exact (ti_inL_i (by decide) (by decide)).symm
          obtain ⟨p8, hp8, rfl⟩ := ti_bt_nat c29
          have hbb : ¬ (ti_bt (nI i) && (ti_b9 (nI a9) && (ti_b9 (nI b9) && ti_bt (nI p8)))) = false := by rw [c4, c11, c18, c29]; decide
          refine lv_aload_n hx hb dX7_jump_32 rfl (lv_at hl 0 rfl) ?_
          refine va_get (v := .ref (ad 1)) hx hb hts in_X7 hown hK hP 0 rfl rfl 0 (by decide) (hts _ q1088) (fun _ h => h) rfl dX7_jump_33 ?_
          refine lv_iload_n hx hb dX7_jump_36 rfl (lv_at hl 1 rfl) ?_
          refine tn_iald (f := xg.1) hx hb hK hP 1 0 rfl rfl (by omega) (by decide) dX7_jump_37 ?_
          have b37 := hxg.1 i
          refine tn_if_ne (tgt := 45) hx hb dX7_jump_38 (by decide) (by omega) (fun c38 => ?_) (fun c38 => ?_)
          · skip
            refine lv_aload_n hx hb dX7_jump_45 rfl (lv_at hl 0 rfl) ?_
            refine lv_iload_n hx hb dX7_jump_46 rfl (lv_at hl 1 rfl) ?_
            refine ti_mVa (As := [.int (nI i)]) (rest := []) S hE hP hD hS hA (met_X7_tellsFaces l D E ad xg xd xt xf xj xh xs xv xb xq xk hxg i (by omega) (hNi i hi2 (by omega)) hxf) (fun _ => rfl) (lw_V q1285 q1287 qs32 q73 q1288) 1 rfl 0 rfl rfl (by decide +kernel) ⟨Nat.le_of_ble_eq_true rfl, Nat.le_of_ble_eq_true rfl⟩ hl.1 rfl (Nat.le_of_ble_eq_true rfl) ⟨Nat.le_refl _, Nat.le_refl _⟩ dX7_jump_47 (fun u1 H locs hu hP hD hS => ?_)
            obtain ⟨hF1, hF2⟩ := hu
            have hF3 : ti_F u1 = ti_FF (I i) := by rw [hF1, ← hg]; rfl
            have hP : va_P D vwCl (ti_wM E ad xg xd xt u1 xj xh xs xv xb xq xk) H := hP
            have hD : va_D A (ti_wM E ad xg xd xt u1 xj xh xs xv xb xq xk) := hD
            refine W.eq (g2 := F0 m 50 ls []) rfl ?_
            have hjf : ti_jf a9 b9 (ti_F u1) (0, 0) = ti_jp a9 b9 u1.2.1 u1.2.2.1 u1.2.2.2 (ti_jm a9 b9 u1.2.1 u1.2.2.1 u1.2.2.2 u1.1 0 none) := ti_jm_jf a9 b9 _ _ _ u1.1 0 none (fun f hf => by cases hf)
            refine lv_aload_n hx hb dX7_jump_50 rfl (lv_at hl 0 rfl) ?_
            refine lv_iload_n hx hb dX7_jump_51 rfl (lv_at hl 2 rfl) ?_
            refine lv_iload_n hx hb dX7_jump_52 rfl (lv_at hl 3 rfl) ?_
            refine ti_pVa (As := [.int (nI a9), .int (nI b9)]) (rest := []) (v := .int (ti_pm (ti_jm a9 b9 u1.2.1 u1.2.2.1 u1.2.2.2 u1.1 0 none))) S hE hP (met_X7_jumpFace l D E ad xg xd xt u1 xj xh xs xv xb xq xk hF2 a9 b9 ha9 hb9) (lw_V q1383 q1385 qs47 q73 q1386) 2 rfl 0 rfl rfl (by decide +kernel) ⟨Nat.le_of_ble_eq_true rfl, Nat.le_of_ble_eq_true rfl⟩ hl.1 rfl (Nat.le_of_ble_eq_true rfl) ⟨Nat.le_refl _, Nat.le_refl _⟩ dX7_jump_53 ?_
            refine lv_istore (lv' := [(5, .int (ti_pm (ti_jm a9 b9 u1.2.1 u1.2.2.1 u1.2.2.2 u1.1 0 none))), (0, .ref (ad 0)), (1, .int (nI i)), (2, .int (nI a9)), (3, .int (nI b9)), (4, .int (nI p8))]) hx hb dX7_jump_56 hl (by decide) rfl (fun ls hl => ?_)
            refine lv_iload hx hb dX7_jump_58 (lv_at hl 0 rfl) ?_
            refine lv_iconst (v := (-1)) hx hb dX7_jump_60 (by decide) ?_
            refine lv_icmp_ne (tgt := 70) hx hb dX7_jump_61 (by decide) (fun c61 => ?_) (fun c61 => ?_)
            · skip
              obtain ⟨f9, ho9⟩ : ∃ f9, ti_jm a9 b9 u1.2.1 u1.2.2.1 u1.2.2.2 u1.1 0 none = some f9 := by
                cases ho : ti_jm a9 b9 u1.2.1 u1.2.2.1 u1.2.2.2 u1.1 0 none with
                | none => rw [ho] at c61; exact absurd rfl c61
                | some f9 => exact ⟨f9, rfl⟩
              have hf9 := ti_jm_lt _ _ _ _ _ _ _ _ (fun f hf => by cases hf) f9 ho9
              have hf64 := hF2.1
              rw [ho9] at hl
              have hl : lv_has ls 6 [(5, .int (nI f9)), (0, .ref (ad 0)), (1, .int (nI i)), (2, .int (nI a9)), (3, .int (nI b9)), (4, .int (nI p8))] := hl
              have hwf : ti_wt (u1.2.1 f9, u1.2.2.1 f9, u1.2.2.2 f9) a9 b9 ≤ 180 := ti_wt_le (hF2.2.1 f9) (hF2.2.2.1 f9) ha9 hb9
              have hlf := hF2.2.2.2 f9
              refine lv_aload_n hx hb dX7_jump_70 rfl (lv_at hl 1 rfl) ?_
              refine lv_iload hx hb dX7_jump_71 (lv_at hl 0 rfl) ?_
              refine lv_iload_n hx hb dX7_jump_73 rfl (lv_at hl 3 rfl) ?_
              refine lv_iload_n hx hb dX7_jump_74 rfl (lv_at hl 4 rfl) ?_
              refine ti_pVa (As := [.int (nI f9), .int (nI a9), .int (nI b9)]) (rest := []) (v := .int (nI (ti_wt (u1.2.1 f9, u1.2.2.1 f9, u1.2.2.2 f9) a9 b9))) S hE hP (met_X7_heavy l D E ad xg xd xt u1 xj xh xs xv xb xq xk hF2 f9 (by omega) a9 b9 ha9 hb9) (lw_V q1387 q1389 qs48 q73 q1390) 3 rfl 0 rfl rfl (by decide +kernel) ⟨Nat.le_of_ble_eq_true rfl, Nat.le_of_ble_eq_true rfl⟩ hl.1 rfl (Nat.le_of_ble_eq_true rfl) ⟨Nat.le_refl _, Nat.le_refl _⟩ dX7_jump_75 ?_
              refine lv_i2l (v := lN (ti_wt (u1.2.1 f9, u1.2.2.1 f9, u1.2.2.2 f9) a9 b9)) hx hb dX7_jump_78 (nI_l (by omega)) ?_
              refine lv_aload_n hx hb dX7_jump_79 rfl (lv_at hl 1 rfl) ?_
              refine va_get (v := .ref (ad 12)) hx hb hts in_X7 hown hK hP 0 rfl rfl 15 (by decide) (hts _ q1103) (fun _ h => h) rfl dX7_jump_80 ?_
              refine lv_iload hx hb dX7_jump_83 (lv_at hl 0 rfl) ?_
              refine tn_iald (f := u1.2.2.2) hx hb hK hP 12 0 rfl rfl (by omega) (by decide) dX7_jump_85 ?_
              have b85 := hF2.2.2.2 f9
              refine lv_i2l (v := lN (u1.2.2.2 f9)) hx hb dX7_jump_86 (nI_l (by omega)) ?_
              refine lv_iload hx hb dX7_jump_87 (lv_at hl 5 rfl) ?_
              refine ti_pS (As := [.long (lN (ti_wt (u1.2.1 f9, u1.2.2.1 f9, u1.2.2.2 f9) a9 b9)), .long (lN (u1.2.2.2 f9)), .int (nI p8)]) (rest := []) (v := .long (lN ((if nI p8 = 0 then ti_wt (u1.2.1 f9, u1.2.2.1 f9, u1.2.2.2 f9) a9 b9 else u1.2.2.2 f9) / Nat.gcd (ti_wt (u1.2.1 f9, u1.2.2.1 f9, u1.2.2.2 f9) a9 b9) (u1.2.2.2 f9)))) S hE hP [] (met_X7_part l D E (ti_wt (u1.2.1 f9, u1.2.2.1 f9, u1.2.2.2 f9) a9 b9) (u1.2.2.2 f9) (by omega) (by omega) hf9.2 (nI p8)) rfl (lw_S q1391 q1392 q73 q1393) 3 rfl (by decide +kernel) ⟨Nat.le_of_ble_eq_true rfl, Nat.le_of_ble_eq_true rfl⟩ hl.1 rfl (Nat.le_of_ble_eq_true rfl) ⟨Nat.le_refl _, Nat.le_refl _⟩ dX7_jump_89 ?_
              exact hret u1 _ _ _ _ _ _ _ dX7_jump_92 (by rw [ti_Sjump, if_neg hbb, hci, hca, hcb, if_neg (show ¬ (I i).length = 0 from by rw [hlen]; exact c38), ← hF3, hjf, ho9, if_neg (show ¬ (ti_jp a9 b9 u1.2.1 u1.2.2.1 u1.2.2.2 (some f9)).2 = 0 from by show ¬ u1.2.2.2 f9 = 0; omega)]; by_cases hp : nI p8 = 0 <;> first | (rw [if_pos hp, if_pos hp]; rfl) | (rw [if_neg hp, if_neg hp]; rfl)) (hF2) hP hS (Nat.le_refl _) (Nat.le_refl _)
            · skip
              refine lv_ldc2 (v := (-9223372036854775808)) hx hb hown (hts _ q1426) dX7_jump_64 ?_
              refine lv_goto (tgt := 92) hx hb dX7_jump_67 (by decide) ?_
              exact hret u1 _ _ _ _ _ _ _ dX7_jump_92 (by rw [ti_Sjump, if_neg hbb, hci, hca, hcb, if_neg (show ¬ (I i).length = 0 from by rw [hlen]; exact c38), ← hF3, hjf, (ti_pm_n1 (fun j hj => by have := (ti_jm_lt _ _ _ _ _ _ _ _ (fun f hf => by cases hf) j hj).1; have := hF2.1; omega)).mp c61, if_pos (show (ti_jp _ _ _ _ _ none).2 = 0 from rfl)]; rfl) (hF2) hP hS (Nat.le_refl _) (Nat.le_refl _)
          · skip
            refine lv_ldc2 (v := (-9223372036854775808)) hx hb hown (hts _ q1426) dX7_jump_41 ?_
            exact hret xf _ _ _ _ _ _ _ dX7_jump_44 (by rw [ti_Sjump, if_neg hbb, hci, if_pos (by rw [hlen]; exact c38)]; rfl) (hxf) hP hS (Nat.le_refl _) (Nat.le_refl _)
