/-! TermIdealsModel: public methods, fifth part (printed by w_model10.py) -/
set_option maxRecDepth 100000
theorem ti_lk_le (F : List (Nat × Nat × Nat)) (n d : Nat) : ∀ (l : List Nat) (w : Nat), ti_lk F n d l w ≤ w + l.length
  | [], w => Nat.le_refl _
  | k :: r, w => by
    rw [ti_lk, List.length_cons]
    refine Nat.le_trans (ti_lk_le F n d r _) ?_
    split <;> omega

set_option maxHeartbeats 1000000 in
theorem met_X7_jumps (l : Launch) (D : va_G) (E : Nat → ClassId) (ad : Nat → Nat) (xg : ti_Mg) (xd : ti_Md) (xt : ti_Mt) (xf : ti_Mf) (xj : ti_Mj) (xh : ti_Mh) (xs : ti_Ms) (xv : ti_Mv) (xb : ti_Mb) (xq : ti_Mq) (xk : ti_Mk) (hxg : ti_Mgok xg) (I : Nat → ti_GL) (hI : ti_MI xg I) (hxf : ti_Mfok xf) (hxj : ti_Mjok xj) (hNi : ∀ i, i < 2 → 0 < xg.1 i → ti_r2 (ti_G xg i) 1000 (List.range' 1 9) ≤ 6) (v j pt : Int32) : ti_MetM (σ := ti_Mf × ti_Mj) l D E yX7_jumps cX7_jumps 4 (some .long) 4 0 0 (ti_wM E ad xg xd xt xf xj xh xs xv xb xq xk) [.ref (ad 0), .int v, .int j, .int pt] (fun u => ti_wM E ad xg xd xt u.1 u.2 xh xs xv xb xq xk) (fun u => some (.long ((fun _ => ti_Sjumps I v j pt) u))) (fun u => ti_Mfok u.1 ∧ ti_Mjok u.2) := by
  refine ti_mutJ (σ := ti_Mf × ti_Mj) (vi := fun _ => ti_Sjumps I v j pt) (by decide) (Nat.le_of_ble_eq_true rfl) ?_
  intro p e s m below meth c H H0 A Q ls S hE hP hD hS hA hinit hl hret
  have hx := S.1
  have hb := S.2.1
  have hown := S.2.2.2.1
  have hts := S.2.2.2.2
  have hK := hE.1
  have hl : lv_has ls 4 [(0, .ref (ad 0)), (1, .int v), (2, .int j), (3, .int pt)] := hl
  refine lv_iload_n hx hb dX7_jumps_0 rfl (lv_at hl 1 rfl) ?_
  refine ti_pS (As := [.int v]) (rest := []) (v := .int (ti_b (ti_bt v))) S hE hP [] (met_X7_isIdeal l D E v) rfl (lw_S q1231 q1232 q73 q1233) 1 rfl (by decide +kernel) ⟨Nat.le_of_ble_eq_true rfl, Nat.le_of_ble_eq_true rfl⟩ hl.1 rfl (Nat.le_of_ble_eq_true rfl) ⟨Nat.le_refl _, Nat.le_refl _⟩ dX7_jumps_1 ?_
  refine tb_eq (tgt := 26) hx hb dX7_jumps_4 (by decide) (fun c4 => ?_) (fun c4 => ?_)
  · skip
    refine lv_ldc2 (v := (-9223372036854775808)) hx hb hown (hts _ q1426) dX7_jumps_26 ?_
    exact hret (xf, xj) _ _ _ _ _ _ _ dX7_jumps_29 (by rw [ti_Sjumps, if_pos (by rw [c4]; simp)]; rfl) (⟨hxf, hxj⟩) hP hS (Nat.le_refl _) (Nat.le_refl _)
  · skip
    obtain ⟨i, hi2, rfl⟩ := ti_bt_nat c4
    have hci : ti_cl (nI i) = i := ti_cl_nI (by omega)
    have hg := hI i hi2
    have hlen := ti_MI_len hI hi2
    have h6 := hxg.1 i
    refine lv_iload_n hx hb dX7_jumps_7 rfl (lv_at hl 3 rfl) ?_
    refine lv_i2l (v := Int32.toInt64 pt) hx hb dX7_jumps_8 rfl ?_
    refine lv_lconst (v := lN 0) hx hb dX7_jumps_9 (by decide) ?_
    refine lv_lconst (v := lN 1) hx hb dX7_jumps_10 (by decide) ?_
    refine ti_pS (As := [.long (Int32.toInt64 pt), .long (lN 0), .long (lN 1)]) (rest := []) (v := .int (ti_b (ti_inL (Int32.toInt64 pt) (lN 0) (lN 1)))) S hE hP [] (met_X7_isFrom l D E (Int32.toInt64 pt) (lN 0) (lN 1)) rfl (lw_S q1234 q1235 q73 q1236) 3 rfl (by decide +kernel) ⟨Nat.le_of_ble_eq_true rfl, Nat.le_of_ble_eq_true rfl⟩ hl.1 rfl (Nat.le_of_ble_eq_true rfl) ⟨Nat.le_refl _, Nat.le_refl _⟩ dX7_jumps_11 ?_
    refine tb_eq (tgt := 26) hx hb dX7_jumps_14 (by decide) (fun c14 => ?_) (fun c14 => ?_)
    · skip
      have c14 : ti_bt pt = false := by rw [← c14]; exact (ti_inL_i (by decide) (by decide)).symm
      refine lv_ldc2 (v := (-9223372036854775808)) hx hb hown (hts _ q1426) dX7_jumps_26 ?_
      exact hret (xf, xj) _ _ _ _ _ _ _ dX7_jumps_29 (by rw [ti_Sjumps, if_pos (by rw [c14]; simp)]; rfl) (⟨hxf, hxj⟩) hP hS (Nat.le_refl _) (Nat.le_refl _)
    · skip
      have c14 : ti_bt pt = true := by rw [← c14]; exact (ti_inL_i (by decide) (by decide)).symm
      obtain ⟨p8, hp8, rfl⟩ := ti_bt_nat c14
      have hbb : ¬ (ti_bt (nI i) && ti_bt (nI p8)) = false := by rw [c4, c14]; decide
      refine lv_aload_n hx hb dX7_jumps_17 rfl (lv_at hl 0 rfl) ?_
      refine va_get (v := .ref (ad 1)) hx hb hts in_X7 hown hK hP 0 rfl rfl 0 (by decide) (hts _ q1088) (fun _ h => h) rfl dX7_jumps_18 ?_
      refine lv_iload_n hx hb dX7_jumps_21 rfl (lv_at hl 1 rfl) ?_
      refine tn_iald (f := xg.1) hx hb hK hP 1 0 rfl rfl (by omega) (by decide) dX7_jumps_22 ?_
      have b22 := hxg.1 i
      refine tn_if_ne (tgt := 30) hx hb dX7_jumps_23 (by decide) (by omega) (fun c23 => ?_) (fun c23 => ?_)
      · skip
        refine lv_aload_n hx hb dX7_jumps_30 rfl (lv_at hl 0 rfl) ?_
        refine lv_iload_n hx hb dX7_jumps_31 rfl (lv_at hl 1 rfl) ?_
        refine ti_mVa (As := [.int (nI i)]) (rest := []) S hE hP hD hS hA (met_X7_tellsFaces l D E ad xg xd xt xf xj xh xs xv xb xq xk hxg i (by omega) (hNi i hi2 (by omega)) hxf) (fun _ => rfl) (lw_V q1285 q1287 qs32 q73 q1288) 1 rfl 0 rfl rfl (by decide +kernel) ⟨Nat.le_of_ble_eq_true rfl, Nat.le_of_ble_eq_true rfl⟩ hl.1 rfl (Nat.le_of_ble_eq_true rfl) ⟨Nat.le_refl _, Nat.le_refl _⟩ dX7_jumps_32 (fun u1 H locs hu hP hD hS => ?_)
        obtain ⟨hF1, hF2⟩ := hu
        have hF3 : ti_F u1 = ti_FF (I i) := by rw [hF1, ← hg]; rfl
        have hP : va_P D vwCl (ti_wM E ad xg xd xt u1 xj xh xs xv xb xq xk) H := hP
        have hD : va_D A (ti_wM E ad xg xd xt u1 xj xh xs xv xb xq xk) := hD
        refine W.eq (g2 := F0 m 35 ls []) rfl ?_
        refine lv_aload_n hx hb dX7_jumps_35 rfl (lv_at hl 0 rfl) ?_
        refine ti_mVa (As := []) (rest := []) S hE hP hD hS hA (met_X7_tellsJumps l D E ad xg xd xt u1 xj xh xs xv xb xq xk hF2 hxj) (fun _ => rfl) (lw_V q1379 q1381 qs46 q73 q1382) 0 rfl 0 rfl rfl (by decide +kernel) ⟨Nat.le_of_ble_eq_true rfl, Nat.le_of_ble_eq_true rfl⟩ hl.1 rfl (Nat.le_of_ble_eq_true rfl) ⟨Nat.le_refl _, Nat.le_refl _⟩ dX7_jumps_36 (fun u2 H locs hu hP hD hS => ?_)
        obtain ⟨hJ1, hJ2⟩ := hu
        rw [hF3] at hJ1
        have hJl : (ti_ml (ti_FF (I i)) (List.range' 0 100) []).length = u2.1 := by rw [← hJ1, ti_gr_len]
        have hj100 := hJ2.1
        have hP : va_P D vwCl (ti_wM E ad xg xd xt u1 u2 xh xs xv xb xq xk) H := hP
        have hD : va_D A (ti_wM E ad xg xd xt u1 u2 xh xs xv xb xq xk) := hD
        refine W.eq (g2 := F0 m 39 ls []) rfl ?_
        refine lv_iload_n hx hb dX7_jumps_39 rfl (lv_at hl 2 rfl) ?_
        refine lv_i2l (v := Int32.toInt64 j) hx hb dX7_jumps_40 rfl ?_
        refine lv_lconst (v := lN 0) hx hb dX7_jumps_41 (by decide) ?_
        refine lv_aload_n hx hb dX7_jumps_42 rfl (lv_at hl 0 rfl) ?_
        refine va_get (v := .int (nI u2.1)) hx hb hts in_X7 hown hK hP 0 rfl rfl 16 (by decide) (hts _ q1104) (fun _ h => h) rfl dX7_jumps_43 ?_
        refine lv_iconst (v := nI 1) hx hb dX7_jumps_46 (by decide) ?_
        refine lv_isub hx hb dX7_jumps_47 ?_
        refine lv_i2l (v := Int32.toInt64 (((nI u2.1) - (nI 1)))) hx hb dX7_jumps_48 rfl ?_
        refine ti_pS (As := [.long (Int32.toInt64 j), .long (lN 0), .long (Int32.toInt64 (((nI u2.1) - (nI 1))))]) (rest := []) (v := .int (ti_b (ti_inL (Int32.toInt64 j) (lN 0) ((Int32.toInt64 (((nI u2.1) - (nI 1)))))))) S hE hP [] (met_X7_isFrom l D E (Int32.toInt64 j) (lN 0) ((Int32.toInt64 (((nI u2.1) - (nI 1)))))) rfl (lw_S q1234 q1235 q73 q1236) 3 rfl (by decide +kernel) ⟨Nat.le_of_ble_eq_true rfl, Nat.le_of_ble_eq_true rfl⟩ hl.1 rfl (Nat.le_of_ble_eq_true rfl) ⟨Nat.le_refl _, Nat.le_refl _⟩ dX7_jumps_49 ?_
        refine tb_ne (tgt := 61) hx hb dX7_jumps_52 (by decide) (fun c52 => ?_) (fun c52 => ?_)
        · skip
          rw [ti_inL_lt (by omega)] at c52
          obtain ⟨j9, hj9, rfl⟩ := ti_lt_nat c52
          have hcj : ti_cl (nI j9) = j9 := ti_cl_nI (by omega)
          have hjd : (ti_ml (ti_FF (I i)) (List.range' 0 100) []).getD j9 (0, 0) = (u2.2.1 j9, u2.2.2 j9) := by rw [← hJ1]; exact ti_gr_getD hj9
          rw [← hJl] at c52
          have hb1 := hJ2.2.1 j9
          have hb2 := hJ2.2.2 j9
          refine lv_iload_n hx hb dX7_jumps_61 rfl (lv_at hl 3 rfl) ?_
          refine tn_if_ne (tgt := 75) hx hb dX7_jumps_62 (by decide) (by omega) (fun c62 => ?_) (fun c62 => ?_)
          · skip
            refine lv_aload_n hx hb dX7_jumps_75 rfl (lv_at hl 0 rfl) ?_
            refine va_get (v := .ref (ad 14)) hx hb hts in_X7 hown hK hP 0 rfl rfl 18 (by decide) (hts _ q1106) (fun _ h => h) rfl dX7_jumps_76 ?_
            refine lv_iload_n hx hb dX7_jumps_79 rfl (lv_at hl 2 rfl) ?_
            refine tn_iald (f := u2.2.2) hx hb hK hP 14 0 rfl rfl (by omega) (by decide) dX7_jumps_80 ?_
            refine lv_i2l (v := lN (u2.2.2 j9)) hx hb dX7_jumps_81 (nI_l (by omega)) ?_
            exact hret (u1, u2) _ _ _ _ _ _ _ dX7_jumps_82 (by rw [ti_Sjumps, if_neg hbb, hci, if_neg (show ¬ (I i).length = 0 from by rw [hlen]; exact c23), if_neg (by rw [c52]; decide), hcj, hjd, if_neg (fun z => c62 ((ti_nI_0 (show p8 < 2 ^ 31 by omega)).mp z))]) (⟨hF2, hJ2⟩) hP hS (Nat.le_refl _) (Nat.le_refl _)
          · skip
            refine lv_aload_n hx hb dX7_jumps_65 rfl (lv_at hl 0 rfl) ?_
            refine va_get (v := .ref (ad 13)) hx hb hts in_X7 hown hK hP 0 rfl rfl 17 (by decide) (hts _ q1105) (fun _ h => h) rfl dX7_jumps_66 ?_
            refine lv_iload_n hx hb dX7_jumps_69 rfl (lv_at hl 2 rfl) ?_
            refine tn_iald (f := u2.2.1) hx hb hK hP 13 0 rfl rfl (by omega) (by decide) dX7_jumps_70 ?_
            refine lv_i2l (v := lN (u2.2.1 j9)) hx hb dX7_jumps_71 (nI_l (by omega)) ?_
            refine lv_goto (tgt := 82) hx hb dX7_jumps_72 (by decide) ?_
            exact hret (u1, u2) _ _ _ _ _ _ _ dX7_jumps_82 (by rw [ti_Sjumps, if_neg hbb, hci, if_neg (show ¬ (I i).length = 0 from by rw [hlen]; exact c23), if_neg (by rw [c52]; decide), hcj, hjd, if_pos ((ti_nI_0 (show p8 < 2 ^ 31 by omega)).mpr c62)]) (⟨hF2, hJ2⟩) hP hS (Nat.le_refl _) (Nat.le_refl _)
        · skip
          rw [ti_inL_lt (by omega), ← hJl] at c52
          refine lv_ldc2 (v := (-9223372036854775808)) hx hb hown (hts _ q1426) dX7_jumps_55 ?_
          refine lv_goto (tgt := 82) hx hb dX7_jumps_58 (by decide) ?_
          exact hret (u1, u2) _ _ _ _ _ _ _ dX7_jumps_82 (by rw [ti_Sjumps, if_neg hbb, hci, if_neg (show ¬ (I i).length = 0 from by rw [hlen]; exact c23), if_pos c52]; rfl) (⟨hF2, hJ2⟩) hP hS (Nat.le_refl _) (Nat.le_refl _)
      · skip
        refine lv_ldc2 (v := (-9223372036854775808)) hx hb hown (hts _ q1426) dX7_jumps_26 ?_
        exact hret (xf, xj) _ _ _ _ _ _ _ dX7_jumps_29 (by rw [ti_Sjumps, if_neg hbb, hci, if_pos (show (I i).length = 0 from by rw [hlen]; exact c23)]; rfl) (⟨hxf, hxj⟩) hP hS (Nat.le_refl _) (Nat.le_refl _)

set_option maxHeartbeats 1000000 in
theorem met_X7_odds (l : Launch) (D : va_G) (E : Nat → ClassId) (ad : Nat → Nat) (xg : ti_Mg) (xd : ti_Md) (xt : ti_Mt) (xf : ti_Mf) (xj : ti_Mj) (xh : ti_Mh) (xs : ti_Ms) (xv : ti_Mv) (xb : ti_Mb) (xq : ti_Mq) (xk : ti_Mk) (hxg : ti_Mgok xg) (I : Nat → ti_GL) (hI : ti_MI xg I) (hxf : ti_Mfok xf) (hNi : ∀ i, i < 2 → 0 < xg.1 i → ti_r2 (ti_G xg i) 1000 (List.range' 1 9) ≤ 6) (v num den pt : Int32) : ti_MetM (σ := ti_Mf) l D E yX7_odds cX7_odds 5 (some .long) 5 0 0 (ti_wM E ad xg xd xt xf xj xh xs xv xb xq xk) [.ref (ad 0), .int v, .int num, .int den, .int pt] (fun u => ti_wM E ad xg xd xt u xj xh xs xv xb xq xk) (fun u => some (.long ((fun _ => ti_Sodds I v num den pt) u))) (fun u => ti_Mfok u) := by
  refine ti_mutJ (σ := ti_Mf) (vi := fun _ => ti_Sodds I v num den pt) (by decide) (Nat.le_of_ble_eq_true rfl) ?_
  intro p e s m below meth c H H0 A Q ls S hE hP hD hS hA hinit hl hret
  have hx := S.1
  have hb := S.2.1
  have hown := S.2.2.2.1
  have hts := S.2.2.2.2
  have hK := hE.1
  have hl : lv_has ls 5 [(0, .ref (ad 0)), (1, .int v), (2, .int num), (3, .int den), (4, .int pt)] := hl
  refine lv_iload_n hx hb dX7_odds_0 rfl (lv_at hl 1 rfl) ?_
  refine ti_pS (As := [.int v]) (rest := []) (v := .int (ti_b (ti_bt v))) S hE hP [] (met_X7_isIdeal l D E v) rfl (lw_S q1231 q1232 q73 q1233) 1 rfl (by decide +kernel) ⟨Nat.le_of_ble_eq_true rfl, Nat.le_of_ble_eq_true rfl⟩ hl.1 rfl (Nat.le_of_ble_eq_true rfl) ⟨Nat.le_refl _, Nat.le_refl _⟩ dX7_odds_1 ?_
  refine tb_eq (tgt := 35) hx hb dX7_odds_4 (by decide) (fun c4 => ?_) (fun c4 => ?_)
  · skip
    refine lv_ldc2 (v := (-9223372036854775808)) hx hb hown (hts _ q1426) dX7_odds_35 ?_
    exact hret xf _ _ _ _ _ _ _ dX7_odds_38 (by rw [ti_Sodds, if_pos (by rw [c4]; simp)]; rfl) (hxf) hP hS (Nat.le_refl _) (Nat.le_refl _)
  · skip
    obtain ⟨i, hi2, rfl⟩ := ti_bt_nat c4
    have hci : ti_cl (nI i) = i := ti_cl_nI (by omega)
    have hg := hI i hi2
    have hlen := ti_MI_len hI hi2
    have h6 := hxg.1 i
    refine lv_iload_n hx hb dX7_odds_7 rfl (lv_at hl 2 rfl) ?_
    refine lv_iload_n hx hb dX7_odds_8 rfl (lv_at hl 3 rfl) ?_
    refine ti_pS (As := [.int num, .int den]) (rest := []) (v := .int (ti_b (ti_bf num && ti_bf den))) S hE hP [] (met_X7_isFraction l D E num den) rfl (lw_S q1410 q1411 q73 q1412) 2 rfl (by decide +kernel) ⟨Nat.le_of_ble_eq_true rfl, Nat.le_of_ble_eq_true rfl⟩ hl.1 rfl (Nat.le_of_ble_eq_true rfl) ⟨Nat.le_refl _, Nat.le_refl _⟩ dX7_odds_9 ?_
    refine tb_eq (tgt := 35) hx hb dX7_odds_12 (by decide) (fun c12 => ?_) (fun c12 => ?_)
    · skip
      refine lv_ldc2 (v := (-9223372036854775808)) hx hb hown (hts _ q1426) dX7_odds_35 ?_
      exact hret xf _ _ _ _ _ _ _ dX7_odds_38 (by rw [ti_Sodds, if_pos (by rw [c12]; simp)]; rfl) (hxf) hP hS (Nat.le_refl _) (Nat.le_refl _)
    · skip
      have hfq : ti_bf num = true ∧ ti_bf den = true := by simpa using c12
      obtain ⟨n9, hn91, hn9, rfl⟩ := ti_bf_nat hfq.1
      obtain ⟨d9, hd91, hd9, rfl⟩ := ti_bf_nat hfq.2
      have hcn : ti_cl (nI n9) = n9 := ti_cl_nI (by omega)
      have hcd : ti_cl (nI d9) = d9 := ti_cl_nI (by omega)
      refine lv_iload hx hb dX7_odds_15 (lv_at hl 4 rfl) ?_
      refine lv_i2l (v := Int32.toInt64 pt) hx hb dX7_odds_17 rfl ?_
      refine lv_lconst (v := lN 0) hx hb dX7_odds_18 (by decide) ?_
      refine lv_lconst (v := lN 1) hx hb dX7_odds_19 (by decide) ?_
      refine ti_pS (As := [.long (Int32.toInt64 pt), .long (lN 0), .long (lN 1)]) (rest := []) (v := .int (ti_b (ti_inL (Int32.toInt64 pt) (lN 0) (lN 1)))) S hE hP [] (met_X7_isFrom l D E (Int32.toInt64 pt) (lN 0) (lN 1)) rfl (lw_S q1234 q1235 q73 q1236) 3 rfl (by decide +kernel) ⟨Nat.le_of_ble_eq_true rfl, Nat.le_of_ble_eq_true rfl⟩ hl.1 rfl (Nat.le_of_ble_eq_true rfl) ⟨Nat.le_refl _, Nat.le_refl _⟩ dX7_odds_20 ?_
      refine tb_eq (tgt := 35) hx hb dX7_odds_23 (by decide) (fun c23 => ?_) (fun c23 => ?_)
      · skip
        have c23 : ti_bt pt = false := by rw [← c23]; exact (ti_inL_i (by decide) (by decide)).symm
        refine lv_ldc2 (v := (-9223372036854775808)) hx hb hown (hts _ q1426) dX7_odds_35 ?_
        exact hret xf _ _ _ _ _ _ _ dX7_odds_38 (by rw [ti_Sodds, if_pos (by rw [c23]; simp)]; rfl) (hxf) hP hS (Nat.le_refl _) (Nat.le_refl _)
      · skip
        have c23 : ti_bt pt = true := by rw [← c23]; exact (ti_inL_i (by decide) (by decide)).symm
        obtain ⟨p8, hp8, rfl⟩ := ti_bt_nat c23
        have hbb : ¬ (ti_bt (nI i) && ((ti_bf (nI n9) && ti_bf (nI d9)) && ti_bt (nI p8))) = false := by rw [c4, hfq.1, hfq.2, c23]; decide
        refine lv_aload_n hx hb dX7_odds_26 rfl (lv_at hl 0 rfl) ?_
        refine va_get (v := .ref (ad 1)) hx hb hts in_X7 hown hK hP 0 rfl rfl 0 (by decide) (hts _ q1088) (fun _ h => h) rfl dX7_odds_27 ?_
        refine lv_iload_n hx hb dX7_odds_30 rfl (lv_at hl 1 rfl) ?_
        refine tn_iald (f := xg.1) hx hb hK hP 1 0 rfl rfl (by omega) (by decide) dX7_odds_31 ?_
        have b31 := hxg.1 i
        refine tn_if_ne (tgt := 39) hx hb dX7_odds_32 (by decide) (by omega) (fun c32 => ?_) (fun c32 => ?_)
        · skip
          refine lv_bipush (v := nI 100) hx hb dX7_odds_39 (by decide) ?_
          refine lv_aload_n hx hb dX7_odds_41 rfl (lv_at hl 0 rfl) ?_
          refine lv_iload_n hx hb dX7_odds_42 rfl (lv_at hl 1 rfl) ?_
          refine lv_iload_n hx hb dX7_odds_43 rfl (lv_at hl 2 rfl) ?_
          refine lv_iload_n hx hb dX7_odds_44 rfl (lv_at hl 3 rfl) ?_
          refine ti_mVa (As := [.int (nI i), .int (nI n9), .int (nI d9)]) (rest := [.int (nI 100)]) S hE hP hD hS hA (met_X7_lacking l D E ad xg xd xt xf xj xh xs xv xb xq xk hxg i (by omega) (hNi i hi2 (by omega)) hxf n9 d9 hn9 hd9) (fun _ => rfl) (lw_V q1435 q1437 qs51 q73 q1438) 3 rfl 0 rfl rfl (by decide +kernel) ⟨Nat.le_of_ble_eq_true rfl, Nat.le_of_ble_eq_true rfl⟩ hl.1 rfl (Nat.le_of_ble_eq_true rfl) ⟨Nat.le_refl _, Nat.le_refl _⟩ dX7_odds_45 (fun u1 H locs hu hP hD hS => ?_)
          obtain ⟨hF1, hF2⟩ := hu
          have hF3 : ti_F u1 = ti_FF (I i) := by rw [hF1, ← hg]; rfl
          have hlk := ti_lk_le (ti_F u1) n9 d9 (List.range' 0 100) 0
          rw [List.length_range', Nat.zero_add] at hlk
          have hP : va_P D vwCl (ti_wM E ad xg xd xt u1 xj xh xs xv xb xq xk) H := hP
          have hD : va_D A (ti_wM E ad xg xd xt u1 xj xh xs xv xb xq xk) := hD
          refine W.eq (g2 := F0 m 48 ls [.int (nI (ti_lk (ti_F u1) n9 d9 (List.range' 0 100) 0)), .int (nI 100)]) rfl ?_
          refine tn_sub hx hb dX7_odds_48 (by omega) ?_
          refine lv_i2l (v := lN (100 - (ti_lk (ti_F u1) n9 d9 (List.range' 0 100) 0))) hx hb dX7_odds_49 (nI_l (by omega)) ?_
          refine lv_ldc2 (v := lN 100) hx hb hown (hts _ q1502) dX7_odds_50 ?_
          refine lv_iload hx hb dX7_odds_53 (lv_at hl 4 rfl) ?_
          refine ti_pS (As := [.long (lN (100 - (ti_lk (ti_F u1) n9 d9 (List.range' 0 100) 0))), .long (lN 100), .int (nI p8)]) (rest := []) (v := .long (lN ((if nI p8 = 0 then 100 - ti_lk (ti_F u1) n9 d9 (List.range' 0 100) 0 else 100) / Nat.gcd (100 - ti_lk (ti_F u1) n9 d9 (List.range' 0 100) 0) 100))) S hE hP [] (met_X7_part l D E (100 - ti_lk (ti_F u1) n9 d9 (List.range' 0 100) 0) 100 (by omega) (by omega) (by decide) (nI p8)) rfl (lw_S q1391 q1392 q73 q1393) 3 rfl (by decide +kernel) ⟨Nat.le_of_ble_eq_true rfl, Nat.le_of_ble_eq_true rfl⟩ hl.1 rfl (Nat.le_of_ble_eq_true rfl) ⟨Nat.le_refl _, Nat.le_refl _⟩ dX7_odds_55 ?_
          exact hret u1 _ _ _ _ _ _ _ dX7_odds_58 (by rw [ti_Sodds, if_neg hbb, hci, hcn, hcd, if_neg (show ¬ (I i).length = 0 from by rw [hlen]; exact c32), ← hF3]; by_cases hp : nI p8 = 0 <;> first | (rw [if_pos hp, if_pos hp]; rfl) | (rw [if_neg hp, if_neg hp]; rfl)) (hF2) hP hS (Nat.le_refl _) (Nat.le_refl _)
        · skip
          refine lv_ldc2 (v := (-9223372036854775808)) hx hb hown (hts _ q1426) dX7_odds_35 ?_
          exact hret xf _ _ _ _ _ _ _ dX7_odds_38 (by rw [ti_Sodds, if_neg hbb, hci, if_pos (show (I i).length = 0 from by rw [hlen]; exact c32)]; rfl) (hxf) hP hS (Nat.le_refl _) (Nat.le_refl _)

set_option maxHeartbeats 1000000 in
theorem met_X7_mean (l : Launch) (D : va_G) (E : Nat → ClassId) (ad : Nat → Nat) (xg : ti_Mg) (xd : ti_Md) (xt : ti_Mt) (xf : ti_Mf) (xj : ti_Mj) (xh : ti_Mh) (xs : ti_Ms) (xv : ti_Mv) (xb : ti_Mb) (xq : ti_Mq) (xk : ti_Mk) (hxg : ti_Mgok xg) (I : Nat → ti_GL) (hI : ti_MI xg I) (v pt : Int32) : ti_MetP l D E yX7_mean cX7_mean 5 (some .long) 2 (ti_wM E ad xg xd xt xf xj xh xs xv xb xq xk) [.ref (ad 0), .int v, .int pt] (some (.long (ti_Smean I v pt))) := by
  refine ti_pureJ (by decide) (Nat.le_of_ble_eq_true rfl) ?_
  intro p e s m below meth c H locs Q ls S hE hP hl hret
  have hx := S.1
  have hb := S.2.1
  have hown := S.2.2.2.1
  have hts := S.2.2.2.2
  have hK := hE.1
  have hl : lv_has ls 5 [(0, .ref (ad 0)), (1, .int v), (2, .int pt)] := hl
  refine lv_iload_n hx hb dX7_mean_0 rfl (lv_at hl 1 rfl) ?_
  refine ti_pS (As := [.int v]) (rest := []) (v := .int (ti_b (ti_bt v))) S hE hP [] (met_X7_isIdeal l D E v) rfl (lw_S q1231 q1232 q73 q1233) 1 rfl (by decide +kernel) ⟨Nat.le_of_ble_eq_true rfl, Nat.le_of_ble_eq_true rfl⟩ hl.1 rfl (Nat.le_of_ble_eq_true rfl) ⟨Nat.le_refl _, Nat.le_refl _⟩ dX7_mean_1 ?_
  refine tb_eq (tgt := 26) hx hb dX7_mean_4 (by decide) (fun c4 => ?_) (fun c4 => ?_)
  · skip
    refine lv_ldc2 (v := (-9223372036854775808)) hx hb hown (hts _ q1426) dX7_mean_26 ?_
    exact hret _ _ _ dX7_mean_29 (by rw [ti_Smean, if_pos (by rw [c4]; simp)]; rfl)
  · skip
    obtain ⟨i, hi2, rfl⟩ := ti_bt_nat c4
    have hci : ti_cl (nI i) = i := ti_cl_nI (by omega)
    have hg := hI i hi2
    have hlen := ti_MI_len hI hi2
    have h6 := hxg.1 i
    refine lv_iload_n hx hb dX7_mean_7 rfl (lv_at hl 2 rfl) ?_
    refine lv_i2l (v := Int32.toInt64 pt) hx hb dX7_mean_8 rfl ?_
    refine lv_lconst (v := lN 0) hx hb dX7_mean_9 (by decide) ?_
    refine lv_lconst (v := lN 1) hx hb dX7_mean_10 (by decide) ?_
    refine ti_pS (As := [.long (Int32.toInt64 pt), .long (lN 0), .long (lN 1)]) (rest := []) (v := .int (ti_b (ti_inL (Int32.toInt64 pt) (lN 0) (lN 1)))) S hE hP [] (met_X7_isFrom l D E (Int32.toInt64 pt) (lN 0) (lN 1)) rfl (lw_S q1234 q1235 q73 q1236) 3 rfl (by decide +kernel) ⟨Nat.le_of_ble_eq_true rfl, Nat.le_of_ble_eq_true rfl⟩ hl.1 rfl (Nat.le_of_ble_eq_true rfl) ⟨Nat.le_refl _, Nat.le_refl _⟩ dX7_mean_11 ?_
    refine tb_eq (tgt := 26) hx hb dX7_mean_14 (by decide) (fun c14 => ?_) (fun c14 => ?_)
    · skip
      have c14 : ti_bt pt = false := by rw [← c14]; exact (ti_inL_i (by decide) (by decide)).symm
      refine lv_ldc2 (v := (-9223372036854775808)) hx hb hown (hts _ q1426) dX7_mean_26 ?_
      exact hret _ _ _ dX7_mean_29 (by rw [ti_Smean, if_pos (by rw [c14]; simp)]; rfl)
    · skip
      have c14 : ti_bt pt = true := by rw [← c14]; exact (ti_inL_i (by decide) (by decide)).symm
      obtain ⟨p8, hp8, rfl⟩ := ti_bt_nat c14
      have hbb : ¬ (ti_bt (nI i) && ti_bt (nI p8)) = false := by rw [c4, c14]; decide
      refine lv_aload_n hx hb dX7_mean_17 rfl (lv_at hl 0 rfl) ?_
      refine va_get (v := .ref (ad 1)) hx hb hts in_X7 hown hK hP 0 rfl rfl 0 (by decide) (hts _ q1088) (fun _ h => h) rfl dX7_mean_18 ?_
      refine lv_iload_n hx hb dX7_mean_21 rfl (lv_at hl 1 rfl) ?_
      refine tn_iald (f := xg.1) hx hb hK hP 1 0 rfl rfl (by omega) (by decide) dX7_mean_22 ?_
      have b22 := hxg.1 i
      refine tn_if_ne (tgt := 30) hx hb dX7_mean_23 (by decide) (by omega) (fun c23 => ?_) (fun c23 => ?_)
      · skip
        refine lv_iconst (v := nI 0) hx hb dX7_mean_30 (by decide) ?_
        refine lv_istore_n (lv' := [(3, .int (nI 0)), (0, .ref (ad 0)), (1, .int (nI i)), (2, .int (nI p8))]) hx hb dX7_mean_31 rfl hl (by decide) rfl (fun ls hl => ?_)
        refine lv_iconst (v := nI 0) hx hb dX7_mean_32 (by decide) ?_
        refine lv_istore (lv' := [(4, .int (nI 0)), (3, .int (nI 0)), (0, .ref (ad 0)), (1, .int (nI i)), (2, .int (nI p8))]) hx hb dX7_mean_33 hl (by decide) rfl (fun ls hl => ?_)
        have L35 : ∀ (N : Nat) (w9 k9 : Nat) (ls : Array Slot), (xg.1 i - k9) < N → (k9 ≤ xg.1 i) → (w9 ≤ 18 * k9) → (ti_pw (I i) 0 = ti_pw (ti_gr (ti_ma xg i) (ti_mb xg i) k9 (xg.1 i - k9)) w9) → lv_has ls 5 [(0, .ref (ad 0)), (1, .int (nI i)), (2, .int (nI p8)), (3, .int (nI w9)), (4, .int (nI k9))] → W p l e (ti_rm 2 0 0) s m ([.ref (ad 0), .int (nI i), .int (nI p8)] : List Value).toArray below meth c H locs 0 0 Q (F0 m 35 ls []) := by
          intro N
          induction N with
          | zero => intro w9 k9 ls h0; exact absurd h0 (Nat.not_lt_zero _)
          | succ N ih35 =>
            intro w9 k9 ls hN hkn hw hv hl
            refine lv_iload hx hb dX7_mean_35 (lv_at hl 4 rfl) ?_
            refine lv_aload_n hx hb dX7_mean_37 rfl (lv_at hl 0 rfl) ?_
            refine va_get (v := .ref (ad 1)) hx hb hts in_X7 hown hK hP 0 rfl rfl 0 (by decide) (hts _ q1088) (fun _ h => h) rfl dX7_mean_38 ?_
            refine lv_iload_n hx hb dX7_mean_41 rfl (lv_at hl 1 rfl) ?_
            refine tn_iald (f := xg.1) hx hb hK hP 1 0 rfl rfl (by omega) (by decide) dX7_mean_42 ?_
            have b42 := hxg.1 i
            refine tn_ge (tgt := 70) hx hb dX7_mean_43 (by decide) (by omega) (by omega) (fun c43 => ?_) (fun c43 => ?_)
            · skip
              rw [show xg.1 i - k9 = 0 by omega] at hv
              have hv : ti_pw (I i) 0 = w9 := hv
              refine lv_iload_n hx hb dX7_mean_70 rfl (lv_at hl 3 rfl) ?_
              refine lv_i2l (v := lN w9) hx hb dX7_mean_71 (nI_l (by omega)) ?_
              refine lv_aload_n hx hb dX7_mean_72 rfl (lv_at hl 0 rfl) ?_
              refine va_get (v := .ref (ad 1)) hx hb hts in_X7 hown hK hP 0 rfl rfl 0 (by decide) (hts _ q1088) (fun _ h => h) rfl dX7_mean_73 ?_
              refine lv_iload_n hx hb dX7_mean_76 rfl (lv_at hl 1 rfl) ?_
              refine tn_iald (f := xg.1) hx hb hK hP 1 0 rfl rfl (by omega) (by decide) dX7_mean_77 ?_
              have b77 := hxg.1 i
              refine lv_i2l (v := lN (xg.1 i)) hx hb dX7_mean_78 (nI_l (by omega)) ?_
              refine lv_iload_n hx hb dX7_mean_79 rfl (lv_at hl 2 rfl) ?_
              refine ti_pS (As := [.long (lN w9), .long (lN (xg.1 i)), .int (nI p8)]) (rest := []) (v := .long (lN ((if nI p8 = 0 then w9 else xg.1 i) / Nat.gcd w9 (xg.1 i)))) S hE hP [] (met_X7_part l D E w9 (xg.1 i) (by omega) (by omega) (by omega) (nI p8)) rfl (lw_S q1391 q1392 q73 q1393) 3 rfl (by decide +kernel) ⟨Nat.le_of_ble_eq_true rfl, Nat.le_of_ble_eq_true rfl⟩ hl.1 rfl (Nat.le_of_ble_eq_true rfl) ⟨Nat.le_refl _, Nat.le_refl _⟩ dX7_mean_80 ?_
              exact hret _ _ _ dX7_mean_83 (by rw [ti_Smean, if_neg hbb, hci, if_neg (show ¬ (I i).length = 0 from by rw [hlen]; exact c23), hlen, hv]; by_cases hp : nI p8 = 0 <;> first | (rw [if_pos hp, if_pos hp]; rfl) | (rw [if_neg hp, if_neg hp]; rfl))
            · skip
              obtain ⟨m9, hm9⟩ : ∃ m9, xg.1 i - k9 = m9 + 1 := ⟨xg.1 i - k9 - 1, by omega⟩
              rw [hm9, ti_gr_s] at hv
              refine lv_iload_n hx hb dX7_mean_46 rfl (lv_at hl 3 rfl) ?_
              refine lv_aload_n hx hb dX7_mean_47 rfl (lv_at hl 0 rfl) ?_
              refine lv_iload_n hx hb dX7_mean_48 rfl (lv_at hl 1 rfl) ?_
              refine lv_iload hx hb dX7_mean_49 (lv_at hl 4 rfl) ?_
              refine ti_pVa (As := [.int (nI i), .int (nI k9)]) (rest := [.int (nI w9)]) (v := .int (nI (ti_ma xg i k9))) S hE hP (met_X7_a l D E ad xg xd xt xf xj xh xs xv xb xq xk i k9 (by omega)) (lw_V q1245 q1247 qs26 q73 q1248) 2 rfl 0 rfl rfl (by decide +kernel) ⟨Nat.le_of_ble_eq_true rfl, Nat.le_of_ble_eq_true rfl⟩ hl.1 rfl (Nat.le_of_ble_eq_true rfl) ⟨Nat.le_refl _, Nat.le_refl _⟩ dX7_mean_51 ?_
              have ha51 : ti_ma xg i k9 ≤ 9 := hxg.2.1 _
              refine lv_aload_n hx hb dX7_mean_54 rfl (lv_at hl 0 rfl) ?_
              refine lv_iload_n hx hb dX7_mean_55 rfl (lv_at hl 1 rfl) ?_
              refine lv_iload hx hb dX7_mean_56 (lv_at hl 4 rfl) ?_
              refine ti_pVa (As := [.int (nI i), .int (nI k9)]) (rest := [.int (nI (ti_ma xg i k9)), .int (nI w9)]) (v := .int (nI (ti_mb xg i k9))) S hE hP (met_X7_b l D E ad xg xd xt xf xj xh xs xv xb xq xk i k9 (by omega)) (lw_V q1249 q1251 qs27 q73 q1252) 2 rfl 0 rfl rfl (by decide +kernel) ⟨Nat.le_of_ble_eq_true rfl, Nat.le_of_ble_eq_true rfl⟩ hl.1 rfl (Nat.le_of_ble_eq_true rfl) ⟨Nat.le_refl _, Nat.le_refl _⟩ dX7_mean_58 ?_
              have hb58 : ti_mb xg i k9 ≤ 9 := hxg.2.2 _
              refine tn_add hx hb dX7_mean_61 ?_
              have b61 : (ti_ma xg i k9) + (ti_mb xg i k9) ≤ 18 := Nat.add_le_add (hxg.2.1 _) (hxg.2.2 _)
              refine tn_add hx hb dX7_mean_62 ?_
              refine lv_istore_n (lv' := [(3, .int (nI (w9 + ((ti_ma xg i k9) + (ti_mb xg i k9))))), (0, .ref (ad 0)), (1, .int (nI i)), (2, .int (nI p8)), (4, .int (nI k9))]) hx hb dX7_mean_63 rfl hl (by decide) rfl (fun ls hl => ?_)
              refine lv_iinc (v := nI (k9 + 1)) (lv' := [(4, .int (nI (k9 + 1))), (3, .int (nI (w9 + ((ti_ma xg i k9) + (ti_mb xg i k9))))), (0, .ref (ad 0)), (1, .int (nI i)), (2, .int (nI p8))]) hx hb dX7_mean_64 hl (k := 4) rfl (nI_1 k9) (by decide) rfl (fun ls hl => ?_)
              refine lv_goto (tgt := 35) hx hb dX7_mean_67 (by decide) ?_
              exact ih35 (w9 + ((ti_ma xg i k9) + (ti_mb xg i k9))) (k9 + 1) _ (by omega) (by omega) (by omega) (by rw [hv]; show ti_pw _ (w9 + (ti_ma xg i k9 + ti_mb xg i k9)) = _; rw [show xg.1 i - (k9 + 1) = m9 by omega]) (lv_sub hl [2, 3, 4, 1, 0] rfl)
        exact L35 _ 0 0 _ (Nat.lt_succ_self _) (by omega) (by omega) (by rw [← hg]; rfl) (lv_sub hl [2, 3, 4, 1, 0] rfl)
      · skip
        refine lv_ldc2 (v := (-9223372036854775808)) hx hb hown (hts _ q1426) dX7_mean_26 ?_
        exact hret _ _ _ dX7_mean_29 (by rw [ti_Smean, if_neg hbb, hci, if_pos (show (I i).length = 0 from by rw [hlen]; exact c23)]; rfl)
