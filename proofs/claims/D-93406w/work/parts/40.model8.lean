/-! TermIdealsModel: public methods, third part (printed by w_model8.py) -/
set_option maxRecDepth 100000

set_option maxHeartbeats 1000000 in
theorem met_X7_asked (l : Launch) (D : va_G) (E : Nat → ClassId) (ad : Nat → Nat) (xg : ti_Mg) (xd : ti_Md) (xt : ti_Mt) (xf : ti_Mf) (xj : ti_Mj) (xh : ti_Mh) (xs : ti_Ms) (xv : ti_Mv) (xb : ti_Mb) (xq : ti_Mq) (xk : ti_Mk) (hxg : ti_Mgok xg) (i : Nat) (hi : i < 3) (hN : ti_r2 (ti_gr (ti_ma xg i) (ti_mb xg i) 0 (xg.1 i)) 1000 (List.range' 1 9) ≤ 6) (hxf : ti_Mfok xf) (hxj : ti_Mjok xj) (w : Nat) (hw : w ≤ 4) : ti_MetM (σ := ti_Mf × ti_Mj) l D E yX7_asked cX7_asked 3 (some .int) 5 0 0 (ti_wM E ad xg xd xt xf xj xh xs xv xb xq xk) [.ref (ad 0), .int (nI i), .int (nI w)] (fun u => ti_wM E ad xg xd xt u.1 u.2 xh xs xv xb xq xk) (fun u => some (.int ((fun _ => ti_Sask (ti_gr (ti_ma xg i) (ti_mb xg i) 0 (xg.1 i)) w) u))) (fun u => ti_Mfok u.1 ∧ ti_Mjok u.2) := by
  refine ti_mutI (σ := ti_Mf × ti_Mj) (vi := fun _ => ti_Sask (ti_gr (ti_ma xg i) (ti_mb xg i) 0 (xg.1 i)) w) (by decide) (Nat.le_of_ble_eq_true rfl) ?_
  intro p e s m below meth c H H0 A Q ls S hE hP hD hS hA hinit hl hret
  have hx := S.1
  have hb := S.2.1
  have hown := S.2.2.2.1
  have hts := S.2.2.2.2
  have hK := hE.1
  have hl : lv_has ls 3 [(0, .ref (ad 0)), (1, .int (nI i)), (2, .int (nI w))] := hl
  refine lv_iload_n hx hb dX7_asked_0 rfl (lv_at hl 2 rfl) ?_
  refine lv_iconst (v := nI 3) hx hb dX7_asked_1 (by decide) ?_
  refine tn_ne (tgt := 19) hx hb dX7_asked_2 (by decide) (by omega) (by omega) (fun c2 => ?_) (fun c2 => ?_)
  · skip
    refine lv_aload_n hx hb dX7_asked_19 rfl (lv_at hl 0 rfl) ?_
    refine lv_iload_n hx hb dX7_asked_20 rfl (lv_at hl 1 rfl) ?_
    refine ti_mVa (As := [.int (nI i)]) (rest := []) S hE hP hD hS hA (met_X7_tellsFaces l D E ad xg xd xt xf xj xh xs xv xb xq xk hxg i hi hN hxf) (fun _ => rfl) (lw_V q1285 q1287 qs32 q73 q1288) 1 rfl 0 rfl rfl (by decide +kernel) ⟨Nat.le_of_ble_eq_true rfl, Nat.le_of_ble_eq_true rfl⟩ hl.1 rfl (Nat.le_of_ble_eq_true rfl) ⟨Nat.le_refl _, Nat.le_refl _⟩ dX7_asked_21 (fun u1 H locs hu hP hD hS => ?_)
    obtain ⟨hF1, hF2⟩ := hu
    have hP : va_P D vwCl (ti_wM E ad xg xd xt u1 xj xh xs xv xb xq xk) H := hP
    have hD : va_D A (ti_wM E ad xg xd xt u1 xj xh xs xv xb xq xk) := hD
    refine W.eq (g2 := F0 m 24 ls []) rfl ?_
    refine lv_iload_n hx hb dX7_asked_24 rfl (lv_at hl 2 rfl) ?_
    refine lv_iconst (v := nI 2) hx hb dX7_asked_25 (by decide) ?_
    refine tn_ne (tgt := 34) hx hb dX7_asked_26 (by decide) (by omega) (by omega) (fun c26 => ?_) (fun c26 => ?_)
    · skip
      refine lv_aload_n hx hb dX7_asked_34 rfl (lv_at hl 0 rfl) ?_
      refine ti_mVa (As := []) (rest := []) S hE hP hD hS hA (met_X7_tellsJumps l D E ad xg xd xt u1 xj xh xs xv xb xq xk hF2 hxj) (fun _ => rfl) (lw_V q1379 q1381 qs46 q73 q1382) 0 rfl 0 rfl rfl (by decide +kernel) ⟨Nat.le_of_ble_eq_true rfl, Nat.le_of_ble_eq_true rfl⟩ hl.1 rfl (Nat.le_of_ble_eq_true rfl) ⟨Nat.le_refl _, Nat.le_refl _⟩ dX7_asked_35 (fun u2 H locs hu hP hD hS => ?_)
      obtain ⟨hJ1, hJ2⟩ := hu
      have hP : va_P D vwCl (ti_wM E ad xg xd xt u1 u2 xh xs xv xb xq xk) H := hP
      have hD : va_D A (ti_wM E ad xg xd xt u1 u2 xh xs xv xb xq xk) := hD
      refine W.eq (g2 := F0 m 38 ls []) rfl ?_
      refine lv_aload_n hx hb dX7_asked_38 rfl (lv_at hl 0 rfl) ?_
      refine va_get (v := .int (nI u2.1)) hx hb hts in_X7 hown hK hP 0 rfl rfl 16 (by decide) (hts _ q1104) (fun _ h => h) rfl dX7_asked_39 ?_
      exact hret (u1, u2) _ _ _ _ _ _ _ dX7_asked_42 (by rw [ti_Sask, if_neg c2, if_neg c26]; unfold ti_FF; rw [← hF1, ← hJ1, ti_gr_len]) (⟨hF2, hJ2⟩) hP hS (Nat.le_refl _) (Nat.le_refl _)
    · skip
      refine lv_aload_n hx hb dX7_asked_29 rfl (lv_at hl 0 rfl) ?_
      refine va_get (v := .int (nI u1.1)) hx hb hts in_X7 hown hK hP 0 rfl rfl 12 (by decide) (hts _ q1100) (fun _ h => h) rfl dX7_asked_30 ?_
      exact hret (u1, xj) _ _ _ _ _ _ _ dX7_asked_33 (by rw [ti_Sask, if_neg c2, if_pos c26]; unfold ti_FF; rw [← hF1, ti_F_len]) (⟨hF2, hxj⟩) hP hS (Nat.le_refl _) (Nat.le_refl _)
  · skip
    refine lv_aload_n hx hb dX7_asked_5 rfl (lv_at hl 0 rfl) ?_
    refine lv_iload_n hx hb dX7_asked_6 rfl (lv_at hl 1 rfl) ?_
    refine ti_mVa (As := [.int (nI i)]) (rest := []) S hE hP hD hS hA (met_X7_isClosed l D E ad xg xd xt xf xj xh xs xv xb xq xk hxg i hi hN hxf) (fun _ => rfl) (lw_V q1371 q1373 qs44 q73 q1374) 1 rfl 0 rfl rfl (by decide +kernel) ⟨Nat.le_of_ble_eq_true rfl, Nat.le_of_ble_eq_true rfl⟩ hl.1 rfl (Nat.le_of_ble_eq_true rfl) ⟨Nat.le_refl _, Nat.le_refl _⟩ dX7_asked_7 (fun u1 H locs hu hP hD hS => ?_)
    obtain ⟨hF1, hF2⟩ := hu
    have hP : va_P D vwCl (ti_wM E ad xg xd xt u1 xj xh xs xv xb xq xk) H := hP
    have hD : va_D A (ti_wM E ad xg xd xt u1 xj xh xs xv xb xq xk) := hD
    refine W.eq (g2 := F0 m 10 ls [.int (ti_b (ti_clm (ti_F u1) (ti_gr (ti_ma xg i) (ti_mb xg i) 0 (xg.1 i)) (List.range' 0 100)))]) rfl ?_
    refine tb_eq (tgt := 17) hx hb dX7_asked_10 (by decide) (fun c10 => ?_) (fun c10 => ?_)
    · skip
      refine lv_iconst (v := nI 0) hx hb dX7_asked_17 (by decide) ?_
      exact hret (u1, xj) _ _ _ _ _ _ _ dX7_asked_18 (by rw [ti_Sask, if_pos c2]; unfold ti_FF; rw [← hF1, c10]; rfl) (⟨hF2, hxj⟩) hP hS (Nat.le_refl _) (Nat.le_refl _)
    · skip
      refine lv_iconst (v := nI 1) hx hb dX7_asked_13 (by decide) ?_
      refine lv_goto (tgt := 18) hx hb dX7_asked_14 (by decide) ?_
      exact hret (u1, xj) _ _ _ _ _ _ _ dX7_asked_18 (by rw [ti_Sask, if_pos c2]; unfold ti_FF; rw [← hF1, c10]; rfl) (⟨hF2, hxj⟩) hP hS (Nat.le_refl _) (Nat.le_refl _)

set_option maxHeartbeats 1000000 in
theorem met_X7_of (l : Launch) (D : va_G) (E : Nat → ClassId) (ad : Nat → Nat) (xg : ti_Mg) (xd : ti_Md) (xt : ti_Mt) (xf : ti_Mf) (xj : ti_Mj) (xh : ti_Mh) (xs : ti_Ms) (xv : ti_Mv) (xb : ti_Mb) (xq : ti_Mq) (xk : ti_Mk) (hxg : ti_Mgok xg) (I : Nat → ti_GL) (hI : ti_MI xg I) (v k w : Int32) : ti_MetP l D E yX7_of cX7_of 4 (some .int) 3 (ti_wM E ad xg xd xt xf xj xh xs xv xb xq xk) [.ref (ad 0), .int v, .int k, .int w] (some (.int (ti_Sof I v k w))) := by
  refine ti_pureI (by decide) (Nat.le_of_ble_eq_true rfl) ?_
  intro p e s m below meth c H locs Q ls S hE hP hl hret
  have hx := S.1
  have hb := S.2.1
  have hown := S.2.2.2.1
  have hts := S.2.2.2.2
  have hK := hE.1
  have hl : lv_has ls 4 [(0, .ref (ad 0)), (1, .int v), (2, .int k), (3, .int w)] := hl
  refine lv_aload_n hx hb dX7_of_0 rfl (lv_at hl 0 rfl) ?_
  refine lv_iload_n hx hb dX7_of_1 rfl (lv_at hl 1 rfl) ?_
  refine lv_iload_n hx hb dX7_of_2 rfl (lv_at hl 2 rfl) ?_
  refine ti_pVa (As := [.int v, .int k]) (rest := []) (v := .int (ti_b (ti_bt v && ti_lt k (xg.1 (ti_cl v))))) S hE hP (met_X7_isGenerator l D E ad xg xd xt xf xj xh xs xv xb xq xk hxg v k) (lw_V q1265 q1267 qs30 q73 q1268) 2 rfl 0 rfl rfl (by decide +kernel) ⟨Nat.le_of_ble_eq_true rfl, Nat.le_of_ble_eq_true rfl⟩ hl.1 rfl (Nat.le_of_ble_eq_true rfl) ⟨Nat.le_refl _, Nat.le_refl _⟩ dX7_of_3 ?_
  refine tb_eq (tgt := 21) hx hb dX7_of_6 (by decide) (fun c6 => ?_) (fun c6 => ?_)
  · skip
    have hq : (ti_bt v && ti_lt k (I (ti_cl v)).length) = false := by
      cases hv : ti_bt v with
      | false => rfl
      | true =>
        obtain ⟨i, hi2, rfl⟩ := ti_bt_nat hv
        have hci : ti_cl (nI i) = i := ti_cl_nI (by omega)
        rw [hv, hci] at c6
        rw [hci, ti_MI_len hI hi2]
        exact c6
    refine lv_iconst (v := (-1)) hx hb dX7_of_21 (by decide) ?_
    exact hret _ _ _ dX7_of_22 (by rw [ti_Sof, if_pos hq])
  · skip
    have hq : ti_bt v = true ∧ ti_lt k (xg.1 (ti_cl v)) = true := by simpa using c6
    obtain ⟨i, hi2, rfl⟩ := ti_bt_nat hq.1
    have hci : ti_cl (nI i) = i := ti_cl_nI (by omega)
    rw [hci] at hq
    obtain ⟨k9, hk9, rfl⟩ := ti_lt_nat hq.2
    have h6 := hxg.1 i
    have hck : ti_cl (nI k9) = k9 := ti_cl_nI (by omega)
    have hg := hI i hi2
    have hlen := ti_MI_len hI hi2
    have hq2 : (ti_bt (nI i) && ti_lt (nI k9) (I i).length) = true := by rw [hlen, hq.1, hq.2]; rfl
    have hgd : (I i).getD k9 (0, 0) = (ti_ma xg i k9, ti_mb xg i k9) := by rw [← hg]; exact ti_gr_getD hk9
    refine lv_iload_n hx hb dX7_of_9 rfl (lv_at hl 3 rfl) ?_
    refine lv_i2l (v := Int32.toInt64 w) hx hb dX7_of_10 rfl ?_
    refine lv_lconst (v := lN 0) hx hb dX7_of_11 (by decide) ?_
    refine lv_ldc2 (v := lN 2) hx hb hown (hts _ q1353) dX7_of_12 ?_
    refine ti_pS (As := [.long (Int32.toInt64 w), .long (lN 0), .long (lN 2)]) (rest := []) (v := .int (ti_b (ti_inL (Int32.toInt64 w) (lN 0) (lN 2)))) S hE hP [] (met_X7_isFrom l D E (Int32.toInt64 w) (lN 0) (lN 2)) rfl (lw_S q1234 q1235 q73 q1236) 3 rfl (by decide +kernel) ⟨Nat.le_of_ble_eq_true rfl, Nat.le_of_ble_eq_true rfl⟩ hl.1 rfl (Nat.le_of_ble_eq_true rfl) ⟨Nat.le_refl _, Nat.le_refl _⟩ dX7_of_15 ?_
    refine tb_ne (tgt := 23) hx hb dX7_of_18 (by decide) (fun c18 => ?_) (fun c18 => ?_)
    · skip
      rw [ti_inL_i (by decide) (by decide)] at c18
      obtain ⟨w9, hw9lo, hw9hi, rfl⟩ := ti_in_nat (by decide) (by decide) c18
      have hcw9 : ti_cl (nI w9) = w9 := ti_cl_nI (by omega)
      refine lv_iload_n hx hb dX7_of_23 rfl (lv_at hl 3 rfl) ?_
      refine tn_if_ne (tgt := 36) hx hb dX7_of_24 (by decide) (by omega) (fun c24 => ?_) (fun c24 => ?_)
      · skip
        refine lv_iload_n hx hb dX7_of_36 rfl (lv_at hl 3 rfl) ?_
        refine lv_iconst (v := nI 1) hx hb dX7_of_37 (by decide) ?_
        refine tn_ne (tgt := 50) hx hb dX7_of_38 (by decide) (by omega) (by omega) (fun c38 => ?_) (fun c38 => ?_)
        · skip
          refine lv_aload_n hx hb dX7_of_50 rfl (lv_at hl 0 rfl) ?_
          refine lv_iload_n hx hb dX7_of_51 rfl (lv_at hl 1 rfl) ?_
          refine lv_iload_n hx hb dX7_of_52 rfl (lv_at hl 2 rfl) ?_
          refine ti_pVa (As := [.int (nI i), .int (nI k9)]) (rest := []) (v := .int (ti_b (!ti_hb (ti_ma xg i k9) (ti_mb xg i k9) (nI k9) (ti_G xg i) 0))) S hE hP (met_X7_isLeast l D E ad xg xd xt xf xj xh xs xv xb xq xk hxg i (by omega) k9 hk9) (lw_V q1354 q1356 qs41 q73 q1357) 2 rfl 0 rfl rfl (by decide +kernel) ⟨Nat.le_of_ble_eq_true rfl, Nat.le_of_ble_eq_true rfl⟩ hl.1 rfl (Nat.le_of_ble_eq_true rfl) ⟨Nat.le_refl _, Nat.le_refl _⟩ dX7_of_53 ?_
          refine tb_eq (tgt := 63) hx hb dX7_of_56 (by decide) (fun c56 => ?_) (fun c56 => ?_)
          · skip
            refine lv_iconst (v := nI 0) hx hb dX7_of_63 (by decide) ?_
            exact hret _ _ _ dX7_of_64 (by rw [ti_Sof, hci, if_neg (by rw [hq2]; decide), hck, hgd, if_neg (fun z => c24 ((ti_nI_0 (show w9 < 2 ^ 31 by omega)).mp z)), if_neg (fun z => c38 ((ti_nI_1 (show w9 < 2 ^ 31 by omega)).mp z)), if_pos ((ti_nI_2 (show w9 < 2 ^ 31 by omega)).mpr (by omega)), ← hg]; rw [c56]; rfl)
          · skip
            refine lv_iconst (v := nI 1) hx hb dX7_of_59 (by decide) ?_
            refine lv_goto (tgt := 64) hx hb dX7_of_60 (by decide) ?_
            exact hret _ _ _ dX7_of_64 (by rw [ti_Sof, hci, if_neg (by rw [hq2]; decide), hck, hgd, if_neg (fun z => c24 ((ti_nI_0 (show w9 < 2 ^ 31 by omega)).mp z)), if_neg (fun z => c38 ((ti_nI_1 (show w9 < 2 ^ 31 by omega)).mp z)), if_pos ((ti_nI_2 (show w9 < 2 ^ 31 by omega)).mpr (by omega)), ← hg]; rw [c56]; rfl)
        · skip
          refine lv_aload_n hx hb dX7_of_41 rfl (lv_at hl 0 rfl) ?_
          refine lv_iload_n hx hb dX7_of_42 rfl (lv_at hl 1 rfl) ?_
          refine lv_iload_n hx hb dX7_of_43 rfl (lv_at hl 2 rfl) ?_
          refine ti_pVa (As := [.int (nI i), .int (nI k9)]) (rest := []) (v := .int (nI (ti_mb xg i k9))) S hE hP (met_X7_b l D E ad xg xd xt xf xj xh xs xv xb xq xk i k9 (by omega)) (lw_V q1249 q1251 qs27 q73 q1252) 2 rfl 0 rfl rfl (by decide +kernel) ⟨Nat.le_of_ble_eq_true rfl, Nat.le_of_ble_eq_true rfl⟩ hl.1 rfl (Nat.le_of_ble_eq_true rfl) ⟨Nat.le_refl _, Nat.le_refl _⟩ dX7_of_44 ?_
          have hb44 : ti_mb xg i k9 ≤ 9 := hxg.2.2 _
          refine lv_goto (tgt := 64) hx hb dX7_of_47 (by decide) ?_
          exact hret _ _ _ dX7_of_64 (by rw [ti_Sof, hci, if_neg (by rw [hq2]; decide), hck, hgd, if_neg (fun z => c24 ((ti_nI_0 (show w9 < 2 ^ 31 by omega)).mp z)), if_pos ((ti_nI_1 (show w9 < 2 ^ 31 by omega)).mpr c38)])
      · skip
        refine lv_aload_n hx hb dX7_of_27 rfl (lv_at hl 0 rfl) ?_
        refine lv_iload_n hx hb dX7_of_28 rfl (lv_at hl 1 rfl) ?_
        refine lv_iload_n hx hb dX7_of_29 rfl (lv_at hl 2 rfl) ?_
        refine ti_pVa (As := [.int (nI i), .int (nI k9)]) (rest := []) (v := .int (nI (ti_ma xg i k9))) S hE hP (met_X7_a l D E ad xg xd xt xf xj xh xs xv xb xq xk i k9 (by omega)) (lw_V q1245 q1247 qs26 q73 q1248) 2 rfl 0 rfl rfl (by decide +kernel) ⟨Nat.le_of_ble_eq_true rfl, Nat.le_of_ble_eq_true rfl⟩ hl.1 rfl (Nat.le_of_ble_eq_true rfl) ⟨Nat.le_refl _, Nat.le_refl _⟩ dX7_of_30 ?_
        have ha30 : ti_ma xg i k9 ≤ 9 := hxg.2.1 _
        refine lv_goto (tgt := 64) hx hb dX7_of_33 (by decide) ?_
        exact hret _ _ _ dX7_of_64 (by rw [ti_Sof, hci, if_neg (by rw [hq2]; decide), hck, hgd, if_pos ((ti_nI_0 (show w9 < 2 ^ 31 by omega)).mpr c24)])
    · skip
      rw [ti_inL_i (by decide) (by decide)] at c18
      have hw012 : ¬ w = 0 ∧ ¬ w = 1 ∧ ¬ w = 2 := ⟨fun z => by rw [z] at c18; exact absurd c18 (by decide), fun z => by rw [z] at c18; exact absurd c18 (by decide), fun z => by rw [z] at c18; exact absurd c18 (by decide)⟩
      refine lv_iconst (v := (-1)) hx hb dX7_of_21 (by decide) ?_
      exact hret _ _ _ dX7_of_22 (by rw [ti_Sof, hci, if_neg (by rw [hq2]; decide), hck, hgd, if_neg hw012.1, if_neg hw012.2.1, if_neg hw012.2.2])

set_option maxHeartbeats 1000000 in
theorem met_X7_told (l : Launch) (D : va_G) (E : Nat → ClassId) (ad : Nat → Nat) (xg : ti_Mg) (xd : ti_Md) (xt : ti_Mt) (xf : ti_Mf) (xj : ti_Mj) (xh : ti_Mh) (xs : ti_Ms) (xv : ti_Mv) (xb : ti_Mb) (xq : ti_Mq) (xk : ti_Mk) (hxg : ti_Mgok xg) (I : Nat → ti_GL) (hI : ti_MI xg I) (hxf : ti_Mfok xf) (hxj : ti_Mjok xj) (hNi : ∀ i, i < 2 → 0 < xg.1 i → ti_r2 (ti_G xg i) 1000 (List.range' 1 9) ≤ 6) (v w : Int32) : ti_MetM (σ := ti_Mf × ti_Mj) l D E yX7_told cX7_told 3 (some .int) 6 0 0 (ti_wM E ad xg xd xt xf xj xh xs xv xb xq xk) [.ref (ad 0), .int v, .int w] (fun u => ti_wM E ad xg xd xt u.1 u.2 xh xs xv xb xq xk) (fun u => some (.int ((fun _ => ti_Stold I v w) u))) (fun u => ti_Mfok u.1 ∧ ti_Mjok u.2) := by
  refine ti_mutI (σ := ti_Mf × ti_Mj) (vi := fun _ => ti_Stold I v w) (by decide) (Nat.le_of_ble_eq_true rfl) ?_
  intro p e s m below meth c H H0 A Q ls S hE hP hD hS hA hinit hl hret
  have hx := S.1
  have hb := S.2.1
  have hown := S.2.2.2.1
  have hts := S.2.2.2.2
  have hK := hE.1
  have hl : lv_has ls 3 [(0, .ref (ad 0)), (1, .int v), (2, .int w)] := hl
  refine lv_iload_n hx hb dX7_told_0 rfl (lv_at hl 1 rfl) ?_
  refine ti_pS (As := [.int v]) (rest := []) (v := .int (ti_b (ti_bt v))) S hE hP [] (met_X7_isIdeal l D E v) rfl (lw_S q1231 q1232 q73 q1233) 1 rfl (by decide +kernel) ⟨Nat.le_of_ble_eq_true rfl, Nat.le_of_ble_eq_true rfl⟩ hl.1 rfl (Nat.le_of_ble_eq_true rfl) ⟨Nat.le_refl _, Nat.le_refl _⟩ dX7_told_1 ?_
  refine tb_eq (tgt := 19) hx hb dX7_told_4 (by decide) (fun c4 => ?_) (fun c4 => ?_)
  · skip
    refine lv_iconst (v := (-1)) hx hb dX7_told_19 (by decide) ?_
    exact hret (xf, xj) _ _ _ _ _ _ _ dX7_told_20 (by rw [ti_Stold, if_pos (by rw [c4]; rfl)]) (⟨hxf, hxj⟩) hP hS (Nat.le_refl _) (Nat.le_refl _)
  · skip
    obtain ⟨i, hi2, rfl⟩ := ti_bt_nat c4
    have hci : ti_cl (nI i) = i := ti_cl_nI (by omega)
    have hg := hI i hi2
    have hlen := ti_MI_len hI hi2
    have h6 := hxg.1 i
    refine lv_iload_n hx hb dX7_told_7 rfl (lv_at hl 2 rfl) ?_
    refine lv_i2l (v := Int32.toInt64 w) hx hb dX7_told_8 rfl ?_
    refine lv_lconst (v := lN 0) hx hb dX7_told_9 (by decide) ?_
    refine lv_ldc2 (v := lN 4) hx hb hown (hts _ q1362) dX7_told_10 ?_
    refine ti_pS (As := [.long (Int32.toInt64 w), .long (lN 0), .long (lN 4)]) (rest := []) (v := .int (ti_b (ti_inL (Int32.toInt64 w) (lN 0) (lN 4)))) S hE hP [] (met_X7_isFrom l D E (Int32.toInt64 w) (lN 0) (lN 4)) rfl (lw_S q1234 q1235 q73 q1236) 3 rfl (by decide +kernel) ⟨Nat.le_of_ble_eq_true rfl, Nat.le_of_ble_eq_true rfl⟩ hl.1 rfl (Nat.le_of_ble_eq_true rfl) ⟨Nat.le_refl _, Nat.le_refl _⟩ dX7_told_13 ?_
    refine tb_ne (tgt := 21) hx hb dX7_told_16 (by decide) (fun c16 => ?_) (fun c16 => ?_)
    · skip
      rw [ti_inL_i (by decide) (by decide)] at c16
      obtain ⟨w9, hw9lo, hw9hi, rfl⟩ := ti_in_nat (by decide) (by decide) c16
      have hcw9 : ti_cl (nI w9) = w9 := ti_cl_nI (by omega)
      have hbb : ¬ (ti_bt (nI i) && ti_in (nI w9) (nI 0) (nI 4)) = false := by rw [c4, c16]; decide
      have hw0 := ti_nI_0 (show w9 < 2 ^ 31 by omega)
      have hw1 := ti_nI_1 (show w9 < 2 ^ 31 by omega)
      refine lv_iload_n hx hb dX7_told_21 rfl (lv_at hl 2 rfl) ?_
      refine lv_iconst (v := nI 2) hx hb dX7_told_22 (by decide) ?_
      refine tn_ge (tgt := 45) hx hb dX7_told_23 (by decide) (by omega) (by omega) (fun c23 => ?_) (fun c23 => ?_)
      · skip
        refine lv_aload_n hx hb dX7_told_45 rfl (lv_at hl 0 rfl) ?_
        refine va_get (v := .ref (ad 1)) hx hb hts in_X7 hown hK hP 0 rfl rfl 0 (by decide) (hts _ q1088) (fun _ h => h) rfl dX7_told_46 ?_
        refine lv_iload_n hx hb dX7_told_49 rfl (lv_at hl 1 rfl) ?_
        refine tn_iald (f := xg.1) hx hb hK hP 1 0 rfl rfl (by omega) (by decide) dX7_told_50 ?_
        have b50 := hxg.1 i
        refine tn_if_ne (tgt := 57) hx hb dX7_told_51 (by decide) (by omega) (fun c51 => ?_) (fun c51 => ?_)
        · skip
          refine lv_aload_n hx hb dX7_told_57 rfl (lv_at hl 0 rfl) ?_
          refine lv_iload_n hx hb dX7_told_58 rfl (lv_at hl 1 rfl) ?_
          refine lv_iload_n hx hb dX7_told_59 rfl (lv_at hl 2 rfl) ?_
          refine ti_mVa (As := [.int (nI i), .int (nI w9)]) (rest := []) S hE hP hD hS hA (met_X7_asked l D E ad xg xd xt xf xj xh xs xv xb xq xk hxg i (by omega) (hNi i hi2 (by omega)) hxf hxj w9 (by omega)) (fun _ => rfl) (lw_V q1367 q1369 qs43 q73 q1370) 2 rfl 0 rfl rfl (by decide +kernel) ⟨Nat.le_of_ble_eq_true rfl, Nat.le_of_ble_eq_true rfl⟩ hl.1 rfl (Nat.le_of_ble_eq_true rfl) ⟨Nat.le_refl _, Nat.le_refl _⟩ dX7_told_60 (fun u9 H locs hu hP hD hS => ?_)
          have hu9 := hu
          have hP : va_P D vwCl (ti_wM E ad xg xd xt u9.1 u9.2 xh xs xv xb xq xk) H := hP
          have hD : va_D A (ti_wM E ad xg xd xt u9.1 u9.2 xh xs xv xb xq xk) := hD
          refine W.eq (g2 := F0 m 63 ls [.int (ti_Sask (ti_G xg i) w9)]) rfl ?_
          exact hret u9 _ _ _ _ _ _ _ dX7_told_63 (by rw [ti_Stold, if_neg hbb, hci, if_neg (fun z => absurd (hw0.mp z) (by omega)), if_neg (fun z => absurd (hw1.mp z) (by omega)), if_neg (by rw [hlen]; exact c51), hcw9, hg]) (hu9) hP hS (Nat.le_refl _) (Nat.le_refl _)
        · skip
          refine lv_bipush (v := (-3)) hx hb dX7_told_54 (by decide) ?_
          exact hret (xf, xj) _ _ _ _ _ _ _ dX7_told_56 (by rw [ti_Stold, if_neg hbb, hci, if_neg (fun z => absurd (hw0.mp z) (by omega)), if_neg (fun z => absurd (hw1.mp z) (by omega)), if_pos (by rw [hlen]; exact c51)]) (⟨hxf, hxj⟩) hP hS (Nat.le_refl _) (Nat.le_refl _)
      · skip
        refine lv_iload_n hx hb dX7_told_26 rfl (lv_at hl 2 rfl) ?_
        refine tn_if_ne (tgt := 39) hx hb dX7_told_27 (by decide) (by omega) (fun c27 => ?_) (fun c27 => ?_)
        · skip
          refine lv_aload_n hx hb dX7_told_39 rfl (lv_at hl 0 rfl) ?_
          refine lv_iload_n hx hb dX7_told_40 rfl (lv_at hl 1 rfl) ?_
          refine ti_pVa (As := [.int (nI i)]) (rest := []) (v := .int (nI (ti_lst (ti_G xg i) (ti_G xg i) 0 0))) S hE hP (met_X7_leastMany l D E ad xg xd xt xf xj xh xs xv xb xq xk hxg i (by omega)) (lw_V q1363 q1365 qs42 q73 q1366) 1 rfl 0 rfl rfl (by decide +kernel) ⟨Nat.le_of_ble_eq_true rfl, Nat.le_of_ble_eq_true rfl⟩ hl.1 rfl (Nat.le_of_ble_eq_true rfl) ⟨Nat.le_refl _, Nat.le_refl _⟩ dX7_told_41 ?_
          exact hret (xf, xj) _ _ _ _ _ _ _ dX7_told_44 (by rw [ti_Stold, if_neg hbb, hci, if_neg (fun z => c27 (hw0.mp z)), if_pos (hw1.mpr (by omega)), hg]) (⟨hxf, hxj⟩) hP hS (Nat.le_refl _) (Nat.le_refl _)
        · skip
          refine lv_aload_n hx hb dX7_told_30 rfl (lv_at hl 0 rfl) ?_
          refine va_get (v := .ref (ad 1)) hx hb hts in_X7 hown hK hP 0 rfl rfl 0 (by decide) (hts _ q1088) (fun _ h => h) rfl dX7_told_31 ?_
          refine lv_iload_n hx hb dX7_told_34 rfl (lv_at hl 1 rfl) ?_
          refine tn_iald (f := xg.1) hx hb hK hP 1 0 rfl rfl (by omega) (by decide) dX7_told_35 ?_
          have b35 := hxg.1 i
          refine lv_goto (tgt := 44) hx hb dX7_told_36 (by decide) ?_
          exact hret (xf, xj) _ _ _ _ _ _ _ dX7_told_44 (by rw [ti_Stold, if_neg hbb, hci, if_pos (hw0.mpr c27), hlen]) (⟨hxf, hxj⟩) hP hS (Nat.le_refl _) (Nat.le_refl _)
    · skip
      rw [ti_inL_i (by decide) (by decide)] at c16
      refine lv_iconst (v := (-1)) hx hb dX7_told_19 (by decide) ?_
      exact hret (xf, xj) _ _ _ _ _ _ _ dX7_told_20 (by rw [ti_Stold, if_pos (by rw [c4, c16]; rfl)]) (⟨hxf, hxj⟩) hP hS (Nat.le_refl _) (Nat.le_refl _)

set_option maxHeartbeats 1000000 in
theorem met_X7_in (l : Launch) (D : va_G) (E : Nat → ClassId) (ad : Nat → Nat) (xg : ti_Mg) (xd : ti_Md) (xt : ti_Mt) (xf : ti_Mf) (xj : ti_Mj) (xh : ti_Mh) (xs : ti_Ms) (xv : ti_Mv) (xb : ti_Mb) (xq : ti_Mq) (xk : ti_Mk) (hxg : ti_Mgok xg) (I : Nat → ti_GL) (hI : ti_MI xg I) (hxf : ti_Mfok xf) (hNi : ∀ i, i < 2 → 0 < xg.1 i → ti_r2 (ti_G xg i) 1000 (List.range' 1 9) ≤ 6) (v a b w : Int32) : ti_MetM (σ := ti_Mf) l D E yX7_in cX7_in 5 (some .int) 4 0 0 (ti_wM E ad xg xd xt xf xj xh xs xv xb xq xk) [.ref (ad 0), .int v, .int a, .int b, .int w] (fun u => ti_wM E ad xg xd xt u xj xh xs xv xb xq xk) (fun u => some (.int ((fun _ => ti_Sin I v a b w) u))) (fun u => ti_Mfok u) := by
  refine ti_mutI (σ := ti_Mf) (vi := fun _ => ti_Sin I v a b w) (by decide) (Nat.le_of_ble_eq_true rfl) ?_
  intro p e s m below meth c H H0 A Q ls S hE hP hD hS hA hinit hl hret
  have hx := S.1
  have hb := S.2.1
  have hown := S.2.2.2.1
  have hts := S.2.2.2.2
  have hK := hE.1
  have hl : lv_has ls 5 [(0, .ref (ad 0)), (1, .int v), (2, .int a), (3, .int b), (4, .int w)] := hl
  refine lv_iload_n hx hb dX7_in_0 rfl (lv_at hl 1 rfl) ?_
  refine ti_pS (As := [.int v]) (rest := []) (v := .int (ti_b (ti_bt v))) S hE hP [] (met_X7_isIdeal l D E v) rfl (lw_S q1231 q1232 q73 q1233) 1 rfl (by decide +kernel) ⟨Nat.le_of_ble_eq_true rfl, Nat.le_of_ble_eq_true rfl⟩ hl.1 rfl (Nat.le_of_ble_eq_true rfl) ⟨Nat.le_refl _, Nat.le_refl _⟩ dX7_in_1 ?_
  refine tb_eq (tgt := 18) hx hb dX7_in_4 (by decide) (fun c4 => ?_) (fun c4 => ?_)
  · skip
    refine lv_iconst (v := (-1)) hx hb dX7_in_18 (by decide) ?_
    exact hret xf _ _ _ _ _ _ _ dX7_in_19 (by rw [ti_Sin, if_pos (by rw [c4]; rfl)]) (hxf) hP hS (Nat.le_refl _) (Nat.le_refl _)
  · skip
    obtain ⟨i, hi2, rfl⟩ := ti_bt_nat c4
    have hci : ti_cl (nI i) = i := ti_cl_nI (by omega)
    have hg := hI i hi2
    have hlen := ti_MI_len hI hi2
    have h6 := hxg.1 i
    refine lv_iload hx hb dX7_in_7 (lv_at hl 4 rfl) ?_
    refine lv_i2l (v := Int32.toInt64 w) hx hb dX7_in_9 rfl ?_
    refine lv_lconst (v := lN 0) hx hb dX7_in_10 (by decide) ?_
    refine lv_lconst (v := lN 1) hx hb dX7_in_11 (by decide) ?_
    refine ti_pS (As := [.long (Int32.toInt64 w), .long (lN 0), .long (lN 1)]) (rest := []) (v := .int (ti_b (ti_inL (Int32.toInt64 w) (lN 0) (lN 1)))) S hE hP [] (met_X7_isFrom l D E (Int32.toInt64 w) (lN 0) (lN 1)) rfl (lw_S q1234 q1235 q73 q1236) 3 rfl (by decide +kernel) ⟨Nat.le_of_ble_eq_true rfl, Nat.le_of_ble_eq_true rfl⟩ hl.1 rfl (Nat.le_of_ble_eq_true rfl) ⟨Nat.le_refl _, Nat.le_refl _⟩ dX7_in_12 ?_
    refine tb_ne (tgt := 20) hx hb dX7_in_15 (by decide) (fun c15 => ?_) (fun c15 => ?_)
    · skip
      rw [ti_inL_i (by decide) (by decide)] at c15
      obtain ⟨w9, hw9lo, hw9hi, rfl⟩ := ti_in_nat (by decide) (by decide) c15
      have hcw9 : ti_cl (nI w9) = w9 := ti_cl_nI (by omega)
      have c15 : ti_bt (nI w9) = true := c15
      have hbb : ¬ (ti_bt (nI i) && ti_bt (nI w9)) = false := by rw [c4, c15]; decide
      have hw0 := ti_nI_0 (show w9 < 2 ^ 31 by omega)
      refine lv_iload_n hx hb dX7_in_20 rfl (lv_at hl 2 rfl) ?_
      refine ti_pS (As := [.int a]) (rest := []) (v := .int (ti_b (ti_b9 a))) S hE hP [] (met_X7_isPower l D E a) rfl (lw_S q1237 q1238 q73 q1239) 1 rfl (by decide +kernel) ⟨Nat.le_of_ble_eq_true rfl, Nat.le_of_ble_eq_true rfl⟩ hl.1 rfl (Nat.le_of_ble_eq_true rfl) ⟨Nat.le_refl _, Nat.le_refl _⟩ dX7_in_21 ?_
      refine tb_eq (tgt := 34) hx hb dX7_in_24 (by decide) (fun c24 => ?_) (fun c24 => ?_)
      · skip
        refine lv_bipush (v := (-2)) hx hb dX7_in_34 (by decide) ?_
        exact hret xf _ _ _ _ _ _ _ dX7_in_36 (by rw [ti_Sin, if_neg hbb, if_pos (by rw [c24]; rfl)]) (hxf) hP hS (Nat.le_refl _) (Nat.le_refl _)
      · skip
        obtain ⟨a9, ha9, rfl⟩ := ti_b9_nat c24
        have hca : ti_cl (nI a9) = a9 := ti_cl_nI (by omega)
        refine lv_iload_n hx hb dX7_in_27 rfl (lv_at hl 3 rfl) ?_
        refine ti_pS (As := [.int b]) (rest := []) (v := .int (ti_b (ti_b9 b))) S hE hP [] (met_X7_isPower l D E b) rfl (lw_S q1237 q1238 q73 q1239) 1 rfl (by decide +kernel) ⟨Nat.le_of_ble_eq_true rfl, Nat.le_of_ble_eq_true rfl⟩ hl.1 rfl (Nat.le_of_ble_eq_true rfl) ⟨Nat.le_refl _, Nat.le_refl _⟩ dX7_in_28 ?_
        refine tb_ne (tgt := 37) hx hb dX7_in_31 (by decide) (fun c31 => ?_) (fun c31 => ?_)
        · skip
          obtain ⟨b9, hb9, rfl⟩ := ti_b9_nat c31
          have hcb : ti_cl (nI b9) = b9 := ti_cl_nI (by omega)
          have hb2 : ¬ (ti_b9 (nI a9) && ti_b9 (nI b9)) = false := by rw [c24, c31]; decide
          refine lv_iload hx hb dX7_in_37 (lv_at hl 4 rfl) ?_
          refine tn_if_ne (tgt := 58) hx hb dX7_in_39 (by decide) (by omega) (fun c39 => ?_) (fun c39 => ?_)
          · skip
            refine lv_aload_n hx hb dX7_in_58 rfl (lv_at hl 0 rfl) ?_
            refine va_get (v := .ref (ad 1)) hx hb hts in_X7 hown hK hP 0 rfl rfl 0 (by decide) (hts _ q1088) (fun _ h => h) rfl dX7_in_59 ?_
            refine lv_iload_n hx hb dX7_in_62 rfl (lv_at hl 1 rfl) ?_
            refine tn_iald (f := xg.1) hx hb hK hP 1 0 rfl rfl (by omega) (by decide) dX7_in_63 ?_
            have b63 := hxg.1 i
            refine tn_if_ne (tgt := 70) hx hb dX7_in_64 (by decide) (by omega) (fun c64 => ?_) (fun c64 => ?_)
            · skip
              refine lv_aload_n hx hb dX7_in_70 rfl (lv_at hl 0 rfl) ?_
              refine lv_iload_n hx hb dX7_in_71 rfl (lv_at hl 1 rfl) ?_
              refine ti_mVa (As := [.int (nI i)]) (rest := []) S hE hP hD hS hA (met_X7_tellsFaces l D E ad xg xd xt xf xj xh xs xv xb xq xk hxg i (by omega) (hNi i hi2 (by omega)) hxf) (fun _ => rfl) (lw_V q1285 q1287 qs32 q73 q1288) 1 rfl 0 rfl rfl (by decide +kernel) ⟨Nat.le_of_ble_eq_true rfl, Nat.le_of_ble_eq_true rfl⟩ hl.1 rfl (Nat.le_of_ble_eq_true rfl) ⟨Nat.le_refl _, Nat.le_refl _⟩ dX7_in_72 (fun u1 H locs hu hP hD hS => ?_)
              obtain ⟨hF1, hF2⟩ := hu
              have hF3 : ti_F u1 = ti_FF (I i) := by rw [hF1, ← hg]; rfl
              have hP : va_P D vwCl (ti_wM E ad xg xd xt u1 xj xh xs xv xb xq xk) H := hP
              have hD : va_D A (ti_wM E ad xg xd xt u1 xj xh xs xv xb xq xk) := hD
              refine W.eq (g2 := F0 m 75 ls []) rfl ?_
              refine lv_aload_n hx hb dX7_in_75 rfl (lv_at hl 0 rfl) ?_
              refine lv_iload_n hx hb dX7_in_76 rfl (lv_at hl 2 rfl) ?_
              refine lv_iload_n hx hb dX7_in_77 rfl (lv_at hl 3 rfl) ?_
              refine ti_pVa (As := [.int (nI a9), .int (nI b9)]) (rest := []) (v := .int (ti_b (ti_hull a9 b9 (ti_F u1)))) S hE hP (met_X7_isInHull l D E ad xg xd xt u1 xj xh xs xv xb xq xk hF2 a9 b9 ha9 hb9) (lw_V q1309 q1311 qs37 q73 q1312) 2 rfl 0 rfl rfl (by decide +kernel) ⟨Nat.le_of_ble_eq_true rfl, Nat.le_of_ble_eq_true rfl⟩ hl.1 rfl (Nat.le_of_ble_eq_true rfl) ⟨Nat.le_refl _, Nat.le_refl _⟩ dX7_in_78 ?_
              refine tb_eq (tgt := 88) hx hb dX7_in_81 (by decide) (fun c81 => ?_) (fun c81 => ?_)
              · skip
                refine lv_iconst (v := nI 0) hx hb dX7_in_88 (by decide) ?_
                exact hret u1 _ _ _ _ _ _ _ dX7_in_89 (by rw [ti_Sin, if_neg hbb, if_neg hb2, hci, hca, hcb, if_neg (fun z => c39 (hw0.mp z)), if_neg (by rw [hlen]; exact c64), ← hF3, c81]; rfl) (hF2) hP hS (Nat.le_refl _) (Nat.le_refl _)
              · skip
                refine lv_iconst (v := nI 1) hx hb dX7_in_84 (by decide) ?_
                refine lv_goto (tgt := 89) hx hb dX7_in_85 (by decide) ?_
                exact hret u1 _ _ _ _ _ _ _ dX7_in_89 (by rw [ti_Sin, if_neg hbb, if_neg hb2, hci, hca, hcb, if_neg (fun z => c39 (hw0.mp z)), if_neg (by rw [hlen]; exact c64), ← hF3, c81]; rfl) (hF2) hP hS (Nat.le_refl _) (Nat.le_refl _)
            · skip
              refine lv_bipush (v := (-3)) hx hb dX7_in_67 (by decide) ?_
              exact hret xf _ _ _ _ _ _ _ dX7_in_69 (by rw [ti_Sin, if_neg hbb, if_neg hb2, hci, hca, hcb, if_neg (fun z => c39 (hw0.mp z)), if_pos (by rw [hlen]; exact c64)]) (hxf) hP hS (Nat.le_refl _) (Nat.le_refl _)
          · skip
            refine lv_aload_n hx hb dX7_in_42 rfl (lv_at hl 0 rfl) ?_
            refine lv_iload_n hx hb dX7_in_43 rfl (lv_at hl 1 rfl) ?_
            refine lv_iload_n hx hb dX7_in_44 rfl (lv_at hl 2 rfl) ?_
            refine lv_iload_n hx hb dX7_in_45 rfl (lv_at hl 3 rfl) ?_
            refine ti_pVa (As := [.int (nI i), .int (nI a9), .int (nI b9)]) (rest := []) (v := .int (ti_b (ti_hb a9 b9 (-5) (ti_G xg i) 0))) S hE hP (met_X7_isWithin l D E ad xg xd xt xf xj xh xs xv xb xq xk hxg i (by omega) a9 b9 ha9 hb9) (lw_V q1375 q1377 qs45 q73 q1378) 3 rfl 0 rfl rfl (by decide +kernel) ⟨Nat.le_of_ble_eq_true rfl, Nat.le_of_ble_eq_true rfl⟩ hl.1 rfl (Nat.le_of_ble_eq_true rfl) ⟨Nat.le_refl _, Nat.le_refl _⟩ dX7_in_46 ?_
            refine tb_eq (tgt := 56) hx hb dX7_in_49 (by decide) (fun c49 => ?_) (fun c49 => ?_)
            · skip
              refine lv_iconst (v := nI 0) hx hb dX7_in_56 (by decide) ?_
              exact hret xf _ _ _ _ _ _ _ dX7_in_57 (by rw [ti_Sin, if_neg hbb, if_neg hb2, hci, hca, hcb, if_pos (hw0.mpr c39), ← hg, c49]; rfl) (hxf) hP hS (Nat.le_refl _) (Nat.le_refl _)
            · skip
              refine lv_iconst (v := nI 1) hx hb dX7_in_52 (by decide) ?_
              refine lv_goto (tgt := 57) hx hb dX7_in_53 (by decide) ?_
              exact hret xf _ _ _ _ _ _ _ dX7_in_57 (by rw [ti_Sin, if_neg hbb, if_neg hb2, hci, hca, hcb, if_pos (hw0.mpr c39), ← hg, c49]; rfl) (hxf) hP hS (Nat.le_refl _) (Nat.le_refl _)
        · skip
          refine lv_bipush (v := (-2)) hx hb dX7_in_34 (by decide) ?_
          exact hret xf _ _ _ _ _ _ _ dX7_in_36 (by rw [ti_Sin, if_neg hbb, if_pos (by rw [c24, c31]; rfl)]) (hxf) hP hS (Nat.le_refl _) (Nat.le_refl _)
    · skip
      rw [ti_inL_i (by decide) (by decide)] at c15
      have c15 : ti_bt w = false := c15
      refine lv_iconst (v := (-1)) hx hb dX7_in_18 (by decide) ?_
      exact hret xf _ _ _ _ _ _ _ dX7_in_19 (by rw [ti_Sin, if_pos (by rw [c4, c15]; rfl)]) (hxf) hP hS (Nat.le_refl _) (Nat.le_refl _)

set_option maxHeartbeats 1000000 in
theorem met_X7_face (l : Launch) (D : va_G) (E : Nat → ClassId) (ad : Nat → Nat) (xg : ti_Mg) (xd : ti_Md) (xt : ti_Mt) (xf : ti_Mf) (xj : ti_Mj) (xh : ti_Mh) (xs : ti_Ms) (xv : ti_Mv) (xb : ti_Mb) (xq : ti_Mq) (xk : ti_Mk) (hxg : ti_Mgok xg) (I : Nat → ti_GL) (hI : ti_MI xg I) (hxf : ti_Mfok xf) (hNi : ∀ i, i < 2 → 0 < xg.1 i → ti_r2 (ti_G xg i) 1000 (List.range' 1 9) ≤ 6) (v j w : Int32) : ti_MetM (σ := ti_Mf) l D E yX7_face cX7_face 4 (some .int) 4 0 0 (ti_wM E ad xg xd xt xf xj xh xs xv xb xq xk) [.ref (ad 0), .int v, .int j, .int w] (fun u => ti_wM E ad xg xd xt u xj xh xs xv xb xq xk) (fun u => some (.int ((fun _ => ti_Sface I v j w) u))) (fun u => ti_Mfok u) := by
  refine ti_mutI (σ := ti_Mf) (vi := fun _ => ti_Sface I v j w) (by decide) (Nat.le_of_ble_eq_true rfl) ?_
  intro p e s m below meth c H H0 A Q ls S hE hP hD hS hA hinit hl hret
  have hx := S.1
  have hb := S.2.1
  have hown := S.2.2.2.1
  have hts := S.2.2.2.2
  have hK := hE.1
  have hl : lv_has ls 4 [(0, .ref (ad 0)), (1, .int v), (2, .int j), (3, .int w)] := hl
  refine lv_iload_n hx hb dX7_face_0 rfl (lv_at hl 1 rfl) ?_
  refine ti_pS (As := [.int v]) (rest := []) (v := .int (ti_b (ti_bt v))) S hE hP [] (met_X7_isIdeal l D E v) rfl (lw_S q1231 q1232 q73 q1233) 1 rfl (by decide +kernel) ⟨Nat.le_of_ble_eq_true rfl, Nat.le_of_ble_eq_true rfl⟩ hl.1 rfl (Nat.le_of_ble_eq_true rfl) ⟨Nat.le_refl _, Nat.le_refl _⟩ dX7_face_1 ?_
  refine tb_ne (tgt := 9) hx hb dX7_face_4 (by decide) (fun c4 => ?_) (fun c4 => ?_)
  · skip
    obtain ⟨i, hi2, rfl⟩ := ti_bt_nat c4
    have hci : ti_cl (nI i) = i := ti_cl_nI (by omega)
    have hg := hI i hi2
    have hlen := ti_MI_len hI hi2
    have h6 := hxg.1 i
    refine lv_aload_n hx hb dX7_face_9 rfl (lv_at hl 0 rfl) ?_
    refine va_get (v := .ref (ad 1)) hx hb hts in_X7 hown hK hP 0 rfl rfl 0 (by decide) (hts _ q1088) (fun _ h => h) rfl dX7_face_10 ?_
    refine lv_iload_n hx hb dX7_face_13 rfl (lv_at hl 1 rfl) ?_
    refine tn_iald (f := xg.1) hx hb hK hP 1 0 rfl rfl (by omega) (by decide) dX7_face_14 ?_
    have b14 := hxg.1 i
    refine tn_if_ne (tgt := 21) hx hb dX7_face_15 (by decide) (by omega) (fun c15 => ?_) (fun c15 => ?_)
    · skip
      refine lv_aload_n hx hb dX7_face_21 rfl (lv_at hl 0 rfl) ?_
      refine lv_iload_n hx hb dX7_face_22 rfl (lv_at hl 1 rfl) ?_
      refine ti_mVa (As := [.int (nI i)]) (rest := []) S hE hP hD hS hA (met_X7_tellsFaces l D E ad xg xd xt xf xj xh xs xv xb xq xk hxg i (by omega) (hNi i hi2 (by omega)) hxf) (fun _ => rfl) (lw_V q1285 q1287 qs32 q73 q1288) 1 rfl 0 rfl rfl (by decide +kernel) ⟨Nat.le_of_ble_eq_true rfl, Nat.le_of_ble_eq_true rfl⟩ hl.1 rfl (Nat.le_of_ble_eq_true rfl) ⟨Nat.le_refl _, Nat.le_refl _⟩ dX7_face_23 (fun u1 H locs hu hP hD hS => ?_)
      obtain ⟨hF1, hF2⟩ := hu
      have hF3 : ti_F u1 = ti_FF (I i) := by rw [hF1, ← hg]; rfl
      have hP : va_P D vwCl (ti_wM E ad xg xd xt u1 xj xh xs xv xb xq xk) H := hP
      have hD : va_D A (ti_wM E ad xg xd xt u1 xj xh xs xv xb xq xk) := hD
      refine W.eq (g2 := F0 m 26 ls []) rfl ?_
      refine lv_iload_n hx hb dX7_face_26 rfl (lv_at hl 2 rfl) ?_
      refine lv_i2l (v := Int32.toInt64 j) hx hb dX7_face_27 rfl ?_
      refine lv_lconst (v := lN 0) hx hb dX7_face_28 (by decide) ?_
      refine lv_aload_n hx hb dX7_face_29 rfl (lv_at hl 0 rfl) ?_
      refine va_get (v := .int (nI u1.1)) hx hb hts in_X7 hown hK hP 0 rfl rfl 12 (by decide) (hts _ q1100) (fun _ h => h) rfl dX7_face_30 ?_
      refine lv_iconst (v := nI 1) hx hb dX7_face_33 (by decide) ?_
      refine lv_isub hx hb dX7_face_34 ?_
      refine lv_i2l (v := Int32.toInt64 (((nI u1.1) - (nI 1)))) hx hb dX7_face_35 rfl ?_
      refine ti_pS (As := [.long (Int32.toInt64 j), .long (lN 0), .long (Int32.toInt64 (((nI u1.1) - (nI 1))))]) (rest := []) (v := .int (ti_b (ti_inL (Int32.toInt64 j) (lN 0) ((Int32.toInt64 (((nI u1.1) - (nI 1)))))))) S hE hP [] (met_X7_isFrom l D E (Int32.toInt64 j) (lN 0) ((Int32.toInt64 (((nI u1.1) - (nI 1)))))) rfl (lw_S q1234 q1235 q73 q1236) 3 rfl (by decide +kernel) ⟨Nat.le_of_ble_eq_true rfl, Nat.le_of_ble_eq_true rfl⟩ hl.1 rfl (Nat.le_of_ble_eq_true rfl) ⟨Nat.le_refl _, Nat.le_refl _⟩ dX7_face_36 ?_
      refine tb_eq (tgt := 54) hx hb dX7_face_39 (by decide) (fun c39 => ?_) (fun c39 => ?_)
      · skip
        have hf64 := hF2.1
        rw [ti_inL_lt (by omega), ← ti_F_len, hF3] at c39
        refine lv_iconst (v := (-1)) hx hb dX7_face_54 (by decide) ?_
        exact hret u1 _ _ _ _ _ _ _ dX7_face_55 (by rw [ti_Sface, if_neg (by rw [c4]; decide), hci, if_neg (by rw [hlen]; exact c15), if_pos c39]) (hF2) hP hS (Nat.le_refl _) (Nat.le_refl _)
      · skip
        have hf64 := hF2.1
        rw [ti_inL_lt (by omega)] at c39
        obtain ⟨j9, hj9, rfl⟩ := ti_lt_nat c39
        have hcj : ti_cl (nI j9) = j9 := ti_cl_nI (by omega)
        have hfd : (ti_FF (I i)).getD j9 (0, 0, 0) = (u1.2.1 j9, u1.2.2.1 j9, u1.2.2.2 j9) := by rw [← hF3]; exact ti_fr_getD hj9
        rw [← ti_F_len, hF3] at c39
        refine lv_iload_n hx hb dX7_face_42 rfl (lv_at hl 3 rfl) ?_
        refine lv_i2l (v := Int32.toInt64 w) hx hb dX7_face_43 rfl ?_
        refine lv_lconst (v := lN 0) hx hb dX7_face_44 (by decide) ?_
        refine lv_ldc2 (v := lN 2) hx hb hown (hts _ q1353) dX7_face_45 ?_
        refine ti_pS (As := [.long (Int32.toInt64 w), .long (lN 0), .long (lN 2)]) (rest := []) (v := .int (ti_b (ti_inL (Int32.toInt64 w) (lN 0) (lN 2)))) S hE hP [] (met_X7_isFrom l D E (Int32.toInt64 w) (lN 0) (lN 2)) rfl (lw_S q1234 q1235 q73 q1236) 3 rfl (by decide +kernel) ⟨Nat.le_of_ble_eq_true rfl, Nat.le_of_ble_eq_true rfl⟩ hl.1 rfl (Nat.le_of_ble_eq_true rfl) ⟨Nat.le_refl _, Nat.le_refl _⟩ dX7_face_48 ?_
        refine tb_ne (tgt := 56) hx hb dX7_face_51 (by decide) (fun c51 => ?_) (fun c51 => ?_)
        · skip
          rw [ti_inL_i (by decide) (by decide)] at c51
          obtain ⟨w9, hw9lo, hw9hi, rfl⟩ := ti_in_nat (by decide) (by decide) c51
          have hcw9 : ti_cl (nI w9) = w9 := ti_cl_nI (by omega)
          refine lv_iload_n hx hb dX7_face_56 rfl (lv_at hl 3 rfl) ?_
          refine tn_if_ne (tgt := 69) hx hb dX7_face_57 (by decide) (by omega) (fun c57 => ?_) (fun c57 => ?_)
          · skip
            refine lv_iload_n hx hb dX7_face_69 rfl (lv_at hl 3 rfl) ?_
            refine lv_iconst (v := nI 1) hx hb dX7_face_70 (by decide) ?_
            refine tn_ne (tgt := 83) hx hb dX7_face_71 (by decide) (by omega) (by omega) (fun c71 => ?_) (fun c71 => ?_)
            · skip
              refine lv_aload_n hx hb dX7_face_83 rfl (lv_at hl 0 rfl) ?_
              refine va_get (v := .ref (ad 12)) hx hb hts in_X7 hown hK hP 0 rfl rfl 15 (by decide) (hts _ q1103) (fun _ h => h) rfl dX7_face_84 ?_
              refine lv_iload_n hx hb dX7_face_87 rfl (lv_at hl 2 rfl) ?_
              refine tn_iald (f := u1.2.2.2) hx hb hK hP 12 0 rfl rfl (by omega) (by decide) dX7_face_88 ?_
              have b88 := hF2.2.2.2 j9
              exact hret u1 _ _ _ _ _ _ _ dX7_face_89 (by rw [ti_Sface, if_neg (by rw [c4]; decide), hci, if_neg (by rw [hlen]; exact c15), if_neg (by rw [c39]; decide), hcj, hfd, if_neg (fun z => c57 ((ti_nI_0 (show w9 < 2 ^ 31 by omega)).mp z)), if_neg (fun z => c71 ((ti_nI_1 (show w9 < 2 ^ 31 by omega)).mp z)), if_pos ((ti_nI_2 (show w9 < 2 ^ 31 by omega)).mpr (by omega))]) (hF2) hP hS (Nat.le_refl _) (Nat.le_refl _)
            · skip
              refine lv_aload_n hx hb dX7_face_74 rfl (lv_at hl 0 rfl) ?_
              refine va_get (v := .ref (ad 11)) hx hb hts in_X7 hown hK hP 0 rfl rfl 14 (by decide) (hts _ q1102) (fun _ h => h) rfl dX7_face_75 ?_
              refine lv_iload_n hx hb dX7_face_78 rfl (lv_at hl 2 rfl) ?_
              refine tn_iald (f := u1.2.2.1) hx hb hK hP 11 0 rfl rfl (by omega) (by decide) dX7_face_79 ?_
              have b79 := hF2.2.2.1 j9
              refine lv_goto (tgt := 89) hx hb dX7_face_80 (by decide) ?_
              exact hret u1 _ _ _ _ _ _ _ dX7_face_89 (by rw [ti_Sface, if_neg (by rw [c4]; decide), hci, if_neg (by rw [hlen]; exact c15), if_neg (by rw [c39]; decide), hcj, hfd, if_neg (fun z => c57 ((ti_nI_0 (show w9 < 2 ^ 31 by omega)).mp z)), if_pos ((ti_nI_1 (show w9 < 2 ^ 31 by omega)).mpr c71)]) (hF2) hP hS (Nat.le_refl _) (Nat.le_refl _)
          · skip
            refine lv_aload_n hx hb dX7_face_60 rfl (lv_at hl 0 rfl) ?_
            refine va_get (v := .ref (ad 10)) hx hb hts in_X7 hown hK hP 0 rfl rfl 13 (by decide) (hts _ q1101) (fun _ h => h) rfl dX7_face_61 ?_
            refine lv_iload_n hx hb dX7_face_64 rfl (lv_at hl 2 rfl) ?_
            refine tn_iald (f := u1.2.1) hx hb hK hP 10 0 rfl rfl (by omega) (by decide) dX7_face_65 ?_
            have b65 := hF2.2.1 j9
            refine lv_goto (tgt := 89) hx hb dX7_face_66 (by decide) ?_
            exact hret u1 _ _ _ _ _ _ _ dX7_face_89 (by rw [ti_Sface, if_neg (by rw [c4]; decide), hci, if_neg (by rw [hlen]; exact c15), if_neg (by rw [c39]; decide), hcj, hfd, if_pos ((ti_nI_0 (show w9 < 2 ^ 31 by omega)).mpr c57)]) (hF2) hP hS (Nat.le_refl _) (Nat.le_refl _)
        · skip
          rw [ti_inL_i (by decide) (by decide)] at c51
          have hw012 : ¬ w = 0 ∧ ¬ w = 1 ∧ ¬ w = 2 := ⟨fun z => by rw [z] at c51; exact absurd c51 (by decide), fun z => by rw [z] at c51; exact absurd c51 (by decide), fun z => by rw [z] at c51; exact absurd c51 (by decide)⟩
          refine lv_iconst (v := (-1)) hx hb dX7_face_54 (by decide) ?_
          exact hret u1 _ _ _ _ _ _ _ dX7_face_55 (by rw [ti_Sface, if_neg (by rw [c4]; decide), hci, if_neg (by rw [hlen]; exact c15), if_neg (by rw [c39]; decide), if_neg hw012.1, if_neg hw012.2.1, if_neg hw012.2.2]) (hF2) hP hS (Nat.le_refl _) (Nat.le_refl _)
    · skip
      refine lv_bipush (v := (-3)) hx hb dX7_face_18 (by decide) ?_
      exact hret xf _ _ _ _ _ _ _ dX7_face_20 (by rw [ti_Sface, if_neg (by rw [c4]; decide), hci, if_pos (by rw [hlen]; exact c15)]) (hxf) hP hS (Nat.le_refl _) (Nat.le_refl _)
  · skip
    refine lv_iconst (v := (-1)) hx hb dX7_face_7 (by decide) ?_
    exact hret xf _ _ _ _ _ _ _ dX7_face_8 (by rw [ti_Sface, if_pos c4]) (hxf) hP hS (Nat.le_refl _) (Nat.le_refl _)
