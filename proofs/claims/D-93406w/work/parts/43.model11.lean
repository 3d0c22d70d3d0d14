/-! TermIdealsModel: public methods, sixth part (printed by w_model11.py) -/
set_option maxRecDepth 100000
theorem ti_fr_push (f g h : Nat → Nat) (c a b d : Nat) : ti_fr (va_up f c a) (va_up g c b) (va_up h c d) 0 (c + 1) = ti_fr f g h 0 c ++ [(a, b, d)] := by
  apply List.ext_getElem?
  intro j
  by_cases hj : j < c
  · rw [ti_fr_at (by omega), List.getElem?_append_left (by rw [ti_fr_len]; exact hj), ti_fr_at hj, va_up_ne _ _ (by omega), va_up_ne _ _ (by omega), va_up_ne _ _ (by omega)]
  · by_cases he : j = c
    · subst he
      rw [ti_fr_at (by omega), List.getElem?_append_right (by rw [ti_fr_len]; omega), ti_fr_len]
      simp [va_up_self]
    · rw [List.getElem?_eq_none (by rw [ti_fr_len]; omega), List.getElem?_eq_none (by rw [List.length_append, ti_fr_len]; show _ ≤ j; simp; omega)]
/-- what was seen, what happened, what was booked -/
def ti_sl (x : ti_Ms) : List (Nat × Nat × Nat) := ti_fr x.2.1 x.2.2.1 x.2.2.2 0 x.1
def ti_el (x : Nat × (Nat → Nat) × (Nat → Nat)) : ti_GL := ti_gr x.2.1 x.2.2 0 x.1
theorem ti_sl_len (x : ti_Ms) : (ti_sl x).length = x.1 := ti_fr_len _ _ _ _ _
theorem ti_el_len (x : Nat × (Nat → Nat) × (Nat → Nat)) : (ti_el x).length = x.1 := ti_gr_len _ _ _ _

set_option maxHeartbeats 1000000 in
theorem met_X7_height (l : Launch) (D : va_G) (E : Nat → ClassId) (ad : Nat → Nat) (xg : ti_Mg) (xd : ti_Md) (xt : ti_Mt) (xf : ti_Mf) (xj : ti_Mj) (xh : ti_Mh) (xs : ti_Ms) (xv : ti_Mv) (xb : ti_Mb) (xq : ti_Mq) (xk : ti_Mk) (hxg : ti_Mgok xg) (I : Nat → ti_GL) (hI : ti_MI xg I) (hxh : ti_Mhok xh) (v w a : Int32) : ti_MetM (σ := ti_Mh) l D E yX7_height cX7_height 4 (some .int) 5 0 0 (ti_wM E ad xg xd xt xf xj xh xs xv xb xq xk) [.ref (ad 0), .int v, .int w, .int a] (fun u => ti_wM E ad xg xd xt xf xj u xs xv xb xq xk) (fun u => some (.int ((fun _ => ti_Sheight I v w a) u))) (fun u => ti_Mhok u) := by
  refine ti_mutI (σ := ti_Mh) (vi := fun _ => ti_Sheight I v w a) (by decide) (Nat.le_of_ble_eq_true rfl) ?_
  intro p e s m below meth c H H0 A Q ls S hE hP hD hS hA hinit hl hret
  have hx := S.1
  have hb := S.2.1
  have hown := S.2.2.2.1
  have hts := S.2.2.2.2
  have hK := hE.1
  have hl : lv_has ls 4 [(0, .ref (ad 0)), (1, .int v), (2, .int w), (3, .int a)] := hl
  refine lv_iload_n hx hb dX7_height_0 rfl (lv_at hl 1 rfl) ?_
  refine ti_pS (As := [.int v]) (rest := []) (v := .int (ti_b (ti_bt v))) S hE hP [] (met_X7_isIdeal l D E v) rfl (lw_S q1231 q1232 q73 q1233) 1 rfl (by decide +kernel) ⟨Nat.le_of_ble_eq_true rfl, Nat.le_of_ble_eq_true rfl⟩ hl.1 rfl (Nat.le_of_ble_eq_true rfl) ⟨Nat.le_refl _, Nat.le_refl _⟩ dX7_height_1 ?_
  refine tb_eq (tgt := 33) hx hb dX7_height_4 (by decide) (fun c4 => ?_) (fun c4 => ?_)
  · skip
    refine lv_iconst (v := (-1)) hx hb dX7_height_33 (by decide) ?_
    exact hret xh _ _ _ _ _ _ _ dX7_height_34 (by rw [ti_Sheight, if_pos (by rw [c4]; rfl)]) (hxh) hP hS (Nat.le_refl _) (Nat.le_refl _)
  · skip
    obtain ⟨i, hi2, rfl⟩ := ti_bt_nat c4
    have hci : ti_cl (nI i) = i := ti_cl_nI (by omega)
    have hg := hI i hi2
    have hlen := ti_MI_len hI hi2
    have h6 := hxg.1 i
    refine lv_iload_n hx hb dX7_height_7 rfl (lv_at hl 2 rfl) ?_
    refine lv_i2l (v := Int32.toInt64 w) hx hb dX7_height_8 rfl ?_
    refine lv_lconst (v := lN 0) hx hb dX7_height_9 (by decide) ?_
    refine lv_ldc2 (v := lN 2) hx hb hown (hts _ q1353) dX7_height_10 ?_
    refine ti_pS (As := [.long (Int32.toInt64 w), .long (lN 0), .long (lN 2)]) (rest := []) (v := .int (ti_b (ti_inL (Int32.toInt64 w) (lN 0) (lN 2)))) S hE hP [] (met_X7_isFrom l D E (Int32.toInt64 w) (lN 0) (lN 2)) rfl (lw_S q1234 q1235 q73 q1236) 3 rfl (by decide +kernel) ⟨Nat.le_of_ble_eq_true rfl, Nat.le_of_ble_eq_true rfl⟩ hl.1 rfl (Nat.le_of_ble_eq_true rfl) ⟨Nat.le_refl _, Nat.le_refl _⟩ dX7_height_13 ?_
    refine tb_ne (tgt := 35) hx hb dX7_height_16 (by decide) (fun c16 => ?_) (fun c16 => ?_)
    · skip
      rw [ti_inL_i (by decide) (by decide)] at c16
      obtain ⟨w9, hw9lo, hw9hi, rfl⟩ := ti_in_nat (by decide) (by decide) c16
      have hcw9 : ti_cl (nI w9) = w9 := ti_cl_nI (by omega)
      have hw0 := ti_nI_0 (show w9 < 2 ^ 31 by omega)
      have hw1 := ti_nI_1 (show w9 < 2 ^ 31 by omega)
      have hw2 := ti_nI_2 (show w9 < 2 ^ 31 by omega)
      have hbb : ¬ (ti_bt (nI i) && (ti_in (nI w9) (nI 0) (nI 2) || ti_in (nI w9) (nI 10) (nI 16))) = false := by rw [c4, c16]; simp
      refine lv_iload_n hx hb dX7_height_35 rfl (lv_at hl 3 rfl) ?_
      refine lv_i2l (v := Int32.toInt64 a) hx hb dX7_height_36 rfl ?_
      refine lv_lconst (v := lN 0) hx hb dX7_height_37 (by decide) ?_
      refine lv_ldc2 (v := lN 60) hx hb hown (hts _ q1445) dX7_height_38 ?_
      refine ti_pS (As := [.long (Int32.toInt64 a), .long (lN 0), .long (lN 60)]) (rest := []) (v := .int (ti_b (ti_inL (Int32.toInt64 a) (lN 0) (lN 60)))) S hE hP [] (met_X7_isFrom l D E (Int32.toInt64 a) (lN 0) (lN 60)) rfl (lw_S q1234 q1235 q73 q1236) 3 rfl (by decide +kernel) ⟨Nat.le_of_ble_eq_true rfl, Nat.le_of_ble_eq_true rfl⟩ hl.1 rfl (Nat.le_of_ble_eq_true rfl) ⟨Nat.le_refl _, Nat.le_refl _⟩ dX7_height_41 ?_
      refine tb_ne (tgt := 50) hx hb dX7_height_44 (by decide) (fun c44 => ?_) (fun c44 => ?_)
      · skip
        rw [ti_inL_i (by decide) (by decide)] at c44
        obtain ⟨a9, ha9lo, ha9hi, rfl⟩ := ti_in_nat (by decide) (by decide) c44
        have hca9 : ti_cl (nI a9) = a9 := ti_cl_nI (by omega)
        have hb2 : ¬ ti_in (nI a9) (nI 0) (nI 60) = false := by rw [c44]; decide
        refine lv_iload_n hx hb dX7_height_50 rfl (lv_at hl 2 rfl) ?_
        refine tn_if_ne (tgt := 61) hx hb dX7_height_51 (by decide) (by omega) (fun c51 => ?_) (fun c51 => ?_)
        · skip
          refine lv_iload_n hx hb dX7_height_61 rfl (lv_at hl 2 rfl) ?_
          refine lv_iconst (v := nI 1) hx hb dX7_height_62 (by decide) ?_
          refine tn_ne (tgt := 72) hx hb dX7_height_63 (by decide) (by omega) (by omega) (fun c63 => ?_) (fun c63 => ?_)
          · skip
            refine lv_iload_n hx hb dX7_height_72 rfl (lv_at hl 2 rfl) ?_
            refine lv_iconst (v := nI 2) hx hb dX7_height_73 (by decide) ?_
            refine tn_ne (tgt := 91) hx hb dX7_height_74 (by decide) (by omega) (by omega) (fun c74 => ?_) (fun c74 => ?_)
            · skip
              omega
            · skip
              refine lv_aload_n hx hb dX7_height_77 rfl (lv_at hl 0 rfl) ?_
              refine lv_iconst (v := nI 0) hx hb dX7_height_78 (by decide) ?_
              refine lv_iconst (v := nI 1) hx hb dX7_height_79 (by decide) ?_
              refine ti_mVa (As := [.int (nI 0), .int (nI 1)]) (rest := []) S hE hP hD hS hA (met_X7_powers l D E ad xg xd xt xf xj xh xs xv xb xq xk hxg 0 (by omega) hxh 1 (by omega)) (fun _ => rfl) (lw_V q1450 q1452 qs53 q73 q1453) 2 rfl 0 rfl rfl (by decide +kernel) ⟨Nat.le_of_ble_eq_true rfl, Nat.le_of_ble_eq_true rfl⟩ hl.1 rfl (Nat.le_of_ble_eq_true rfl) ⟨Nat.le_refl _, Nat.le_refl _⟩ dX7_height_80 (fun u1 H locs hu hP hD hS => ?_)
              obtain ⟨u11, u12⟩ := hu
              have hu1 : ti_Mhok u1 := ⟨by rw [u11]; exact ti_pn_le _ _, trivial, by rw [u12]; exact hxh.2.2⟩
              have hP : va_P D vwCl (ti_wM E ad xg xd xt xf xj u1 xs xv xb xq xk) H := hP
              have hD : va_D A (ti_wM E ad xg xd xt xf xj u1 xs xv xb xq xk) := hD
              refine W.eq (g2 := F0 m 83 ls []) rfl ?_
              refine lv_aload_n hx hb dX7_height_83 rfl (lv_at hl 0 rfl) ?_
              refine lv_iconst (v := nI 1) hx hb dX7_height_84 (by decide) ?_
              refine ti_mVa (As := [.int (nI 1)]) (rest := []) S hE hP hD hS hA (met_X7_times l D E ad xg xd xt xf xj u1 xs xv xb xq xk hxg 1 (by omega) hu1) (fun _ => rfl) (lw_V q1458 q1460 qs55 q73 q1461) 1 rfl 0 rfl rfl (by decide +kernel) ⟨Nat.le_of_ble_eq_true rfl, Nat.le_of_ble_eq_true rfl⟩ hl.1 rfl (Nat.le_of_ble_eq_true rfl) ⟨Nat.le_refl _, Nat.le_refl _⟩ dX7_height_85 (fun u2 H locs hu hP hD hS => ?_)
              obtain ⟨u21, u22⟩ := hu
              have hu2 : ti_Mhok u2 := ⟨by rw [u21]; exact ti_tm_le _ _, trivial, by rw [u22]; exact hu1.2.2⟩
              have hP : va_P D vwCl (ti_wM E ad xg xd xt xf xj u2 xs xv xb xq xk) H := hP
              have hD : va_D A (ti_wM E ad xg xd xt xf xj u2 xs xv xb xq xk) := hD
              refine W.eq (g2 := F0 m 88 ls []) rfl ?_
              refine lv_goto (tgt := 100) hx hb dX7_height_88 (by decide) ?_
              refine lv_aload_n hx hb dX7_height_100 rfl (lv_at hl 0 rfl) ?_
              refine lv_iload_n hx hb dX7_height_101 rfl (lv_at hl 3 rfl) ?_
              refine ti_mVa (As := [.int (nI a9)]) (rest := []) S hE hP hD hS hA (met_X7_heightAt l D E ad xg xd xt xf xj u2 xs xv xb xq xk hu2 a9 (by omega)) (fun _ => rfl) (lw_V q1462 q1464 qs56 q73 q1465) 1 rfl 0 rfl rfl (by decide +kernel) ⟨Nat.le_of_ble_eq_true rfl, Nat.le_of_ble_eq_true rfl⟩ hl.1 rfl (Nat.le_of_ble_eq_true rfl) ⟨Nat.le_refl _, Nat.le_refl _⟩ dX7_height_102 (fun _ H locs hu hP hD hS => ?_)
              have hP : va_P D vwCl (ti_wM E ad xg xd xt xf xj (ti_pfx u2.1, u2.2.1, u2.2.2) xs xv xb xq xk) H := hP
              have hD : va_D A (ti_wM E ad xg xd xt xf xj (ti_pfx u2.1, u2.2.1, u2.2.2) xs xv xb xq xk) := hD
              refine W.eq (g2 := F0 m 105 ls [.int (ti_hx (ti_pfx u2.1 a9))]) rfl ?_
              exact hret (ti_pfx u2.1, u2.2.1, u2.2.2) _ _ _ _ _ _ _ dX7_height_105 (by rw [ti_Sheight, if_neg hbb, if_neg hb2, hci, hca9, if_neg (fun z => c51 (hw0.mp z)), if_neg (fun z => c63 (hw1.mp z)), if_pos (hw2.mpr (by omega)), u21, u11, ← hI 0 (by decide), ← hI 1 (by decide)]) (⟨ti_pfx_le hu2.1, trivial, hu2.2.2⟩) hP hS (Nat.le_refl _) (Nat.le_refl _)
          · skip
            refine lv_aload_n hx hb dX7_height_66 rfl (lv_at hl 0 rfl) ?_
            refine lv_iload_n hx hb dX7_height_67 rfl (lv_at hl 3 rfl) ?_
            refine ti_mVa (As := [.int (nI a9)]) (rest := []) S hE hP hD hS hA (met_X7_sumHeight l D E ad xg xd xt xf xj xh xs xv xb xq xk hxg hxh a9 (by omega)) (fun _ => rfl) (lw_V q1470 q1472 qs58 q73 q1473) 1 rfl 0 rfl rfl (by decide +kernel) ⟨Nat.le_of_ble_eq_true rfl, Nat.le_of_ble_eq_true rfl⟩ hl.1 rfl (Nat.le_of_ble_eq_true rfl) ⟨Nat.le_refl _, Nat.le_refl _⟩ dX7_height_68 (fun u1 H locs hu hP hD hS => ?_)
            have hu1 := hu
            have hP : va_P D vwCl (ti_wM E ad xg xd xt xf xj u1 xs xv xb xq xk) H := hP
            have hD : va_D A (ti_wM E ad xg xd xt xf xj u1 xs xv xb xq xk) := hD
            refine W.eq (g2 := F0 m 71 ls [.int (ti_sh2 (ti_pfx (ti_pn (ti_G xg 0) 1) a9) (ti_pfx (ti_pn (ti_G xg 1) 1) a9))]) rfl ?_
            exact hret u1 _ _ _ _ _ _ _ dX7_height_71 (by rw [ti_Sheight, if_neg hbb, if_neg hb2, hci, hca9, if_neg (fun z => c51 (hw0.mp z)), if_pos (hw1.mpr c63), hI 0 (by decide), hI 1 (by decide)]) (hu1) hP hS (Nat.le_refl _) (Nat.le_refl _)
        · skip
          refine lv_aload_n hx hb dX7_height_54 rfl (lv_at hl 0 rfl) ?_
          refine lv_iload_n hx hb dX7_height_55 rfl (lv_at hl 1 rfl) ?_
          refine lv_iload_n hx hb dX7_height_56 rfl (lv_at hl 3 rfl) ?_
          refine ti_mVa (As := [.int (nI i), .int (nI a9)]) (rest := []) S hE hP hD hS hA (met_X7_heightOf l D E ad xg xd xt xf xj xh xs xv xb xq xk hxg i (by omega) hxh a9 (by omega)) (fun _ => rfl) (lw_V q1446 q1448 qs52 q73 q1449) 2 rfl 0 rfl rfl (by decide +kernel) ⟨Nat.le_of_ble_eq_true rfl, Nat.le_of_ble_eq_true rfl⟩ hl.1 rfl (Nat.le_of_ble_eq_true rfl) ⟨Nat.le_refl _, Nat.le_refl _⟩ dX7_height_57 (fun u1 H locs hu hP hD hS => ?_)
          have hu1 := hu
          have hP : va_P D vwCl (ti_wM E ad xg xd xt xf xj u1 xs xv xb xq xk) H := hP
          have hD : va_D A (ti_wM E ad xg xd xt xf xj u1 xs xv xb xq xk) := hD
          refine W.eq (g2 := F0 m 60 ls [.int (ti_hx (ti_pfx (ti_pn (ti_G xg i) 1) a9))]) rfl ?_
          exact hret u1 _ _ _ _ _ _ _ dX7_height_60 (by rw [ti_Sheight, if_neg hbb, if_neg hb2, hci, hca9, if_pos (hw0.mpr c51), hg]) (hu1) hP hS (Nat.le_refl _) (Nat.le_refl _)
      · skip
        rw [ti_inL_i (by decide) (by decide)] at c44
        refine lv_bipush (v := (-2)) hx hb dX7_height_47 (by decide) ?_
        exact hret xh _ _ _ _ _ _ _ dX7_height_49 (by rw [ti_Sheight, if_neg hbb, if_pos c44]) (hxh) hP hS (Nat.le_refl _) (Nat.le_refl _)
    · skip
      rw [ti_inL_i (by decide) (by decide)] at c16
      refine lv_iload_n hx hb dX7_height_19 rfl (lv_at hl 2 rfl) ?_
      refine lv_i2l (v := Int32.toInt64 w) hx hb dX7_height_20 rfl ?_
      refine lv_ldc2 (v := lN 10) hx hb hown (hts _ q1443) dX7_height_21 ?_
      refine lv_ldc2 (v := lN 16) hx hb hown (hts _ q1444) dX7_height_24 ?_
      refine ti_pS (As := [.long (Int32.toInt64 w), .long (lN 10), .long (lN 16)]) (rest := []) (v := .int (ti_b (ti_inL (Int32.toInt64 w) (lN 10) (lN 16)))) S hE hP [] (met_X7_isFrom l D E (Int32.toInt64 w) (lN 10) (lN 16)) rfl (lw_S q1234 q1235 q73 q1236) 3 rfl (by decide +kernel) ⟨Nat.le_of_ble_eq_true rfl, Nat.le_of_ble_eq_true rfl⟩ hl.1 rfl (Nat.le_of_ble_eq_true rfl) ⟨Nat.le_refl _, Nat.le_refl _⟩ dX7_height_27 ?_
      refine tb_ne (tgt := 35) hx hb dX7_height_30 (by decide) (fun c30 => ?_) (fun c30 => ?_)
      · skip
        rw [ti_inL_i (by decide) (by decide)] at c30
        obtain ⟨w9, hw9lo, hw9hi, rfl⟩ := ti_in_nat (by decide) (by decide) c30
        have hcw9 : ti_cl (nI w9) = w9 := ti_cl_nI (by omega)
        have hw0 := ti_nI_0 (show w9 < 2 ^ 31 by omega)
        have hw1 := ti_nI_1 (show w9 < 2 ^ 31 by omega)
        have hw2 := ti_nI_2 (show w9 < 2 ^ 31 by omega)
        have hbb : ¬ (ti_bt (nI i) && (ti_in (nI w9) (nI 0) (nI 2) || ti_in (nI w9) (nI 10) (nI 16))) = false := by rw [c4, c16, c30]; decide
        refine lv_iload_n hx hb dX7_height_35 rfl (lv_at hl 3 rfl) ?_
        refine lv_i2l (v := Int32.toInt64 a) hx hb dX7_height_36 rfl ?_
        refine lv_lconst (v := lN 0) hx hb dX7_height_37 (by decide) ?_
        refine lv_ldc2 (v := lN 60) hx hb hown (hts _ q1445) dX7_height_38 ?_
        refine ti_pS (As := [.long (Int32.toInt64 a), .long (lN 0), .long (lN 60)]) (rest := []) (v := .int (ti_b (ti_inL (Int32.toInt64 a) (lN 0) (lN 60)))) S hE hP [] (met_X7_isFrom l D E (Int32.toInt64 a) (lN 0) (lN 60)) rfl (lw_S q1234 q1235 q73 q1236) 3 rfl (by decide +kernel) ⟨Nat.le_of_ble_eq_true rfl, Nat.le_of_ble_eq_true rfl⟩ hl.1 rfl (Nat.le_of_ble_eq_true rfl) ⟨Nat.le_refl _, Nat.le_refl _⟩ dX7_height_41 ?_
        refine tb_ne (tgt := 50) hx hb dX7_height_44 (by decide) (fun c44 => ?_) (fun c44 => ?_)
        · skip
          rw [ti_inL_i (by decide) (by decide)] at c44
          obtain ⟨a9, ha9lo, ha9hi, rfl⟩ := ti_in_nat (by decide) (by decide) c44
          have hca9 : ti_cl (nI a9) = a9 := ti_cl_nI (by omega)
          have hb2 : ¬ ti_in (nI a9) (nI 0) (nI 60) = false := by rw [c44]; decide
          refine lv_iload_n hx hb dX7_height_50 rfl (lv_at hl 2 rfl) ?_
          refine tn_if_ne (tgt := 61) hx hb dX7_height_51 (by decide) (by omega) (fun c51 => ?_) (fun c51 => ?_)
          · skip
            refine lv_iload_n hx hb dX7_height_61 rfl (lv_at hl 2 rfl) ?_
            refine lv_iconst (v := nI 1) hx hb dX7_height_62 (by decide) ?_
            refine tn_ne (tgt := 72) hx hb dX7_height_63 (by decide) (by omega) (by omega) (fun c63 => ?_) (fun c63 => ?_)
            · skip
              refine lv_iload_n hx hb dX7_height_72 rfl (lv_at hl 2 rfl) ?_
              refine lv_iconst (v := nI 2) hx hb dX7_height_73 (by decide) ?_
              refine tn_ne (tgt := 91) hx hb dX7_height_74 (by decide) (by omega) (by omega) (fun c74 => ?_) (fun c74 => ?_)
              · skip
                refine lv_aload_n hx hb dX7_height_91 rfl (lv_at hl 0 rfl) ?_
                refine lv_iload_n hx hb dX7_height_92 rfl (lv_at hl 1 rfl) ?_
                refine lv_iload_n hx hb dX7_height_93 rfl (lv_at hl 2 rfl) ?_
                refine lv_bipush (v := nI 10) hx hb dX7_height_94 (by decide) ?_
                refine tn_sub hx hb dX7_height_96 (by omega) ?_
                refine ti_mVa (As := [.int (nI i), .int (nI (w9 - 10))]) (rest := []) S hE hP hD hS hA (met_X7_powers l D E ad xg xd xt xf xj xh xs xv xb xq xk hxg i (by omega) hxh (w9 - 10) (by omega)) (fun _ => rfl) (lw_V q1450 q1452 qs53 q73 q1453) 2 rfl 0 rfl rfl (by decide +kernel) ⟨Nat.le_of_ble_eq_true rfl, Nat.le_of_ble_eq_true rfl⟩ hl.1 rfl (Nat.le_of_ble_eq_true rfl) ⟨Nat.le_refl _, Nat.le_refl _⟩ dX7_height_97 (fun u1 H locs hu hP hD hS => ?_)
                obtain ⟨u11, u12⟩ := hu
                have hu1 : ti_Mhok u1 := ⟨by rw [u11]; exact ti_pn_le _ _, trivial, by rw [u12]; exact hxh.2.2⟩
                have hP : va_P D vwCl (ti_wM E ad xg xd xt xf xj u1 xs xv xb xq xk) H := hP
                have hD : va_D A (ti_wM E ad xg xd xt xf xj u1 xs xv xb xq xk) := hD
                refine W.eq (g2 := F0 m 100 ls []) rfl ?_
                refine lv_aload_n hx hb dX7_height_100 rfl (lv_at hl 0 rfl) ?_
                refine lv_iload_n hx hb dX7_height_101 rfl (lv_at hl 3 rfl) ?_
                refine ti_mVa (As := [.int (nI a9)]) (rest := []) S hE hP hD hS hA (met_X7_heightAt l D E ad xg xd xt xf xj u1 xs xv xb xq xk hu1 a9 (by omega)) (fun _ => rfl) (lw_V q1462 q1464 qs56 q73 q1465) 1 rfl 0 rfl rfl (by decide +kernel) ⟨Nat.le_of_ble_eq_true rfl, Nat.le_of_ble_eq_true rfl⟩ hl.1 rfl (Nat.le_of_ble_eq_true rfl) ⟨Nat.le_refl _, Nat.le_refl _⟩ dX7_height_102 (fun _ H locs hu hP hD hS => ?_)
                have hP : va_P D vwCl (ti_wM E ad xg xd xt xf xj (ti_pfx u1.1, u1.2.1, u1.2.2) xs xv xb xq xk) H := hP
                have hD : va_D A (ti_wM E ad xg xd xt xf xj (ti_pfx u1.1, u1.2.1, u1.2.2) xs xv xb xq xk) := hD
                refine W.eq (g2 := F0 m 105 ls [.int (ti_hx (ti_pfx u1.1 a9))]) rfl ?_
                exact hret (ti_pfx u1.1, u1.2.1, u1.2.2) _ _ _ _ _ _ _ dX7_height_105 (by rw [ti_Sheight, if_neg hbb, if_neg hb2, hci, hca9, if_neg (fun z => c51 (hw0.mp z)), if_neg (fun z => c63 (hw1.mp z)), if_neg (fun z => c74 (hw2.mp z)), u11, hcw9, ← hg]) (⟨ti_pfx_le hu1.1, trivial, hu1.2.2⟩) hP hS (Nat.le_refl _) (Nat.le_refl _)
              · skip
                omega
            · skip
              omega
          · skip
            omega
        · skip
          rw [ti_inL_i (by decide) (by decide)] at c44
          refine lv_bipush (v := (-2)) hx hb dX7_height_47 (by decide) ?_
          exact hret xh _ _ _ _ _ _ _ dX7_height_49 (by rw [ti_Sheight, if_neg hbb, if_pos c44]) (hxh) hP hS (Nat.le_refl _) (Nat.le_refl _)
      · skip
        rw [ti_inL_i (by decide) (by decide)] at c30
        refine lv_iconst (v := (-1)) hx hb dX7_height_33 (by decide) ?_
        exact hret xh _ _ _ _ _ _ _ dX7_height_34 (by rw [ti_Sheight, if_pos (by rw [c4, c16, c30]; rfl)]) (hxh) hP hS (Nat.le_refl _) (Nat.le_refl _)

set_option maxHeartbeats 1000000 in
theorem met_X7_reduces (l : Launch) (D : va_G) (E : Nat → ClassId) (ad : Nat → Nat) (xg : ti_Mg) (xd : ti_Md) (xt : ti_Mt) (xf : ti_Mf) (xj : ti_Mj) (xh : ti_Mh) (xs : ti_Ms) (xv : ti_Mv) (xb : ti_Mb) (xq : ti_Mq) (xk : ti_Mk) (hxg : ti_Mgok xg) (I : Nat → ti_GL) (hI : ti_MI xg I) (hxf : ti_Mfok xf) (hxh : ti_Mhok xh) (hNi : ∀ i, i < 2 → 0 < xg.1 i → ti_r2 (ti_G xg i) 1000 (List.range' 1 9) ≤ 6) (w : Int32) : ti_MetM (σ := ti_Mf × ti_Mh) l D E yX7_reduces cX7_reduces 3 (some .int) 5 0 0 (ti_wM E ad xg xd xt xf xj xh xs xv xb xq xk) [.ref (ad 0), .int w] (fun u => ti_wM E ad xg xd xt u.1 xj u.2 xs xv xb xq xk) (fun u => some (.int ((fun _ => ti_Sreduces I w) u))) (fun u => ti_Mfok u.1 ∧ ti_Mhok u.2) := by
  refine ti_mutI (σ := ti_Mf × ti_Mh) (vi := fun _ => ti_Sreduces I w) (by decide) (Nat.le_of_ble_eq_true rfl) ?_
  intro p e s m below meth c H H0 A Q ls S hE hP hD hS hA hinit hl hret
  have hx := S.1
  have hb := S.2.1
  have hown := S.2.2.2.1
  have hts := S.2.2.2.2
  have hK := hE.1
  have hl : lv_has ls 3 [(0, .ref (ad 0)), (1, .int w)] := hl
  refine lv_iload_n hx hb dX7_reduces_0 rfl (lv_at hl 1 rfl) ?_
  refine lv_i2l (v := Int32.toInt64 w) hx hb dX7_reduces_1 rfl ?_
  refine lv_lconst (v := lN 0) hx hb dX7_reduces_2 (by decide) ?_
  refine lv_lconst (v := lN 1) hx hb dX7_reduces_3 (by decide) ?_
  refine ti_pS (As := [.long (Int32.toInt64 w), .long (lN 0), .long (lN 1)]) (rest := []) (v := .int (ti_b (ti_inL (Int32.toInt64 w) (lN 0) (lN 1)))) S hE hP [] (met_X7_isFrom l D E (Int32.toInt64 w) (lN 0) (lN 1)) rfl (lw_S q1234 q1235 q73 q1236) 3 rfl (by decide +kernel) ⟨Nat.le_of_ble_eq_true rfl, Nat.le_of_ble_eq_true rfl⟩ hl.1 rfl (Nat.le_of_ble_eq_true rfl) ⟨Nat.le_refl _, Nat.le_refl _⟩ dX7_reduces_4 ?_
  refine tb_ne (tgt := 12) hx hb dX7_reduces_7 (by decide) (fun c7 => ?_) (fun c7 => ?_)
  · skip
    have c7 : ti_bt w = true := by rw [← c7]; exact (ti_inL_i (by decide) (by decide)).symm
    obtain ⟨p8, hp8, rfl⟩ := ti_bt_nat c7
    have hp0 := ti_nI_0 (show p8 < 2 ^ 31 by omega)
    refine lv_iload_n hx hb dX7_reduces_12 rfl (lv_at hl 1 rfl) ?_
    refine tn_if_ne (tgt := 29) hx hb dX7_reduces_13 (by decide) (by omega) (fun c13 => ?_) (fun c13 => ?_)
    · skip
      refine lv_iconst (v := nI 0) hx hb dX7_reduces_29 (by decide) ?_
      refine lv_istore_n (lv' := [(2, .int (nI 0)), (0, .ref (ad 0)), (1, .int (nI p8))]) hx hb dX7_reduces_30 rfl hl (by decide) rfl (fun ls hl => ?_)
      have L31 : ∀ (N : Nat) (k9 : Nat) (y : ti_Mh) (ls : Array Slot) (H : Heap) (locs : List Loc), va_P D vwCl (ti_wM E ad xg xd xt xf xj y xs xv xb xq xk) H → va_D A (ti_wM E ad xg xd xt xf xj y xs xv xb xq xk) → va_S A H0 H locs → (6 - k9) < N → (k9 ≤ 6) → (ti_Mhok y) → (ti_mt I (List.range' 0 6) = ti_mt I (List.range' k9 (6 - k9))) → lv_has ls 3 [(0, .ref (ad 0)), (1, .int (nI p8)), (2, .int (nI k9))] → W p l e (ti_rm 5 0 0) s m ([.ref (ad 0), .int (nI p8)] : List Value).toArray below meth c H locs 0 0 Q (F0 m 31 ls []) := by
        intro N
        induction N with
        | zero => intro k9 y ls H locs hP hD hS h0; exact absurd h0 (Nat.not_lt_zero _)
        | succ N ih31 =>
          intro k9 y ls H locs hP hD hS hN hkn hy hv hl
          refine lv_iload_n hx hb dX7_reduces_31 rfl (lv_at hl 2 rfl) ?_
          refine lv_bipush (v := nI 6) hx hb dX7_reduces_32 (by decide) ?_
          refine tn_ge (tgt := 53) hx hb dX7_reduces_34 (by decide) (by omega) (by omega) (fun c34 => ?_) (fun c34 => ?_)
          · skip
            rw [show 6 - k9 = 0 by omega] at hv
            have hv : ti_mt I (List.range' 0 6) = -5 := hv
            refine lv_bipush (v := (-5)) hx hb dX7_reduces_53 (by decide) ?_
            exact hret (xf, y) _ _ _ _ _ _ _ dX7_reduces_55 (by rw [ti_Sreduces, if_neg (by rw [c7]; decide), if_neg (fun z => c13 (hp0.mp z)), hv]) (⟨hxf, hy⟩) hP hS (Nat.le_refl _) (Nat.le_refl _)
          · skip
            obtain ⟨m9, hm9⟩ : ∃ m9, 6 - k9 = m9 + 1 := ⟨6 - k9 - 1, by omega⟩
            rw [hm9, show List.range' k9 (m9 + 1) = k9 :: List.range' (k9 + 1) m9 from rfl] at hv
            refine lv_aload_n hx hb dX7_reduces_37 rfl (lv_at hl 0 rfl) ?_
            refine lv_iload_n hx hb dX7_reduces_38 rfl (lv_at hl 2 rfl) ?_
            refine ti_mVa (As := [.int (nI k9)]) (rest := []) S hE hP hD hS hA (met_X7_isMetBy l D E ad xg xd xt xf xj y xs xv xb xq xk hxg hy k9 (by omega)) (fun _ => rfl) (lw_V q1482 q1484 qs60 q73 q1485) 1 rfl 0 rfl rfl (by decide +kernel) ⟨Nat.le_of_ble_eq_true rfl, Nat.le_of_ble_eq_true rfl⟩ hl.1 rfl (Nat.le_of_ble_eq_true rfl) ⟨Nat.le_refl _, Nat.le_refl _⟩ dX7_reduces_39 (fun u1 H locs hu hP hD hS => ?_)
            have hu1 := hu
            have hP : va_P D vwCl (ti_wM E ad xg xd xt xf xj u1 xs xv xb xq xk) H := hP
            have hD : va_D A (ti_wM E ad xg xd xt xf xj u1 xs xv xb xq xk) := hD
            refine W.eq (g2 := F0 m 42 ls [.int (ti_b (ti_eq (ti_pfx (ti_tm (ti_pn (ti_G xg 1) k9) (ti_G xg 0))) (ti_pfx (ti_pn (ti_G xg 1) (k9 + 1))) (List.range' 0 72)))]) rfl ?_
            refine tb_eq (tgt := 47) hx hb dX7_reduces_42 (by decide) (fun c42 => ?_) (fun c42 => ?_)
            · skip
              refine lv_iinc (v := nI (k9 + 1)) (lv' := [(2, .int (nI (k9 + 1))), (0, .ref (ad 0)), (1, .int (nI p8))]) hx hb dX7_reduces_47 hl (k := 2) rfl (nI_1 k9) (by decide) rfl (fun ls hl => ?_)
              refine lv_goto (tgt := 31) hx hb dX7_reduces_50 (by decide) ?_
              exact ih31 (k9 + 1) u1 _ _ _ hP hD hS (by omega) (by omega) (hu1) (by rw [hv, ti_mt, if_neg (by rw [← hI 0 (by decide), ← hI 1 (by decide), c42]; decide), show 6 - (k9 + 1) = m9 by omega]) (lv_sub hl [1, 2, 0] rfl)
            · skip
              refine lv_iload_n hx hb dX7_reduces_45 rfl (lv_at hl 2 rfl) ?_
              exact hret (xf, u1) _ _ _ _ _ _ _ dX7_reduces_46 (by rw [ti_Sreduces, if_neg (by rw [c7]; decide), if_neg (fun z => c13 (hp0.mp z)), hv, ti_mt, if_pos (by rw [← hI 0 (by decide), ← hI 1 (by decide), c42])]) (⟨hxf, hu1⟩) hP hS (Nat.le_refl _) (Nat.le_refl _)
      exact L31 _ 0 xh _ _ _ hP hD hS (Nat.lt_succ_self _) (by omega) (hxh) (rfl) (lv_sub hl [1, 2, 0] rfl)
    · skip
      refine lv_aload_n hx hb dX7_reduces_16 rfl (lv_at hl 0 rfl) ?_
      refine ti_mVa (As := []) (rest := []) S hE hP hD hS hA (met_X7_isReduction l D E ad xg xd xt xf xj xh xs xv xb xq xk hxg hxf (hNi 0 (by decide))) (fun _ => rfl) (lw_V q1478 q1480 qs59 q73 q1481) 0 rfl 0 rfl rfl (by decide +kernel) ⟨Nat.le_of_ble_eq_true rfl, Nat.le_of_ble_eq_true rfl⟩ hl.1 rfl (Nat.le_of_ble_eq_true rfl) ⟨Nat.le_refl _, Nat.le_refl _⟩ dX7_reduces_17 (fun u1 H locs hu hP hD hS => ?_)
      have hu1 := hu
      have hP : va_P D vwCl (ti_wM E ad xg xd xt u1 xj xh xs xv xb xq xk) H := hP
      have hD : va_D A (ti_wM E ad xg xd xt u1 xj xh xs xv xb xq xk) := hD
      refine W.eq (g2 := F0 m 20 ls [.int (ti_b (if xg.1 0 = 0 ∨ xg.1 1 = 0 then false else ti_all1 (ti_G xg 1) (ti_G xg 0) && ti_all2 (ti_fm (ti_G xg 0) 1000).reverse (ti_G xg 1)))]) rfl ?_
      refine tb_eq (tgt := 27) hx hb dX7_reduces_20 (by decide) (fun c20 => ?_) (fun c20 => ?_)
      · skip
        refine lv_iconst (v := nI 0) hx hb dX7_reduces_27 (by decide) ?_
        have hrd : ti_red I = (if xg.1 0 = 0 ∨ xg.1 1 = 0 then false else ti_all1 (ti_G xg 1) (ti_G xg 0) && ti_all2 (ti_fm (ti_G xg 0) 1000).reverse (ti_G xg 1)) := by rw [ti_red, ti_MI_len hI (by decide), ti_MI_len hI (by decide), hI 0 (by decide), hI 1 (by decide)]; rfl
        exact hret (u1, xh) _ _ _ _ _ _ _ dX7_reduces_28 (by rw [ti_Sreduces, if_neg (by rw [c7]; decide), if_pos (hp0.mpr c13), hrd, c20]; rfl) (⟨hu1, hxh⟩) hP hS (Nat.le_refl _) (Nat.le_refl _)
      · skip
        refine lv_iconst (v := nI 1) hx hb dX7_reduces_23 (by decide) ?_
        refine lv_goto (tgt := 28) hx hb dX7_reduces_24 (by decide) ?_
        have hrd : ti_red I = (if xg.1 0 = 0 ∨ xg.1 1 = 0 then false else ti_all1 (ti_G xg 1) (ti_G xg 0) && ti_all2 (ti_fm (ti_G xg 0) 1000).reverse (ti_G xg 1)) := by rw [ti_red, ti_MI_len hI (by decide), ti_MI_len hI (by decide), hI 0 (by decide), hI 1 (by decide)]; rfl
        exact hret (u1, xh) _ _ _ _ _ _ _ dX7_reduces_28 (by rw [ti_Sreduces, if_neg (by rw [c7]; decide), if_pos (hp0.mpr c13), hrd, c20]; rfl) (⟨hu1, hxh⟩) hP hS (Nat.le_refl _) (Nat.le_refl _)
  · skip
    have c7 : ti_bt w = false := by rw [← c7]; exact (ti_inL_i (by decide) (by decide)).symm
    refine lv_iconst (v := (-1)) hx hb dX7_reduces_10 (by decide) ?_
    exact hret (xf, xh) _ _ _ _ _ _ _ dX7_reduces_11 (by rw [ti_Sreduces, if_pos c7]) (⟨hxf, hxh⟩) hP hS (Nat.le_refl _) (Nat.le_refl _)

set_option maxHeartbeats 1000000 in
theorem met_X7_see (l : Launch) (D : va_G) (E : Nat → ClassId) (ad : Nat → Nat) (xg : ti_Mg) (xd : ti_Md) (xt : ti_Mt) (xf : ti_Mf) (xj : ti_Mj) (xh : ti_Mh) (xs : ti_Ms) (xv : ti_Mv) (xb : ti_Mb) (xq : ti_Mq) (xk : ti_Mk) (hxs : ti_Msok xs) (SN : List (Nat × Nat × Nat)) (hSN : ti_sl xs = SN) (v num den : Int32) : ti_MetM (σ := ti_Ms) l D E yX7_see cX7_see 4 (some .int) 2 0 0 (ti_wM E ad xg xd xt xf xj xh xs xv xb xq xk) [.ref (ad 0), .int v, .int num, .int den] (fun u => ti_wM E ad xg xd xt xf xj xh u xv xb xq xk) (fun u => some (.int ((fun _ => (ti_Ssee SN v num den).1) u))) (fun u => ti_sl u = (ti_Ssee SN v num den).2 ∧ ti_Msok u) := by
  refine ti_mutI (σ := ti_Ms) (vi := fun _ => (ti_Ssee SN v num den).1) (by decide) (Nat.le_of_ble_eq_true rfl) ?_
  intro p e s m below meth c H H0 A Q ls S hE hP hD hS hA hinit hl hret
  have hx := S.1
  have hb := S.2.1
  have hown := S.2.2.2.1
  have hts := S.2.2.2.2
  have hK := hE.1
  have hl : lv_has ls 4 [(0, .ref (ad 0)), (1, .int v), (2, .int num), (3, .int den)] := hl
  have h4 := hxs.1
  have hlen : SN.length = xs.1 := by rw [← hSN, ti_sl_len]
  refine lv_iload_n hx hb dX7_see_0 rfl (lv_at hl 1 rfl) ?_
  refine lv_iconst (v := (-1)) hx hb dX7_see_1 (by decide) ?_
  refine lv_icmp_ne (tgt := 12) hx hb dX7_see_2 (by decide) (fun c2 => ?_) (fun c2 => ?_)
  · skip
    have hv1 : ¬ v = -1 := c2
    refine lv_iload_n hx hb dX7_see_12 rfl (lv_at hl 1 rfl) ?_
    refine lv_i2l (v := Int32.toInt64 v) hx hb dX7_see_13 rfl ?_
    refine lv_lconst (v := lN 0) hx hb dX7_see_14 (by decide) ?_
    refine lv_ldc2 (v := lN 99) hx hb hown (hts _ q1413) dX7_see_15 ?_
    refine ti_pS (As := [.long (Int32.toInt64 v), .long (lN 0), .long (lN 99)]) (rest := []) (v := .int (ti_b (ti_inL (Int32.toInt64 v) (lN 0) (lN 99)))) S hE hP [] (met_X7_isFrom l D E (Int32.toInt64 v) (lN 0) (lN 99)) rfl (lw_S q1234 q1235 q73 q1236) 3 rfl (by decide +kernel) ⟨Nat.le_of_ble_eq_true rfl, Nat.le_of_ble_eq_true rfl⟩ hl.1 rfl (Nat.le_of_ble_eq_true rfl) ⟨Nat.le_refl _, Nat.le_refl _⟩ dX7_see_18 ?_
    refine tb_ne (tgt := 26) hx hb dX7_see_21 (by decide) (fun c21 => ?_) (fun c21 => ?_)
    · skip
      rw [ti_inL_i (by decide) (by decide)] at c21
      obtain ⟨v9, hv9lo, hv9hi, rfl⟩ := ti_in_nat (by decide) (by decide) c21
      have hcv9 : ti_cl (nI v9) = v9 := ti_cl_nI (by omega)
      refine lv_iload_n hx hb dX7_see_26 rfl (lv_at hl 2 rfl) ?_
      refine lv_iload_n hx hb dX7_see_27 rfl (lv_at hl 3 rfl) ?_
      refine ti_pS (As := [.int num, .int den]) (rest := []) (v := .int (ti_b (ti_bf num && ti_bf den))) S hE hP [] (met_X7_isFraction l D E num den) rfl (lw_S q1410 q1411 q73 q1412) 2 rfl (by decide +kernel) ⟨Nat.le_of_ble_eq_true rfl, Nat.le_of_ble_eq_true rfl⟩ hl.1 rfl (Nat.le_of_ble_eq_true rfl) ⟨Nat.le_refl _, Nat.le_refl _⟩ dX7_see_28 ?_
      refine tb_ne (tgt := 37) hx hb dX7_see_31 (by decide) (fun c31 => ?_) (fun c31 => ?_)
      · skip
        have hfq : ti_bf num = true ∧ ti_bf den = true := by simpa using c31
        obtain ⟨n9, hn91, hn9, rfl⟩ := ti_bf_nat hfq.1
        obtain ⟨d9, hd91, hd9, rfl⟩ := ti_bf_nat hfq.2
        have hcn : ti_cl (nI n9) = n9 := ti_cl_nI (by omega)
        have hcd : ti_cl (nI d9) = d9 := ti_cl_nI (by omega)
        refine lv_aload_n hx hb dX7_see_37 rfl (lv_at hl 0 rfl) ?_
        refine va_get (v := .int (nI xs.1)) hx hb hts in_X7 hown hK hP 0 rfl rfl 22 (by decide) (hts _ q1110) (fun _ h => h) rfl dX7_see_38 ?_
        refine lv_iconst (v := nI 4) hx hb dX7_see_41 (by decide) ?_
        refine tn_ne (tgt := 48) hx hb dX7_see_42 (by decide) (by omega) (by omega) (fun c42 => ?_) (fun c42 => ?_)
        · skip
          refine lv_aload_n hx hb dX7_see_48 rfl (lv_at hl 0 rfl) ?_
          refine va_get (v := .ref (ad 18)) hx hb hts in_X7 hown hK hP 0 rfl rfl 23 (by decide) (hts _ q1111) (fun _ h => h) rfl dX7_see_49 ?_
          refine lv_aload_n hx hb dX7_see_52 rfl (lv_at hl 0 rfl) ?_
          refine va_get (v := .int (nI xs.1)) hx hb hts in_X7 hown hK hP 0 rfl rfl 22 (by decide) (hts _ q1110) (fun _ h => h) rfl dX7_see_53 ?_
          refine lv_iload_n hx hb dX7_see_56 rfl (lv_at hl 1 rfl) ?_
          refine tn_iast (f := xs.2.1) hx hb hK hP hD hS 18 0 rfl rfl (by omega) (by decide) dX7_see_57 (fun H locs hP hD hS => ?_)
          have hP : va_P D vwCl (ti_wM E ad xg xd xt xf xj xh (xs.1, va_up xs.2.1 xs.1 v9, xs.2.2.1, xs.2.2.2) xv xb xq xk) H := hP
          have hD : va_D A (ti_wM E ad xg xd xt xf xj xh (xs.1, va_up xs.2.1 xs.1 v9, xs.2.2.1, xs.2.2.2) xv xb xq xk) := hD
          refine lv_aload_n hx hb dX7_see_58 rfl (lv_at hl 0 rfl) ?_
          refine va_get (v := .ref (ad 19)) hx hb hts in_X7 hown hK hP 0 rfl rfl 24 (by decide) (hts _ q1112) (fun _ h => h) rfl dX7_see_59 ?_
          refine lv_aload_n hx hb dX7_see_62 rfl (lv_at hl 0 rfl) ?_
          refine va_get (v := .int (nI xs.1)) hx hb hts in_X7 hown hK hP 0 rfl rfl 22 (by decide) (hts _ q1110) (fun _ h => h) rfl dX7_see_63 ?_
          refine lv_iload_n hx hb dX7_see_66 rfl (lv_at hl 2 rfl) ?_
          refine tn_iast (f := xs.2.2.1) hx hb hK hP hD hS 19 0 rfl rfl (by omega) (by decide) dX7_see_67 (fun H locs hP hD hS => ?_)
          have hP : va_P D vwCl (ti_wM E ad xg xd xt xf xj xh (xs.1, va_up xs.2.1 xs.1 v9, va_up xs.2.2.1 xs.1 n9, xs.2.2.2) xv xb xq xk) H := hP
          have hD : va_D A (ti_wM E ad xg xd xt xf xj xh (xs.1, va_up xs.2.1 xs.1 v9, va_up xs.2.2.1 xs.1 n9, xs.2.2.2) xv xb xq xk) := hD
          refine lv_aload_n hx hb dX7_see_68 rfl (lv_at hl 0 rfl) ?_
          refine va_get (v := .ref (ad 20)) hx hb hts in_X7 hown hK hP 0 rfl rfl 25 (by decide) (hts _ q1113) (fun _ h => h) rfl dX7_see_69 ?_
          refine lv_aload_n hx hb dX7_see_72 rfl (lv_at hl 0 rfl) ?_
          refine va_get (v := .int (nI xs.1)) hx hb hts in_X7 hown hK hP 0 rfl rfl 22 (by decide) (hts _ q1110) (fun _ h => h) rfl dX7_see_73 ?_
          refine lv_iload_n hx hb dX7_see_76 rfl (lv_at hl 3 rfl) ?_
          refine tn_iast (f := xs.2.2.2) hx hb hK hP hD hS 20 0 rfl rfl (by omega) (by decide) dX7_see_77 (fun H locs hP hD hS => ?_)
          have hP : va_P D vwCl (ti_wM E ad xg xd xt xf xj xh (xs.1, va_up xs.2.1 xs.1 v9, va_up xs.2.2.1 xs.1 n9, va_up xs.2.2.2 xs.1 d9) xv xb xq xk) H := hP
          have hD : va_D A (ti_wM E ad xg xd xt xf xj xh (xs.1, va_up xs.2.1 xs.1 v9, va_up xs.2.2.1 xs.1 n9, va_up xs.2.2.2 xs.1 d9) xv xb xq xk) := hD
          refine lv_aload_n hx hb dX7_see_78 rfl (lv_at hl 0 rfl) ?_
          refine lv_dup hx hb dX7_see_79 rfl ?_
          refine va_get (v := .int (nI xs.1)) hx hb hts in_X7 hown hK hP 0 rfl rfl 22 (by decide) (hts _ q1110) (fun _ h => h) rfl dX7_see_80 ?_
          refine lv_iconst (v := nI 1) hx hb dX7_see_83 (by decide) ?_
          refine tn_add hx hb dX7_see_84 ?_
          refine va_put (ty := .int) hx hb hts in_X7 tyX7 tyX7_ok nmX7 hown hK hP hD hS 0 rfl rfl 22 (by decide) (hts _ q1110) (fun _ h => h) rfl rfl rfl rfl (Nat.le_of_ble_eq_true rfl) dX7_see_85 (fun H locs hP hD hS => ?_)
          have hP : va_P D vwCl (ti_wM E ad xg xd xt xf xj xh (xs.1 + 1, va_up xs.2.1 xs.1 v9, va_up xs.2.2.1 xs.1 n9, va_up xs.2.2.2 xs.1 d9) xv xb xq xk) H := hP
          have hD : va_D A (ti_wM E ad xg xd xt xf xj xh (xs.1 + 1, va_up xs.2.1 xs.1 v9, va_up xs.2.2.1 xs.1 n9, va_up xs.2.2.2 xs.1 d9) xv xb xq xk) := hD
          refine lv_aload_n hx hb dX7_see_88 rfl (lv_at hl 0 rfl) ?_
          refine va_get (v := .int (nI (xs.1 + 1))) hx hb hts in_X7 hown hK hP 0 rfl rfl 22 (by decide) (hts _ q1110) (fun _ h => h) rfl dX7_see_89 ?_
          have hs : ti_Ssee SN (nI v9) (nI n9) (nI d9) = (nI (xs.1 + 1), SN ++ [(v9, n9, d9)]) := by rw [ti_Ssee, if_neg hv1, if_neg (by rw [c21]; decide), if_neg (by rw [hfq.1, hfq.2]; decide), if_neg (by omega), hlen, hcv9, hcn, hcd]
          exact hret (xs.1 + 1, va_up xs.2.1 xs.1 v9, va_up xs.2.2.1 xs.1 n9, va_up xs.2.2.2 xs.1 d9) _ _ _ _ _ _ _ dX7_see_92 (by rw [hs]) (by rw [hs]; exact ⟨by rw [← hSN]; exact ti_fr_push _ _ _ _ _ _ _, by show xs.1 + 1 ≤ 4; omega, ti_up_le hxs.2.1 (by omega), ti_up_le hxs.2.2.1 (by omega), ti_up_le hxs.2.2.2 (by omega)⟩) hP hS (Nat.le_refl _) (Nat.le_refl _)
        · skip
          refine lv_bipush (v := (-4)) hx hb dX7_see_45 (by decide) ?_
          have hs : ti_Ssee SN (nI v9) (nI n9) (nI d9) = (-4, SN) := by rw [ti_Ssee, if_neg hv1, if_neg (by rw [c21]; decide), if_neg (by rw [hfq.1, hfq.2]; decide), if_pos (by omega)]
          exact hret xs _ _ _ _ _ _ _ dX7_see_47 (by rw [hs]) (by rw [hs]; exact ⟨hSN, hxs⟩) hP hS (Nat.le_refl _) (Nat.le_refl _)
      · skip
        refine lv_bipush (v := (-2)) hx hb dX7_see_34 (by decide) ?_
        have hs : ti_Ssee SN (nI v9) num den = (-2, SN) := by rw [ti_Ssee, if_neg hv1, if_neg (by rw [c21]; decide), if_pos c31]
        exact hret xs _ _ _ _ _ _ _ dX7_see_36 (by rw [hs]) (by rw [hs]; exact ⟨hSN, hxs⟩) hP hS (Nat.le_refl _) (Nat.le_refl _)
    · skip
      rw [ti_inL_i (by decide) (by decide)] at c21
      refine lv_iconst (v := (-1)) hx hb dX7_see_24 (by decide) ?_
      have hs : ti_Ssee SN v num den = (-1, SN) := by rw [ti_Ssee, if_neg hv1, if_pos c21]
      exact hret xs _ _ _ _ _ _ _ dX7_see_25 (by rw [hs]) (by rw [hs]; exact ⟨hSN, hxs⟩) hP hS (Nat.le_refl _) (Nat.le_refl _)
  · skip
    refine lv_aload_n hx hb dX7_see_5 rfl (lv_at hl 0 rfl) ?_
    refine lv_iconst (v := nI 0) hx hb dX7_see_6 (by decide) ?_
    refine va_put (ty := .int) hx hb hts in_X7 tyX7 tyX7_ok nmX7 hown hK hP hD hS 0 rfl rfl 22 (by decide) (hts _ q1110) (fun _ h => h) rfl rfl rfl rfl (Nat.le_of_ble_eq_true rfl) dX7_see_7 (fun H locs hP hD hS => ?_)
    have hP : va_P D vwCl (ti_wM E ad xg xd xt xf xj xh (0, xs.2.1, xs.2.2.1, xs.2.2.2) xv xb xq xk) H := hP
    have hD : va_D A (ti_wM E ad xg xd xt xf xj xh (0, xs.2.1, xs.2.2.1, xs.2.2.2) xv xb xq xk) := hD
    refine lv_iconst (v := nI 0) hx hb dX7_see_10 (by decide) ?_
    have hs : ti_Ssee SN v num den = (0, []) := by rw [ti_Ssee, if_pos c2]
    exact hret (0, xs.2.1, xs.2.2.1, xs.2.2.2) _ _ _ _ _ _ _ dX7_see_11 (by rw [hs]; rfl) (by rw [hs]; exact ⟨rfl, Nat.zero_le _, hxs.2⟩) hP hS (Nat.le_refl _) (Nat.le_refl _)

set_option maxHeartbeats 1000000 in
theorem met_X7_event (l : Launch) (D : va_G) (E : Nat → ClassId) (ad : Nat → Nat) (xg : ti_Mg) (xd : ti_Md) (xt : ti_Mt) (xf : ti_Mf) (xj : ti_Mj) (xh : ti_Mh) (xs : ti_Ms) (xv : ti_Mv) (xb : ti_Mb) (xq : ti_Mq) (xk : ti_Mk) (hxv : ti_Mvok xv) (EV : ti_GL) (hEV : ti_el xv = EV) (w d : Int32) : ti_MetM (σ := ti_Mv) l D E yX7_event cX7_event 4 (some .int) 2 0 0 (ti_wM E ad xg xd xt xf xj xh xs xv xb xq xk) [.ref (ad 0), .int w, .int d] (fun u => ti_wM E ad xg xd xt xf xj xh xs u xb xq xk) (fun u => some (.int ((fun _ => (ti_Sevent EV w d).1) u))) (fun u => ti_el u = (ti_Sevent EV w d).2 ∧ ti_Mvok u) := by
  refine ti_mutI (σ := ti_Mv) (vi := fun _ => (ti_Sevent EV w d).1) (by decide) (Nat.le_of_ble_eq_true rfl) ?_
  intro p e s m below meth c H H0 A Q ls S hE hP hD hS hA hinit hl hret
  have hx := S.1
  have hb := S.2.1
  have hown := S.2.2.2.1
  have hts := S.2.2.2.2
  have hK := hE.1
  have hl : lv_has ls 4 [(0, .ref (ad 0)), (1, .int w), (2, .int d)] := hl
  have h8 := hxv.1
  have hlen : EV.length = xv.1 := by rw [← hEV, ti_el_len]
  refine lv_iload_n hx hb dX7_event_0 rfl (lv_at hl 1 rfl) ?_
  refine lv_iconst (v := (-1)) hx hb dX7_event_1 (by decide) ?_
  refine lv_icmp_ne (tgt := 12) hx hb dX7_event_2 (by decide) (fun c2 => ?_) (fun c2 => ?_)
  · skip
    have hw1 : ¬ w = -1 := c2
    refine lv_iload_n hx hb dX7_event_12 rfl (lv_at hl 1 rfl) ?_
    refine lv_i2l (v := Int32.toInt64 w) hx hb dX7_event_13 rfl ?_
    refine lv_lconst (v := lN 0) hx hb dX7_event_14 (by decide) ?_
    refine lv_ldc2 (v := lN 2) hx hb hown (hts _ q1353) dX7_event_15 ?_
    refine ti_pS (As := [.long (Int32.toInt64 w), .long (lN 0), .long (lN 2)]) (rest := []) (v := .int (ti_b (ti_inL (Int32.toInt64 w) (lN 0) (lN 2)))) S hE hP [] (met_X7_isFrom l D E (Int32.toInt64 w) (lN 0) (lN 2)) rfl (lw_S q1234 q1235 q73 q1236) 3 rfl (by decide +kernel) ⟨Nat.le_of_ble_eq_true rfl, Nat.le_of_ble_eq_true rfl⟩ hl.1 rfl (Nat.le_of_ble_eq_true rfl) ⟨Nat.le_refl _, Nat.le_refl _⟩ dX7_event_18 ?_
    refine tb_ne (tgt := 26) hx hb dX7_event_21 (by decide) (fun c21 => ?_) (fun c21 => ?_)
    · skip
      rw [ti_inL_i (by decide) (by decide)] at c21
      obtain ⟨w9, hw9lo, hw9hi, rfl⟩ := ti_in_nat (by decide) (by decide) c21
      have hcw9 : ti_cl (nI w9) = w9 := ti_cl_nI (by omega)
      have hw0 := ti_nI_0 (show w9 < 2 ^ 31 by omega)
      have hw11 := ti_nI_1 (show w9 < 2 ^ 31 by omega)
      refine lv_iload_n hx hb dX7_event_26 rfl (lv_at hl 1 rfl) ?_
      refine tn_if_ne (tgt := 42) hx hb dX7_event_27 (by decide) (by omega) (fun c27 => ?_) (fun c27 => ?_)
      · skip
        refine lv_iload_n hx hb dX7_event_42 rfl (lv_at hl 1 rfl) ?_
        refine lv_iconst (v := nI 1) hx hb dX7_event_43 (by decide) ?_
        refine tn_ne (tgt := 59) hx hb dX7_event_44 (by decide) (by omega) (by omega) (fun c44 => ?_) (fun c44 => ?_)
        · skip
          refine lv_iload_n hx hb dX7_event_59 rfl (lv_at hl 2 rfl) ?_
          refine lv_i2l (v := Int32.toInt64 d) hx hb dX7_event_60 rfl ?_
          refine lv_lconst (v := lN 1) hx hb dX7_event_61 (by decide) ?_
          refine lv_ldc2 (v := lN 9) hx hb hown (hts _ q1240) dX7_event_62 ?_
          refine ti_pS (As := [.long (Int32.toInt64 d), .long (lN 1), .long (lN 9)]) (rest := []) (v := .int (ti_b (ti_inL (Int32.toInt64 d) (lN 1) (lN 9)))) S hE hP [] (met_X7_isFrom l D E (Int32.toInt64 d) (lN 1) (lN 9)) rfl (lw_S q1234 q1235 q73 q1236) 3 rfl (by decide +kernel) ⟨Nat.le_of_ble_eq_true rfl, Nat.le_of_ble_eq_true rfl⟩ hl.1 rfl (Nat.le_of_ble_eq_true rfl) ⟨Nat.le_refl _, Nat.le_refl _⟩ dX7_event_65 ?_
          refine lv_istore_n (lv' := [(3, .int (ti_b (ti_inL (Int32.toInt64 d) (lN 1) (lN 9)))), (0, .ref (ad 0)), (1, .int (nI w9)), (2, .int d)]) hx hb dX7_event_68 rfl hl (by decide) rfl (fun ls hl => ?_)
          refine lv_iload_n hx hb dX7_event_69 rfl (lv_at hl 0 rfl) ?_
          refine tb_ne (tgt := 76) hx hb dX7_event_70 (by decide) (fun c70 => ?_) (fun c70 => ?_)
          · skip
            have hmy : ti_may (nI w9) d = ti_in d (nI 1) (nI 9) := by rw [ti_may, if_neg (fun z => c27 (hw0.mp z)), if_neg (fun z => c44 (hw11.mp z))]
            rw [ti_inL_i (by decide) (by decide)] at c70
            have hmy : ti_may (nI w9) d = true := by rw [hmy, c70]
            obtain ⟨d9, hd9lo, hd9hi, rfl⟩ := ti_in_nat (by decide) (by decide) c70
            have hcd9 : ti_cl (nI d9) = d9 := ti_cl_nI (by omega)
            have hd99 : d9 ≤ 99 := by omega
            refine lv_aload_n hx hb dX7_event_76 rfl (lv_at hl 1 rfl) ?_
            refine va_get (v := .int (nI xv.1)) hx hb hts in_X7 hown hK hP 0 rfl rfl 26 (by decide) (hts _ q1114) (fun _ h => h) rfl dX7_event_77 ?_
            refine lv_bipush (v := nI 8) hx hb dX7_event_80 (by decide) ?_
            refine tn_ne (tgt := 88) hx hb dX7_event_82 (by decide) (by omega) (by omega) (fun c82 => ?_) (fun c82 => ?_)
            · skip
              refine lv_aload_n hx hb dX7_event_88 rfl (lv_at hl 1 rfl) ?_
              refine va_get (v := .ref (ad 21)) hx hb hts in_X7 hown hK hP 0 rfl rfl 27 (by decide) (hts _ q1115) (fun _ h => h) rfl dX7_event_89 ?_
              refine lv_aload_n hx hb dX7_event_92 rfl (lv_at hl 1 rfl) ?_
              refine va_get (v := .int (nI xv.1)) hx hb hts in_X7 hown hK hP 0 rfl rfl 26 (by decide) (hts _ q1114) (fun _ h => h) rfl dX7_event_93 ?_
              refine lv_iload_n hx hb dX7_event_96 rfl (lv_at hl 2 rfl) ?_
              refine tn_iast (f := xv.2.1) hx hb hK hP hD hS 21 0 rfl rfl (by omega) (by decide) dX7_event_97 (fun H locs hP hD hS => ?_)
              have hP : va_P D vwCl (ti_wM E ad xg xd xt xf xj xh xs (xv.1, va_up xv.2.1 xv.1 w9, xv.2.2) xb xq xk) H := hP
              have hD : va_D A (ti_wM E ad xg xd xt xf xj xh xs (xv.1, va_up xv.2.1 xv.1 w9, xv.2.2) xb xq xk) := hD
              refine lv_aload_n hx hb dX7_event_98 rfl (lv_at hl 1 rfl) ?_
              refine va_get (v := .ref (ad 22)) hx hb hts in_X7 hown hK hP 0 rfl rfl 28 (by decide) (hts _ q1116) (fun _ h => h) rfl dX7_event_99 ?_
              refine lv_aload_n hx hb dX7_event_102 rfl (lv_at hl 1 rfl) ?_
              refine va_get (v := .int (nI xv.1)) hx hb hts in_X7 hown hK hP 0 rfl rfl 26 (by decide) (hts _ q1114) (fun _ h => h) rfl dX7_event_103 ?_
              refine lv_iload_n hx hb dX7_event_106 rfl (lv_at hl 3 rfl) ?_
              refine tn_iast (f := xv.2.2) hx hb hK hP hD hS 22 0 rfl rfl (by omega) (by decide) dX7_event_107 (fun H locs hP hD hS => ?_)
              have hP : va_P D vwCl (ti_wM E ad xg xd xt xf xj xh xs (xv.1, va_up xv.2.1 xv.1 w9, va_up xv.2.2 xv.1 d9) xb xq xk) H := hP
              have hD : va_D A (ti_wM E ad xg xd xt xf xj xh xs (xv.1, va_up xv.2.1 xv.1 w9, va_up xv.2.2 xv.1 d9) xb xq xk) := hD
              refine lv_aload_n hx hb dX7_event_108 rfl (lv_at hl 1 rfl) ?_
              refine lv_dup hx hb dX7_event_109 rfl ?_
              refine va_get (v := .int (nI xv.1)) hx hb hts in_X7 hown hK hP 0 rfl rfl 26 (by decide) (hts _ q1114) (fun _ h => h) rfl dX7_event_110 ?_
              refine lv_iconst (v := nI 1) hx hb dX7_event_113 (by decide) ?_
              refine tn_add hx hb dX7_event_114 ?_
              refine va_put (ty := .int) hx hb hts in_X7 tyX7 tyX7_ok nmX7 hown hK hP hD hS 0 rfl rfl 26 (by decide) (hts _ q1114) (fun _ h => h) rfl rfl rfl rfl (Nat.le_of_ble_eq_true rfl) dX7_event_115 (fun H locs hP hD hS => ?_)
              have hP : va_P D vwCl (ti_wM E ad xg xd xt xf xj xh xs (xv.1 + 1, va_up xv.2.1 xv.1 w9, va_up xv.2.2 xv.1 d9) xb xq xk) H := hP
              have hD : va_D A (ti_wM E ad xg xd xt xf xj xh xs (xv.1 + 1, va_up xv.2.1 xv.1 w9, va_up xv.2.2 xv.1 d9) xb xq xk) := hD
              refine lv_aload_n hx hb dX7_event_118 rfl (lv_at hl 1 rfl) ?_
              refine va_get (v := .int (nI (xv.1 + 1))) hx hb hts in_X7 hown hK hP 0 rfl rfl 26 (by decide) (hts _ q1114) (fun _ h => h) rfl dX7_event_119 ?_
              have hs : ti_Sevent EV (nI w9) (nI d9) = (nI (xv.1 + 1), EV ++ [(w9, d9)]) := by rw [ti_Sevent, if_neg hw1, if_neg (by rw [c21]; decide), if_neg (by rw [hmy]; decide), if_neg (by omega), hlen, hcw9, hcd9]
              exact hret (xv.1 + 1, va_up xv.2.1 xv.1 w9, va_up xv.2.2 xv.1 d9) _ _ _ _ _ _ _ dX7_event_122 (by rw [hs]) (by rw [hs]; exact ⟨by rw [← hEV]; exact ti_gr_push _ _ _ _ _, by show xv.1 + 1 ≤ 8; omega, ti_up_le hxv.2.1 (by omega), ti_up_le hxv.2.2 hd99⟩) hP hS (Nat.le_refl _) (Nat.le_refl _)
            · skip
              refine lv_bipush (v := (-4)) hx hb dX7_event_85 (by decide) ?_
              have hs : ti_Sevent EV (nI w9) (nI d9) = (-4, EV) := by rw [ti_Sevent, if_neg hw1, if_neg (by rw [c21]; decide), if_neg (by rw [hmy]; decide), if_pos (by omega)]
              exact hret xv _ _ _ _ _ _ _ dX7_event_87 (by rw [hs]) (by rw [hs]; exact ⟨hEV, hxv⟩) hP hS (Nat.le_refl _) (Nat.le_refl _)
          · skip
            have hmy : ti_may (nI w9) d = ti_in d (nI 1) (nI 9) := by rw [ti_may, if_neg (fun z => c27 (hw0.mp z)), if_neg (fun z => c44 (hw11.mp z))]
            rw [ti_inL_i (by decide) (by decide)] at c70
            refine lv_bipush (v := (-2)) hx hb dX7_event_73 (by decide) ?_
            have hs : ti_Sevent EV (nI w9) d = (-2, EV) := by rw [ti_Sevent, if_neg hw1, if_neg (by rw [c21]; decide), if_pos (by rw [hmy, c70])]
            exact hret xv _ _ _ _ _ _ _ dX7_event_75 (by rw [hs]) (by rw [hs]; exact ⟨hEV, hxv⟩) hP hS (Nat.le_refl _) (Nat.le_refl _)
        · skip
          refine lv_iload_n hx hb dX7_event_47 rfl (lv_at hl 2 rfl) ?_
          refine lv_i2l (v := Int32.toInt64 d) hx hb dX7_event_48 rfl ?_
          refine lv_lconst (v := lN 0) hx hb dX7_event_49 (by decide) ?_
          refine lv_ldc2 (v := lN 5) hx hb hown (hts _ q1511) dX7_event_50 ?_
          refine ti_pS (As := [.long (Int32.toInt64 d), .long (lN 0), .long (lN 5)]) (rest := []) (v := .int (ti_b (ti_inL (Int32.toInt64 d) (lN 0) (lN 5)))) S hE hP [] (met_X7_isFrom l D E (Int32.toInt64 d) (lN 0) (lN 5)) rfl (lw_S q1234 q1235 q73 q1236) 3 rfl (by decide +kernel) ⟨Nat.le_of_ble_eq_true rfl, Nat.le_of_ble_eq_true rfl⟩ hl.1 rfl (Nat.le_of_ble_eq_true rfl) ⟨Nat.le_refl _, Nat.le_refl _⟩ dX7_event_53 ?_
          refine lv_goto (tgt := 68) hx hb dX7_event_56 (by decide) ?_
          refine lv_istore_n (lv' := [(3, .int (ti_b (ti_inL (Int32.toInt64 d) (lN 0) (lN 5)))), (0, .ref (ad 0)), (1, .int (nI w9)), (2, .int d)]) hx hb dX7_event_68 rfl hl (by decide) rfl (fun ls hl => ?_)
          refine lv_iload_n hx hb dX7_event_69 rfl (lv_at hl 0 rfl) ?_
          refine tb_ne (tgt := 76) hx hb dX7_event_70 (by decide) (fun c70 => ?_) (fun c70 => ?_)
          · skip
            have hmy : ti_may (nI w9) d = ti_in d (nI 0) (nI 5) := by rw [ti_may, if_neg (fun z => c27 (hw0.mp z)), if_pos (hw11.mpr c44)]
            rw [ti_inL_i (by decide) (by decide)] at c70
            have hmy : ti_may (nI w9) d = true := by rw [hmy, c70]
            obtain ⟨d9, hd9lo, hd9hi, rfl⟩ := ti_in_nat (by decide) (by decide) c70
            have hcd9 : ti_cl (nI d9) = d9 := ti_cl_nI (by omega)
            have hd99 : d9 ≤ 99 := by omega
            refine lv_aload_n hx hb dX7_event_76 rfl (lv_at hl 1 rfl) ?_
            refine va_get (v := .int (nI xv.1)) hx hb hts in_X7 hown hK hP 0 rfl rfl 26 (by decide) (hts _ q1114) (fun _ h => h) rfl dX7_event_77 ?_
            refine lv_bipush (v := nI 8) hx hb dX7_event_80 (by decide) ?_
            refine tn_ne (tgt := 88) hx hb dX7_event_82 (by decide) (by omega) (by omega) (fun c82 => ?_) (fun c82 => ?_)
            · skip
              refine lv_aload_n hx hb dX7_event_88 rfl (lv_at hl 1 rfl) ?_
              refine va_get (v := .ref (ad 21)) hx hb hts in_X7 hown hK hP 0 rfl rfl 27 (by decide) (hts _ q1115) (fun _ h => h) rfl dX7_event_89 ?_
              refine lv_aload_n hx hb dX7_event_92 rfl (lv_at hl 1 rfl) ?_
              refine va_get (v := .int (nI xv.1)) hx hb hts in_X7 hown hK hP 0 rfl rfl 26 (by decide) (hts _ q1114) (fun _ h => h) rfl dX7_event_93 ?_
              refine lv_iload_n hx hb dX7_event_96 rfl (lv_at hl 2 rfl) ?_
              refine tn_iast (f := xv.2.1) hx hb hK hP hD hS 21 0 rfl rfl (by omega) (by decide) dX7_event_97 (fun H locs hP hD hS => ?_)
              have hP : va_P D vwCl (ti_wM E ad xg xd xt xf xj xh xs (xv.1, va_up xv.2.1 xv.1 w9, xv.2.2) xb xq xk) H := hP
              have hD : va_D A (ti_wM E ad xg xd xt xf xj xh xs (xv.1, va_up xv.2.1 xv.1 w9, xv.2.2) xb xq xk) := hD
              refine lv_aload_n hx hb dX7_event_98 rfl (lv_at hl 1 rfl) ?_
              refine va_get (v := .ref (ad 22)) hx hb hts in_X7 hown hK hP 0 rfl rfl 28 (by decide) (hts _ q1116) (fun _ h => h) rfl dX7_event_99 ?_
              refine lv_aload_n hx hb dX7_event_102 rfl (lv_at hl 1 rfl) ?_
              refine va_get (v := .int (nI xv.1)) hx hb hts in_X7 hown hK hP 0 rfl rfl 26 (by decide) (hts _ q1114) (fun _ h => h) rfl dX7_event_103 ?_
              refine lv_iload_n hx hb dX7_event_106 rfl (lv_at hl 3 rfl) ?_
              refine tn_iast (f := xv.2.2) hx hb hK hP hD hS 22 0 rfl rfl (by omega) (by decide) dX7_event_107 (fun H locs hP hD hS => ?_)
              have hP : va_P D vwCl (ti_wM E ad xg xd xt xf xj xh xs (xv.1, va_up xv.2.1 xv.1 w9, va_up xv.2.2 xv.1 d9) xb xq xk) H := hP
              have hD : va_D A (ti_wM E ad xg xd xt xf xj xh xs (xv.1, va_up xv.2.1 xv.1 w9, va_up xv.2.2 xv.1 d9) xb xq xk) := hD
              refine lv_aload_n hx hb dX7_event_108 rfl (lv_at hl 1 rfl) ?_
              refine lv_dup hx hb dX7_event_109 rfl ?_
              refine va_get (v := .int (nI xv.1)) hx hb hts in_X7 hown hK hP 0 rfl rfl 26 (by decide) (hts _ q1114) (fun _ h => h) rfl dX7_event_110 ?_
              refine lv_iconst (v := nI 1) hx hb dX7_event_113 (by decide) ?_
              refine tn_add hx hb dX7_event_114 ?_
              refine va_put (ty := .int) hx hb hts in_X7 tyX7 tyX7_ok nmX7 hown hK hP hD hS 0 rfl rfl 26 (by decide) (hts _ q1114) (fun _ h => h) rfl rfl rfl rfl (Nat.le_of_ble_eq_true rfl) dX7_event_115 (fun H locs hP hD hS => ?_)
              have hP : va_P D vwCl (ti_wM E ad xg xd xt xf xj xh xs (xv.1 + 1, va_up xv.2.1 xv.1 w9, va_up xv.2.2 xv.1 d9) xb xq xk) H := hP
              have hD : va_D A (ti_wM E ad xg xd xt xf xj xh xs (xv.1 + 1, va_up xv.2.1 xv.1 w9, va_up xv.2.2 xv.1 d9) xb xq xk) := hD
              refine lv_aload_n hx hb dX7_event_118 rfl (lv_at hl 1 rfl) ?_
              refine va_get (v := .int (nI (xv.1 + 1))) hx hb hts in_X7 hown hK hP 0 rfl rfl 26 (by decide) (hts _ q1114) (fun _ h => h) rfl dX7_event_119 ?_
              have hs : ti_Sevent EV (nI w9) (nI d9) = (nI (xv.1 + 1), EV ++ [(w9, d9)]) := by rw [ti_Sevent, if_neg hw1, if_neg (by rw [c21]; decide), if_neg (by rw [hmy]; decide), if_neg (by omega), hlen, hcw9, hcd9]
              exact hret (xv.1 + 1, va_up xv.2.1 xv.1 w9, va_up xv.2.2 xv.1 d9) _ _ _ _ _ _ _ dX7_event_122 (by rw [hs]) (by rw [hs]; exact ⟨by rw [← hEV]; exact ti_gr_push _ _ _ _ _, by show xv.1 + 1 ≤ 8; omega, ti_up_le hxv.2.1 (by omega), ti_up_le hxv.2.2 hd99⟩) hP hS (Nat.le_refl _) (Nat.le_refl _)
            · skip
              refine lv_bipush (v := (-4)) hx hb dX7_event_85 (by decide) ?_
              have hs : ti_Sevent EV (nI w9) (nI d9) = (-4, EV) := by rw [ti_Sevent, if_neg hw1, if_neg (by rw [c21]; decide), if_neg (by rw [hmy]; decide), if_pos (by omega)]
              exact hret xv _ _ _ _ _ _ _ dX7_event_87 (by rw [hs]) (by rw [hs]; exact ⟨hEV, hxv⟩) hP hS (Nat.le_refl _) (Nat.le_refl _)
          · skip
            have hmy : ti_may (nI w9) d = ti_in d (nI 0) (nI 5) := by rw [ti_may, if_neg (fun z => c27 (hw0.mp z)), if_pos (hw11.mpr c44)]
            rw [ti_inL_i (by decide) (by decide)] at c70
            refine lv_bipush (v := (-2)) hx hb dX7_event_73 (by decide) ?_
            have hs : ti_Sevent EV (nI w9) d = (-2, EV) := by rw [ti_Sevent, if_neg hw1, if_neg (by rw [c21]; decide), if_pos (by rw [hmy, c70])]
            exact hret xv _ _ _ _ _ _ _ dX7_event_75 (by rw [hs]) (by rw [hs]; exact ⟨hEV, hxv⟩) hP hS (Nat.le_refl _) (Nat.le_refl _)
      · skip
        refine lv_iload_n hx hb dX7_event_30 rfl (lv_at hl 2 rfl) ?_
        refine lv_i2l (v := Int32.toInt64 d) hx hb dX7_event_31 rfl ?_
        refine lv_lconst (v := lN 0) hx hb dX7_event_32 (by decide) ?_
        refine lv_ldc2 (v := lN 99) hx hb hown (hts _ q1413) dX7_event_33 ?_
        refine ti_pS (As := [.long (Int32.toInt64 d), .long (lN 0), .long (lN 99)]) (rest := []) (v := .int (ti_b (ti_inL (Int32.toInt64 d) (lN 0) (lN 99)))) S hE hP [] (met_X7_isFrom l D E (Int32.toInt64 d) (lN 0) (lN 99)) rfl (lw_S q1234 q1235 q73 q1236) 3 rfl (by decide +kernel) ⟨Nat.le_of_ble_eq_true rfl, Nat.le_of_ble_eq_true rfl⟩ hl.1 rfl (Nat.le_of_ble_eq_true rfl) ⟨Nat.le_refl _, Nat.le_refl _⟩ dX7_event_36 ?_
        refine lv_goto (tgt := 68) hx hb dX7_event_39 (by decide) ?_
        refine lv_istore_n (lv' := [(3, .int (ti_b (ti_inL (Int32.toInt64 d) (lN 0) (lN 99)))), (0, .ref (ad 0)), (1, .int (nI w9)), (2, .int d)]) hx hb dX7_event_68 rfl hl (by decide) rfl (fun ls hl => ?_)
        refine lv_iload_n hx hb dX7_event_69 rfl (lv_at hl 0 rfl) ?_
        refine tb_ne (tgt := 76) hx hb dX7_event_70 (by decide) (fun c70 => ?_) (fun c70 => ?_)
        · skip
          have hmy : ti_may (nI w9) d = ti_in d (nI 0) (nI 99) := by rw [ti_may, if_pos (hw0.mpr c27)]
          rw [ti_inL_i (by decide) (by decide)] at c70
          have hmy : ti_may (nI w9) d = true := by rw [hmy, c70]
          obtain ⟨d9, hd9lo, hd9hi, rfl⟩ := ti_in_nat (by decide) (by decide) c70
          have hcd9 : ti_cl (nI d9) = d9 := ti_cl_nI (by omega)
          have hd99 : d9 ≤ 99 := by omega
          refine lv_aload_n hx hb dX7_event_76 rfl (lv_at hl 1 rfl) ?_
          refine va_get (v := .int (nI xv.1)) hx hb hts in_X7 hown hK hP 0 rfl rfl 26 (by decide) (hts _ q1114) (fun _ h => h) rfl dX7_event_77 ?_
          refine lv_bipush (v := nI 8) hx hb dX7_event_80 (by decide) ?_
          refine tn_ne (tgt := 88) hx hb dX7_event_82 (by decide) (by omega) (by omega) (fun c82 => ?_) (fun c82 => ?_)
          · skip
            refine lv_aload_n hx hb dX7_event_88 rfl (lv_at hl 1 rfl) ?_
            refine va_get (v := .ref (ad 21)) hx hb hts in_X7 hown hK hP 0 rfl rfl 27 (by decide) (hts _ q1115) (fun _ h => h) rfl dX7_event_89 ?_
            refine lv_aload_n hx hb dX7_event_92 rfl (lv_at hl 1 rfl) ?_
            refine va_get (v := .int (nI xv.1)) hx hb hts in_X7 hown hK hP 0 rfl rfl 26 (by decide) (hts _ q1114) (fun _ h => h) rfl dX7_event_93 ?_
            refine lv_iload_n hx hb dX7_event_96 rfl (lv_at hl 2 rfl) ?_
            refine tn_iast (f := xv.2.1) hx hb hK hP hD hS 21 0 rfl rfl (by omega) (by decide) dX7_event_97 (fun H locs hP hD hS => ?_)
            have hP : va_P D vwCl (ti_wM E ad xg xd xt xf xj xh xs (xv.1, va_up xv.2.1 xv.1 w9, xv.2.2) xb xq xk) H := hP
            have hD : va_D A (ti_wM E ad xg xd xt xf xj xh xs (xv.1, va_up xv.2.1 xv.1 w9, xv.2.2) xb xq xk) := hD
            refine lv_aload_n hx hb dX7_event_98 rfl (lv_at hl 1 rfl) ?_
            refine va_get (v := .ref (ad 22)) hx hb hts in_X7 hown hK hP 0 rfl rfl 28 (by decide) (hts _ q1116) (fun _ h => h) rfl dX7_event_99 ?_
            refine lv_aload_n hx hb dX7_event_102 rfl (lv_at hl 1 rfl) ?_
            refine va_get (v := .int (nI xv.1)) hx hb hts in_X7 hown hK hP 0 rfl rfl 26 (by decide) (hts _ q1114) (fun _ h => h) rfl dX7_event_103 ?_
            refine lv_iload_n hx hb dX7_event_106 rfl (lv_at hl 3 rfl) ?_
            refine tn_iast (f := xv.2.2) hx hb hK hP hD hS 22 0 rfl rfl (by omega) (by decide) dX7_event_107 (fun H locs hP hD hS => ?_)
            have hP : va_P D vwCl (ti_wM E ad xg xd xt xf xj xh xs (xv.1, va_up xv.2.1 xv.1 w9, va_up xv.2.2 xv.1 d9) xb xq xk) H := hP
            have hD : va_D A (ti_wM E ad xg xd xt xf xj xh xs (xv.1, va_up xv.2.1 xv.1 w9, va_up xv.2.2 xv.1 d9) xb xq xk) := hD
            refine lv_aload_n hx hb dX7_event_108 rfl (lv_at hl 1 rfl) ?_
            refine lv_dup hx hb dX7_event_109 rfl ?_
            refine va_get (v := .int (nI xv.1)) hx hb hts in_X7 hown hK hP 0 rfl rfl 26 (by decide) (hts _ q1114) (fun _ h => h) rfl dX7_event_110 ?_
            refine lv_iconst (v := nI 1) hx hb dX7_event_113 (by decide) ?_
            refine tn_add hx hb dX7_event_114 ?_
            refine va_put (ty := .int) hx hb hts in_X7 tyX7 tyX7_ok nmX7 hown hK hP hD hS 0 rfl rfl 26 (by decide) (hts _ q1114) (fun _ h => h) rfl rfl rfl rfl (Nat.le_of_ble_eq_true rfl) dX7_event_115 (fun H locs hP hD hS => ?_)
            have hP : va_P D vwCl (ti_wM E ad xg xd xt xf xj xh xs (xv.1 + 1, va_up xv.2.1 xv.1 w9, va_up xv.2.2 xv.1 d9) xb xq xk) H := hP
            have hD : va_D A (ti_wM E ad xg xd xt xf xj xh xs (xv.1 + 1, va_up xv.2.1 xv.1 w9, va_up xv.2.2 xv.1 d9) xb xq xk) := hD
            refine lv_aload_n hx hb dX7_event_118 rfl (lv_at hl 1 rfl) ?_
            refine va_get (v := .int (nI (xv.1 + 1))) hx hb hts in_X7 hown hK hP 0 rfl rfl 26 (by decide) (hts _ q1114) (fun _ h => h) rfl dX7_event_119 ?_
            have hs : ti_Sevent EV (nI w9) (nI d9) = (nI (xv.1 + 1), EV ++ [(w9, d9)]) := by rw [ti_Sevent, if_neg hw1, if_neg (by rw [c21]; decide), if_neg (by rw [hmy]; decide), if_neg (by omega), hlen, hcw9, hcd9]
            exact hret (xv.1 + 1, va_up xv.2.1 xv.1 w9, va_up xv.2.2 xv.1 d9) _ _ _ _ _ _ _ dX7_event_122 (by rw [hs]) (by rw [hs]; exact ⟨by rw [← hEV]; exact ti_gr_push _ _ _ _ _, by show xv.1 + 1 ≤ 8; omega, ti_up_le hxv.2.1 (by omega), ti_up_le hxv.2.2 hd99⟩) hP hS (Nat.le_refl _) (Nat.le_refl _)
          · skip
            refine lv_bipush (v := (-4)) hx hb dX7_event_85 (by decide) ?_
            have hs : ti_Sevent EV (nI w9) (nI d9) = (-4, EV) := by rw [ti_Sevent, if_neg hw1, if_neg (by rw [c21]; decide), if_neg (by rw [hmy]; decide), if_pos (by omega)]
            exact hret xv _ _ _ _ _ _ _ dX7_event_87 (by rw [hs]) (by rw [hs]; exact ⟨hEV, hxv⟩) hP hS (Nat.le_refl _) (Nat.le_refl _)
        · skip
          have hmy : ti_may (nI w9) d = ti_in d (nI 0) (nI 99) := by rw [ti_may, if_pos (hw0.mpr c27)]
          rw [ti_inL_i (by decide) (by decide)] at c70
          refine lv_bipush (v := (-2)) hx hb dX7_event_73 (by decide) ?_
          have hs : ti_Sevent EV (nI w9) d = (-2, EV) := by rw [ti_Sevent, if_neg hw1, if_neg (by rw [c21]; decide), if_pos (by rw [hmy, c70])]
          exact hret xv _ _ _ _ _ _ _ dX7_event_75 (by rw [hs]) (by rw [hs]; exact ⟨hEV, hxv⟩) hP hS (Nat.le_refl _) (Nat.le_refl _)
    · skip
      rw [ti_inL_i (by decide) (by decide)] at c21
      refine lv_iconst (v := (-1)) hx hb dX7_event_24 (by decide) ?_
      have hs : ti_Sevent EV w d = (-1, EV) := by rw [ti_Sevent, if_neg hw1, if_pos c21]
      exact hret xv _ _ _ _ _ _ _ dX7_event_25 (by rw [hs]) (by rw [hs]; exact ⟨hEV, hxv⟩) hP hS (Nat.le_refl _) (Nat.le_refl _)
  · skip
    refine lv_aload_n hx hb dX7_event_5 rfl (lv_at hl 0 rfl) ?_
    refine lv_iconst (v := nI 0) hx hb dX7_event_6 (by decide) ?_
    refine va_put (ty := .int) hx hb hts in_X7 tyX7 tyX7_ok nmX7 hown hK hP hD hS 0 rfl rfl 26 (by decide) (hts _ q1114) (fun _ h => h) rfl rfl rfl rfl (Nat.le_of_ble_eq_true rfl) dX7_event_7 (fun H locs hP hD hS => ?_)
    have hP : va_P D vwCl (ti_wM E ad xg xd xt xf xj xh xs (0, xv.2.1, xv.2.2) xb xq xk) H := hP
    have hD : va_D A (ti_wM E ad xg xd xt xf xj xh xs (0, xv.2.1, xv.2.2) xb xq xk) := hD
    refine lv_iconst (v := nI 0) hx hb dX7_event_10 (by decide) ?_
    have hs : ti_Sevent EV w d = (0, []) := by rw [ti_Sevent, if_pos c2]
    exact hret (0, xv.2.1, xv.2.2) _ _ _ _ _ _ _ dX7_event_11 (by rw [hs]; rfl) (by rw [hs]; exact ⟨rfl, Nat.zero_le _, hxv.2⟩) hP hS (Nat.le_refl _) (Nat.le_refl _)

set_option maxHeartbeats 1000000 in
theorem met_X7_book (l : Launch) (D : va_G) (E : Nat → ClassId) (ad : Nat → Nat) (xg : ti_Mg) (xd : ti_Md) (xt : ti_Mt) (xf : ti_Mf) (xj : ti_Mj) (xh : ti_Mh) (xs : ti_Ms) (xv : ti_Mv) (xb : ti_Mb) (xq : ti_Mq) (xk : ti_Mk) (hxb : ti_Mbok xb) (BK : ti_GL) (hBK : ti_el xb = BK) (t z : Int32) : ti_MetM (σ := ti_Mb) l D E yX7_book cX7_book 3 (some .int) 2 0 0 (ti_wM E ad xg xd xt xf xj xh xs xv xb xq xk) [.ref (ad 0), .int t, .int z] (fun u => ti_wM E ad xg xd xt xf xj xh xs xv u xq xk) (fun u => some (.int ((fun _ => (ti_Sbook BK t z).1) u))) (fun u => ti_el u = (ti_Sbook BK t z).2 ∧ ti_Mbok u) := by
  refine ti_mutI (σ := ti_Mb) (vi := fun _ => (ti_Sbook BK t z).1) (by decide) (Nat.le_of_ble_eq_true rfl) ?_
  intro p e s m below meth c H H0 A Q ls S hE hP hD hS hA hinit hl hret
  have hx := S.1
  have hb := S.2.1
  have hown := S.2.2.2.1
  have hts := S.2.2.2.2
  have hK := hE.1
  have hl : lv_has ls 3 [(0, .ref (ad 0)), (1, .int t), (2, .int z)] := hl
  have h8 := hxb.1
  have hlen : BK.length = xb.1 := by rw [← hBK, ti_el_len]
  refine lv_iload_n hx hb dX7_book_0 rfl (lv_at hl 1 rfl) ?_
  refine lv_iconst (v := (-1)) hx hb dX7_book_1 (by decide) ?_
  refine lv_icmp_ne (tgt := 12) hx hb dX7_book_2 (by decide) (fun c2 => ?_) (fun c2 => ?_)
  · skip
    have ht1 : ¬ t = -1 := c2
    refine lv_iload_n hx hb dX7_book_12 rfl (lv_at hl 1 rfl) ?_
    refine lv_i2l (v := Int32.toInt64 t) hx hb dX7_book_13 rfl ?_
    refine lv_lconst (v := lN 0) hx hb dX7_book_14 (by decide) ?_
    refine lv_ldc2 (v := lN 99) hx hb hown (hts _ q1413) dX7_book_15 ?_
    refine ti_pS (As := [.long (Int32.toInt64 t), .long (lN 0), .long (lN 99)]) (rest := []) (v := .int (ti_b (ti_inL (Int32.toInt64 t) (lN 0) (lN 99)))) S hE hP [] (met_X7_isFrom l D E (Int32.toInt64 t) (lN 0) (lN 99)) rfl (lw_S q1234 q1235 q73 q1236) 3 rfl (by decide +kernel) ⟨Nat.le_of_ble_eq_true rfl, Nat.le_of_ble_eq_true rfl⟩ hl.1 rfl (Nat.le_of_ble_eq_true rfl) ⟨Nat.le_refl _, Nat.le_refl _⟩ dX7_book_18 ?_
    refine tb_ne (tgt := 26) hx hb dX7_book_21 (by decide) (fun c21 => ?_) (fun c21 => ?_)
    · skip
      rw [ti_inL_i (by decide) (by decide)] at c21
      obtain ⟨t9, ht9lo, ht9hi, rfl⟩ := ti_in_nat (by decide) (by decide) c21
      have hct9 : ti_cl (nI t9) = t9 := ti_cl_nI (by omega)
      refine lv_iload_n hx hb dX7_book_26 rfl (lv_at hl 2 rfl) ?_
      refine lv_i2l (v := Int32.toInt64 z) hx hb dX7_book_27 rfl ?_
      refine lv_lconst (v := lN 0) hx hb dX7_book_28 (by decide) ?_
      refine lv_lconst (v := lN 1) hx hb dX7_book_29 (by decide) ?_
      refine ti_pS (As := [.long (Int32.toInt64 z), .long (lN 0), .long (lN 1)]) (rest := []) (v := .int (ti_b (ti_inL (Int32.toInt64 z) (lN 0) (lN 1)))) S hE hP [] (met_X7_isFrom l D E (Int32.toInt64 z) (lN 0) (lN 1)) rfl (lw_S q1234 q1235 q73 q1236) 3 rfl (by decide +kernel) ⟨Nat.le_of_ble_eq_true rfl, Nat.le_of_ble_eq_true rfl⟩ hl.1 rfl (Nat.le_of_ble_eq_true rfl) ⟨Nat.le_refl _, Nat.le_refl _⟩ dX7_book_30 ?_
      refine tb_ne (tgt := 39) hx hb dX7_book_33 (by decide) (fun c33 => ?_) (fun c33 => ?_)
      · skip
        have c33 : ti_bt z = true := by rw [← c33]; exact (ti_inL_i (by decide) (by decide)).symm
        obtain ⟨z9, hz9, rfl⟩ := ti_bt_nat c33
        have hcz : ti_cl (nI z9) = z9 := ti_cl_nI (by omega)
        refine lv_aload_n hx hb dX7_book_39 rfl (lv_at hl 0 rfl) ?_
        refine va_get (v := .int (nI xb.1)) hx hb hts in_X7 hown hK hP 0 rfl rfl 29 (by decide) (hts _ q1117) (fun _ h => h) rfl dX7_book_40 ?_
        refine lv_bipush (v := nI 8) hx hb dX7_book_43 (by decide) ?_
        refine tn_ne (tgt := 51) hx hb dX7_book_45 (by decide) (by omega) (by omega) (fun c45 => ?_) (fun c45 => ?_)
        · skip
          refine lv_aload_n hx hb dX7_book_51 rfl (lv_at hl 0 rfl) ?_
          refine va_get (v := .ref (ad 23)) hx hb hts in_X7 hown hK hP 0 rfl rfl 30 (by decide) (hts _ q1118) (fun _ h => h) rfl dX7_book_52 ?_
          refine lv_aload_n hx hb dX7_book_55 rfl (lv_at hl 0 rfl) ?_
          refine va_get (v := .int (nI xb.1)) hx hb hts in_X7 hown hK hP 0 rfl rfl 29 (by decide) (hts _ q1117) (fun _ h => h) rfl dX7_book_56 ?_
          refine lv_iload_n hx hb dX7_book_59 rfl (lv_at hl 1 rfl) ?_
          refine tn_iast (f := xb.2.1) hx hb hK hP hD hS 23 0 rfl rfl (by omega) (by decide) dX7_book_60 (fun H locs hP hD hS => ?_)
          have hP : va_P D vwCl (ti_wM E ad xg xd xt xf xj xh xs xv (xb.1, va_up xb.2.1 xb.1 t9, xb.2.2) xq xk) H := hP
          have hD : va_D A (ti_wM E ad xg xd xt xf xj xh xs xv (xb.1, va_up xb.2.1 xb.1 t9, xb.2.2) xq xk) := hD
          refine lv_aload_n hx hb dX7_book_61 rfl (lv_at hl 0 rfl) ?_
          refine va_get (v := .ref (ad 24)) hx hb hts in_X7 hown hK hP 0 rfl rfl 31 (by decide) (hts _ q1119) (fun _ h => h) rfl dX7_book_62 ?_
          refine lv_aload_n hx hb dX7_book_65 rfl (lv_at hl 0 rfl) ?_
          refine va_get (v := .int (nI xb.1)) hx hb hts in_X7 hown hK hP 0 rfl rfl 29 (by decide) (hts _ q1117) (fun _ h => h) rfl dX7_book_66 ?_
          refine lv_iload_n hx hb dX7_book_69 rfl (lv_at hl 2 rfl) ?_
          refine tn_iast (f := xb.2.2) hx hb hK hP hD hS 24 0 rfl rfl (by omega) (by decide) dX7_book_70 (fun H locs hP hD hS => ?_)
          have hP : va_P D vwCl (ti_wM E ad xg xd xt xf xj xh xs xv (xb.1, va_up xb.2.1 xb.1 t9, va_up xb.2.2 xb.1 z9) xq xk) H := hP
          have hD : va_D A (ti_wM E ad xg xd xt xf xj xh xs xv (xb.1, va_up xb.2.1 xb.1 t9, va_up xb.2.2 xb.1 z9) xq xk) := hD
          refine lv_aload_n hx hb dX7_book_71 rfl (lv_at hl 0 rfl) ?_
          refine lv_dup hx hb dX7_book_72 rfl ?_
          refine va_get (v := .int (nI xb.1)) hx hb hts in_X7 hown hK hP 0 rfl rfl 29 (by decide) (hts _ q1117) (fun _ h => h) rfl dX7_book_73 ?_
          refine lv_iconst (v := nI 1) hx hb dX7_book_76 (by decide) ?_
          refine tn_add hx hb dX7_book_77 ?_
          refine va_put (ty := .int) hx hb hts in_X7 tyX7 tyX7_ok nmX7 hown hK hP hD hS 0 rfl rfl 29 (by decide) (hts _ q1117) (fun _ h => h) rfl rfl rfl rfl (Nat.le_of_ble_eq_true rfl) dX7_book_78 (fun H locs hP hD hS => ?_)
          have hP : va_P D vwCl (ti_wM E ad xg xd xt xf xj xh xs xv (xb.1 + 1, va_up xb.2.1 xb.1 t9, va_up xb.2.2 xb.1 z9) xq xk) H := hP
          have hD : va_D A (ti_wM E ad xg xd xt xf xj xh xs xv (xb.1 + 1, va_up xb.2.1 xb.1 t9, va_up xb.2.2 xb.1 z9) xq xk) := hD
          refine lv_aload_n hx hb dX7_book_81 rfl (lv_at hl 0 rfl) ?_
          refine va_get (v := .int (nI (xb.1 + 1))) hx hb hts in_X7 hown hK hP 0 rfl rfl 29 (by decide) (hts _ q1117) (fun _ h => h) rfl dX7_book_82 ?_
          have hs : ti_Sbook BK (nI t9) (nI z9) = (nI (xb.1 + 1), BK ++ [(t9, z9)]) := by rw [ti_Sbook, if_neg ht1, if_neg (by rw [c21]; decide), if_neg (by rw [c33]; decide), if_neg (by omega), hlen, hct9, hcz]
          exact hret (xb.1 + 1, va_up xb.2.1 xb.1 t9, va_up xb.2.2 xb.1 z9) _ _ _ _ _ _ _ dX7_book_85 (by rw [hs]) (by rw [hs]; exact ⟨by rw [← hBK]; exact ti_gr_push _ _ _ _ _, by show xb.1 + 1 ≤ 8; omega, ti_up_le hxb.2.1 (by omega), ti_up_le hxb.2.2 (by omega)⟩) hP hS (Nat.le_refl _) (Nat.le_refl _)
        · skip
          refine lv_bipush (v := (-4)) hx hb dX7_book_48 (by decide) ?_
          have hs : ti_Sbook BK (nI t9) (nI z9) = (-4, BK) := by rw [ti_Sbook, if_neg ht1, if_neg (by rw [c21]; decide), if_neg (by rw [c33]; decide), if_pos (by omega)]
          exact hret xb _ _ _ _ _ _ _ dX7_book_50 (by rw [hs]) (by rw [hs]; exact ⟨hBK, hxb⟩) hP hS (Nat.le_refl _) (Nat.le_refl _)
      · skip
        have c33 : ti_bt z = false := by rw [← c33]; exact (ti_inL_i (by decide) (by decide)).symm
        refine lv_bipush (v := (-2)) hx hb dX7_book_36 (by decide) ?_
        have hs : ti_Sbook BK (nI t9) z = (-2, BK) := by rw [ti_Sbook, if_neg ht1, if_neg (by rw [c21]; decide), if_pos c33]
        exact hret xb _ _ _ _ _ _ _ dX7_book_38 (by rw [hs]) (by rw [hs]; exact ⟨hBK, hxb⟩) hP hS (Nat.le_refl _) (Nat.le_refl _)
    · skip
      rw [ti_inL_i (by decide) (by decide)] at c21
      refine lv_iconst (v := (-1)) hx hb dX7_book_24 (by decide) ?_
      have hs : ti_Sbook BK t z = (-1, BK) := by rw [ti_Sbook, if_neg ht1, if_pos c21]
      exact hret xb _ _ _ _ _ _ _ dX7_book_25 (by rw [hs]) (by rw [hs]; exact ⟨hBK, hxb⟩) hP hS (Nat.le_refl _) (Nat.le_refl _)
  · skip
    refine lv_aload_n hx hb dX7_book_5 rfl (lv_at hl 0 rfl) ?_
    refine lv_iconst (v := nI 0) hx hb dX7_book_6 (by decide) ?_
    refine va_put (ty := .int) hx hb hts in_X7 tyX7 tyX7_ok nmX7 hown hK hP hD hS 0 rfl rfl 29 (by decide) (hts _ q1117) (fun _ h => h) rfl rfl rfl rfl (Nat.le_of_ble_eq_true rfl) dX7_book_7 (fun H locs hP hD hS => ?_)
    have hP : va_P D vwCl (ti_wM E ad xg xd xt xf xj xh xs xv (0, xb.2.1, xb.2.2) xq xk) H := hP
    have hD : va_D A (ti_wM E ad xg xd xt xf xj xh xs xv (0, xb.2.1, xb.2.2) xq xk) := hD
    refine lv_iconst (v := nI 0) hx hb dX7_book_10 (by decide) ?_
    have hs : ti_Sbook BK t z = (0, []) := by rw [ti_Sbook, if_pos c2]
    exact hret (0, xb.2.1, xb.2.2) _ _ _ _ _ _ _ dX7_book_11 (by rw [hs]; rfl) (by rw [hs]; exact ⟨rfl, Nat.zero_le _, hxb.2⟩) hP hS (Nat.le_refl _) (Nat.le_refl _)

set_option maxHeartbeats 1000000 in
theorem met_X7_looked (l : Launch) (D : va_G) (E : Nat → ClassId) (ad : Nat → Nat) (xg : ti_Mg) (xd : ti_Md) (xt : ti_Mt) (xf : ti_Mf) (xj : ti_Mj) (xh : ti_Mh) (xs : ti_Ms) (xv : ti_Mv) (xb : ti_Mb) (xq : ti_Mq) (xk : ti_Mk) (hxg : ti_Mgok xg) (I : Nat → ti_GL) (hI : ti_MI xg I) (hxb : ti_Mbok xb) (BK : ti_GL) (hBK : ti_el xb = BK) : ti_MetP l D E yX7_looked cX7_looked 2 (some .int) 3 (ti_wM E ad xg xd xt xf xj xh xs xv xb xq xk) [.ref (ad 0)] (some (.int (ti_lkd (I 0) BK 0))) := by
  refine ti_pureI (by decide) (Nat.le_of_ble_eq_true rfl) ?_
  intro p e s m below meth c H locs Q ls S hE hP hl hret
  have hx := S.1
  have hb := S.2.1
  have hown := S.2.2.2.1
  have hts := S.2.2.2.2
  have hK := hE.1
  have hl : lv_has ls 2 [(0, .ref (ad 0))] := hl
  have h8 := hxb.1
  refine lv_iconst (v := nI 0) hx hb dX7_looked_0 (by decide) ?_
  refine lv_istore_n (lv' := [(1, .int (nI 0)), (0, .ref (ad 0))]) hx hb dX7_looked_1 rfl hl (by decide) rfl (fun ls hl => ?_)
  have L2 : ∀ (N : Nat) (k9 : Nat) (ls : Array Slot), (xb.1 - k9) < N → (k9 ≤ xb.1) → (ti_lkd (I 0) BK 0 = ti_lkd (I 0) (ti_gr xb.2.1 xb.2.2 k9 (xb.1 - k9)) k9) → lv_has ls 2 [(0, .ref (ad 0)), (1, .int (nI k9))] → W p l e (ti_rm 3 0 0) s m ([.ref (ad 0)] : List Value).toArray below meth c H locs 0 0 Q (F0 m 2 ls []) := by
    intro N
    induction N with
    | zero => intro k9 ls h0; exact absurd h0 (Nat.not_lt_zero _)
    | succ N ih2 =>
      intro k9 ls hN hkn hv hl
      refine lv_iload_n hx hb dX7_looked_2 rfl (lv_at hl 1 rfl) ?_
      refine lv_aload_n hx hb dX7_looked_3 rfl (lv_at hl 0 rfl) ?_
      refine va_get (v := .int (nI xb.1)) hx hb hts in_X7 hown hK hP 0 rfl rfl 29 (by decide) (hts _ q1117) (fun _ h => h) rfl dX7_looked_4 ?_
      refine tn_ge (tgt := 58) hx hb dX7_looked_7 (by decide) (by omega) (by omega) (fun c7 => ?_) (fun c7 => ?_)
      · skip
        rw [show xb.1 - k9 = 0 by omega] at hv
        have hv : ti_lkd (I 0) BK 0 = -5 := hv
        refine lv_bipush (v := (-5)) hx hb dX7_looked_58 (by decide) ?_
        exact hret _ _ _ dX7_looked_60 (by rw [hv])
      · skip
        obtain ⟨m9, hm9⟩ : ∃ m9, xb.1 - k9 = m9 + 1 := ⟨xb.1 - k9 - 1, by omega⟩
        rw [hm9, ti_gr_s] at hv
        have hb99 := hxb.2.1 k9
        refine lv_aload_n hx hb dX7_looked_10 rfl (lv_at hl 0 rfl) ?_
        refine lv_iconst (v := nI 0) hx hb dX7_looked_11 (by decide) ?_
        refine lv_aload_n hx hb dX7_looked_12 rfl (lv_at hl 0 rfl) ?_
        refine va_get (v := .ref (ad 23)) hx hb hts in_X7 hown hK hP 0 rfl rfl 30 (by decide) (hts _ q1118) (fun _ h => h) rfl dX7_looked_13 ?_
        refine lv_iload_n hx hb dX7_looked_16 rfl (lv_at hl 1 rfl) ?_
        refine tn_iald (f := xb.2.1) hx hb hK hP 23 0 rfl rfl (by omega) (by decide) dX7_looked_17 ?_
        have b17 := hxb.2.1 k9
        refine lv_bipush (v := nI 10) hx hb dX7_looked_18 (by decide) ?_
        refine tn_div hx hb dX7_looked_20 (by omega) (by omega) (by omega) ?_
        refine lv_aload_n hx hb dX7_looked_21 rfl (lv_at hl 0 rfl) ?_
        refine va_get (v := .ref (ad 23)) hx hb hts in_X7 hown hK hP 0 rfl rfl 30 (by decide) (hts _ q1118) (fun _ h => h) rfl dX7_looked_22 ?_
        refine lv_iload_n hx hb dX7_looked_25 rfl (lv_at hl 1 rfl) ?_
        refine tn_iald (f := xb.2.1) hx hb hK hP 23 0 rfl rfl (by omega) (by decide) dX7_looked_26 ?_
        have b26 := hxb.2.1 k9
        refine lv_bipush (v := nI 10) hx hb dX7_looked_27 (by decide) ?_
        refine tn_rem hx hb dX7_looked_29 (by omega) (by omega) (by omega) ?_
        refine ti_pVa (As := [.int (nI 0), .int (nI ((xb.2.1 k9) / 10)), .int (nI ((xb.2.1 k9) % 10))]) (rest := []) (v := .int (ti_b (ti_hb (xb.2.1 k9 / 10) (xb.2.1 k9 % 10) (-5) (ti_G xg 0) 0))) S hE hP (met_X7_isWithin l D E ad xg xd xt xf xj xh xs xv xb xq xk hxg 0 (by decide) (xb.2.1 k9 / 10) (xb.2.1 k9 % 10) (by omega) (by omega)) (lw_V q1375 q1377 qs45 q73 q1378) 3 rfl 0 rfl rfl (by decide +kernel) ⟨Nat.le_of_ble_eq_true rfl, Nat.le_of_ble_eq_true rfl⟩ hl.1 rfl (Nat.le_of_ble_eq_true rfl) ⟨Nat.le_refl _, Nat.le_refl _⟩ dX7_looked_30 ?_
        refine tb_eq (tgt := 40) hx hb dX7_looked_33 (by decide) (fun c33 => ?_) (fun c33 => ?_)
        · skip
          refine lv_iconst (v := nI 0) hx hb dX7_looked_40 (by decide) ?_
          refine lv_aload_n hx hb dX7_looked_41 rfl (lv_at hl 0 rfl) ?_
          refine va_get (v := .ref (ad 24)) hx hb hts in_X7 hown hK hP 0 rfl rfl 31 (by decide) (hts _ q1119) (fun _ h => h) rfl dX7_looked_42 ?_
          refine lv_iload_n hx hb dX7_looked_45 rfl (lv_at hl 1 rfl) ?_
          refine tn_iald (f := xb.2.2) hx hb hK hP 24 0 rfl rfl (by omega) (by decide) dX7_looked_46 ?_
          have b46 := hxb.2.2 k9
          refine tn_eq (tgt := 52) hx hb dX7_looked_47 (by decide) (by omega) (by omega) (fun c47 => ?_) (fun c47 => ?_)
          · skip
            refine lv_iinc (v := nI (k9 + 1)) (lv' := [(1, .int (nI (k9 + 1))), (0, .ref (ad 0))]) hx hb dX7_looked_52 hl (k := 1) rfl (nI_1 k9) (by decide) rfl (fun ls hl => ?_)
            refine lv_goto (tgt := 2) hx hb dX7_looked_55 (by decide) ?_
            exact ih2 (k9 + 1) _ (by omega) (by omega) (by rw [hv, ti_lkd, ← hI 0 (by decide), if_pos (by rw [show ti_hb (xb.2.1 k9 / 10) (xb.2.1 k9 % 10) (-5) (ti_G xg 0) 0 = _ from c33]; exact congrArg nI (show 0 = xb.2.2 k9 by omega)), show xb.1 - (k9 + 1) = m9 by omega, hI 0 (by decide)]) (lv_sub hl [1, 0] rfl)
          · skip
            refine lv_iload_n hx hb dX7_looked_50 rfl (lv_at hl 1 rfl) ?_
            exact hret _ _ _ dX7_looked_51 (by rw [hv, ti_lkd, ← hI 0 (by decide), if_neg (by rw [show ti_hb (xb.2.1 k9 / 10) (xb.2.1 k9 % 10) (-5) (ti_G xg 0) 0 = _ from c33]; exact fun z => c47 ((nI_eq (a := 0) (by decide) (by omega)).mp z))])
        · skip
          refine lv_iconst (v := nI 1) hx hb dX7_looked_36 (by decide) ?_
          refine lv_goto (tgt := 41) hx hb dX7_looked_37 (by decide) ?_
          refine lv_aload_n hx hb dX7_looked_41 rfl (lv_at hl 0 rfl) ?_
          refine va_get (v := .ref (ad 24)) hx hb hts in_X7 hown hK hP 0 rfl rfl 31 (by decide) (hts _ q1119) (fun _ h => h) rfl dX7_looked_42 ?_
          refine lv_iload_n hx hb dX7_looked_45 rfl (lv_at hl 1 rfl) ?_
          refine tn_iald (f := xb.2.2) hx hb hK hP 24 0 rfl rfl (by omega) (by decide) dX7_looked_46 ?_
          have b46 := hxb.2.2 k9
          refine tn_eq (tgt := 52) hx hb dX7_looked_47 (by decide) (by omega) (by omega) (fun c47 => ?_) (fun c47 => ?_)
          · skip
            refine lv_iinc (v := nI (k9 + 1)) (lv' := [(1, .int (nI (k9 + 1))), (0, .ref (ad 0))]) hx hb dX7_looked_52 hl (k := 1) rfl (nI_1 k9) (by decide) rfl (fun ls hl => ?_)
            refine lv_goto (tgt := 2) hx hb dX7_looked_55 (by decide) ?_
            exact ih2 (k9 + 1) _ (by omega) (by omega) (by rw [hv, ti_lkd, ← hI 0 (by decide), if_pos (by rw [show ti_hb (xb.2.1 k9 / 10) (xb.2.1 k9 % 10) (-5) (ti_G xg 0) 0 = _ from c33]; exact congrArg nI (show 1 = xb.2.2 k9 by omega)), show xb.1 - (k9 + 1) = m9 by omega, hI 0 (by decide)]) (lv_sub hl [1, 0] rfl)
          · skip
            refine lv_iload_n hx hb dX7_looked_50 rfl (lv_at hl 1 rfl) ?_
            exact hret _ _ _ dX7_looked_51 (by rw [hv, ti_lkd, ← hI 0 (by decide), if_neg (by rw [show ti_hb (xb.2.1 k9 / 10) (xb.2.1 k9 % 10) (-5) (ti_G xg 0) 0 = _ from c33]; exact fun z => c47 ((nI_eq (a := 1) (by decide) (by omega)).mp z))])
  exact L2 _ 0 _ (Nat.lt_succ_self _) (by omega) (by rw [← hBK]; rfl) (lv_sub hl [1, 0] rfl)
