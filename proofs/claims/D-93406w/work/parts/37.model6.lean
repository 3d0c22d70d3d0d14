/-! TermIdealsModel: public methods, first part (printed by w_model6.py) -/
set_option maxRecDepth 100000

set_option maxHeartbeats 1000000 in
theorem met_X7_generate (l : Launch) (D : va_G) (E : Nat → ClassId) (ad : Nat → Nat) (xg : ti_Mg) (xd : ti_Md) (xt : ti_Mt) (xf : ti_Mf) (xj : ti_Mj) (xh : ti_Mh) (xs : ti_Ms) (xv : ti_Mv) (xb : ti_Mb) (xq : ti_Mq) (xk : ti_Mk) (hxg : ti_Mgok xg) (I : Nat → ti_GL) (hI : ti_MI xg I) (hxd : ti_Mdok xd) (DD : ti_DL) (hDD : ti_mdl xd 0 xd.1 = DD) (v a b : Int32) : ti_MetM (σ := ti_Mg × ti_Md) l D E yX7_generate cX7_generate 4 (some .int) 4 0 0 (ti_wM E ad xg xd xt xf xj xh xs xv xb xq xk) [.ref (ad 0), .int v, .int a, .int b] (fun u => ti_wM E ad u.1 u.2 xt xf xj xh xs xv xb xq xk) (fun u => some (.int ((fun _ => (ti_Sgen I DD v a b).1) u))) (fun u => ti_MI u.1 (ti_Sgen I DD v a b).2.1 ∧ ti_mdl u.2 0 u.2.1 = (ti_Sgen I DD v a b).2.2 ∧ ti_Mgok u.1 ∧ ti_Mdok u.2) := by
  refine ti_mutI (σ := ti_Mg × ti_Md) (vi := fun _ => (ti_Sgen I DD v a b).1) (by decide) (Nat.le_of_ble_eq_true rfl) ?_
  intro p e s m below meth c H H0 A Q ls S hE hP hD hS hA hinit hl hret
  have hx := S.1
  have hb := S.2.1
  have hown := S.2.2.2.1
  have hts := S.2.2.2.2
  have hK := hE.1
  have hl : lv_has ls 4 [(0, .ref (ad 0)), (1, .int v), (2, .int a), (3, .int b)] := hl
  refine lv_iload_n hx hb dX7_generate_0 rfl (lv_at hl 1 rfl) ?_
  refine ti_pS (As := [.int v]) (rest := []) (v := .int (ti_b (ti_bt v))) S hE hP [] (met_X7_isIdeal l D E v) rfl (lw_S q1231 q1232 q73 q1233) 1 rfl (by decide +kernel) ⟨Nat.le_of_ble_eq_true rfl, Nat.le_of_ble_eq_true rfl⟩ hl.1 rfl (Nat.le_of_ble_eq_true rfl) ⟨Nat.le_refl _, Nat.le_refl _⟩ dX7_generate_1 ?_
  refine tb_ne (tgt := 9) hx hb dX7_generate_4 (by decide) (fun c4 => ?_) (fun c4 => ?_)
  · skip
    obtain ⟨i, hi2, rfl⟩ := ti_bt_nat c4
    have hci : ti_cl (nI i) = i := ti_cl_nI (by omega)
    refine lv_iload_n hx hb dX7_generate_9 rfl (lv_at hl 2 rfl) ?_
    refine ti_pS (As := [.int a]) (rest := []) (v := .int (ti_b (ti_b9 a))) S hE hP [] (met_X7_isPower l D E a) rfl (lw_S q1237 q1238 q73 q1239) 1 rfl (by decide +kernel) ⟨Nat.le_of_ble_eq_true rfl, Nat.le_of_ble_eq_true rfl⟩ hl.1 rfl (Nat.le_of_ble_eq_true rfl) ⟨Nat.le_refl _, Nat.le_refl _⟩ dX7_generate_10 ?_
    refine tb_eq (tgt := 23) hx hb dX7_generate_13 (by decide) (fun c13 => ?_) (fun c13 => ?_)
    · skip
      refine lv_bipush (v := (-2)) hx hb dX7_generate_23 (by decide) ?_
      have hs : ti_Sgen I DD (nI i) a b = (-2, I, DD) := by simp [ti_Sgen, c4, c13]
      exact hret (xg, xd) _ _ _ _ _ _ _ dX7_generate_25 (by rw [hs]) (by rw [hs]; exact ⟨hI, hDD, hxg, hxd⟩) hP hS (Nat.le_refl _) (Nat.le_refl _)
    · skip
      obtain ⟨a9, ha9, rfl⟩ := ti_b9_nat c13
      have hca : ti_cl (nI a9) = a9 := ti_cl_nI (by omega)
      refine lv_iload_n hx hb dX7_generate_16 rfl (lv_at hl 3 rfl) ?_
      refine ti_pS (As := [.int b]) (rest := []) (v := .int (ti_b (ti_b9 b))) S hE hP [] (met_X7_isPower l D E b) rfl (lw_S q1237 q1238 q73 q1239) 1 rfl (by decide +kernel) ⟨Nat.le_of_ble_eq_true rfl, Nat.le_of_ble_eq_true rfl⟩ hl.1 rfl (Nat.le_of_ble_eq_true rfl) ⟨Nat.le_refl _, Nat.le_refl _⟩ dX7_generate_17 ?_
      refine tb_ne (tgt := 26) hx hb dX7_generate_20 (by decide) (fun c20 => ?_) (fun c20 => ?_)
      · skip
        obtain ⟨b9, hb9, rfl⟩ := ti_b9_nat c20
        have hcb : ti_cl (nI b9) = b9 := ti_cl_nI (by omega)
        have hg := hI i hi2
        refine lv_aload_n hx hb dX7_generate_26 rfl (lv_at hl 0 rfl) ?_
        refine lv_iload_n hx hb dX7_generate_27 rfl (lv_at hl 1 rfl) ?_
        refine lv_iload_n hx hb dX7_generate_28 rfl (lv_at hl 2 rfl) ?_
        refine lv_iload_n hx hb dX7_generate_29 rfl (lv_at hl 3 rfl) ?_
        refine ti_pVa (As := [.int (nI i), .int (nI a9), .int (nI b9)]) (rest := []) (v := .int (ti_pm (ti_pl a9 b9 (ti_G xg i) 0))) S hE hP (met_X7_which l D E ad xg xd xt xf xj xh xs xv xb xq xk hxg i (by omega) a9 b9 ha9 hb9) (lw_V q1241 q1243 qs25 q73 q1244) 3 rfl 0 rfl rfl (by decide +kernel) ⟨Nat.le_of_ble_eq_true rfl, Nat.le_of_ble_eq_true rfl⟩ hl.1 rfl (Nat.le_of_ble_eq_true rfl) ⟨Nat.le_refl _, Nat.le_refl _⟩ dX7_generate_30 ?_
        refine lv_iconst (v := (-1)) hx hb dX7_generate_33 (by decide) ?_
        refine lv_icmp_eq (tgt := 40) hx hb dX7_generate_34 (by decide) (fun c34 => ?_) (fun c34 => ?_)
        · skip
          have hm := (ti_placeM (by rw [ti_gr_len]; have := hxg.1 i; omega)).mp c34
          rw [hg] at hm
          have hlen : (I i).length = xg.1 i := by rw [← hg, ti_gr_len]
          refine lv_aload_n hx hb dX7_generate_40 rfl (lv_at hl 0 rfl) ?_
          refine va_get (v := .ref (ad 1)) hx hb hts in_X7 hown hK hP 0 rfl rfl 0 (by decide) (hts _ q1088) (fun _ h => h) rfl dX7_generate_41 ?_
          refine lv_iload_n hx hb dX7_generate_44 rfl (lv_at hl 1 rfl) ?_
          refine tn_iald (f := xg.1) hx hb hK hP 1 0 rfl rfl (by omega) (by decide) dX7_generate_45 ?_
          have b45 := hxg.1 i
          refine lv_bipush (v := nI 6) hx hb dX7_generate_46 (by decide) ?_
          refine tn_ne (tgt := 54) hx hb dX7_generate_48 (by decide) (by omega) (by omega) (fun c48 => ?_) (fun c48 => ?_)
          · skip
            refine lv_aload_n hx hb dX7_generate_54 rfl (lv_at hl 0 rfl) ?_
            refine lv_iload_n hx hb dX7_generate_55 rfl (lv_at hl 1 rfl) ?_
            refine ti_mVa (As := [.int (nI i)]) (rest := []) S hE hP hD hS hA (met_X7_deed l D E ad xg xd xt xf xj xh xs xv xb xq xk hxg hxd i (by omega)) (fun _ => rfl) (lw_V q1253 q1255 qs28 q73 q1256) 1 rfl 0 rfl rfl (by decide +kernel) ⟨Nat.le_of_ble_eq_true rfl, Nat.le_of_ble_eq_true rfl⟩ hl.1 rfl (Nat.le_of_ble_eq_true rfl) ⟨Nat.le_refl _, Nat.le_refl _⟩ dX7_generate_56 (fun ud H locs hu hP hD hS => ?_)
            obtain ⟨ud1, ud2, ud3⟩ := hu
            have hP : va_P D vwCl (ti_wM E ad xg ud xt xf xj xh xs xv xb xq xk) H := hP
            have hD : va_D A (ti_wM E ad xg ud xt xf xj xh xs xv xb xq xk) := hD
            refine W.eq (g2 := F0 m 59 ls []) rfl ?_
            refine lv_aload_n hx hb dX7_generate_59 rfl (lv_at hl 0 rfl) ?_
            refine lv_iload_n hx hb dX7_generate_60 rfl (lv_at hl 1 rfl) ?_
            refine lv_iload_n hx hb dX7_generate_61 rfl (lv_at hl 2 rfl) ?_
            refine lv_iload_n hx hb dX7_generate_62 rfl (lv_at hl 3 rfl) ?_
            refine ti_mVa (As := [.int (nI i), .int (nI a9), .int (nI b9)]) (rest := []) S hE hP hD hS hA (met_X7_comes l D E ad xg ud xt xf xj xh xs xv xb xq xk i (by omega) a9 b9 (by have := hxg.1 i; omega)) (fun _ => rfl) (lw_V q1257 q1259 qs29 q73 q1260) 3 rfl 0 rfl rfl (by decide +kernel) ⟨Nat.le_of_ble_eq_true rfl, Nat.le_of_ble_eq_true rfl⟩ hl.1 rfl (Nat.le_of_ble_eq_true rfl) ⟨Nat.le_refl _, Nat.le_refl _⟩ dX7_generate_63 (fun _ H locs hu hP hD hS => ?_)
            have hP : va_P D vwCl (ti_wM E ad (ti_mcm xg i a9 b9) ud xt xf xj xh xs xv xb xq xk) H := hP
            have hD : va_D A (ti_wM E ad (ti_mcm xg i a9 b9) ud xt xf xj xh xs xv xb xq xk) := hD
            refine W.eq (g2 := F0 m 66 ls []) rfl ?_
            refine lv_aload_n hx hb dX7_generate_66 rfl (lv_at hl 0 rfl) ?_
            refine va_get (v := .ref (ad 1)) hx hb hts in_X7 hown hK hP 0 rfl rfl 0 (by decide) (hts _ q1088) (fun _ h => h) rfl dX7_generate_67 ?_
            refine lv_iload_n hx hb dX7_generate_70 rfl (lv_at hl 1 rfl) ?_
            refine tn_iald (f := (ti_mcm xg i a9 b9).1) hx hb hK hP 1 0 rfl rfl (by omega) (by decide) dX7_generate_71 ?_
            have hs : ti_Sgen I DD (nI i) (nI a9) (nI b9) = (nI (xg.1 i + 1), va_up I i (I i ++ [(a9, b9)]), ti_keep (i, I i) DD) := by simp [ti_Sgen, c4, c13, c20, hci, hca, hcb, hm, hlen, c48]
            exact hret (ti_mcm xg i a9 b9, ud) _ _ _ _ _ _ _ dX7_generate_72 (by rw [hs]; show nI (va_up xg.1 i (xg.1 i + 1) i) = _; rw [va_up_self]) (by rw [hs]; exact ⟨ti_MI_up hI (by rw [ti_mcm_G, hg]) (fun j _ hj => ti_mcm_Gn hxg (by have := hxg.1 i; omega) hj), by rw [ud1, hg, hDD], ti_mcm_ok hxg (by have := hxg.1 i; omega) ha9 hb9, ud2⟩) hP hS (Nat.le_refl _) (Nat.le_refl _)
          · skip
            refine lv_bipush (v := (-4)) hx hb dX7_generate_51 (by decide) ?_
            have hs : ti_Sgen I DD (nI i) (nI a9) (nI b9) = (-4, I, DD) := by simp [ti_Sgen, c4, c13, c20, hci, hca, hcb, hm, hlen, c48]
            exact hret (xg, xd) _ _ _ _ _ _ _ dX7_generate_53 (by rw [hs]) (by rw [hs]; exact ⟨hI, hDD, hxg, hxd⟩) hP hS (Nat.le_refl _) (Nat.le_refl _)
        · skip
          have hm : (a9, b9) ∈ I i := by rw [← hg]; exact Classical.not_not.mp fun z => c34 ((ti_placeM (by rw [ti_gr_len]; have := hxg.1 i; omega)).mpr z)
          refine lv_bipush (v := (-3)) hx hb dX7_generate_37 (by decide) ?_
          have hs : ti_Sgen I DD (nI i) (nI a9) (nI b9) = (-3, I, DD) := by simp [ti_Sgen, c4, c13, c20, hci, hca, hcb, hm]
          exact hret (xg, xd) _ _ _ _ _ _ _ dX7_generate_39 (by rw [hs]) (by rw [hs]; exact ⟨hI, hDD, hxg, hxd⟩) hP hS (Nat.le_refl _) (Nat.le_refl _)
      · skip
        refine lv_bipush (v := (-2)) hx hb dX7_generate_23 (by decide) ?_
        have hs : ti_Sgen I DD (nI i) (nI a9) b = (-2, I, DD) := by simp [ti_Sgen, c4, c13, c20]
        exact hret (xg, xd) _ _ _ _ _ _ _ dX7_generate_25 (by rw [hs]) (by rw [hs]; exact ⟨hI, hDD, hxg, hxd⟩) hP hS (Nat.le_refl _) (Nat.le_refl _)
  · skip
    refine lv_iconst (v := (-1)) hx hb dX7_generate_7 (by decide) ?_
    have hs : ti_Sgen I DD v a b = (-1, I, DD) := by simp [ti_Sgen, c4]
    exact hret (xg, xd) _ _ _ _ _ _ _ dX7_generate_8 (by rw [hs]) (by rw [hs]; exact ⟨hI, hDD, hxg, hxd⟩) hP hS (Nat.le_refl _) (Nat.le_refl _)

set_option maxHeartbeats 1000000 in
theorem met_X7_drop (l : Launch) (D : va_G) (E : Nat → ClassId) (ad : Nat → Nat) (xg : ti_Mg) (xd : ti_Md) (xt : ti_Mt) (xf : ti_Mf) (xj : ti_Mj) (xh : ti_Mh) (xs : ti_Ms) (xv : ti_Mv) (xb : ti_Mb) (xq : ti_Mq) (xk : ti_Mk) (hxg : ti_Mgok xg) (I : Nat → ti_GL) (hI : ti_MI xg I) (hxd : ti_Mdok xd) (DD : ti_DL) (hDD : ti_mdl xd 0 xd.1 = DD) (v k : Int32) : ti_MetM (σ := ti_Mg × ti_Md) l D E yX7_drop cX7_drop 3 (some .int) 4 0 0 (ti_wM E ad xg xd xt xf xj xh xs xv xb xq xk) [.ref (ad 0), .int v, .int k] (fun u => ti_wM E ad u.1 u.2 xt xf xj xh xs xv xb xq xk) (fun u => some (.int ((fun _ => (ti_Sdrop I DD v k).1) u))) (fun u => ti_MI u.1 (ti_Sdrop I DD v k).2.1 ∧ ti_mdl u.2 0 u.2.1 = (ti_Sdrop I DD v k).2.2 ∧ ti_Mgok u.1 ∧ ti_Mdok u.2) := by
  refine ti_mutI (σ := ti_Mg × ti_Md) (vi := fun _ => (ti_Sdrop I DD v k).1) (by decide) (Nat.le_of_ble_eq_true rfl) ?_
  intro p e s m below meth c H H0 A Q ls S hE hP hD hS hA hinit hl hret
  have hx := S.1
  have hb := S.2.1
  have hown := S.2.2.2.1
  have hts := S.2.2.2.2
  have hK := hE.1
  have hl : lv_has ls 3 [(0, .ref (ad 0)), (1, .int v), (2, .int k)] := hl
  refine lv_aload_n hx hb dX7_drop_0 rfl (lv_at hl 0 rfl) ?_
  refine lv_iload_n hx hb dX7_drop_1 rfl (lv_at hl 1 rfl) ?_
  refine lv_iload_n hx hb dX7_drop_2 rfl (lv_at hl 2 rfl) ?_
  refine ti_pVa (As := [.int v, .int k]) (rest := []) (v := .int (ti_b (ti_bt v && ti_lt k (xg.1 (ti_cl v))))) S hE hP (met_X7_isGenerator l D E ad xg xd xt xf xj xh xs xv xb xq xk hxg v k) (lw_V q1265 q1267 qs30 q73 q1268) 2 rfl 0 rfl rfl (by decide +kernel) ⟨Nat.le_of_ble_eq_true rfl, Nat.le_of_ble_eq_true rfl⟩ hl.1 rfl (Nat.le_of_ble_eq_true rfl) ⟨Nat.le_refl _, Nat.le_refl _⟩ dX7_drop_3 ?_
  refine tb_ne (tgt := 11) hx hb dX7_drop_6 (by decide) (fun c6 => ?_) (fun c6 => ?_)
  · skip
    have hq : ti_bt v = true ∧ ti_lt k (xg.1 (ti_cl v)) = true := by simpa using c6
    obtain ⟨i, hi2, rfl⟩ := ti_bt_nat hq.1
    have hci : ti_cl (nI i) = i := ti_cl_nI (by omega)
    rw [hci] at hq
    obtain ⟨k9, hk9, rfl⟩ := ti_lt_nat hq.2
    have h6 := hxg.1 i
    have hck : ti_cl (nI k9) = k9 := ti_cl_nI (by omega)
    have hg := hI i hi2
    have hlen := ti_MI_len hI hi2
    have hq2 : (ti_bt (nI i) && ti_lt (nI k9) (I i).length) = true := by rw [hlen, hq.1, hq.2]; rfl
    refine lv_aload_n hx hb dX7_drop_11 rfl (lv_at hl 0 rfl) ?_
    refine lv_iload_n hx hb dX7_drop_12 rfl (lv_at hl 1 rfl) ?_
    refine ti_mVa (As := [.int (nI i)]) (rest := []) S hE hP hD hS hA (met_X7_deed l D E ad xg xd xt xf xj xh xs xv xb xq xk hxg hxd i (by omega)) (fun _ => rfl) (lw_V q1253 q1255 qs28 q73 q1256) 1 rfl 0 rfl rfl (by decide +kernel) ⟨Nat.le_of_ble_eq_true rfl, Nat.le_of_ble_eq_true rfl⟩ hl.1 rfl (Nat.le_of_ble_eq_true rfl) ⟨Nat.le_refl _, Nat.le_refl _⟩ dX7_drop_13 (fun ud H locs hu hP hD hS => ?_)
    obtain ⟨ud1, ud2, ud3⟩ := hu
    have hP : va_P D vwCl (ti_wM E ad xg ud xt xf xj xh xs xv xb xq xk) H := hP
    have hD : va_D A (ti_wM E ad xg ud xt xf xj xh xs xv xb xq xk) := hD
    refine W.eq (g2 := F0 m 16 ls []) rfl ?_
    refine lv_aload_n hx hb dX7_drop_16 rfl (lv_at hl 0 rfl) ?_
    refine lv_iload_n hx hb dX7_drop_17 rfl (lv_at hl 1 rfl) ?_
    refine lv_iload_n hx hb dX7_drop_18 rfl (lv_at hl 2 rfl) ?_
    refine ti_mVa (As := [.int (nI i), .int (nI k9)]) (rest := []) S hE hP hD hS hA (met_X7_goes l D E ad xg ud xt xf xj xh xs xv xb xq xk hxg i (by omega) k9 hk9) (fun _ => rfl) (lw_V q1269 q1271 qs31 q73 q1272) 2 rfl 0 rfl rfl (by decide +kernel) ⟨Nat.le_of_ble_eq_true rfl, Nat.le_of_ble_eq_true rfl⟩ hl.1 rfl (Nat.le_of_ble_eq_true rfl) ⟨Nat.le_refl _, Nat.le_refl _⟩ dX7_drop_19 (fun _ H locs hu hP hD hS => ?_)
    have hP : va_P D vwCl (ti_wM E ad (ti_mgo xg i k9) ud xt xf xj xh xs xv xb xq xk) H := hP
    have hD : va_D A (ti_wM E ad (ti_mgo xg i k9) ud xt xf xj xh xs xv xb xq xk) := hD
    refine W.eq (g2 := F0 m 22 ls []) rfl ?_
    refine lv_aload_n hx hb dX7_drop_22 rfl (lv_at hl 0 rfl) ?_
    refine va_get (v := .ref (ad 1)) hx hb hts in_X7 hown hK hP 0 rfl rfl 0 (by decide) (hts _ q1088) (fun _ h => h) rfl dX7_drop_23 ?_
    refine lv_iload_n hx hb dX7_drop_26 rfl (lv_at hl 1 rfl) ?_
    refine tn_iald (f := (ti_mgo xg i k9).1) hx hb hK hP 1 0 rfl rfl (by omega) (by decide) dX7_drop_27 ?_
    have hs : ti_Sdrop I DD (nI i) (nI k9) = (nI (xg.1 i - 1), va_up I i ((I i).eraseIdx k9), ti_keep (i, I i) DD) := by rw [ti_Sdrop, hci, if_neg (by rw [hq2]; decide), hck, hlen]
    exact hret (ti_mgo xg i k9, ud) _ _ _ _ _ _ _ dX7_drop_28 (by rw [hs]; show nI (va_up xg.1 i (xg.1 i - 1) i) = _; rw [va_up_self]) (by rw [hs]; exact ⟨ti_MI_up hI (by rw [ti_mgo_G hk9, hg]) (fun j _ hj => ti_mgo_Gn hxg hj), by rw [ud1, hg, hDD], ti_mgo_ok hxg, ud2⟩) hP hS (Nat.le_refl _) (Nat.le_refl _)
  · skip
    have hq : (ti_bt v && ti_lt k (I (ti_cl v)).length) = false := by
      cases hv : ti_bt v with
      | false => rfl
      | true =>
        obtain ⟨i, hi2, rfl⟩ := ti_bt_nat hv
        have hci : ti_cl (nI i) = i := ti_cl_nI (by omega)
        rw [hv, hci] at c6
        rw [hci, ti_MI_len hI hi2]
        exact c6
    refine lv_iconst (v := (-1)) hx hb dX7_drop_9 (by decide) ?_
    have hs : ti_Sdrop I DD v k = (-1, I, DD) := by rw [ti_Sdrop, if_pos hq]
    exact hret (xg, xd) _ _ _ _ _ _ _ dX7_drop_10 (by rw [hs]) (by rw [hs]; exact ⟨hI, hDD, hxg, hxd⟩) hP hS (Nat.le_refl _) (Nat.le_refl _)

set_option maxHeartbeats 1000000 in
theorem met_X7_clear (l : Launch) (D : va_G) (E : Nat → ClassId) (ad : Nat → Nat) (xg : ti_Mg) (xd : ti_Md) (xt : ti_Mt) (xf : ti_Mf) (xj : ti_Mj) (xh : ti_Mh) (xs : ti_Ms) (xv : ti_Mv) (xb : ti_Mb) (xq : ti_Mq) (xk : ti_Mk) (hxg : ti_Mgok xg) (I : Nat → ti_GL) (hI : ti_MI xg I) (hxd : ti_Mdok xd) (DD : ti_DL) (hDD : ti_mdl xd 0 xd.1 = DD) (v : Int32) : ti_MetM (σ := ti_Mg × ti_Md) l D E yX7_clear cX7_clear 3 (some .int) 4 0 0 (ti_wM E ad xg xd xt xf xj xh xs xv xb xq xk) [.ref (ad 0), .int v] (fun u => ti_wM E ad u.1 u.2 xt xf xj xh xs xv xb xq xk) (fun u => some (.int ((fun _ => (ti_Sclear I DD v).1) u))) (fun u => ti_MI u.1 (ti_Sclear I DD v).2.1 ∧ ti_mdl u.2 0 u.2.1 = (ti_Sclear I DD v).2.2 ∧ ti_Mgok u.1 ∧ ti_Mdok u.2) := by
  refine ti_mutI (σ := ti_Mg × ti_Md) (vi := fun _ => (ti_Sclear I DD v).1) (by decide) (Nat.le_of_ble_eq_true rfl) ?_
  intro p e s m below meth c H H0 A Q ls S hE hP hD hS hA hinit hl hret
  have hx := S.1
  have hb := S.2.1
  have hown := S.2.2.2.1
  have hts := S.2.2.2.2
  have hK := hE.1
  have hl : lv_has ls 3 [(0, .ref (ad 0)), (1, .int v)] := hl
  refine lv_iload_n hx hb dX7_clear_0 rfl (lv_at hl 1 rfl) ?_
  refine ti_pS (As := [.int v]) (rest := []) (v := .int (ti_b (ti_bt v))) S hE hP [] (met_X7_isIdeal l D E v) rfl (lw_S q1231 q1232 q73 q1233) 1 rfl (by decide +kernel) ⟨Nat.le_of_ble_eq_true rfl, Nat.le_of_ble_eq_true rfl⟩ hl.1 rfl (Nat.le_of_ble_eq_true rfl) ⟨Nat.le_refl _, Nat.le_refl _⟩ dX7_clear_1 ?_
  refine tb_ne (tgt := 9) hx hb dX7_clear_4 (by decide) (fun c4 => ?_) (fun c4 => ?_)
  · skip
    obtain ⟨i, hi2, rfl⟩ := ti_bt_nat c4
    have hci : ti_cl (nI i) = i := ti_cl_nI (by omega)
    have hg := hI i hi2
    have hlen := ti_MI_len hI hi2
    have h6 := hxg.1 i
    refine lv_aload_n hx hb dX7_clear_9 rfl (lv_at hl 0 rfl) ?_
    refine va_get (v := .ref (ad 1)) hx hb hts in_X7 hown hK hP 0 rfl rfl 0 (by decide) (hts _ q1088) (fun _ h => h) rfl dX7_clear_10 ?_
    refine lv_iload_n hx hb dX7_clear_13 rfl (lv_at hl 1 rfl) ?_
    refine tn_iald (f := xg.1) hx hb hK hP 1 0 rfl rfl (by omega) (by decide) dX7_clear_14 ?_
    have b14 := hxg.1 i
    refine tn_if_ne (tgt := 21) hx hb dX7_clear_15 (by decide) (by omega) (fun c15 => ?_) (fun c15 => ?_)
    · skip
      refine lv_aload_n hx hb dX7_clear_21 rfl (lv_at hl 0 rfl) ?_
      refine lv_iload_n hx hb dX7_clear_22 rfl (lv_at hl 1 rfl) ?_
      refine ti_mVa (As := [.int (nI i)]) (rest := []) S hE hP hD hS hA (met_X7_deed l D E ad xg xd xt xf xj xh xs xv xb xq xk hxg hxd i (by omega)) (fun _ => rfl) (lw_V q1253 q1255 qs28 q73 q1256) 1 rfl 0 rfl rfl (by decide +kernel) ⟨Nat.le_of_ble_eq_true rfl, Nat.le_of_ble_eq_true rfl⟩ hl.1 rfl (Nat.le_of_ble_eq_true rfl) ⟨Nat.le_refl _, Nat.le_refl _⟩ dX7_clear_23 (fun ud H locs hu hP hD hS => ?_)
      obtain ⟨ud1, ud2, ud3⟩ := hu
      have hP : va_P D vwCl (ti_wM E ad xg ud xt xf xj xh xs xv xb xq xk) H := hP
      have hD : va_D A (ti_wM E ad xg ud xt xf xj xh xs xv xb xq xk) := hD
      refine W.eq (g2 := F0 m 26 ls []) rfl ?_
      refine lv_aload_n hx hb dX7_clear_26 rfl (lv_at hl 0 rfl) ?_
      refine va_get (v := .ref (ad 1)) hx hb hts in_X7 hown hK hP 0 rfl rfl 0 (by decide) (hts _ q1088) (fun _ h => h) rfl dX7_clear_27 ?_
      refine lv_iload_n hx hb dX7_clear_30 rfl (lv_at hl 1 rfl) ?_
      refine tn_iald (f := xg.1) hx hb hK hP 1 0 rfl rfl (by omega) (by decide) dX7_clear_31 ?_
      have b31 := hxg.1 i
      refine lv_istore_n (lv' := [(2, .int (nI (xg.1 i))), (0, .ref (ad 0)), (1, .int (nI i))]) hx hb dX7_clear_32 rfl hl (by decide) rfl (fun ls hl => ?_)
      refine lv_aload_n hx hb dX7_clear_33 rfl (lv_at hl 1 rfl) ?_
      refine va_get (v := .ref (ad 1)) hx hb hts in_X7 hown hK hP 0 rfl rfl 0 (by decide) (hts _ q1088) (fun _ h => h) rfl dX7_clear_34 ?_
      refine lv_iload_n hx hb dX7_clear_37 rfl (lv_at hl 2 rfl) ?_
      refine lv_iconst (v := nI 0) hx hb dX7_clear_38 (by decide) ?_
      refine tn_iast (f := xg.1) hx hb hK hP hD hS 1 0 rfl rfl (by omega) (by decide) dX7_clear_39 (fun H locs hP hD hS => ?_)
      have hP : va_P D vwCl (ti_wM E ad (va_up xg.1 i 0, xg.2.1, xg.2.2) ud xt xf xj xh xs xv xb xq xk) H := hP
      have hD : va_D A (ti_wM E ad (va_up xg.1 i 0, xg.2.1, xg.2.2) ud xt xf xj xh xs xv xb xq xk) := hD
      refine lv_iload_n hx hb dX7_clear_40 rfl (lv_at hl 0 rfl) ?_
      have hs : ti_Sclear I DD (nI i) = (nI (xg.1 i), va_up I i [], ti_keep (i, I i) DD) := by rw [ti_Sclear, if_neg (by rw [c4]; decide), hci, if_neg (by rw [hlen]; exact c15), hlen]
      exact hret (((va_up xg.1 i 0, xg.2.1, xg.2.2), ud)) _ _ _ _ _ _ _ dX7_clear_41 (by rw [hs]) (by rw [hs]; exact ⟨ti_MI_up hI (by rw [ti_msz_G]; rfl) (fun j _ hj => ti_msz_Gn hj), by rw [ud1, hg, hDD], ⟨ti_up_le hxg.1 (by omega), hxg.2⟩, ud2⟩) hP hS (Nat.le_refl _) (Nat.le_refl _)
    · skip
      refine lv_bipush (v := (-3)) hx hb dX7_clear_18 (by decide) ?_
      have hs : ti_Sclear I DD (nI i) = (-3, I, DD) := by rw [ti_Sclear, if_neg (by rw [c4]; decide), hci, if_pos (by rw [hlen]; exact c15)]
      exact hret (xg, xd) _ _ _ _ _ _ _ dX7_clear_20 (by rw [hs]) (by rw [hs]; exact ⟨hI, hDD, hxg, hxd⟩) hP hS (Nat.le_refl _) (Nat.le_refl _)
  · skip
    refine lv_iconst (v := (-1)) hx hb dX7_clear_7 (by decide) ?_
    have hs : ti_Sclear I DD v = (-1, I, DD) := by rw [ti_Sclear, if_pos c4]
    exact hret (xg, xd) _ _ _ _ _ _ _ dX7_clear_8 (by rw [hs]) (by rw [hs]; exact ⟨hI, hDD, hxg, hxd⟩) hP hS (Nat.le_refl _) (Nat.le_refl _)

set_option maxHeartbeats 1000000 in
theorem met_X7_back (l : Launch) (D : va_G) (E : Nat → ClassId) (ad : Nat → Nat) (xg : ti_Mg) (xd : ti_Md) (xt : ti_Mt) (xf : ti_Mf) (xj : ti_Mj) (xh : ti_Mh) (xs : ti_Ms) (xv : ti_Mv) (xb : ti_Mb) (xq : ti_Mq) (xk : ti_Mk) (hxg : ti_Mgok xg) (I : Nat → ti_GL) (hI : ti_MI xg I) (hxd : ti_Mdok xd) (DD : ti_DL) (hDD : ti_mdl xd 0 xd.1 = DD) : ti_MetM (σ := ti_Mg × ti_Md) l D E yX7_back cX7_back 3 (some .int) 0 0 0 (ti_wM E ad xg xd xt xf xj xh xs xv xb xq xk) [.ref (ad 0)] (fun u => ti_wM E ad u.1 u.2 xt xf xj xh xs xv xb xq xk) (fun u => some (.int ((fun _ => (ti_Sback I DD).1) u))) (fun u => ti_MI u.1 (ti_Sback I DD).2.1 ∧ ti_mdl u.2 0 u.2.1 = (ti_Sback I DD).2.2 ∧ ti_Mgok u.1 ∧ ti_Mdok u.2) := by
  refine ti_mutI (σ := ti_Mg × ti_Md) (vi := fun _ => (ti_Sback I DD).1) (by decide) (Nat.le_of_ble_eq_true rfl) ?_
  intro p e s m below meth c H H0 A Q ls S hE hP hD hS hA hinit hl hret
  have hx := S.1
  have hb := S.2.1
  have hown := S.2.2.2.1
  have hts := S.2.2.2.2
  have hK := hE.1
  have hl : lv_has ls 3 [(0, .ref (ad 0))] := hl
  have hd10 := hxd.1
  have hlen : DD.length = xd.1 := by rw [← hDD, ti_mdl_len]
  refine lv_aload_n hx hb dX7_back_0 rfl (lv_at hl 0 rfl) ?_
  refine va_get (v := .int (nI xd.1)) hx hb hts in_X7 hown hK hP 0 rfl rfl 3 (by decide) (hts _ q1091) (fun _ h => h) rfl dX7_back_1 ?_
  refine tn_if_ne (tgt := 10) hx hb dX7_back_4 (by decide) (by omega) (fun c4 => ?_) (fun c4 => ?_)
  · skip
    refine lv_aload_n hx hb dX7_back_10 rfl (lv_at hl 0 rfl) ?_
    refine lv_dup hx hb dX7_back_11 rfl ?_
    refine va_get (v := .int (nI xd.1)) hx hb hts in_X7 hown hK hP 0 rfl rfl 3 (by decide) (hts _ q1091) (fun _ h => h) rfl dX7_back_12 ?_
    refine lv_iconst (v := nI 1) hx hb dX7_back_15 (by decide) ?_
    refine tn_sub hx hb dX7_back_16 (by omega) ?_
    refine va_put (ty := .int) hx hb hts in_X7 tyX7 tyX7_ok nmX7 hown hK hP hD hS 0 rfl rfl 3 (by decide) (hts _ q1091) (fun _ h => h) rfl rfl rfl rfl (Nat.le_of_ble_eq_true rfl) dX7_back_17 (fun H locs hP hD hS => ?_)
    have hP : va_P D vwCl (ti_wM E ad xg (xd.1 - 1, xd.2.1, xd.2.2.1, xd.2.2.2.1, xd.2.2.2.2) xt xf xj xh xs xv xb xq xk) H := hP
    have hD : va_D A (ti_wM E ad xg (xd.1 - 1, xd.2.1, xd.2.2.1, xd.2.2.2.1, xd.2.2.2.2) xt xf xj xh xs xv xb xq xk) := hD
    refine lv_aload_n hx hb dX7_back_20 rfl (lv_at hl 0 rfl) ?_
    refine va_get (v := .ref (ad 4)) hx hb hts in_X7 hown hK hP 0 rfl rfl 4 (by decide) (hts _ q1092) (fun _ h => h) rfl dX7_back_21 ?_
    refine lv_aload_n hx hb dX7_back_24 rfl (lv_at hl 0 rfl) ?_
    refine va_get (v := .int (nI (xd.1 - 1))) hx hb hts in_X7 hown hK hP 0 rfl rfl 3 (by decide) (hts _ q1091) (fun _ h => h) rfl dX7_back_25 ?_
    refine tn_iald (f := xd.2.1) hx hb hK hP 4 0 rfl rfl (by omega) (by decide) dX7_back_28 ?_
    have b28 := hxd.2.1 (xd.1 - 1)
    refine lv_istore_n (lv' := [(1, .int (nI (xd.2.1 (xd.1 - 1)))), (0, .ref (ad 0))]) hx hb dX7_back_29 rfl hl (by decide) rfl (fun ls hl => ?_)
    refine lv_aload_n hx hb dX7_back_30 rfl (lv_at hl 1 rfl) ?_
    refine va_get (v := .ref (ad 1)) hx hb hts in_X7 hown hK hP 0 rfl rfl 0 (by decide) (hts _ q1088) (fun _ h => h) rfl dX7_back_31 ?_
    refine lv_iload_n hx hb dX7_back_34 rfl (lv_at hl 0 rfl) ?_
    refine lv_aload_n hx hb dX7_back_35 rfl (lv_at hl 1 rfl) ?_
    refine va_get (v := .ref (ad 5)) hx hb hts in_X7 hown hK hP 0 rfl rfl 5 (by decide) (hts _ q1093) (fun _ h => h) rfl dX7_back_36 ?_
    refine lv_aload_n hx hb dX7_back_39 rfl (lv_at hl 1 rfl) ?_
    refine va_get (v := .int (nI (xd.1 - 1))) hx hb hts in_X7 hown hK hP 0 rfl rfl 3 (by decide) (hts _ q1091) (fun _ h => h) rfl dX7_back_40 ?_
    refine tn_iald (f := xd.2.2.1) hx hb hK hP 5 0 rfl rfl (by omega) (by decide) dX7_back_43 ?_
    have b43 := hxd.2.2.1 (xd.1 - 1)
    refine tn_iast (f := xg.1) hx hb hK hP hD hS 1 0 rfl rfl (by omega) (by decide) dX7_back_44 (fun H locs hP hD hS => ?_)
    have hP : va_P D vwCl (ti_wM E ad (va_up xg.1 (xd.2.1 (xd.1 - 1)) (xd.2.2.1 (xd.1 - 1)), xg.2.1, xg.2.2) (xd.1 - 1, xd.2.1, xd.2.2.1, xd.2.2.2.1, xd.2.2.2.2) xt xf xj xh xs xv xb xq xk) H := hP
    have hD : va_D A (ti_wM E ad (va_up xg.1 (xd.2.1 (xd.1 - 1)) (xd.2.2.1 (xd.1 - 1)), xg.2.1, xg.2.2) (xd.1 - 1, xd.2.1, xd.2.2.1, xd.2.2.2.1, xd.2.2.2.2) xt xf xj xh xs xv xb xq xk) := hD
    refine lv_iconst (v := nI 0) hx hb dX7_back_45 (by decide) ?_
    refine lv_istore_n (lv' := [(2, .int (nI 0)), (1, .int (nI (xd.2.1 (xd.1 - 1)))), (0, .ref (ad 0))]) hx hb dX7_back_46 rfl hl (by decide) rfl (fun ls hl => ?_)
    have L47 : ∀ (N : Nat) (k : Nat) (f1 f2 : Nat → Nat) (ls : Array Slot) (H : Heap) (locs : List Loc), va_P D vwCl (ti_wM E ad (va_up xg.1 (xd.2.1 (xd.1 - 1)) (xd.2.2.1 (xd.1 - 1)), f1, f2) (xd.1 - 1, xd.2.1, xd.2.2.1, xd.2.2.2.1, xd.2.2.2.2) xt xf xj xh xs xv xb xq xk) H → va_D A (ti_wM E ad (va_up xg.1 (xd.2.1 (xd.1 - 1)) (xd.2.2.1 (xd.1 - 1)), f1, f2) (xd.1 - 1, xd.2.1, xd.2.2.1, xd.2.2.2.1, xd.2.2.2.2) xt xf xj xh xs xv xb xq xk) → va_S A H0 H locs → (6 - k) < N → (k ≤ 6) → (f1 = va_cpy xd.2.2.2.1 xg.2.1 (6 * (xd.1 - 1)) (6 * xd.2.1 (xd.1 - 1)) k) → (f2 = va_cpy xd.2.2.2.2 xg.2.2 (6 * (xd.1 - 1)) (6 * xd.2.1 (xd.1 - 1)) k) → lv_has ls 3 [(0, .ref (ad 0)), (1, .int (nI (xd.2.1 (xd.1 - 1)))), (2, .int (nI k))] → W p l e (ti_rm 0 0 0) s m ([.ref (ad 0)] : List Value).toArray below meth c H locs 0 0 Q (F0 m 47 ls []) := by
      intro N
      induction N with
      | zero => intro k f1 f2 ls H locs hP hD hS h0; exact absurd h0 (Nat.not_lt_zero _)
      | succ N ih47 =>
        intro k f1 f2 ls H locs hP hD hS hN hk e1 e2 hl
        refine lv_iload_n hx hb dX7_back_47 rfl (lv_at hl 2 rfl) ?_
        refine lv_bipush (v := nI 6) hx hb dX7_back_48 (by decide) ?_
        refine tn_ge (tgt := 109) hx hb dX7_back_50 (by decide) (by omega) (by omega) (fun c50 => ?_) (fun c50 => ?_)
        · skip
          refine lv_aload_n hx hb dX7_back_109 rfl (lv_at hl 0 rfl) ?_
          refine va_get (v := .int (nI (xd.1 - 1))) hx hb hts in_X7 hown hK hP 0 rfl rfl 3 (by decide) (hts _ q1091) (fun _ h => h) rfl dX7_back_110 ?_
          obtain rfl : k = 6 := by omega
          subst e1
          subst e2
          have hs : ti_Sback I DD = (nI (xd.1 - 1), va_up I (xd.2.1 (xd.1 - 1)) (ti_gr (fun k => xd.2.2.2.1 (6 * (xd.1 - 1) + k)) (fun k => xd.2.2.2.2 (6 * (xd.1 - 1) + k)) 0 (xd.2.2.1 (xd.1 - 1))), DD.take (xd.1 - 1)) := by rw [ti_Sback, if_neg (by rw [hlen]; exact c4), hlen, ← hDD, ti_mdl_getD (by omega)]
          exact hret ((ti_mbk xg xd (xd.1 - 1) (xd.2.1 (xd.1 - 1)), (xd.1 - 1, xd.2))) _ _ _ _ _ _ _ dX7_back_113 (by rw [hs]) (by rw [hs]; exact ⟨ti_MI_up hI (ti_mbk_G hxd) (fun j _ hj => ti_mbk_Gn hxg hj), by rw [← hDD]; have := ti_mdl_take (x := xd) (m := xd.1 - 1); rw [show xd.1 - 1 + 1 = xd.1 by omega] at this; exact this, ti_mbk_ok hxg hxd, ⟨by dsimp only; omega, hxd.2⟩⟩) hP hS (Nat.le_refl _) (Nat.le_refl _)
        · skip
          refine lv_aload_n hx hb dX7_back_53 rfl (lv_at hl 0 rfl) ?_
          refine va_get (v := .ref (ad 2)) hx hb hts in_X7 hown hK hP 0 rfl rfl 1 (by decide) (hts _ q1089) (fun _ h => h) rfl dX7_back_54 ?_
          refine lv_bipush (v := nI 6) hx hb dX7_back_57 (by decide) ?_
          refine lv_iload_n hx hb dX7_back_59 rfl (lv_at hl 1 rfl) ?_
          refine tn_mul hx hb dX7_back_60 ?_
          refine lv_iload_n hx hb dX7_back_61 rfl (lv_at hl 2 rfl) ?_
          refine tn_add hx hb dX7_back_62 ?_
          refine lv_aload_n hx hb dX7_back_63 rfl (lv_at hl 0 rfl) ?_
          refine va_get (v := .ref (ad 6)) hx hb hts in_X7 hown hK hP 0 rfl rfl 6 (by decide) (hts _ q1094) (fun _ h => h) rfl dX7_back_64 ?_
          refine lv_bipush (v := nI 6) hx hb dX7_back_67 (by decide) ?_
          refine lv_aload_n hx hb dX7_back_69 rfl (lv_at hl 0 rfl) ?_
          refine va_get (v := .int (nI (xd.1 - 1))) hx hb hts in_X7 hown hK hP 0 rfl rfl 3 (by decide) (hts _ q1091) (fun _ h => h) rfl dX7_back_70 ?_
          refine tn_mul hx hb dX7_back_73 ?_
          refine lv_iload_n hx hb dX7_back_74 rfl (lv_at hl 2 rfl) ?_
          refine tn_add hx hb dX7_back_75 ?_
          refine tn_iald (f := xd.2.2.2.1) hx hb hK hP 6 0 rfl rfl (by omega) (by decide) dX7_back_76 ?_
          have b76 := hxd.2.2.2.1 ((6 * (xd.1 - 1)) + k)
          refine tn_iast (f := f1) hx hb hK hP hD hS 2 0 rfl rfl (by omega) (by decide) dX7_back_77 (fun H locs hP hD hS => ?_)
          have hP : va_P D vwCl (ti_wM E ad (va_up xg.1 (xd.2.1 (xd.1 - 1)) (xd.2.2.1 (xd.1 - 1)), va_up f1 ((6 * (xd.2.1 (xd.1 - 1))) + k) (xd.2.2.2.1 ((6 * (xd.1 - 1)) + k)), f2) (xd.1 - 1, xd.2.1, xd.2.2.1, xd.2.2.2.1, xd.2.2.2.2) xt xf xj xh xs xv xb xq xk) H := hP
          have hD : va_D A (ti_wM E ad (va_up xg.1 (xd.2.1 (xd.1 - 1)) (xd.2.2.1 (xd.1 - 1)), va_up f1 ((6 * (xd.2.1 (xd.1 - 1))) + k) (xd.2.2.2.1 ((6 * (xd.1 - 1)) + k)), f2) (xd.1 - 1, xd.2.1, xd.2.2.1, xd.2.2.2.1, xd.2.2.2.2) xt xf xj xh xs xv xb xq xk) := hD
          refine lv_aload_n hx hb dX7_back_78 rfl (lv_at hl 0 rfl) ?_
          refine va_get (v := .ref (ad 3)) hx hb hts in_X7 hown hK hP 0 rfl rfl 2 (by decide) (hts _ q1090) (fun _ h => h) rfl dX7_back_79 ?_
          refine lv_bipush (v := nI 6) hx hb dX7_back_82 (by decide) ?_
          refine lv_iload_n hx hb dX7_back_84 rfl (lv_at hl 1 rfl) ?_
          refine tn_mul hx hb dX7_back_85 ?_
          refine lv_iload_n hx hb dX7_back_86 rfl (lv_at hl 2 rfl) ?_
          refine tn_add hx hb dX7_back_87 ?_
          refine lv_aload_n hx hb dX7_back_88 rfl (lv_at hl 0 rfl) ?_
          refine va_get (v := .ref (ad 7)) hx hb hts in_X7 hown hK hP 0 rfl rfl 7 (by decide) (hts _ q1095) (fun _ h => h) rfl dX7_back_89 ?_
          refine lv_bipush (v := nI 6) hx hb dX7_back_92 (by decide) ?_
          refine lv_aload_n hx hb dX7_back_94 rfl (lv_at hl 0 rfl) ?_
          refine va_get (v := .int (nI (xd.1 - 1))) hx hb hts in_X7 hown hK hP 0 rfl rfl 3 (by decide) (hts _ q1091) (fun _ h => h) rfl dX7_back_95 ?_
          refine tn_mul hx hb dX7_back_98 ?_
          refine lv_iload_n hx hb dX7_back_99 rfl (lv_at hl 2 rfl) ?_
          refine tn_add hx hb dX7_back_100 ?_
          refine tn_iald (f := xd.2.2.2.2) hx hb hK hP 7 0 rfl rfl (by omega) (by decide) dX7_back_101 ?_
          have b101 := hxd.2.2.2.2 ((6 * (xd.1 - 1)) + k)
          refine tn_iast (f := f2) hx hb hK hP hD hS 3 0 rfl rfl (by omega) (by decide) dX7_back_102 (fun H locs hP hD hS => ?_)
          have hP : va_P D vwCl (ti_wM E ad (va_up xg.1 (xd.2.1 (xd.1 - 1)) (xd.2.2.1 (xd.1 - 1)), va_up f1 ((6 * (xd.2.1 (xd.1 - 1))) + k) (xd.2.2.2.1 ((6 * (xd.1 - 1)) + k)), va_up f2 ((6 * (xd.2.1 (xd.1 - 1))) + k) (xd.2.2.2.2 ((6 * (xd.1 - 1)) + k))) (xd.1 - 1, xd.2.1, xd.2.2.1, xd.2.2.2.1, xd.2.2.2.2) xt xf xj xh xs xv xb xq xk) H := hP
          have hD : va_D A (ti_wM E ad (va_up xg.1 (xd.2.1 (xd.1 - 1)) (xd.2.2.1 (xd.1 - 1)), va_up f1 ((6 * (xd.2.1 (xd.1 - 1))) + k) (xd.2.2.2.1 ((6 * (xd.1 - 1)) + k)), va_up f2 ((6 * (xd.2.1 (xd.1 - 1))) + k) (xd.2.2.2.2 ((6 * (xd.1 - 1)) + k))) (xd.1 - 1, xd.2.1, xd.2.2.1, xd.2.2.2.1, xd.2.2.2.2) xt xf xj xh xs xv xb xq xk) := hD
          refine lv_iinc (v := nI (k + 1)) (lv' := [(2, .int (nI (k + 1))), (0, .ref (ad 0)), (1, .int (nI (xd.2.1 (xd.1 - 1))))]) hx hb dX7_back_103 hl (k := 2) rfl (nI_1 k) (by decide) rfl (fun ls hl => ?_)
          refine lv_goto (tgt := 47) hx hb dX7_back_106 (by decide) ?_
          exact ih47 (k + 1) (va_up f1 ((6 * (xd.2.1 (xd.1 - 1))) + k) (xd.2.2.2.1 ((6 * (xd.1 - 1)) + k))) (va_up f2 ((6 * (xd.2.1 (xd.1 - 1))) + k) (xd.2.2.2.2 ((6 * (xd.1 - 1)) + k))) _ _ _ hP hD hS (by omega) (by omega) (by rw [e1]; exact ti_cpy_s rfl) (by rw [e2]; exact ti_cpy_s rfl) (lv_sub hl [1, 2, 0] rfl)
    exact L47 _ 0 xg.2.1 xg.2.2 _ _ _ hP hD hS (Nat.lt_succ_self _) (by omega) (ti_cpy_0.symm) (ti_cpy_0.symm) (lv_sub hl [2, 1, 0] rfl)
  · skip
    refine lv_bipush (v := (-3)) hx hb dX7_back_7 (by decide) ?_
    have hs : ti_Sback I DD = (-3, I, DD) := by rw [ti_Sback, if_pos (by rw [hlen]; exact c4)]
    exact hret (xg, xd) _ _ _ _ _ _ _ dX7_back_9 (by rw [hs]) (by rw [hs]; exact ⟨hI, hDD, hxg, hxd⟩) hP hS (Nat.le_refl _) (Nat.le_refl _)

set_option maxHeartbeats 1000000 in
theorem met_X7_feed (l : Launch) (D : va_G) (E : Nat → ClassId) (ad : Nat → Nat) (xg : ti_Mg) (xd : ti_Md) (xt : ti_Mt) (xf : ti_Mf) (xj : ti_Mj) (xh : ti_Mh) (xs : ti_Ms) (xv : ti_Mv) (xb : ti_Mb) (xq : ti_Mq) (xk : ti_Mk) (hxt : ti_Mtok xt) (v : Int32) : ti_MetM (σ := ti_Mt) l D E yX7_feed cX7_feed 2 (some .int) 1 0 0 (ti_wM E ad xg xd xt xf xj xh xs xv xb xq xk) [.ref (ad 0), .int v] (fun u => ti_wM E ad xg xd u xf xj xh xs xv xb xq xk) (fun u => some (.int ((fun _ => (ti_Sfeed (ti_TX xt) v).1) u))) (fun u => ti_TX u = (ti_Sfeed (ti_TX xt) v).2 ∧ ti_Mtok u) := by
  refine ti_mutI (σ := ti_Mt) (vi := fun _ => (ti_Sfeed (ti_TX xt) v).1) (by decide) (Nat.le_of_ble_eq_true rfl) ?_
  intro p e s m below meth c H H0 A Q ls S hE hP hD hS hA hinit hl hret
  have hx := S.1
  have hb := S.2.1
  have hown := S.2.2.2.1
  have hts := S.2.2.2.2
  have hK := hE.1
  have hl : lv_has ls 2 [(0, .ref (ad 0)), (1, .int v)] := hl
  have ht100 := hxt.2.1
  have hlen : (ti_TX xt).length = xt.2.1 := by simp
  refine lv_iload_n hx hb dX7_feed_0 rfl (lv_at hl 1 rfl) ?_
  refine lv_i2l (v := Int32.toInt64 v) hx hb dX7_feed_1 rfl ?_
  refine lv_lconst (v := lN 0) hx hb dX7_feed_2 (by decide) ?_
  refine lv_ldc2 (v := lN 127) hx hb hown (hts _ q1321) dX7_feed_3 ?_
  refine ti_pS (As := [.long (Int32.toInt64 v), .long (lN 0), .long (lN 127)]) (rest := []) (v := .int (ti_b (ti_inL (Int32.toInt64 v) (lN 0) (lN 127)))) S hE hP [] (met_X7_isFrom l D E (Int32.toInt64 v) (lN 0) (lN 127)) rfl (lw_S q1234 q1235 q73 q1236) 3 rfl (by decide +kernel) ⟨Nat.le_of_ble_eq_true rfl, Nat.le_of_ble_eq_true rfl⟩ hl.1 rfl (Nat.le_of_ble_eq_true rfl) ⟨Nat.le_refl _, Nat.le_refl _⟩ dX7_feed_6 ?_
  refine tb_ne (tgt := 15) hx hb dX7_feed_9 (by decide) (fun c9 => ?_) (fun c9 => ?_)
  · skip
    rw [ti_inL_i (by decide) (by decide)] at c9
    obtain ⟨w, -, hw, rfl⟩ := ti_in_nat (by decide) (by decide) c9
    have hcw : ti_cl (nI w) = w := ti_cl_nI (by omega)
    refine lv_aload_n hx hb dX7_feed_15 rfl (lv_at hl 0 rfl) ?_
    refine va_get (v := .int (nI xt.2.1)) hx hb hts in_X7 hown hK hP 0 rfl rfl 9 (by decide) (hts _ q1097) (fun _ h => h) rfl dX7_feed_16 ?_
    refine lv_bipush (v := nI 100) hx hb dX7_feed_19 (by decide) ?_
    refine tn_ne (tgt := 27) hx hb dX7_feed_21 (by decide) (by omega) (by omega) (fun c21 => ?_) (fun c21 => ?_)
    · skip
      refine lv_aload_n hx hb dX7_feed_27 rfl (lv_at hl 0 rfl) ?_
      refine va_get (v := .ref (ad 8)) hx hb hts in_X7 hown hK hP 0 rfl rfl 8 (by decide) (hts _ q1096) (fun _ h => h) rfl dX7_feed_28 ?_
      refine lv_aload_n hx hb dX7_feed_31 rfl (lv_at hl 0 rfl) ?_
      refine va_get (v := .int (nI xt.2.1)) hx hb hts in_X7 hown hK hP 0 rfl rfl 9 (by decide) (hts _ q1097) (fun _ h => h) rfl dX7_feed_32 ?_
      refine lv_iload_n hx hb dX7_feed_35 rfl (lv_at hl 1 rfl) ?_
      refine tn_iast (f := xt.1) hx hb hK hP hD hS 8 0 rfl rfl (by omega) (by decide) dX7_feed_36 (fun H locs hP hD hS => ?_)
      have hP : va_P D vwCl (ti_wM E ad xg xd (va_up xt.1 xt.2.1 w, xt.2.1, xt.2.2.1, xt.2.2.2) xf xj xh xs xv xb xq xk) H := hP
      have hD : va_D A (ti_wM E ad xg xd (va_up xt.1 xt.2.1 w, xt.2.1, xt.2.2.1, xt.2.2.2) xf xj xh xs xv xb xq xk) := hD
      refine lv_aload_n hx hb dX7_feed_37 rfl (lv_at hl 0 rfl) ?_
      refine lv_dup hx hb dX7_feed_38 rfl ?_
      refine va_get (v := .int (nI xt.2.1)) hx hb hts in_X7 hown hK hP 0 rfl rfl 9 (by decide) (hts _ q1097) (fun _ h => h) rfl dX7_feed_39 ?_
      refine lv_iconst (v := nI 1) hx hb dX7_feed_42 (by decide) ?_
      refine tn_add hx hb dX7_feed_43 ?_
      refine va_put (ty := .int) hx hb hts in_X7 tyX7 tyX7_ok nmX7 hown hK hP hD hS 0 rfl rfl 9 (by decide) (hts _ q1097) (fun _ h => h) rfl rfl rfl rfl (Nat.le_of_ble_eq_true rfl) dX7_feed_44 (fun H locs hP hD hS => ?_)
      have hP : va_P D vwCl (ti_wM E ad xg xd (va_up xt.1 xt.2.1 w, xt.2.1 + 1, xt.2.2.1, xt.2.2.2) xf xj xh xs xv xb xq xk) H := hP
      have hD : va_D A (ti_wM E ad xg xd (va_up xt.1 xt.2.1 w, xt.2.1 + 1, xt.2.2.1, xt.2.2.2) xf xj xh xs xv xb xq xk) := hD
      refine lv_aload_n hx hb dX7_feed_47 rfl (lv_at hl 0 rfl) ?_
      refine va_get (v := .int (nI (xt.2.1 + 1))) hx hb hts in_X7 hown hK hP 0 rfl rfl 9 (by decide) (hts _ q1097) (fun _ h => h) rfl dX7_feed_48 ?_
      have hs : ti_Sfeed (ti_TX xt) (nI w) = (nI (xt.2.1 + 1), ti_TX xt ++ [w]) := by rw [ti_Sfeed, if_neg (by rw [c9]; decide), if_neg (by rw [hlen]; exact c21), hlen, hcw]
      exact hret (va_up xt.1 xt.2.1 w, xt.2.1 + 1, xt.2.2) _ _ _ _ _ _ _ dX7_feed_51 (by rw [hs]) (by rw [hs]; exact ⟨ti_TX_push, ti_up_le hxt.1 hw, by dsimp only; omega, hxt.2.2⟩) hP hS (Nat.le_refl _) (Nat.le_refl _)
    · skip
      refine lv_bipush (v := (-4)) hx hb dX7_feed_24 (by decide) ?_
      have hs : ti_Sfeed (ti_TX xt) (nI w) = (-4, ti_TX xt) := by rw [ti_Sfeed, if_neg (by rw [c9]; decide), if_pos (by rw [hlen]; exact c21)]
      exact hret xt _ _ _ _ _ _ _ dX7_feed_26 (by rw [hs]) (by rw [hs]; exact ⟨rfl, hxt⟩) hP hS (Nat.le_refl _) (Nat.le_refl _)
  · skip
    rw [ti_inL_i (by decide) (by decide)] at c9
    refine lv_bipush (v := (-2)) hx hb dX7_feed_12 (by decide) ?_
    have hs : ti_Sfeed (ti_TX xt) v = (-2, ti_TX xt) := by rw [ti_Sfeed, if_pos c9]
    exact hret xt _ _ _ _ _ _ _ dX7_feed_14 (by rw [hs]) (by rw [hs]; exact ⟨rfl, hxt⟩) hP hS (Nat.le_refl _) (Nat.le_refl _)
