/-! TermIdeals: becomes, merge, isCorner, close, back, feed (printed by w_own2.py) -/
set_option maxRecDepth 100000

abbrev ti_wMF (E : Nat → ClassId) (ad dh du dv jh ju jv kh ku kv : Nat → Nat) (tx : Nat) (hi : Bool) (xf : ti_Tf) : va_W := [(ad 0, .inr (0, [.ref (ad 1), .ref (ad 2), .ref (ad 5), .ref (ad 11), .ref (ad 14), .ref (ad 16), .ref (ad 18), .ref (ad 20), .ref (ad 22), .int (nI tx), .ref (ad 23), .ref (ad 27), .ref (ad 31), .ref (ad 35), .ref (ad 36), .ref (ad 37), .ref (ad 41), .ref (ad 45), .int (ti_b hi)])), (ad 5, .inr (2, [xf.1, .ref (ad 6), .ref (ad 7), .ref (ad 8), .int (nI xf.2.2.2.2.1), .int (nI xf.2.2.2.2.2.1), .int (nI xf.2.2.2.2.2.2.1), .ref (ad 9), .ref (ad 10), .int (nI xf.2.2.2.2.2.2.2.2.2)])), (ad 6, .inl (E 0, 8, .inl (ti_n xf.2.1))), (ad 7, .inl (E 0, 8, .inl (ti_n xf.2.2.1))), (ad 8, .inl (E 0, 8, .inl (ti_n xf.2.2.2.1))), (ad 9, .inl (E 0, 100, .inl (ti_n xf.2.2.2.2.2.2.2.1))), (ad 10, .inl (E 0, 100, .inl (ti_n xf.2.2.2.2.2.2.2.2.1)))]

set_option maxHeartbeats 1000000 in
theorem met_X0_becomes (l : Launch) (D : va_G) (E : Nat → ClassId) (ad dh du dv jh ju jv kh ku kv : Nat → Nat) (tx : Nat) (hi : Bool) (xi : ti_Ti) (xr : ti_Tr) (xd : ti_Td) (hxi : ti_Jok xi) (I : Nat → ti_GL) (hJ : ti_JI xi I) (hxd : ti_Dok xd) (DD : ti_DL) (hDD : ti_Dl xd = DD) (hxr : ti_Rok xr) (i : Nat) (hi2 : i < 2) : ti_MetM (σ := ti_Ti × ti_Td) l D E yX0_becomes cX0_becomes 2 (some .int) 3 0 0 (ti_wMJRD E ad dh du dv jh ju jv kh ku kv tx hi xi xr xd) [.ref (ad 0), .int (nI i)] (fun u => ti_wMJRD E ad dh du dv jh ju jv kh ku kv tx hi u.1 xr u.2) (fun u => some (.int ((fun _ => nI xr.2.2) u))) (fun u => ti_JI u.1 (va_up I i (ti_gr xr.1 xr.2.1 0 xr.2.2)) ∧ ti_Dl u.2 = ti_keep (i, I i) DD ∧ ti_Jok u.1 ∧ ti_Dok u.2) := by
  refine ti_mutI (σ := ti_Ti × ti_Td) (vi := fun _ => nI xr.2.2) (by decide) (Nat.le_of_ble_eq_true rfl) ?_
  intro p e s m below meth c H H0 A Q ls S hE hP hD hS hA hinit hl hret
  have hx := S.1
  have hb := S.2.1
  have hown := S.2.2.2.1
  have hts := S.2.2.2.2
  have hK := hE.1
  have hl : lv_has ls 2 [(0, .ref (ad 0)), (1, .int (nI i))] := hl
  rcases (show i = 0 ∨ i = 1 by omega) with rfl | rfl
  · skip
    refine lv_aload_n hx hb dX0_becomes_0 rfl (lv_at hl 0 rfl) ?_
    refine va_get (v := .ref (ad 11)) hx hb hts in_X0 hown hK hP 0 rfl rfl 3 (by decide) (hts _ q240) (fun _ h => h) rfl dX0_becomes_1 ?_
    refine lv_iload_n hx hb dX0_becomes_4 rfl (lv_at hl 1 rfl) ?_
    refine lv_aload_n hx hb dX0_becomes_5 rfl (lv_at hl 0 rfl) ?_
    refine va_get (v := .ref (ad 1)) hx hb hts in_X0 hown hK hP 0 rfl rfl 0 (by decide) (hts _ q237) (fun _ h => h) rfl dX0_becomes_6 ?_
    refine lv_iload_n hx hb dX0_becomes_9 rfl (lv_at hl 1 rfl) ?_
    refine tn_aald hx hb hK hP 1 5 rfl rfl (by omega) (by decide) dX0_becomes_10 ?_
    refine ti_mV (As := [.int (nI 0), .ref (jh 0)]) (rest := []) S hE hP hD hS hA [11, 12, 13, 14, 15, 16, 17, 18, 19, 20, 21, 22, 23, 24, 25, 26, 27, 28, 29, 30, 31, 32, 33, 34, 35, 36, 37, 38, 39, 40, 41, 42, 43, 2, 3, 4] rfl (met_X3_keeps l D E (ad 11) (ad 12) (ad 13) dh du dv xd.1 xd.2.1 xd.2.2.1 xd.2.2.2.1 xd.2.2.2.2.1 xd.2.2.2.2.2 (jh 0) (ju 0) (jv 0) (xi.1 0) (xi.2.1 0) (xi.2.2 0) 0 hxd (hxi.1 0) (hxi.2.1 0) (hxi.2.2 0) (by omega)) rfl (fun _ => rfl) (lw_V q312 q313 q314 q69 q315) 2 rfl 11 rfl rfl (by decide +kernel) ⟨Nat.le_of_ble_eq_true rfl, Nat.le_of_ble_eq_true rfl⟩ hl.1 rfl (Nat.le_of_ble_eq_true rfl) ⟨Nat.le_refl _, Nat.le_refl _⟩ dX0_becomes_11 (fun ud H locs hu hP hD hS => ?_)
    obtain ⟨ud1, ud2, ud3⟩ := hu
    have hP : va_P D vwCl (ti_wMJRD E ad dh du dv jh ju jv kh ku kv tx hi xi xr ud) H := ti_asP hP [.inl 0, .inl 1, .inr 33, .inr 34, .inr 35, .inl 5, .inl 6, .inl 7, .inl 8, .inl 9, .inl 10, .inr 0, .inr 1, .inr 2, .inr 3, .inr 4, .inr 5, .inr 6, .inr 7, .inr 8, .inr 9, .inr 10, .inr 11, .inr 12, .inr 13, .inr 14, .inr 15, .inr 16, .inr 17, .inr 18, .inr 19, .inr 20, .inr 21, .inr 22, .inr 23, .inr 24, .inr 25, .inr 26, .inr 27, .inr 28, .inr 29, .inr 30, .inr 31, .inr 32] rfl rfl rfl rfl
    have hD : va_D A (ti_wMJRD E ad dh du dv jh ju jv kh ku kv tx hi xi xr ud) := ti_asD hD [.inl 0, .inl 1, .inr 33, .inr 34, .inr 35, .inl 5, .inl 6, .inl 7, .inl 8, .inl 9, .inl 10, .inr 0, .inr 1, .inr 2, .inr 3, .inr 4, .inr 5, .inr 6, .inr 7, .inr 8, .inr 9, .inr 10, .inr 11, .inr 12, .inr 13, .inr 14, .inr 15, .inr 16, .inr 17, .inr 18, .inr 19, .inr 20, .inr 21, .inr 22, .inr 23, .inr 24, .inr 25, .inr 26, .inr 27, .inr 28, .inr 29, .inr 30, .inr 31, .inr 32] rfl rfl rfl rfl
    refine W.eq (g2 := F0 m 14 ls []) rfl ?_
    refine lv_aload_n hx hb dX0_becomes_14 rfl (lv_at hl 0 rfl) ?_
    refine va_get (v := .ref (ad 1)) hx hb hts in_X0 hown hK hP 0 rfl rfl 0 (by decide) (hts _ q237) (fun _ h => h) rfl dX0_becomes_15 ?_
    refine lv_iload_n hx hb dX0_becomes_18 rfl (lv_at hl 1 rfl) ?_
    refine tn_aald hx hb hK hP 1 5 rfl rfl (by omega) (by decide) dX0_becomes_19 ?_
    refine lv_aload_n hx hb dX0_becomes_20 rfl (lv_at hl 0 rfl) ?_
    refine va_get (v := .ref (ad 2)) hx hb hts in_X0 hown hK hP 0 rfl rfl 1 (by decide) (hts _ q238) (fun _ h => h) rfl dX0_becomes_21 ?_
    refine ti_mV (As := [.ref (ad 2)]) (rest := []) S hE hP hD hS hA [2, 3, 4, 8, 9, 10] rfl (met_X1_takes l D E (jh 0) (ju 0) (jv 0) (xi.1 0) (xi.2.1 0) (xi.2.2 0) (ad 2) (ad 3) (ad 4) xr.1 xr.2.1 xr.2.2) rfl (fun _ => rfl) (lw_V q347 q317 q318 q67 q319) 1 rfl 2 rfl rfl (by decide +kernel) ⟨Nat.le_of_ble_eq_true rfl, Nat.le_of_ble_eq_true rfl⟩ hl.1 rfl (Nat.le_of_ble_eq_true rfl) ⟨Nat.le_refl _, Nat.le_refl _⟩ dX0_becomes_24 (fun _ H locs hu hP hD hS => ?_)
    have hP : va_P D vwCl (ti_wMJRD E ad dh du dv jh ju jv kh ku kv tx hi (ti_j2 xr.1 (xi.1 1), ti_j2 xr.2.1 (xi.2.1 1), ti_j2 xr.2.2 (xi.2.2 1)) xr ud) H := ti_asP hP [.inl 0, .inl 1, .inr 0, .inr 1, .inr 2, .inl 5, .inl 6, .inl 7, .inr 3, .inr 4, .inr 5, .inl 11, .inl 12, .inl 13, .inl 14, .inl 15, .inl 16, .inl 17, .inl 18, .inl 19, .inl 20, .inl 21, .inl 22, .inl 23, .inl 24, .inl 25, .inl 26, .inl 27, .inl 28, .inl 29, .inl 30, .inl 31, .inl 32, .inl 33, .inl 34, .inl 35, .inl 36, .inl 37, .inl 38, .inl 39, .inl 40, .inl 41, .inl 42, .inl 43] rfl rfl rfl rfl
    have hD : va_D A (ti_wMJRD E ad dh du dv jh ju jv kh ku kv tx hi (ti_j2 xr.1 (xi.1 1), ti_j2 xr.2.1 (xi.2.1 1), ti_j2 xr.2.2 (xi.2.2 1)) xr ud) := ti_asD hD [.inl 0, .inl 1, .inr 0, .inr 1, .inr 2, .inl 5, .inl 6, .inl 7, .inr 3, .inr 4, .inr 5, .inl 11, .inl 12, .inl 13, .inl 14, .inl 15, .inl 16, .inl 17, .inl 18, .inl 19, .inl 20, .inl 21, .inl 22, .inl 23, .inl 24, .inl 25, .inl 26, .inl 27, .inl 28, .inl 29, .inl 30, .inl 31, .inl 32, .inl 33, .inl 34, .inl 35, .inl 36, .inl 37, .inl 38, .inl 39, .inl 40, .inl 41, .inl 42, .inl 43] rfl rfl rfl rfl
    refine W.eq (g2 := F0 m 27 ls []) rfl ?_
    refine lv_aload_n hx hb dX0_becomes_27 rfl (lv_at hl 0 rfl) ?_
    refine va_get (v := .ref (ad 2)) hx hb hts in_X0 hown hK hP 0 rfl rfl 1 (by decide) (hts _ q238) (fun _ h => h) rfl dX0_becomes_28 ?_
    refine va_getN (v := .int (nI xr.2.2)) hx hb hts in_X1 hown hK hP 8 rfl rfl 2 (by decide) (hE.use q117 rfl rfl) (fun _ h => h) rfl dX0_becomes_31 ?_
    exact hret (((ti_j2 xr.1 (xi.1 1), ti_j2 xr.2.1 (xi.2.1 1), ti_j2 xr.2.2 (xi.2.2 1)), ud)) _ _ _ _ _ _ _ dX0_becomes_34 (rfl) (⟨ti_JIu0 rfl (hJ 1 (by decide)), ud1.trans (ti_keep2 (hJ 0 (by decide)) hDD), (ti_Jok2 hxr.1 (hxi.1 1) hxr.2.1 (hxi.2.1 1) hxr.2.2 (hxi.2.2 1)), ud2⟩) hP hS (Nat.le_refl _) (Nat.le_refl _)
  · skip
    refine lv_aload_n hx hb dX0_becomes_0 rfl (lv_at hl 0 rfl) ?_
    refine va_get (v := .ref (ad 11)) hx hb hts in_X0 hown hK hP 0 rfl rfl 3 (by decide) (hts _ q240) (fun _ h => h) rfl dX0_becomes_1 ?_
    refine lv_iload_n hx hb dX0_becomes_4 rfl (lv_at hl 1 rfl) ?_
    refine lv_aload_n hx hb dX0_becomes_5 rfl (lv_at hl 0 rfl) ?_
    refine va_get (v := .ref (ad 1)) hx hb hts in_X0 hown hK hP 0 rfl rfl 0 (by decide) (hts _ q237) (fun _ h => h) rfl dX0_becomes_6 ?_
    refine lv_iload_n hx hb dX0_becomes_9 rfl (lv_at hl 1 rfl) ?_
    refine tn_aald hx hb hK hP 1 5 rfl rfl (by omega) (by decide) dX0_becomes_10 ?_
    refine ti_mV (As := [.int (nI 1), .ref (jh 1)]) (rest := []) S hE hP hD hS hA [11, 12, 13, 14, 15, 16, 17, 18, 19, 20, 21, 22, 23, 24, 25, 26, 27, 28, 29, 30, 31, 32, 33, 34, 35, 36, 37, 38, 39, 40, 41, 42, 43, 5, 6, 7] rfl (met_X3_keeps l D E (ad 11) (ad 12) (ad 13) dh du dv xd.1 xd.2.1 xd.2.2.1 xd.2.2.2.1 xd.2.2.2.2.1 xd.2.2.2.2.2 (jh 1) (ju 1) (jv 1) (xi.1 1) (xi.2.1 1) (xi.2.2 1) 1 hxd (hxi.1 1) (hxi.2.1 1) (hxi.2.2 1) (by omega)) rfl (fun _ => rfl) (lw_V q312 q313 q314 q69 q315) 2 rfl 11 rfl rfl (by decide +kernel) ⟨Nat.le_of_ble_eq_true rfl, Nat.le_of_ble_eq_true rfl⟩ hl.1 rfl (Nat.le_of_ble_eq_true rfl) ⟨Nat.le_refl _, Nat.le_refl _⟩ dX0_becomes_11 (fun ud H locs hu hP hD hS => ?_)
    obtain ⟨ud1, ud2, ud3⟩ := hu
    have hP : va_P D vwCl (ti_wMJRD E ad dh du dv jh ju jv kh ku kv tx hi xi xr ud) H := ti_asP hP [.inl 0, .inl 1, .inl 2, .inl 3, .inl 4, .inr 33, .inr 34, .inr 35, .inl 8, .inl 9, .inl 10, .inr 0, .inr 1, .inr 2, .inr 3, .inr 4, .inr 5, .inr 6, .inr 7, .inr 8, .inr 9, .inr 10, .inr 11, .inr 12, .inr 13, .inr 14, .inr 15, .inr 16, .inr 17, .inr 18, .inr 19, .inr 20, .inr 21, .inr 22, .inr 23, .inr 24, .inr 25, .inr 26, .inr 27, .inr 28, .inr 29, .inr 30, .inr 31, .inr 32] rfl rfl rfl rfl
    have hD : va_D A (ti_wMJRD E ad dh du dv jh ju jv kh ku kv tx hi xi xr ud) := ti_asD hD [.inl 0, .inl 1, .inl 2, .inl 3, .inl 4, .inr 33, .inr 34, .inr 35, .inl 8, .inl 9, .inl 10, .inr 0, .inr 1, .inr 2, .inr 3, .inr 4, .inr 5, .inr 6, .inr 7, .inr 8, .inr 9, .inr 10, .inr 11, .inr 12, .inr 13, .inr 14, .inr 15, .inr 16, .inr 17, .inr 18, .inr 19, .inr 20, .inr 21, .inr 22, .inr 23, .inr 24, .inr 25, .inr 26, .inr 27, .inr 28, .inr 29, .inr 30, .inr 31, .inr 32] rfl rfl rfl rfl
    refine W.eq (g2 := F0 m 14 ls []) rfl ?_
    refine lv_aload_n hx hb dX0_becomes_14 rfl (lv_at hl 0 rfl) ?_
    refine va_get (v := .ref (ad 1)) hx hb hts in_X0 hown hK hP 0 rfl rfl 0 (by decide) (hts _ q237) (fun _ h => h) rfl dX0_becomes_15 ?_
    refine lv_iload_n hx hb dX0_becomes_18 rfl (lv_at hl 1 rfl) ?_
    refine tn_aald hx hb hK hP 1 5 rfl rfl (by omega) (by decide) dX0_becomes_19 ?_
    refine lv_aload_n hx hb dX0_becomes_20 rfl (lv_at hl 0 rfl) ?_
    refine va_get (v := .ref (ad 2)) hx hb hts in_X0 hown hK hP 0 rfl rfl 1 (by decide) (hts _ q238) (fun _ h => h) rfl dX0_becomes_21 ?_
    refine ti_mV (As := [.ref (ad 2)]) (rest := []) S hE hP hD hS hA [5, 6, 7, 8, 9, 10] rfl (met_X1_takes l D E (jh 1) (ju 1) (jv 1) (xi.1 1) (xi.2.1 1) (xi.2.2 1) (ad 2) (ad 3) (ad 4) xr.1 xr.2.1 xr.2.2) rfl (fun _ => rfl) (lw_V q347 q317 q318 q67 q319) 1 rfl 5 rfl rfl (by decide +kernel) ⟨Nat.le_of_ble_eq_true rfl, Nat.le_of_ble_eq_true rfl⟩ hl.1 rfl (Nat.le_of_ble_eq_true rfl) ⟨Nat.le_refl _, Nat.le_refl _⟩ dX0_becomes_24 (fun _ H locs hu hP hD hS => ?_)
    have hP : va_P D vwCl (ti_wMJRD E ad dh du dv jh ju jv kh ku kv tx hi (ti_j2 (xi.1 0) xr.1, ti_j2 (xi.2.1 0) xr.2.1, ti_j2 (xi.2.2 0) xr.2.2) xr ud) H := ti_asP hP [.inl 0, .inl 1, .inl 2, .inl 3, .inl 4, .inr 0, .inr 1, .inr 2, .inr 3, .inr 4, .inr 5, .inl 11, .inl 12, .inl 13, .inl 14, .inl 15, .inl 16, .inl 17, .inl 18, .inl 19, .inl 20, .inl 21, .inl 22, .inl 23, .inl 24, .inl 25, .inl 26, .inl 27, .inl 28, .inl 29, .inl 30, .inl 31, .inl 32, .inl 33, .inl 34, .inl 35, .inl 36, .inl 37, .inl 38, .inl 39, .inl 40, .inl 41, .inl 42, .inl 43] rfl rfl rfl rfl
    have hD : va_D A (ti_wMJRD E ad dh du dv jh ju jv kh ku kv tx hi (ti_j2 (xi.1 0) xr.1, ti_j2 (xi.2.1 0) xr.2.1, ti_j2 (xi.2.2 0) xr.2.2) xr ud) := ti_asD hD [.inl 0, .inl 1, .inl 2, .inl 3, .inl 4, .inr 0, .inr 1, .inr 2, .inr 3, .inr 4, .inr 5, .inl 11, .inl 12, .inl 13, .inl 14, .inl 15, .inl 16, .inl 17, .inl 18, .inl 19, .inl 20, .inl 21, .inl 22, .inl 23, .inl 24, .inl 25, .inl 26, .inl 27, .inl 28, .inl 29, .inl 30, .inl 31, .inl 32, .inl 33, .inl 34, .inl 35, .inl 36, .inl 37, .inl 38, .inl 39, .inl 40, .inl 41, .inl 42, .inl 43] rfl rfl rfl rfl
    refine W.eq (g2 := F0 m 27 ls []) rfl ?_
    refine lv_aload_n hx hb dX0_becomes_27 rfl (lv_at hl 0 rfl) ?_
    refine va_get (v := .ref (ad 2)) hx hb hts in_X0 hown hK hP 0 rfl rfl 1 (by decide) (hts _ q238) (fun _ h => h) rfl dX0_becomes_28 ?_
    refine va_getN (v := .int (nI xr.2.2)) hx hb hts in_X1 hown hK hP 8 rfl rfl 2 (by decide) (hE.use q117 rfl rfl) (fun _ h => h) rfl dX0_becomes_31 ?_
    exact hret (((ti_j2 (xi.1 0) xr.1, ti_j2 (xi.2.1 0) xr.2.1, ti_j2 (xi.2.2 0) xr.2.2), ud)) _ _ _ _ _ _ _ dX0_becomes_34 (rfl) (⟨ti_JIu1 rfl (hJ 0 (by decide)), ud1.trans (ti_keep2 (hJ 1 (by decide)) hDD), (ti_Jok2 (hxi.1 0) hxr.1 (hxi.2.1 0) hxr.2.1 (hxi.2.2 0) hxr.2.2), ud2⟩) hP hS (Nat.le_refl _) (Nat.le_refl _)

set_option maxHeartbeats 1000000 in
theorem met_X0_merge (l : Launch) (D : va_G) (E : Nat → ClassId) (ad dh du dv jh ju jv kh ku kv : Nat → Nat) (tx : Nat) (hi : Bool) (xi : ti_Ti) (xr : ti_Tr) (xd : ti_Td) (hxi : ti_Jok xi) (I : Nat → ti_GL) (hJ : ti_JI xi I) (hxd : ti_Dok xd) (DD : ti_DL) (hDD : ti_Dl xd = DD) (hxr : ti_Rok xr) (v : Int32) : ti_MetM (σ := ti_Ti × ti_Tr × ti_Td) l D E yX0_merge cX0_merge 4 (some .int) 4 0 0 (ti_wMJRD E ad dh du dv jh ju jv kh ku kv tx hi xi xr xd) [.ref (ad 0), .int v] (fun u => ti_wMJRD E ad dh du dv jh ju jv kh ku kv tx hi u.1 u.2.1 u.2.2) (fun u => some (.int ((fun _ => (ti_Smerge I DD v).1) u))) (fun u => ti_JI u.1 (ti_Smerge I DD v).2.1 ∧ ti_Dl u.2.2 = (ti_Smerge I DD v).2.2 ∧ ti_Jok u.1 ∧ ti_Rok u.2.1 ∧ ti_Dok u.2.2) := by
  refine ti_mutI (σ := ti_Ti × ti_Tr × ti_Td) (vi := fun _ => (ti_Smerge I DD v).1) (by decide) (Nat.le_of_ble_eq_true rfl) ?_
  intro p e s m below meth c H H0 A Q ls S hE hP hD hS hA hinit hl hret
  have hx := S.1
  have hb := S.2.1
  have hown := S.2.2.2.1
  have hts := S.2.2.2.2
  have hK := hE.1
  have hl : lv_has ls 4 [(0, .ref (ad 0)), (1, .int v)] := hl
  refine lv_iload_n hx hb dX0_merge_0 rfl (lv_at hl 1 rfl) ?_
  refine ti_pS (As := [.int v]) (rest := []) (v := .int (ti_b (ti_bt v))) S hE hP [] (met_X0_isIdeal l D E v) rfl (lw_S q299 q300 q66 q301) 1 rfl (by decide +kernel) ⟨Nat.le_of_ble_eq_true rfl, Nat.le_of_ble_eq_true rfl⟩ hl.1 rfl (Nat.le_of_ble_eq_true rfl) ⟨Nat.le_refl _, Nat.le_refl _⟩ dX0_merge_1 ?_
  refine tb_ne (tgt := 9) hx hb dX0_merge_4 (by decide) (fun c4 => ?_) (fun c4 => ?_)
  · skip
    obtain ⟨i, hi2, rfl⟩ := ti_bt_nat c4
    rcases (show i = 0 ∨ i = 1 by omega) with rfl | rfl
    · skip
      refine lv_aload_n hx hb dX0_merge_9 rfl (lv_at hl 0 rfl) ?_
      refine va_get (v := .ref (ad 1)) hx hb hts in_X0 hown hK hP 0 rfl rfl 0 (by decide) (hts _ q237) (fun _ h => h) rfl dX0_merge_10 ?_
      refine lv_iconst (v := nI 1) hx hb dX0_merge_13 (by decide) ?_
      refine lv_iload_n hx hb dX0_merge_14 rfl (lv_at hl 1 rfl) ?_
      refine tn_sub hx hb dX0_merge_15 (by omega) ?_
      refine tn_aald hx hb hK hP 1 5 rfl rfl (by omega) (by decide) dX0_merge_16 ?_
      refine lv_astore_n (lv' := [(2, .ref (jh 1)), (0, .ref (ad 0)), (1, .int (nI 0))]) hx hb dX0_merge_17 rfl hl (by decide) rfl (fun ls hl => ?_)
      refine lv_aload_n hx hb dX0_merge_18 rfl (lv_at hl 1 rfl) ?_
      refine va_get (v := .ref (ad 2)) hx hb hts in_X0 hown hK hP 0 rfl rfl 1 (by decide) (hts _ q238) (fun _ h => h) rfl dX0_merge_19 ?_
      refine lv_aload_n hx hb dX0_merge_22 rfl (lv_at hl 1 rfl) ?_
      refine va_get (v := .ref (ad 1)) hx hb hts in_X0 hown hK hP 0 rfl rfl 0 (by decide) (hts _ q237) (fun _ h => h) rfl dX0_merge_23 ?_
      refine lv_iload_n hx hb dX0_merge_26 rfl (lv_at hl 2 rfl) ?_
      refine tn_aald hx hb hK hP 1 5 rfl rfl (by omega) (by decide) dX0_merge_27 ?_
      refine ti_mV (As := [.ref (jh 0)]) (rest := []) S hE hP hD hS hA [8, 9, 10, 2, 3, 4] rfl (met_X1_takes l D E (ad 2) (ad 3) (ad 4) xr.1 xr.2.1 xr.2.2 (jh 0) (ju 0) (jv 0) (xi.1 0) (xi.2.1 0) (xi.2.2 0)) rfl (fun _ => rfl) (lw_V q347 q317 q318 q67 q319) 1 rfl 8 rfl rfl (by decide +kernel) ⟨Nat.le_of_ble_eq_true rfl, Nat.le_of_ble_eq_true rfl⟩ hl.1 rfl (Nat.le_of_ble_eq_true rfl) ⟨Nat.le_refl _, Nat.le_refl _⟩ dX0_merge_28 (fun _ H locs hu hP hD hS => ?_)
      have hP : va_P D vwCl (ti_wMJRD E ad dh du dv jh ju jv kh ku kv tx hi xi (xi.1 0, xi.2.1 0, xi.2.2 0) xd) H := ti_asP hP [.inl 0, .inl 1, .inr 3, .inr 4, .inr 5, .inl 5, .inl 6, .inl 7, .inr 0, .inr 1, .inr 2, .inl 11, .inl 12, .inl 13, .inl 14, .inl 15, .inl 16, .inl 17, .inl 18, .inl 19, .inl 20, .inl 21, .inl 22, .inl 23, .inl 24, .inl 25, .inl 26, .inl 27, .inl 28, .inl 29, .inl 30, .inl 31, .inl 32, .inl 33, .inl 34, .inl 35, .inl 36, .inl 37, .inl 38, .inl 39, .inl 40, .inl 41, .inl 42, .inl 43] rfl rfl rfl rfl
      have hD : va_D A (ti_wMJRD E ad dh du dv jh ju jv kh ku kv tx hi xi (xi.1 0, xi.2.1 0, xi.2.2 0) xd) := ti_asD hD [.inl 0, .inl 1, .inr 3, .inr 4, .inr 5, .inl 5, .inl 6, .inl 7, .inr 0, .inr 1, .inr 2, .inl 11, .inl 12, .inl 13, .inl 14, .inl 15, .inl 16, .inl 17, .inl 18, .inl 19, .inl 20, .inl 21, .inl 22, .inl 23, .inl 24, .inl 25, .inl 26, .inl 27, .inl 28, .inl 29, .inl 30, .inl 31, .inl 32, .inl 33, .inl 34, .inl 35, .inl 36, .inl 37, .inl 38, .inl 39, .inl 40, .inl 41, .inl 42, .inl 43] rfl rfl rfl rfl
      refine W.eq (g2 := F0 m 31 ls []) rfl ?_
      have hg := hJ 0 (by decide)
      have hlen := ti_JI_len hJ (show 0 < 2 by decide)
      have h6 := hxi.2.2 0
      have hci : ti_cl (nI 0) = 0 := ti_cl_nI (by decide)
      have h61 := hxi.2.2 1
      refine lv_iconst (v := nI 0) hx hb dX0_merge_31 (by decide) ?_
      refine lv_istore_n (lv' := [(3, .int (nI 0)), (2, .ref (jh 1)), (0, .ref (ad 0)), (1, .int (nI 0))]) hx hb dX0_merge_32 rfl hl (by decide) rfl (fun ls hl => ?_)
      have L33 : ∀ (N : Nat) (k : Nat) (fa fb : Nat → Nat) (n1 : Nat) (ls : Array Slot) (H : Heap) (locs : List Loc), va_P D vwCl (ti_wMJRD E ad dh du dv jh ju jv kh ku kv tx hi xi (fa, fb, n1) xd) H → va_D A (ti_wMJRD E ad dh du dv jh ju jv kh ku kv tx hi xi (fa, fb, n1) xd) → va_S A H0 H locs → (xi.2.2 1 - k) < N → (k ≤ xi.2.2 1) → (∀ j, fa j ≤ 9) → (∀ j, fb j ≤ 9) → (n1 ≤ 6) → (ti_mrg (ti_gr fa fb 0 n1) (ti_gr (xi.1 1) (xi.2.1 1) k (xi.2.2 1 - k)) = ti_mrg (I 0) (I 1)) → lv_has ls 4 [(0, .ref (ad 0)), (1, .int (nI 0)), (2, .ref (jh 1)), (3, .int (nI k))] → W p l e (ti_rm 4 0 0) s m ([.ref (ad 0), .int (nI 0)] : List Value).toArray below meth c H locs 0 0 Q (F0 m 33 ls []) := by
        intro N
        induction N with
        | zero => intro k fa fb n1 ls H locs hP hD hS h0; exact absurd h0 (Nat.not_lt_zero _)
        | succ N ih33 =>
          intro k fa fb n1 ls H locs hP hD hS hN hk hfa hfb hn1 hmg hl
          refine lv_iload_n hx hb dX0_merge_33 rfl (lv_at hl 3 rfl) ?_
          refine lv_aload_n hx hb dX0_merge_34 rfl (lv_at hl 2 rfl) ?_
          refine va_getN (v := .int (nI (xi.2.2 1))) hx hb hts in_X1 hown hK hP 5 rfl rfl 2 (by decide) (hE.use q117 rfl rfl) (fun _ h => h) rfl dX0_merge_35 ?_
          refine tn_ge (tgt := 108) hx hb dX0_merge_38 (by decide) (by omega) (by omega) (fun c38 => ?_) (fun c38 => ?_)
          · skip
            refine lv_aload_n hx hb dX0_merge_108 rfl (lv_at hl 0 rfl) ?_
            refine lv_iload_n hx hb dX0_merge_109 rfl (lv_at hl 1 rfl) ?_
            refine ti_mV (As := [.int (nI 0)]) (rest := []) S hE hP hD hS hA [0, 1, 2, 3, 4, 5, 6, 7, 8, 9, 10, 11, 12, 13, 14, 15, 16, 17, 18, 19, 20, 21, 22, 23, 24, 25, 26, 27, 28, 29, 30, 31, 32, 33, 34, 35, 36, 37, 38, 39, 40, 41, 42, 43] rfl (met_X0_becomes l D E ad dh du dv jh ju jv kh ku kv tx hi xi (fa, fb, n1) xd hxi I hJ hxd DD hDD ⟨hfa, hfb, hn1⟩ 0 (by decide)) rfl (fun _ => rfl) (lw_V q348 q350 qs1 q66 q351) 1 rfl 0 rfl rfl (by decide +kernel) ⟨Nat.le_of_ble_eq_true rfl, Nat.le_of_ble_eq_true rfl⟩ hl.1 rfl (Nat.le_of_ble_eq_true rfl) ⟨Nat.le_refl _, Nat.le_refl _⟩ dX0_merge_110 (fun ub H locs hu hP hD hS => ?_)
            have hub := hu
            have hP : va_P D vwCl (ti_wMJRD E ad dh du dv jh ju jv kh ku kv tx hi (ti_j2 (ub.1.1 0) (ub.1.1 1), ti_j2 (ub.1.2.1 0) (ub.1.2.1 1), ti_j2 (ub.1.2.2 0) (ub.1.2.2 1)) (fa, fb, n1) (ub.2.1, ub.2.2.1, ub.2.2.2.1, ub.2.2.2.2.1, ub.2.2.2.2.2.1, ub.2.2.2.2.2.2)) H := ti_asP hP [.inr 0, .inr 1, .inr 2, .inr 3, .inr 4, .inr 5, .inr 6, .inr 7, .inr 8, .inr 9, .inr 10, .inr 11, .inr 12, .inr 13, .inr 14, .inr 15, .inr 16, .inr 17, .inr 18, .inr 19, .inr 20, .inr 21, .inr 22, .inr 23, .inr 24, .inr 25, .inr 26, .inr 27, .inr 28, .inr 29, .inr 30, .inr 31, .inr 32, .inr 33, .inr 34, .inr 35, .inr 36, .inr 37, .inr 38, .inr 39, .inr 40, .inr 41, .inr 42, .inr 43] rfl rfl rfl rfl
            have hD : va_D A (ti_wMJRD E ad dh du dv jh ju jv kh ku kv tx hi (ti_j2 (ub.1.1 0) (ub.1.1 1), ti_j2 (ub.1.2.1 0) (ub.1.2.1 1), ti_j2 (ub.1.2.2 0) (ub.1.2.2 1)) (fa, fb, n1) (ub.2.1, ub.2.2.1, ub.2.2.2.1, ub.2.2.2.2.1, ub.2.2.2.2.2.1, ub.2.2.2.2.2.2)) := ti_asD hD [.inr 0, .inr 1, .inr 2, .inr 3, .inr 4, .inr 5, .inr 6, .inr 7, .inr 8, .inr 9, .inr 10, .inr 11, .inr 12, .inr 13, .inr 14, .inr 15, .inr 16, .inr 17, .inr 18, .inr 19, .inr 20, .inr 21, .inr 22, .inr 23, .inr 24, .inr 25, .inr 26, .inr 27, .inr 28, .inr 29, .inr 30, .inr 31, .inr 32, .inr 33, .inr 34, .inr 35, .inr 36, .inr 37, .inr 38, .inr 39, .inr 40, .inr 41, .inr 42, .inr 43] rfl rfl rfl rfl
            refine W.eq (g2 := F0 m 113 ls [.int (nI n1)]) rfl ?_
            have hs : ti_Smerge I DD (nI 0) = (nI n1, va_up I 0 (ti_gr fa fb 0 n1), ti_keep (0, I 0) DD) := by rw [show xi.2.2 1 - k = 0 by omega, ti_gr_0] at hmg; have hmg : ti_gr fa fb 0 n1 = ti_mrg (I 0) (I 1) := hmg; rw [ti_Smerge, if_neg (by rw [c4]; decide), hci, show (1 - 0) = 1 from rfl, ← hmg, ti_gr_len, if_neg (by omega)]
            exact hret ((ub.1, (fa, fb, n1), ub.2)) _ _ _ _ _ _ _ dX0_merge_113 (by rw [hs]) (by rw [hs]; exact ⟨hub.1, hub.2.1, hub.2.2.1, ⟨hfa, hfb, hn1⟩, hub.2.2.2⟩) hP hS (Nat.le_refl _) (Nat.le_refl _)
          · skip
            obtain ⟨m9, hm9⟩ : ∃ m9, xi.2.2 1 - k = m9 + 1 := ⟨xi.2.2 1 - k - 1, by omega⟩
            rw [hm9, ti_gr_s, ti_mrg] at hmg
            have h61 := hxi.2.2 1
            refine lv_aload_n hx hb dX0_merge_41 rfl (lv_at hl 0 rfl) ?_
            refine va_get (v := .ref (ad 2)) hx hb hts in_X0 hown hK hP 0 rfl rfl 1 (by decide) (hts _ q238) (fun _ h => h) rfl dX0_merge_42 ?_
            refine lv_aload_n hx hb dX0_merge_45 rfl (lv_at hl 2 rfl) ?_
            refine va_getN (v := .ref (ju 1)) hx hb hts in_X1 hown hK hP 5 rfl rfl 0 (by decide) (hE.use q111 rfl rfl) (fun _ h => h) rfl dX0_merge_46 ?_
            refine lv_iload_n hx hb dX0_merge_49 rfl (lv_at hl 3 rfl) ?_
            refine tn_iald (f := xi.1 1) hx hb hK hP 6 0 rfl rfl (by omega) (by decide) dX0_merge_50 ?_
            have b50 := (hxi.1 1) k
            refine lv_aload_n hx hb dX0_merge_51 rfl (lv_at hl 2 rfl) ?_
            refine va_getN (v := .ref (jv 1)) hx hb hts in_X1 hown hK hP 5 rfl rfl 1 (by decide) (hE.use q114 rfl rfl) (fun _ h => h) rfl dX0_merge_52 ?_
            refine lv_iload_n hx hb dX0_merge_55 rfl (lv_at hl 3 rfl) ?_
            refine tn_iald (f := xi.2.1 1) hx hb hK hP 7 0 rfl rfl (by omega) (by decide) dX0_merge_56 ?_
            have b56 := (hxi.2.1 1) k
            refine ti_pV (As := [.int (nI ((xi.1 1) k)), .int (nI ((xi.2.1 1) k))]) (rest := []) (v := .int (ti_px (ti_pl ((xi.1 1) k) ((xi.2.1 1) k) (ti_gr fa fb 0 n1) 0))) S hE hP [8, 9, 10] (met_X1_placeOf l D E (ad 2) (ad 3) (ad 4) fa fb n1 hn1 hfa hfb ((xi.1 1) k) ((xi.2.1 1) k) b50 b56) rfl (lw_V q308 q309 q310 q67 q311) 2 rfl 8 rfl rfl (by decide +kernel) ⟨Nat.le_of_ble_eq_true rfl, Nat.le_of_ble_eq_true rfl⟩ hl.1 rfl (Nat.le_of_ble_eq_true rfl) ⟨Nat.le_refl _, Nat.le_refl _⟩ dX0_merge_57 ?_
            refine lv_bipush (v := (-5)) hx hb dX0_merge_60 (by decide) ?_
            refine lv_icmp_eq (tgt := 68) hx hb dX0_merge_62 (by decide) (fun c62 => ?_) (fun c62 => ?_)
            · skip
              have hm := (ti_place5 (by rw [ti_gr_len]; omega)).mp c62
              rw [if_neg hm] at hmg
              refine lv_aload_n hx hb dX0_merge_68 rfl (lv_at hl 0 rfl) ?_
              refine va_get (v := .ref (ad 2)) hx hb hts in_X0 hown hK hP 0 rfl rfl 1 (by decide) (hts _ q238) (fun _ h => h) rfl dX0_merge_69 ?_
              refine va_getN (v := .int (nI n1)) hx hb hts in_X1 hown hK hP 8 rfl rfl 2 (by decide) (hE.use q117 rfl rfl) (fun _ h => h) rfl dX0_merge_72 ?_
              refine lv_bipush (v := nI 6) hx hb dX0_merge_75 (by decide) ?_
              refine tn_ne (tgt := 83) hx hb dX0_merge_77 (by decide) (by omega) (by omega) (fun c77 => ?_) (fun c77 => ?_)
              · skip
                refine lv_aload_n hx hb dX0_merge_83 rfl (lv_at hl 0 rfl) ?_
                refine va_get (v := .ref (ad 2)) hx hb hts in_X0 hown hK hP 0 rfl rfl 1 (by decide) (hts _ q238) (fun _ h => h) rfl dX0_merge_84 ?_
                refine lv_aload_n hx hb dX0_merge_87 rfl (lv_at hl 2 rfl) ?_
                refine va_getN (v := .ref (ju 1)) hx hb hts in_X1 hown hK hP 5 rfl rfl 0 (by decide) (hE.use q111 rfl rfl) (fun _ h => h) rfl dX0_merge_88 ?_
                refine lv_iload_n hx hb dX0_merge_91 rfl (lv_at hl 3 rfl) ?_
                refine tn_iald (f := xi.1 1) hx hb hK hP 6 0 rfl rfl (by omega) (by decide) dX0_merge_92 ?_
                have b92 := (hxi.1 1) k
                refine lv_aload_n hx hb dX0_merge_93 rfl (lv_at hl 2 rfl) ?_
                refine va_getN (v := .ref (jv 1)) hx hb hts in_X1 hown hK hP 5 rfl rfl 1 (by decide) (hE.use q114 rfl rfl) (fun _ h => h) rfl dX0_merge_94 ?_
                refine lv_iload_n hx hb dX0_merge_97 rfl (lv_at hl 3 rfl) ?_
                refine tn_iald (f := xi.2.1 1) hx hb hK hP 7 0 rfl rfl (by omega) (by decide) dX0_merge_98 ?_
                have b98 := (hxi.2.1 1) k
                refine ti_mV (As := [.int (nI ((xi.1 1) k)), .int (nI ((xi.2.1 1) k))]) (rest := []) S hE hP hD hS hA [8, 9, 10] rfl (met_X1_comes l D E (ad 2) (ad 3) (ad 4) fa fb n1 (by omega) ((xi.1 1) k) ((xi.2.1 1) k)) rfl (fun _ => rfl) (lw_V q323 q324 q325 q67 q326) 2 rfl 8 rfl rfl (by decide +kernel) ⟨Nat.le_of_ble_eq_true rfl, Nat.le_of_ble_eq_true rfl⟩ hl.1 rfl (Nat.le_of_ble_eq_true rfl) ⟨Nat.le_refl _, Nat.le_refl _⟩ dX0_merge_99 (fun _ H locs hu hP hD hS => ?_)
                have hP : va_P D vwCl (ti_wMJRD E ad dh du dv jh ju jv kh ku kv tx hi xi (va_up fa n1 ((xi.1 1) k), va_up fb n1 ((xi.2.1 1) k), n1 + 1) xd) H := ti_asP hP [.inl 0, .inl 1, .inl 2, .inl 3, .inl 4, .inl 5, .inl 6, .inl 7, .inr 0, .inr 1, .inr 2, .inl 11, .inl 12, .inl 13, .inl 14, .inl 15, .inl 16, .inl 17, .inl 18, .inl 19, .inl 20, .inl 21, .inl 22, .inl 23, .inl 24, .inl 25, .inl 26, .inl 27, .inl 28, .inl 29, .inl 30, .inl 31, .inl 32, .inl 33, .inl 34, .inl 35, .inl 36, .inl 37, .inl 38, .inl 39, .inl 40, .inl 41, .inl 42, .inl 43] rfl rfl rfl rfl
                have hD : va_D A (ti_wMJRD E ad dh du dv jh ju jv kh ku kv tx hi xi (va_up fa n1 ((xi.1 1) k), va_up fb n1 ((xi.2.1 1) k), n1 + 1) xd) := ti_asD hD [.inl 0, .inl 1, .inl 2, .inl 3, .inl 4, .inl 5, .inl 6, .inl 7, .inr 0, .inr 1, .inr 2, .inl 11, .inl 12, .inl 13, .inl 14, .inl 15, .inl 16, .inl 17, .inl 18, .inl 19, .inl 20, .inl 21, .inl 22, .inl 23, .inl 24, .inl 25, .inl 26, .inl 27, .inl 28, .inl 29, .inl 30, .inl 31, .inl 32, .inl 33, .inl 34, .inl 35, .inl 36, .inl 37, .inl 38, .inl 39, .inl 40, .inl 41, .inl 42, .inl 43] rfl rfl rfl rfl
                refine W.eq (g2 := F0 m 102 ls []) rfl ?_
                refine lv_iinc (v := nI (k + 1)) (lv' := [(3, .int (nI (k + 1))), (0, .ref (ad 0)), (1, .int (nI 0)), (2, .ref (jh 1))]) hx hb dX0_merge_102 hl (k := 3) rfl (nI_1 k) (by decide) rfl (fun ls hl => ?_)
                refine lv_goto (tgt := 33) hx hb dX0_merge_105 (by decide) ?_
                exact ih33 (k + 1) (va_up fa n1 ((xi.1 1) k)) (va_up fb n1 ((xi.2.1 1) k)) (n1 + 1) _ _ _ hP hD hS (by omega) (by omega) (ti_up_le hfa (hxi.1 1 k)) (ti_up_le hfb (hxi.2.1 1 k)) (by omega) (by rw [ti_gr_push, show xi.2.2 1 - (k + 1) = m9 by omega]; exact hmg) (lv_sub hl [1, 2, 3, 0] rfl)
              · skip
                refine lv_bipush (v := (-4)) hx hb dX0_merge_80 (by decide) ?_
                have hs : ti_Smerge I DD (nI 0) = (-4, I, DD) := by rw [ti_Smerge, if_neg (by rw [c4]; decide), hci, if_pos (by show 6 < (ti_mrg (I 0) (I 1)).length; rw [← hmg]; refine Nat.lt_of_lt_of_le ?_ (ti_mrg_le _ _); rw [List.length_append, ti_gr_len, c77]; exact Nat.le_refl 7)]
                exact hret ((xi, (fa, fb, n1), xd)) _ _ _ _ _ _ _ dX0_merge_82 (by rw [hs]) (by rw [hs]; exact ⟨hJ, hDD, hxi, ⟨hfa, hfb, hn1⟩, hxd⟩) hP hS (Nat.le_refl _) (Nat.le_refl _)
            · skip
              have hm : (xi.1 1 k, xi.2.1 1 k) ∈ ti_gr fa fb 0 n1 := Classical.not_not.mp fun z => c62 ((ti_place5 (by rw [ti_gr_len]; omega)).mpr z)
              rw [if_pos hm] at hmg
              refine lv_goto (tgt := 102) hx hb dX0_merge_65 (by decide) ?_
              refine lv_iinc (v := nI (k + 1)) (lv' := [(3, .int (nI (k + 1))), (0, .ref (ad 0)), (1, .int (nI 0)), (2, .ref (jh 1))]) hx hb dX0_merge_102 hl (k := 3) rfl (nI_1 k) (by decide) rfl (fun ls hl => ?_)
              refine lv_goto (tgt := 33) hx hb dX0_merge_105 (by decide) ?_
              exact ih33 (k + 1) fa fb n1 _ _ _ hP hD hS (by omega) (by omega) (hfa) (hfb) (hn1) (by rw [show xi.2.2 1 - (k + 1) = m9 by omega]; exact hmg) (lv_sub hl [1, 2, 3, 0] rfl)
      exact L33 _ 0 (xi.1 0) (xi.2.1 0) (xi.2.2 0) _ _ _ hP hD hS (Nat.lt_succ_self _) (by omega) (hxi.1 0) (hxi.2.1 0) (hxi.2.2 0) (by rw [show (ti_gr (xi.1 0) (xi.2.1 0) 0 (xi.2.2 0)) = I 0 from hJ 0 (by decide)]; exact congrArg (ti_mrg (I 0)) (hJ 1 (by decide))) (lv_sub hl [2, 3, 1, 0] rfl)
    · skip
      refine lv_aload_n hx hb dX0_merge_9 rfl (lv_at hl 0 rfl) ?_
      refine va_get (v := .ref (ad 1)) hx hb hts in_X0 hown hK hP 0 rfl rfl 0 (by decide) (hts _ q237) (fun _ h => h) rfl dX0_merge_10 ?_
      refine lv_iconst (v := nI 1) hx hb dX0_merge_13 (by decide) ?_
      refine lv_iload_n hx hb dX0_merge_14 rfl (lv_at hl 1 rfl) ?_
      refine tn_sub hx hb dX0_merge_15 (by omega) ?_
      refine tn_aald hx hb hK hP 1 5 rfl rfl (by omega) (by decide) dX0_merge_16 ?_
      refine lv_astore_n (lv' := [(2, .ref (jh 0)), (0, .ref (ad 0)), (1, .int (nI 1))]) hx hb dX0_merge_17 rfl hl (by decide) rfl (fun ls hl => ?_)
      refine lv_aload_n hx hb dX0_merge_18 rfl (lv_at hl 1 rfl) ?_
      refine va_get (v := .ref (ad 2)) hx hb hts in_X0 hown hK hP 0 rfl rfl 1 (by decide) (hts _ q238) (fun _ h => h) rfl dX0_merge_19 ?_
      refine lv_aload_n hx hb dX0_merge_22 rfl (lv_at hl 1 rfl) ?_
      refine va_get (v := .ref (ad 1)) hx hb hts in_X0 hown hK hP 0 rfl rfl 0 (by decide) (hts _ q237) (fun _ h => h) rfl dX0_merge_23 ?_
      refine lv_iload_n hx hb dX0_merge_26 rfl (lv_at hl 2 rfl) ?_
      refine tn_aald hx hb hK hP 1 5 rfl rfl (by omega) (by decide) dX0_merge_27 ?_
      refine ti_mV (As := [.ref (jh 1)]) (rest := []) S hE hP hD hS hA [8, 9, 10, 5, 6, 7] rfl (met_X1_takes l D E (ad 2) (ad 3) (ad 4) xr.1 xr.2.1 xr.2.2 (jh 1) (ju 1) (jv 1) (xi.1 1) (xi.2.1 1) (xi.2.2 1)) rfl (fun _ => rfl) (lw_V q347 q317 q318 q67 q319) 1 rfl 8 rfl rfl (by decide +kernel) ⟨Nat.le_of_ble_eq_true rfl, Nat.le_of_ble_eq_true rfl⟩ hl.1 rfl (Nat.le_of_ble_eq_true rfl) ⟨Nat.le_refl _, Nat.le_refl _⟩ dX0_merge_28 (fun _ H locs hu hP hD hS => ?_)
      have hP : va_P D vwCl (ti_wMJRD E ad dh du dv jh ju jv kh ku kv tx hi xi (xi.1 1, xi.2.1 1, xi.2.2 1) xd) H := ti_asP hP [.inl 0, .inl 1, .inl 2, .inl 3, .inl 4, .inr 3, .inr 4, .inr 5, .inr 0, .inr 1, .inr 2, .inl 11, .inl 12, .inl 13, .inl 14, .inl 15, .inl 16, .inl 17, .inl 18, .inl 19, .inl 20, .inl 21, .inl 22, .inl 23, .inl 24, .inl 25, .inl 26, .inl 27, .inl 28, .inl 29, .inl 30, .inl 31, .inl 32, .inl 33, .inl 34, .inl 35, .inl 36, .inl 37, .inl 38, .inl 39, .inl 40, .inl 41, .inl 42, .inl 43] rfl rfl rfl rfl
      have hD : va_D A (ti_wMJRD E ad dh du dv jh ju jv kh ku kv tx hi xi (xi.1 1, xi.2.1 1, xi.2.2 1) xd) := ti_asD hD [.inl 0, .inl 1, .inl 2, .inl 3, .inl 4, .inr 3, .inr 4, .inr 5, .inr 0, .inr 1, .inr 2, .inl 11, .inl 12, .inl 13, .inl 14, .inl 15, .inl 16, .inl 17, .inl 18, .inl 19, .inl 20, .inl 21, .inl 22, .inl 23, .inl 24, .inl 25, .inl 26, .inl 27, .inl 28, .inl 29, .inl 30, .inl 31, .inl 32, .inl 33, .inl 34, .inl 35, .inl 36, .inl 37, .inl 38, .inl 39, .inl 40, .inl 41, .inl 42, .inl 43] rfl rfl rfl rfl
      refine W.eq (g2 := F0 m 31 ls []) rfl ?_
      have hg := hJ 1 (by decide)
      have hlen := ti_JI_len hJ (show 1 < 2 by decide)
      have h6 := hxi.2.2 1
      have hci : ti_cl (nI 1) = 1 := ti_cl_nI (by decide)
      have h61 := hxi.2.2 0
      refine lv_iconst (v := nI 0) hx hb dX0_merge_31 (by decide) ?_
      refine lv_istore_n (lv' := [(3, .int (nI 0)), (2, .ref (jh 0)), (0, .ref (ad 0)), (1, .int (nI 1))]) hx hb dX0_merge_32 rfl hl (by decide) rfl (fun ls hl => ?_)
      have L33 : ∀ (N : Nat) (k : Nat) (fa fb : Nat → Nat) (n1 : Nat) (ls : Array Slot) (H : Heap) (locs : List Loc), va_P D vwCl (ti_wMJRD E ad dh du dv jh ju jv kh ku kv tx hi xi (fa, fb, n1) xd) H → va_D A (ti_wMJRD E ad dh du dv jh ju jv kh ku kv tx hi xi (fa, fb, n1) xd) → va_S A H0 H locs → (xi.2.2 0 - k) < N → (k ≤ xi.2.2 0) → (∀ j, fa j ≤ 9) → (∀ j, fb j ≤ 9) → (n1 ≤ 6) → (ti_mrg (ti_gr fa fb 0 n1) (ti_gr (xi.1 0) (xi.2.1 0) k (xi.2.2 0 - k)) = ti_mrg (I 1) (I 0)) → lv_has ls 4 [(0, .ref (ad 0)), (1, .int (nI 1)), (2, .ref (jh 0)), (3, .int (nI k))] → W p l e (ti_rm 4 0 0) s m ([.ref (ad 0), .int (nI 1)] : List Value).toArray below meth c H locs 0 0 Q (F0 m 33 ls []) := by
        intro N
        induction N with
        | zero => intro k fa fb n1 ls H locs hP hD hS h0; exact absurd h0 (Nat.not_lt_zero _)
        | succ N ih33 =>
          intro k fa fb n1 ls H locs hP hD hS hN hk hfa hfb hn1 hmg hl
          refine lv_iload_n hx hb dX0_merge_33 rfl (lv_at hl 3 rfl) ?_
          refine lv_aload_n hx hb dX0_merge_34 rfl (lv_at hl 2 rfl) ?_
          refine va_getN (v := .int (nI (xi.2.2 0))) hx hb hts in_X1 hown hK hP 2 rfl rfl 2 (by decide) (hE.use q117 rfl rfl) (fun _ h => h) rfl dX0_merge_35 ?_
          refine tn_ge (tgt := 108) hx hb dX0_merge_38 (by decide) (by omega) (by omega) (fun c38 => ?_) (fun c38 => ?_)
          · skip
            refine lv_aload_n hx hb dX0_merge_108 rfl (lv_at hl 0 rfl) ?_
            refine lv_iload_n hx hb dX0_merge_109 rfl (lv_at hl 1 rfl) ?_
            refine ti_mV (As := [.int (nI 1)]) (rest := []) S hE hP hD hS hA [0, 1, 2, 3, 4, 5, 6, 7, 8, 9, 10, 11, 12, 13, 14, 15, 16, 17, 18, 19, 20, 21, 22, 23, 24, 25, 26, 27, 28, 29, 30, 31, 32, 33, 34, 35, 36, 37, 38, 39, 40, 41, 42, 43] rfl (met_X0_becomes l D E ad dh du dv jh ju jv kh ku kv tx hi xi (fa, fb, n1) xd hxi I hJ hxd DD hDD ⟨hfa, hfb, hn1⟩ 1 (by decide)) rfl (fun _ => rfl) (lw_V q348 q350 qs1 q66 q351) 1 rfl 0 rfl rfl (by decide +kernel) ⟨Nat.le_of_ble_eq_true rfl, Nat.le_of_ble_eq_true rfl⟩ hl.1 rfl (Nat.le_of_ble_eq_true rfl) ⟨Nat.le_refl _, Nat.le_refl _⟩ dX0_merge_110 (fun ub H locs hu hP hD hS => ?_)
            have hub := hu
            have hP : va_P D vwCl (ti_wMJRD E ad dh du dv jh ju jv kh ku kv tx hi (ti_j2 (ub.1.1 0) (ub.1.1 1), ti_j2 (ub.1.2.1 0) (ub.1.2.1 1), ti_j2 (ub.1.2.2 0) (ub.1.2.2 1)) (fa, fb, n1) (ub.2.1, ub.2.2.1, ub.2.2.2.1, ub.2.2.2.2.1, ub.2.2.2.2.2.1, ub.2.2.2.2.2.2)) H := ti_asP hP [.inr 0, .inr 1, .inr 2, .inr 3, .inr 4, .inr 5, .inr 6, .inr 7, .inr 8, .inr 9, .inr 10, .inr 11, .inr 12, .inr 13, .inr 14, .inr 15, .inr 16, .inr 17, .inr 18, .inr 19, .inr 20, .inr 21, .inr 22, .inr 23, .inr 24, .inr 25, .inr 26, .inr 27, .inr 28, .inr 29, .inr 30, .inr 31, .inr 32, .inr 33, .inr 34, .inr 35, .inr 36, .inr 37, .inr 38, .inr 39, .inr 40, .inr 41, .inr 42, .inr 43] rfl rfl rfl rfl
            have hD : va_D A (ti_wMJRD E ad dh du dv jh ju jv kh ku kv tx hi (ti_j2 (ub.1.1 0) (ub.1.1 1), ti_j2 (ub.1.2.1 0) (ub.1.2.1 1), ti_j2 (ub.1.2.2 0) (ub.1.2.2 1)) (fa, fb, n1) (ub.2.1, ub.2.2.1, ub.2.2.2.1, ub.2.2.2.2.1, ub.2.2.2.2.2.1, ub.2.2.2.2.2.2)) := ti_asD hD [.inr 0, .inr 1, .inr 2, .inr 3, .inr 4, .inr 5, .inr 6, .inr 7, .inr 8, .inr 9, .inr 10, .inr 11, .inr 12, .inr 13, .inr 14, .inr 15, .inr 16, .inr 17, .inr 18, .inr 19, .inr 20, .inr 21, .inr 22, .inr 23, .inr 24, .inr 25, .inr 26, .inr 27, .inr 28, .inr 29, .inr 30, .inr 31, .inr 32, .inr 33, .inr 34, .inr 35, .inr 36, .inr 37, .inr 38, .inr 39, .inr 40, .inr 41, .inr 42, .inr 43] rfl rfl rfl rfl
            refine W.eq (g2 := F0 m 113 ls [.int (nI n1)]) rfl ?_
            have hs : ti_Smerge I DD (nI 1) = (nI n1, va_up I 1 (ti_gr fa fb 0 n1), ti_keep (1, I 1) DD) := by rw [show xi.2.2 0 - k = 0 by omega, ti_gr_0] at hmg; have hmg : ti_gr fa fb 0 n1 = ti_mrg (I 1) (I 0) := hmg; rw [ti_Smerge, if_neg (by rw [c4]; decide), hci, show (1 - 1) = 0 from rfl, ← hmg, ti_gr_len, if_neg (by omega)]
            exact hret ((ub.1, (fa, fb, n1), ub.2)) _ _ _ _ _ _ _ dX0_merge_113 (by rw [hs]) (by rw [hs]; exact ⟨hub.1, hub.2.1, hub.2.2.1, ⟨hfa, hfb, hn1⟩, hub.2.2.2⟩) hP hS (Nat.le_refl _) (Nat.le_refl _)
          · skip
            obtain ⟨m9, hm9⟩ : ∃ m9, xi.2.2 0 - k = m9 + 1 := ⟨xi.2.2 0 - k - 1, by omega⟩
            rw [hm9, ti_gr_s, ti_mrg] at hmg
            have h61 := hxi.2.2 0
            refine lv_aload_n hx hb dX0_merge_41 rfl (lv_at hl 0 rfl) ?_
            refine va_get (v := .ref (ad 2)) hx hb hts in_X0 hown hK hP 0 rfl rfl 1 (by decide) (hts _ q238) (fun _ h => h) rfl dX0_merge_42 ?_
            refine lv_aload_n hx hb dX0_merge_45 rfl (lv_at hl 2 rfl) ?_
            refine va_getN (v := .ref (ju 0)) hx hb hts in_X1 hown hK hP 2 rfl rfl 0 (by decide) (hE.use q111 rfl rfl) (fun _ h => h) rfl dX0_merge_46 ?_
            refine lv_iload_n hx hb dX0_merge_49 rfl (lv_at hl 3 rfl) ?_
            refine tn_iald (f := xi.1 0) hx hb hK hP 3 0 rfl rfl (by omega) (by decide) dX0_merge_50 ?_
            have b50 := (hxi.1 0) k
            refine lv_aload_n hx hb dX0_merge_51 rfl (lv_at hl 2 rfl) ?_
            refine va_getN (v := .ref (jv 0)) hx hb hts in_X1 hown hK hP 2 rfl rfl 1 (by decide) (hE.use q114 rfl rfl) (fun _ h => h) rfl dX0_merge_52 ?_
            refine lv_iload_n hx hb dX0_merge_55 rfl (lv_at hl 3 rfl) ?_
            refine tn_iald (f := xi.2.1 0) hx hb hK hP 4 0 rfl rfl (by omega) (by decide) dX0_merge_56 ?_
            have b56 := (hxi.2.1 0) k
            refine ti_pV (As := [.int (nI ((xi.1 0) k)), .int (nI ((xi.2.1 0) k))]) (rest := []) (v := .int (ti_px (ti_pl ((xi.1 0) k) ((xi.2.1 0) k) (ti_gr fa fb 0 n1) 0))) S hE hP [8, 9, 10] (met_X1_placeOf l D E (ad 2) (ad 3) (ad 4) fa fb n1 hn1 hfa hfb ((xi.1 0) k) ((xi.2.1 0) k) b50 b56) rfl (lw_V q308 q309 q310 q67 q311) 2 rfl 8 rfl rfl (by decide +kernel) ⟨Nat.le_of_ble_eq_true rfl, Nat.le_of_ble_eq_true rfl⟩ hl.1 rfl (Nat.le_of_ble_eq_true rfl) ⟨Nat.le_refl _, Nat.le_refl _⟩ dX0_merge_57 ?_
            refine lv_bipush (v := (-5)) hx hb dX0_merge_60 (by decide) ?_
            refine lv_icmp_eq (tgt := 68) hx hb dX0_merge_62 (by decide) (fun c62 => ?_) (fun c62 => ?_)
            · skip
              have hm := (ti_place5 (by rw [ti_gr_len]; omega)).mp c62
              rw [if_neg hm] at hmg
              refine lv_aload_n hx hb dX0_merge_68 rfl (lv_at hl 0 rfl) ?_
              refine va_get (v := .ref (ad 2)) hx hb hts in_X0 hown hK hP 0 rfl rfl 1 (by decide) (hts _ q238) (fun _ h => h) rfl dX0_merge_69 ?_
              refine va_getN (v := .int (nI n1)) hx hb hts in_X1 hown hK hP 8 rfl rfl 2 (by decide) (hE.use q117 rfl rfl) (fun _ h => h) rfl dX0_merge_72 ?_
              refine lv_bipush (v := nI 6) hx hb dX0_merge_75 (by decide) ?_
              refine tn_ne (tgt := 83) hx hb dX0_merge_77 (by decide) (by omega) (by omega) (fun c77 => ?_) (fun c77 => ?_)
              · skip
                refine lv_aload_n hx hb dX0_merge_83 rfl (lv_at hl 0 rfl) ?_
                refine va_get (v := .ref (ad 2)) hx hb hts in_X0 hown hK hP 0 rfl rfl 1 (by decide) (hts _ q238) (fun _ h => h) rfl dX0_merge_84 ?_
                refine lv_aload_n hx hb dX0_merge_87 rfl (lv_at hl 2 rfl) ?_
                refine va_getN (v := .ref (ju 0)) hx hb hts in_X1 hown hK hP 2 rfl rfl 0 (by decide) (hE.use q111 rfl rfl) (fun _ h => h) rfl dX0_merge_88 ?_
                refine lv_iload_n hx hb dX0_merge_91 rfl (lv_at hl 3 rfl) ?_
                refine tn_iald (f := xi.1 0) hx hb hK hP 3 0 rfl rfl (by omega) (by decide) dX0_merge_92 ?_
                have b92 := (hxi.1 0) k
                refine lv_aload_n hx hb dX0_merge_93 rfl (lv_at hl 2 rfl) ?_
                refine va_getN (v := .ref (jv 0)) hx hb hts in_X1 hown hK hP 2 rfl rfl 1 (by decide) (hE.use q114 rfl rfl) (fun _ h => h) rfl dX0_merge_94 ?_
                refine lv_iload_n hx hb dX0_merge_97 rfl (lv_at hl 3 rfl) ?_
                refine tn_iald (f := xi.2.1 0) hx hb hK hP 4 0 rfl rfl (by omega) (by decide) dX0_merge_98 ?_
                have b98 := (hxi.2.1 0) k
                refine ti_mV (As := [.int (nI ((xi.1 0) k)), .int (nI ((xi.2.1 0) k))]) (rest := []) S hE hP hD hS hA [8, 9, 10] rfl (met_X1_comes l D E (ad 2) (ad 3) (ad 4) fa fb n1 (by omega) ((xi.1 0) k) ((xi.2.1 0) k)) rfl (fun _ => rfl) (lw_V q323 q324 q325 q67 q326) 2 rfl 8 rfl rfl (by decide +kernel) ⟨Nat.le_of_ble_eq_true rfl, Nat.le_of_ble_eq_true rfl⟩ hl.1 rfl (Nat.le_of_ble_eq_true rfl) ⟨Nat.le_refl _, Nat.le_refl _⟩ dX0_merge_99 (fun _ H locs hu hP hD hS => ?_)
                have hP : va_P D vwCl (ti_wMJRD E ad dh du dv jh ju jv kh ku kv tx hi xi (va_up fa n1 ((xi.1 0) k), va_up fb n1 ((xi.2.1 0) k), n1 + 1) xd) H := ti_asP hP [.inl 0, .inl 1, .inl 2, .inl 3, .inl 4, .inl 5, .inl 6, .inl 7, .inr 0, .inr 1, .inr 2, .inl 11, .inl 12, .inl 13, .inl 14, .inl 15, .inl 16, .inl 17, .inl 18, .inl 19, .inl 20, .inl 21, .inl 22, .inl 23, .inl 24, .inl 25, .inl 26, .inl 27, .inl 28, .inl 29, .inl 30, .inl 31, .inl 32, .inl 33, .inl 34, .inl 35, .inl 36, .inl 37, .inl 38, .inl 39, .inl 40, .inl 41, .inl 42, .inl 43] rfl rfl rfl rfl
                have hD : va_D A (ti_wMJRD E ad dh du dv jh ju jv kh ku kv tx hi xi (va_up fa n1 ((xi.1 0) k), va_up fb n1 ((xi.2.1 0) k), n1 + 1) xd) := ti_asD hD [.inl 0, .inl 1, .inl 2, .inl 3, .inl 4, .inl 5, .inl 6, .inl 7, .inr 0, .inr 1, .inr 2, .inl 11, .inl 12, .inl 13, .inl 14, .inl 15, .inl 16, .inl 17, .inl 18, .inl 19, .inl 20, .inl 21, .inl 22, .inl 23, .inl 24, .inl 25, .inl 26, .inl 27, .inl 28, .inl 29, .inl 30, .inl 31, .inl 32, .inl 33, .inl 34, .inl 35, .inl 36, .inl 37, .inl 38, .inl 39, .inl 40, .inl 41, .inl 42, .inl 43] rfl rfl rfl rfl
                refine W.eq (g2 := F0 m 102 ls []) rfl ?_
                refine lv_iinc (v := nI (k + 1)) (lv' := [(3, .int (nI (k + 1))), (0, .ref (ad 0)), (1, .int (nI 1)), (2, .ref (jh 0))]) hx hb dX0_merge_102 hl (k := 3) rfl (nI_1 k) (by decide) rfl (fun ls hl => ?_)
                refine lv_goto (tgt := 33) hx hb dX0_merge_105 (by decide) ?_
                exact ih33 (k + 1) (va_up fa n1 ((xi.1 0) k)) (va_up fb n1 ((xi.2.1 0) k)) (n1 + 1) _ _ _ hP hD hS (by omega) (by omega) (ti_up_le hfa (hxi.1 0 k)) (ti_up_le hfb (hxi.2.1 0 k)) (by omega) (by rw [ti_gr_push, show xi.2.2 0 - (k + 1) = m9 by omega]; exact hmg) (lv_sub hl [1, 2, 3, 0] rfl)
              · skip
                refine lv_bipush (v := (-4)) hx hb dX0_merge_80 (by decide) ?_
                have hs : ti_Smerge I DD (nI 1) = (-4, I, DD) := by rw [ti_Smerge, if_neg (by rw [c4]; decide), hci, if_pos (by show 6 < (ti_mrg (I 1) (I 0)).length; rw [← hmg]; refine Nat.lt_of_lt_of_le ?_ (ti_mrg_le _ _); rw [List.length_append, ti_gr_len, c77]; exact Nat.le_refl 7)]
                exact hret ((xi, (fa, fb, n1), xd)) _ _ _ _ _ _ _ dX0_merge_82 (by rw [hs]) (by rw [hs]; exact ⟨hJ, hDD, hxi, ⟨hfa, hfb, hn1⟩, hxd⟩) hP hS (Nat.le_refl _) (Nat.le_refl _)
            · skip
              have hm : (xi.1 0 k, xi.2.1 0 k) ∈ ti_gr fa fb 0 n1 := Classical.not_not.mp fun z => c62 ((ti_place5 (by rw [ti_gr_len]; omega)).mpr z)
              rw [if_pos hm] at hmg
              refine lv_goto (tgt := 102) hx hb dX0_merge_65 (by decide) ?_
              refine lv_iinc (v := nI (k + 1)) (lv' := [(3, .int (nI (k + 1))), (0, .ref (ad 0)), (1, .int (nI 1)), (2, .ref (jh 0))]) hx hb dX0_merge_102 hl (k := 3) rfl (nI_1 k) (by decide) rfl (fun ls hl => ?_)
              refine lv_goto (tgt := 33) hx hb dX0_merge_105 (by decide) ?_
              exact ih33 (k + 1) fa fb n1 _ _ _ hP hD hS (by omega) (by omega) (hfa) (hfb) (hn1) (by rw [show xi.2.2 0 - (k + 1) = m9 by omega]; exact hmg) (lv_sub hl [1, 2, 3, 0] rfl)
      exact L33 _ 0 (xi.1 1) (xi.2.1 1) (xi.2.2 1) _ _ _ hP hD hS (Nat.lt_succ_self _) (by omega) (hxi.1 1) (hxi.2.1 1) (hxi.2.2 1) (by rw [show (ti_gr (xi.1 1) (xi.2.1 1) 0 (xi.2.2 1)) = I 1 from hJ 1 (by decide)]; exact congrArg (ti_mrg (I 1)) (hJ 0 (by decide))) (lv_sub hl [2, 3, 1, 0] rfl)
  · skip
    refine lv_iconst (v := (-1)) hx hb dX0_merge_7 (by decide) ?_
    have hs : ti_Smerge I DD v = (-1, I, DD) := by rw [ti_Smerge, if_pos c4]
    exact hret (xi, xr, xd) _ _ _ _ _ _ _ dX0_merge_8 (by rw [hs]) (by rw [hs]; exact ⟨hJ, hDD, hxi, hxr, hxd⟩) hP hS (Nat.le_refl _) (Nat.le_refl _)

set_option maxHeartbeats 1000000 in
theorem met_X0_isCorner (l : Launch) (D : va_G) (E : Nat → ClassId) (ad dh du dv jh ju jv kh ku kv : Nat → Nat) (tx : Nat) (hi : Bool) (xf : ti_Tf) (hxf : ti_Fok xf) (a b : Nat) (ha9 : a ≤ 9) (hb9 : b ≤ 9) : ti_MetP l D E yX0_isCorner cX0_isCorner 3 (some .boolean) 1 (ti_wMF E ad dh du dv jh ju jv kh ku kv tx hi xf) [.ref (ad 0), .int (nI a), .int (nI b)] (some (.int (ti_b (ti_cn a b (ti_fr xf.2.1 xf.2.2.1 xf.2.2.2.1 0 xf.2.2.2.2.1))))) := by
  refine ti_pureZ (by decide) (Nat.le_of_ble_eq_true rfl) ?_
  intro p e s m below meth c H locs Q ls S hE hP hl hret
  have hx := S.1
  have hb := S.2.1
  have hown := S.2.2.2.1
  have hts := S.2.2.2.2
  have hK := hE.1
  have hl : lv_has ls 3 [(0, .ref (ad 0)), (1, .int (nI a)), (2, .int (nI b))] := hl
  refine lv_aload_n hx hb dX0_isCorner_0 rfl (lv_at hl 0 rfl) ?_
  refine va_get (v := .ref (ad 5)) hx hb hts in_X0 hown hK hP 0 rfl rfl 2 (by decide) (hts _ q239) (fun _ h => h) rfl dX0_isCorner_1 ?_
  refine lv_iload_n hx hb dX0_isCorner_4 rfl (lv_at hl 1 rfl) ?_
  refine lv_iload_n hx hb dX0_isCorner_5 rfl (lv_at hl 2 rfl) ?_
  refine ti_pV (As := [.int (nI a), .int (nI b)]) (rest := []) (v := .int (ti_b (ti_hull a b (ti_fr xf.2.1 xf.2.2.1 xf.2.2.2.1 0 xf.2.2.2.2.1)))) S hE hP [1, 2, 3, 4, 5, 6] (met_X2_hasInHull l D E (ad 5) (ad 6) (ad 7) (ad 8) (ad 9) (ad 10) xf.1 xf.2.1 xf.2.2.1 xf.2.2.2.1 xf.2.2.2.2.1 xf.2.2.2.2.2.1 xf.2.2.2.2.2.2.1 xf.2.2.2.2.2.2.2.1 xf.2.2.2.2.2.2.2.2.1 xf.2.2.2.2.2.2.2.2.2 hxf.1 hxf.2.1 hxf.2.2.1 hxf.2.2.2.1 a b ha9 hb9) rfl (lw_V q463 q464 q465 q68 q466) 2 rfl 1 rfl rfl (by decide +kernel) ⟨Nat.le_of_ble_eq_true rfl, Nat.le_of_ble_eq_true rfl⟩ hl.1 rfl (Nat.le_of_ble_eq_true rfl) ⟨Nat.le_refl _, Nat.le_refl _⟩ dX0_isCorner_6 ?_
  refine tb_ne (tgt := 14) hx hb dX0_isCorner_9 (by decide) (fun c9 => ?_) (fun c9 => ?_)
  · skip
    refine lv_iload_n hx hb dX0_isCorner_14 rfl (lv_at hl 1 rfl) ?_
    refine tn_if_le (tgt := 32) hx hb dX0_isCorner_15 (by decide) (by omega) (fun c15 => ?_) (fun c15 => ?_)
    · skip
      refine lv_iload_n hx hb dX0_isCorner_32 rfl (lv_at hl 2 rfl) ?_
      refine tn_if_le (tgt := 50) hx hb dX0_isCorner_33 (by decide) (by omega) (fun c33 => ?_) (fun c33 => ?_)
      · skip
        refine lv_iconst (v := nI 1) hx hb dX0_isCorner_50 (by decide) ?_
        refine lv_goto (tgt := 55) hx hb dX0_isCorner_51 (by decide) ?_
        exact hret _ _ _ dX0_isCorner_55 (by rw [ti_cn, c9, show decide (0 < a) = false from decide_eq_false (by omega), show decide (0 < b) = false from decide_eq_false (by omega)]; rfl)
      · skip
        refine lv_aload_n hx hb dX0_isCorner_36 rfl (lv_at hl 0 rfl) ?_
        refine va_get (v := .ref (ad 5)) hx hb hts in_X0 hown hK hP 0 rfl rfl 2 (by decide) (hts _ q239) (fun _ h => h) rfl dX0_isCorner_37 ?_
        refine lv_iload_n hx hb dX0_isCorner_40 rfl (lv_at hl 1 rfl) ?_
        refine lv_iload_n hx hb dX0_isCorner_41 rfl (lv_at hl 2 rfl) ?_
        refine lv_iconst (v := nI 1) hx hb dX0_isCorner_42 (by decide) ?_
        refine tn_sub hx hb dX0_isCorner_43 (by omega) ?_
        refine ti_pV (As := [.int (nI a), .int (nI (b - 1))]) (rest := []) (v := .int (ti_b (ti_hull a (b - 1) (ti_fr xf.2.1 xf.2.2.1 xf.2.2.2.1 0 xf.2.2.2.2.1)))) S hE hP [1, 2, 3, 4, 5, 6] (met_X2_hasInHull l D E (ad 5) (ad 6) (ad 7) (ad 8) (ad 9) (ad 10) xf.1 xf.2.1 xf.2.2.1 xf.2.2.2.1 xf.2.2.2.2.1 xf.2.2.2.2.2.1 xf.2.2.2.2.2.2.1 xf.2.2.2.2.2.2.2.1 xf.2.2.2.2.2.2.2.2.1 xf.2.2.2.2.2.2.2.2.2 hxf.1 hxf.2.1 hxf.2.2.1 hxf.2.2.2.1 a (b - 1) ha9 (Nat.le_trans (Nat.sub_le _ _) hb9)) rfl (lw_V q463 q464 q465 q68 q466) 2 rfl 1 rfl rfl (by decide +kernel) ⟨Nat.le_of_ble_eq_true rfl, Nat.le_of_ble_eq_true rfl⟩ hl.1 rfl (Nat.le_of_ble_eq_true rfl) ⟨Nat.le_refl _, Nat.le_refl _⟩ dX0_isCorner_44 ?_
        refine tb_ne (tgt := 54) hx hb dX0_isCorner_47 (by decide) (fun c47 => ?_) (fun c47 => ?_)
        · skip
          refine lv_iconst (v := nI 0) hx hb dX0_isCorner_54 (by decide) ?_
          exact hret _ _ _ dX0_isCorner_55 (by rw [ti_cn, c9, show decide (0 < a) = false from decide_eq_false (by omega), show decide (0 < b) = true from decide_eq_true c33, c47]; rfl)
        · skip
          refine lv_iconst (v := nI 1) hx hb dX0_isCorner_50 (by decide) ?_
          refine lv_goto (tgt := 55) hx hb dX0_isCorner_51 (by decide) ?_
          exact hret _ _ _ dX0_isCorner_55 (by rw [ti_cn, c9, show decide (0 < a) = false from decide_eq_false (by omega), show decide (0 < b) = true from decide_eq_true c33, c47]; rfl)
    · skip
      refine lv_aload_n hx hb dX0_isCorner_18 rfl (lv_at hl 0 rfl) ?_
      refine va_get (v := .ref (ad 5)) hx hb hts in_X0 hown hK hP 0 rfl rfl 2 (by decide) (hts _ q239) (fun _ h => h) rfl dX0_isCorner_19 ?_
      refine lv_iload_n hx hb dX0_isCorner_22 rfl (lv_at hl 1 rfl) ?_
      refine lv_iconst (v := nI 1) hx hb dX0_isCorner_23 (by decide) ?_
      refine tn_sub hx hb dX0_isCorner_24 (by omega) ?_
      refine lv_iload_n hx hb dX0_isCorner_25 rfl (lv_at hl 2 rfl) ?_
      refine ti_pV (As := [.int (nI (a - 1)), .int (nI b)]) (rest := []) (v := .int (ti_b (ti_hull (a - 1) b (ti_fr xf.2.1 xf.2.2.1 xf.2.2.2.1 0 xf.2.2.2.2.1)))) S hE hP [1, 2, 3, 4, 5, 6] (met_X2_hasInHull l D E (ad 5) (ad 6) (ad 7) (ad 8) (ad 9) (ad 10) xf.1 xf.2.1 xf.2.2.1 xf.2.2.2.1 xf.2.2.2.2.1 xf.2.2.2.2.2.1 xf.2.2.2.2.2.2.1 xf.2.2.2.2.2.2.2.1 xf.2.2.2.2.2.2.2.2.1 xf.2.2.2.2.2.2.2.2.2 hxf.1 hxf.2.1 hxf.2.2.1 hxf.2.2.2.1 (a - 1) b (Nat.le_trans (Nat.sub_le _ _) ha9) hb9) rfl (lw_V q463 q464 q465 q68 q466) 2 rfl 1 rfl rfl (by decide +kernel) ⟨Nat.le_of_ble_eq_true rfl, Nat.le_of_ble_eq_true rfl⟩ hl.1 rfl (Nat.le_of_ble_eq_true rfl) ⟨Nat.le_refl _, Nat.le_refl _⟩ dX0_isCorner_26 ?_
      refine tb_ne (tgt := 54) hx hb dX0_isCorner_29 (by decide) (fun c29 => ?_) (fun c29 => ?_)
      · skip
        refine lv_iconst (v := nI 0) hx hb dX0_isCorner_54 (by decide) ?_
        exact hret _ _ _ dX0_isCorner_55 (by rw [ti_cn, c9, show decide (0 < a) = true from decide_eq_true c15, c29]; rfl)
      · skip
        refine lv_iload_n hx hb dX0_isCorner_32 rfl (lv_at hl 2 rfl) ?_
        refine tn_if_le (tgt := 50) hx hb dX0_isCorner_33 (by decide) (by omega) (fun c33 => ?_) (fun c33 => ?_)
        · skip
          refine lv_iconst (v := nI 1) hx hb dX0_isCorner_50 (by decide) ?_
          refine lv_goto (tgt := 55) hx hb dX0_isCorner_51 (by decide) ?_
          exact hret _ _ _ dX0_isCorner_55 (by rw [ti_cn, c9, show decide (0 < a) = true from decide_eq_true c15, c29, show decide (0 < b) = false from decide_eq_false (by omega)]; rfl)
        · skip
          refine lv_aload_n hx hb dX0_isCorner_36 rfl (lv_at hl 0 rfl) ?_
          refine va_get (v := .ref (ad 5)) hx hb hts in_X0 hown hK hP 0 rfl rfl 2 (by decide) (hts _ q239) (fun _ h => h) rfl dX0_isCorner_37 ?_
          refine lv_iload_n hx hb dX0_isCorner_40 rfl (lv_at hl 1 rfl) ?_
          refine lv_iload_n hx hb dX0_isCorner_41 rfl (lv_at hl 2 rfl) ?_
          refine lv_iconst (v := nI 1) hx hb dX0_isCorner_42 (by decide) ?_
          refine tn_sub hx hb dX0_isCorner_43 (by omega) ?_
          refine ti_pV (As := [.int (nI a), .int (nI (b - 1))]) (rest := []) (v := .int (ti_b (ti_hull a (b - 1) (ti_fr xf.2.1 xf.2.2.1 xf.2.2.2.1 0 xf.2.2.2.2.1)))) S hE hP [1, 2, 3, 4, 5, 6] (met_X2_hasInHull l D E (ad 5) (ad 6) (ad 7) (ad 8) (ad 9) (ad 10) xf.1 xf.2.1 xf.2.2.1 xf.2.2.2.1 xf.2.2.2.2.1 xf.2.2.2.2.2.1 xf.2.2.2.2.2.2.1 xf.2.2.2.2.2.2.2.1 xf.2.2.2.2.2.2.2.2.1 xf.2.2.2.2.2.2.2.2.2 hxf.1 hxf.2.1 hxf.2.2.1 hxf.2.2.2.1 a (b - 1) ha9 (Nat.le_trans (Nat.sub_le _ _) hb9)) rfl (lw_V q463 q464 q465 q68 q466) 2 rfl 1 rfl rfl (by decide +kernel) ⟨Nat.le_of_ble_eq_true rfl, Nat.le_of_ble_eq_true rfl⟩ hl.1 rfl (Nat.le_of_ble_eq_true rfl) ⟨Nat.le_refl _, Nat.le_refl _⟩ dX0_isCorner_44 ?_
          refine tb_ne (tgt := 54) hx hb dX0_isCorner_47 (by decide) (fun c47 => ?_) (fun c47 => ?_)
          · skip
            refine lv_iconst (v := nI 0) hx hb dX0_isCorner_54 (by decide) ?_
            exact hret _ _ _ dX0_isCorner_55 (by rw [ti_cn, c9, show decide (0 < a) = true from decide_eq_true c15, c29, show decide (0 < b) = true from decide_eq_true c33, c47]; rfl)
          · skip
            refine lv_iconst (v := nI 1) hx hb dX0_isCorner_50 (by decide) ?_
            refine lv_goto (tgt := 55) hx hb dX0_isCorner_51 (by decide) ?_
            exact hret _ _ _ dX0_isCorner_55 (by rw [ti_cn, c9, show decide (0 < a) = true from decide_eq_true c15, c29, show decide (0 < b) = true from decide_eq_true c33, c47]; rfl)
  · skip
    refine lv_iconst (v := nI 0) hx hb dX0_isCorner_12 (by decide) ?_
    exact hret _ _ _ dX0_isCorner_13 (by rw [ti_cn, c9]; rfl)

set_option maxHeartbeats 2000000 in
theorem met_X0_close (l : Launch) (D : va_G) (E : Nat → ClassId) (htr : l.stackTraces = false) (z0 : Nat) (ad dh du dv jh ju jv kh ku kv : Nat → Nat) (tx : Nat) (hi : Bool) (xi : ti_Ti) (xr : ti_Tr) (xf : ti_Tf) (xd : ti_Td) (hxi : ti_Jok xi) (I : Nat → ti_GL) (hJ : ti_JI xi I) (hxd : ti_Dok xd) (DD : ti_DL) (hDD : ti_Dl xd = DD) (hxr : ti_Rok xr) (hxf : ti_Fok xf) (hnd : ∀ i, i < 2 → (I i).Nodup) (v : Int32) : ti_MetX (σ := ti_Ti × ti_Tr × ti_Tf × ti_Td) (τ := Unit) l D E yX0_close (wsW_ yX0_close cX0_close 3 (some .int) [(9, 23, 26, 150)]) 7 1 6 z0 (ti_wMJRFD E ad dh du dv jh ju jv kh ku kv tx hi xi xr xf xd) [.ref (ad 0), .int v] (fun _ => True) (fun u => ti_wMJRFD E ad dh du dv jh ju jv kh ku kv tx hi u.1 u.2.1 u.2.2.1 u.2.2.2) (fun u => some (.int ((fun _ => (ti_Sclose I DD v).1) u))) (fun u => ti_JI u.1 (ti_Sclose I DD v).2.1 ∧ ti_Dl u.2.2.2 = (ti_Sclose I DD v).2.2 ∧ ti_Jok u.1 ∧ ti_Rok u.2.1 ∧ ti_Fok u.2.2.1 ∧ ti_Dok u.2.2.2) (fun _ _ => True) (fun w => RX14) (fun w => 0) (fun w => ti_wMJRFD E ad dh du dv jh ju jv kh ku kv tx hi xi xr xf xd) (fun w => []) (fun w => False) (fun w H => True) := by
  refine ti_metXH (by decide) (Nat.le_of_ble_eq_true rfl) ?_
  intro p e s m below meth c H A Q ls S hE hP hD hS hA hZ hAz hx0 htab hl hret hq
  obtain ⟨hQ, hr, hlk, hinit⟩ := hq
  have hsz0 := hS.1
  have hx := S.1
  have hb := S.2.1
  have hown := S.2.2.2.1
  have hts := S.2.2.2.2
  have hK := hE.1
  have hl : lv_has ls 3 [(0, .ref (ad 0)), (1, .int v)] := hl
  refine lv_iload_n hx hb dX0_close_0 rfl (lv_at hl 1 rfl) ?_
  refine ti_pS (As := [.int v]) (rest := []) (v := .int (ti_b (ti_bt v))) S hE hP [] (met_X0_isIdeal l D E v) rfl (lw_S q299 q300 q66 q301) 1 rfl (by decide +kernel) ⟨Nat.le_of_ble_eq_true rfl, Nat.le_of_ble_eq_true rfl⟩ hl.1 rfl (Nat.le_of_ble_eq_true rfl) ⟨Nat.le_of_ble_eq_true rfl, Nat.le_of_ble_eq_true rfl⟩ dX0_close_1 ?_
  refine tb_ne (tgt := 9) hx hb dX0_close_4 (by decide) (fun c4 => ?_) (fun c4 => ?_)
  · skip
    obtain ⟨i, hi2, rfl⟩ := ti_bt_nat c4
    rcases (show i = 0 ∨ i = 1 by omega) with rfl | rfl
    · skip
      have hg := hJ 0 (by decide)
      have hlen := ti_JI_len hJ (show 0 < 2 by decide)
      have h6 := hxi.2.2 0
      have hci : ti_cl (nI 0) = 0 := ti_cl_nI (by decide)
      refine lv_aload_n hx hb dX0_close_9 rfl (lv_at hl 0 rfl) ?_
      refine va_get (v := .ref (ad 5)) hx hb hts in_X0 hown hK hP 0 rfl rfl 2 (by decide) (hts _ q239) (fun _ h => h) rfl dX0_close_10 ?_
      refine lv_aload_n hx hb dX0_close_13 rfl (lv_at hl 0 rfl) ?_
      refine va_get (v := .ref (ad 1)) hx hb hts in_X0 hown hK hP 0 rfl rfl 0 (by decide) (hts _ q237) (fun _ h => h) rfl dX0_close_14 ?_
      refine lv_iload_n hx hb dX0_close_17 rfl (lv_at hl 1 rfl) ?_
      refine tn_aald hx hb hK hP 1 5 rfl rfl (by omega) (by decide) dX0_close_18 ?_
      by_cases hz19 : xi.2.2 0 = 0
      · skip
        refine ti_callX (ty_runV (As := [.ref (jh 0)]) (rest := []) S (met_X2_looks_z l D E htr z0 (ad 5) (ad 6) (ad 7) (ad 8) (ad 9) (ad 10) xf.1 xf.2.1 xf.2.2.1 xf.2.2.2.1 xf.2.2.2.2.1 xf.2.2.2.2.2.1 xf.2.2.2.2.2.2.1 xf.2.2.2.2.2.2.2.1 xf.2.2.2.2.2.2.2.2.1 xf.2.2.2.2.2.2.2.2.2 (jh 0) (ju 0) (jv 0) (xi.1 0) (xi.2.1 0) (xi.2.2 0) hz19 H.size) (cwV 1 S.2.2.2.2 (lw_V q357 q358 q359 q68 q360) rfl rfl rfl (by decide +kernel) ⟨Nat.le_of_ble_eq_true rfl, Nat.le_of_ble_eq_true rfl⟩) (ti_preXV (xp := fun _ => True) hE hP hD hS rfl hZ hAz trivial [11, 12, 13, 14, 15, 16, 2, 3, 4] rfl rfl 11 rfl rfl) rfl rfl hl.1 rfl (lv_room (Nat.le_of_ble_eq_true rfl)) dX0_close_19 ⟨Nat.le_of_ble_eq_true rfl, Nat.le_of_ble_eq_true rfl⟩) hP hD hS hA [11, 12, 13, 14, 15, 16, 2, 3, 4] rfl (fun _ => rfl) (fun _ => rfl) (fun _ _ _ h9 => absurd h9 id) (fun we H locs ce hpx hxx hFr hP hD hPe hnew hS hce hcv hcl => ?_)
        have hP : va_P D vwCl (ti_wMJRFD E ad dh du dv jh ju jv kh ku kv tx hi xi xr xf xd) H := ti_asP hP [.inl 0, .inl 1, .inr 6, .inr 7, .inr 8, .inl 5, .inl 6, .inl 7, .inl 8, .inl 9, .inl 10, .inr 0, .inr 1, .inr 2, .inr 3, .inr 4, .inr 5, .inl 17, .inl 18, .inl 19, .inl 20, .inl 21, .inl 22, .inl 23, .inl 24, .inl 25, .inl 26, .inl 27, .inl 28, .inl 29, .inl 30, .inl 31, .inl 32, .inl 33, .inl 34, .inl 35, .inl 36, .inl 37, .inl 38, .inl 39, .inl 40, .inl 41, .inl 42, .inl 43, .inl 44, .inl 45, .inl 46, .inl 47, .inl 48, .inl 49] rfl rfl rfl rfl
        have hD : va_D A (ti_wMJRFD E ad dh du dv jh ju jv kh ku kv tx hi xi xr xf xd) := ti_asD hD [.inl 0, .inl 1, .inr 6, .inr 7, .inr 8, .inl 5, .inl 6, .inl 7, .inl 8, .inl 9, .inl 10, .inr 0, .inr 1, .inr 2, .inr 3, .inr 4, .inr 5, .inl 17, .inl 18, .inl 19, .inl 20, .inl 21, .inl 22, .inl 23, .inl 24, .inl 25, .inl 26, .inl 27, .inl 28, .inl 29, .inl 30, .inl 31, .inl 32, .inl 33, .inl 34, .inl 35, .inl 36, .inl 37, .inl 38, .inl 39, .inl 40, .inl 41, .inl 42, .inl 43, .inl 44, .inl 45, .inl 46, .inl 47, .inl 48, .inl 49] rfl rfl rfl rfl
        refine vx_catch hown [] ⟨9, 23, 26, 150⟩ [] htab (fun z hz => absurd hz List.not_mem_nil) rfl (by decide) (hts _ q356) (hE.use q363 rfl rfl) hce hcv hcl ?_
        refine lv_astore_n (lv' := [(2, .ref we.1), (0, .ref (ad 0)), (1, .int (nI 0))]) hx hb dX0_close_26 rfl hl (by decide) rfl (fun ls hl => ?_)
        refine lv_bipush (v := (-3)) hx hb dX0_close_27 (by decide) ?_
        have hs : ti_Sclose I DD (nI 0) = (-3, I, DD) := by rw [ti_Sclose, if_neg (by rw [c4]; decide), hci, if_pos (by rw [hlen]; exact hz19)]
        have hv9 : ((-3)) = (fun _ => (ti_Sclose I DD (nI 0)).1) (xi, xr, xf, xd) := by rw [hs]
        refine W.eq (g2 := F0 m 29 ls [.int ((fun _ => (ti_Sclose I DD (nI 0)).1) (xi, xr, xf, xd))]) (congrArg (fun z => F0 m 29 ls [.int z]) hv9) ?_
        exact hret _ (xi, xr, xf, xd) _ _ _ _ (by rw [hs]; exact ⟨hJ, hDD, hxi, hxr, hxf, hxd⟩) hP trivial hS (Nat.le_of_ble_eq_true rfl) (Nat.le_of_ble_eq_true rfl) (fun hq hf9 => W.iret hx hb hr hq hf9 dX0_close_29 hlk)
      · skip
        have hz1 : 0 < xi.2.2 0 := Nat.pos_of_ne_zero hz19
        have hnd9 : (ti_gr (xi.1 0) (xi.2.1 0) 0 (xi.2.2 0)).Nodup := by have h9 := hnd 0 (by decide); rw [← hJ 0 (by decide)] at h9; exact h9
        have hN9 : ti_r2 (ti_gr (xi.1 0) (xi.2.1 0) 0 (xi.2.2 0)) 9999 (List.range' 1 9) ≤ 6 := Nat.le_trans (ti_r2_le hnd9 9999) (by rw [ti_gr_len]; exact (hxi.2.2 0))
        refine ti_mV (As := [.ref (jh 0)]) (rest := []) S hE hP hD hS hA [11, 12, 13, 14, 15, 16, 2, 3, 4] rfl (met_X2_looks l D E (ad 5) (ad 6) (ad 7) (ad 8) (ad 9) (ad 10) xf.1 xf.2.1 xf.2.2.1 xf.2.2.2.1 xf.2.2.2.2.1 xf.2.2.2.2.2.1 xf.2.2.2.2.2.2.1 xf.2.2.2.2.2.2.2.1 xf.2.2.2.2.2.2.2.2.1 xf.2.2.2.2.2.2.2.2.2 (jh 0) (ju 0) (jv 0) (xi.1 0) (xi.2.1 0) (xi.2.2 0) (hxi.2.2 0) (hxi.1 0) (hxi.2.1 0) hxf.1 hxf.2.1 hxf.2.2.1 hxf.2.2.2.1 hz1 hN9) rfl (fun _ => rfl) (lw_V q357 q358 q359 q68 q360) 1 rfl 11 rfl rfl (by decide +kernel) ⟨Nat.le_of_ble_eq_true rfl, Nat.le_of_ble_eq_true rfl⟩ hl.1 rfl (Nat.le_of_ble_eq_true rfl) ⟨Nat.le_of_ble_eq_true rfl, Nat.le_of_ble_eq_true rfl⟩ dX0_close_19 (fun u1 H locs hu hP hD hS => ?_)
        obtain ⟨hF1, hF2, hF3, hF4, hF5⟩ := hu
        have hFF : ti_fr u1.1 u1.2.1 u1.2.2.1 0 u1.2.2.2 = ti_FF (ti_gr (xi.1 0) (xi.2.1 0) 0 (xi.2.2 0)) := by rw [hF1]; exact ti_fxm (by rw [ti_gr_len]; exact hz1) (ti_gr_9 (hxi.1 0) (hxi.2.1 0) 0 _)
        have hFo : ti_Fok (Value.ref (jh 0), u1.1, u1.2.1, u1.2.2.1, u1.2.2.2, xf.2.2.2.2.2.1, xf.2.2.2.2.2.2.1, xf.2.2.2.2.2.2.2.1, xf.2.2.2.2.2.2.2.2.1, xf.2.2.2.2.2.2.2.2.2) := ⟨hF2, hF3, hF4, hF5, hxf.2.2.2.2⟩
        have hP : va_P D vwCl (ti_wMJRFD E ad dh du dv jh ju jv kh ku kv tx hi xi xr (Value.ref (jh 0), u1.1, u1.2.1, u1.2.2.1, u1.2.2.2, xf.2.2.2.2.2.1, xf.2.2.2.2.2.2.1, xf.2.2.2.2.2.2.2.1, xf.2.2.2.2.2.2.2.2.1, xf.2.2.2.2.2.2.2.2.2) xd) H := ti_asP hP [.inl 0, .inl 1, .inr 6, .inr 7, .inr 8, .inl 5, .inl 6, .inl 7, .inl 8, .inl 9, .inl 10, .inr 0, .inr 1, .inr 2, .inr 3, .inr 4, .inr 5, .inl 17, .inl 18, .inl 19, .inl 20, .inl 21, .inl 22, .inl 23, .inl 24, .inl 25, .inl 26, .inl 27, .inl 28, .inl 29, .inl 30, .inl 31, .inl 32, .inl 33, .inl 34, .inl 35, .inl 36, .inl 37, .inl 38, .inl 39, .inl 40, .inl 41, .inl 42, .inl 43, .inl 44, .inl 45, .inl 46, .inl 47, .inl 48, .inl 49] rfl rfl rfl rfl
        have hD : va_D A (ti_wMJRFD E ad dh du dv jh ju jv kh ku kv tx hi xi xr (Value.ref (jh 0), u1.1, u1.2.1, u1.2.2.1, u1.2.2.2, xf.2.2.2.2.2.1, xf.2.2.2.2.2.2.1, xf.2.2.2.2.2.2.2.1, xf.2.2.2.2.2.2.2.2.1, xf.2.2.2.2.2.2.2.2.2) xd) := ti_asD hD [.inl 0, .inl 1, .inr 6, .inr 7, .inr 8, .inl 5, .inl 6, .inl 7, .inl 8, .inl 9, .inl 10, .inr 0, .inr 1, .inr 2, .inr 3, .inr 4, .inr 5, .inl 17, .inl 18, .inl 19, .inl 20, .inl 21, .inl 22, .inl 23, .inl 24, .inl 25, .inl 26, .inl 27, .inl 28, .inl 29, .inl 30, .inl 31, .inl 32, .inl 33, .inl 34, .inl 35, .inl 36, .inl 37, .inl 38, .inl 39, .inl 40, .inl 41, .inl 42, .inl 43, .inl 44, .inl 45, .inl 46, .inl 47, .inl 48, .inl 49] rfl rfl rfl rfl
        refine W.eq (g2 := F0 m 22 ls [.ref (ad 5)]) rfl ?_
        refine lv_pop hx hb dX0_close_22 rfl ?_
        refine lv_goto (tgt := 30) hx hb dX0_close_23 (by decide) ?_
        refine lv_aload_n hx hb dX0_close_30 rfl (lv_at hl 0 rfl) ?_
        refine va_get (v := .ref (ad 2)) hx hb hts in_X0 hown hK hP 0 rfl rfl 1 (by decide) (hts _ q238) (fun _ h => h) rfl dX0_close_31 ?_
        refine lv_iconst (v := nI 0) hx hb dX0_close_34 (by decide) ?_
        refine va_putN (ty := .int) hx hb hts in_X1 tyX1 tyX1_ok nmX1 hown hK hP hD hS 8 rfl rfl 2 (by decide) (hE.use q117 rfl rfl) (fun _ h => h) rfl rfl rfl rfl (Nat.le_of_ble_eq_true rfl) dX0_close_35 (fun H locs hP hD hS => ?_)
        have hP : va_P D vwCl (ti_wMJRFD E ad dh du dv jh ju jv kh ku kv tx hi xi (xr.1, xr.2.1, 0) (Value.ref (jh 0), u1.1, u1.2.1, u1.2.2.1, u1.2.2.2, xf.2.2.2.2.2.1, xf.2.2.2.2.2.2.1, xf.2.2.2.2.2.2.2.1, xf.2.2.2.2.2.2.2.2.1, xf.2.2.2.2.2.2.2.2.2) xd) H := hP
        have hD : va_D A (ti_wMJRFD E ad dh du dv jh ju jv kh ku kv tx hi xi (xr.1, xr.2.1, 0) (Value.ref (jh 0), u1.1, u1.2.1, u1.2.2.1, u1.2.2.2, xf.2.2.2.2.2.1, xf.2.2.2.2.2.2.1, xf.2.2.2.2.2.2.2.1, xf.2.2.2.2.2.2.2.2.1, xf.2.2.2.2.2.2.2.2.2) xd) := hD
        refine lv_iconst (v := nI 0) hx hb dX0_close_38 (by decide) ?_
        refine lv_istore_n (lv' := [(2, .int (nI 0)), (0, .ref (ad 0)), (1, .int (nI 0))]) hx hb dX0_close_39 rfl hl (by decide) rfl (fun ls hl => ?_)
        have L40 : ∀ (N : Nat) (k : Nat) (fa fb : Nat → Nat) (n1 : Nat) (ls : Array Slot) (H : Heap) (locs : List Loc), va_P D vwCl (ti_wMJRFD E ad dh du dv jh ju jv kh ku kv tx hi xi (fa, fb, n1) (Value.ref (jh 0), u1.1, u1.2.1, u1.2.2.1, u1.2.2.2, xf.2.2.2.2.2.1, xf.2.2.2.2.2.2.1, xf.2.2.2.2.2.2.2.1, xf.2.2.2.2.2.2.2.2.1, xf.2.2.2.2.2.2.2.2.2) xd) H → va_D A (ti_wMJRFD E ad dh du dv jh ju jv kh ku kv tx hi xi (fa, fb, n1) (Value.ref (jh 0), u1.1, u1.2.1, u1.2.2.1, u1.2.2.2, xf.2.2.2.2.2.1, xf.2.2.2.2.2.2.1, xf.2.2.2.2.2.2.2.1, xf.2.2.2.2.2.2.2.2.1, xf.2.2.2.2.2.2.2.2.2) xd) → va_S A s.heap H locs → (100 - k) < N → (k ≤ 100) → (∀ j, fa j ≤ 9) → (∀ j, fb j ≤ 9) → (n1 ≤ 6) → (ti_gr fa fb 0 n1 ++ ti_cns (ti_fr u1.1 u1.2.1 u1.2.2.1 0 u1.2.2.2) (List.range' k (100 - k)) = ti_cns (ti_fr u1.1 u1.2.1 u1.2.2.1 0 u1.2.2.2) (List.range' 0 100)) → lv_has ls 3 [(0, .ref (ad 0)), (1, .int (nI 0)), (2, .int (nI k))] → W p l e (ti_rm 7 1 6) s m ([.ref (ad 0), .int (nI 0)] : List Value).toArray below meth c H locs 0 0 Q (F0 m 40 ls []) := by
          intro N
          induction N with
          | zero => intro k fa fb n1 ls H locs hP hD hS h0; exact absurd h0 (Nat.not_lt_zero _)
          | succ N ih40 =>
            intro k fa fb n1 ls H locs hP hD hS hN hk hfa hfb hn1 hcn hl
            refine lv_iload_n hx hb dX0_close_40 rfl (lv_at hl 2 rfl) ?_
            refine lv_bipush (v := nI 100) hx hb dX0_close_41 (by decide) ?_
            refine tn_ge (tgt := 100) hx hb dX0_close_43 (by decide) (by omega) (by omega) (fun c43 => ?_) (fun c43 => ?_)
            · skip
              refine lv_aload_n hx hb dX0_close_100 rfl (lv_at hl 0 rfl) ?_
              refine lv_iload_n hx hb dX0_close_101 rfl (lv_at hl 1 rfl) ?_
              refine ti_mV (As := [.int (nI 0)]) (rest := []) S hE hP hD hS hA [0, 1, 2, 3, 4, 5, 6, 7, 8, 9, 10, 17, 18, 19, 20, 21, 22, 23, 24, 25, 26, 27, 28, 29, 30, 31, 32, 33, 34, 35, 36, 37, 38, 39, 40, 41, 42, 43, 44, 45, 46, 47, 48, 49] rfl (met_X0_becomes l D E ad dh du dv jh ju jv kh ku kv tx hi xi (fa, fb, n1) xd hxi I hJ hxd DD hDD ⟨hfa, hfb, hn1⟩ 0 (by decide)) rfl (fun _ => rfl) (lw_V q348 q350 qs1 q66 q351) 1 rfl 0 rfl rfl (by decide +kernel) ⟨Nat.le_of_ble_eq_true rfl, Nat.le_of_ble_eq_true rfl⟩ hl.1 rfl (Nat.le_of_ble_eq_true rfl) ⟨Nat.le_of_ble_eq_true rfl, Nat.le_of_ble_eq_true rfl⟩ dX0_close_102 (fun ub H locs hu hP hD hS => ?_)
              have hub := hu
              have hP : va_P D vwCl (ti_wMJRFD E ad dh du dv jh ju jv kh ku kv tx hi (ti_j2 (ub.1.1 0) (ub.1.1 1), ti_j2 (ub.1.2.1 0) (ub.1.2.1 1), ti_j2 (ub.1.2.2 0) (ub.1.2.2 1)) (fa, fb, n1) (Value.ref (jh 0), u1.1, u1.2.1, u1.2.2.1, u1.2.2.2, xf.2.2.2.2.2.1, xf.2.2.2.2.2.2.1, xf.2.2.2.2.2.2.2.1, xf.2.2.2.2.2.2.2.2.1, xf.2.2.2.2.2.2.2.2.2) (ub.2.1, ub.2.2.1, ub.2.2.2.1, ub.2.2.2.2.1, ub.2.2.2.2.2.1, ub.2.2.2.2.2.2)) H := ti_asP hP [.inr 0, .inr 1, .inr 2, .inr 3, .inr 4, .inr 5, .inr 6, .inr 7, .inr 8, .inr 9, .inr 10, .inl 11, .inl 12, .inl 13, .inl 14, .inl 15, .inl 16, .inr 11, .inr 12, .inr 13, .inr 14, .inr 15, .inr 16, .inr 17, .inr 18, .inr 19, .inr 20, .inr 21, .inr 22, .inr 23, .inr 24, .inr 25, .inr 26, .inr 27, .inr 28, .inr 29, .inr 30, .inr 31, .inr 32, .inr 33, .inr 34, .inr 35, .inr 36, .inr 37, .inr 38, .inr 39, .inr 40, .inr 41, .inr 42, .inr 43] rfl rfl rfl rfl
              have hD : va_D A (ti_wMJRFD E ad dh du dv jh ju jv kh ku kv tx hi (ti_j2 (ub.1.1 0) (ub.1.1 1), ti_j2 (ub.1.2.1 0) (ub.1.2.1 1), ti_j2 (ub.1.2.2 0) (ub.1.2.2 1)) (fa, fb, n1) (Value.ref (jh 0), u1.1, u1.2.1, u1.2.2.1, u1.2.2.2, xf.2.2.2.2.2.1, xf.2.2.2.2.2.2.1, xf.2.2.2.2.2.2.2.1, xf.2.2.2.2.2.2.2.2.1, xf.2.2.2.2.2.2.2.2.2) (ub.2.1, ub.2.2.1, ub.2.2.2.1, ub.2.2.2.2.1, ub.2.2.2.2.2.1, ub.2.2.2.2.2.2)) := ti_asD hD [.inr 0, .inr 1, .inr 2, .inr 3, .inr 4, .inr 5, .inr 6, .inr 7, .inr 8, .inr 9, .inr 10, .inl 11, .inl 12, .inl 13, .inl 14, .inl 15, .inl 16, .inr 11, .inr 12, .inr 13, .inr 14, .inr 15, .inr 16, .inr 17, .inr 18, .inr 19, .inr 20, .inr 21, .inr 22, .inr 23, .inr 24, .inr 25, .inr 26, .inr 27, .inr 28, .inr 29, .inr 30, .inr 31, .inr 32, .inr 33, .inr 34, .inr 35, .inr 36, .inr 37, .inr 38, .inr 39, .inr 40, .inr 41, .inr 42, .inr 43] rfl rfl rfl rfl
              refine W.eq (g2 := F0 m 105 ls [.int (nI n1)]) rfl ?_
              have hs : ti_Sclose I DD (nI 0) = (nI n1, va_up I 0 (ti_gr fa fb 0 n1), ti_keep (0, I 0) DD) := by rw [show 100 - k = 0 by omega] at hcn; have hcn : ti_gr fa fb 0 n1 = ti_cns (ti_fr u1.1 u1.2.1 u1.2.2.1 0 u1.2.2.2) (List.range' 0 100) := (by rw [← hcn]; exact (List.append_nil _).symm); rw [ti_Sclose, if_neg (by rw [c4]; decide), hci, if_neg (by rw [hlen]; exact hz19), ← show (ti_gr (xi.1 0) (xi.2.1 0) 0 (xi.2.2 0)) = I 0 from hg, ← hFF, ← hcn, ti_gr_len, if_neg (by omega), show (ti_gr (xi.1 0) (xi.2.1 0) 0 (xi.2.2 0)) = I 0 from hg]
              have hv9 : (nI n1) = (fun _ => (ti_Sclose I DD (nI 0)).1) ((ub.1, (fa, fb, n1), (Value.ref (jh 0), u1.1, u1.2.1, u1.2.2.1, u1.2.2.2, xf.2.2.2.2.2.1, xf.2.2.2.2.2.2.1, xf.2.2.2.2.2.2.2.1, xf.2.2.2.2.2.2.2.2.1, xf.2.2.2.2.2.2.2.2.2), ub.2)) := by rw [hs]
              refine W.eq (g2 := F0 m 105 ls [.int ((fun _ => (ti_Sclose I DD (nI 0)).1) ((ub.1, (fa, fb, n1), (Value.ref (jh 0), u1.1, u1.2.1, u1.2.2.1, u1.2.2.2, xf.2.2.2.2.2.1, xf.2.2.2.2.2.2.1, xf.2.2.2.2.2.2.2.1, xf.2.2.2.2.2.2.2.2.1, xf.2.2.2.2.2.2.2.2.2), ub.2)))]) (congrArg (fun z => F0 m 105 ls [.int z]) hv9) ?_
              exact hret _ ((ub.1, (fa, fb, n1), (Value.ref (jh 0), u1.1, u1.2.1, u1.2.2.1, u1.2.2.2, xf.2.2.2.2.2.1, xf.2.2.2.2.2.2.1, xf.2.2.2.2.2.2.2.1, xf.2.2.2.2.2.2.2.2.1, xf.2.2.2.2.2.2.2.2.2), ub.2)) _ _ _ _ (by rw [hs]; exact ⟨hub.1, hub.2.1, hub.2.2.1, ⟨hfa, hfb, hn1⟩, hFo, hub.2.2.2⟩) hP trivial hS (Nat.le_of_ble_eq_true rfl) (Nat.le_of_ble_eq_true rfl) (fun hq hf9 => W.iret hx hb hr hq hf9 dX0_close_105 hlk)
            · skip
              obtain ⟨m9, hm9⟩ : ∃ m9, 100 - k = m9 + 1 := ⟨100 - k - 1, by omega⟩
              rw [hm9, List.range'_succ, ti_cns] at hcn
              refine lv_aload_n hx hb dX0_close_46 rfl (lv_at hl 0 rfl) ?_
              refine lv_iload_n hx hb dX0_close_47 rfl (lv_at hl 2 rfl) ?_
              refine lv_bipush (v := nI 10) hx hb dX0_close_48 (by decide) ?_
              refine tn_div hx hb dX0_close_50 (by omega) (by omega) (by omega) ?_
              refine lv_iload_n hx hb dX0_close_51 rfl (lv_at hl 2 rfl) ?_
              refine lv_bipush (v := nI 10) hx hb dX0_close_52 (by decide) ?_
              refine tn_rem hx hb dX0_close_54 (by omega) (by omega) (by omega) ?_
              refine ti_pV (As := [.int (nI (k / 10)), .int (nI (k % 10))]) (rest := []) (v := .int (ti_b (ti_cn (k / 10) (k % 10) (ti_fr u1.1 u1.2.1 u1.2.2.1 0 u1.2.2.2)))) S hE hP [0, 11, 12, 13, 14, 15, 16] (met_X0_isCorner l D E ad dh du dv jh ju jv kh ku kv tx hi (Value.ref (jh 0), u1.1, u1.2.1, u1.2.2.1, u1.2.2.2, xf.2.2.2.2.2.1, xf.2.2.2.2.2.2.1, xf.2.2.2.2.2.2.2.1, xf.2.2.2.2.2.2.2.2.1, xf.2.2.2.2.2.2.2.2.2) hFo (k / 10) (k % 10) (by omega) (by omega)) rfl (lw_V q459 q461 qs7 q66 q462) 2 rfl 0 rfl rfl (by decide +kernel) ⟨Nat.le_of_ble_eq_true rfl, Nat.le_of_ble_eq_true rfl⟩ hl.1 rfl (Nat.le_of_ble_eq_true rfl) ⟨Nat.le_of_ble_eq_true rfl, Nat.le_of_ble_eq_true rfl⟩ dX0_close_55 ?_
              refine tb_ne (tgt := 64) hx hb dX0_close_58 (by decide) (fun c58 => ?_) (fun c58 => ?_)
              · skip
                rw [if_pos c58] at hcn
                refine lv_aload_n hx hb dX0_close_64 rfl (lv_at hl 0 rfl) ?_
                refine va_get (v := .ref (ad 2)) hx hb hts in_X0 hown hK hP 0 rfl rfl 1 (by decide) (hts _ q238) (fun _ h => h) rfl dX0_close_65 ?_
                refine va_getN (v := .int (nI n1)) hx hb hts in_X1 hown hK hP 8 rfl rfl 2 (by decide) (hE.use q117 rfl rfl) (fun _ h => h) rfl dX0_close_68 ?_
                refine lv_bipush (v := nI 6) hx hb dX0_close_71 (by decide) ?_
                refine tn_ne (tgt := 79) hx hb dX0_close_73 (by decide) (by omega) (by omega) (fun c73 => ?_) (fun c73 => ?_)
                · skip
                  refine lv_aload_n hx hb dX0_close_79 rfl (lv_at hl 0 rfl) ?_
                  refine va_get (v := .ref (ad 2)) hx hb hts in_X0 hown hK hP 0 rfl rfl 1 (by decide) (hts _ q238) (fun _ h => h) rfl dX0_close_80 ?_
                  refine lv_iload_n hx hb dX0_close_83 rfl (lv_at hl 2 rfl) ?_
                  refine lv_bipush (v := nI 10) hx hb dX0_close_84 (by decide) ?_
                  refine tn_div hx hb dX0_close_86 (by omega) (by omega) (by omega) ?_
                  refine lv_iload_n hx hb dX0_close_87 rfl (lv_at hl 2 rfl) ?_
                  refine lv_bipush (v := nI 10) hx hb dX0_close_88 (by decide) ?_
                  refine tn_rem hx hb dX0_close_90 (by omega) (by omega) (by omega) ?_
                  refine ti_mV (As := [.int (nI (k / 10)), .int (nI (k % 10))]) (rest := []) S hE hP hD hS hA [8, 9, 10] rfl (met_X1_comes l D E (ad 2) (ad 3) (ad 4) fa fb n1 (by omega) (k / 10) (k % 10)) rfl (fun _ => rfl) (lw_V q323 q324 q325 q67 q326) 2 rfl 8 rfl rfl (by decide +kernel) ⟨Nat.le_of_ble_eq_true rfl, Nat.le_of_ble_eq_true rfl⟩ hl.1 rfl (Nat.le_of_ble_eq_true rfl) ⟨Nat.le_of_ble_eq_true rfl, Nat.le_of_ble_eq_true rfl⟩ dX0_close_91 (fun _ H locs hu hP hD hS => ?_)
                  have hP : va_P D vwCl (ti_wMJRFD E ad dh du dv jh ju jv kh ku kv tx hi xi (va_up fa n1 (k / 10), va_up fb n1 (k % 10), n1 + 1) (Value.ref (jh 0), u1.1, u1.2.1, u1.2.2.1, u1.2.2.2, xf.2.2.2.2.2.1, xf.2.2.2.2.2.2.1, xf.2.2.2.2.2.2.2.1, xf.2.2.2.2.2.2.2.2.1, xf.2.2.2.2.2.2.2.2.2) xd) H := ti_asP hP [.inl 0, .inl 1, .inl 2, .inl 3, .inl 4, .inl 5, .inl 6, .inl 7, .inr 0, .inr 1, .inr 2, .inl 11, .inl 12, .inl 13, .inl 14, .inl 15, .inl 16, .inl 17, .inl 18, .inl 19, .inl 20, .inl 21, .inl 22, .inl 23, .inl 24, .inl 25, .inl 26, .inl 27, .inl 28, .inl 29, .inl 30, .inl 31, .inl 32, .inl 33, .inl 34, .inl 35, .inl 36, .inl 37, .inl 38, .inl 39, .inl 40, .inl 41, .inl 42, .inl 43, .inl 44, .inl 45, .inl 46, .inl 47, .inl 48, .inl 49] rfl rfl rfl rfl
                  have hD : va_D A (ti_wMJRFD E ad dh du dv jh ju jv kh ku kv tx hi xi (va_up fa n1 (k / 10), va_up fb n1 (k % 10), n1 + 1) (Value.ref (jh 0), u1.1, u1.2.1, u1.2.2.1, u1.2.2.2, xf.2.2.2.2.2.1, xf.2.2.2.2.2.2.1, xf.2.2.2.2.2.2.2.1, xf.2.2.2.2.2.2.2.2.1, xf.2.2.2.2.2.2.2.2.2) xd) := ti_asD hD [.inl 0, .inl 1, .inl 2, .inl 3, .inl 4, .inl 5, .inl 6, .inl 7, .inr 0, .inr 1, .inr 2, .inl 11, .inl 12, .inl 13, .inl 14, .inl 15, .inl 16, .inl 17, .inl 18, .inl 19, .inl 20, .inl 21, .inl 22, .inl 23, .inl 24, .inl 25, .inl 26, .inl 27, .inl 28, .inl 29, .inl 30, .inl 31, .inl 32, .inl 33, .inl 34, .inl 35, .inl 36, .inl 37, .inl 38, .inl 39, .inl 40, .inl 41, .inl 42, .inl 43, .inl 44, .inl 45, .inl 46, .inl 47, .inl 48, .inl 49] rfl rfl rfl rfl
                  refine W.eq (g2 := F0 m 94 ls []) rfl ?_
                  refine lv_iinc (v := nI (k + 1)) (lv' := [(2, .int (nI (k + 1))), (0, .ref (ad 0)), (1, .int (nI 0))]) hx hb dX0_close_94 hl (k := 2) rfl (nI_1 k) (by decide) rfl (fun ls hl => ?_)
                  refine lv_goto (tgt := 40) hx hb dX0_close_97 (by decide) ?_
                  exact ih40 (k + 1) (va_up fa n1 (k / 10)) (va_up fb n1 (k % 10)) (n1 + 1) _ _ _ hP hD hS (by omega) (by omega) (ti_up_le hfa (by omega)) (ti_up_le hfb (by omega)) (by omega) (by rw [ti_gr_push, List.append_assoc, show 100 - (k + 1) = m9 by omega]; exact hcn) (lv_sub hl [1, 2, 0] rfl)
                · skip
                  refine lv_bipush (v := (-4)) hx hb dX0_close_76 (by decide) ?_
                  have hs : ti_Sclose I DD (nI 0) = (-4, I, DD) := by rw [ti_Sclose, if_neg (by rw [c4]; decide), hci, if_neg (by rw [hlen]; exact hz19), if_pos (by rw [← show (ti_gr (xi.1 0) (xi.2.1 0) 0 (xi.2.2 0)) = I 0 from hg, ← hFF, ← hcn, List.length_append, ti_gr_len, List.length_cons]; omega)]
                  have hv9 : ((-4)) = (fun _ => (ti_Sclose I DD (nI 0)).1) ((xi, (fa, fb, n1), (Value.ref (jh 0), u1.1, u1.2.1, u1.2.2.1, u1.2.2.2, xf.2.2.2.2.2.1, xf.2.2.2.2.2.2.1, xf.2.2.2.2.2.2.2.1, xf.2.2.2.2.2.2.2.2.1, xf.2.2.2.2.2.2.2.2.2), xd)) := by rw [hs]
                  refine W.eq (g2 := F0 m 78 ls [.int ((fun _ => (ti_Sclose I DD (nI 0)).1) ((xi, (fa, fb, n1), (Value.ref (jh 0), u1.1, u1.2.1, u1.2.2.1, u1.2.2.2, xf.2.2.2.2.2.1, xf.2.2.2.2.2.2.1, xf.2.2.2.2.2.2.2.1, xf.2.2.2.2.2.2.2.2.1, xf.2.2.2.2.2.2.2.2.2), xd)))]) (congrArg (fun z => F0 m 78 ls [.int z]) hv9) ?_
                  exact hret _ ((xi, (fa, fb, n1), (Value.ref (jh 0), u1.1, u1.2.1, u1.2.2.1, u1.2.2.2, xf.2.2.2.2.2.1, xf.2.2.2.2.2.2.1, xf.2.2.2.2.2.2.2.1, xf.2.2.2.2.2.2.2.2.1, xf.2.2.2.2.2.2.2.2.2), xd)) _ _ _ _ (by rw [hs]; exact ⟨hJ, hDD, hxi, ⟨hfa, hfb, hn1⟩, hFo, hxd⟩) hP trivial hS (Nat.le_of_ble_eq_true rfl) (Nat.le_of_ble_eq_true rfl) (fun hq hf9 => W.iret hx hb hr hq hf9 dX0_close_78 hlk)
              · skip
                rw [if_neg (by rw [c58]; decide)] at hcn
                refine lv_goto (tgt := 94) hx hb dX0_close_61 (by decide) ?_
                refine lv_iinc (v := nI (k + 1)) (lv' := [(2, .int (nI (k + 1))), (0, .ref (ad 0)), (1, .int (nI 0))]) hx hb dX0_close_94 hl (k := 2) rfl (nI_1 k) (by decide) rfl (fun ls hl => ?_)
                refine lv_goto (tgt := 40) hx hb dX0_close_97 (by decide) ?_
                exact ih40 (k + 1) fa fb n1 _ _ _ hP hD hS (by omega) (by omega) (hfa) (hfb) (hn1) (by rw [show 100 - (k + 1) = m9 by omega]; exact hcn) (lv_sub hl [1, 2, 0] rfl)
        exact L40 _ 0 xr.1 xr.2.1 0 _ _ _ hP hD hS (Nat.lt_succ_self _) (by omega) (hxr.1) (hxr.2.1) (by decide) (by rw [ti_gr_0]; rfl) (lv_sub hl [1, 2, 0] rfl)
    · skip
      have hg := hJ 1 (by decide)
      have hlen := ti_JI_len hJ (show 1 < 2 by decide)
      have h6 := hxi.2.2 1
      have hci : ti_cl (nI 1) = 1 := ti_cl_nI (by decide)
      refine lv_aload_n hx hb dX0_close_9 rfl (lv_at hl 0 rfl) ?_
      refine va_get (v := .ref (ad 5)) hx hb hts in_X0 hown hK hP 0 rfl rfl 2 (by decide) (hts _ q239) (fun _ h => h) rfl dX0_close_10 ?_
      refine lv_aload_n hx hb dX0_close_13 rfl (lv_at hl 0 rfl) ?_
      refine va_get (v := .ref (ad 1)) hx hb hts in_X0 hown hK hP 0 rfl rfl 0 (by decide) (hts _ q237) (fun _ h => h) rfl dX0_close_14 ?_
      refine lv_iload_n hx hb dX0_close_17 rfl (lv_at hl 1 rfl) ?_
      refine tn_aald hx hb hK hP 1 5 rfl rfl (by omega) (by decide) dX0_close_18 ?_
      by_cases hz19 : xi.2.2 1 = 0
      · skip
        refine ti_callX (ty_runV (As := [.ref (jh 1)]) (rest := []) S (met_X2_looks_z l D E htr z0 (ad 5) (ad 6) (ad 7) (ad 8) (ad 9) (ad 10) xf.1 xf.2.1 xf.2.2.1 xf.2.2.2.1 xf.2.2.2.2.1 xf.2.2.2.2.2.1 xf.2.2.2.2.2.2.1 xf.2.2.2.2.2.2.2.1 xf.2.2.2.2.2.2.2.2.1 xf.2.2.2.2.2.2.2.2.2 (jh 1) (ju 1) (jv 1) (xi.1 1) (xi.2.1 1) (xi.2.2 1) hz19 H.size) (cwV 1 S.2.2.2.2 (lw_V q357 q358 q359 q68 q360) rfl rfl rfl (by decide +kernel) ⟨Nat.le_of_ble_eq_true rfl, Nat.le_of_ble_eq_true rfl⟩) (ti_preXV (xp := fun _ => True) hE hP hD hS rfl hZ hAz trivial [11, 12, 13, 14, 15, 16, 5, 6, 7] rfl rfl 11 rfl rfl) rfl rfl hl.1 rfl (lv_room (Nat.le_of_ble_eq_true rfl)) dX0_close_19 ⟨Nat.le_of_ble_eq_true rfl, Nat.le_of_ble_eq_true rfl⟩) hP hD hS hA [11, 12, 13, 14, 15, 16, 5, 6, 7] rfl (fun _ => rfl) (fun _ => rfl) (fun _ _ _ h9 => absurd h9 id) (fun we H locs ce hpx hxx hFr hP hD hPe hnew hS hce hcv hcl => ?_)
        have hP : va_P D vwCl (ti_wMJRFD E ad dh du dv jh ju jv kh ku kv tx hi xi xr xf xd) H := ti_asP hP [.inl 0, .inl 1, .inl 2, .inl 3, .inl 4, .inr 6, .inr 7, .inr 8, .inl 8, .inl 9, .inl 10, .inr 0, .inr 1, .inr 2, .inr 3, .inr 4, .inr 5, .inl 17, .inl 18, .inl 19, .inl 20, .inl 21, .inl 22, .inl 23, .inl 24, .inl 25, .inl 26, .inl 27, .inl 28, .inl 29, .inl 30, .inl 31, .inl 32, .inl 33, .inl 34, .inl 35, .inl 36, .inl 37, .inl 38, .inl 39, .inl 40, .inl 41, .inl 42, .inl 43, .inl 44, .inl 45, .inl 46, .inl 47, .inl 48, .inl 49] rfl rfl rfl rfl
        have hD : va_D A (ti_wMJRFD E ad dh du dv jh ju jv kh ku kv tx hi xi xr xf xd) := ti_asD hD [.inl 0, .inl 1, .inl 2, .inl 3, .inl 4, .inr 6, .inr 7, .inr 8, .inl 8, .inl 9, .inl 10, .inr 0, .inr 1, .inr 2, .inr 3, .inr 4, .inr 5, .inl 17, .inl 18, .inl 19, .inl 20, .inl 21, .inl 22, .inl 23, .inl 24, .inl 25, .inl 26, .inl 27, .inl 28, .inl 29, .inl 30, .inl 31, .inl 32, .inl 33, .inl 34, .inl 35, .inl 36, .inl 37, .inl 38, .inl 39, .inl 40, .inl 41, .inl 42, .inl 43, .inl 44, .inl 45, .inl 46, .inl 47, .inl 48, .inl 49] rfl rfl rfl rfl
        refine vx_catch hown [] ⟨9, 23, 26, 150⟩ [] htab (fun z hz => absurd hz List.not_mem_nil) rfl (by decide) (hts _ q356) (hE.use q363 rfl rfl) hce hcv hcl ?_
        refine lv_astore_n (lv' := [(2, .ref we.1), (0, .ref (ad 0)), (1, .int (nI 1))]) hx hb dX0_close_26 rfl hl (by decide) rfl (fun ls hl => ?_)
        refine lv_bipush (v := (-3)) hx hb dX0_close_27 (by decide) ?_
        have hs : ti_Sclose I DD (nI 1) = (-3, I, DD) := by rw [ti_Sclose, if_neg (by rw [c4]; decide), hci, if_pos (by rw [hlen]; exact hz19)]
        have hv9 : ((-3)) = (fun _ => (ti_Sclose I DD (nI 1)).1) (xi, xr, xf, xd) := by rw [hs]
        refine W.eq (g2 := F0 m 29 ls [.int ((fun _ => (ti_Sclose I DD (nI 1)).1) (xi, xr, xf, xd))]) (congrArg (fun z => F0 m 29 ls [.int z]) hv9) ?_
        exact hret _ (xi, xr, xf, xd) _ _ _ _ (by rw [hs]; exact ⟨hJ, hDD, hxi, hxr, hxf, hxd⟩) hP trivial hS (Nat.le_of_ble_eq_true rfl) (Nat.le_of_ble_eq_true rfl) (fun hq hf9 => W.iret hx hb hr hq hf9 dX0_close_29 hlk)
      · skip
        have hz1 : 0 < xi.2.2 1 := Nat.pos_of_ne_zero hz19
        have hnd9 : (ti_gr (xi.1 1) (xi.2.1 1) 0 (xi.2.2 1)).Nodup := by have h9 := hnd 1 (by decide); rw [← hJ 1 (by decide)] at h9; exact h9
        have hN9 : ti_r2 (ti_gr (xi.1 1) (xi.2.1 1) 0 (xi.2.2 1)) 9999 (List.range' 1 9) ≤ 6 := Nat.le_trans (ti_r2_le hnd9 9999) (by rw [ti_gr_len]; exact (hxi.2.2 1))
        refine ti_mV (As := [.ref (jh 1)]) (rest := []) S hE hP hD hS hA [11, 12, 13, 14, 15, 16, 5, 6, 7] rfl (met_X2_looks l D E (ad 5) (ad 6) (ad 7) (ad 8) (ad 9) (ad 10) xf.1 xf.2.1 xf.2.2.1 xf.2.2.2.1 xf.2.2.2.2.1 xf.2.2.2.2.2.1 xf.2.2.2.2.2.2.1 xf.2.2.2.2.2.2.2.1 xf.2.2.2.2.2.2.2.2.1 xf.2.2.2.2.2.2.2.2.2 (jh 1) (ju 1) (jv 1) (xi.1 1) (xi.2.1 1) (xi.2.2 1) (hxi.2.2 1) (hxi.1 1) (hxi.2.1 1) hxf.1 hxf.2.1 hxf.2.2.1 hxf.2.2.2.1 hz1 hN9) rfl (fun _ => rfl) (lw_V q357 q358 q359 q68 q360) 1 rfl 11 rfl rfl (by decide +kernel) ⟨Nat.le_of_ble_eq_true rfl, Nat.le_of_ble_eq_true rfl⟩ hl.1 rfl (Nat.le_of_ble_eq_true rfl) ⟨Nat.le_of_ble_eq_true rfl, Nat.le_of_ble_eq_true rfl⟩ dX0_close_19 (fun u1 H locs hu hP hD hS => ?_)
        obtain ⟨hF1, hF2, hF3, hF4, hF5⟩ := hu
        have hFF : ti_fr u1.1 u1.2.1 u1.2.2.1 0 u1.2.2.2 = ti_FF (ti_gr (xi.1 1) (xi.2.1 1) 0 (xi.2.2 1)) := by rw [hF1]; exact ti_fxm (by rw [ti_gr_len]; exact hz1) (ti_gr_9 (hxi.1 1) (hxi.2.1 1) 0 _)
        have hFo : ti_Fok (Value.ref (jh 1), u1.1, u1.2.1, u1.2.2.1, u1.2.2.2, xf.2.2.2.2.2.1, xf.2.2.2.2.2.2.1, xf.2.2.2.2.2.2.2.1, xf.2.2.2.2.2.2.2.2.1, xf.2.2.2.2.2.2.2.2.2) := ⟨hF2, hF3, hF4, hF5, hxf.2.2.2.2⟩
        have hP : va_P D vwCl (ti_wMJRFD E ad dh du dv jh ju jv kh ku kv tx hi xi xr (Value.ref (jh 1), u1.1, u1.2.1, u1.2.2.1, u1.2.2.2, xf.2.2.2.2.2.1, xf.2.2.2.2.2.2.1, xf.2.2.2.2.2.2.2.1, xf.2.2.2.2.2.2.2.2.1, xf.2.2.2.2.2.2.2.2.2) xd) H := ti_asP hP [.inl 0, .inl 1, .inl 2, .inl 3, .inl 4, .inr 6, .inr 7, .inr 8, .inl 8, .inl 9, .inl 10, .inr 0, .inr 1, .inr 2, .inr 3, .inr 4, .inr 5, .inl 17, .inl 18, .inl 19, .inl 20, .inl 21, .inl 22, .inl 23, .inl 24, .inl 25, .inl 26, .inl 27, .inl 28, .inl 29, .inl 30, .inl 31, .inl 32, .inl 33, .inl 34, .inl 35, .inl 36, .inl 37, .inl 38, .inl 39, .inl 40, .inl 41, .inl 42, .inl 43, .inl 44, .inl 45, .inl 46, .inl 47, .inl 48, .inl 49] rfl rfl rfl rfl
        have hD : va_D A (ti_wMJRFD E ad dh du dv jh ju jv kh ku kv tx hi xi xr (Value.ref (jh 1), u1.1, u1.2.1, u1.2.2.1, u1.2.2.2, xf.2.2.2.2.2.1, xf.2.2.2.2.2.2.1, xf.2.2.2.2.2.2.2.1, xf.2.2.2.2.2.2.2.2.1, xf.2.2.2.2.2.2.2.2.2) xd) := ti_asD hD [.inl 0, .inl 1, .inl 2, .inl 3, .inl 4, .inr 6, .inr 7, .inr 8, .inl 8, .inl 9, .inl 10, .inr 0, .inr 1, .inr 2, .inr 3, .inr 4, .inr 5, .inl 17, .inl 18, .inl 19, .inl 20, .inl 21, .inl 22, .inl 23, .inl 24, .inl 25, .inl 26, .inl 27, .inl 28, .inl 29, .inl 30, .inl 31, .inl 32, .inl 33, .inl 34, .inl 35, .inl 36, .inl 37, .inl 38, .inl 39, .inl 40, .inl 41, .inl 42, .inl 43, .inl 44, .inl 45, .inl 46, .inl 47, .inl 48, .inl 49] rfl rfl rfl rfl
        refine W.eq (g2 := F0 m 22 ls [.ref (ad 5)]) rfl ?_
        refine lv_pop hx hb dX0_close_22 rfl ?_
        refine lv_goto (tgt := 30) hx hb dX0_close_23 (by decide) ?_
        refine lv_aload_n hx hb dX0_close_30 rfl (lv_at hl 0 rfl) ?_
        refine va_get (v := .ref (ad 2)) hx hb hts in_X0 hown hK hP 0 rfl rfl 1 (by decide) (hts _ q238) (fun _ h => h) rfl dX0_close_31 ?_
        refine lv_iconst (v := nI 0) hx hb dX0_close_34 (by decide) ?_
        refine va_putN (ty := .int) hx hb hts in_X1 tyX1 tyX1_ok nmX1 hown hK hP hD hS 8 rfl rfl 2 (by decide) (hE.use q117 rfl rfl) (fun _ h => h) rfl rfl rfl rfl (Nat.le_of_ble_eq_true rfl) dX0_close_35 (fun H locs hP hD hS => ?_)
        have hP : va_P D vwCl (ti_wMJRFD E ad dh du dv jh ju jv kh ku kv tx hi xi (xr.1, xr.2.1, 0) (Value.ref (jh 1), u1.1, u1.2.1, u1.2.2.1, u1.2.2.2, xf.2.2.2.2.2.1, xf.2.2.2.2.2.2.1, xf.2.2.2.2.2.2.2.1, xf.2.2.2.2.2.2.2.2.1, xf.2.2.2.2.2.2.2.2.2) xd) H := hP
        have hD : va_D A (ti_wMJRFD E ad dh du dv jh ju jv kh ku kv tx hi xi (xr.1, xr.2.1, 0) (Value.ref (jh 1), u1.1, u1.2.1, u1.2.2.1, u1.2.2.2, xf.2.2.2.2.2.1, xf.2.2.2.2.2.2.1, xf.2.2.2.2.2.2.2.1, xf.2.2.2.2.2.2.2.2.1, xf.2.2.2.2.2.2.2.2.2) xd) := hD
        refine lv_iconst (v := nI 0) hx hb dX0_close_38 (by decide) ?_
        refine lv_istore_n (lv' := [(2, .int (nI 0)), (0, .ref (ad 0)), (1, .int (nI 1))]) hx hb dX0_close_39 rfl hl (by decide) rfl (fun ls hl => ?_)
        have L40 : ∀ (N : Nat) (k : Nat) (fa fb : Nat → Nat) (n1 : Nat) (ls : Array Slot) (H : Heap) (locs : List Loc), va_P D vwCl (ti_wMJRFD E ad dh du dv jh ju jv kh ku kv tx hi xi (fa, fb, n1) (Value.ref (jh 1), u1.1, u1.2.1, u1.2.2.1, u1.2.2.2, xf.2.2.2.2.2.1, xf.2.2.2.2.2.2.1, xf.2.2.2.2.2.2.2.1, xf.2.2.2.2.2.2.2.2.1, xf.2.2.2.2.2.2.2.2.2) xd) H → va_D A (ti_wMJRFD E ad dh du dv jh ju jv kh ku kv tx hi xi (fa, fb, n1) (Value.ref (jh 1), u1.1, u1.2.1, u1.2.2.1, u1.2.2.2, xf.2.2.2.2.2.1, xf.2.2.2.2.2.2.1, xf.2.2.2.2.2.2.2.1, xf.2.2.2.2.2.2.2.2.1, xf.2.2.2.2.2.2.2.2.2) xd) → va_S A s.heap H locs → (100 - k) < N → (k ≤ 100) → (∀ j, fa j ≤ 9) → (∀ j, fb j ≤ 9) → (n1 ≤ 6) → (ti_gr fa fb 0 n1 ++ ti_cns (ti_fr u1.1 u1.2.1 u1.2.2.1 0 u1.2.2.2) (List.range' k (100 - k)) = ti_cns (ti_fr u1.1 u1.2.1 u1.2.2.1 0 u1.2.2.2) (List.range' 0 100)) → lv_has ls 3 [(0, .ref (ad 0)), (1, .int (nI 1)), (2, .int (nI k))] → W p l e (ti_rm 7 1 6) s m ([.ref (ad 0), .int (nI 1)] : List Value).toArray below meth c H locs 0 0 Q (F0 m 40 ls []) := by
          intro N
          induction N with
          | zero => intro k fa fb n1 ls H locs hP hD hS h0; exact absurd h0 (Nat.not_lt_zero _)
          | succ N ih40 =>
            intro k fa fb n1 ls H locs hP hD hS hN hk hfa hfb hn1 hcn hl
            refine lv_iload_n hx hb dX0_close_40 rfl (lv_at hl 2 rfl) ?_
            refine lv_bipush (v := nI 100) hx hb dX0_close_41 (by decide) ?_
            refine tn_ge (tgt := 100) hx hb dX0_close_43 (by decide) (by omega) (by omega) (fun c43 => ?_) (fun c43 => ?_)
            · skip
              refine lv_aload_n hx hb dX0_close_100 rfl (lv_at hl 0 rfl) ?_
              refine lv_iload_n hx hb dX0_close_101 rfl (lv_at hl 1 rfl) ?_
              refine ti_mV (As := [.int (nI 1)]) (rest := []) S hE hP hD hS hA [0, 1, 2, 3, 4, 5, 6, 7, 8, 9, 10, 17, 18, 19, 20, 21, 22, 23, 24, 25, 26, 27, 28, 29, 30, 31, 32, 33, 34, 35, 36, 37, 38, 39, 40, 41, 42, 43, 44, 45, 46, 47, 48, 49] rfl (met_X0_becomes l D E ad dh du dv jh ju jv kh ku kv tx hi xi (fa, fb, n1) xd hxi I hJ hxd DD hDD ⟨hfa, hfb, hn1⟩ 1 (by decide)) rfl (fun _ => rfl) (lw_V q348 q350 qs1 q66 q351) 1 rfl 0 rfl rfl (by decide +kernel) ⟨Nat.le_of_ble_eq_true rfl, Nat.le_of_ble_eq_true rfl⟩ hl.1 rfl (Nat.le_of_ble_eq_true rfl) ⟨Nat.le_of_ble_eq_true rfl, Nat.le_of_ble_eq_true rfl⟩ dX0_close_102 (fun ub H locs hu hP hD hS => ?_)
              have hub := hu
              have hP : va_P D vwCl (ti_wMJRFD E ad dh du dv jh ju jv kh ku kv tx hi (ti_j2 (ub.1.1 0) (ub.1.1 1), ti_j2 (ub.1.2.1 0) (ub.1.2.1 1), ti_j2 (ub.1.2.2 0) (ub.1.2.2 1)) (fa, fb, n1) (Value.ref (jh 1), u1.1, u1.2.1, u1.2.2.1, u1.2.2.2, xf.2.2.2.2.2.1, xf.2.2.2.2.2.2.1, xf.2.2.2.2.2.2.2.1, xf.2.2.2.2.2.2.2.2.1, xf.2.2.2.2.2.2.2.2.2) (ub.2.1, ub.2.2.1, ub.2.2.2.1, ub.2.2.2.2.1, ub.2.2.2.2.2.1, ub.2.2.2.2.2.2)) H := ti_asP hP [.inr 0, .inr 1, .inr 2, .inr 3, .inr 4, .inr 5, .inr 6, .inr 7, .inr 8, .inr 9, .inr 10, .inl 11, .inl 12, .inl 13, .inl 14, .inl 15, .inl 16, .inr 11, .inr 12, .inr 13, .inr 14, .inr 15, .inr 16, .inr 17, .inr 18, .inr 19, .inr 20, .inr 21, .inr 22, .inr 23, .inr 24, .inr 25, .inr 26, .inr 27, .inr 28, .inr 29, .inr 30, .inr 31, .inr 32, .inr 33, .inr 34, .inr 35, .inr 36, .inr 37, .inr 38, .inr 39, .inr 40, .inr 41, .inr 42, .inr 43] rfl rfl rfl rfl
              have hD : va_D A (ti_wMJRFD E ad dh du dv jh ju jv kh ku kv tx hi (ti_j2 (ub.1.1 0) (ub.1.1 1), ti_j2 (ub.1.2.1 0) (ub.1.2.1 1), ti_j2 (ub.1.2.2 0) (ub.1.2.2 1)) (fa, fb, n1) (Value.ref (jh 1), u1.1, u1.2.1, u1.2.2.1, u1.2.2.2, xf.2.2.2.2.2.1, xf.2.2.2.2.2.2.1, xf.2.2.2.2.2.2.2.1, xf.2.2.2.2.2.2.2.2.1, xf.2.2.2.2.2.2.2.2.2) (ub.2.1, ub.2.2.1, ub.2.2.2.1, ub.2.2.2.2.1, ub.2.2.2.2.2.1, ub.2.2.2.2.2.2)) := ti_asD hD [.inr 0, .inr 1, .inr 2, .inr 3, .inr 4, .inr 5, .inr 6, .inr 7, .inr 8, .inr 9, .inr 10, .inl 11, .inl 12, .inl 13, .inl 14, .inl 15, .inl 16, .inr 11, .inr 12, .inr 13, .inr 14, .inr 15, .inr 16, .inr 17, .inr 18, .inr 19, .inr 20, .inr 21, .inr 22, .inr 23, .inr 24, .inr 25, .inr 26, .inr 27, .inr 28, .inr 29, .inr 30, .inr 31, .inr 32, .inr 33, .inr 34, .inr 35, .inr 36, .inr 37, .inr 38, .inr 39, .inr 40, .inr 41, .inr 42, .inr 43] rfl rfl rfl rfl
              refine W.eq (g2 := F0 m 105 ls [.int (nI n1)]) rfl ?_
              have hs : ti_Sclose I DD (nI 1) = (nI n1, va_up I 1 (ti_gr fa fb 0 n1), ti_keep (1, I 1) DD) := by rw [show 100 - k = 0 by omega] at hcn; have hcn : ti_gr fa fb 0 n1 = ti_cns (ti_fr u1.1 u1.2.1 u1.2.2.1 0 u1.2.2.2) (List.range' 0 100) := (by rw [← hcn]; exact (List.append_nil _).symm); rw [ti_Sclose, if_neg (by rw [c4]; decide), hci, if_neg (by rw [hlen]; exact hz19), ← show (ti_gr (xi.1 1) (xi.2.1 1) 0 (xi.2.2 1)) = I 1 from hg, ← hFF, ← hcn, ti_gr_len, if_neg (by omega), show (ti_gr (xi.1 1) (xi.2.1 1) 0 (xi.2.2 1)) = I 1 from hg]
              have hv9 : (nI n1) = (fun _ => (ti_Sclose I DD (nI 1)).1) ((ub.1, (fa, fb, n1), (Value.ref (jh 1), u1.1, u1.2.1, u1.2.2.1, u1.2.2.2, xf.2.2.2.2.2.1, xf.2.2.2.2.2.2.1, xf.2.2.2.2.2.2.2.1, xf.2.2.2.2.2.2.2.2.1, xf.2.2.2.2.2.2.2.2.2), ub.2)) := by rw [hs]
              refine W.eq (g2 := F0 m 105 ls [.int ((fun _ => (ti_Sclose I DD (nI 1)).1) ((ub.1, (fa, fb, n1), (Value.ref (jh 1), u1.1, u1.2.1, u1.2.2.1, u1.2.2.2, xf.2.2.2.2.2.1, xf.2.2.2.2.2.2.1, xf.2.2.2.2.2.2.2.1, xf.2.2.2.2.2.2.2.2.1, xf.2.2.2.2.2.2.2.2.2), ub.2)))]) (congrArg (fun z => F0 m 105 ls [.int z]) hv9) ?_
              exact hret _ ((ub.1, (fa, fb, n1), (Value.ref (jh 1), u1.1, u1.2.1, u1.2.2.1, u1.2.2.2, xf.2.2.2.2.2.1, xf.2.2.2.2.2.2.1, xf.2.2.2.2.2.2.2.1, xf.2.2.2.2.2.2.2.2.1, xf.2.2.2.2.2.2.2.2.2), ub.2)) _ _ _ _ (by rw [hs]; exact ⟨hub.1, hub.2.1, hub.2.2.1, ⟨hfa, hfb, hn1⟩, hFo, hub.2.2.2⟩) hP trivial hS (Nat.le_of_ble_eq_true rfl) (Nat.le_of_ble_eq_true rfl) (fun hq hf9 => W.iret hx hb hr hq hf9 dX0_close_105 hlk)
            · skip
              obtain ⟨m9, hm9⟩ : ∃ m9, 100 - k = m9 + 1 := ⟨100 - k - 1, by omega⟩
              rw [hm9, List.range'_succ, ti_cns] at hcn
              refine lv_aload_n hx hb dX0_close_46 rfl (lv_at hl 0 rfl) ?_
              refine lv_iload_n hx hb dX0_close_47 rfl (lv_at hl 2 rfl) ?_
              refine lv_bipush (v := nI 10) hx hb dX0_close_48 (by decide) ?_
              refine tn_div hx hb dX0_close_50 (by omega) (by omega) (by omega) ?_
              refine lv_iload_n hx hb dX0_close_51 rfl (lv_at hl 2 rfl) ?_
              refine lv_bipush (v := nI 10) hx hb dX0_close_52 (by decide) ?_
              refine tn_rem hx hb dX0_close_54 (by omega) (by omega) (by omega) ?_
              refine ti_pV (As := [.int (nI (k / 10)), .int (nI (k % 10))]) (rest := []) (v := .int (ti_b (ti_cn (k / 10) (k % 10) (ti_fr u1.1 u1.2.1 u1.2.2.1 0 u1.2.2.2)))) S hE hP [0, 11, 12, 13, 14, 15, 16] (met_X0_isCorner l D E ad dh du dv jh ju jv kh ku kv tx hi (Value.ref (jh 1), u1.1, u1.2.1, u1.2.2.1, u1.2.2.2, xf.2.2.2.2.2.1, xf.2.2.2.2.2.2.1, xf.2.2.2.2.2.2.2.1, xf.2.2.2.2.2.2.2.2.1, xf.2.2.2.2.2.2.2.2.2) hFo (k / 10) (k % 10) (by omega) (by omega)) rfl (lw_V q459 q461 qs7 q66 q462) 2 rfl 0 rfl rfl (by decide +kernel) ⟨Nat.le_of_ble_eq_true rfl, Nat.le_of_ble_eq_true rfl⟩ hl.1 rfl (Nat.le_of_ble_eq_true rfl) ⟨Nat.le_of_ble_eq_true rfl, Nat.le_of_ble_eq_true rfl⟩ dX0_close_55 ?_
              refine tb_ne (tgt := 64) hx hb dX0_close_58 (by decide) (fun c58 => ?_) (fun c58 => ?_)
              · skip
                rw [if_pos c58] at hcn
                refine lv_aload_n hx hb dX0_close_64 rfl (lv_at hl 0 rfl) ?_
                refine va_get (v := .ref (ad 2)) hx hb hts in_X0 hown hK hP 0 rfl rfl 1 (by decide) (hts _ q238) (fun _ h => h) rfl dX0_close_65 ?_
                refine va_getN (v := .int (nI n1)) hx hb hts in_X1 hown hK hP 8 rfl rfl 2 (by decide) (hE.use q117 rfl rfl) (fun _ h => h) rfl dX0_close_68 ?_
                refine lv_bipush (v := nI 6) hx hb dX0_close_71 (by decide) ?_
                refine tn_ne (tgt := 79) hx hb dX0_close_73 (by decide) (by omega) (by omega) (fun c73 => ?_) (fun c73 => ?_)
                · skip
                  refine lv_aload_n hx hb dX0_close_79 rfl (lv_at hl 0 rfl) ?_
                  refine va_get (v := .ref (ad 2)) hx hb hts in_X0 hown hK hP 0 rfl rfl 1 (by decide) (hts _ q238) (fun _ h => h) rfl dX0_close_80 ?_
                  refine lv_iload_n hx hb dX0_close_83 rfl (lv_at hl 2 rfl) ?_
                  refine lv_bipush (v := nI 10) hx hb dX0_close_84 (by decide) ?_
                  refine tn_div hx hb dX0_close_86 (by omega) (by omega) (by omega) ?_
                  refine lv_iload_n hx hb dX0_close_87 rfl (lv_at hl 2 rfl) ?_
                  refine lv_bipush (v := nI 10) hx hb dX0_close_88 (by decide) ?_
                  refine tn_rem hx hb dX0_close_90 (by omega) (by omega) (by omega) ?_
                  refine ti_mV (As := [.int (nI (k / 10)), .int (nI (k % 10))]) (rest := []) S hE hP hD hS hA [8, 9, 10] rfl (met_X1_comes l D E (ad 2) (ad 3) (ad 4) fa fb n1 (by omega) (k / 10) (k % 10)) rfl (fun _ => rfl) (lw_V q323 q324 q325 q67 q326) 2 rfl 8 rfl rfl (by decide +kernel) ⟨Nat.le_of_ble_eq_true rfl, Nat.le_of_ble_eq_true rfl⟩ hl.1 rfl (Nat.le_of_ble_eq_true rfl) ⟨Nat.le_of_ble_eq_true rfl, Nat.le_of_ble_eq_true rfl⟩ dX0_close_91 (fun _ H locs hu hP hD hS => ?_)
                  have hP : va_P D vwCl (ti_wMJRFD E ad dh du dv jh ju jv kh ku kv tx hi xi (va_up fa n1 (k / 10), va_up fb n1 (k % 10), n1 + 1) (Value.ref (jh 1), u1.1, u1.2.1, u1.2.2.1, u1.2.2.2, xf.2.2.2.2.2.1, xf.2.2.2.2.2.2.1, xf.2.2.2.2.2.2.2.1, xf.2.2.2.2.2.2.2.2.1, xf.2.2.2.2.2.2.2.2.2) xd) H := ti_asP hP [.inl 0, .inl 1, .inl 2, .inl 3, .inl 4, .inl 5, .inl 6, .inl 7, .inr 0, .inr 1, .inr 2, .inl 11, .inl 12, .inl 13, .inl 14, .inl 15, .inl 16, .inl 17, .inl 18, .inl 19, .inl 20, .inl 21, .inl 22, .inl 23, .inl 24, .inl 25, .inl 26, .inl 27, .inl 28, .inl 29, .inl 30, .inl 31, .inl 32, .inl 33, .inl 34, .inl 35, .inl 36, .inl 37, .inl 38, .inl 39, .inl 40, .inl 41, .inl 42, .inl 43, .inl 44, .inl 45, .inl 46, .inl 47, .inl 48, .inl 49] rfl rfl rfl rfl
                  have hD : va_D A (ti_wMJRFD E ad dh du dv jh ju jv kh ku kv tx hi xi (va_up fa n1 (k / 10), va_up fb n1 (k % 10), n1 + 1) (Value.ref (jh 1), u1.1, u1.2.1, u1.2.2.1, u1.2.2.2, xf.2.2.2.2.2.1, xf.2.2.2.2.2.2.1, xf.2.2.2.2.2.2.2.1, xf.2.2.2.2.2.2.2.2.1, xf.2.2.2.2.2.2.2.2.2) xd) := ti_asD hD [.inl 0, .inl 1, .inl 2, .inl 3, .inl 4, .inl 5, .inl 6, .inl 7, .inr 0, .inr 1, .inr 2, .inl 11, .inl 12, .inl 13, .inl 14, .inl 15, .inl 16, .inl 17, .inl 18, .inl 19, .inl 20, .inl 21, .inl 22, .inl 23, .inl 24, .inl 25, .inl 26, .inl 27, .inl 28, .inl 29, .inl 30, .inl 31, .inl 32, .inl 33, .inl 34, .inl 35, .inl 36, .inl 37, .inl 38, .inl 39, .inl 40, .inl 41, .inl 42, .inl 43, .inl 44, .inl 45, .inl 46, .inl 47, .inl 48, .inl 49] rfl rfl rfl rfl
                  refine W.eq (g2 := F0 m 94 ls []) rfl ?_
                  refine lv_iinc (v := nI (k + 1)) (lv' := [(2, .int (nI (k + 1))), (0, .ref (ad 0)), (1, .int (nI 1))]) hx hb dX0_close_94 hl (k := 2) rfl (nI_1 k) (by decide) rfl (fun ls hl => ?_)
                  refine lv_goto (tgt := 40) hx hb dX0_close_97 (by decide) ?_
                  exact ih40 (k + 1) (va_up fa n1 (k / 10)) (va_up fb n1 (k % 10)) (n1 + 1) _ _ _ hP hD hS (by omega) (by omega) (ti_up_le hfa (by omega)) (ti_up_le hfb (by omega)) (by omega) (by rw [ti_gr_push, List.append_assoc, show 100 - (k + 1) = m9 by omega]; exact hcn) (lv_sub hl [1, 2, 0] rfl)
                · skip
                  refine lv_bipush (v := (-4)) hx hb dX0_close_76 (by decide) ?_
                  have hs : ti_Sclose I DD (nI 1) = (-4, I, DD) := by rw [ti_Sclose, if_neg (by rw [c4]; decide), hci, if_neg (by rw [hlen]; exact hz19), if_pos (by rw [← show (ti_gr (xi.1 1) (xi.2.1 1) 0 (xi.2.2 1)) = I 1 from hg, ← hFF, ← hcn, List.length_append, ti_gr_len, List.length_cons]; omega)]
                  have hv9 : ((-4)) = (fun _ => (ti_Sclose I DD (nI 1)).1) ((xi, (fa, fb, n1), (Value.ref (jh 1), u1.1, u1.2.1, u1.2.2.1, u1.2.2.2, xf.2.2.2.2.2.1, xf.2.2.2.2.2.2.1, xf.2.2.2.2.2.2.2.1, xf.2.2.2.2.2.2.2.2.1, xf.2.2.2.2.2.2.2.2.2), xd)) := by rw [hs]
                  refine W.eq (g2 := F0 m 78 ls [.int ((fun _ => (ti_Sclose I DD (nI 1)).1) ((xi, (fa, fb, n1), (Value.ref (jh 1), u1.1, u1.2.1, u1.2.2.1, u1.2.2.2, xf.2.2.2.2.2.1, xf.2.2.2.2.2.2.1, xf.2.2.2.2.2.2.2.1, xf.2.2.2.2.2.2.2.2.1, xf.2.2.2.2.2.2.2.2.2), xd)))]) (congrArg (fun z => F0 m 78 ls [.int z]) hv9) ?_
                  exact hret _ ((xi, (fa, fb, n1), (Value.ref (jh 1), u1.1, u1.2.1, u1.2.2.1, u1.2.2.2, xf.2.2.2.2.2.1, xf.2.2.2.2.2.2.1, xf.2.2.2.2.2.2.2.1, xf.2.2.2.2.2.2.2.2.1, xf.2.2.2.2.2.2.2.2.2), xd)) _ _ _ _ (by rw [hs]; exact ⟨hJ, hDD, hxi, ⟨hfa, hfb, hn1⟩, hFo, hxd⟩) hP trivial hS (Nat.le_of_ble_eq_true rfl) (Nat.le_of_ble_eq_true rfl) (fun hq hf9 => W.iret hx hb hr hq hf9 dX0_close_78 hlk)
              · skip
                rw [if_neg (by rw [c58]; decide)] at hcn
                refine lv_goto (tgt := 94) hx hb dX0_close_61 (by decide) ?_
                refine lv_iinc (v := nI (k + 1)) (lv' := [(2, .int (nI (k + 1))), (0, .ref (ad 0)), (1, .int (nI 1))]) hx hb dX0_close_94 hl (k := 2) rfl (nI_1 k) (by decide) rfl (fun ls hl => ?_)
                refine lv_goto (tgt := 40) hx hb dX0_close_97 (by decide) ?_
                exact ih40 (k + 1) fa fb n1 _ _ _ hP hD hS (by omega) (by omega) (hfa) (hfb) (hn1) (by rw [show 100 - (k + 1) = m9 by omega]; exact hcn) (lv_sub hl [1, 2, 0] rfl)
        exact L40 _ 0 xr.1 xr.2.1 0 _ _ _ hP hD hS (Nat.lt_succ_self _) (by omega) (hxr.1) (hxr.2.1) (by decide) (by rw [ti_gr_0]; rfl) (lv_sub hl [1, 2, 0] rfl)
  · skip
    refine lv_iconst (v := (-1)) hx hb dX0_close_7 (by decide) ?_
    have hs : ti_Sclose I DD v = (-1, I, DD) := by rw [ti_Sclose, if_pos c4]
    have hv9 : ((-1)) = (fun _ => (ti_Sclose I DD v).1) (xi, xr, xf, xd) := by rw [hs]
    refine W.eq (g2 := F0 m 8 ls [.int ((fun _ => (ti_Sclose I DD v).1) (xi, xr, xf, xd))]) (congrArg (fun z => F0 m 8 ls [.int z]) hv9) ?_
    exact hret _ (xi, xr, xf, xd) _ _ _ _ (by rw [hs]; exact ⟨hJ, hDD, hxi, hxr, hxf, hxd⟩) hP trivial hS (Nat.le_of_ble_eq_true rfl) (Nat.le_of_ble_eq_true rfl) (fun hq hf9 => W.iret hx hb hr hq hf9 dX0_close_8 hlk)

theorem ti_dl_take {wh pm : Nat → Nat} {FA FB : Nat → Nat → Nat} {NN : Nat → Nat} {m : Nat} : ti_dl wh pm FA FB NN 0 m = (ti_dl wh pm FA FB NN 0 (m + 1)).take m := by
  apply List.ext_getElem?
  intro j
  rw [List.getElem?_take]
  by_cases hj : j < m
  · rw [if_pos hj, ti_dl_at hj, ti_dl_at (by omega)]
  · rw [if_neg hj, List.getElem?_eq_none (by rw [ti_dl_len]; omega)]
theorem ti_dl_getD {wh pm : Nat → Nat} {FA FB : Nat → Nat → Nat} {NN : Nat → Nat} {m j : Nat} (h : j < m) : (ti_dl wh pm FA FB NN 0 m).getD j (0, []) = (wh j, ti_gr (FA (pm j)) (FB (pm j)) 0 (NN (pm j))) := by
  rw [List.getD_eq_getElem?_getD, ti_dl_at h, Nat.zero_add]; rfl
theorem ti_JI_up {x : ti_Ti} {I : Nat → ti_GL} (h : ti_JI x I) {w : Nat} {fa fb : Nat → Nat} {n : Nat} : ti_JI (va_up x.1 w fa, va_up x.2.1 w fb, va_up x.2.2 w n) (va_up I w (ti_gr fa fb 0 n)) := by
  intro j hj
  show ti_gr (va_up x.1 w fa j) (va_up x.2.1 w fb j) 0 (va_up x.2.2 w n j) = _
  by_cases e : j = w
  · subst e; rw [va_up_self, va_up_self, va_up_self, va_up_self]
  · rw [va_up_ne _ _ e, va_up_ne _ _ e, va_up_ne _ _ e, va_up_ne _ _ e]; exact h j hj

set_option maxHeartbeats 1000000 in
theorem met_X0_back (l : Launch) (D : va_G) (E : Nat → ClassId) (ad dh du dv jh ju jv kh ku kv : Nat → Nat) (tx : Nat) (hi : Bool) (xi : ti_Ti) (xd : ti_Td) (hxi : ti_Jok xi) (I : Nat → ti_GL) (hJ : ti_JI xi I) (hxd : ti_Dok xd) (DD : ti_DL) (hDD : ti_Dl xd = DD) : ti_MetM (σ := ti_Ti × ti_Td) l D E yX0_back cX0_back 1 (some .int) 3 0 0 (ti_wMJD E ad dh du dv jh ju jv kh ku kv tx hi xi xd) [.ref (ad 0)] (fun u => ti_wMJD E ad dh du dv jh ju jv kh ku kv tx hi u.1 u.2) (fun u => some (.int ((fun _ => (ti_Sback I DD).1) u))) (fun u => ti_JI u.1 (ti_Sback I DD).2.1 ∧ ti_Dl u.2 = (ti_Sback I DD).2.2 ∧ ti_Jok u.1 ∧ ti_Dok u.2) := by
  refine ti_mutI (σ := ti_Ti × ti_Td) (vi := fun _ => (ti_Sback I DD).1) (by decide) (Nat.le_of_ble_eq_true rfl) ?_
  intro p e s m below meth c H H0 A Q ls S hE hP hD hS hA hinit hl hret
  have hx := S.1
  have hb := S.2.1
  have hown := S.2.2.2.1
  have hts := S.2.2.2.2
  have hK := hE.1
  have hl : lv_has ls 1 [(0, .ref (ad 0))] := hl
  have hd10 := hxd.1
  have hlen : DD.length = xd.2.2.1 := by rw [← hDD, ti_dl_len]
  refine lv_aload_n hx hb dX0_back_0 rfl (lv_at hl 0 rfl) ?_
  refine va_get (v := .ref (ad 11)) hx hb hts in_X0 hown hK hP 0 rfl rfl 3 (by decide) (hts _ q240) (fun _ h => h) rfl dX0_back_1 ?_
  refine va_getN (v := .int (nI xd.2.2.1)) hx hb hts in_X3 hown hK hP 8 rfl rfl 2 (by decide) (hE.use q182 rfl rfl) (fun _ h => h) rfl dX0_back_4 ?_
  refine tn_if_ne (tgt := 13) hx hb dX0_back_7 (by decide) (by omega) (fun c7 => ?_) (fun c7 => ?_)
  · skip
    refine lv_aload_n hx hb dX0_back_13 rfl (lv_at hl 0 rfl) ?_
    refine va_get (v := .ref (ad 11)) hx hb hts in_X0 hown hK hP 0 rfl rfl 3 (by decide) (hts _ q240) (fun _ h => h) rfl dX0_back_14 ?_
    refine lv_aload_n hx hb dX0_back_17 rfl (lv_at hl 0 rfl) ?_
    refine va_get (v := .ref (ad 1)) hx hb hts in_X0 hown hK hP 0 rfl rfl 0 (by decide) (hts _ q237) (fun _ h => h) rfl dX0_back_18 ?_
    refine ti_mV (As := [.ref (ad 1)]) (rest := []) S hE hP hD hS hA [8, 9, 10, 11, 12, 13, 14, 15, 16, 17, 18, 19, 20, 21, 22, 23, 24, 25, 26, 27, 28, 29, 30, 31, 32, 33, 34, 35, 36, 37, 38, 39, 40, 1, 2, 3, 4, 5, 6, 7] rfl (met_X3_back l D E (ad 11) (ad 12) (ad 13) dh du dv xd.1 xd.2.1 xd.2.2.1 xd.2.2.2.1 xd.2.2.2.2.1 xd.2.2.2.2.2 (ad 1) jh ju jv xi.1 xi.2.1 xi.2.2 hxd (by omega)) rfl (fun _ => rfl) (lw_V q471 q472 q473 q69 q474) 1 rfl 8 rfl rfl (by decide +kernel) ⟨Nat.le_of_ble_eq_true rfl, Nat.le_of_ble_eq_true rfl⟩ hl.1 rfl (Nat.le_of_ble_eq_true rfl) ⟨Nat.le_refl _, Nat.le_refl _⟩ dX0_back_21 (fun _ H locs hu hP hD hS => ?_)
    have hP : va_P D vwCl (ti_wMJD E ad dh du dv jh ju jv kh ku kv tx hi (ti_j2 ((va_up xi.1 (xd.2.1 (xd.2.2.1 - 1)) (xd.2.2.2.1 (xd.1 (xd.2.2.1 - 1)))) 0) ((va_up xi.1 (xd.2.1 (xd.2.2.1 - 1)) (xd.2.2.2.1 (xd.1 (xd.2.2.1 - 1)))) 1), ti_j2 ((va_up xi.2.1 (xd.2.1 (xd.2.2.1 - 1)) (xd.2.2.2.2.1 (xd.1 (xd.2.2.1 - 1)))) 0) ((va_up xi.2.1 (xd.2.1 (xd.2.2.1 - 1)) (xd.2.2.2.2.1 (xd.1 (xd.2.2.1 - 1)))) 1), ti_j2 ((va_up xi.2.2 (xd.2.1 (xd.2.2.1 - 1)) (xd.2.2.2.2.2 (xd.1 (xd.2.2.1 - 1)))) 0) ((va_up xi.2.2 (xd.2.1 (xd.2.2.1 - 1)) (xd.2.2.2.2.2 (xd.1 (xd.2.2.1 - 1)))) 1)) (xd.1, xd.2.1, xd.2.2.1 - 1, xd.2.2.2.1, xd.2.2.2.2.1, xd.2.2.2.2.2)) H := ti_asP hP [.inl 0, .inr 33, .inr 34, .inr 35, .inr 36, .inr 37, .inr 38, .inr 39, .inr 0, .inr 1, .inr 2, .inr 3, .inr 4, .inr 5, .inr 6, .inr 7, .inr 8, .inr 9, .inr 10, .inr 11, .inr 12, .inr 13, .inr 14, .inr 15, .inr 16, .inr 17, .inr 18, .inr 19, .inr 20, .inr 21, .inr 22, .inr 23, .inr 24, .inr 25, .inr 26, .inr 27, .inr 28, .inr 29, .inr 30, .inr 31, .inr 32] rfl rfl rfl rfl
    have hD : va_D A (ti_wMJD E ad dh du dv jh ju jv kh ku kv tx hi (ti_j2 ((va_up xi.1 (xd.2.1 (xd.2.2.1 - 1)) (xd.2.2.2.1 (xd.1 (xd.2.2.1 - 1)))) 0) ((va_up xi.1 (xd.2.1 (xd.2.2.1 - 1)) (xd.2.2.2.1 (xd.1 (xd.2.2.1 - 1)))) 1), ti_j2 ((va_up xi.2.1 (xd.2.1 (xd.2.2.1 - 1)) (xd.2.2.2.2.1 (xd.1 (xd.2.2.1 - 1)))) 0) ((va_up xi.2.1 (xd.2.1 (xd.2.2.1 - 1)) (xd.2.2.2.2.1 (xd.1 (xd.2.2.1 - 1)))) 1), ti_j2 ((va_up xi.2.2 (xd.2.1 (xd.2.2.1 - 1)) (xd.2.2.2.2.2 (xd.1 (xd.2.2.1 - 1)))) 0) ((va_up xi.2.2 (xd.2.1 (xd.2.2.1 - 1)) (xd.2.2.2.2.2 (xd.1 (xd.2.2.1 - 1)))) 1)) (xd.1, xd.2.1, xd.2.2.1 - 1, xd.2.2.2.1, xd.2.2.2.2.1, xd.2.2.2.2.2)) := ti_asD hD [.inl 0, .inr 33, .inr 34, .inr 35, .inr 36, .inr 37, .inr 38, .inr 39, .inr 0, .inr 1, .inr 2, .inr 3, .inr 4, .inr 5, .inr 6, .inr 7, .inr 8, .inr 9, .inr 10, .inr 11, .inr 12, .inr 13, .inr 14, .inr 15, .inr 16, .inr 17, .inr 18, .inr 19, .inr 20, .inr 21, .inr 22, .inr 23, .inr 24, .inr 25, .inr 26, .inr 27, .inr 28, .inr 29, .inr 30, .inr 31, .inr 32] rfl rfl rfl rfl
    refine W.eq (g2 := F0 m 24 ls []) rfl ?_
    refine lv_aload_n hx hb dX0_back_24 rfl (lv_at hl 0 rfl) ?_
    refine va_get (v := .ref (ad 11)) hx hb hts in_X0 hown hK hP 0 rfl rfl 3 (by decide) (hts _ q240) (fun _ h => h) rfl dX0_back_25 ?_
    refine va_getN (v := .int (nI (xd.2.2.1 - 1))) hx hb hts in_X3 hown hK hP 8 rfl rfl 2 (by decide) (hE.use q182 rfl rfl) (fun _ h => h) rfl dX0_back_28 ?_
    have hs : ti_Sback I DD = (nI (xd.2.2.1 - 1), va_up I (xd.2.1 (xd.2.2.1 - 1)) (ti_gr (xd.2.2.2.1 (xd.1 (xd.2.2.1 - 1))) (xd.2.2.2.2.1 (xd.1 (xd.2.2.1 - 1))) 0 (xd.2.2.2.2.2 (xd.1 (xd.2.2.1 - 1)))), DD.take (xd.2.2.1 - 1)) := by rw [ti_Sback, if_neg (by rw [hlen]; exact c7), hlen, ← hDD, ti_dl_getD (by omega)]
    exact hret (((va_up xi.1 (xd.2.1 (xd.2.2.1 - 1)) (xd.2.2.2.1 (xd.1 (xd.2.2.1 - 1))), va_up xi.2.1 (xd.2.1 (xd.2.2.1 - 1)) (xd.2.2.2.2.1 (xd.1 (xd.2.2.1 - 1))), va_up xi.2.2 (xd.2.1 (xd.2.2.1 - 1)) (xd.2.2.2.2.2 (xd.1 (xd.2.2.1 - 1)))), (xd.1, xd.2.1, xd.2.2.1 - 1, xd.2.2.2.1, xd.2.2.2.2.1, xd.2.2.2.2.2))) _ _ _ _ _ _ _ dX0_back_31 (by rw [hs]) (by rw [hs]; exact ⟨ti_JI_up hJ, by rw [← hDD]; have := ti_dl_take (wh := xd.2.1) (pm := xd.1) (FA := xd.2.2.2.1) (FB := xd.2.2.2.2.1) (NN := xd.2.2.2.2.2) (m := xd.2.2.1 - 1); rw [show xd.2.2.1 - 1 + 1 = xd.2.2.1 by omega] at this; exact this, ⟨ti_up2_le hxi.1 (hxd.2.2.1 _), ti_up2_le hxi.2.1 (hxd.2.2.2.1 _), ti_up_le hxi.2.2 (hxd.2.2.2.2.1 _)⟩, ⟨by dsimp only; omega, hxd.2⟩⟩) hP hS (Nat.le_refl _) (Nat.le_refl _)
  · skip
    refine lv_bipush (v := (-3)) hx hb dX0_back_10 (by decide) ?_
    have hs : ti_Sback I DD = (-3, I, DD) := by rw [ti_Sback, if_pos (by rw [hlen]; exact c7)]
    exact hret (xi, xd) _ _ _ _ _ _ _ dX0_back_12 (by rw [hs]) (by rw [hs]; exact ⟨hJ, hDD, hxi, hxd⟩) hP hS (Nat.le_refl _) (Nat.le_refl _)

set_option maxHeartbeats 1000000 in
theorem met_X0_feed (l : Launch) (D : va_G) (E : Nat → ClassId) (ad dh du dv jh ju jv kh ku kv : Nat → Nat) (tx : Nat) (hi : Bool) (xt : Nat → Nat) (htx : tx ≤ 100) (hxt : ∀ k, xt k ≤ 127) (v : Int32) : ti_MetM (σ := Nat × (Nat → Nat)) l D E yX0_feed cX0_feed 2 (some .int) 1 0 0 (ti_wMX E ad dh du dv jh ju jv kh ku kv tx hi xt) [.ref (ad 0), .int v] (fun u => ti_wMX E ad dh du dv jh ju jv kh ku kv u.1 hi u.2) (fun u => some (.int ((fun _ => (ti_Sfeed ((List.range' 0 tx).map xt) v).1) u))) (fun u => (List.range' 0 u.1).map u.2 = (ti_Sfeed ((List.range' 0 tx).map xt) v).2 ∧ u.1 ≤ 100 ∧ ∀ k, u.2 k ≤ 127) := by
  refine ti_mutI (σ := Nat × (Nat → Nat)) (vi := fun _ => (ti_Sfeed ((List.range' 0 tx).map xt) v).1) (by decide) (Nat.le_of_ble_eq_true rfl) ?_
  intro p e s m below meth c H H0 A Q ls S hE hP hD hS hA hinit hl hret
  have hx := S.1
  have hb := S.2.1
  have hown := S.2.2.2.1
  have hts := S.2.2.2.2
  have hK := hE.1
  have hl : lv_has ls 2 [(0, .ref (ad 0)), (1, .int v)] := hl
  have hlen : ((List.range' 0 tx).map xt).length = tx := by simp
  refine lv_iload_n hx hb dX0_feed_0 rfl (lv_at hl 1 rfl) ?_
  refine lv_iconst (v := nI 0) hx hb dX0_feed_1 (by decide) ?_
  refine lv_bipush (v := nI 127) hx hb dX0_feed_2 (by decide) ?_
  refine ti_pS (As := [.int v, .int (nI 0), .int (nI 127)]) (rest := []) (v := .int (ti_b (ti_in v (nI 0) (nI 127)))) S hE hP [] (met_X0_in l D E v (nI 0) (nI 127)) rfl (lw_S q302 q303 q66 q304) 3 rfl (by decide +kernel) ⟨Nat.le_of_ble_eq_true rfl, Nat.le_of_ble_eq_true rfl⟩ hl.1 rfl (Nat.le_of_ble_eq_true rfl) ⟨Nat.le_refl _, Nat.le_refl _⟩ dX0_feed_4 ?_
  refine tb_ne (tgt := 13) hx hb dX0_feed_7 (by decide) (fun c7 => ?_) (fun c7 => ?_)
  · skip
    obtain ⟨w, -, hw, rfl⟩ := ti_in_nat (by decide) (by decide) c7
    have hcw : ti_cl (nI w) = w := ti_cl_nI (by omega)
    refine lv_aload_n hx hb dX0_feed_13 rfl (lv_at hl 0 rfl) ?_
    refine va_get (v := .int (nI tx)) hx hb hts in_X0 hown hK hP 0 rfl rfl 9 (by decide) (hts _ q246) (fun _ h => h) rfl dX0_feed_14 ?_
    refine lv_bipush (v := nI 100) hx hb dX0_feed_17 (by decide) ?_
    refine tn_ne (tgt := 25) hx hb dX0_feed_19 (by decide) (by omega) (by omega) (fun c19 => ?_) (fun c19 => ?_)
    · skip
      refine lv_aload_n hx hb dX0_feed_25 rfl (lv_at hl 0 rfl) ?_
      refine va_get (v := .ref (ad 22)) hx hb hts in_X0 hown hK hP 0 rfl rfl 8 (by decide) (hts _ q245) (fun _ h => h) rfl dX0_feed_26 ?_
      refine lv_aload_n hx hb dX0_feed_29 rfl (lv_at hl 0 rfl) ?_
      refine lv_dup hx hb dX0_feed_30 rfl ?_
      refine va_get (v := .int (nI tx)) hx hb hts in_X0 hown hK hP 0 rfl rfl 9 (by decide) (hts _ q246) (fun _ h => h) rfl dX0_feed_31 ?_
      refine lv_dup_x1 hx hb dX0_feed_34 rfl rfl ?_
      refine lv_iconst (v := nI 1) hx hb dX0_feed_35 (by decide) ?_
      refine tn_add hx hb dX0_feed_36 ?_
      have b36 : tx + 1 ≤ 101 := Nat.add_le_add htx (Nat.le_refl _)
      refine va_put (ty := .int) hx hb hts in_X0 tyX0 tyX0_ok nmX0 hown hK hP hD hS 0 rfl rfl 9 (by decide) (hts _ q246) (fun _ h => h) rfl rfl rfl rfl (Nat.le_of_ble_eq_true rfl) dX0_feed_37 (fun H locs hP hD hS => ?_)
      have hP : va_P D vwCl (ti_wMX E ad dh du dv jh ju jv kh ku kv (tx + 1) hi xt) H := hP
      have hD : va_D A (ti_wMX E ad dh du dv jh ju jv kh ku kv (tx + 1) hi xt) := hD
      refine lv_iload_n hx hb dX0_feed_40 rfl (lv_at hl 1 rfl) ?_
      refine lv_i2b (v := ((nI w)).toInt8.toInt32) hx hb dX0_feed_41 rfl ?_
      refine tn_bast (f := xt) hx hb hK hP hD hS 1 1 rfl rfl (by omega) (by decide) (ti_nar8 w hw) dX0_feed_42 (fun H locs hP hD hS => ?_)
      have hP : va_P D vwCl (ti_wMX E ad dh du dv jh ju jv kh ku kv (tx + 1) hi (va_up xt tx w)) H := hP
      have hD : va_D A (ti_wMX E ad dh du dv jh ju jv kh ku kv (tx + 1) hi (va_up xt tx w)) := hD
      refine lv_aload_n hx hb dX0_feed_43 rfl (lv_at hl 0 rfl) ?_
      refine va_get (v := .int (nI (tx + 1))) hx hb hts in_X0 hown hK hP 0 rfl rfl 9 (by decide) (hts _ q246) (fun _ h => h) rfl dX0_feed_44 ?_
      have hs : ti_Sfeed ((List.range' 0 tx).map xt) (nI w) = (nI (tx + 1), (List.range' 0 tx).map xt ++ [w]) := by rw [ti_Sfeed, if_neg (by rw [c7]; decide), if_neg (by rw [hlen]; exact c19), hlen, hcw]
      exact hret (tx + 1, va_up xt tx w) _ _ _ _ _ _ _ dX0_feed_47 (by rw [hs]) (by rw [hs]; exact ⟨ti_TX_push, by dsimp only; omega, ti_up_le hxt hw⟩) hP hS (Nat.le_refl _) (Nat.le_refl _)
    · skip
      refine lv_bipush (v := (-4)) hx hb dX0_feed_22 (by decide) ?_
      have hs : ti_Sfeed ((List.range' 0 tx).map xt) (nI w) = (-4, (List.range' 0 tx).map xt) := by rw [ti_Sfeed, if_neg (by rw [c7]; decide), if_pos (by rw [hlen]; exact c19)]
      exact hret (tx, xt) _ _ _ _ _ _ _ dX0_feed_24 (by rw [hs]) (by rw [hs]; exact ⟨rfl, htx, hxt⟩) hP hS (Nat.le_refl _) (Nat.le_refl _)
  · skip
    refine lv_bipush (v := (-2)) hx hb dX0_feed_10 (by decide) ?_
    have hs : ti_Sfeed ((List.range' 0 tx).map xt) v = (-2, (List.range' 0 tx).map xt) := by rw [ti_Sfeed, if_pos c7]
    exact hret (tx, xt) _ _ _ _ _ _ _ dX0_feed_12 (by rw [hs]) (by rw [hs]; exact ⟨rfl, htx, hxt⟩) hP hS (Nat.le_refl _) (Nat.le_refl _)
