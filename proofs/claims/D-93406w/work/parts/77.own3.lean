/-! TermIdeals: of, told, in, face (printed by w_own3.py) -/
set_option maxRecDepth 100000

abbrev ti_wMJF (E : Nat → ClassId) (ad dh du dv jh ju jv kh ku kv : Nat → Nat) (tx : Nat) (hi : Bool) (xi : ti_Ti) (xf : ti_Tf) : va_W := [(ad 0, .inr (0, [.ref (ad 1), .ref (ad 2), .ref (ad 5), .ref (ad 11), .ref (ad 14), .ref (ad 16), .ref (ad 18), .ref (ad 20), .ref (ad 22), .int (nI tx), .ref (ad 23), .ref (ad 27), .ref (ad 31), .ref (ad 35), .ref (ad 36), .ref (ad 37), .ref (ad 41), .ref (ad 45), .int (ti_b hi)])), (ad 1, .inl (E 5, 2, .inr (.inr (.inr (.inr (ti_o jh (fun j => j))))))), (jh 0, .inr (1, [.ref (ju 0), .ref (jv 0), .int (nI (xi.2.2 0))])), (ju 0, .inl (E 0, 6, .inl (ti_n (xi.1 0)))), (jv 0, .inl (E 0, 6, .inl (ti_n (xi.2.1 0)))), (jh 1, .inr (1, [.ref (ju 1), .ref (jv 1), .int (nI (xi.2.2 1))])), (ju 1, .inl (E 0, 6, .inl (ti_n (xi.1 1)))), (jv 1, .inl (E 0, 6, .inl (ti_n (xi.2.1 1)))), (ad 5, .inr (2, [xf.1, .ref (ad 6), .ref (ad 7), .ref (ad 8), .int (nI xf.2.2.2.2.1), .int (nI xf.2.2.2.2.2.1), .int (nI xf.2.2.2.2.2.2.1), .ref (ad 9), .ref (ad 10), .int (nI xf.2.2.2.2.2.2.2.2.2)])), (ad 6, .inl (E 0, 8, .inl (ti_n xf.2.1))), (ad 7, .inl (E 0, 8, .inl (ti_n xf.2.2.1))), (ad 8, .inl (E 0, 8, .inl (ti_n xf.2.2.2.1))), (ad 9, .inl (E 0, 100, .inl (ti_n xf.2.2.2.2.2.2.2.1))), (ad 10, .inl (E 0, 100, .inl (ti_n xf.2.2.2.2.2.2.2.2.1)))]

theorem ti_out2 {w : Int32} (h0 : ¬ w = 0) (h1 : ¬ w = 1) (h2 : ¬ w = 2) : ti_in w (nI 0) (nI 2) = false := by
  cases h : ti_in w (nI 0) (nI 2) with
  | false => rfl
  | true =>
    obtain ⟨j, -, hj, rfl⟩ := ti_in_nat (by decide) (by decide) h
    rcases (show j = 0 ∨ j = 1 ∨ j = 2 by omega) with rfl | rfl | rfl
    · exact absurd rfl h0
    · exact absurd rfl h1
    · exact absurd rfl h2

theorem ti_out4 {w : Int32} (h0 : ¬ w = 0) (h1 : ¬ w = 1) (h2 : ¬ w = 2) (h3 : ¬ w = 3) (h4 : ¬ w = 4) : ti_in w (nI 0) (nI 4) = false := by
  cases h : ti_in w (nI 0) (nI 4) with
  | false => rfl
  | true =>
    obtain ⟨j, -, hj, rfl⟩ := ti_in_nat (by decide) (by decide) h
    rcases (show j = 0 ∨ j = 1 ∨ j = 2 ∨ j = 3 ∨ j = 4 by omega) with rfl | rfl | rfl | rfl | rfl
    · exact absurd rfl h0
    · exact absurd rfl h1
    · exact absurd rfl h2
    · exact absurd rfl h3
    · exact absurd rfl h4

set_option maxHeartbeats 1000000 in
theorem met_X0_of (l : Launch) (D : va_G) (E : Nat → ClassId) (ad dh du dv jh ju jv kh ku kv : Nat → Nat) (tx : Nat) (hi : Bool) (xi : ti_Ti) (hxi : ti_Jok xi) (I : Nat → ti_GL) (hJ : ti_JI xi I) (v k w : Int32) : ti_MetP l D E yX0_of cX0_of 4 (some .int) 3 (ti_wMJ E ad dh du dv jh ju jv kh ku kv tx hi xi) [.ref (ad 0), .int v, .int k, .int w] (some (.int (ti_Sof I v k w))) := by
  refine ti_pureI (by decide) (Nat.le_of_ble_eq_true rfl) ?_
  intro p e s m below meth c H locs Q ls S hE hP hl hret
  have hx := S.1
  have hb := S.2.1
  have hown := S.2.2.2.1
  have hts := S.2.2.2.2
  have hK := hE.1
  have hl : lv_has ls 4 [(0, .ref (ad 0)), (1, .int v), (2, .int k), (3, .int w)] := hl
  refine lv_aload_n hx hb dX0_of_0 rfl (lv_at hl 0 rfl) ?_
  refine lv_iload_n hx hb dX0_of_1 rfl (lv_at hl 1 rfl) ?_
  refine lv_iload_n hx hb dX0_of_2 rfl (lv_at hl 2 rfl) ?_
  refine ti_pV (As := [.int v, .int k]) (rest := []) (v := .int (ti_b (ti_bt v && ti_lt k (xi.2.2 (ti_cl v))))) S hE hP [0, 1, 2, 3, 4, 5, 6, 7] (met_X0_isGenerator l D E ad dh du dv jh ju jv kh ku kv tx hi xi hxi v k) rfl (lw_V q331 q333 qs0 q66 q334) 2 rfl 0 rfl rfl (by decide +kernel) ⟨Nat.le_of_ble_eq_true rfl, Nat.le_of_ble_eq_true rfl⟩ hl.1 rfl (Nat.le_of_ble_eq_true rfl) ⟨Nat.le_refl _, Nat.le_refl _⟩ dX0_of_3 ?_
  refine tb_ne (tgt := 11) hx hb dX0_of_6 (by decide) (fun c6 => ?_) (fun c6 => ?_)
  · skip
    have hq : ti_bt v = true ∧ ti_lt k (xi.2.2 (ti_cl v)) = true := by simpa using c6
    obtain ⟨i, hi2, rfl⟩ := ti_bt_nat hq.1
    have hci : ti_cl (nI i) = i := ti_cl_nI (by omega)
    rw [hci] at hq
    obtain ⟨k9, hk9, rfl⟩ := ti_lt_nat hq.2
    have h6 := hxi.2.2 i
    have hck : ti_cl (nI k9) = k9 := ti_cl_nI (by omega)
    have hg := hJ i hi2
    have hlen := ti_JI_len hJ hi2
    have hq2 : (ti_bt (nI i) && ti_lt (nI k9) (I i).length) = true := by rw [hlen, hq.1, hq.2]; rfl
    have hgd : (I i).getD k9 (0, 0) = (xi.1 i k9, xi.2.1 i k9) := by rw [← hg]; exact ti_gr_getD hk9
    rcases (show i = 0 ∨ i = 1 by omega) with rfl | rfl
    · skip
      refine lv_iload_n hx hb dX0_of_11 rfl (lv_at hl 3 rfl) ?_
      by_cases sw12_0 : w = 0
      · subst sw12_0
        refine lv_tableIn (off := 28) (tgt := 40) hx hb dX0_of_12 (by decide) (by decide) rfl (by decide) ?_
        refine lv_aload_n hx hb dX0_of_40 rfl (lv_at hl 0 rfl) ?_
        refine va_get (v := .ref (ad 1)) hx hb hts in_X0 hown hK hP 0 rfl rfl 0 (by decide) (hts _ q237) (fun _ h => h) rfl dX0_of_41 ?_
        refine lv_iload_n hx hb dX0_of_44 rfl (lv_at hl 1 rfl) ?_
        refine tn_aald hx hb hK hP 1 5 rfl rfl (by omega) (by decide) dX0_of_45 ?_
        refine va_getN (v := .ref (ju 0)) hx hb hts in_X1 hown hK hP 2 rfl rfl 0 (by decide) (hE.use q111 rfl rfl) (fun _ h => h) rfl dX0_of_46 ?_
        refine lv_iload_n hx hb dX0_of_49 rfl (lv_at hl 2 rfl) ?_
        refine tn_iald (f := xi.1 0) hx hb hK hP 3 0 rfl rfl (by omega) (by decide) dX0_of_50 ?_
        have b50 := (hxi.1 0) k9
        exact hret _ _ _ dX0_of_51 (by rw [ti_Sof, hci, if_neg (by rw [hq2]; decide), hck, hgd, if_pos rfl])
      · skip
        by_cases sw12_1 : w = 1
        · subst sw12_1
          refine lv_tableIn (off := 40) (tgt := 52) hx hb dX0_of_12 (by decide) (by decide) rfl (by decide) ?_
          refine lv_aload_n hx hb dX0_of_52 rfl (lv_at hl 0 rfl) ?_
          refine va_get (v := .ref (ad 1)) hx hb hts in_X0 hown hK hP 0 rfl rfl 0 (by decide) (hts _ q237) (fun _ h => h) rfl dX0_of_53 ?_
          refine lv_iload_n hx hb dX0_of_56 rfl (lv_at hl 1 rfl) ?_
          refine tn_aald hx hb hK hP 1 5 rfl rfl (by omega) (by decide) dX0_of_57 ?_
          refine va_getN (v := .ref (jv 0)) hx hb hts in_X1 hown hK hP 2 rfl rfl 1 (by decide) (hE.use q114 rfl rfl) (fun _ h => h) rfl dX0_of_58 ?_
          refine lv_iload_n hx hb dX0_of_61 rfl (lv_at hl 2 rfl) ?_
          refine tn_iald (f := xi.2.1 0) hx hb hK hP 4 0 rfl rfl (by omega) (by decide) dX0_of_62 ?_
          have b62 := (hxi.2.1 0) k9
          exact hret _ _ _ dX0_of_63 (by rw [ti_Sof, hci, if_neg (by rw [hq2]; decide), hck, hgd, if_neg (by decide), if_pos rfl])
        · skip
          by_cases sw12_2 : w = 2
          · subst sw12_2
            refine lv_tableIn (off := 52) (tgt := 64) hx hb dX0_of_12 (by decide) (by decide) rfl (by decide) ?_
            refine lv_aload_n hx hb dX0_of_64 rfl (lv_at hl 0 rfl) ?_
            refine va_get (v := .ref (ad 1)) hx hb hts in_X0 hown hK hP 0 rfl rfl 0 (by decide) (hts _ q237) (fun _ h => h) rfl dX0_of_65 ?_
            refine lv_iload_n hx hb dX0_of_68 rfl (lv_at hl 1 rfl) ?_
            refine tn_aald hx hb hK hP 1 5 rfl rfl (by omega) (by decide) dX0_of_69 ?_
            refine lv_iload_n hx hb dX0_of_70 rfl (lv_at hl 2 rfl) ?_
            refine ti_pV (As := [.int (nI k9)]) (rest := []) (v := .int (ti_b (!ti_hb (xi.1 0 k9) (xi.2.1 0 k9) (nI k9) (ti_gr (xi.1 0) (xi.2.1 0) 0 (xi.2.2 0)) 0))) S hE hP [2, 3, 4] (met_X1_isLeast l D E (jh 0) (ju 0) (jv 0) (xi.1 0) (xi.2.1 0) (xi.2.2 0) (hxi.2.2 0) (hxi.1 0) (hxi.2.1 0) k9 hk9) rfl (lw_V q580 q581 q582 q67 q583) 1 rfl 2 rfl rfl (by decide +kernel) ⟨Nat.le_of_ble_eq_true rfl, Nat.le_of_ble_eq_true rfl⟩ hl.1 rfl (Nat.le_of_ble_eq_true rfl) ⟨Nat.le_refl _, Nat.le_refl _⟩ dX0_of_71 ?_
            refine tb_eq (tgt := 81) hx hb dX0_of_74 (by decide) (fun c74 => ?_) (fun c74 => ?_)
            · skip
              refine lv_iconst (v := nI 0) hx hb dX0_of_81 (by decide) ?_
              exact hret _ _ _ dX0_of_82 (by rw [ti_Sof, hci, if_neg (by rw [hq2]; decide), hck, hgd, if_neg (by decide), if_neg (by decide), if_pos rfl, ← hg]; rw [c74]; rfl)
            · skip
              refine lv_iconst (v := nI 1) hx hb dX0_of_77 (by decide) ?_
              refine lv_goto (tgt := 82) hx hb dX0_of_78 (by decide) ?_
              exact hret _ _ _ dX0_of_82 (by rw [ti_Sof, hci, if_neg (by rw [hq2]; decide), hck, hgd, if_neg (by decide), if_neg (by decide), if_pos rfl, ← hg]; rw [c74]; rfl)
          · skip
            refine lv_tableOut (tgt := 83) hx hb dX0_of_12 (Classical.byContradiction fun z => by
                have z1 : w.toInt = 0 ∨ w.toInt = 1 ∨ w.toInt = 2 := by omega
                rcases z1 with z2 | z2 | z2
                · exact sw12_0 (Int32.toInt_inj.mp z2)
                · exact sw12_1 (Int32.toInt_inj.mp z2)
                · exact sw12_2 (Int32.toInt_inj.mp z2)) (by decide) ?_
            refine lv_iconst (v := (-1)) hx hb dX0_of_83 (by decide) ?_
            exact hret _ _ _ dX0_of_84 (by rw [ti_Sof, hci, if_neg (by rw [hq2]; decide), hck, hgd, if_neg sw12_0, if_neg sw12_1, if_neg sw12_2])
    · skip
      refine lv_iload_n hx hb dX0_of_11 rfl (lv_at hl 3 rfl) ?_
      by_cases sw12_0 : w = 0
      · subst sw12_0
        refine lv_tableIn (off := 28) (tgt := 40) hx hb dX0_of_12 (by decide) (by decide) rfl (by decide) ?_
        refine lv_aload_n hx hb dX0_of_40 rfl (lv_at hl 0 rfl) ?_
        refine va_get (v := .ref (ad 1)) hx hb hts in_X0 hown hK hP 0 rfl rfl 0 (by decide) (hts _ q237) (fun _ h => h) rfl dX0_of_41 ?_
        refine lv_iload_n hx hb dX0_of_44 rfl (lv_at hl 1 rfl) ?_
        refine tn_aald hx hb hK hP 1 5 rfl rfl (by omega) (by decide) dX0_of_45 ?_
        refine va_getN (v := .ref (ju 1)) hx hb hts in_X1 hown hK hP 5 rfl rfl 0 (by decide) (hE.use q111 rfl rfl) (fun _ h => h) rfl dX0_of_46 ?_
        refine lv_iload_n hx hb dX0_of_49 rfl (lv_at hl 2 rfl) ?_
        refine tn_iald (f := xi.1 1) hx hb hK hP 6 0 rfl rfl (by omega) (by decide) dX0_of_50 ?_
        have b50 := (hxi.1 1) k9
        exact hret _ _ _ dX0_of_51 (by rw [ti_Sof, hci, if_neg (by rw [hq2]; decide), hck, hgd, if_pos rfl])
      · skip
        by_cases sw12_1 : w = 1
        · subst sw12_1
          refine lv_tableIn (off := 40) (tgt := 52) hx hb dX0_of_12 (by decide) (by decide) rfl (by decide) ?_
          refine lv_aload_n hx hb dX0_of_52 rfl (lv_at hl 0 rfl) ?_
          refine va_get (v := .ref (ad 1)) hx hb hts in_X0 hown hK hP 0 rfl rfl 0 (by decide) (hts _ q237) (fun _ h => h) rfl dX0_of_53 ?_
          refine lv_iload_n hx hb dX0_of_56 rfl (lv_at hl 1 rfl) ?_
          refine tn_aald hx hb hK hP 1 5 rfl rfl (by omega) (by decide) dX0_of_57 ?_
          refine va_getN (v := .ref (jv 1)) hx hb hts in_X1 hown hK hP 5 rfl rfl 1 (by decide) (hE.use q114 rfl rfl) (fun _ h => h) rfl dX0_of_58 ?_
          refine lv_iload_n hx hb dX0_of_61 rfl (lv_at hl 2 rfl) ?_
          refine tn_iald (f := xi.2.1 1) hx hb hK hP 7 0 rfl rfl (by omega) (by decide) dX0_of_62 ?_
          have b62 := (hxi.2.1 1) k9
          exact hret _ _ _ dX0_of_63 (by rw [ti_Sof, hci, if_neg (by rw [hq2]; decide), hck, hgd, if_neg (by decide), if_pos rfl])
        · skip
          by_cases sw12_2 : w = 2
          · subst sw12_2
            refine lv_tableIn (off := 52) (tgt := 64) hx hb dX0_of_12 (by decide) (by decide) rfl (by decide) ?_
            refine lv_aload_n hx hb dX0_of_64 rfl (lv_at hl 0 rfl) ?_
            refine va_get (v := .ref (ad 1)) hx hb hts in_X0 hown hK hP 0 rfl rfl 0 (by decide) (hts _ q237) (fun _ h => h) rfl dX0_of_65 ?_
            refine lv_iload_n hx hb dX0_of_68 rfl (lv_at hl 1 rfl) ?_
            refine tn_aald hx hb hK hP 1 5 rfl rfl (by omega) (by decide) dX0_of_69 ?_
            refine lv_iload_n hx hb dX0_of_70 rfl (lv_at hl 2 rfl) ?_
            refine ti_pV (As := [.int (nI k9)]) (rest := []) (v := .int (ti_b (!ti_hb (xi.1 1 k9) (xi.2.1 1 k9) (nI k9) (ti_gr (xi.1 1) (xi.2.1 1) 0 (xi.2.2 1)) 0))) S hE hP [5, 6, 7] (met_X1_isLeast l D E (jh 1) (ju 1) (jv 1) (xi.1 1) (xi.2.1 1) (xi.2.2 1) (hxi.2.2 1) (hxi.1 1) (hxi.2.1 1) k9 hk9) rfl (lw_V q580 q581 q582 q67 q583) 1 rfl 5 rfl rfl (by decide +kernel) ⟨Nat.le_of_ble_eq_true rfl, Nat.le_of_ble_eq_true rfl⟩ hl.1 rfl (Nat.le_of_ble_eq_true rfl) ⟨Nat.le_refl _, Nat.le_refl _⟩ dX0_of_71 ?_
            refine tb_eq (tgt := 81) hx hb dX0_of_74 (by decide) (fun c74 => ?_) (fun c74 => ?_)
            · skip
              refine lv_iconst (v := nI 0) hx hb dX0_of_81 (by decide) ?_
              exact hret _ _ _ dX0_of_82 (by rw [ti_Sof, hci, if_neg (by rw [hq2]; decide), hck, hgd, if_neg (by decide), if_neg (by decide), if_pos rfl, ← hg]; rw [c74]; rfl)
            · skip
              refine lv_iconst (v := nI 1) hx hb dX0_of_77 (by decide) ?_
              refine lv_goto (tgt := 82) hx hb dX0_of_78 (by decide) ?_
              exact hret _ _ _ dX0_of_82 (by rw [ti_Sof, hci, if_neg (by rw [hq2]; decide), hck, hgd, if_neg (by decide), if_neg (by decide), if_pos rfl, ← hg]; rw [c74]; rfl)
          · skip
            refine lv_tableOut (tgt := 83) hx hb dX0_of_12 (Classical.byContradiction fun z => by
                have z1 : w.toInt = 0 ∨ w.toInt = 1 ∨ w.toInt = 2 := by omega
                rcases z1 with z2 | z2 | z2
                · exact sw12_0 (Int32.toInt_inj.mp z2)
                · exact sw12_1 (Int32.toInt_inj.mp z2)
                · exact sw12_2 (Int32.toInt_inj.mp z2)) (by decide) ?_
            refine lv_iconst (v := (-1)) hx hb dX0_of_83 (by decide) ?_
            exact hret _ _ _ dX0_of_84 (by rw [ti_Sof, hci, if_neg (by rw [hq2]; decide), hck, hgd, if_neg sw12_0, if_neg sw12_1, if_neg sw12_2])
  · skip
    have hq : (ti_bt v && ti_lt k (I (ti_cl v)).length) = false := by
      cases hv : ti_bt v with
      | false => rfl
      | true =>
        obtain ⟨i, hi2, rfl⟩ := ti_bt_nat hv
        have hci : ti_cl (nI i) = i := ti_cl_nI (by omega)
        rw [hv, hci] at c6
        rw [hci, ti_JI_len hJ hi2]
        exact c6
    refine lv_iconst (v := (-1)) hx hb dX0_of_9 (by decide) ?_
    exact hret _ _ _ dX0_of_10 (by rw [ti_Sof, if_pos hq])

set_option maxHeartbeats 2000000 in
theorem met_X0_told (l : Launch) (D : va_G) (E : Nat → ClassId) (htr : l.stackTraces = false) (z0 : Nat) (ad dh du dv jh ju jv kh ku kv : Nat → Nat) (tx : Nat) (hi : Bool) (xi : ti_Ti) (xf : ti_Tf) (hxi : ti_Jok xi) (I : Nat → ti_GL) (hJ : ti_JI xi I) (hxf : ti_Fok xf) (hnd : ∀ i, i < 2 → (I i).Nodup) (v w : Int32) : ti_MetX (σ := ti_Tf) (τ := Unit) l D E yX0_told (wsW_ yX0_told cX0_told 5 (some .int) [(16, 56, 108, 150), (57, 61, 108, 150), (62, 73, 108, 150), (74, 93, 108, 150), (94, 105, 108, 150), (106, 107, 108, 150)]) 7 1 6 z0 (ti_wMJF E ad dh du dv jh ju jv kh ku kv tx hi xi xf) [.ref (ad 0), .int v, .int w] (fun _ => True) (fun u => ti_wMJF E ad dh du dv jh ju jv kh ku kv tx hi xi u) (fun u => some (.int ((fun _ => ti_Stold I v w) u))) (fun u => ti_Fok u) (fun _ _ => True) (fun w => RX14) (fun w => 0) (fun w => ti_wMJF E ad dh du dv jh ju jv kh ku kv tx hi xi xf) (fun w => []) (fun w => False) (fun w H => True) := by
  refine ti_metXH (by decide) (Nat.le_of_ble_eq_true rfl) ?_
  intro p e s m below meth c H A Q ls S hE hP hD hS hA hZ hAz hx0 htab hl hret hq
  obtain ⟨hQ, hr, hlk, hinit⟩ := hq
  have hsz0 := hS.1
  have hx := S.1
  have hb := S.2.1
  have hown := S.2.2.2.1
  have hts := S.2.2.2.2
  have hK := hE.1
  have hl : lv_has ls 5 [(0, .ref (ad 0)), (1, .int v), (2, .int w)] := hl
  refine lv_iload_n hx hb dX0_told_0 rfl (lv_at hl 1 rfl) ?_
  refine ti_pS (As := [.int v]) (rest := []) (v := .int (ti_b (ti_bt v))) S hE hP [] (met_X0_isIdeal l D E v) rfl (lw_S q299 q300 q66 q301) 1 rfl (by decide +kernel) ⟨Nat.le_of_ble_eq_true rfl, Nat.le_of_ble_eq_true rfl⟩ hl.1 rfl (Nat.le_of_ble_eq_true rfl) ⟨Nat.le_of_ble_eq_true rfl, Nat.le_of_ble_eq_true rfl⟩ dX0_told_1 ?_
  refine tb_ne (tgt := 9) hx hb dX0_told_4 (by decide) (fun c4 => ?_) (fun c4 => ?_)
  · skip
    obtain ⟨i, hi2, rfl⟩ := ti_bt_nat c4
    rcases (show i = 0 ∨ i = 1 by omega) with rfl | rfl
    · skip
      have hg := hJ 0 (by decide)
      have hlen := ti_JI_len hJ (show 0 < 2 by decide)
      have h6 := hxi.2.2 0
      have hci : ti_cl (nI 0) = 0 := ti_cl_nI (by decide)
      refine lv_aload_n hx hb dX0_told_9 rfl (lv_at hl 0 rfl) ?_
      refine va_get (v := .ref (ad 1)) hx hb hts in_X0 hown hK hP 0 rfl rfl 0 (by decide) (hts _ q237) (fun _ h => h) rfl dX0_told_10 ?_
      refine lv_iload_n hx hb dX0_told_13 rfl (lv_at hl 1 rfl) ?_
      refine tn_aald hx hb hK hP 1 5 rfl rfl (by omega) (by decide) dX0_told_14 ?_
      refine lv_astore_n (lv' := [(3, .ref (jh 0)), (0, .ref (ad 0)), (1, .int (nI 0)), (2, .int w)]) hx hb dX0_told_15 rfl hl (by decide) rfl (fun ls hl => ?_)
      refine lv_iload_n hx hb dX0_told_16 rfl (lv_at hl 3 rfl) ?_
      by_cases sw17_0 : w = 0
      · subst sw17_0
        refine lv_tableIn (off := 35) (tgt := 52) hx hb dX0_told_17 (by decide) (by decide) rfl (by decide) ?_
        refine lv_aload_n hx hb dX0_told_52 rfl (lv_at hl 0 rfl) ?_
        refine va_getN (v := .int (nI (xi.2.2 0))) hx hb hts in_X1 hown hK hP 2 rfl rfl 2 (by decide) (hE.use q117 rfl rfl) (fun _ h => h) rfl dX0_told_53 ?_
        have hv9 : (nI (xi.2.2 0)) = (fun _ => ti_Stold I (nI 0) 0) xf := by rw [ti_Stold, if_neg (by rw [c4]; decide), hci, if_pos rfl, hlen]
        refine W.eq (g2 := F0 m 56 ls [.int ((fun _ => ti_Stold I (nI 0) 0) xf)]) (congrArg (fun z => F0 m 56 ls [.int z]) hv9) ?_
        exact hret _ xf _ _ _ _ (hxf) hP trivial hS (Nat.le_of_ble_eq_true rfl) (Nat.le_of_ble_eq_true rfl) (fun hq hf9 => W.iret hx hb hr hq hf9 dX0_told_56 hlk)
      · skip
        by_cases sw17_1 : w = 1
        · subst sw17_1
          refine lv_tableIn (off := 40) (tgt := 57) hx hb dX0_told_17 (by decide) (by decide) rfl (by decide) ?_
          refine lv_aload_n hx hb dX0_told_57 rfl (lv_at hl 0 rfl) ?_
          refine ti_pV (As := []) (rest := []) (v := .int (nI (ti_lst (ti_gr (xi.1 0) (xi.2.1 0) 0 (xi.2.2 0)) (ti_gr (xi.1 0) (xi.2.1 0) 0 (xi.2.2 0)) 0 0))) S hE hP [2, 3, 4] (met_X1_least l D E (jh 0) (ju 0) (jv 0) (xi.1 0) (xi.2.1 0) (xi.2.2 0) (hxi.2.2 0) (hxi.1 0) (hxi.2.1 0) ) rfl (lw_V q592 q593 q594 q67 q595) 0 rfl 2 rfl rfl (by decide +kernel) ⟨Nat.le_of_ble_eq_true rfl, Nat.le_of_ble_eq_true rfl⟩ hl.1 rfl (Nat.le_of_ble_eq_true rfl) ⟨Nat.le_of_ble_eq_true rfl, Nat.le_of_ble_eq_true rfl⟩ dX0_told_58 ?_
          have hv9 : (nI (ti_lst (ti_gr (xi.1 0) (xi.2.1 0) 0 (xi.2.2 0)) (ti_gr (xi.1 0) (xi.2.1 0) 0 (xi.2.2 0)) 0 0)) = (fun _ => ti_Stold I (nI 0) 1) xf := by rw [ti_Stold, if_neg (by rw [c4]; decide), hci, if_neg (by decide), if_pos rfl, ← show (ti_gr (xi.1 0) (xi.2.1 0) 0 (xi.2.2 0)) = I 0 from hg]
          refine W.eq (g2 := F0 m 61 ls [.int ((fun _ => ti_Stold I (nI 0) 1) xf)]) (congrArg (fun z => F0 m 61 ls [.int z]) hv9) ?_
          exact hret _ xf _ _ _ _ (hxf) hP trivial hS (Nat.le_of_ble_eq_true rfl) (Nat.le_of_ble_eq_true rfl) (fun hq hf9 => W.iret hx hb hr hq hf9 dX0_told_61 hlk)
        · skip
          by_cases sw17_2 : w = 2
          · subst sw17_2
            refine lv_tableIn (off := 45) (tgt := 62) hx hb dX0_told_17 (by decide) (by decide) rfl (by decide) ?_
            refine lv_aload_n hx hb dX0_told_62 rfl (lv_at hl 1 rfl) ?_
            refine va_get (v := .ref (ad 5)) hx hb hts in_X0 hown hK hP 0 rfl rfl 2 (by decide) (hts _ q239) (fun _ h => h) rfl dX0_told_63 ?_
            refine lv_aload_n hx hb dX0_told_66 rfl (lv_at hl 0 rfl) ?_
            by_cases hz67 : xi.2.2 0 = 0
            · skip
              refine ti_callX (ty_runV (As := [.ref (jh 0)]) (rest := []) S (met_X2_looks_z l D E htr z0 (ad 5) (ad 6) (ad 7) (ad 8) (ad 9) (ad 10) xf.1 xf.2.1 xf.2.2.1 xf.2.2.2.1 xf.2.2.2.2.1 xf.2.2.2.2.2.1 xf.2.2.2.2.2.2.1 xf.2.2.2.2.2.2.2.1 xf.2.2.2.2.2.2.2.2.1 xf.2.2.2.2.2.2.2.2.2 (jh 0) (ju 0) (jv 0) (xi.1 0) (xi.2.1 0) (xi.2.2 0) hz67 H.size) (cwV 1 S.2.2.2.2 (lw_V q357 q358 q359 q68 q360) rfl rfl rfl (by decide +kernel) ⟨Nat.le_of_ble_eq_true rfl, Nat.le_of_ble_eq_true rfl⟩) (ti_preXV (xp := fun _ => True) hE hP hD hS rfl hZ hAz trivial [8, 9, 10, 11, 12, 13, 2, 3, 4] rfl rfl 8 rfl rfl) rfl rfl hl.1 rfl (lv_room (Nat.le_of_ble_eq_true rfl)) dX0_told_67 ⟨Nat.le_of_ble_eq_true rfl, Nat.le_of_ble_eq_true rfl⟩) hP hD hS hA [8, 9, 10, 11, 12, 13, 2, 3, 4] rfl (fun _ => rfl) (fun _ => rfl) (fun _ _ _ h9 => absurd h9 id) (fun we H locs ce hpx hxx hFr hP hD hPe hnew hS hce hcv hcl => ?_)
              have hP : va_P D vwCl (ti_wMJF E ad dh du dv jh ju jv kh ku kv tx hi xi xf) H := ti_asP hP [.inl 0, .inl 1, .inr 6, .inr 7, .inr 8, .inl 5, .inl 6, .inl 7, .inr 0, .inr 1, .inr 2, .inr 3, .inr 4, .inr 5] rfl rfl rfl rfl
              have hD : va_D A (ti_wMJF E ad dh du dv jh ju jv kh ku kv tx hi xi xf) := ti_asD hD [.inl 0, .inl 1, .inr 6, .inr 7, .inr 8, .inl 5, .inl 6, .inl 7, .inr 0, .inr 1, .inr 2, .inr 3, .inr 4, .inr 5] rfl rfl rfl rfl
              refine vx_catch hown [⟨16, 56, 108, 150⟩, ⟨57, 61, 108, 150⟩] ⟨62, 73, 108, 150⟩ [⟨74, 93, 108, 150⟩, ⟨94, 105, 108, 150⟩, ⟨106, 107, 108, 150⟩] htab (fun z hz => Or.inl ((by decide : ∀ z ∈ ([⟨16, 56, 108, 150⟩, ⟨57, 61, 108, 150⟩] : List ExceptionTableEntry), covers z 67 = false) z hz)) rfl (by decide) (hts _ q356) (hE.use q363 rfl rfl) hce hcv hcl ?_
              refine lv_astore (lv' := [(4, .ref we.1), (3, .ref (jh 0)), (0, .ref (ad 0)), (1, .int (nI 0)), (2, .int 2)]) hx hb dX0_told_108 hl (by decide) rfl (fun ls hl => ?_)
              refine lv_bipush (v := (-3)) hx hb dX0_told_110 (by decide) ?_
              have hv9 : ((-3)) = (fun _ => ti_Stold I (nI 0) 2) xf := by rw [ti_Stold, if_neg (by rw [c4]; decide), hci, if_neg (by decide), if_neg (by decide), if_pos (by rw [hlen]; exact hz67)]
              refine W.eq (g2 := F0 m 112 ls [.int ((fun _ => ti_Stold I (nI 0) 2) xf)]) (congrArg (fun z => F0 m 112 ls [.int z]) hv9) ?_
              exact hret _ xf _ _ _ _ (hxf) hP trivial hS (Nat.le_of_ble_eq_true rfl) (Nat.le_of_ble_eq_true rfl) (fun hq hf9 => W.iret hx hb hr hq hf9 dX0_told_112 hlk)
            · skip
              have hz1 : 0 < xi.2.2 0 := Nat.pos_of_ne_zero hz67
              have hnd9 : (ti_gr (xi.1 0) (xi.2.1 0) 0 (xi.2.2 0)).Nodup := by have h9 := hnd 0 (by decide); rw [← hJ 0 (by decide)] at h9; exact h9
              have hN9 : ti_r2 (ti_gr (xi.1 0) (xi.2.1 0) 0 (xi.2.2 0)) 9999 (List.range' 1 9) ≤ 6 := Nat.le_trans (ti_r2_le hnd9 9999) (by rw [ti_gr_len]; exact (hxi.2.2 0))
              refine ti_mV (As := [.ref (jh 0)]) (rest := []) S hE hP hD hS hA [8, 9, 10, 11, 12, 13, 2, 3, 4] rfl (met_X2_looks l D E (ad 5) (ad 6) (ad 7) (ad 8) (ad 9) (ad 10) xf.1 xf.2.1 xf.2.2.1 xf.2.2.2.1 xf.2.2.2.2.1 xf.2.2.2.2.2.1 xf.2.2.2.2.2.2.1 xf.2.2.2.2.2.2.2.1 xf.2.2.2.2.2.2.2.2.1 xf.2.2.2.2.2.2.2.2.2 (jh 0) (ju 0) (jv 0) (xi.1 0) (xi.2.1 0) (xi.2.2 0) (hxi.2.2 0) (hxi.1 0) (hxi.2.1 0) hxf.1 hxf.2.1 hxf.2.2.1 hxf.2.2.2.1 hz1 hN9) rfl (fun _ => rfl) (lw_V q357 q358 q359 q68 q360) 1 rfl 8 rfl rfl (by decide +kernel) ⟨Nat.le_of_ble_eq_true rfl, Nat.le_of_ble_eq_true rfl⟩ hl.1 rfl (Nat.le_of_ble_eq_true rfl) ⟨Nat.le_of_ble_eq_true rfl, Nat.le_of_ble_eq_true rfl⟩ dX0_told_67 (fun u1 H locs hu hP hD hS => ?_)
              obtain ⟨hF1, hF2, hF3, hF4, hF5⟩ := hu
              have hFF : ti_fr u1.1 u1.2.1 u1.2.2.1 0 u1.2.2.2 = ti_FF (ti_gr (xi.1 0) (xi.2.1 0) 0 (xi.2.2 0)) := by rw [hF1]; exact ti_fxm (by rw [ti_gr_len]; exact hz1) (ti_gr_9 (hxi.1 0) (hxi.2.1 0) 0 _)
              have hFo : ti_Fok (Value.ref (jh 0), u1.1, u1.2.1, u1.2.2.1, u1.2.2.2, xf.2.2.2.2.2.1, xf.2.2.2.2.2.2.1, xf.2.2.2.2.2.2.2.1, xf.2.2.2.2.2.2.2.2.1, xf.2.2.2.2.2.2.2.2.2) := ⟨hF2, hF3, hF4, hF5, hxf.2.2.2.2⟩
              have hP : va_P D vwCl (ti_wMJF E ad dh du dv jh ju jv kh ku kv tx hi xi (Value.ref (jh 0), u1.1, u1.2.1, u1.2.2.1, u1.2.2.2, xf.2.2.2.2.2.1, xf.2.2.2.2.2.2.1, xf.2.2.2.2.2.2.2.1, xf.2.2.2.2.2.2.2.2.1, xf.2.2.2.2.2.2.2.2.2)) H := ti_asP hP [.inl 0, .inl 1, .inr 6, .inr 7, .inr 8, .inl 5, .inl 6, .inl 7, .inr 0, .inr 1, .inr 2, .inr 3, .inr 4, .inr 5] rfl rfl rfl rfl
              have hD : va_D A (ti_wMJF E ad dh du dv jh ju jv kh ku kv tx hi xi (Value.ref (jh 0), u1.1, u1.2.1, u1.2.2.1, u1.2.2.2, xf.2.2.2.2.2.1, xf.2.2.2.2.2.2.1, xf.2.2.2.2.2.2.2.1, xf.2.2.2.2.2.2.2.2.1, xf.2.2.2.2.2.2.2.2.2)) := ti_asD hD [.inl 0, .inl 1, .inr 6, .inr 7, .inr 8, .inl 5, .inl 6, .inl 7, .inr 0, .inr 1, .inr 2, .inr 3, .inr 4, .inr 5] rfl rfl rfl rfl
              refine W.eq (g2 := F0 m 70 ls [.ref (ad 5)]) rfl ?_
              refine va_getN (v := .int (nI u1.2.2.2)) hx hb hts in_X2 hown hK hP 8 rfl rfl 4 (by decide) (hE.use q140 rfl rfl) (fun _ h => h) rfl dX0_told_70 ?_
              have hv9 : (nI u1.2.2.2) = (fun _ => ti_Stold I (nI 0) 2) ((Value.ref (jh 0), u1.1, u1.2.1, u1.2.2.1, u1.2.2.2, xf.2.2.2.2.2.1, xf.2.2.2.2.2.2.1, xf.2.2.2.2.2.2.2.1, xf.2.2.2.2.2.2.2.2.1, xf.2.2.2.2.2.2.2.2.2)) := by rw [ti_Stold, if_neg (by rw [c4]; decide), hci, if_neg (by decide), if_neg (by decide), if_neg (by rw [hlen]; exact hz67), ti_Sask, if_neg (by decide), if_pos (by decide), ← show (ti_gr (xi.1 0) (xi.2.1 0) 0 (xi.2.2 0)) = I 0 from hg, ← hFF, ti_fr_len]
              refine W.eq (g2 := F0 m 73 ls [.int ((fun _ => ti_Stold I (nI 0) 2) ((Value.ref (jh 0), u1.1, u1.2.1, u1.2.2.1, u1.2.2.2, xf.2.2.2.2.2.1, xf.2.2.2.2.2.2.1, xf.2.2.2.2.2.2.2.1, xf.2.2.2.2.2.2.2.2.1, xf.2.2.2.2.2.2.2.2.2)))]) (congrArg (fun z => F0 m 73 ls [.int z]) hv9) ?_
              exact hret _ ((Value.ref (jh 0), u1.1, u1.2.1, u1.2.2.1, u1.2.2.2, xf.2.2.2.2.2.1, xf.2.2.2.2.2.2.1, xf.2.2.2.2.2.2.2.1, xf.2.2.2.2.2.2.2.2.1, xf.2.2.2.2.2.2.2.2.2)) _ _ _ _ (hFo) hP trivial hS (Nat.le_of_ble_eq_true rfl) (Nat.le_of_ble_eq_true rfl) (fun hq hf9 => W.iret hx hb hr hq hf9 dX0_told_73 hlk)
          · skip
            by_cases sw17_3 : w = 3
            · subst sw17_3
              refine lv_tableIn (off := 57) (tgt := 74) hx hb dX0_told_17 (by decide) (by decide) rfl (by decide) ?_
              refine lv_aload_n hx hb dX0_told_74 rfl (lv_at hl 1 rfl) ?_
              refine va_get (v := .ref (ad 5)) hx hb hts in_X0 hown hK hP 0 rfl rfl 2 (by decide) (hts _ q239) (fun _ h => h) rfl dX0_told_75 ?_
              refine lv_aload_n hx hb dX0_told_78 rfl (lv_at hl 0 rfl) ?_
              by_cases hz79 : xi.2.2 0 = 0
              · skip
                refine ti_callX (ty_runV (As := [.ref (jh 0)]) (rest := []) S (met_X2_looks_z l D E htr z0 (ad 5) (ad 6) (ad 7) (ad 8) (ad 9) (ad 10) xf.1 xf.2.1 xf.2.2.1 xf.2.2.2.1 xf.2.2.2.2.1 xf.2.2.2.2.2.1 xf.2.2.2.2.2.2.1 xf.2.2.2.2.2.2.2.1 xf.2.2.2.2.2.2.2.2.1 xf.2.2.2.2.2.2.2.2.2 (jh 0) (ju 0) (jv 0) (xi.1 0) (xi.2.1 0) (xi.2.2 0) hz79 H.size) (cwV 1 S.2.2.2.2 (lw_V q357 q358 q359 q68 q360) rfl rfl rfl (by decide +kernel) ⟨Nat.le_of_ble_eq_true rfl, Nat.le_of_ble_eq_true rfl⟩) (ti_preXV (xp := fun _ => True) hE hP hD hS rfl hZ hAz trivial [8, 9, 10, 11, 12, 13, 2, 3, 4] rfl rfl 8 rfl rfl) rfl rfl hl.1 rfl (lv_room (Nat.le_of_ble_eq_true rfl)) dX0_told_79 ⟨Nat.le_of_ble_eq_true rfl, Nat.le_of_ble_eq_true rfl⟩) hP hD hS hA [8, 9, 10, 11, 12, 13, 2, 3, 4] rfl (fun _ => rfl) (fun _ => rfl) (fun _ _ _ h9 => absurd h9 id) (fun we H locs ce hpx hxx hFr hP hD hPe hnew hS hce hcv hcl => ?_)
                have hP : va_P D vwCl (ti_wMJF E ad dh du dv jh ju jv kh ku kv tx hi xi xf) H := ti_asP hP [.inl 0, .inl 1, .inr 6, .inr 7, .inr 8, .inl 5, .inl 6, .inl 7, .inr 0, .inr 1, .inr 2, .inr 3, .inr 4, .inr 5] rfl rfl rfl rfl
                have hD : va_D A (ti_wMJF E ad dh du dv jh ju jv kh ku kv tx hi xi xf) := ti_asD hD [.inl 0, .inl 1, .inr 6, .inr 7, .inr 8, .inl 5, .inl 6, .inl 7, .inr 0, .inr 1, .inr 2, .inr 3, .inr 4, .inr 5] rfl rfl rfl rfl
                refine vx_catch hown [⟨16, 56, 108, 150⟩, ⟨57, 61, 108, 150⟩, ⟨62, 73, 108, 150⟩] ⟨74, 93, 108, 150⟩ [⟨94, 105, 108, 150⟩, ⟨106, 107, 108, 150⟩] htab (fun z hz => Or.inl ((by decide : ∀ z ∈ ([⟨16, 56, 108, 150⟩, ⟨57, 61, 108, 150⟩, ⟨62, 73, 108, 150⟩] : List ExceptionTableEntry), covers z 79 = false) z hz)) rfl (by decide) (hts _ q356) (hE.use q363 rfl rfl) hce hcv hcl ?_
                refine lv_astore (lv' := [(4, .ref we.1), (3, .ref (jh 0)), (0, .ref (ad 0)), (1, .int (nI 0)), (2, .int 3)]) hx hb dX0_told_108 hl (by decide) rfl (fun ls hl => ?_)
                refine lv_bipush (v := (-3)) hx hb dX0_told_110 (by decide) ?_
                have hv9 : ((-3)) = (fun _ => ti_Stold I (nI 0) 3) xf := by rw [ti_Stold, if_neg (by rw [c4]; decide), hci, if_neg (by decide), if_neg (by decide), if_pos (by rw [hlen]; exact hz79)]
                refine W.eq (g2 := F0 m 112 ls [.int ((fun _ => ti_Stold I (nI 0) 3) xf)]) (congrArg (fun z => F0 m 112 ls [.int z]) hv9) ?_
                exact hret _ xf _ _ _ _ (hxf) hP trivial hS (Nat.le_of_ble_eq_true rfl) (Nat.le_of_ble_eq_true rfl) (fun hq hf9 => W.iret hx hb hr hq hf9 dX0_told_112 hlk)
              · skip
                have hz1 : 0 < xi.2.2 0 := Nat.pos_of_ne_zero hz79
                have hnd9 : (ti_gr (xi.1 0) (xi.2.1 0) 0 (xi.2.2 0)).Nodup := by have h9 := hnd 0 (by decide); rw [← hJ 0 (by decide)] at h9; exact h9
                have hN9 : ti_r2 (ti_gr (xi.1 0) (xi.2.1 0) 0 (xi.2.2 0)) 9999 (List.range' 1 9) ≤ 6 := Nat.le_trans (ti_r2_le hnd9 9999) (by rw [ti_gr_len]; exact (hxi.2.2 0))
                refine ti_mV (As := [.ref (jh 0)]) (rest := []) S hE hP hD hS hA [8, 9, 10, 11, 12, 13, 2, 3, 4] rfl (met_X2_looks l D E (ad 5) (ad 6) (ad 7) (ad 8) (ad 9) (ad 10) xf.1 xf.2.1 xf.2.2.1 xf.2.2.2.1 xf.2.2.2.2.1 xf.2.2.2.2.2.1 xf.2.2.2.2.2.2.1 xf.2.2.2.2.2.2.2.1 xf.2.2.2.2.2.2.2.2.1 xf.2.2.2.2.2.2.2.2.2 (jh 0) (ju 0) (jv 0) (xi.1 0) (xi.2.1 0) (xi.2.2 0) (hxi.2.2 0) (hxi.1 0) (hxi.2.1 0) hxf.1 hxf.2.1 hxf.2.2.1 hxf.2.2.2.1 hz1 hN9) rfl (fun _ => rfl) (lw_V q357 q358 q359 q68 q360) 1 rfl 8 rfl rfl (by decide +kernel) ⟨Nat.le_of_ble_eq_true rfl, Nat.le_of_ble_eq_true rfl⟩ hl.1 rfl (Nat.le_of_ble_eq_true rfl) ⟨Nat.le_of_ble_eq_true rfl, Nat.le_of_ble_eq_true rfl⟩ dX0_told_79 (fun u1 H locs hu hP hD hS => ?_)
                obtain ⟨hF1, hF2, hF3, hF4, hF5⟩ := hu
                have hFF : ti_fr u1.1 u1.2.1 u1.2.2.1 0 u1.2.2.2 = ti_FF (ti_gr (xi.1 0) (xi.2.1 0) 0 (xi.2.2 0)) := by rw [hF1]; exact ti_fxm (by rw [ti_gr_len]; exact hz1) (ti_gr_9 (hxi.1 0) (hxi.2.1 0) 0 _)
                have hFo : ti_Fok (Value.ref (jh 0), u1.1, u1.2.1, u1.2.2.1, u1.2.2.2, xf.2.2.2.2.2.1, xf.2.2.2.2.2.2.1, xf.2.2.2.2.2.2.2.1, xf.2.2.2.2.2.2.2.2.1, xf.2.2.2.2.2.2.2.2.2) := ⟨hF2, hF3, hF4, hF5, hxf.2.2.2.2⟩
                have hP : va_P D vwCl (ti_wMJF E ad dh du dv jh ju jv kh ku kv tx hi xi (Value.ref (jh 0), u1.1, u1.2.1, u1.2.2.1, u1.2.2.2, xf.2.2.2.2.2.1, xf.2.2.2.2.2.2.1, xf.2.2.2.2.2.2.2.1, xf.2.2.2.2.2.2.2.2.1, xf.2.2.2.2.2.2.2.2.2)) H := ti_asP hP [.inl 0, .inl 1, .inr 6, .inr 7, .inr 8, .inl 5, .inl 6, .inl 7, .inr 0, .inr 1, .inr 2, .inr 3, .inr 4, .inr 5] rfl rfl rfl rfl
                have hD : va_D A (ti_wMJF E ad dh du dv jh ju jv kh ku kv tx hi xi (Value.ref (jh 0), u1.1, u1.2.1, u1.2.2.1, u1.2.2.2, xf.2.2.2.2.2.1, xf.2.2.2.2.2.2.1, xf.2.2.2.2.2.2.2.1, xf.2.2.2.2.2.2.2.2.1, xf.2.2.2.2.2.2.2.2.2)) := ti_asD hD [.inl 0, .inl 1, .inr 6, .inr 7, .inr 8, .inl 5, .inl 6, .inl 7, .inr 0, .inr 1, .inr 2, .inr 3, .inr 4, .inr 5] rfl rfl rfl rfl
                refine W.eq (g2 := F0 m 82 ls [.ref (ad 5)]) rfl ?_
                refine ti_pV (As := []) (rest := []) (v := .int (ti_b (ti_cl2 (ti_fr u1.1 u1.2.1 u1.2.2.1 0 u1.2.2.2) (ti_gr (xi.1 0) (xi.2.1 0) 0 (xi.2.2 0)) (List.range' 0 10)))) S hE hP [8, 9, 10, 11, 12, 13, 2, 3, 4] (met_X2_isClosed l D E (ad 5) (ad 6) (ad 7) (ad 8) (ad 9) (ad 10) u1.1 u1.2.1 u1.2.2.1 u1.2.2.2 xf.2.2.2.2.2.1 xf.2.2.2.2.2.2.1 xf.2.2.2.2.2.2.2.1 xf.2.2.2.2.2.2.2.2.1 xf.2.2.2.2.2.2.2.2.2 (jh 0) (ju 0) (jv 0) (xi.1 0) (xi.2.1 0) (xi.2.2 0) (hxi.2.2 0) (hxi.1 0) (hxi.2.1 0) hFo.1 hFo.2.1 hFo.2.2.1 hFo.2.2.2.1) rfl (lw_V q597 q598 q599 q68 q600) 0 rfl 8 rfl rfl (by decide +kernel) ⟨Nat.le_of_ble_eq_true rfl, Nat.le_of_ble_eq_true rfl⟩ hl.1 rfl (Nat.le_of_ble_eq_true rfl) ⟨Nat.le_of_ble_eq_true rfl, Nat.le_of_ble_eq_true rfl⟩ dX0_told_82 ?_
                refine tb_eq (tgt := 92) hx hb dX0_told_85 (by decide) (fun c85 => ?_) (fun c85 => ?_)
                · skip
                  refine lv_iconst (v := nI 0) hx hb dX0_told_92 (by decide) ?_
                  have hv9 : (nI 0) = (fun _ => ti_Stold I (nI 0) 3) ((Value.ref (jh 0), u1.1, u1.2.1, u1.2.2.1, u1.2.2.2, xf.2.2.2.2.2.1, xf.2.2.2.2.2.2.1, xf.2.2.2.2.2.2.2.1, xf.2.2.2.2.2.2.2.2.1, xf.2.2.2.2.2.2.2.2.2)) := by rw [ti_Stold, if_neg (by rw [c4]; decide), hci, if_neg (by decide), if_neg (by decide), if_neg (by rw [hlen]; exact hz79), ti_Sask, if_pos (by decide), ← show (ti_gr (xi.1 0) (xi.2.1 0) 0 (xi.2.2 0)) = I 0 from hg, ← hFF, ← ti_cl2_eq, c85]; rfl
                  refine W.eq (g2 := F0 m 93 ls [.int ((fun _ => ti_Stold I (nI 0) 3) ((Value.ref (jh 0), u1.1, u1.2.1, u1.2.2.1, u1.2.2.2, xf.2.2.2.2.2.1, xf.2.2.2.2.2.2.1, xf.2.2.2.2.2.2.2.1, xf.2.2.2.2.2.2.2.2.1, xf.2.2.2.2.2.2.2.2.2)))]) (congrArg (fun z => F0 m 93 ls [.int z]) hv9) ?_
                  exact hret _ ((Value.ref (jh 0), u1.1, u1.2.1, u1.2.2.1, u1.2.2.2, xf.2.2.2.2.2.1, xf.2.2.2.2.2.2.1, xf.2.2.2.2.2.2.2.1, xf.2.2.2.2.2.2.2.2.1, xf.2.2.2.2.2.2.2.2.2)) _ _ _ _ (hFo) hP trivial hS (Nat.le_of_ble_eq_true rfl) (Nat.le_of_ble_eq_true rfl) (fun hq hf9 => W.iret hx hb hr hq hf9 dX0_told_93 hlk)
                · skip
                  refine lv_iconst (v := nI 1) hx hb dX0_told_88 (by decide) ?_
                  refine lv_goto (tgt := 93) hx hb dX0_told_89 (by decide) ?_
                  have hv9 : (nI 1) = (fun _ => ti_Stold I (nI 0) 3) ((Value.ref (jh 0), u1.1, u1.2.1, u1.2.2.1, u1.2.2.2, xf.2.2.2.2.2.1, xf.2.2.2.2.2.2.1, xf.2.2.2.2.2.2.2.1, xf.2.2.2.2.2.2.2.2.1, xf.2.2.2.2.2.2.2.2.2)) := by rw [ti_Stold, if_neg (by rw [c4]; decide), hci, if_neg (by decide), if_neg (by decide), if_neg (by rw [hlen]; exact hz79), ti_Sask, if_pos (by decide), ← show (ti_gr (xi.1 0) (xi.2.1 0) 0 (xi.2.2 0)) = I 0 from hg, ← hFF, ← ti_cl2_eq, c85]; rfl
                  refine W.eq (g2 := F0 m 93 ls [.int ((fun _ => ti_Stold I (nI 0) 3) ((Value.ref (jh 0), u1.1, u1.2.1, u1.2.2.1, u1.2.2.2, xf.2.2.2.2.2.1, xf.2.2.2.2.2.2.1, xf.2.2.2.2.2.2.2.1, xf.2.2.2.2.2.2.2.2.1, xf.2.2.2.2.2.2.2.2.2)))]) (congrArg (fun z => F0 m 93 ls [.int z]) hv9) ?_
                  exact hret _ ((Value.ref (jh 0), u1.1, u1.2.1, u1.2.2.1, u1.2.2.2, xf.2.2.2.2.2.1, xf.2.2.2.2.2.2.1, xf.2.2.2.2.2.2.2.1, xf.2.2.2.2.2.2.2.2.1, xf.2.2.2.2.2.2.2.2.2)) _ _ _ _ (hFo) hP trivial hS (Nat.le_of_ble_eq_true rfl) (Nat.le_of_ble_eq_true rfl) (fun hq hf9 => W.iret hx hb hr hq hf9 dX0_told_93 hlk)
            · skip
              by_cases sw17_4 : w = 4
              · subst sw17_4
                refine lv_tableIn (off := 77) (tgt := 94) hx hb dX0_told_17 (by decide) (by decide) rfl (by decide) ?_
                refine lv_aload_n hx hb dX0_told_94 rfl (lv_at hl 1 rfl) ?_
                refine va_get (v := .ref (ad 5)) hx hb hts in_X0 hown hK hP 0 rfl rfl 2 (by decide) (hts _ q239) (fun _ h => h) rfl dX0_told_95 ?_
                refine lv_aload_n hx hb dX0_told_98 rfl (lv_at hl 0 rfl) ?_
                by_cases hz99 : xi.2.2 0 = 0
                · skip
                  refine ti_callX (ty_runV (As := [.ref (jh 0)]) (rest := []) S (met_X2_looks_z l D E htr z0 (ad 5) (ad 6) (ad 7) (ad 8) (ad 9) (ad 10) xf.1 xf.2.1 xf.2.2.1 xf.2.2.2.1 xf.2.2.2.2.1 xf.2.2.2.2.2.1 xf.2.2.2.2.2.2.1 xf.2.2.2.2.2.2.2.1 xf.2.2.2.2.2.2.2.2.1 xf.2.2.2.2.2.2.2.2.2 (jh 0) (ju 0) (jv 0) (xi.1 0) (xi.2.1 0) (xi.2.2 0) hz99 H.size) (cwV 1 S.2.2.2.2 (lw_V q357 q358 q359 q68 q360) rfl rfl rfl (by decide +kernel) ⟨Nat.le_of_ble_eq_true rfl, Nat.le_of_ble_eq_true rfl⟩) (ti_preXV (xp := fun _ => True) hE hP hD hS rfl hZ hAz trivial [8, 9, 10, 11, 12, 13, 2, 3, 4] rfl rfl 8 rfl rfl) rfl rfl hl.1 rfl (lv_room (Nat.le_of_ble_eq_true rfl)) dX0_told_99 ⟨Nat.le_of_ble_eq_true rfl, Nat.le_of_ble_eq_true rfl⟩) hP hD hS hA [8, 9, 10, 11, 12, 13, 2, 3, 4] rfl (fun _ => rfl) (fun _ => rfl) (fun _ _ _ h9 => absurd h9 id) (fun we H locs ce hpx hxx hFr hP hD hPe hnew hS hce hcv hcl => ?_)
                  have hP : va_P D vwCl (ti_wMJF E ad dh du dv jh ju jv kh ku kv tx hi xi xf) H := ti_asP hP [.inl 0, .inl 1, .inr 6, .inr 7, .inr 8, .inl 5, .inl 6, .inl 7, .inr 0, .inr 1, .inr 2, .inr 3, .inr 4, .inr 5] rfl rfl rfl rfl
                  have hD : va_D A (ti_wMJF E ad dh du dv jh ju jv kh ku kv tx hi xi xf) := ti_asD hD [.inl 0, .inl 1, .inr 6, .inr 7, .inr 8, .inl 5, .inl 6, .inl 7, .inr 0, .inr 1, .inr 2, .inr 3, .inr 4, .inr 5] rfl rfl rfl rfl
                  refine vx_catch hown [⟨16, 56, 108, 150⟩, ⟨57, 61, 108, 150⟩, ⟨62, 73, 108, 150⟩, ⟨74, 93, 108, 150⟩] ⟨94, 105, 108, 150⟩ [⟨106, 107, 108, 150⟩] htab (fun z hz => Or.inl ((by decide : ∀ z ∈ ([⟨16, 56, 108, 150⟩, ⟨57, 61, 108, 150⟩, ⟨62, 73, 108, 150⟩, ⟨74, 93, 108, 150⟩] : List ExceptionTableEntry), covers z 99 = false) z hz)) rfl (by decide) (hts _ q356) (hE.use q363 rfl rfl) hce hcv hcl ?_
                  refine lv_astore (lv' := [(4, .ref we.1), (3, .ref (jh 0)), (0, .ref (ad 0)), (1, .int (nI 0)), (2, .int 4)]) hx hb dX0_told_108 hl (by decide) rfl (fun ls hl => ?_)
                  refine lv_bipush (v := (-3)) hx hb dX0_told_110 (by decide) ?_
                  have hv9 : ((-3)) = (fun _ => ti_Stold I (nI 0) 4) xf := by rw [ti_Stold, if_neg (by rw [c4]; decide), hci, if_neg (by decide), if_neg (by decide), if_pos (by rw [hlen]; exact hz99)]
                  refine W.eq (g2 := F0 m 112 ls [.int ((fun _ => ti_Stold I (nI 0) 4) xf)]) (congrArg (fun z => F0 m 112 ls [.int z]) hv9) ?_
                  exact hret _ xf _ _ _ _ (hxf) hP trivial hS (Nat.le_of_ble_eq_true rfl) (Nat.le_of_ble_eq_true rfl) (fun hq hf9 => W.iret hx hb hr hq hf9 dX0_told_112 hlk)
                · skip
                  have hz1 : 0 < xi.2.2 0 := Nat.pos_of_ne_zero hz99
                  have hnd9 : (ti_gr (xi.1 0) (xi.2.1 0) 0 (xi.2.2 0)).Nodup := by have h9 := hnd 0 (by decide); rw [← hJ 0 (by decide)] at h9; exact h9
                  have hN9 : ti_r2 (ti_gr (xi.1 0) (xi.2.1 0) 0 (xi.2.2 0)) 9999 (List.range' 1 9) ≤ 6 := Nat.le_trans (ti_r2_le hnd9 9999) (by rw [ti_gr_len]; exact (hxi.2.2 0))
                  refine ti_mV (As := [.ref (jh 0)]) (rest := []) S hE hP hD hS hA [8, 9, 10, 11, 12, 13, 2, 3, 4] rfl (met_X2_looks l D E (ad 5) (ad 6) (ad 7) (ad 8) (ad 9) (ad 10) xf.1 xf.2.1 xf.2.2.1 xf.2.2.2.1 xf.2.2.2.2.1 xf.2.2.2.2.2.1 xf.2.2.2.2.2.2.1 xf.2.2.2.2.2.2.2.1 xf.2.2.2.2.2.2.2.2.1 xf.2.2.2.2.2.2.2.2.2 (jh 0) (ju 0) (jv 0) (xi.1 0) (xi.2.1 0) (xi.2.2 0) (hxi.2.2 0) (hxi.1 0) (hxi.2.1 0) hxf.1 hxf.2.1 hxf.2.2.1 hxf.2.2.2.1 hz1 hN9) rfl (fun _ => rfl) (lw_V q357 q358 q359 q68 q360) 1 rfl 8 rfl rfl (by decide +kernel) ⟨Nat.le_of_ble_eq_true rfl, Nat.le_of_ble_eq_true rfl⟩ hl.1 rfl (Nat.le_of_ble_eq_true rfl) ⟨Nat.le_of_ble_eq_true rfl, Nat.le_of_ble_eq_true rfl⟩ dX0_told_99 (fun u1 H locs hu hP hD hS => ?_)
                  obtain ⟨hF1, hF2, hF3, hF4, hF5⟩ := hu
                  have hFF : ti_fr u1.1 u1.2.1 u1.2.2.1 0 u1.2.2.2 = ti_FF (ti_gr (xi.1 0) (xi.2.1 0) 0 (xi.2.2 0)) := by rw [hF1]; exact ti_fxm (by rw [ti_gr_len]; exact hz1) (ti_gr_9 (hxi.1 0) (hxi.2.1 0) 0 _)
                  have hFo : ti_Fok (Value.ref (jh 0), u1.1, u1.2.1, u1.2.2.1, u1.2.2.2, xf.2.2.2.2.2.1, xf.2.2.2.2.2.2.1, xf.2.2.2.2.2.2.2.1, xf.2.2.2.2.2.2.2.2.1, xf.2.2.2.2.2.2.2.2.2) := ⟨hF2, hF3, hF4, hF5, hxf.2.2.2.2⟩
                  have hP : va_P D vwCl (ti_wMJF E ad dh du dv jh ju jv kh ku kv tx hi xi (Value.ref (jh 0), u1.1, u1.2.1, u1.2.2.1, u1.2.2.2, xf.2.2.2.2.2.1, xf.2.2.2.2.2.2.1, xf.2.2.2.2.2.2.2.1, xf.2.2.2.2.2.2.2.2.1, xf.2.2.2.2.2.2.2.2.2)) H := ti_asP hP [.inl 0, .inl 1, .inr 6, .inr 7, .inr 8, .inl 5, .inl 6, .inl 7, .inr 0, .inr 1, .inr 2, .inr 3, .inr 4, .inr 5] rfl rfl rfl rfl
                  have hD : va_D A (ti_wMJF E ad dh du dv jh ju jv kh ku kv tx hi xi (Value.ref (jh 0), u1.1, u1.2.1, u1.2.2.1, u1.2.2.2, xf.2.2.2.2.2.1, xf.2.2.2.2.2.2.1, xf.2.2.2.2.2.2.2.1, xf.2.2.2.2.2.2.2.2.1, xf.2.2.2.2.2.2.2.2.2)) := ti_asD hD [.inl 0, .inl 1, .inr 6, .inr 7, .inr 8, .inl 5, .inl 6, .inl 7, .inr 0, .inr 1, .inr 2, .inr 3, .inr 4, .inr 5] rfl rfl rfl rfl
                  refine W.eq (g2 := F0 m 102 ls [.ref (ad 5)]) rfl ?_
                  refine ti_mV (As := []) (rest := []) S hE hP hD hS hA [8, 9, 10, 11, 12, 13] rfl (met_X2_lists l D E (ad 5) (ad 6) (ad 7) (ad 8) (ad 9) (ad 10) (Value.ref (jh 0)) u1.1 u1.2.1 u1.2.2.1 u1.2.2.2 xf.2.2.2.2.2.1 xf.2.2.2.2.2.2.1 xf.2.2.2.2.2.2.2.1 xf.2.2.2.2.2.2.2.2.1 xf.2.2.2.2.2.2.2.2.2 hFo.1 hFo.2.1 hFo.2.2.1 hFo.2.2.2.1 hFo.2.2.2.2.1 hFo.2.2.2.2.2.1 hFo.2.2.2.2.2.2.1 hFo.2.2.2.2.2.2.2) rfl (fun _ => rfl) (lw_V q606 q607 q608 q68 q609) 0 rfl 8 rfl rfl (by decide +kernel) ⟨Nat.le_of_ble_eq_true rfl, Nat.le_of_ble_eq_true rfl⟩ hl.1 rfl (Nat.le_of_ble_eq_true rfl) ⟨Nat.le_of_ble_eq_true rfl, Nat.le_of_ble_eq_true rfl⟩ dX0_told_102 (fun u2 H locs hu hP hD hS => ?_)
                  obtain ⟨hL1, hL2, hL3, hL4, hL5, hL6⟩ := hu
                  have hFl : ti_Fok (Value.ref (jh 0), u1.1, u1.2.1, u1.2.2.1, u1.2.2.2, u2.1, u2.2.1, u2.2.2.1, u2.2.2.2.1, u2.2.2.2.2) := ⟨hFo.1, hFo.2.1, hFo.2.2.1, hFo.2.2.2.1, hL3, hL4, hL5, hL6⟩
                  obtain ⟨hR1, hR2⟩ := ti_jr hL1
                  have hP : va_P D vwCl (ti_wMJF E ad dh du dv jh ju jv kh ku kv tx hi xi (Value.ref (jh 0), u1.1, u1.2.1, u1.2.2.1, u1.2.2.2, u2.1, u2.2.1, u2.2.2.1, u2.2.2.2.1, u2.2.2.2.2)) H := hP
                  have hD : va_D A (ti_wMJF E ad dh du dv jh ju jv kh ku kv tx hi xi (Value.ref (jh 0), u1.1, u1.2.1, u1.2.2.1, u1.2.2.2, u2.1, u2.2.1, u2.2.2.1, u2.2.2.2.1, u2.2.2.2.2)) := hD
                  refine W.eq (g2 := F0 m 105 ls [.int (nI u2.2.2.2.2)]) rfl ?_
                  have hv9 : (nI u2.2.2.2.2) = (fun _ => ti_Stold I (nI 0) 4) ((Value.ref (jh 0), u1.1, u1.2.1, u1.2.2.1, u1.2.2.2, u2.1, u2.2.1, u2.2.2.1, u2.2.2.2.1, u2.2.2.2.2)) := by rw [ti_Stold, if_neg (by rw [c4]; decide), hci, if_neg (by decide), if_neg (by decide), if_neg (by rw [hlen]; exact hz99), ti_Sask, if_neg (by decide), if_neg (by decide), ← show (ti_gr (xi.1 0) (xi.2.1 0) 0 (xi.2.2 0)) = I 0 from hg, ← hFF, hR1]
                  refine W.eq (g2 := F0 m 105 ls [.int ((fun _ => ti_Stold I (nI 0) 4) ((Value.ref (jh 0), u1.1, u1.2.1, u1.2.2.1, u1.2.2.2, u2.1, u2.2.1, u2.2.2.1, u2.2.2.2.1, u2.2.2.2.2)))]) (congrArg (fun z => F0 m 105 ls [.int z]) hv9) ?_
                  exact hret _ ((Value.ref (jh 0), u1.1, u1.2.1, u1.2.2.1, u1.2.2.2, u2.1, u2.2.1, u2.2.2.1, u2.2.2.2.1, u2.2.2.2.2)) _ _ _ _ (hFl) hP trivial hS (Nat.le_of_ble_eq_true rfl) (Nat.le_of_ble_eq_true rfl) (fun hq hf9 => W.iret hx hb hr hq hf9 dX0_told_105 hlk)
              · skip
                refine lv_tableOut (tgt := 106) hx hb dX0_told_17 (Classical.byContradiction fun z => by
                    have z1 : w.toInt = 0 ∨ w.toInt = 1 ∨ w.toInt = 2 ∨ w.toInt = 3 ∨ w.toInt = 4 := by omega
                    rcases z1 with z2 | z2 | z2 | z2 | z2
                    · exact sw17_0 (Int32.toInt_inj.mp z2)
                    · exact sw17_1 (Int32.toInt_inj.mp z2)
                    · exact sw17_2 (Int32.toInt_inj.mp z2)
                    · exact sw17_3 (Int32.toInt_inj.mp z2)
                    · exact sw17_4 (Int32.toInt_inj.mp z2)) (by decide) ?_
                refine lv_iconst (v := (-1)) hx hb dX0_told_106 (by decide) ?_
                have hv9 : ((-1)) = (fun _ => ti_Stold I (nI 0) w) xf := by rw [ti_Stold, if_pos (by rw [c4, ti_out4 sw17_0 sw17_1 sw17_2 sw17_3 sw17_4]; rfl)]
                refine W.eq (g2 := F0 m 107 ls [.int ((fun _ => ti_Stold I (nI 0) w) xf)]) (congrArg (fun z => F0 m 107 ls [.int z]) hv9) ?_
                exact hret _ xf _ _ _ _ (hxf) hP trivial hS (Nat.le_of_ble_eq_true rfl) (Nat.le_of_ble_eq_true rfl) (fun hq hf9 => W.iret hx hb hr hq hf9 dX0_told_107 hlk)
    · skip
      have hg := hJ 1 (by decide)
      have hlen := ti_JI_len hJ (show 1 < 2 by decide)
      have h6 := hxi.2.2 1
      have hci : ti_cl (nI 1) = 1 := ti_cl_nI (by decide)
      refine lv_aload_n hx hb dX0_told_9 rfl (lv_at hl 0 rfl) ?_
      refine va_get (v := .ref (ad 1)) hx hb hts in_X0 hown hK hP 0 rfl rfl 0 (by decide) (hts _ q237) (fun _ h => h) rfl dX0_told_10 ?_
      refine lv_iload_n hx hb dX0_told_13 rfl (lv_at hl 1 rfl) ?_
      refine tn_aald hx hb hK hP 1 5 rfl rfl (by omega) (by decide) dX0_told_14 ?_
      refine lv_astore_n (lv' := [(3, .ref (jh 1)), (0, .ref (ad 0)), (1, .int (nI 1)), (2, .int w)]) hx hb dX0_told_15 rfl hl (by decide) rfl (fun ls hl => ?_)
      refine lv_iload_n hx hb dX0_told_16 rfl (lv_at hl 3 rfl) ?_
      by_cases sw17_0 : w = 0
      · subst sw17_0
        refine lv_tableIn (off := 35) (tgt := 52) hx hb dX0_told_17 (by decide) (by decide) rfl (by decide) ?_
        refine lv_aload_n hx hb dX0_told_52 rfl (lv_at hl 0 rfl) ?_
        refine va_getN (v := .int (nI (xi.2.2 1))) hx hb hts in_X1 hown hK hP 5 rfl rfl 2 (by decide) (hE.use q117 rfl rfl) (fun _ h => h) rfl dX0_told_53 ?_
        have hv9 : (nI (xi.2.2 1)) = (fun _ => ti_Stold I (nI 1) 0) xf := by rw [ti_Stold, if_neg (by rw [c4]; decide), hci, if_pos rfl, hlen]
        refine W.eq (g2 := F0 m 56 ls [.int ((fun _ => ti_Stold I (nI 1) 0) xf)]) (congrArg (fun z => F0 m 56 ls [.int z]) hv9) ?_
        exact hret _ xf _ _ _ _ (hxf) hP trivial hS (Nat.le_of_ble_eq_true rfl) (Nat.le_of_ble_eq_true rfl) (fun hq hf9 => W.iret hx hb hr hq hf9 dX0_told_56 hlk)
      · skip
        by_cases sw17_1 : w = 1
        · subst sw17_1
          refine lv_tableIn (off := 40) (tgt := 57) hx hb dX0_told_17 (by decide) (by decide) rfl (by decide) ?_
          refine lv_aload_n hx hb dX0_told_57 rfl (lv_at hl 0 rfl) ?_
          refine ti_pV (As := []) (rest := []) (v := .int (nI (ti_lst (ti_gr (xi.1 1) (xi.2.1 1) 0 (xi.2.2 1)) (ti_gr (xi.1 1) (xi.2.1 1) 0 (xi.2.2 1)) 0 0))) S hE hP [5, 6, 7] (met_X1_least l D E (jh 1) (ju 1) (jv 1) (xi.1 1) (xi.2.1 1) (xi.2.2 1) (hxi.2.2 1) (hxi.1 1) (hxi.2.1 1) ) rfl (lw_V q592 q593 q594 q67 q595) 0 rfl 5 rfl rfl (by decide +kernel) ⟨Nat.le_of_ble_eq_true rfl, Nat.le_of_ble_eq_true rfl⟩ hl.1 rfl (Nat.le_of_ble_eq_true rfl) ⟨Nat.le_of_ble_eq_true rfl, Nat.le_of_ble_eq_true rfl⟩ dX0_told_58 ?_
          have hv9 : (nI (ti_lst (ti_gr (xi.1 1) (xi.2.1 1) 0 (xi.2.2 1)) (ti_gr (xi.1 1) (xi.2.1 1) 0 (xi.2.2 1)) 0 0)) = (fun _ => ti_Stold I (nI 1) 1) xf := by rw [ti_Stold, if_neg (by rw [c4]; decide), hci, if_neg (by decide), if_pos rfl, ← show (ti_gr (xi.1 1) (xi.2.1 1) 0 (xi.2.2 1)) = I 1 from hg]
          refine W.eq (g2 := F0 m 61 ls [.int ((fun _ => ti_Stold I (nI 1) 1) xf)]) (congrArg (fun z => F0 m 61 ls [.int z]) hv9) ?_
          exact hret _ xf _ _ _ _ (hxf) hP trivial hS (Nat.le_of_ble_eq_true rfl) (Nat.le_of_ble_eq_true rfl) (fun hq hf9 => W.iret hx hb hr hq hf9 dX0_told_61 hlk)
        · skip
          by_cases sw17_2 : w = 2
          · subst sw17_2
            refine lv_tableIn (off := 45) (tgt := 62) hx hb dX0_told_17 (by decide) (by decide) rfl (by decide) ?_
            refine lv_aload_n hx hb dX0_told_62 rfl (lv_at hl 1 rfl) ?_
            refine va_get (v := .ref (ad 5)) hx hb hts in_X0 hown hK hP 0 rfl rfl 2 (by decide) (hts _ q239) (fun _ h => h) rfl dX0_told_63 ?_
            refine lv_aload_n hx hb dX0_told_66 rfl (lv_at hl 0 rfl) ?_
            by_cases hz67 : xi.2.2 1 = 0
            · skip
              refine ti_callX (ty_runV (As := [.ref (jh 1)]) (rest := []) S (met_X2_looks_z l D E htr z0 (ad 5) (ad 6) (ad 7) (ad 8) (ad 9) (ad 10) xf.1 xf.2.1 xf.2.2.1 xf.2.2.2.1 xf.2.2.2.2.1 xf.2.2.2.2.2.1 xf.2.2.2.2.2.2.1 xf.2.2.2.2.2.2.2.1 xf.2.2.2.2.2.2.2.2.1 xf.2.2.2.2.2.2.2.2.2 (jh 1) (ju 1) (jv 1) (xi.1 1) (xi.2.1 1) (xi.2.2 1) hz67 H.size) (cwV 1 S.2.2.2.2 (lw_V q357 q358 q359 q68 q360) rfl rfl rfl (by decide +kernel) ⟨Nat.le_of_ble_eq_true rfl, Nat.le_of_ble_eq_true rfl⟩) (ti_preXV (xp := fun _ => True) hE hP hD hS rfl hZ hAz trivial [8, 9, 10, 11, 12, 13, 5, 6, 7] rfl rfl 8 rfl rfl) rfl rfl hl.1 rfl (lv_room (Nat.le_of_ble_eq_true rfl)) dX0_told_67 ⟨Nat.le_of_ble_eq_true rfl, Nat.le_of_ble_eq_true rfl⟩) hP hD hS hA [8, 9, 10, 11, 12, 13, 5, 6, 7] rfl (fun _ => rfl) (fun _ => rfl) (fun _ _ _ h9 => absurd h9 id) (fun we H locs ce hpx hxx hFr hP hD hPe hnew hS hce hcv hcl => ?_)
              have hP : va_P D vwCl (ti_wMJF E ad dh du dv jh ju jv kh ku kv tx hi xi xf) H := ti_asP hP [.inl 0, .inl 1, .inl 2, .inl 3, .inl 4, .inr 6, .inr 7, .inr 8, .inr 0, .inr 1, .inr 2, .inr 3, .inr 4, .inr 5] rfl rfl rfl rfl
              have hD : va_D A (ti_wMJF E ad dh du dv jh ju jv kh ku kv tx hi xi xf) := ti_asD hD [.inl 0, .inl 1, .inl 2, .inl 3, .inl 4, .inr 6, .inr 7, .inr 8, .inr 0, .inr 1, .inr 2, .inr 3, .inr 4, .inr 5] rfl rfl rfl rfl
              refine vx_catch hown [⟨16, 56, 108, 150⟩, ⟨57, 61, 108, 150⟩] ⟨62, 73, 108, 150⟩ [⟨74, 93, 108, 150⟩, ⟨94, 105, 108, 150⟩, ⟨106, 107, 108, 150⟩] htab (fun z hz => Or.inl ((by decide : ∀ z ∈ ([⟨16, 56, 108, 150⟩, ⟨57, 61, 108, 150⟩] : List ExceptionTableEntry), covers z 67 = false) z hz)) rfl (by decide) (hts _ q356) (hE.use q363 rfl rfl) hce hcv hcl ?_
              refine lv_astore (lv' := [(4, .ref we.1), (3, .ref (jh 1)), (0, .ref (ad 0)), (1, .int (nI 1)), (2, .int 2)]) hx hb dX0_told_108 hl (by decide) rfl (fun ls hl => ?_)
              refine lv_bipush (v := (-3)) hx hb dX0_told_110 (by decide) ?_
              have hv9 : ((-3)) = (fun _ => ti_Stold I (nI 1) 2) xf := by rw [ti_Stold, if_neg (by rw [c4]; decide), hci, if_neg (by decide), if_neg (by decide), if_pos (by rw [hlen]; exact hz67)]
              refine W.eq (g2 := F0 m 112 ls [.int ((fun _ => ti_Stold I (nI 1) 2) xf)]) (congrArg (fun z => F0 m 112 ls [.int z]) hv9) ?_
              exact hret _ xf _ _ _ _ (hxf) hP trivial hS (Nat.le_of_ble_eq_true rfl) (Nat.le_of_ble_eq_true rfl) (fun hq hf9 => W.iret hx hb hr hq hf9 dX0_told_112 hlk)
            · skip
              have hz1 : 0 < xi.2.2 1 := Nat.pos_of_ne_zero hz67
              have hnd9 : (ti_gr (xi.1 1) (xi.2.1 1) 0 (xi.2.2 1)).Nodup := by have h9 := hnd 1 (by decide); rw [← hJ 1 (by decide)] at h9; exact h9
              have hN9 : ti_r2 (ti_gr (xi.1 1) (xi.2.1 1) 0 (xi.2.2 1)) 9999 (List.range' 1 9) ≤ 6 := Nat.le_trans (ti_r2_le hnd9 9999) (by rw [ti_gr_len]; exact (hxi.2.2 1))
              refine ti_mV (As := [.ref (jh 1)]) (rest := []) S hE hP hD hS hA [8, 9, 10, 11, 12, 13, 5, 6, 7] rfl (met_X2_looks l D E (ad 5) (ad 6) (ad 7) (ad 8) (ad 9) (ad 10) xf.1 xf.2.1 xf.2.2.1 xf.2.2.2.1 xf.2.2.2.2.1 xf.2.2.2.2.2.1 xf.2.2.2.2.2.2.1 xf.2.2.2.2.2.2.2.1 xf.2.2.2.2.2.2.2.2.1 xf.2.2.2.2.2.2.2.2.2 (jh 1) (ju 1) (jv 1) (xi.1 1) (xi.2.1 1) (xi.2.2 1) (hxi.2.2 1) (hxi.1 1) (hxi.2.1 1) hxf.1 hxf.2.1 hxf.2.2.1 hxf.2.2.2.1 hz1 hN9) rfl (fun _ => rfl) (lw_V q357 q358 q359 q68 q360) 1 rfl 8 rfl rfl (by decide +kernel) ⟨Nat.le_of_ble_eq_true rfl, Nat.le_of_ble_eq_true rfl⟩ hl.1 rfl (Nat.le_of_ble_eq_true rfl) ⟨Nat.le_of_ble_eq_true rfl, Nat.le_of_ble_eq_true rfl⟩ dX0_told_67 (fun u1 H locs hu hP hD hS => ?_)
              obtain ⟨hF1, hF2, hF3, hF4, hF5⟩ := hu
              have hFF : ti_fr u1.1 u1.2.1 u1.2.2.1 0 u1.2.2.2 = ti_FF (ti_gr (xi.1 1) (xi.2.1 1) 0 (xi.2.2 1)) := by rw [hF1]; exact ti_fxm (by rw [ti_gr_len]; exact hz1) (ti_gr_9 (hxi.1 1) (hxi.2.1 1) 0 _)
              have hFo : ti_Fok (Value.ref (jh 1), u1.1, u1.2.1, u1.2.2.1, u1.2.2.2, xf.2.2.2.2.2.1, xf.2.2.2.2.2.2.1, xf.2.2.2.2.2.2.2.1, xf.2.2.2.2.2.2.2.2.1, xf.2.2.2.2.2.2.2.2.2) := ⟨hF2, hF3, hF4, hF5, hxf.2.2.2.2⟩
              have hP : va_P D vwCl (ti_wMJF E ad dh du dv jh ju jv kh ku kv tx hi xi (Value.ref (jh 1), u1.1, u1.2.1, u1.2.2.1, u1.2.2.2, xf.2.2.2.2.2.1, xf.2.2.2.2.2.2.1, xf.2.2.2.2.2.2.2.1, xf.2.2.2.2.2.2.2.2.1, xf.2.2.2.2.2.2.2.2.2)) H := ti_asP hP [.inl 0, .inl 1, .inl 2, .inl 3, .inl 4, .inr 6, .inr 7, .inr 8, .inr 0, .inr 1, .inr 2, .inr 3, .inr 4, .inr 5] rfl rfl rfl rfl
              have hD : va_D A (ti_wMJF E ad dh du dv jh ju jv kh ku kv tx hi xi (Value.ref (jh 1), u1.1, u1.2.1, u1.2.2.1, u1.2.2.2, xf.2.2.2.2.2.1, xf.2.2.2.2.2.2.1, xf.2.2.2.2.2.2.2.1, xf.2.2.2.2.2.2.2.2.1, xf.2.2.2.2.2.2.2.2.2)) := ti_asD hD [.inl 0, .inl 1, .inl 2, .inl 3, .inl 4, .inr 6, .inr 7, .inr 8, .inr 0, .inr 1, .inr 2, .inr 3, .inr 4, .inr 5] rfl rfl rfl rfl
              refine W.eq (g2 := F0 m 70 ls [.ref (ad 5)]) rfl ?_
              refine va_getN (v := .int (nI u1.2.2.2)) hx hb hts in_X2 hown hK hP 8 rfl rfl 4 (by decide) (hE.use q140 rfl rfl) (fun _ h => h) rfl dX0_told_70 ?_
              have hv9 : (nI u1.2.2.2) = (fun _ => ti_Stold I (nI 1) 2) ((Value.ref (jh 1), u1.1, u1.2.1, u1.2.2.1, u1.2.2.2, xf.2.2.2.2.2.1, xf.2.2.2.2.2.2.1, xf.2.2.2.2.2.2.2.1, xf.2.2.2.2.2.2.2.2.1, xf.2.2.2.2.2.2.2.2.2)) := by rw [ti_Stold, if_neg (by rw [c4]; decide), hci, if_neg (by decide), if_neg (by decide), if_neg (by rw [hlen]; exact hz67), ti_Sask, if_neg (by decide), if_pos (by decide), ← show (ti_gr (xi.1 1) (xi.2.1 1) 0 (xi.2.2 1)) = I 1 from hg, ← hFF, ti_fr_len]
              refine W.eq (g2 := F0 m 73 ls [.int ((fun _ => ti_Stold I (nI 1) 2) ((Value.ref (jh 1), u1.1, u1.2.1, u1.2.2.1, u1.2.2.2, xf.2.2.2.2.2.1, xf.2.2.2.2.2.2.1, xf.2.2.2.2.2.2.2.1, xf.2.2.2.2.2.2.2.2.1, xf.2.2.2.2.2.2.2.2.2)))]) (congrArg (fun z => F0 m 73 ls [.int z]) hv9) ?_
              exact hret _ ((Value.ref (jh 1), u1.1, u1.2.1, u1.2.2.1, u1.2.2.2, xf.2.2.2.2.2.1, xf.2.2.2.2.2.2.1, xf.2.2.2.2.2.2.2.1, xf.2.2.2.2.2.2.2.2.1, xf.2.2.2.2.2.2.2.2.2)) _ _ _ _ (hFo) hP trivial hS (Nat.le_of_ble_eq_true rfl) (Nat.le_of_ble_eq_true rfl) (fun hq hf9 => W.iret hx hb hr hq hf9 dX0_told_73 hlk)
          · skip
            by_cases sw17_3 : w = 3
            · subst sw17_3
              refine lv_tableIn (off := 57) (tgt := 74) hx hb dX0_told_17 (by decide) (by decide) rfl (by decide) ?_
              refine lv_aload_n hx hb dX0_told_74 rfl (lv_at hl 1 rfl) ?_
              refine va_get (v := .ref (ad 5)) hx hb hts in_X0 hown hK hP 0 rfl rfl 2 (by decide) (hts _ q239) (fun _ h => h) rfl dX0_told_75 ?_
              refine lv_aload_n hx hb dX0_told_78 rfl (lv_at hl 0 rfl) ?_
              by_cases hz79 : xi.2.2 1 = 0
              · skip
                refine ti_callX (ty_runV (As := [.ref (jh 1)]) (rest := []) S (met_X2_looks_z l D E htr z0 (ad 5) (ad 6) (ad 7) (ad 8) (ad 9) (ad 10) xf.1 xf.2.1 xf.2.2.1 xf.2.2.2.1 xf.2.2.2.2.1 xf.2.2.2.2.2.1 xf.2.2.2.2.2.2.1 xf.2.2.2.2.2.2.2.1 xf.2.2.2.2.2.2.2.2.1 xf.2.2.2.2.2.2.2.2.2 (jh 1) (ju 1) (jv 1) (xi.1 1) (xi.2.1 1) (xi.2.2 1) hz79 H.size) (cwV 1 S.2.2.2.2 (lw_V q357 q358 q359 q68 q360) rfl rfl rfl (by decide +kernel) ⟨Nat.le_of_ble_eq_true rfl, Nat.le_of_ble_eq_true rfl⟩) (ti_preXV (xp := fun _ => True) hE hP hD hS rfl hZ hAz trivial [8, 9, 10, 11, 12, 13, 5, 6, 7] rfl rfl 8 rfl rfl) rfl rfl hl.1 rfl (lv_room (Nat.le_of_ble_eq_true rfl)) dX0_told_79 ⟨Nat.le_of_ble_eq_true rfl, Nat.le_of_ble_eq_true rfl⟩) hP hD hS hA [8, 9, 10, 11, 12, 13, 5, 6, 7] rfl (fun _ => rfl) (fun _ => rfl) (fun _ _ _ h9 => absurd h9 id) (fun we H locs ce hpx hxx hFr hP hD hPe hnew hS hce hcv hcl => ?_)
                have hP : va_P D vwCl (ti_wMJF E ad dh du dv jh ju jv kh ku kv tx hi xi xf) H := ti_asP hP [.inl 0, .inl 1, .inl 2, .inl 3, .inl 4, .inr 6, .inr 7, .inr 8, .inr 0, .inr 1, .inr 2, .inr 3, .inr 4, .inr 5] rfl rfl rfl rfl
                have hD : va_D A (ti_wMJF E ad dh du dv jh ju jv kh ku kv tx hi xi xf) := ti_asD hD [.inl 0, .inl 1, .inl 2, .inl 3, .inl 4, .inr 6, .inr 7, .inr 8, .inr 0, .inr 1, .inr 2, .inr 3, .inr 4, .inr 5] rfl rfl rfl rfl
                refine vx_catch hown [⟨16, 56, 108, 150⟩, ⟨57, 61, 108, 150⟩, ⟨62, 73, 108, 150⟩] ⟨74, 93, 108, 150⟩ [⟨94, 105, 108, 150⟩, ⟨106, 107, 108, 150⟩] htab (fun z hz => Or.inl ((by decide : ∀ z ∈ ([⟨16, 56, 108, 150⟩, ⟨57, 61, 108, 150⟩, ⟨62, 73, 108, 150⟩] : List ExceptionTableEntry), covers z 79 = false) z hz)) rfl (by decide) (hts _ q356) (hE.use q363 rfl rfl) hce hcv hcl ?_
                refine lv_astore (lv' := [(4, .ref we.1), (3, .ref (jh 1)), (0, .ref (ad 0)), (1, .int (nI 1)), (2, .int 3)]) hx hb dX0_told_108 hl (by decide) rfl (fun ls hl => ?_)
                refine lv_bipush (v := (-3)) hx hb dX0_told_110 (by decide) ?_
                have hv9 : ((-3)) = (fun _ => ti_Stold I (nI 1) 3) xf := by rw [ti_Stold, if_neg (by rw [c4]; decide), hci, if_neg (by decide), if_neg (by decide), if_pos (by rw [hlen]; exact hz79)]
                refine W.eq (g2 := F0 m 112 ls [.int ((fun _ => ti_Stold I (nI 1) 3) xf)]) (congrArg (fun z => F0 m 112 ls [.int z]) hv9) ?_
                exact hret _ xf _ _ _ _ (hxf) hP trivial hS (Nat.le_of_ble_eq_true rfl) (Nat.le_of_ble_eq_true rfl) (fun hq hf9 => W.iret hx hb hr hq hf9 dX0_told_112 hlk)
              · skip
                have hz1 : 0 < xi.2.2 1 := Nat.pos_of_ne_zero hz79
                have hnd9 : (ti_gr (xi.1 1) (xi.2.1 1) 0 (xi.2.2 1)).Nodup := by have h9 := hnd 1 (by decide); rw [← hJ 1 (by decide)] at h9; exact h9
                have hN9 : ti_r2 (ti_gr (xi.1 1) (xi.2.1 1) 0 (xi.2.2 1)) 9999 (List.range' 1 9) ≤ 6 := Nat.le_trans (ti_r2_le hnd9 9999) (by rw [ti_gr_len]; exact (hxi.2.2 1))
                refine ti_mV (As := [.ref (jh 1)]) (rest := []) S hE hP hD hS hA [8, 9, 10, 11, 12, 13, 5, 6, 7] rfl (met_X2_looks l D E (ad 5) (ad 6) (ad 7) (ad 8) (ad 9) (ad 10) xf.1 xf.2.1 xf.2.2.1 xf.2.2.2.1 xf.2.2.2.2.1 xf.2.2.2.2.2.1 xf.2.2.2.2.2.2.1 xf.2.2.2.2.2.2.2.1 xf.2.2.2.2.2.2.2.2.1 xf.2.2.2.2.2.2.2.2.2 (jh 1) (ju 1) (jv 1) (xi.1 1) (xi.2.1 1) (xi.2.2 1) (hxi.2.2 1) (hxi.1 1) (hxi.2.1 1) hxf.1 hxf.2.1 hxf.2.2.1 hxf.2.2.2.1 hz1 hN9) rfl (fun _ => rfl) (lw_V q357 q358 q359 q68 q360) 1 rfl 8 rfl rfl (by decide +kernel) ⟨Nat.le_of_ble_eq_true rfl, Nat.le_of_ble_eq_true rfl⟩ hl.1 rfl (Nat.le_of_ble_eq_true rfl) ⟨Nat.le_of_ble_eq_true rfl, Nat.le_of_ble_eq_true rfl⟩ dX0_told_79 (fun u1 H locs hu hP hD hS => ?_)
                obtain ⟨hF1, hF2, hF3, hF4, hF5⟩ := hu
                have hFF : ti_fr u1.1 u1.2.1 u1.2.2.1 0 u1.2.2.2 = ti_FF (ti_gr (xi.1 1) (xi.2.1 1) 0 (xi.2.2 1)) := by rw [hF1]; exact ti_fxm (by rw [ti_gr_len]; exact hz1) (ti_gr_9 (hxi.1 1) (hxi.2.1 1) 0 _)
                have hFo : ti_Fok (Value.ref (jh 1), u1.1, u1.2.1, u1.2.2.1, u1.2.2.2, xf.2.2.2.2.2.1, xf.2.2.2.2.2.2.1, xf.2.2.2.2.2.2.2.1, xf.2.2.2.2.2.2.2.2.1, xf.2.2.2.2.2.2.2.2.2) := ⟨hF2, hF3, hF4, hF5, hxf.2.2.2.2⟩
                have hP : va_P D vwCl (ti_wMJF E ad dh du dv jh ju jv kh ku kv tx hi xi (Value.ref (jh 1), u1.1, u1.2.1, u1.2.2.1, u1.2.2.2, xf.2.2.2.2.2.1, xf.2.2.2.2.2.2.1, xf.2.2.2.2.2.2.2.1, xf.2.2.2.2.2.2.2.2.1, xf.2.2.2.2.2.2.2.2.2)) H := ti_asP hP [.inl 0, .inl 1, .inl 2, .inl 3, .inl 4, .inr 6, .inr 7, .inr 8, .inr 0, .inr 1, .inr 2, .inr 3, .inr 4, .inr 5] rfl rfl rfl rfl
                have hD : va_D A (ti_wMJF E ad dh du dv jh ju jv kh ku kv tx hi xi (Value.ref (jh 1), u1.1, u1.2.1, u1.2.2.1, u1.2.2.2, xf.2.2.2.2.2.1, xf.2.2.2.2.2.2.1, xf.2.2.2.2.2.2.2.1, xf.2.2.2.2.2.2.2.2.1, xf.2.2.2.2.2.2.2.2.2)) := ti_asD hD [.inl 0, .inl 1, .inl 2, .inl 3, .inl 4, .inr 6, .inr 7, .inr 8, .inr 0, .inr 1, .inr 2, .inr 3, .inr 4, .inr 5] rfl rfl rfl rfl
                refine W.eq (g2 := F0 m 82 ls [.ref (ad 5)]) rfl ?_
                refine ti_pV (As := []) (rest := []) (v := .int (ti_b (ti_cl2 (ti_fr u1.1 u1.2.1 u1.2.2.1 0 u1.2.2.2) (ti_gr (xi.1 1) (xi.2.1 1) 0 (xi.2.2 1)) (List.range' 0 10)))) S hE hP [8, 9, 10, 11, 12, 13, 5, 6, 7] (met_X2_isClosed l D E (ad 5) (ad 6) (ad 7) (ad 8) (ad 9) (ad 10) u1.1 u1.2.1 u1.2.2.1 u1.2.2.2 xf.2.2.2.2.2.1 xf.2.2.2.2.2.2.1 xf.2.2.2.2.2.2.2.1 xf.2.2.2.2.2.2.2.2.1 xf.2.2.2.2.2.2.2.2.2 (jh 1) (ju 1) (jv 1) (xi.1 1) (xi.2.1 1) (xi.2.2 1) (hxi.2.2 1) (hxi.1 1) (hxi.2.1 1) hFo.1 hFo.2.1 hFo.2.2.1 hFo.2.2.2.1) rfl (lw_V q597 q598 q599 q68 q600) 0 rfl 8 rfl rfl (by decide +kernel) ⟨Nat.le_of_ble_eq_true rfl, Nat.le_of_ble_eq_true rfl⟩ hl.1 rfl (Nat.le_of_ble_eq_true rfl) ⟨Nat.le_of_ble_eq_true rfl, Nat.le_of_ble_eq_true rfl⟩ dX0_told_82 ?_
                refine tb_eq (tgt := 92) hx hb dX0_told_85 (by decide) (fun c85 => ?_) (fun c85 => ?_)
                · skip
                  refine lv_iconst (v := nI 0) hx hb dX0_told_92 (by decide) ?_
                  have hv9 : (nI 0) = (fun _ => ti_Stold I (nI 1) 3) ((Value.ref (jh 1), u1.1, u1.2.1, u1.2.2.1, u1.2.2.2, xf.2.2.2.2.2.1, xf.2.2.2.2.2.2.1, xf.2.2.2.2.2.2.2.1, xf.2.2.2.2.2.2.2.2.1, xf.2.2.2.2.2.2.2.2.2)) := by rw [ti_Stold, if_neg (by rw [c4]; decide), hci, if_neg (by decide), if_neg (by decide), if_neg (by rw [hlen]; exact hz79), ti_Sask, if_pos (by decide), ← show (ti_gr (xi.1 1) (xi.2.1 1) 0 (xi.2.2 1)) = I 1 from hg, ← hFF, ← ti_cl2_eq, c85]; rfl
                  refine W.eq (g2 := F0 m 93 ls [.int ((fun _ => ti_Stold I (nI 1) 3) ((Value.ref (jh 1), u1.1, u1.2.1, u1.2.2.1, u1.2.2.2, xf.2.2.2.2.2.1, xf.2.2.2.2.2.2.1, xf.2.2.2.2.2.2.2.1, xf.2.2.2.2.2.2.2.2.1, xf.2.2.2.2.2.2.2.2.2)))]) (congrArg (fun z => F0 m 93 ls [.int z]) hv9) ?_
                  exact hret _ ((Value.ref (jh 1), u1.1, u1.2.1, u1.2.2.1, u1.2.2.2, xf.2.2.2.2.2.1, xf.2.2.2.2.2.2.1, xf.2.2.2.2.2.2.2.1, xf.2.2.2.2.2.2.2.2.1, xf.2.2.2.2.2.2.2.2.2)) _ _ _ _ (hFo) hP trivial hS (Nat.le_of_ble_eq_true rfl) (Nat.le_of_ble_eq_true rfl) (fun hq hf9 => W.iret hx hb hr hq hf9 dX0_told_93 hlk)
                · skip
                  refine lv_iconst (v := nI 1) hx hb dX0_told_88 (by decide) ?_
                  refine lv_goto (tgt := 93) hx hb dX0_told_89 (by decide) ?_
                  have hv9 : (nI 1) = (fun _ => ti_Stold I (nI 1) 3) ((Value.ref (jh 1), u1.1, u1.2.1, u1.2.2.1, u1.2.2.2, xf.2.2.2.2.2.1, xf.2.2.2.2.2.2.1, xf.2.2.2.2.2.2.2.1, xf.2.2.2.2.2.2.2.2.1, xf.2.2.2.2.2.2.2.2.2)) := by rw [ti_Stold, if_neg (by rw [c4]; decide), hci, if_neg (by decide), if_neg (by decide), if_neg (by rw [hlen]; exact hz79), ti_Sask, if_pos (by decide), ← show (ti_gr (xi.1 1) (xi.2.1 1) 0 (xi.2.2 1)) = I 1 from hg, ← hFF, ← ti_cl2_eq, c85]; rfl
                  refine W.eq (g2 := F0 m 93 ls [.int ((fun _ => ti_Stold I (nI 1) 3) ((Value.ref (jh 1), u1.1, u1.2.1, u1.2.2.1, u1.2.2.2, xf.2.2.2.2.2.1, xf.2.2.2.2.2.2.1, xf.2.2.2.2.2.2.2.1, xf.2.2.2.2.2.2.2.2.1, xf.2.2.2.2.2.2.2.2.2)))]) (congrArg (fun z => F0 m 93 ls [.int z]) hv9) ?_
                  exact hret _ ((Value.ref (jh 1), u1.1, u1.2.1, u1.2.2.1, u1.2.2.2, xf.2.2.2.2.2.1, xf.2.2.2.2.2.2.1, xf.2.2.2.2.2.2.2.1, xf.2.2.2.2.2.2.2.2.1, xf.2.2.2.2.2.2.2.2.2)) _ _ _ _ (hFo) hP trivial hS (Nat.le_of_ble_eq_true rfl) (Nat.le_of_ble_eq_true rfl) (fun hq hf9 => W.iret hx hb hr hq hf9 dX0_told_93 hlk)
            · skip
              by_cases sw17_4 : w = 4
              · subst sw17_4
                refine lv_tableIn (off := 77) (tgt := 94) hx hb dX0_told_17 (by decide) (by decide) rfl (by decide) ?_
                refine lv_aload_n hx hb dX0_told_94 rfl (lv_at hl 1 rfl) ?_
                refine va_get (v := .ref (ad 5)) hx hb hts in_X0 hown hK hP 0 rfl rfl 2 (by decide) (hts _ q239) (fun _ h => h) rfl dX0_told_95 ?_
                refine lv_aload_n hx hb dX0_told_98 rfl (lv_at hl 0 rfl) ?_
                by_cases hz99 : xi.2.2 1 = 0
                · skip
                  refine ti_callX (ty_runV (As := [.ref (jh 1)]) (rest := []) S (met_X2_looks_z l D E htr z0 (ad 5) (ad 6) (ad 7) (ad 8) (ad 9) (ad 10) xf.1 xf.2.1 xf.2.2.1 xf.2.2.2.1 xf.2.2.2.2.1 xf.2.2.2.2.2.1 xf.2.2.2.2.2.2.1 xf.2.2.2.2.2.2.2.1 xf.2.2.2.2.2.2.2.2.1 xf.2.2.2.2.2.2.2.2.2 (jh 1) (ju 1) (jv 1) (xi.1 1) (xi.2.1 1) (xi.2.2 1) hz99 H.size) (cwV 1 S.2.2.2.2 (lw_V q357 q358 q359 q68 q360) rfl rfl rfl (by decide +kernel) ⟨Nat.le_of_ble_eq_true rfl, Nat.le_of_ble_eq_true rfl⟩) (ti_preXV (xp := fun _ => True) hE hP hD hS rfl hZ hAz trivial [8, 9, 10, 11, 12, 13, 5, 6, 7] rfl rfl 8 rfl rfl) rfl rfl hl.1 rfl (lv_room (Nat.le_of_ble_eq_true rfl)) dX0_told_99 ⟨Nat.le_of_ble_eq_true rfl, Nat.le_of_ble_eq_true rfl⟩) hP hD hS hA [8, 9, 10, 11, 12, 13, 5, 6, 7] rfl (fun _ => rfl) (fun _ => rfl) (fun _ _ _ h9 => absurd h9 id) (fun we H locs ce hpx hxx hFr hP hD hPe hnew hS hce hcv hcl => ?_)
                  have hP : va_P D vwCl (ti_wMJF E ad dh du dv jh ju jv kh ku kv tx hi xi xf) H := ti_asP hP [.inl 0, .inl 1, .inl 2, .inl 3, .inl 4, .inr 6, .inr 7, .inr 8, .inr 0, .inr 1, .inr 2, .inr 3, .inr 4, .inr 5] rfl rfl rfl rfl
                  have hD : va_D A (ti_wMJF E ad dh du dv jh ju jv kh ku kv tx hi xi xf) := ti_asD hD [.inl 0, .inl 1, .inl 2, .inl 3, .inl 4, .inr 6, .inr 7, .inr 8, .inr 0, .inr 1, .inr 2, .inr 3, .inr 4, .inr 5] rfl rfl rfl rfl
                  refine vx_catch hown [⟨16, 56, 108, 150⟩, ⟨57, 61, 108, 150⟩, ⟨62, 73, 108, 150⟩, ⟨74, 93, 108, 150⟩] ⟨94, 105, 108, 150⟩ [⟨106, 107, 108, 150⟩] htab (fun z hz => Or.inl ((by decide : ∀ z ∈ ([⟨16, 56, 108, 150⟩, ⟨57, 61, 108, 150⟩, ⟨62, 73, 108, 150⟩, ⟨74, 93, 108, 150⟩] : List ExceptionTableEntry), covers z 99 = false) z hz)) rfl (by decide) (hts _ q356) (hE.use q363 rfl rfl) hce hcv hcl ?_
                  refine lv_astore (lv' := [(4, .ref we.1), (3, .ref (jh 1)), (0, .ref (ad 0)), (1, .int (nI 1)), (2, .int 4)]) hx hb dX0_told_108 hl (by decide) rfl (fun ls hl => ?_)
                  refine lv_bipush (v := (-3)) hx hb dX0_told_110 (by decide) ?_
                  have hv9 : ((-3)) = (fun _ => ti_Stold I (nI 1) 4) xf := by rw [ti_Stold, if_neg (by rw [c4]; decide), hci, if_neg (by decide), if_neg (by decide), if_pos (by rw [hlen]; exact hz99)]
                  refine W.eq (g2 := F0 m 112 ls [.int ((fun _ => ti_Stold I (nI 1) 4) xf)]) (congrArg (fun z => F0 m 112 ls [.int z]) hv9) ?_
                  exact hret _ xf _ _ _ _ (hxf) hP trivial hS (Nat.le_of_ble_eq_true rfl) (Nat.le_of_ble_eq_true rfl) (fun hq hf9 => W.iret hx hb hr hq hf9 dX0_told_112 hlk)
                · skip
                  have hz1 : 0 < xi.2.2 1 := Nat.pos_of_ne_zero hz99
                  have hnd9 : (ti_gr (xi.1 1) (xi.2.1 1) 0 (xi.2.2 1)).Nodup := by have h9 := hnd 1 (by decide); rw [← hJ 1 (by decide)] at h9; exact h9
                  have hN9 : ti_r2 (ti_gr (xi.1 1) (xi.2.1 1) 0 (xi.2.2 1)) 9999 (List.range' 1 9) ≤ 6 := Nat.le_trans (ti_r2_le hnd9 9999) (by rw [ti_gr_len]; exact (hxi.2.2 1))
                  refine ti_mV (As := [.ref (jh 1)]) (rest := []) S hE hP hD hS hA [8, 9, 10, 11, 12, 13, 5, 6, 7] rfl (met_X2_looks l D E (ad 5) (ad 6) (ad 7) (ad 8) (ad 9) (ad 10) xf.1 xf.2.1 xf.2.2.1 xf.2.2.2.1 xf.2.2.2.2.1 xf.2.2.2.2.2.1 xf.2.2.2.2.2.2.1 xf.2.2.2.2.2.2.2.1 xf.2.2.2.2.2.2.2.2.1 xf.2.2.2.2.2.2.2.2.2 (jh 1) (ju 1) (jv 1) (xi.1 1) (xi.2.1 1) (xi.2.2 1) (hxi.2.2 1) (hxi.1 1) (hxi.2.1 1) hxf.1 hxf.2.1 hxf.2.2.1 hxf.2.2.2.1 hz1 hN9) rfl (fun _ => rfl) (lw_V q357 q358 q359 q68 q360) 1 rfl 8 rfl rfl (by decide +kernel) ⟨Nat.le_of_ble_eq_true rfl, Nat.le_of_ble_eq_true rfl⟩ hl.1 rfl (Nat.le_of_ble_eq_true rfl) ⟨Nat.le_of_ble_eq_true rfl, Nat.le_of_ble_eq_true rfl⟩ dX0_told_99 (fun u1 H locs hu hP hD hS => ?_)
                  obtain ⟨hF1, hF2, hF3, hF4, hF5⟩ := hu
                  have hFF : ti_fr u1.1 u1.2.1 u1.2.2.1 0 u1.2.2.2 = ti_FF (ti_gr (xi.1 1) (xi.2.1 1) 0 (xi.2.2 1)) := by rw [hF1]; exact ti_fxm (by rw [ti_gr_len]; exact hz1) (ti_gr_9 (hxi.1 1) (hxi.2.1 1) 0 _)
                  have hFo : ti_Fok (Value.ref (jh 1), u1.1, u1.2.1, u1.2.2.1, u1.2.2.2, xf.2.2.2.2.2.1, xf.2.2.2.2.2.2.1, xf.2.2.2.2.2.2.2.1, xf.2.2.2.2.2.2.2.2.1, xf.2.2.2.2.2.2.2.2.2) := ⟨hF2, hF3, hF4, hF5, hxf.2.2.2.2⟩
                  have hP : va_P D vwCl (ti_wMJF E ad dh du dv jh ju jv kh ku kv tx hi xi (Value.ref (jh 1), u1.1, u1.2.1, u1.2.2.1, u1.2.2.2, xf.2.2.2.2.2.1, xf.2.2.2.2.2.2.1, xf.2.2.2.2.2.2.2.1, xf.2.2.2.2.2.2.2.2.1, xf.2.2.2.2.2.2.2.2.2)) H := ti_asP hP [.inl 0, .inl 1, .inl 2, .inl 3, .inl 4, .inr 6, .inr 7, .inr 8, .inr 0, .inr 1, .inr 2, .inr 3, .inr 4, .inr 5] rfl rfl rfl rfl
                  have hD : va_D A (ti_wMJF E ad dh du dv jh ju jv kh ku kv tx hi xi (Value.ref (jh 1), u1.1, u1.2.1, u1.2.2.1, u1.2.2.2, xf.2.2.2.2.2.1, xf.2.2.2.2.2.2.1, xf.2.2.2.2.2.2.2.1, xf.2.2.2.2.2.2.2.2.1, xf.2.2.2.2.2.2.2.2.2)) := ti_asD hD [.inl 0, .inl 1, .inl 2, .inl 3, .inl 4, .inr 6, .inr 7, .inr 8, .inr 0, .inr 1, .inr 2, .inr 3, .inr 4, .inr 5] rfl rfl rfl rfl
                  refine W.eq (g2 := F0 m 102 ls [.ref (ad 5)]) rfl ?_
                  refine ti_mV (As := []) (rest := []) S hE hP hD hS hA [8, 9, 10, 11, 12, 13] rfl (met_X2_lists l D E (ad 5) (ad 6) (ad 7) (ad 8) (ad 9) (ad 10) (Value.ref (jh 1)) u1.1 u1.2.1 u1.2.2.1 u1.2.2.2 xf.2.2.2.2.2.1 xf.2.2.2.2.2.2.1 xf.2.2.2.2.2.2.2.1 xf.2.2.2.2.2.2.2.2.1 xf.2.2.2.2.2.2.2.2.2 hFo.1 hFo.2.1 hFo.2.2.1 hFo.2.2.2.1 hFo.2.2.2.2.1 hFo.2.2.2.2.2.1 hFo.2.2.2.2.2.2.1 hFo.2.2.2.2.2.2.2) rfl (fun _ => rfl) (lw_V q606 q607 q608 q68 q609) 0 rfl 8 rfl rfl (by decide +kernel) ⟨Nat.le_of_ble_eq_true rfl, Nat.le_of_ble_eq_true rfl⟩ hl.1 rfl (Nat.le_of_ble_eq_true rfl) ⟨Nat.le_of_ble_eq_true rfl, Nat.le_of_ble_eq_true rfl⟩ dX0_told_102 (fun u2 H locs hu hP hD hS => ?_)
                  obtain ⟨hL1, hL2, hL3, hL4, hL5, hL6⟩ := hu
                  have hFl : ti_Fok (Value.ref (jh 1), u1.1, u1.2.1, u1.2.2.1, u1.2.2.2, u2.1, u2.2.1, u2.2.2.1, u2.2.2.2.1, u2.2.2.2.2) := ⟨hFo.1, hFo.2.1, hFo.2.2.1, hFo.2.2.2.1, hL3, hL4, hL5, hL6⟩
                  obtain ⟨hR1, hR2⟩ := ti_jr hL1
                  have hP : va_P D vwCl (ti_wMJF E ad dh du dv jh ju jv kh ku kv tx hi xi (Value.ref (jh 1), u1.1, u1.2.1, u1.2.2.1, u1.2.2.2, u2.1, u2.2.1, u2.2.2.1, u2.2.2.2.1, u2.2.2.2.2)) H := hP
                  have hD : va_D A (ti_wMJF E ad dh du dv jh ju jv kh ku kv tx hi xi (Value.ref (jh 1), u1.1, u1.2.1, u1.2.2.1, u1.2.2.2, u2.1, u2.2.1, u2.2.2.1, u2.2.2.2.1, u2.2.2.2.2)) := hD
                  refine W.eq (g2 := F0 m 105 ls [.int (nI u2.2.2.2.2)]) rfl ?_
                  have hv9 : (nI u2.2.2.2.2) = (fun _ => ti_Stold I (nI 1) 4) ((Value.ref (jh 1), u1.1, u1.2.1, u1.2.2.1, u1.2.2.2, u2.1, u2.2.1, u2.2.2.1, u2.2.2.2.1, u2.2.2.2.2)) := by rw [ti_Stold, if_neg (by rw [c4]; decide), hci, if_neg (by decide), if_neg (by decide), if_neg (by rw [hlen]; exact hz99), ti_Sask, if_neg (by decide), if_neg (by decide), ← show (ti_gr (xi.1 1) (xi.2.1 1) 0 (xi.2.2 1)) = I 1 from hg, ← hFF, hR1]
                  refine W.eq (g2 := F0 m 105 ls [.int ((fun _ => ti_Stold I (nI 1) 4) ((Value.ref (jh 1), u1.1, u1.2.1, u1.2.2.1, u1.2.2.2, u2.1, u2.2.1, u2.2.2.1, u2.2.2.2.1, u2.2.2.2.2)))]) (congrArg (fun z => F0 m 105 ls [.int z]) hv9) ?_
                  exact hret _ ((Value.ref (jh 1), u1.1, u1.2.1, u1.2.2.1, u1.2.2.2, u2.1, u2.2.1, u2.2.2.1, u2.2.2.2.1, u2.2.2.2.2)) _ _ _ _ (hFl) hP trivial hS (Nat.le_of_ble_eq_true rfl) (Nat.le_of_ble_eq_true rfl) (fun hq hf9 => W.iret hx hb hr hq hf9 dX0_told_105 hlk)
              · skip
                refine lv_tableOut (tgt := 106) hx hb dX0_told_17 (Classical.byContradiction fun z => by
                    have z1 : w.toInt = 0 ∨ w.toInt = 1 ∨ w.toInt = 2 ∨ w.toInt = 3 ∨ w.toInt = 4 := by omega
                    rcases z1 with z2 | z2 | z2 | z2 | z2
                    · exact sw17_0 (Int32.toInt_inj.mp z2)
                    · exact sw17_1 (Int32.toInt_inj.mp z2)
                    · exact sw17_2 (Int32.toInt_inj.mp z2)
                    · exact sw17_3 (Int32.toInt_inj.mp z2)
                    · exact sw17_4 (Int32.toInt_inj.mp z2)) (by decide) ?_
                refine lv_iconst (v := (-1)) hx hb dX0_told_106 (by decide) ?_
                have hv9 : ((-1)) = (fun _ => ti_Stold I (nI 1) w) xf := by rw [ti_Stold, if_pos (by rw [c4, ti_out4 sw17_0 sw17_1 sw17_2 sw17_3 sw17_4]; rfl)]
                refine W.eq (g2 := F0 m 107 ls [.int ((fun _ => ti_Stold I (nI 1) w) xf)]) (congrArg (fun z => F0 m 107 ls [.int z]) hv9) ?_
                exact hret _ xf _ _ _ _ (hxf) hP trivial hS (Nat.le_of_ble_eq_true rfl) (Nat.le_of_ble_eq_true rfl) (fun hq hf9 => W.iret hx hb hr hq hf9 dX0_told_107 hlk)
  · skip
    refine lv_iconst (v := (-1)) hx hb dX0_told_7 (by decide) ?_
    have hv9 : ((-1)) = (fun _ => ti_Stold I v w) xf := by rw [ti_Stold, if_pos (by rw [c4]; rfl)]
    refine W.eq (g2 := F0 m 8 ls [.int ((fun _ => ti_Stold I v w) xf)]) (congrArg (fun z => F0 m 8 ls [.int z]) hv9) ?_
    exact hret _ xf _ _ _ _ (hxf) hP trivial hS (Nat.le_of_ble_eq_true rfl) (Nat.le_of_ble_eq_true rfl) (fun hq hf9 => W.iret hx hb hr hq hf9 dX0_told_8 hlk)

set_option maxHeartbeats 2000000 in
theorem met_X0_in_2 (l : Launch) (D : va_G) (E : Nat → ClassId) (htr : l.stackTraces = false) (z0 : Nat) (ad dh du dv jh ju jv kh ku kv : Nat → Nat) (tx : Nat) (hi : Bool) (xi : ti_Ti) (xf : ti_Tf) (hxi : ti_Jok xi) (I : Nat → ti_GL) (hJ : ti_JI xi I) (hxf : ti_Fok xf) (hnd : ∀ i, i < 2 → (I i).Nodup) (v a b w : Int32) : ti_MetX (σ := ti_Tf) (τ := Unit) l D E yX0_in_2 (wsW_ yX0_in_2 cX0_in_2 6 (some .int) [(55, 81, 82, 150)]) 7 1 6 z0 (ti_wMJF E ad dh du dv jh ju jv kh ku kv tx hi xi xf) [.ref (ad 0), .int v, .int a, .int b, .int w] (fun _ => True) (fun u => ti_wMJF E ad dh du dv jh ju jv kh ku kv tx hi xi u) (fun u => some (.int ((fun _ => ti_Sin I v a b w) u))) (fun u => ti_Fok u) (fun _ _ => True) (fun w => RX14) (fun w => 0) (fun w => ti_wMJF E ad dh du dv jh ju jv kh ku kv tx hi xi xf) (fun w => []) (fun w => False) (fun w H => True) := by
  refine ti_metXH (by decide) (Nat.le_of_ble_eq_true rfl) ?_
  intro p e s m below meth c H A Q ls S hE hP hD hS hA hZ hAz hx0 htab hl hret hq
  obtain ⟨hQ, hr, hlk, hinit⟩ := hq
  have hsz0 := hS.1
  have hx := S.1
  have hb := S.2.1
  have hown := S.2.2.2.1
  have hts := S.2.2.2.2
  have hK := hE.1
  have hl : lv_has ls 6 [(0, .ref (ad 0)), (1, .int v), (2, .int a), (3, .int b), (4, .int w)] := hl
  refine lv_iload_n hx hb dX0_in_2_0 rfl (lv_at hl 1 rfl) ?_
  refine ti_pS (As := [.int v]) (rest := []) (v := .int (ti_b (ti_bt v))) S hE hP [] (met_X0_isIdeal l D E v) rfl (lw_S q299 q300 q66 q301) 1 rfl (by decide +kernel) ⟨Nat.le_of_ble_eq_true rfl, Nat.le_of_ble_eq_true rfl⟩ hl.1 rfl (Nat.le_of_ble_eq_true rfl) ⟨Nat.le_of_ble_eq_true rfl, Nat.le_of_ble_eq_true rfl⟩ dX0_in_2_1 ?_
  refine tb_eq (tgt := 17) hx hb dX0_in_2_4 (by decide) (fun c4 => ?_) (fun c4 => ?_)
  · skip
    refine lv_iconst (v := (-1)) hx hb dX0_in_2_17 (by decide) ?_
    have hv9 : ((-1)) = (fun _ => ti_Sin I v a b w) xf := by rw [ti_Sin, if_pos (by rw [c4]; rfl)]
    refine W.eq (g2 := F0 m 18 ls [.int ((fun _ => ti_Sin I v a b w) xf)]) (congrArg (fun z => F0 m 18 ls [.int z]) hv9) ?_
    exact hret _ xf _ _ _ _ (hxf) hP trivial hS (Nat.le_of_ble_eq_true rfl) (Nat.le_of_ble_eq_true rfl) (fun hq hf9 => W.iret hx hb hr hq hf9 dX0_in_2_18 hlk)
  · skip
    obtain ⟨i, hi2, rfl⟩ := ti_bt_nat c4
    refine lv_iload hx hb dX0_in_2_7 (lv_at hl 4 rfl) ?_
    refine lv_iconst (v := nI 0) hx hb dX0_in_2_9 (by decide) ?_
    refine lv_iconst (v := nI 1) hx hb dX0_in_2_10 (by decide) ?_
    refine ti_pS (As := [.int w, .int (nI 0), .int (nI 1)]) (rest := []) (v := .int (ti_b (ti_in w (nI 0) (nI 1)))) S hE hP [] (met_X0_in l D E w (nI 0) (nI 1)) rfl (lw_S q302 q303 q66 q304) 3 rfl (by decide +kernel) ⟨Nat.le_of_ble_eq_true rfl, Nat.le_of_ble_eq_true rfl⟩ hl.1 rfl (Nat.le_of_ble_eq_true rfl) ⟨Nat.le_of_ble_eq_true rfl, Nat.le_of_ble_eq_true rfl⟩ dX0_in_2_11 ?_
    refine tb_ne (tgt := 19) hx hb dX0_in_2_14 (by decide) (fun c14 => ?_) (fun c14 => ?_)
    · skip
      have c14 : ti_bt w = true := c14
      obtain ⟨w9, hw9, rfl⟩ := ti_bt_nat c14
      have hw0 := ti_nI_0 (show w9 < 2 ^ 31 by omega)
      refine lv_iload_n hx hb dX0_in_2_19 rfl (lv_at hl 2 rfl) ?_
      refine lv_iload_n hx hb dX0_in_2_20 rfl (lv_at hl 3 rfl) ?_
      refine ti_pS (As := [.int a, .int b]) (rest := []) (v := .int (ti_b (ti_b9 a && ti_b9 b))) S hE hP [] (met_X0_isTerm l D E a b) rfl (lw_S q305 q306 q66 q307) 2 rfl (by decide +kernel) ⟨Nat.le_of_ble_eq_true rfl, Nat.le_of_ble_eq_true rfl⟩ hl.1 rfl (Nat.le_of_ble_eq_true rfl) ⟨Nat.le_of_ble_eq_true rfl, Nat.le_of_ble_eq_true rfl⟩ dX0_in_2_21 ?_
      refine tb_ne (tgt := 30) hx hb dX0_in_2_24 (by decide) (fun c24 => ?_) (fun c24 => ?_)
      · skip
        have hb9 : ti_b9 a = true ∧ ti_b9 b = true := by simpa using c24
        obtain ⟨a9, ha9, rfl⟩ := ti_b9_nat hb9.1
        obtain ⟨b9, hb99, rfl⟩ := ti_b9_nat hb9.2
        have hca : ti_cl (nI a9) = a9 := ti_cl_nI (by omega)
        have hcb : ti_cl (nI b9) = b9 := ti_cl_nI (by omega)
        rcases (show i = 0 ∨ i = 1 by omega) with rfl | rfl
        · skip
          have hg := hJ 0 (by decide)
          have hlen := ti_JI_len hJ (show 0 < 2 by decide)
          have h6 := hxi.2.2 0
          have hci : ti_cl (nI 0) = 0 := ti_cl_nI (by decide)
          refine lv_iload hx hb dX0_in_2_30 (lv_at hl 4 rfl) ?_
          refine tn_if_ne (tgt := 55) hx hb dX0_in_2_32 (by decide) (by omega) (fun c32 => ?_) (fun c32 => ?_)
          · skip
            refine lv_aload_n hx hb dX0_in_2_55 rfl (lv_at hl 0 rfl) ?_
            refine va_get (v := .ref (ad 5)) hx hb hts in_X0 hown hK hP 0 rfl rfl 2 (by decide) (hts _ q239) (fun _ h => h) rfl dX0_in_2_56 ?_
            refine lv_aload_n hx hb dX0_in_2_59 rfl (lv_at hl 0 rfl) ?_
            refine va_get (v := .ref (ad 1)) hx hb hts in_X0 hown hK hP 0 rfl rfl 0 (by decide) (hts _ q237) (fun _ h => h) rfl dX0_in_2_60 ?_
            refine lv_iload_n hx hb dX0_in_2_63 rfl (lv_at hl 1 rfl) ?_
            refine tn_aald hx hb hK hP 1 5 rfl rfl (by omega) (by decide) dX0_in_2_64 ?_
            by_cases hz65 : xi.2.2 0 = 0
            · skip
              refine ti_callX (ty_runV (As := [.ref (jh 0)]) (rest := []) S (met_X2_looks_z l D E htr z0 (ad 5) (ad 6) (ad 7) (ad 8) (ad 9) (ad 10) xf.1 xf.2.1 xf.2.2.1 xf.2.2.2.1 xf.2.2.2.2.1 xf.2.2.2.2.2.1 xf.2.2.2.2.2.2.1 xf.2.2.2.2.2.2.2.1 xf.2.2.2.2.2.2.2.2.1 xf.2.2.2.2.2.2.2.2.2 (jh 0) (ju 0) (jv 0) (xi.1 0) (xi.2.1 0) (xi.2.2 0) hz65 H.size) (cwV 1 S.2.2.2.2 (lw_V q357 q358 q359 q68 q360) rfl rfl rfl (by decide +kernel) ⟨Nat.le_of_ble_eq_true rfl, Nat.le_of_ble_eq_true rfl⟩) (ti_preXV (xp := fun _ => True) hE hP hD hS rfl hZ hAz trivial [8, 9, 10, 11, 12, 13, 2, 3, 4] rfl rfl 8 rfl rfl) rfl rfl hl.1 rfl (lv_room (Nat.le_of_ble_eq_true rfl)) dX0_in_2_65 ⟨Nat.le_of_ble_eq_true rfl, Nat.le_of_ble_eq_true rfl⟩) hP hD hS hA [8, 9, 10, 11, 12, 13, 2, 3, 4] rfl (fun _ => rfl) (fun _ => rfl) (fun _ _ _ h9 => absurd h9 id) (fun we H locs ce hpx hxx hFr hP hD hPe hnew hS hce hcv hcl => ?_)
              have hP : va_P D vwCl (ti_wMJF E ad dh du dv jh ju jv kh ku kv tx hi xi xf) H := ti_asP hP [.inl 0, .inl 1, .inr 6, .inr 7, .inr 8, .inl 5, .inl 6, .inl 7, .inr 0, .inr 1, .inr 2, .inr 3, .inr 4, .inr 5] rfl rfl rfl rfl
              have hD : va_D A (ti_wMJF E ad dh du dv jh ju jv kh ku kv tx hi xi xf) := ti_asD hD [.inl 0, .inl 1, .inr 6, .inr 7, .inr 8, .inl 5, .inl 6, .inl 7, .inr 0, .inr 1, .inr 2, .inr 3, .inr 4, .inr 5] rfl rfl rfl rfl
              refine vx_catch hown [] ⟨55, 81, 82, 150⟩ [] htab (fun z hz => absurd hz List.not_mem_nil) rfl (by decide) (hts _ q356) (hE.use q363 rfl rfl) hce hcv hcl ?_
              refine lv_astore (lv' := [(5, .ref we.1), (0, .ref (ad 0)), (1, .int (nI 0)), (2, .int (nI a9)), (3, .int (nI b9)), (4, .int (nI w9))]) hx hb dX0_in_2_82 hl (by decide) rfl (fun ls hl => ?_)
              refine lv_bipush (v := (-3)) hx hb dX0_in_2_84 (by decide) ?_
              have hv9 : ((-3)) = (fun _ => ti_Sin I (nI 0) (nI a9) (nI b9) (nI w9)) xf := by rw [ti_Sin, if_neg (by rw [c4, c14]; decide), if_neg (by rw [c24]; decide), hci, hca, hcb, if_neg (fun z => c32 (hw0.mp z)), if_pos (by rw [hlen]; exact hz65)]
              refine W.eq (g2 := F0 m 86 ls [.int ((fun _ => ti_Sin I (nI 0) (nI a9) (nI b9) (nI w9)) xf)]) (congrArg (fun z => F0 m 86 ls [.int z]) hv9) ?_
              exact hret _ xf _ _ _ _ (hxf) hP trivial hS (Nat.le_of_ble_eq_true rfl) (Nat.le_of_ble_eq_true rfl) (fun hq hf9 => W.iret hx hb hr hq hf9 dX0_in_2_86 hlk)
            · skip
              have hz1 : 0 < xi.2.2 0 := Nat.pos_of_ne_zero hz65
              have hnd9 : (ti_gr (xi.1 0) (xi.2.1 0) 0 (xi.2.2 0)).Nodup := by have h9 := hnd 0 (by decide); rw [← hJ 0 (by decide)] at h9; exact h9
              have hN9 : ti_r2 (ti_gr (xi.1 0) (xi.2.1 0) 0 (xi.2.2 0)) 9999 (List.range' 1 9) ≤ 6 := Nat.le_trans (ti_r2_le hnd9 9999) (by rw [ti_gr_len]; exact (hxi.2.2 0))
              refine ti_mV (As := [.ref (jh 0)]) (rest := []) S hE hP hD hS hA [8, 9, 10, 11, 12, 13, 2, 3, 4] rfl (met_X2_looks l D E (ad 5) (ad 6) (ad 7) (ad 8) (ad 9) (ad 10) xf.1 xf.2.1 xf.2.2.1 xf.2.2.2.1 xf.2.2.2.2.1 xf.2.2.2.2.2.1 xf.2.2.2.2.2.2.1 xf.2.2.2.2.2.2.2.1 xf.2.2.2.2.2.2.2.2.1 xf.2.2.2.2.2.2.2.2.2 (jh 0) (ju 0) (jv 0) (xi.1 0) (xi.2.1 0) (xi.2.2 0) (hxi.2.2 0) (hxi.1 0) (hxi.2.1 0) hxf.1 hxf.2.1 hxf.2.2.1 hxf.2.2.2.1 hz1 hN9) rfl (fun _ => rfl) (lw_V q357 q358 q359 q68 q360) 1 rfl 8 rfl rfl (by decide +kernel) ⟨Nat.le_of_ble_eq_true rfl, Nat.le_of_ble_eq_true rfl⟩ hl.1 rfl (Nat.le_of_ble_eq_true rfl) ⟨Nat.le_of_ble_eq_true rfl, Nat.le_of_ble_eq_true rfl⟩ dX0_in_2_65 (fun u1 H locs hu hP hD hS => ?_)
              obtain ⟨hF1, hF2, hF3, hF4, hF5⟩ := hu
              have hFF : ti_fr u1.1 u1.2.1 u1.2.2.1 0 u1.2.2.2 = ti_FF (ti_gr (xi.1 0) (xi.2.1 0) 0 (xi.2.2 0)) := by rw [hF1]; exact ti_fxm (by rw [ti_gr_len]; exact hz1) (ti_gr_9 (hxi.1 0) (hxi.2.1 0) 0 _)
              have hFo : ti_Fok (Value.ref (jh 0), u1.1, u1.2.1, u1.2.2.1, u1.2.2.2, xf.2.2.2.2.2.1, xf.2.2.2.2.2.2.1, xf.2.2.2.2.2.2.2.1, xf.2.2.2.2.2.2.2.2.1, xf.2.2.2.2.2.2.2.2.2) := ⟨hF2, hF3, hF4, hF5, hxf.2.2.2.2⟩
              have hP : va_P D vwCl (ti_wMJF E ad dh du dv jh ju jv kh ku kv tx hi xi (Value.ref (jh 0), u1.1, u1.2.1, u1.2.2.1, u1.2.2.2, xf.2.2.2.2.2.1, xf.2.2.2.2.2.2.1, xf.2.2.2.2.2.2.2.1, xf.2.2.2.2.2.2.2.2.1, xf.2.2.2.2.2.2.2.2.2)) H := ti_asP hP [.inl 0, .inl 1, .inr 6, .inr 7, .inr 8, .inl 5, .inl 6, .inl 7, .inr 0, .inr 1, .inr 2, .inr 3, .inr 4, .inr 5] rfl rfl rfl rfl
              have hD : va_D A (ti_wMJF E ad dh du dv jh ju jv kh ku kv tx hi xi (Value.ref (jh 0), u1.1, u1.2.1, u1.2.2.1, u1.2.2.2, xf.2.2.2.2.2.1, xf.2.2.2.2.2.2.1, xf.2.2.2.2.2.2.2.1, xf.2.2.2.2.2.2.2.2.1, xf.2.2.2.2.2.2.2.2.2)) := ti_asD hD [.inl 0, .inl 1, .inr 6, .inr 7, .inr 8, .inl 5, .inl 6, .inl 7, .inr 0, .inr 1, .inr 2, .inr 3, .inr 4, .inr 5] rfl rfl rfl rfl
              refine W.eq (g2 := F0 m 68 ls [.ref (ad 5)]) rfl ?_
              refine lv_iload_n hx hb dX0_in_2_68 rfl (lv_at hl 2 rfl) ?_
              refine lv_iload_n hx hb dX0_in_2_69 rfl (lv_at hl 3 rfl) ?_
              refine ti_pV (As := [.int (nI a9), .int (nI b9)]) (rest := []) (v := .int (ti_b (ti_hull a9 b9 (ti_fr u1.1 u1.2.1 u1.2.2.1 0 u1.2.2.2)))) S hE hP [8, 9, 10, 11, 12, 13] (met_X2_hasInHull l D E (ad 5) (ad 6) (ad 7) (ad 8) (ad 9) (ad 10) (Value.ref (jh 0)) u1.1 u1.2.1 u1.2.2.1 u1.2.2.2 xf.2.2.2.2.2.1 xf.2.2.2.2.2.2.1 xf.2.2.2.2.2.2.2.1 xf.2.2.2.2.2.2.2.2.1 xf.2.2.2.2.2.2.2.2.2 hFo.1 hFo.2.1 hFo.2.2.1 hFo.2.2.2.1 a9 b9 ha9 hb99) rfl (lw_V q463 q464 q465 q68 q466) 2 rfl 8 rfl rfl (by decide +kernel) ⟨Nat.le_of_ble_eq_true rfl, Nat.le_of_ble_eq_true rfl⟩ hl.1 rfl (Nat.le_of_ble_eq_true rfl) ⟨Nat.le_of_ble_eq_true rfl, Nat.le_of_ble_eq_true rfl⟩ dX0_in_2_70 ?_
              refine tb_eq (tgt := 80) hx hb dX0_in_2_73 (by decide) (fun c73 => ?_) (fun c73 => ?_)
              · skip
                refine lv_iconst (v := nI 0) hx hb dX0_in_2_80 (by decide) ?_
                have hv9 : (nI 0) = (fun _ => ti_Sin I (nI 0) (nI a9) (nI b9) (nI w9)) ((Value.ref (jh 0), u1.1, u1.2.1, u1.2.2.1, u1.2.2.2, xf.2.2.2.2.2.1, xf.2.2.2.2.2.2.1, xf.2.2.2.2.2.2.2.1, xf.2.2.2.2.2.2.2.2.1, xf.2.2.2.2.2.2.2.2.2)) := by rw [ti_Sin, if_neg (by rw [c4, c14]; decide), if_neg (by rw [c24]; decide), hci, hca, hcb, if_neg (fun z => c32 (hw0.mp z)), if_neg (by rw [hlen]; exact hz65), ← show (ti_gr (xi.1 0) (xi.2.1 0) 0 (xi.2.2 0)) = I 0 from hg, ← hFF, c73]; rfl
                refine W.eq (g2 := F0 m 81 ls [.int ((fun _ => ti_Sin I (nI 0) (nI a9) (nI b9) (nI w9)) ((Value.ref (jh 0), u1.1, u1.2.1, u1.2.2.1, u1.2.2.2, xf.2.2.2.2.2.1, xf.2.2.2.2.2.2.1, xf.2.2.2.2.2.2.2.1, xf.2.2.2.2.2.2.2.2.1, xf.2.2.2.2.2.2.2.2.2)))]) (congrArg (fun z => F0 m 81 ls [.int z]) hv9) ?_
                exact hret _ ((Value.ref (jh 0), u1.1, u1.2.1, u1.2.2.1, u1.2.2.2, xf.2.2.2.2.2.1, xf.2.2.2.2.2.2.1, xf.2.2.2.2.2.2.2.1, xf.2.2.2.2.2.2.2.2.1, xf.2.2.2.2.2.2.2.2.2)) _ _ _ _ (hFo) hP trivial hS (Nat.le_of_ble_eq_true rfl) (Nat.le_of_ble_eq_true rfl) (fun hq hf9 => W.iret hx hb hr hq hf9 dX0_in_2_81 hlk)
              · skip
                refine lv_iconst (v := nI 1) hx hb dX0_in_2_76 (by decide) ?_
                refine lv_goto (tgt := 81) hx hb dX0_in_2_77 (by decide) ?_
                have hv9 : (nI 1) = (fun _ => ti_Sin I (nI 0) (nI a9) (nI b9) (nI w9)) ((Value.ref (jh 0), u1.1, u1.2.1, u1.2.2.1, u1.2.2.2, xf.2.2.2.2.2.1, xf.2.2.2.2.2.2.1, xf.2.2.2.2.2.2.2.1, xf.2.2.2.2.2.2.2.2.1, xf.2.2.2.2.2.2.2.2.2)) := by rw [ti_Sin, if_neg (by rw [c4, c14]; decide), if_neg (by rw [c24]; decide), hci, hca, hcb, if_neg (fun z => c32 (hw0.mp z)), if_neg (by rw [hlen]; exact hz65), ← show (ti_gr (xi.1 0) (xi.2.1 0) 0 (xi.2.2 0)) = I 0 from hg, ← hFF, c73]; rfl
                refine W.eq (g2 := F0 m 81 ls [.int ((fun _ => ti_Sin I (nI 0) (nI a9) (nI b9) (nI w9)) ((Value.ref (jh 0), u1.1, u1.2.1, u1.2.2.1, u1.2.2.2, xf.2.2.2.2.2.1, xf.2.2.2.2.2.2.1, xf.2.2.2.2.2.2.2.1, xf.2.2.2.2.2.2.2.2.1, xf.2.2.2.2.2.2.2.2.2)))]) (congrArg (fun z => F0 m 81 ls [.int z]) hv9) ?_
                exact hret _ ((Value.ref (jh 0), u1.1, u1.2.1, u1.2.2.1, u1.2.2.2, xf.2.2.2.2.2.1, xf.2.2.2.2.2.2.1, xf.2.2.2.2.2.2.2.1, xf.2.2.2.2.2.2.2.2.1, xf.2.2.2.2.2.2.2.2.2)) _ _ _ _ (hFo) hP trivial hS (Nat.le_of_ble_eq_true rfl) (Nat.le_of_ble_eq_true rfl) (fun hq hf9 => W.iret hx hb hr hq hf9 dX0_in_2_81 hlk)
          · skip
            refine lv_aload_n hx hb dX0_in_2_35 rfl (lv_at hl 0 rfl) ?_
            refine va_get (v := .ref (ad 1)) hx hb hts in_X0 hown hK hP 0 rfl rfl 0 (by decide) (hts _ q237) (fun _ h => h) rfl dX0_in_2_36 ?_
            refine lv_iload_n hx hb dX0_in_2_39 rfl (lv_at hl 1 rfl) ?_
            refine tn_aald hx hb hK hP 1 5 rfl rfl (by omega) (by decide) dX0_in_2_40 ?_
            refine lv_iload_n hx hb dX0_in_2_41 rfl (lv_at hl 2 rfl) ?_
            refine lv_iload_n hx hb dX0_in_2_42 rfl (lv_at hl 3 rfl) ?_
            refine ti_pV (As := [.int (nI a9), .int (nI b9)]) (rest := []) (v := .int (ti_b (ti_hb a9 b9 (-5) (ti_gr (xi.1 0) (xi.2.1 0) 0 (xi.2.2 0)) 0))) S hE hP [2, 3, 4] (met_X1_holds l D E (jh 0) (ju 0) (jv 0) (xi.1 0) (xi.2.1 0) (xi.2.2 0) (hxi.2.2 0) (hxi.1 0) (hxi.2.1 0) a9 b9 ha9 hb99) rfl (lw_V q626 q603 q604 q67 q605) 2 rfl 2 rfl rfl (by decide +kernel) ⟨Nat.le_of_ble_eq_true rfl, Nat.le_of_ble_eq_true rfl⟩ hl.1 rfl (Nat.le_of_ble_eq_true rfl) ⟨Nat.le_of_ble_eq_true rfl, Nat.le_of_ble_eq_true rfl⟩ dX0_in_2_43 ?_
            refine tb_eq (tgt := 53) hx hb dX0_in_2_46 (by decide) (fun c46 => ?_) (fun c46 => ?_)
            · skip
              refine lv_iconst (v := nI 0) hx hb dX0_in_2_53 (by decide) ?_
              have hv9 : (nI 0) = (fun _ => ti_Sin I (nI 0) (nI a9) (nI b9) (nI w9)) xf := by rw [ti_Sin, if_neg (by rw [c4, c14]; decide), if_neg (by rw [c24]; decide), hci, hca, hcb, if_pos (hw0.mpr c32), ← show (ti_gr (xi.1 0) (xi.2.1 0) 0 (xi.2.2 0)) = I 0 from hg, c46]; rfl
              refine W.eq (g2 := F0 m 54 ls [.int ((fun _ => ti_Sin I (nI 0) (nI a9) (nI b9) (nI w9)) xf)]) (congrArg (fun z => F0 m 54 ls [.int z]) hv9) ?_
              exact hret _ xf _ _ _ _ (hxf) hP trivial hS (Nat.le_of_ble_eq_true rfl) (Nat.le_of_ble_eq_true rfl) (fun hq hf9 => W.iret hx hb hr hq hf9 dX0_in_2_54 hlk)
            · skip
              refine lv_iconst (v := nI 1) hx hb dX0_in_2_49 (by decide) ?_
              refine lv_goto (tgt := 54) hx hb dX0_in_2_50 (by decide) ?_
              have hv9 : (nI 1) = (fun _ => ti_Sin I (nI 0) (nI a9) (nI b9) (nI w9)) xf := by rw [ti_Sin, if_neg (by rw [c4, c14]; decide), if_neg (by rw [c24]; decide), hci, hca, hcb, if_pos (hw0.mpr c32), ← show (ti_gr (xi.1 0) (xi.2.1 0) 0 (xi.2.2 0)) = I 0 from hg, c46]; rfl
              refine W.eq (g2 := F0 m 54 ls [.int ((fun _ => ti_Sin I (nI 0) (nI a9) (nI b9) (nI w9)) xf)]) (congrArg (fun z => F0 m 54 ls [.int z]) hv9) ?_
              exact hret _ xf _ _ _ _ (hxf) hP trivial hS (Nat.le_of_ble_eq_true rfl) (Nat.le_of_ble_eq_true rfl) (fun hq hf9 => W.iret hx hb hr hq hf9 dX0_in_2_54 hlk)
        · skip
          have hg := hJ 1 (by decide)
          have hlen := ti_JI_len hJ (show 1 < 2 by decide)
          have h6 := hxi.2.2 1
          have hci : ti_cl (nI 1) = 1 := ti_cl_nI (by decide)
          refine lv_iload hx hb dX0_in_2_30 (lv_at hl 4 rfl) ?_
          refine tn_if_ne (tgt := 55) hx hb dX0_in_2_32 (by decide) (by omega) (fun c32 => ?_) (fun c32 => ?_)
          · skip
            refine lv_aload_n hx hb dX0_in_2_55 rfl (lv_at hl 0 rfl) ?_
            refine va_get (v := .ref (ad 5)) hx hb hts in_X0 hown hK hP 0 rfl rfl 2 (by decide) (hts _ q239) (fun _ h => h) rfl dX0_in_2_56 ?_
            refine lv_aload_n hx hb dX0_in_2_59 rfl (lv_at hl 0 rfl) ?_
            refine va_get (v := .ref (ad 1)) hx hb hts in_X0 hown hK hP 0 rfl rfl 0 (by decide) (hts _ q237) (fun _ h => h) rfl dX0_in_2_60 ?_
            refine lv_iload_n hx hb dX0_in_2_63 rfl (lv_at hl 1 rfl) ?_
            refine tn_aald hx hb hK hP 1 5 rfl rfl (by omega) (by decide) dX0_in_2_64 ?_
            by_cases hz65 : xi.2.2 1 = 0
            · skip
              refine ti_callX (ty_runV (As := [.ref (jh 1)]) (rest := []) S (met_X2_looks_z l D E htr z0 (ad 5) (ad 6) (ad 7) (ad 8) (ad 9) (ad 10) xf.1 xf.2.1 xf.2.2.1 xf.2.2.2.1 xf.2.2.2.2.1 xf.2.2.2.2.2.1 xf.2.2.2.2.2.2.1 xf.2.2.2.2.2.2.2.1 xf.2.2.2.2.2.2.2.2.1 xf.2.2.2.2.2.2.2.2.2 (jh 1) (ju 1) (jv 1) (xi.1 1) (xi.2.1 1) (xi.2.2 1) hz65 H.size) (cwV 1 S.2.2.2.2 (lw_V q357 q358 q359 q68 q360) rfl rfl rfl (by decide +kernel) ⟨Nat.le_of_ble_eq_true rfl, Nat.le_of_ble_eq_true rfl⟩) (ti_preXV (xp := fun _ => True) hE hP hD hS rfl hZ hAz trivial [8, 9, 10, 11, 12, 13, 5, 6, 7] rfl rfl 8 rfl rfl) rfl rfl hl.1 rfl (lv_room (Nat.le_of_ble_eq_true rfl)) dX0_in_2_65 ⟨Nat.le_of_ble_eq_true rfl, Nat.le_of_ble_eq_true rfl⟩) hP hD hS hA [8, 9, 10, 11, 12, 13, 5, 6, 7] rfl (fun _ => rfl) (fun _ => rfl) (fun _ _ _ h9 => absurd h9 id) (fun we H locs ce hpx hxx hFr hP hD hPe hnew hS hce hcv hcl => ?_)
              have hP : va_P D vwCl (ti_wMJF E ad dh du dv jh ju jv kh ku kv tx hi xi xf) H := ti_asP hP [.inl 0, .inl 1, .inl 2, .inl 3, .inl 4, .inr 6, .inr 7, .inr 8, .inr 0, .inr 1, .inr 2, .inr 3, .inr 4, .inr 5] rfl rfl rfl rfl
              have hD : va_D A (ti_wMJF E ad dh du dv jh ju jv kh ku kv tx hi xi xf) := ti_asD hD [.inl 0, .inl 1, .inl 2, .inl 3, .inl 4, .inr 6, .inr 7, .inr 8, .inr 0, .inr 1, .inr 2, .inr 3, .inr 4, .inr 5] rfl rfl rfl rfl
              refine vx_catch hown [] ⟨55, 81, 82, 150⟩ [] htab (fun z hz => absurd hz List.not_mem_nil) rfl (by decide) (hts _ q356) (hE.use q363 rfl rfl) hce hcv hcl ?_
              refine lv_astore (lv' := [(5, .ref we.1), (0, .ref (ad 0)), (1, .int (nI 1)), (2, .int (nI a9)), (3, .int (nI b9)), (4, .int (nI w9))]) hx hb dX0_in_2_82 hl (by decide) rfl (fun ls hl => ?_)
              refine lv_bipush (v := (-3)) hx hb dX0_in_2_84 (by decide) ?_
              have hv9 : ((-3)) = (fun _ => ti_Sin I (nI 1) (nI a9) (nI b9) (nI w9)) xf := by rw [ti_Sin, if_neg (by rw [c4, c14]; decide), if_neg (by rw [c24]; decide), hci, hca, hcb, if_neg (fun z => c32 (hw0.mp z)), if_pos (by rw [hlen]; exact hz65)]
              refine W.eq (g2 := F0 m 86 ls [.int ((fun _ => ti_Sin I (nI 1) (nI a9) (nI b9) (nI w9)) xf)]) (congrArg (fun z => F0 m 86 ls [.int z]) hv9) ?_
              exact hret _ xf _ _ _ _ (hxf) hP trivial hS (Nat.le_of_ble_eq_true rfl) (Nat.le_of_ble_eq_true rfl) (fun hq hf9 => W.iret hx hb hr hq hf9 dX0_in_2_86 hlk)
            · skip
              have hz1 : 0 < xi.2.2 1 := Nat.pos_of_ne_zero hz65
              have hnd9 : (ti_gr (xi.1 1) (xi.2.1 1) 0 (xi.2.2 1)).Nodup := by have h9 := hnd 1 (by decide); rw [← hJ 1 (by decide)] at h9; exact h9
              have hN9 : ti_r2 (ti_gr (xi.1 1) (xi.2.1 1) 0 (xi.2.2 1)) 9999 (List.range' 1 9) ≤ 6 := Nat.le_trans (ti_r2_le hnd9 9999) (by rw [ti_gr_len]; exact (hxi.2.2 1))
              refine ti_mV (As := [.ref (jh 1)]) (rest := []) S hE hP hD hS hA [8, 9, 10, 11, 12, 13, 5, 6, 7] rfl (met_X2_looks l D E (ad 5) (ad 6) (ad 7) (ad 8) (ad 9) (ad 10) xf.1 xf.2.1 xf.2.2.1 xf.2.2.2.1 xf.2.2.2.2.1 xf.2.2.2.2.2.1 xf.2.2.2.2.2.2.1 xf.2.2.2.2.2.2.2.1 xf.2.2.2.2.2.2.2.2.1 xf.2.2.2.2.2.2.2.2.2 (jh 1) (ju 1) (jv 1) (xi.1 1) (xi.2.1 1) (xi.2.2 1) (hxi.2.2 1) (hxi.1 1) (hxi.2.1 1) hxf.1 hxf.2.1 hxf.2.2.1 hxf.2.2.2.1 hz1 hN9) rfl (fun _ => rfl) (lw_V q357 q358 q359 q68 q360) 1 rfl 8 rfl rfl (by decide +kernel) ⟨Nat.le_of_ble_eq_true rfl, Nat.le_of_ble_eq_true rfl⟩ hl.1 rfl (Nat.le_of_ble_eq_true rfl) ⟨Nat.le_of_ble_eq_true rfl, Nat.le_of_ble_eq_true rfl⟩ dX0_in_2_65 (fun u1 H locs hu hP hD hS => ?_)
              obtain ⟨hF1, hF2, hF3, hF4, hF5⟩ := hu
              have hFF : ti_fr u1.1 u1.2.1 u1.2.2.1 0 u1.2.2.2 = ti_FF (ti_gr (xi.1 1) (xi.2.1 1) 0 (xi.2.2 1)) := by rw [hF1]; exact ti_fxm (by rw [ti_gr_len]; exact hz1) (ti_gr_9 (hxi.1 1) (hxi.2.1 1) 0 _)
              have hFo : ti_Fok (Value.ref (jh 1), u1.1, u1.2.1, u1.2.2.1, u1.2.2.2, xf.2.2.2.2.2.1, xf.2.2.2.2.2.2.1, xf.2.2.2.2.2.2.2.1, xf.2.2.2.2.2.2.2.2.1, xf.2.2.2.2.2.2.2.2.2) := ⟨hF2, hF3, hF4, hF5, hxf.2.2.2.2⟩
              have hP : va_P D vwCl (ti_wMJF E ad dh du dv jh ju jv kh ku kv tx hi xi (Value.ref (jh 1), u1.1, u1.2.1, u1.2.2.1, u1.2.2.2, xf.2.2.2.2.2.1, xf.2.2.2.2.2.2.1, xf.2.2.2.2.2.2.2.1, xf.2.2.2.2.2.2.2.2.1, xf.2.2.2.2.2.2.2.2.2)) H := ti_asP hP [.inl 0, .inl 1, .inl 2, .inl 3, .inl 4, .inr 6, .inr 7, .inr 8, .inr 0, .inr 1, .inr 2, .inr 3, .inr 4, .inr 5] rfl rfl rfl rfl
              have hD : va_D A (ti_wMJF E ad dh du dv jh ju jv kh ku kv tx hi xi (Value.ref (jh 1), u1.1, u1.2.1, u1.2.2.1, u1.2.2.2, xf.2.2.2.2.2.1, xf.2.2.2.2.2.2.1, xf.2.2.2.2.2.2.2.1, xf.2.2.2.2.2.2.2.2.1, xf.2.2.2.2.2.2.2.2.2)) := ti_asD hD [.inl 0, .inl 1, .inl 2, .inl 3, .inl 4, .inr 6, .inr 7, .inr 8, .inr 0, .inr 1, .inr 2, .inr 3, .inr 4, .inr 5] rfl rfl rfl rfl
              refine W.eq (g2 := F0 m 68 ls [.ref (ad 5)]) rfl ?_
              refine lv_iload_n hx hb dX0_in_2_68 rfl (lv_at hl 2 rfl) ?_
              refine lv_iload_n hx hb dX0_in_2_69 rfl (lv_at hl 3 rfl) ?_
              refine ti_pV (As := [.int (nI a9), .int (nI b9)]) (rest := []) (v := .int (ti_b (ti_hull a9 b9 (ti_fr u1.1 u1.2.1 u1.2.2.1 0 u1.2.2.2)))) S hE hP [8, 9, 10, 11, 12, 13] (met_X2_hasInHull l D E (ad 5) (ad 6) (ad 7) (ad 8) (ad 9) (ad 10) (Value.ref (jh 1)) u1.1 u1.2.1 u1.2.2.1 u1.2.2.2 xf.2.2.2.2.2.1 xf.2.2.2.2.2.2.1 xf.2.2.2.2.2.2.2.1 xf.2.2.2.2.2.2.2.2.1 xf.2.2.2.2.2.2.2.2.2 hFo.1 hFo.2.1 hFo.2.2.1 hFo.2.2.2.1 a9 b9 ha9 hb99) rfl (lw_V q463 q464 q465 q68 q466) 2 rfl 8 rfl rfl (by decide +kernel) ⟨Nat.le_of_ble_eq_true rfl, Nat.le_of_ble_eq_true rfl⟩ hl.1 rfl (Nat.le_of_ble_eq_true rfl) ⟨Nat.le_of_ble_eq_true rfl, Nat.le_of_ble_eq_true rfl⟩ dX0_in_2_70 ?_
              refine tb_eq (tgt := 80) hx hb dX0_in_2_73 (by decide) (fun c73 => ?_) (fun c73 => ?_)
              · skip
                refine lv_iconst (v := nI 0) hx hb dX0_in_2_80 (by decide) ?_
                have hv9 : (nI 0) = (fun _ => ti_Sin I (nI 1) (nI a9) (nI b9) (nI w9)) ((Value.ref (jh 1), u1.1, u1.2.1, u1.2.2.1, u1.2.2.2, xf.2.2.2.2.2.1, xf.2.2.2.2.2.2.1, xf.2.2.2.2.2.2.2.1, xf.2.2.2.2.2.2.2.2.1, xf.2.2.2.2.2.2.2.2.2)) := by rw [ti_Sin, if_neg (by rw [c4, c14]; decide), if_neg (by rw [c24]; decide), hci, hca, hcb, if_neg (fun z => c32 (hw0.mp z)), if_neg (by rw [hlen]; exact hz65), ← show (ti_gr (xi.1 1) (xi.2.1 1) 0 (xi.2.2 1)) = I 1 from hg, ← hFF, c73]; rfl
                refine W.eq (g2 := F0 m 81 ls [.int ((fun _ => ti_Sin I (nI 1) (nI a9) (nI b9) (nI w9)) ((Value.ref (jh 1), u1.1, u1.2.1, u1.2.2.1, u1.2.2.2, xf.2.2.2.2.2.1, xf.2.2.2.2.2.2.1, xf.2.2.2.2.2.2.2.1, xf.2.2.2.2.2.2.2.2.1, xf.2.2.2.2.2.2.2.2.2)))]) (congrArg (fun z => F0 m 81 ls [.int z]) hv9) ?_
                exact hret _ ((Value.ref (jh 1), u1.1, u1.2.1, u1.2.2.1, u1.2.2.2, xf.2.2.2.2.2.1, xf.2.2.2.2.2.2.1, xf.2.2.2.2.2.2.2.1, xf.2.2.2.2.2.2.2.2.1, xf.2.2.2.2.2.2.2.2.2)) _ _ _ _ (hFo) hP trivial hS (Nat.le_of_ble_eq_true rfl) (Nat.le_of_ble_eq_true rfl) (fun hq hf9 => W.iret hx hb hr hq hf9 dX0_in_2_81 hlk)
              · skip
                refine lv_iconst (v := nI 1) hx hb dX0_in_2_76 (by decide) ?_
                refine lv_goto (tgt := 81) hx hb dX0_in_2_77 (by decide) ?_
                have hv9 : (nI 1) = (fun _ => ti_Sin I (nI 1) (nI a9) (nI b9) (nI w9)) ((Value.ref (jh 1), u1.1, u1.2.1, u1.2.2.1, u1.2.2.2, xf.2.2.2.2.2.1, xf.2.2.2.2.2.2.1, xf.2.2.2.2.2.2.2.1, xf.2.2.2.2.2.2.2.2.1, xf.2.2.2.2.2.2.2.2.2)) := by rw [ti_Sin, if_neg (by rw [c4, c14]; decide), if_neg (by rw [c24]; decide), hci, hca, hcb, if_neg (fun z => c32 (hw0.mp z)), if_neg (by rw [hlen]; exact hz65), ← show (ti_gr (xi.1 1) (xi.2.1 1) 0 (xi.2.2 1)) = I 1 from hg, ← hFF, c73]; rfl
                refine W.eq (g2 := F0 m 81 ls [.int ((fun _ => ti_Sin I (nI 1) (nI a9) (nI b9) (nI w9)) ((Value.ref (jh 1), u1.1, u1.2.1, u1.2.2.1, u1.2.2.2, xf.2.2.2.2.2.1, xf.2.2.2.2.2.2.1, xf.2.2.2.2.2.2.2.1, xf.2.2.2.2.2.2.2.2.1, xf.2.2.2.2.2.2.2.2.2)))]) (congrArg (fun z => F0 m 81 ls [.int z]) hv9) ?_
                exact hret _ ((Value.ref (jh 1), u1.1, u1.2.1, u1.2.2.1, u1.2.2.2, xf.2.2.2.2.2.1, xf.2.2.2.2.2.2.1, xf.2.2.2.2.2.2.2.1, xf.2.2.2.2.2.2.2.2.1, xf.2.2.2.2.2.2.2.2.2)) _ _ _ _ (hFo) hP trivial hS (Nat.le_of_ble_eq_true rfl) (Nat.le_of_ble_eq_true rfl) (fun hq hf9 => W.iret hx hb hr hq hf9 dX0_in_2_81 hlk)
          · skip
            refine lv_aload_n hx hb dX0_in_2_35 rfl (lv_at hl 0 rfl) ?_
            refine va_get (v := .ref (ad 1)) hx hb hts in_X0 hown hK hP 0 rfl rfl 0 (by decide) (hts _ q237) (fun _ h => h) rfl dX0_in_2_36 ?_
            refine lv_iload_n hx hb dX0_in_2_39 rfl (lv_at hl 1 rfl) ?_
            refine tn_aald hx hb hK hP 1 5 rfl rfl (by omega) (by decide) dX0_in_2_40 ?_
            refine lv_iload_n hx hb dX0_in_2_41 rfl (lv_at hl 2 rfl) ?_
            refine lv_iload_n hx hb dX0_in_2_42 rfl (lv_at hl 3 rfl) ?_
            refine ti_pV (As := [.int (nI a9), .int (nI b9)]) (rest := []) (v := .int (ti_b (ti_hb a9 b9 (-5) (ti_gr (xi.1 1) (xi.2.1 1) 0 (xi.2.2 1)) 0))) S hE hP [5, 6, 7] (met_X1_holds l D E (jh 1) (ju 1) (jv 1) (xi.1 1) (xi.2.1 1) (xi.2.2 1) (hxi.2.2 1) (hxi.1 1) (hxi.2.1 1) a9 b9 ha9 hb99) rfl (lw_V q626 q603 q604 q67 q605) 2 rfl 5 rfl rfl (by decide +kernel) ⟨Nat.le_of_ble_eq_true rfl, Nat.le_of_ble_eq_true rfl⟩ hl.1 rfl (Nat.le_of_ble_eq_true rfl) ⟨Nat.le_of_ble_eq_true rfl, Nat.le_of_ble_eq_true rfl⟩ dX0_in_2_43 ?_
            refine tb_eq (tgt := 53) hx hb dX0_in_2_46 (by decide) (fun c46 => ?_) (fun c46 => ?_)
            · skip
              refine lv_iconst (v := nI 0) hx hb dX0_in_2_53 (by decide) ?_
              have hv9 : (nI 0) = (fun _ => ti_Sin I (nI 1) (nI a9) (nI b9) (nI w9)) xf := by rw [ti_Sin, if_neg (by rw [c4, c14]; decide), if_neg (by rw [c24]; decide), hci, hca, hcb, if_pos (hw0.mpr c32), ← show (ti_gr (xi.1 1) (xi.2.1 1) 0 (xi.2.2 1)) = I 1 from hg, c46]; rfl
              refine W.eq (g2 := F0 m 54 ls [.int ((fun _ => ti_Sin I (nI 1) (nI a9) (nI b9) (nI w9)) xf)]) (congrArg (fun z => F0 m 54 ls [.int z]) hv9) ?_
              exact hret _ xf _ _ _ _ (hxf) hP trivial hS (Nat.le_of_ble_eq_true rfl) (Nat.le_of_ble_eq_true rfl) (fun hq hf9 => W.iret hx hb hr hq hf9 dX0_in_2_54 hlk)
            · skip
              refine lv_iconst (v := nI 1) hx hb dX0_in_2_49 (by decide) ?_
              refine lv_goto (tgt := 54) hx hb dX0_in_2_50 (by decide) ?_
              have hv9 : (nI 1) = (fun _ => ti_Sin I (nI 1) (nI a9) (nI b9) (nI w9)) xf := by rw [ti_Sin, if_neg (by rw [c4, c14]; decide), if_neg (by rw [c24]; decide), hci, hca, hcb, if_pos (hw0.mpr c32), ← show (ti_gr (xi.1 1) (xi.2.1 1) 0 (xi.2.2 1)) = I 1 from hg, c46]; rfl
              refine W.eq (g2 := F0 m 54 ls [.int ((fun _ => ti_Sin I (nI 1) (nI a9) (nI b9) (nI w9)) xf)]) (congrArg (fun z => F0 m 54 ls [.int z]) hv9) ?_
              exact hret _ xf _ _ _ _ (hxf) hP trivial hS (Nat.le_of_ble_eq_true rfl) (Nat.le_of_ble_eq_true rfl) (fun hq hf9 => W.iret hx hb hr hq hf9 dX0_in_2_54 hlk)
      · skip
        refine lv_bipush (v := (-2)) hx hb dX0_in_2_27 (by decide) ?_
        have hv9 : ((-2)) = (fun _ => ti_Sin I (nI i) a b (nI w9)) xf := by rw [ti_Sin, if_neg (by rw [c4, c14]; decide), if_pos c24]
        refine W.eq (g2 := F0 m 29 ls [.int ((fun _ => ti_Sin I (nI i) a b (nI w9)) xf)]) (congrArg (fun z => F0 m 29 ls [.int z]) hv9) ?_
        exact hret _ xf _ _ _ _ (hxf) hP trivial hS (Nat.le_of_ble_eq_true rfl) (Nat.le_of_ble_eq_true rfl) (fun hq hf9 => W.iret hx hb hr hq hf9 dX0_in_2_29 hlk)
    · skip
      have c14 : ti_bt w = false := c14
      refine lv_iconst (v := (-1)) hx hb dX0_in_2_17 (by decide) ?_
      have hv9 : ((-1)) = (fun _ => ti_Sin I (nI i) a b w) xf := by rw [ti_Sin, if_pos (by rw [c4, c14]; rfl)]
      refine W.eq (g2 := F0 m 18 ls [.int ((fun _ => ti_Sin I (nI i) a b w) xf)]) (congrArg (fun z => F0 m 18 ls [.int z]) hv9) ?_
      exact hret _ xf _ _ _ _ (hxf) hP trivial hS (Nat.le_of_ble_eq_true rfl) (Nat.le_of_ble_eq_true rfl) (fun hq hf9 => W.iret hx hb hr hq hf9 dX0_in_2_18 hlk)

set_option maxHeartbeats 2000000 in
theorem met_X0_face (l : Launch) (D : va_G) (E : Nat → ClassId) (htr : l.stackTraces = false) (z0 : Nat) (ad dh du dv jh ju jv kh ku kv : Nat → Nat) (tx : Nat) (hi : Bool) (xi : ti_Ti) (xf : ti_Tf) (hxi : ti_Jok xi) (I : Nat → ti_GL) (hJ : ti_JI xi I) (hxf : ti_Fok xf) (hnd : ∀ i, i < 2 → (I i).Nodup) (v j w : Int32) : ti_MetX (σ := ti_Tf) (τ := Unit) l D E yX0_face (wsW_ yX0_face cX0_face 5 (some .int) [(9, 23, 26, 150)]) 7 1 6 z0 (ti_wMJF E ad dh du dv jh ju jv kh ku kv tx hi xi xf) [.ref (ad 0), .int v, .int j, .int w] (fun _ => True) (fun u => ti_wMJF E ad dh du dv jh ju jv kh ku kv tx hi xi u) (fun u => some (.int ((fun _ => ti_Sface I v j w) u))) (fun u => ti_Fok u) (fun _ _ => True) (fun w => RX14) (fun w => 0) (fun w => ti_wMJF E ad dh du dv jh ju jv kh ku kv tx hi xi xf) (fun w => []) (fun w => False) (fun w H => True) := by
  refine ti_metXH (by decide) (Nat.le_of_ble_eq_true rfl) ?_
  intro p e s m below meth c H A Q ls S hE hP hD hS hA hZ hAz hx0 htab hl hret hq
  obtain ⟨hQ, hr, hlk, hinit⟩ := hq
  have hsz0 := hS.1
  have hx := S.1
  have hb := S.2.1
  have hown := S.2.2.2.1
  have hts := S.2.2.2.2
  have hK := hE.1
  have hl : lv_has ls 5 [(0, .ref (ad 0)), (1, .int v), (2, .int j), (3, .int w)] := hl
  refine lv_iload_n hx hb dX0_face_0 rfl (lv_at hl 1 rfl) ?_
  refine ti_pS (As := [.int v]) (rest := []) (v := .int (ti_b (ti_bt v))) S hE hP [] (met_X0_isIdeal l D E v) rfl (lw_S q299 q300 q66 q301) 1 rfl (by decide +kernel) ⟨Nat.le_of_ble_eq_true rfl, Nat.le_of_ble_eq_true rfl⟩ hl.1 rfl (Nat.le_of_ble_eq_true rfl) ⟨Nat.le_of_ble_eq_true rfl, Nat.le_of_ble_eq_true rfl⟩ dX0_face_1 ?_
  refine tb_ne (tgt := 9) hx hb dX0_face_4 (by decide) (fun c4 => ?_) (fun c4 => ?_)
  · skip
    obtain ⟨i, hi2, rfl⟩ := ti_bt_nat c4
    rcases (show i = 0 ∨ i = 1 by omega) with rfl | rfl
    · skip
      have hg := hJ 0 (by decide)
      have hlen := ti_JI_len hJ (show 0 < 2 by decide)
      have h6 := hxi.2.2 0
      have hci : ti_cl (nI 0) = 0 := ti_cl_nI (by decide)
      refine lv_aload_n hx hb dX0_face_9 rfl (lv_at hl 0 rfl) ?_
      refine va_get (v := .ref (ad 5)) hx hb hts in_X0 hown hK hP 0 rfl rfl 2 (by decide) (hts _ q239) (fun _ h => h) rfl dX0_face_10 ?_
      refine lv_aload_n hx hb dX0_face_13 rfl (lv_at hl 0 rfl) ?_
      refine va_get (v := .ref (ad 1)) hx hb hts in_X0 hown hK hP 0 rfl rfl 0 (by decide) (hts _ q237) (fun _ h => h) rfl dX0_face_14 ?_
      refine lv_iload_n hx hb dX0_face_17 rfl (lv_at hl 1 rfl) ?_
      refine tn_aald hx hb hK hP 1 5 rfl rfl (by omega) (by decide) dX0_face_18 ?_
      by_cases hz19 : xi.2.2 0 = 0
      · skip
        refine ti_callX (ty_runV (As := [.ref (jh 0)]) (rest := []) S (met_X2_looks_z l D E htr z0 (ad 5) (ad 6) (ad 7) (ad 8) (ad 9) (ad 10) xf.1 xf.2.1 xf.2.2.1 xf.2.2.2.1 xf.2.2.2.2.1 xf.2.2.2.2.2.1 xf.2.2.2.2.2.2.1 xf.2.2.2.2.2.2.2.1 xf.2.2.2.2.2.2.2.2.1 xf.2.2.2.2.2.2.2.2.2 (jh 0) (ju 0) (jv 0) (xi.1 0) (xi.2.1 0) (xi.2.2 0) hz19 H.size) (cwV 1 S.2.2.2.2 (lw_V q357 q358 q359 q68 q360) rfl rfl rfl (by decide +kernel) ⟨Nat.le_of_ble_eq_true rfl, Nat.le_of_ble_eq_true rfl⟩) (ti_preXV (xp := fun _ => True) hE hP hD hS rfl hZ hAz trivial [8, 9, 10, 11, 12, 13, 2, 3, 4] rfl rfl 8 rfl rfl) rfl rfl hl.1 rfl (lv_room (Nat.le_of_ble_eq_true rfl)) dX0_face_19 ⟨Nat.le_of_ble_eq_true rfl, Nat.le_of_ble_eq_true rfl⟩) hP hD hS hA [8, 9, 10, 11, 12, 13, 2, 3, 4] rfl (fun _ => rfl) (fun _ => rfl) (fun _ _ _ h9 => absurd h9 id) (fun we H locs ce hpx hxx hFr hP hD hPe hnew hS hce hcv hcl => ?_)
        have hP : va_P D vwCl (ti_wMJF E ad dh du dv jh ju jv kh ku kv tx hi xi xf) H := ti_asP hP [.inl 0, .inl 1, .inr 6, .inr 7, .inr 8, .inl 5, .inl 6, .inl 7, .inr 0, .inr 1, .inr 2, .inr 3, .inr 4, .inr 5] rfl rfl rfl rfl
        have hD : va_D A (ti_wMJF E ad dh du dv jh ju jv kh ku kv tx hi xi xf) := ti_asD hD [.inl 0, .inl 1, .inr 6, .inr 7, .inr 8, .inl 5, .inl 6, .inl 7, .inr 0, .inr 1, .inr 2, .inr 3, .inr 4, .inr 5] rfl rfl rfl rfl
        refine vx_catch hown [] ⟨9, 23, 26, 150⟩ [] htab (fun z hz => absurd hz List.not_mem_nil) rfl (by decide) (hts _ q356) (hE.use q363 rfl rfl) hce hcv hcl ?_
        refine lv_astore (lv' := [(4, .ref we.1), (0, .ref (ad 0)), (1, .int (nI 0)), (2, .int j), (3, .int w)]) hx hb dX0_face_26 hl (by decide) rfl (fun ls hl => ?_)
        refine lv_bipush (v := (-3)) hx hb dX0_face_28 (by decide) ?_
        have hv9 : ((-3)) = (fun _ => ti_Sface I (nI 0) j w) xf := by rw [ti_Sface, if_neg (by rw [c4]; decide), hci, if_pos (by rw [hlen]; exact hz19)]
        refine W.eq (g2 := F0 m 30 ls [.int ((fun _ => ti_Sface I (nI 0) j w) xf)]) (congrArg (fun z => F0 m 30 ls [.int z]) hv9) ?_
        exact hret _ xf _ _ _ _ (hxf) hP trivial hS (Nat.le_of_ble_eq_true rfl) (Nat.le_of_ble_eq_true rfl) (fun hq hf9 => W.iret hx hb hr hq hf9 dX0_face_30 hlk)
      · skip
        have hz1 : 0 < xi.2.2 0 := Nat.pos_of_ne_zero hz19
        have hnd9 : (ti_gr (xi.1 0) (xi.2.1 0) 0 (xi.2.2 0)).Nodup := by have h9 := hnd 0 (by decide); rw [← hJ 0 (by decide)] at h9; exact h9
        have hN9 : ti_r2 (ti_gr (xi.1 0) (xi.2.1 0) 0 (xi.2.2 0)) 9999 (List.range' 1 9) ≤ 6 := Nat.le_trans (ti_r2_le hnd9 9999) (by rw [ti_gr_len]; exact (hxi.2.2 0))
        refine ti_mV (As := [.ref (jh 0)]) (rest := []) S hE hP hD hS hA [8, 9, 10, 11, 12, 13, 2, 3, 4] rfl (met_X2_looks l D E (ad 5) (ad 6) (ad 7) (ad 8) (ad 9) (ad 10) xf.1 xf.2.1 xf.2.2.1 xf.2.2.2.1 xf.2.2.2.2.1 xf.2.2.2.2.2.1 xf.2.2.2.2.2.2.1 xf.2.2.2.2.2.2.2.1 xf.2.2.2.2.2.2.2.2.1 xf.2.2.2.2.2.2.2.2.2 (jh 0) (ju 0) (jv 0) (xi.1 0) (xi.2.1 0) (xi.2.2 0) (hxi.2.2 0) (hxi.1 0) (hxi.2.1 0) hxf.1 hxf.2.1 hxf.2.2.1 hxf.2.2.2.1 hz1 hN9) rfl (fun _ => rfl) (lw_V q357 q358 q359 q68 q360) 1 rfl 8 rfl rfl (by decide +kernel) ⟨Nat.le_of_ble_eq_true rfl, Nat.le_of_ble_eq_true rfl⟩ hl.1 rfl (Nat.le_of_ble_eq_true rfl) ⟨Nat.le_of_ble_eq_true rfl, Nat.le_of_ble_eq_true rfl⟩ dX0_face_19 (fun u1 H locs hu hP hD hS => ?_)
        obtain ⟨hF1, hF2, hF3, hF4, hF5⟩ := hu
        have hFF : ti_fr u1.1 u1.2.1 u1.2.2.1 0 u1.2.2.2 = ti_FF (ti_gr (xi.1 0) (xi.2.1 0) 0 (xi.2.2 0)) := by rw [hF1]; exact ti_fxm (by rw [ti_gr_len]; exact hz1) (ti_gr_9 (hxi.1 0) (hxi.2.1 0) 0 _)
        have hFo : ti_Fok (Value.ref (jh 0), u1.1, u1.2.1, u1.2.2.1, u1.2.2.2, xf.2.2.2.2.2.1, xf.2.2.2.2.2.2.1, xf.2.2.2.2.2.2.2.1, xf.2.2.2.2.2.2.2.2.1, xf.2.2.2.2.2.2.2.2.2) := ⟨hF2, hF3, hF4, hF5, hxf.2.2.2.2⟩
        have hP : va_P D vwCl (ti_wMJF E ad dh du dv jh ju jv kh ku kv tx hi xi (Value.ref (jh 0), u1.1, u1.2.1, u1.2.2.1, u1.2.2.2, xf.2.2.2.2.2.1, xf.2.2.2.2.2.2.1, xf.2.2.2.2.2.2.2.1, xf.2.2.2.2.2.2.2.2.1, xf.2.2.2.2.2.2.2.2.2)) H := ti_asP hP [.inl 0, .inl 1, .inr 6, .inr 7, .inr 8, .inl 5, .inl 6, .inl 7, .inr 0, .inr 1, .inr 2, .inr 3, .inr 4, .inr 5] rfl rfl rfl rfl
        have hD : va_D A (ti_wMJF E ad dh du dv jh ju jv kh ku kv tx hi xi (Value.ref (jh 0), u1.1, u1.2.1, u1.2.2.1, u1.2.2.2, xf.2.2.2.2.2.1, xf.2.2.2.2.2.2.1, xf.2.2.2.2.2.2.2.1, xf.2.2.2.2.2.2.2.2.1, xf.2.2.2.2.2.2.2.2.2)) := ti_asD hD [.inl 0, .inl 1, .inr 6, .inr 7, .inr 8, .inl 5, .inl 6, .inl 7, .inr 0, .inr 1, .inr 2, .inr 3, .inr 4, .inr 5] rfl rfl rfl rfl
        refine W.eq (g2 := F0 m 22 ls [.ref (ad 5)]) rfl ?_
        refine lv_pop hx hb dX0_face_22 rfl ?_
        refine lv_goto (tgt := 31) hx hb dX0_face_23 (by decide) ?_
        refine lv_iload_n hx hb dX0_face_31 rfl (lv_at hl 2 rfl) ?_
        refine lv_iconst (v := nI 0) hx hb dX0_face_32 (by decide) ?_
        refine lv_aload_n hx hb dX0_face_33 rfl (lv_at hl 0 rfl) ?_
        refine va_get (v := .ref (ad 5)) hx hb hts in_X0 hown hK hP 0 rfl rfl 2 (by decide) (hts _ q239) (fun _ h => h) rfl dX0_face_34 ?_
        refine va_getN (v := .int (nI u1.2.2.2)) hx hb hts in_X2 hown hK hP 8 rfl rfl 4 (by decide) (hE.use q140 rfl rfl) (fun _ h => h) rfl dX0_face_37 ?_
        refine lv_iconst (v := nI 1) hx hb dX0_face_40 (by decide) ?_
        refine lv_isub hx hb dX0_face_41 ?_
        refine ti_pS (As := [.int j, .int (nI 0), .int ((nI u1.2.2.2) - (nI 1))]) (rest := []) (v := .int (ti_b (ti_in j (nI 0) (((nI u1.2.2.2) - (nI 1)))))) S hE hP [] (met_X0_in l D E j (nI 0) (((nI u1.2.2.2) - (nI 1)))) rfl (lw_S q302 q303 q66 q304) 3 rfl (by decide +kernel) ⟨Nat.le_of_ble_eq_true rfl, Nat.le_of_ble_eq_true rfl⟩ hl.1 rfl (Nat.le_of_ble_eq_true rfl) ⟨Nat.le_of_ble_eq_true rfl, Nat.le_of_ble_eq_true rfl⟩ dX0_face_42 ?_
        refine tb_ne (tgt := 50) hx hb dX0_face_45 (by decide) (fun c45 => ?_) (fun c45 => ?_)
        · skip
          have hf8 := hFo.1
          rw [ti_in_lt (by omega)] at c45
          obtain ⟨j9, hj9, rfl⟩ := ti_lt_nat c45
          have hcj : ti_cl (nI j9) = j9 := ti_cl_nI (by omega)
          have hfd : (ti_FF (I 0)).getD j9 (0, 0, 0) = (u1.1 j9, u1.2.1 j9, u1.2.2.1 j9) := by rw [← show (ti_gr (xi.1 0) (xi.2.1 0) 0 (xi.2.2 0)) = I 0 from hg, ← hFF]; exact ti_fr_getD hj9
          have hc45 : ti_lt (nI j9) (ti_FF (I 0)).length = true := by rw [← show (ti_gr (xi.1 0) (xi.2.1 0) 0 (xi.2.2 0)) = I 0 from hg, ← hFF, ti_fr_len]; exact c45
          refine lv_iload_n hx hb dX0_face_50 rfl (lv_at hl 3 rfl) ?_
          by_cases sw51_0 : w = 0
          · subst sw51_0
            refine lv_tableIn (off := 25) (tgt := 76) hx hb dX0_face_51 (by decide) (by decide) rfl (by decide) ?_
            refine lv_aload_n hx hb dX0_face_76 rfl (lv_at hl 0 rfl) ?_
            refine va_get (v := .ref (ad 5)) hx hb hts in_X0 hown hK hP 0 rfl rfl 2 (by decide) (hts _ q239) (fun _ h => h) rfl dX0_face_77 ?_
            refine va_getN (v := .ref (ad 6)) hx hb hts in_X2 hown hK hP 8 rfl rfl 1 (by decide) (hE.use q134 rfl rfl) (fun _ h => h) rfl dX0_face_80 ?_
            refine lv_iload_n hx hb dX0_face_83 rfl (lv_at hl 2 rfl) ?_
            refine tn_iald (f := u1.1) hx hb hK hP 9 0 rfl rfl (by omega) (by decide) dX0_face_84 ?_
            have b84 := hFo.2.1 j9
            have hv9 : (nI (u1.1 j9)) = (fun _ => ti_Sface I (nI 0) (nI j9) 0) ((Value.ref (jh 0), u1.1, u1.2.1, u1.2.2.1, u1.2.2.2, xf.2.2.2.2.2.1, xf.2.2.2.2.2.2.1, xf.2.2.2.2.2.2.2.1, xf.2.2.2.2.2.2.2.2.1, xf.2.2.2.2.2.2.2.2.2)) := by rw [ti_Sface, if_neg (by rw [c4]; decide), hci, if_neg (by rw [hlen]; exact hz19), if_neg (by rw [hc45]; decide), hcj, hfd, if_pos rfl]
            refine W.eq (g2 := F0 m 85 ls [.int ((fun _ => ti_Sface I (nI 0) (nI j9) 0) ((Value.ref (jh 0), u1.1, u1.2.1, u1.2.2.1, u1.2.2.2, xf.2.2.2.2.2.1, xf.2.2.2.2.2.2.1, xf.2.2.2.2.2.2.2.1, xf.2.2.2.2.2.2.2.2.1, xf.2.2.2.2.2.2.2.2.2)))]) (congrArg (fun z => F0 m 85 ls [.int z]) hv9) ?_
            exact hret _ ((Value.ref (jh 0), u1.1, u1.2.1, u1.2.2.1, u1.2.2.2, xf.2.2.2.2.2.1, xf.2.2.2.2.2.2.1, xf.2.2.2.2.2.2.2.1, xf.2.2.2.2.2.2.2.2.1, xf.2.2.2.2.2.2.2.2.2)) _ _ _ _ (hFo) hP trivial hS (Nat.le_of_ble_eq_true rfl) (Nat.le_of_ble_eq_true rfl) (fun hq hf9 => W.iret hx hb hr hq hf9 dX0_face_85 hlk)
          · skip
            by_cases sw51_1 : w = 1
            · subst sw51_1
              refine lv_tableIn (off := 35) (tgt := 86) hx hb dX0_face_51 (by decide) (by decide) rfl (by decide) ?_
              refine lv_aload_n hx hb dX0_face_86 rfl (lv_at hl 0 rfl) ?_
              refine va_get (v := .ref (ad 5)) hx hb hts in_X0 hown hK hP 0 rfl rfl 2 (by decide) (hts _ q239) (fun _ h => h) rfl dX0_face_87 ?_
              refine va_getN (v := .ref (ad 7)) hx hb hts in_X2 hown hK hP 8 rfl rfl 2 (by decide) (hE.use q136 rfl rfl) (fun _ h => h) rfl dX0_face_90 ?_
              refine lv_iload_n hx hb dX0_face_93 rfl (lv_at hl 2 rfl) ?_
              refine tn_iald (f := u1.2.1) hx hb hK hP 10 0 rfl rfl (by omega) (by decide) dX0_face_94 ?_
              have b94 := hFo.2.2.1 j9
              have hv9 : (nI (u1.2.1 j9)) = (fun _ => ti_Sface I (nI 0) (nI j9) 1) ((Value.ref (jh 0), u1.1, u1.2.1, u1.2.2.1, u1.2.2.2, xf.2.2.2.2.2.1, xf.2.2.2.2.2.2.1, xf.2.2.2.2.2.2.2.1, xf.2.2.2.2.2.2.2.2.1, xf.2.2.2.2.2.2.2.2.2)) := by rw [ti_Sface, if_neg (by rw [c4]; decide), hci, if_neg (by rw [hlen]; exact hz19), if_neg (by rw [hc45]; decide), hcj, hfd, if_neg (by decide), if_pos rfl]
              refine W.eq (g2 := F0 m 95 ls [.int ((fun _ => ti_Sface I (nI 0) (nI j9) 1) ((Value.ref (jh 0), u1.1, u1.2.1, u1.2.2.1, u1.2.2.2, xf.2.2.2.2.2.1, xf.2.2.2.2.2.2.1, xf.2.2.2.2.2.2.2.1, xf.2.2.2.2.2.2.2.2.1, xf.2.2.2.2.2.2.2.2.2)))]) (congrArg (fun z => F0 m 95 ls [.int z]) hv9) ?_
              exact hret _ ((Value.ref (jh 0), u1.1, u1.2.1, u1.2.2.1, u1.2.2.2, xf.2.2.2.2.2.1, xf.2.2.2.2.2.2.1, xf.2.2.2.2.2.2.2.1, xf.2.2.2.2.2.2.2.2.1, xf.2.2.2.2.2.2.2.2.2)) _ _ _ _ (hFo) hP trivial hS (Nat.le_of_ble_eq_true rfl) (Nat.le_of_ble_eq_true rfl) (fun hq hf9 => W.iret hx hb hr hq hf9 dX0_face_95 hlk)
            · skip
              by_cases sw51_2 : w = 2
              · subst sw51_2
                refine lv_tableIn (off := 45) (tgt := 96) hx hb dX0_face_51 (by decide) (by decide) rfl (by decide) ?_
                refine lv_aload_n hx hb dX0_face_96 rfl (lv_at hl 0 rfl) ?_
                refine va_get (v := .ref (ad 5)) hx hb hts in_X0 hown hK hP 0 rfl rfl 2 (by decide) (hts _ q239) (fun _ h => h) rfl dX0_face_97 ?_
                refine va_getN (v := .ref (ad 8)) hx hb hts in_X2 hown hK hP 8 rfl rfl 3 (by decide) (hE.use q138 rfl rfl) (fun _ h => h) rfl dX0_face_100 ?_
                refine lv_iload_n hx hb dX0_face_103 rfl (lv_at hl 2 rfl) ?_
                refine tn_iald (f := u1.2.2.1) hx hb hK hP 11 0 rfl rfl (by omega) (by decide) dX0_face_104 ?_
                have b104 := hFo.2.2.2.1 j9
                have hv9 : (nI (u1.2.2.1 j9)) = (fun _ => ti_Sface I (nI 0) (nI j9) 2) ((Value.ref (jh 0), u1.1, u1.2.1, u1.2.2.1, u1.2.2.2, xf.2.2.2.2.2.1, xf.2.2.2.2.2.2.1, xf.2.2.2.2.2.2.2.1, xf.2.2.2.2.2.2.2.2.1, xf.2.2.2.2.2.2.2.2.2)) := by rw [ti_Sface, if_neg (by rw [c4]; decide), hci, if_neg (by rw [hlen]; exact hz19), if_neg (by rw [hc45]; decide), hcj, hfd, if_neg (by decide), if_neg (by decide), if_pos rfl]
                refine W.eq (g2 := F0 m 105 ls [.int ((fun _ => ti_Sface I (nI 0) (nI j9) 2) ((Value.ref (jh 0), u1.1, u1.2.1, u1.2.2.1, u1.2.2.2, xf.2.2.2.2.2.1, xf.2.2.2.2.2.2.1, xf.2.2.2.2.2.2.2.1, xf.2.2.2.2.2.2.2.2.1, xf.2.2.2.2.2.2.2.2.2)))]) (congrArg (fun z => F0 m 105 ls [.int z]) hv9) ?_
                exact hret _ ((Value.ref (jh 0), u1.1, u1.2.1, u1.2.2.1, u1.2.2.2, xf.2.2.2.2.2.1, xf.2.2.2.2.2.2.1, xf.2.2.2.2.2.2.2.1, xf.2.2.2.2.2.2.2.2.1, xf.2.2.2.2.2.2.2.2.2)) _ _ _ _ (hFo) hP trivial hS (Nat.le_of_ble_eq_true rfl) (Nat.le_of_ble_eq_true rfl) (fun hq hf9 => W.iret hx hb hr hq hf9 dX0_face_105 hlk)
              · skip
                refine lv_tableOut (tgt := 106) hx hb dX0_face_51 (Classical.byContradiction fun z => by
                    have z1 : w.toInt = 0 ∨ w.toInt = 1 ∨ w.toInt = 2 := by omega
                    rcases z1 with z2 | z2 | z2
                    · exact sw51_0 (Int32.toInt_inj.mp z2)
                    · exact sw51_1 (Int32.toInt_inj.mp z2)
                    · exact sw51_2 (Int32.toInt_inj.mp z2)) (by decide) ?_
                refine lv_iconst (v := (-1)) hx hb dX0_face_106 (by decide) ?_
                have hv9 : ((-1)) = (fun _ => ti_Sface I (nI 0) (nI j9) w) ((Value.ref (jh 0), u1.1, u1.2.1, u1.2.2.1, u1.2.2.2, xf.2.2.2.2.2.1, xf.2.2.2.2.2.2.1, xf.2.2.2.2.2.2.2.1, xf.2.2.2.2.2.2.2.2.1, xf.2.2.2.2.2.2.2.2.2)) := by rw [ti_Sface, if_neg (by rw [c4]; decide), hci, if_neg (by rw [hlen]; exact hz19), if_neg (by rw [hc45]; decide), hcj, hfd, if_neg sw51_0, if_neg sw51_1, if_neg sw51_2]
                refine W.eq (g2 := F0 m 107 ls [.int ((fun _ => ti_Sface I (nI 0) (nI j9) w) ((Value.ref (jh 0), u1.1, u1.2.1, u1.2.2.1, u1.2.2.2, xf.2.2.2.2.2.1, xf.2.2.2.2.2.2.1, xf.2.2.2.2.2.2.2.1, xf.2.2.2.2.2.2.2.2.1, xf.2.2.2.2.2.2.2.2.2)))]) (congrArg (fun z => F0 m 107 ls [.int z]) hv9) ?_
                exact hret _ ((Value.ref (jh 0), u1.1, u1.2.1, u1.2.2.1, u1.2.2.2, xf.2.2.2.2.2.1, xf.2.2.2.2.2.2.1, xf.2.2.2.2.2.2.2.1, xf.2.2.2.2.2.2.2.2.1, xf.2.2.2.2.2.2.2.2.2)) _ _ _ _ (hFo) hP trivial hS (Nat.le_of_ble_eq_true rfl) (Nat.le_of_ble_eq_true rfl) (fun hq hf9 => W.iret hx hb hr hq hf9 dX0_face_107 hlk)
        · skip
          have hf8 := hFo.1
          rw [ti_in_lt (by omega)] at c45
          have hc45 : ti_lt j (ti_FF (I 0)).length = false := by rw [← show (ti_gr (xi.1 0) (xi.2.1 0) 0 (xi.2.2 0)) = I 0 from hg, ← hFF, ti_fr_len]; exact c45
          refine lv_iconst (v := (-1)) hx hb dX0_face_48 (by decide) ?_
          have hv9 : ((-1)) = (fun _ => ti_Sface I (nI 0) j w) ((Value.ref (jh 0), u1.1, u1.2.1, u1.2.2.1, u1.2.2.2, xf.2.2.2.2.2.1, xf.2.2.2.2.2.2.1, xf.2.2.2.2.2.2.2.1, xf.2.2.2.2.2.2.2.2.1, xf.2.2.2.2.2.2.2.2.2)) := by rw [ti_Sface, if_neg (by rw [c4]; decide), hci, if_neg (by rw [hlen]; exact hz19), if_pos hc45]
          refine W.eq (g2 := F0 m 49 ls [.int ((fun _ => ti_Sface I (nI 0) j w) ((Value.ref (jh 0), u1.1, u1.2.1, u1.2.2.1, u1.2.2.2, xf.2.2.2.2.2.1, xf.2.2.2.2.2.2.1, xf.2.2.2.2.2.2.2.1, xf.2.2.2.2.2.2.2.2.1, xf.2.2.2.2.2.2.2.2.2)))]) (congrArg (fun z => F0 m 49 ls [.int z]) hv9) ?_
          exact hret _ ((Value.ref (jh 0), u1.1, u1.2.1, u1.2.2.1, u1.2.2.2, xf.2.2.2.2.2.1, xf.2.2.2.2.2.2.1, xf.2.2.2.2.2.2.2.1, xf.2.2.2.2.2.2.2.2.1, xf.2.2.2.2.2.2.2.2.2)) _ _ _ _ (hFo) hP trivial hS (Nat.le_of_ble_eq_true rfl) (Nat.le_of_ble_eq_true rfl) (fun hq hf9 => W.iret hx hb hr hq hf9 dX0_face_49 hlk)
    · skip
      have hg := hJ 1 (by decide)
      have hlen := ti_JI_len hJ (show 1 < 2 by decide)
      have h6 := hxi.2.2 1
      have hci : ti_cl (nI 1) = 1 := ti_cl_nI (by decide)
      refine lv_aload_n hx hb dX0_face_9 rfl (lv_at hl 0 rfl) ?_
      refine va_get (v := .ref (ad 5)) hx hb hts in_X0 hown hK hP 0 rfl rfl 2 (by decide) (hts _ q239) (fun _ h => h) rfl dX0_face_10 ?_
      refine lv_aload_n hx hb dX0_face_13 rfl (lv_at hl 0 rfl) ?_
      refine va_get (v := .ref (ad 1)) hx hb hts in_X0 hown hK hP 0 rfl rfl 0 (by decide) (hts _ q237) (fun _ h => h) rfl dX0_face_14 ?_
      refine lv_iload_n hx hb dX0_face_17 rfl (lv_at hl 1 rfl) ?_
      refine tn_aald hx hb hK hP 1 5 rfl rfl (by omega) (by decide) dX0_face_18 ?_
      by_cases hz19 : xi.2.2 1 = 0
      · skip
        refine ti_callX (ty_runV (As := [.ref (jh 1)]) (rest := []) S (met_X2_looks_z l D E htr z0 (ad 5) (ad 6) (ad 7) (ad 8) (ad 9) (ad 10) xf.1 xf.2.1 xf.2.2.1 xf.2.2.2.1 xf.2.2.2.2.1 xf.2.2.2.2.2.1 xf.2.2.2.2.2.2.1 xf.2.2.2.2.2.2.2.1 xf.2.2.2.2.2.2.2.2.1 xf.2.2.2.2.2.2.2.2.2 (jh 1) (ju 1) (jv 1) (xi.1 1) (xi.2.1 1) (xi.2.2 1) hz19 H.size) (cwV 1 S.2.2.2.2 (lw_V q357 q358 q359 q68 q360) rfl rfl rfl (by decide +kernel) ⟨Nat.le_of_ble_eq_true rfl, Nat.le_of_ble_eq_true rfl⟩) (ti_preXV (xp := fun _ => True) hE hP hD hS rfl hZ hAz trivial [8, 9, 10, 11, 12, 13, 5, 6, 7] rfl rfl 8 rfl rfl) rfl rfl hl.1 rfl (lv_room (Nat.le_of_ble_eq_true rfl)) dX0_face_19 ⟨Nat.le_of_ble_eq_true rfl, Nat.le_of_ble_eq_true rfl⟩) hP hD hS hA [8, 9, 10, 11, 12, 13, 5, 6, 7] rfl (fun _ => rfl) (fun _ => rfl) (fun _ _ _ h9 => absurd h9 id) (fun we H locs ce hpx hxx hFr hP hD hPe hnew hS hce hcv hcl => ?_)
        have hP : va_P D vwCl (ti_wMJF E ad dh du dv jh ju jv kh ku kv tx hi xi xf) H := ti_asP hP [.inl 0, .inl 1, .inl 2, .inl 3, .inl 4, .inr 6, .inr 7, .inr 8, .inr 0, .inr 1, .inr 2, .inr 3, .inr 4, .inr 5] rfl rfl rfl rfl
        have hD : va_D A (ti_wMJF E ad dh du dv jh ju jv kh ku kv tx hi xi xf) := ti_asD hD [.inl 0, .inl 1, .inl 2, .inl 3, .inl 4, .inr 6, .inr 7, .inr 8, .inr 0, .inr 1, .inr 2, .inr 3, .inr 4, .inr 5] rfl rfl rfl rfl
        refine vx_catch hown [] ⟨9, 23, 26, 150⟩ [] htab (fun z hz => absurd hz List.not_mem_nil) rfl (by decide) (hts _ q356) (hE.use q363 rfl rfl) hce hcv hcl ?_
        refine lv_astore (lv' := [(4, .ref we.1), (0, .ref (ad 0)), (1, .int (nI 1)), (2, .int j), (3, .int w)]) hx hb dX0_face_26 hl (by decide) rfl (fun ls hl => ?_)
        refine lv_bipush (v := (-3)) hx hb dX0_face_28 (by decide) ?_
        have hv9 : ((-3)) = (fun _ => ti_Sface I (nI 1) j w) xf := by rw [ti_Sface, if_neg (by rw [c4]; decide), hci, if_pos (by rw [hlen]; exact hz19)]
        refine W.eq (g2 := F0 m 30 ls [.int ((fun _ => ti_Sface I (nI 1) j w) xf)]) (congrArg (fun z => F0 m 30 ls [.int z]) hv9) ?_
        exact hret _ xf _ _ _ _ (hxf) hP trivial hS (Nat.le_of_ble_eq_true rfl) (Nat.le_of_ble_eq_true rfl) (fun hq hf9 => W.iret hx hb hr hq hf9 dX0_face_30 hlk)
      · skip
        have hz1 : 0 < xi.2.2 1 := Nat.pos_of_ne_zero hz19
        have hnd9 : (ti_gr (xi.1 1) (xi.2.1 1) 0 (xi.2.2 1)).Nodup := by have h9 := hnd 1 (by decide); rw [← hJ 1 (by decide)] at h9; exact h9
        have hN9 : ti_r2 (ti_gr (xi.1 1) (xi.2.1 1) 0 (xi.2.2 1)) 9999 (List.range' 1 9) ≤ 6 := Nat.le_trans (ti_r2_le hnd9 9999) (by rw [ti_gr_len]; exact (hxi.2.2 1))
        refine ti_mV (As := [.ref (jh 1)]) (rest := []) S hE hP hD hS hA [8, 9, 10, 11, 12, 13, 5, 6, 7] rfl (met_X2_looks l D E (ad 5) (ad 6) (ad 7) (ad 8) (ad 9) (ad 10) xf.1 xf.2.1 xf.2.2.1 xf.2.2.2.1 xf.2.2.2.2.1 xf.2.2.2.2.2.1 xf.2.2.2.2.2.2.1 xf.2.2.2.2.2.2.2.1 xf.2.2.2.2.2.2.2.2.1 xf.2.2.2.2.2.2.2.2.2 (jh 1) (ju 1) (jv 1) (xi.1 1) (xi.2.1 1) (xi.2.2 1) (hxi.2.2 1) (hxi.1 1) (hxi.2.1 1) hxf.1 hxf.2.1 hxf.2.2.1 hxf.2.2.2.1 hz1 hN9) rfl (fun _ => rfl) (lw_V q357 q358 q359 q68 q360) 1 rfl 8 rfl rfl (by decide +kernel) ⟨Nat.le_of_ble_eq_true rfl, Nat.le_of_ble_eq_true rfl⟩ hl.1 rfl (Nat.le_of_ble_eq_true rfl) ⟨Nat.le_of_ble_eq_true rfl, Nat.le_of_ble_eq_true rfl⟩ dX0_face_19 (fun u1 H locs hu hP hD hS => ?_)
        obtain ⟨hF1, hF2, hF3, hF4, hF5⟩ := hu
        have hFF : ti_fr u1.1 u1.2.1 u1.2.2.1 0 u1.2.2.2 = ti_FF (ti_gr (xi.1 1) (xi.2.1 1) 0 (xi.2.2 1)) := by rw [hF1]; exact ti_fxm (by rw [ti_gr_len]; exact hz1) (ti_gr_9 (hxi.1 1) (hxi.2.1 1) 0 _)
        have hFo : ti_Fok (Value.ref (jh 1), u1.1, u1.2.1, u1.2.2.1, u1.2.2.2, xf.2.2.2.2.2.1, xf.2.2.2.2.2.2.1, xf.2.2.2.2.2.2.2.1, xf.2.2.2.2.2.2.2.2.1, xf.2.2.2.2.2.2.2.2.2) := ⟨hF2, hF3, hF4, hF5, hxf.2.2.2.2⟩
        have hP : va_P D vwCl (ti_wMJF E ad dh du dv jh ju jv kh ku kv tx hi xi (Value.ref (jh 1), u1.1, u1.2.1, u1.2.2.1, u1.2.2.2, xf.2.2.2.2.2.1, xf.2.2.2.2.2.2.1, xf.2.2.2.2.2.2.2.1, xf.2.2.2.2.2.2.2.2.1, xf.2.2.2.2.2.2.2.2.2)) H := ti_asP hP [.inl 0, .inl 1, .inl 2, .inl 3, .inl 4, .inr 6, .inr 7, .inr 8, .inr 0, .inr 1, .inr 2, .inr 3, .inr 4, .inr 5] rfl rfl rfl rfl
        have hD : va_D A (ti_wMJF E ad dh du dv jh ju jv kh ku kv tx hi xi (Value.ref (jh 1), u1.1, u1.2.1, u1.2.2.1, u1.2.2.2, xf.2.2.2.2.2.1, xf.2.2.2.2.2.2.1, xf.2.2.2.2.2.2.2.1, xf.2.2.2.2.2.2.2.2.1, xf.2.2.2.2.2.2.2.2.2)) := ti_asD hD [.inl 0, .inl 1, .inl 2, .inl 3, .inl 4, .inr 6, .inr 7, .inr 8, .inr 0, .inr 1, .inr 2, .inr 3, .inr 4, .inr 5] rfl rfl rfl rfl
        refine W.eq (g2 := F0 m 22 ls [.ref (ad 5)]) rfl ?_
        refine lv_pop hx hb dX0_face_22 rfl ?_
        refine lv_goto (tgt := 31) hx hb dX0_face_23 (by decide) ?_
        refine lv_iload_n hx hb dX0_face_31 rfl (lv_at hl 2 rfl) ?_
        refine lv_iconst (v := nI 0) hx hb dX0_face_32 (by decide) ?_
        refine lv_aload_n hx hb dX0_face_33 rfl (lv_at hl 0 rfl) ?_
        refine va_get (v := .ref (ad 5)) hx hb hts in_X0 hown hK hP 0 rfl rfl 2 (by decide) (hts _ q239) (fun _ h => h) rfl dX0_face_34 ?_
        refine va_getN (v := .int (nI u1.2.2.2)) hx hb hts in_X2 hown hK hP 8 rfl rfl 4 (by decide) (hE.use q140 rfl rfl) (fun _ h => h) rfl dX0_face_37 ?_
        refine lv_iconst (v := nI 1) hx hb dX0_face_40 (by decide) ?_
        refine lv_isub hx hb dX0_face_41 ?_
        refine ti_pS (As := [.int j, .int (nI 0), .int ((nI u1.2.2.2) - (nI 1))]) (rest := []) (v := .int (ti_b (ti_in j (nI 0) (((nI u1.2.2.2) - (nI 1)))))) S hE hP [] (met_X0_in l D E j (nI 0) (((nI u1.2.2.2) - (nI 1)))) rfl (lw_S q302 q303 q66 q304) 3 rfl (by decide +kernel) ⟨Nat.le_of_ble_eq_true rfl, Nat.le_of_ble_eq_true rfl⟩ hl.1 rfl (Nat.le_of_ble_eq_true rfl) ⟨Nat.le_of_ble_eq_true rfl, Nat.le_of_ble_eq_true rfl⟩ dX0_face_42 ?_
        refine tb_ne (tgt := 50) hx hb dX0_face_45 (by decide) (fun c45 => ?_) (fun c45 => ?_)
        · skip
          have hf8 := hFo.1
          rw [ti_in_lt (by omega)] at c45
          obtain ⟨j9, hj9, rfl⟩ := ti_lt_nat c45
          have hcj : ti_cl (nI j9) = j9 := ti_cl_nI (by omega)
          have hfd : (ti_FF (I 1)).getD j9 (0, 0, 0) = (u1.1 j9, u1.2.1 j9, u1.2.2.1 j9) := by rw [← show (ti_gr (xi.1 1) (xi.2.1 1) 0 (xi.2.2 1)) = I 1 from hg, ← hFF]; exact ti_fr_getD hj9
          have hc45 : ti_lt (nI j9) (ti_FF (I 1)).length = true := by rw [← show (ti_gr (xi.1 1) (xi.2.1 1) 0 (xi.2.2 1)) = I 1 from hg, ← hFF, ti_fr_len]; exact c45
          refine lv_iload_n hx hb dX0_face_50 rfl (lv_at hl 3 rfl) ?_
          by_cases sw51_0 : w = 0
          · subst sw51_0
            refine lv_tableIn (off := 25) (tgt := 76) hx hb dX0_face_51 (by decide) (by decide) rfl (by decide) ?_
            refine lv_aload_n hx hb dX0_face_76 rfl (lv_at hl 0 rfl) ?_
            refine va_get (v := .ref (ad 5)) hx hb hts in_X0 hown hK hP 0 rfl rfl 2 (by decide) (hts _ q239) (fun _ h => h) rfl dX0_face_77 ?_
            refine va_getN (v := .ref (ad 6)) hx hb hts in_X2 hown hK hP 8 rfl rfl 1 (by decide) (hE.use q134 rfl rfl) (fun _ h => h) rfl dX0_face_80 ?_
            refine lv_iload_n hx hb dX0_face_83 rfl (lv_at hl 2 rfl) ?_
            refine tn_iald (f := u1.1) hx hb hK hP 9 0 rfl rfl (by omega) (by decide) dX0_face_84 ?_
            have b84 := hFo.2.1 j9
            have hv9 : (nI (u1.1 j9)) = (fun _ => ti_Sface I (nI 1) (nI j9) 0) ((Value.ref (jh 1), u1.1, u1.2.1, u1.2.2.1, u1.2.2.2, xf.2.2.2.2.2.1, xf.2.2.2.2.2.2.1, xf.2.2.2.2.2.2.2.1, xf.2.2.2.2.2.2.2.2.1, xf.2.2.2.2.2.2.2.2.2)) := by rw [ti_Sface, if_neg (by rw [c4]; decide), hci, if_neg (by rw [hlen]; exact hz19), if_neg (by rw [hc45]; decide), hcj, hfd, if_pos rfl]
            refine W.eq (g2 := F0 m 85 ls [.int ((fun _ => ti_Sface I (nI 1) (nI j9) 0) ((Value.ref (jh 1), u1.1, u1.2.1, u1.2.2.1, u1.2.2.2, xf.2.2.2.2.2.1, xf.2.2.2.2.2.2.1, xf.2.2.2.2.2.2.2.1, xf.2.2.2.2.2.2.2.2.1, xf.2.2.2.2.2.2.2.2.2)))]) (congrArg (fun z => F0 m 85 ls [.int z]) hv9) ?_
            exact hret _ ((Value.ref (jh 1), u1.1, u1.2.1, u1.2.2.1, u1.2.2.2, xf.2.2.2.2.2.1, xf.2.2.2.2.2.2.1, xf.2.2.2.2.2.2.2.1, xf.2.2.2.2.2.2.2.2.1, xf.2.2.2.2.2.2.2.2.2)) _ _ _ _ (hFo) hP trivial hS (Nat.le_of_ble_eq_true rfl) (Nat.le_of_ble_eq_true rfl) (fun hq hf9 => W.iret hx hb hr hq hf9 dX0_face_85 hlk)
          · skip
            by_cases sw51_1 : w = 1
            · subst sw51_1
              refine lv_tableIn (off := 35) (tgt := 86) hx hb dX0_face_51 (by decide) (by decide) rfl (by decide) ?_
              refine lv_aload_n hx hb dX0_face_86 rfl (lv_at hl 0 rfl) ?_
              refine va_get (v := .ref (ad 5)) hx hb hts in_X0 hown hK hP 0 rfl rfl 2 (by decide) (hts _ q239) (fun _ h => h) rfl dX0_face_87 ?_
              refine va_getN (v := .ref (ad 7)) hx hb hts in_X2 hown hK hP 8 rfl rfl 2 (by decide) (hE.use q136 rfl rfl) (fun _ h => h) rfl dX0_face_90 ?_
              refine lv_iload_n hx hb dX0_face_93 rfl (lv_at hl 2 rfl) ?_
              refine tn_iald (f := u1.2.1) hx hb hK hP 10 0 rfl rfl (by omega) (by decide) dX0_face_94 ?_
              have b94 := hFo.2.2.1 j9
              have hv9 : (nI (u1.2.1 j9)) = (fun _ => ti_Sface I (nI 1) (nI j9) 1) ((Value.ref (jh 1), u1.1, u1.2.1, u1.2.2.1, u1.2.2.2, xf.2.2.2.2.2.1, xf.2.2.2.2.2.2.1, xf.2.2.2.2.2.2.2.1, xf.2.2.2.2.2.2.2.2.1, xf.2.2.2.2.2.2.2.2.2)) := by rw [ti_Sface, if_neg (by rw [c4]; decide), hci, if_neg (by rw [hlen]; exact hz19), if_neg (by rw [hc45]; decide), hcj, hfd, if_neg (by decide), if_pos rfl]
              refine W.eq (g2 := F0 m 95 ls [.int ((fun _ => ti_Sface I (nI 1) (nI j9) 1) ((Value.ref (jh 1), u1.1, u1.2.1, u1.2.2.1, u1.2.2.2, xf.2.2.2.2.2.1, xf.2.2.2.2.2.2.1, xf.2.2.2.2.2.2.2.1, xf.2.2.2.2.2.2.2.2.1, xf.2.2.2.2.2.2.2.2.2)))]) (congrArg (fun z => F0 m 95 ls [.int z]) hv9) ?_
              exact hret _ ((Value.ref (jh 1), u1.1, u1.2.1, u1.2.2.1, u1.2.2.2, xf.2.2.2.2.2.1, xf.2.2.2.2.2.2.1, xf.2.2.2.2.2.2.2.1, xf.2.2.2.2.2.2.2.2.1, xf.2.2.2.2.2.2.2.2.2)) _ _ _ _ (hFo) hP trivial hS (Nat.le_of_ble_eq_true rfl) (Nat.le_of_ble_eq_true rfl) (fun hq hf9 => W.iret hx hb hr hq hf9 dX0_face_95 hlk)
            · skip
              by_cases sw51_2 : w = 2
              · subst sw51_2
                refine lv_tableIn (off := 45) (tgt := 96) hx hb dX0_face_51 (by decide) (by decide) rfl (by decide) ?_
                refine lv_aload_n hx hb dX0_face_96 rfl (lv_at hl 0 rfl) ?_
                refine va_get (v := .ref (ad 5)) hx hb hts in_X0 hown hK hP 0 rfl rfl 2 (by decide) (hts _ q239) (fun _ h => h) rfl dX0_face_97 ?_
                refine va_getN (v := .ref (ad 8)) hx hb hts in_X2 hown hK hP 8 rfl rfl 3 (by decide) (hE.use q138 rfl rfl) (fun _ h => h) rfl dX0_face_100 ?_
                refine lv_iload_n hx hb dX0_face_103 rfl (lv_at hl 2 rfl) ?_
                refine tn_iald (f := u1.2.2.1) hx hb hK hP 11 0 rfl rfl (by omega) (by decide) dX0_face_104 ?_
                have b104 := hFo.2.2.2.1 j9
                have hv9 : (nI (u1.2.2.1 j9)) = (fun _ => ti_Sface I (nI 1) (nI j9) 2) ((Value.ref (jh 1), u1.1, u1.2.1, u1.2.2.1, u1.2.2.2, xf.2.2.2.2.2.1, xf.2.2.2.2.2.2.1, xf.2.2.2.2.2.2.2.1, xf.2.2.2.2.2.2.2.2.1, xf.2.2.2.2.2.2.2.2.2)) := by rw [ti_Sface, if_neg (by rw [c4]; decide), hci, if_neg (by rw [hlen]; exact hz19), if_neg (by rw [hc45]; decide), hcj, hfd, if_neg (by decide), if_neg (by decide), if_pos rfl]
                refine W.eq (g2 := F0 m 105 ls [.int ((fun _ => ti_Sface I (nI 1) (nI j9) 2) ((Value.ref (jh 1), u1.1, u1.2.1, u1.2.2.1, u1.2.2.2, xf.2.2.2.2.2.1, xf.2.2.2.2.2.2.1, xf.2.2.2.2.2.2.2.1, xf.2.2.2.2.2.2.2.2.1, xf.2.2.2.2.2.2.2.2.2)))]) (congrArg (fun z => F0 m 105 ls [.int z]) hv9) ?_
                exact hret _ ((Value.ref (jh 1), u1.1, u1.2.1, u1.2.2.1, u1.2.2.2, xf.2.2.2.2.2.1, xf.2.2.2.2.2.2.1, xf.2.2.2.2.2.2.2.1, xf.2.2.2.2.2.2.2.2.1, xf.2.2.2.2.2.2.2.2.2)) _ _ _ _ (hFo) hP trivial hS (Nat.le_of_ble_eq_true rfl) (Nat.le_of_ble_eq_true rfl) (fun hq hf9 => W.iret hx hb hr hq hf9 dX0_face_105 hlk)
              · skip
                refine lv_tableOut (tgt := 106) hx hb dX0_face_51 (Classical.byContradiction fun z => by
                    have z1 : w.toInt = 0 ∨ w.toInt = 1 ∨ w.toInt = 2 := by omega
                    rcases z1 with z2 | z2 | z2
                    · exact sw51_0 (Int32.toInt_inj.mp z2)
                    · exact sw51_1 (Int32.toInt_inj.mp z2)
                    · exact sw51_2 (Int32.toInt_inj.mp z2)) (by decide) ?_
                refine lv_iconst (v := (-1)) hx hb dX0_face_106 (by decide) ?_
                have hv9 : ((-1)) = (fun _ => ti_Sface I (nI 1) (nI j9) w) ((Value.ref (jh 1), u1.1, u1.2.1, u1.2.2.1, u1.2.2.2, xf.2.2.2.2.2.1, xf.2.2.2.2.2.2.1, xf.2.2.2.2.2.2.2.1, xf.2.2.2.2.2.2.2.2.1, xf.2.2.2.2.2.2.2.2.2)) := by rw [ti_Sface, if_neg (by rw [c4]; decide), hci, if_neg (by rw [hlen]; exact hz19), if_neg (by rw [hc45]; decide), hcj, hfd, if_neg sw51_0, if_neg sw51_1, if_neg sw51_2]
                refine W.eq (g2 := F0 m 107 ls [.int ((fun _ => ti_Sface I (nI 1) (nI j9) w) ((Value.ref (jh 1), u1.1, u1.2.1, u1.2.2.1, u1.2.2.2, xf.2.2.2.2.2.1, xf.2.2.2.2.2.2.1, xf.2.2.2.2.2.2.2.1, xf.2.2.2.2.2.2.2.2.1, xf.2.2.2.2.2.2.2.2.2)))]) (congrArg (fun z => F0 m 107 ls [.int z]) hv9) ?_
                exact hret _ ((Value.ref (jh 1), u1.1, u1.2.1, u1.2.2.1, u1.2.2.2, xf.2.2.2.2.2.1, xf.2.2.2.2.2.2.1, xf.2.2.2.2.2.2.2.1, xf.2.2.2.2.2.2.2.2.1, xf.2.2.2.2.2.2.2.2.2)) _ _ _ _ (hFo) hP trivial hS (Nat.le_of_ble_eq_true rfl) (Nat.le_of_ble_eq_true rfl) (fun hq hf9 => W.iret hx hb hr hq hf9 dX0_face_107 hlk)
        · skip
          have hf8 := hFo.1
          rw [ti_in_lt (by omega)] at c45
          have hc45 : ti_lt j (ti_FF (I 1)).length = false := by rw [← show (ti_gr (xi.1 1) (xi.2.1 1) 0 (xi.2.2 1)) = I 1 from hg, ← hFF, ti_fr_len]; exact c45
          refine lv_iconst (v := (-1)) hx hb dX0_face_48 (by decide) ?_
          have hv9 : ((-1)) = (fun _ => ti_Sface I (nI 1) j w) ((Value.ref (jh 1), u1.1, u1.2.1, u1.2.2.1, u1.2.2.2, xf.2.2.2.2.2.1, xf.2.2.2.2.2.2.1, xf.2.2.2.2.2.2.2.1, xf.2.2.2.2.2.2.2.2.1, xf.2.2.2.2.2.2.2.2.2)) := by rw [ti_Sface, if_neg (by rw [c4]; decide), hci, if_neg (by rw [hlen]; exact hz19), if_pos hc45]
          refine W.eq (g2 := F0 m 49 ls [.int ((fun _ => ti_Sface I (nI 1) j w) ((Value.ref (jh 1), u1.1, u1.2.1, u1.2.2.1, u1.2.2.2, xf.2.2.2.2.2.1, xf.2.2.2.2.2.2.1, xf.2.2.2.2.2.2.2.1, xf.2.2.2.2.2.2.2.2.1, xf.2.2.2.2.2.2.2.2.2)))]) (congrArg (fun z => F0 m 49 ls [.int z]) hv9) ?_
          exact hret _ ((Value.ref (jh 1), u1.1, u1.2.1, u1.2.2.1, u1.2.2.2, xf.2.2.2.2.2.1, xf.2.2.2.2.2.2.1, xf.2.2.2.2.2.2.2.1, xf.2.2.2.2.2.2.2.2.1, xf.2.2.2.2.2.2.2.2.2)) _ _ _ _ (hFo) hP trivial hS (Nat.le_of_ble_eq_true rfl) (Nat.le_of_ble_eq_true rfl) (fun hq hf9 => W.iret hx hb hr hq hf9 dX0_face_49 hlk)
  · skip
    refine lv_iconst (v := (-1)) hx hb dX0_face_7 (by decide) ?_
    have hv9 : ((-1)) = (fun _ => ti_Sface I v j w) xf := by rw [ti_Sface, if_pos c4]
    refine W.eq (g2 := F0 m 8 ls [.int ((fun _ => ti_Sface I v j w) xf)]) (congrArg (fun z => F0 m 8 ls [.int z]) hv9) ?_
    exact hret _ xf _ _ _ _ (hxf) hP trivial hS (Nat.le_of_ble_eq_true rfl) (Nat.le_of_ble_eq_true rfl) (fun hq hf9 => W.iret hx hb hr hq hf9 dX0_face_8 hlk)
