/-! TermIdeals$Clause.does (printed by w_read3.py) -/
set_option maxRecDepth 100000

set_option maxHeartbeats 4000000 in
theorem met_X11_does (l : Launch) (D : va_G) (E : Nat → ClassId) (htr : l.stackTraces = false) (z0 : Nat) (h : Nat) (sg : Int32) (a b c0 : Nat) (ad dh du dv jh ju jv kh ku kv : Nat → Nat) (tx : Nat) (hi : Bool) (xi : ti_Ti) (xr : ti_Tr) (xf : ti_Tf) (xd : ti_Td) (hxi : ti_Jok xi) (I : Nat → ti_GL) (hJ : ti_JI xi I) (hxd : ti_Dok xd) (DD : ti_DL) (hDD : ti_Dl xd = DD) (hxr : ti_Rok xr) (hxf : ti_Fok xf) (hinv : ti_inv I DD) : ti_MetX (σ := ti_Ti × ti_Tr × ti_Tf × ti_Td) (τ := Unit) l D E yX11_does (ws_ yX11_does cX11_does 2 (some .boolean)) 8 1 6 z0 ((h, .inr (11, [.int sg, .int (nI a), .int (nI b), .int (nI c0)])) :: ti_wMJRFD E ad dh du dv jh ju jv kh ku kv tx hi xi xr xf xd) [.ref h, .ref (ad 0)] (fun _ => True) (fun u => (h, .inr (11, [.int sg, .int (nI a), .int (nI b), .int (nI c0)])) :: ti_wMJRFD E ad dh du dv jh ju jv kh ku kv tx hi u.1 u.2.1 u.2.2.1 u.2.2.2) (fun u => some (.int (ti_b ((fun _ => !decide ((ti_Sdo I DD sg a b c0).1 < 0)) u)))) (fun u => ti_JI u.1 (ti_Sdo I DD sg a b c0).2.1 ∧ ti_Dl u.2.2.2 = (ti_Sdo I DD sg a b c0).2.2 ∧ ti_Jok u.1 ∧ ti_Rok u.2.1 ∧ ti_Fok u.2.2.1 ∧ ti_Dok u.2.2.2) (fun _ _ => True) (fun w => RX14) (fun w => 0) (fun w => (h, .inr (11, [.int sg, .int (nI a), .int (nI b), .int (nI c0)])) :: ti_wMJRFD E ad dh du dv jh ju jv kh ku kv tx hi xi xr xf xd) (fun w => []) (fun w => False) (fun w H => True) := by
  refine ti_metX (by decide) (Nat.le_of_ble_eq_true rfl) ?_
  intro p e s m below meth c H A Q ls S hE hP hD hS hA hZ hAz hx0 htab hl hret hq
  obtain ⟨hQ, hr, hlk, hinit⟩ := hq
  have hsz0 := hS.1
  have hx := S.1
  have hb := S.2.1
  have hown := S.2.2.2.1
  have hts := S.2.2.2.2
  have hK := hE.1
  have hl : lv_has ls 2 [(0, .ref h), (1, .ref (ad 0))] := hl
  refine lv_aload_n hx hb dX11_does_0 rfl (lv_at hl 0 rfl) ?_
  refine va_get (v := .int sg) hx hb hts in_X11 hown hK hP 0 rfl rfl 0 (by decide) (hts _ q549) (fun _ h => h) rfl dX11_does_1 ?_
  by_cases sw4_0 : sg = 43
  · subst sw4_0
    refine lv_lookup (off := 52) (tgt := 56) hx hb dX11_does_4 (by decide) (by decide) (by decide) ?_
    refine lv_aload_n hx hb dX11_does_56 rfl (lv_at hl 1 rfl) ?_
    refine lv_aload_n hx hb dX11_does_57 rfl (lv_at hl 0 rfl) ?_
    refine va_get (v := .int (nI a)) hx hb hts in_X11 hown hK hP 0 rfl rfl 1 (by decide) (hts _ q550) (fun _ h => h) rfl dX11_does_58 ?_
    refine lv_aload_n hx hb dX11_does_61 rfl (lv_at hl 0 rfl) ?_
    refine va_get (v := .int (nI b)) hx hb hts in_X11 hown hK hP 0 rfl rfl 2 (by decide) (hts _ q551) (fun _ h => h) rfl dX11_does_62 ?_
    refine lv_aload_n hx hb dX11_does_65 rfl (lv_at hl 0 rfl) ?_
    refine va_get (v := .int (nI c0)) hx hb hts in_X11 hown hK hP 0 rfl rfl 3 (by decide) (hts _ q552) (fun _ h => h) rfl dX11_does_66 ?_
    refine ti_mV (As := [.int (nI a), .int (nI b), .int (nI c0)]) (rest := []) S hE hP hD hS hA [1, 2, 3, 4, 5, 6, 7, 8, 18, 19, 20, 21, 22, 23, 24, 25, 26, 27, 28, 29, 30, 31, 32, 33, 34, 35, 36, 37, 38, 39, 40, 41, 42, 43, 44, 45, 46, 47, 48, 49, 50] rfl (met_X0_generate l D E ad dh du dv jh ju jv kh ku kv tx hi xi xd hxi I hJ hxd DD hDD (nI a) (nI b) (nI c0)) rfl (fun _ => rfl) (lw_V q570 q296 q297 q66 q298) 3 rfl 1 rfl rfl (by decide +kernel) ⟨Nat.le_of_ble_eq_true rfl, Nat.le_of_ble_eq_true rfl⟩ hl.1 rfl (Nat.le_of_ble_eq_true rfl) ⟨Nat.le_of_ble_eq_true rfl, Nat.le_of_ble_eq_true rfl⟩ dX11_does_69 (fun ug H locs hu hP hD hS => ?_)
    obtain ⟨hu1, hu2, hu3, hu4⟩ := hu
    have hP : va_P D vwCl ((h, .inr (11, [.int 43, .int (nI a), .int (nI b), .int (nI c0)])) :: ti_wMJRFD E ad dh du dv jh ju jv kh ku kv tx hi ug.1 xr xf (ug.2.1, ug.2.2.1, ug.2.2.2.1, ug.2.2.2.2.1, ug.2.2.2.2.2.1, ug.2.2.2.2.2.2)) H := ti_asP hP [.inl 0, .inr 0, .inr 1, .inr 2, .inr 3, .inr 4, .inr 5, .inr 6, .inr 7, .inl 9, .inl 10, .inl 11, .inl 12, .inl 13, .inl 14, .inl 15, .inl 16, .inl 17, .inr 8, .inr 9, .inr 10, .inr 11, .inr 12, .inr 13, .inr 14, .inr 15, .inr 16, .inr 17, .inr 18, .inr 19, .inr 20, .inr 21, .inr 22, .inr 23, .inr 24, .inr 25, .inr 26, .inr 27, .inr 28, .inr 29, .inr 30, .inr 31, .inr 32, .inr 33, .inr 34, .inr 35, .inr 36, .inr 37, .inr 38, .inr 39, .inr 40] rfl rfl rfl rfl
    have hD : va_D A ((h, .inr (11, [.int 43, .int (nI a), .int (nI b), .int (nI c0)])) :: ti_wMJRFD E ad dh du dv jh ju jv kh ku kv tx hi ug.1 xr xf (ug.2.1, ug.2.2.1, ug.2.2.2.1, ug.2.2.2.2.1, ug.2.2.2.2.2.1, ug.2.2.2.2.2.2)) := ti_asD hD [.inl 0, .inr 0, .inr 1, .inr 2, .inr 3, .inr 4, .inr 5, .inr 6, .inr 7, .inl 9, .inl 10, .inl 11, .inl 12, .inl 13, .inl 14, .inl 15, .inl 16, .inl 17, .inr 8, .inr 9, .inr 10, .inr 11, .inr 12, .inr 13, .inr 14, .inr 15, .inr 16, .inr 17, .inr 18, .inr 19, .inr 20, .inr 21, .inr 22, .inr 23, .inr 24, .inr 25, .inr 26, .inr 27, .inr 28, .inr 29, .inr 30, .inr 31, .inr 32, .inr 33, .inr 34, .inr 35, .inr 36, .inr 37, .inr 38, .inr 39, .inr 40] rfl rfl rfl rfl
    refine W.eq (g2 := F0 m 72 ls [.int ((ti_Sgen I DD (nI a) (nI b) (nI c0)).1)]) rfl ?_
    refine lv_if_lt (tgt := 79) hx hb dX11_does_72 (by decide) (fun c72 => ?_) (fun c72 => ?_)
    · skip
      refine lv_iconst (v := nI 0) hx hb dX11_does_79 (by decide) ?_
      have hdo : ti_Sdo I DD 43 a b c0 = ti_Sgen I DD (nI a) (nI b) (nI c0) := by rw [ti_Sdo, if_pos rfl]
      have hv9 : (nI 0) = ti_b ((fun _ => !decide ((ti_Sdo I DD 43 a b c0).1 < 0)) (ug.1, xr, xf, ug.2)) := by show _ = ti_b (!decide ((ti_Sdo I DD 43 a b c0).1 < 0)); rw [hdo, decide_eq_true c72]; rfl
      refine W.eq (g2 := F0 m 80 ls [.int (ti_b ((fun _ => !decide ((ti_Sdo I DD 43 a b c0).1 < 0)) (ug.1, xr, xf, ug.2)))]) (congrArg (fun z => F0 m 80 ls [.int z]) hv9) ?_
      exact hret _ (ug.1, xr, xf, ug.2) _ _ _ _ (by rw [hdo]; exact ⟨hu1, hu2, hu3, hxr, hxf, hu4⟩) hP trivial hS (Nat.le_of_ble_eq_true rfl) (Nat.le_of_ble_eq_true rfl) (fun hq hf9 => W.zret hx hb hr (ti_b_nar _) hq hf9 dX11_does_80 hlk)
    · skip
      refine lv_iconst (v := nI 1) hx hb dX11_does_75 (by decide) ?_
      refine lv_goto (tgt := 80) hx hb dX11_does_76 (by decide) ?_
      have hdo : ti_Sdo I DD 43 a b c0 = ti_Sgen I DD (nI a) (nI b) (nI c0) := by rw [ti_Sdo, if_pos rfl]
      have hv9 : (nI 1) = ti_b ((fun _ => !decide ((ti_Sdo I DD 43 a b c0).1 < 0)) (ug.1, xr, xf, ug.2)) := by show _ = ti_b (!decide ((ti_Sdo I DD 43 a b c0).1 < 0)); rw [hdo, decide_eq_false c72]; rfl
      refine W.eq (g2 := F0 m 80 ls [.int (ti_b ((fun _ => !decide ((ti_Sdo I DD 43 a b c0).1 < 0)) (ug.1, xr, xf, ug.2)))]) (congrArg (fun z => F0 m 80 ls [.int z]) hv9) ?_
      exact hret _ (ug.1, xr, xf, ug.2) _ _ _ _ (by rw [hdo]; exact ⟨hu1, hu2, hu3, hxr, hxf, hu4⟩) hP trivial hS (Nat.le_of_ble_eq_true rfl) (Nat.le_of_ble_eq_true rfl) (fun hq hf9 => W.zret hx hb hr (ti_b_nar _) hq hf9 dX11_does_80 hlk)
  · skip
    by_cases sw4_1 : sg = 45
    · subst sw4_1
      refine lv_lookup (off := 77) (tgt := 81) hx hb dX11_does_4 (by decide) (by decide) (by decide) ?_
      refine lv_aload_n hx hb dX11_does_81 rfl (lv_at hl 1 rfl) ?_
      refine lv_aload_n hx hb dX11_does_82 rfl (lv_at hl 0 rfl) ?_
      refine va_get (v := .int (nI a)) hx hb hts in_X11 hown hK hP 0 rfl rfl 1 (by decide) (hts _ q550) (fun _ h => h) rfl dX11_does_83 ?_
      refine lv_aload_n hx hb dX11_does_86 rfl (lv_at hl 0 rfl) ?_
      refine va_get (v := .int (nI b)) hx hb hts in_X11 hown hK hP 0 rfl rfl 2 (by decide) (hts _ q551) (fun _ h => h) rfl dX11_does_87 ?_
      refine ti_mV (As := [.int (nI a), .int (nI b)]) (rest := []) S hE hP hD hS hA [1, 2, 3, 4, 5, 6, 7, 8, 18, 19, 20, 21, 22, 23, 24, 25, 26, 27, 28, 29, 30, 31, 32, 33, 34, 35, 36, 37, 38, 39, 40, 41, 42, 43, 44, 45, 46, 47, 48, 49, 50] rfl (met_X0_drop l D E ad dh du dv jh ju jv kh ku kv tx hi xi xd hxi I hJ hxd DD hDD (nI a) (nI b)) rfl (fun _ => rfl) (lw_V q571 q328 q329 q66 q330) 2 rfl 1 rfl rfl (by decide +kernel) ⟨Nat.le_of_ble_eq_true rfl, Nat.le_of_ble_eq_true rfl⟩ hl.1 rfl (Nat.le_of_ble_eq_true rfl) ⟨Nat.le_of_ble_eq_true rfl, Nat.le_of_ble_eq_true rfl⟩ dX11_does_90 (fun ug H locs hu hP hD hS => ?_)
      obtain ⟨hu1, hu2, hu3, hu4⟩ := hu
      have hP : va_P D vwCl ((h, .inr (11, [.int 45, .int (nI a), .int (nI b), .int (nI c0)])) :: ti_wMJRFD E ad dh du dv jh ju jv kh ku kv tx hi ug.1 xr xf (ug.2.1, ug.2.2.1, ug.2.2.2.1, ug.2.2.2.2.1, ug.2.2.2.2.2.1, ug.2.2.2.2.2.2)) H := ti_asP hP [.inl 0, .inr 0, .inr 1, .inr 2, .inr 3, .inr 4, .inr 5, .inr 6, .inr 7, .inl 9, .inl 10, .inl 11, .inl 12, .inl 13, .inl 14, .inl 15, .inl 16, .inl 17, .inr 8, .inr 9, .inr 10, .inr 11, .inr 12, .inr 13, .inr 14, .inr 15, .inr 16, .inr 17, .inr 18, .inr 19, .inr 20, .inr 21, .inr 22, .inr 23, .inr 24, .inr 25, .inr 26, .inr 27, .inr 28, .inr 29, .inr 30, .inr 31, .inr 32, .inr 33, .inr 34, .inr 35, .inr 36, .inr 37, .inr 38, .inr 39, .inr 40] rfl rfl rfl rfl
      have hD : va_D A ((h, .inr (11, [.int 45, .int (nI a), .int (nI b), .int (nI c0)])) :: ti_wMJRFD E ad dh du dv jh ju jv kh ku kv tx hi ug.1 xr xf (ug.2.1, ug.2.2.1, ug.2.2.2.1, ug.2.2.2.2.1, ug.2.2.2.2.2.1, ug.2.2.2.2.2.2)) := ti_asD hD [.inl 0, .inr 0, .inr 1, .inr 2, .inr 3, .inr 4, .inr 5, .inr 6, .inr 7, .inl 9, .inl 10, .inl 11, .inl 12, .inl 13, .inl 14, .inl 15, .inl 16, .inl 17, .inr 8, .inr 9, .inr 10, .inr 11, .inr 12, .inr 13, .inr 14, .inr 15, .inr 16, .inr 17, .inr 18, .inr 19, .inr 20, .inr 21, .inr 22, .inr 23, .inr 24, .inr 25, .inr 26, .inr 27, .inr 28, .inr 29, .inr 30, .inr 31, .inr 32, .inr 33, .inr 34, .inr 35, .inr 36, .inr 37, .inr 38, .inr 39, .inr 40] rfl rfl rfl rfl
      refine W.eq (g2 := F0 m 93 ls [.int ((ti_Sdrop I DD (nI a) (nI b)).1)]) rfl ?_
      refine lv_if_lt (tgt := 100) hx hb dX11_does_93 (by decide) (fun c93 => ?_) (fun c93 => ?_)
      · skip
        refine lv_iconst (v := nI 0) hx hb dX11_does_100 (by decide) ?_
        have hdo : ti_Sdo I DD 45 a b c0 = ti_Sdrop I DD (nI a) (nI b) := by rw [ti_Sdo, if_neg (by decide), if_pos rfl]
        have hv9 : (nI 0) = ti_b ((fun _ => !decide ((ti_Sdo I DD 45 a b c0).1 < 0)) (ug.1, xr, xf, ug.2)) := by show _ = ti_b (!decide ((ti_Sdo I DD 45 a b c0).1 < 0)); rw [hdo, decide_eq_true c93]; rfl
        refine W.eq (g2 := F0 m 101 ls [.int (ti_b ((fun _ => !decide ((ti_Sdo I DD 45 a b c0).1 < 0)) (ug.1, xr, xf, ug.2)))]) (congrArg (fun z => F0 m 101 ls [.int z]) hv9) ?_
        exact hret _ (ug.1, xr, xf, ug.2) _ _ _ _ (by rw [hdo]; exact ⟨hu1, hu2, hu3, hxr, hxf, hu4⟩) hP trivial hS (Nat.le_of_ble_eq_true rfl) (Nat.le_of_ble_eq_true rfl) (fun hq hf9 => W.zret hx hb hr (ti_b_nar _) hq hf9 dX11_does_101 hlk)
      · skip
        refine lv_iconst (v := nI 1) hx hb dX11_does_96 (by decide) ?_
        refine lv_goto (tgt := 101) hx hb dX11_does_97 (by decide) ?_
        have hdo : ti_Sdo I DD 45 a b c0 = ti_Sdrop I DD (nI a) (nI b) := by rw [ti_Sdo, if_neg (by decide), if_pos rfl]
        have hv9 : (nI 1) = ti_b ((fun _ => !decide ((ti_Sdo I DD 45 a b c0).1 < 0)) (ug.1, xr, xf, ug.2)) := by show _ = ti_b (!decide ((ti_Sdo I DD 45 a b c0).1 < 0)); rw [hdo, decide_eq_false c93]; rfl
        refine W.eq (g2 := F0 m 101 ls [.int (ti_b ((fun _ => !decide ((ti_Sdo I DD 45 a b c0).1 < 0)) (ug.1, xr, xf, ug.2)))]) (congrArg (fun z => F0 m 101 ls [.int z]) hv9) ?_
        exact hret _ (ug.1, xr, xf, ug.2) _ _ _ _ (by rw [hdo]; exact ⟨hu1, hu2, hu3, hxr, hxf, hu4⟩) hP trivial hS (Nat.le_of_ble_eq_true rfl) (Nat.le_of_ble_eq_true rfl) (fun hq hf9 => W.zret hx hb hr (ti_b_nar _) hq hf9 dX11_does_101 hlk)
    · skip
      by_cases sw4_2 : sg = 99
      · subst sw4_2
        refine lv_lookup (off := 115) (tgt := 119) hx hb dX11_does_4 (by decide) (by decide) (by decide) ?_
        refine lv_aload_n hx hb dX11_does_119 rfl (lv_at hl 1 rfl) ?_
        refine lv_aload_n hx hb dX11_does_120 rfl (lv_at hl 0 rfl) ?_
        refine va_get (v := .int (nI a)) hx hb hts in_X11 hown hK hP 0 rfl rfl 1 (by decide) (hts _ q550) (fun _ h => h) rfl dX11_does_121 ?_
        refine ti_callX (ty_runVX (As := [.int (nI a)]) (rest := []) S (met_X0_close l D E htr z0 ad dh du dv jh ju jv kh ku kv tx hi xi xr xf xd hxi I hJ hxd DD hDD hxr hxf hinv.1 (nI a) H.size) (vx_cwVW 1 S.2.2.2.2 (lw_VW q573 q353 q354 q66 q355) rfl rfl rfl (by decide +kernel) ⟨Nat.le_of_ble_eq_true rfl, Nat.le_of_ble_eq_true rfl⟩) (ti_preXV (xp := fun _ => True) hE hP hD hS rfl hZ hAz trivial [1, 2, 3, 4, 5, 6, 7, 8, 9, 10, 11, 12, 13, 14, 15, 16, 17, 18, 19, 20, 21, 22, 23, 24, 25, 26, 27, 28, 29, 30, 31, 32, 33, 34, 35, 36, 37, 38, 39, 40, 41, 42, 43, 44, 45, 46, 47, 48, 49, 50] rfl rfl 1 rfl rfl) rfl rfl hl.1 rfl (lv_room (Nat.le_of_ble_eq_true rfl)) dX11_does_124 ⟨Nat.le_of_ble_eq_true rfl, Nat.le_of_ble_eq_true rfl⟩) hP hD hS hA [1, 2, 3, 4, 5, 6, 7, 8, 9, 10, 11, 12, 13, 14, 15, 16, 17, 18, 19, 20, 21, 22, 23, 24, 25, 26, 27, 28, 29, 30, 31, 32, 33, 34, 35, 36, 37, 38, 39, 40, 41, 42, 43, 44, 45, 46, 47, 48, 49, 50] rfl (fun _ => rfl) (fun _ => rfl) (fun ug H locs hu _ _ hP hD hS => ?_) (fun _ _ _ _ h9 => absurd h9 id)
        obtain ⟨hu1, hu2, hu3, hu4, hu5, hu6⟩ := hu
        have hP : va_P D vwCl ((h, .inr (11, [.int 99, .int (nI a), .int (nI b), .int (nI c0)])) :: ti_wMJRFD E ad dh du dv jh ju jv kh ku kv tx hi ug.1 (ug.2.1.1, ug.2.1.2.1, ug.2.1.2.2) (ug.2.2.1.1, ug.2.2.1.2.1, ug.2.2.1.2.2.1, ug.2.2.1.2.2.2.1, ug.2.2.1.2.2.2.2.1, ug.2.2.1.2.2.2.2.2.1, ug.2.2.1.2.2.2.2.2.2.1, ug.2.2.1.2.2.2.2.2.2.2.1, ug.2.2.1.2.2.2.2.2.2.2.2.1, ug.2.2.1.2.2.2.2.2.2.2.2.2) (ug.2.2.2.1, ug.2.2.2.2.1, ug.2.2.2.2.2.1, ug.2.2.2.2.2.2.1, ug.2.2.2.2.2.2.2.1, ug.2.2.2.2.2.2.2.2)) H := ti_asP hP [.inl 0, .inr 0, .inr 1, .inr 2, .inr 3, .inr 4, .inr 5, .inr 6, .inr 7, .inr 8, .inr 9, .inr 10, .inr 11, .inr 12, .inr 13, .inr 14, .inr 15, .inr 16, .inr 17, .inr 18, .inr 19, .inr 20, .inr 21, .inr 22, .inr 23, .inr 24, .inr 25, .inr 26, .inr 27, .inr 28, .inr 29, .inr 30, .inr 31, .inr 32, .inr 33, .inr 34, .inr 35, .inr 36, .inr 37, .inr 38, .inr 39, .inr 40, .inr 41, .inr 42, .inr 43, .inr 44, .inr 45, .inr 46, .inr 47, .inr 48, .inr 49] rfl rfl rfl rfl
        have hD : va_D A ((h, .inr (11, [.int 99, .int (nI a), .int (nI b), .int (nI c0)])) :: ti_wMJRFD E ad dh du dv jh ju jv kh ku kv tx hi ug.1 (ug.2.1.1, ug.2.1.2.1, ug.2.1.2.2) (ug.2.2.1.1, ug.2.2.1.2.1, ug.2.2.1.2.2.1, ug.2.2.1.2.2.2.1, ug.2.2.1.2.2.2.2.1, ug.2.2.1.2.2.2.2.2.1, ug.2.2.1.2.2.2.2.2.2.1, ug.2.2.1.2.2.2.2.2.2.2.1, ug.2.2.1.2.2.2.2.2.2.2.2.1, ug.2.2.1.2.2.2.2.2.2.2.2.2) (ug.2.2.2.1, ug.2.2.2.2.1, ug.2.2.2.2.2.1, ug.2.2.2.2.2.2.1, ug.2.2.2.2.2.2.2.1, ug.2.2.2.2.2.2.2.2)) := ti_asD hD [.inl 0, .inr 0, .inr 1, .inr 2, .inr 3, .inr 4, .inr 5, .inr 6, .inr 7, .inr 8, .inr 9, .inr 10, .inr 11, .inr 12, .inr 13, .inr 14, .inr 15, .inr 16, .inr 17, .inr 18, .inr 19, .inr 20, .inr 21, .inr 22, .inr 23, .inr 24, .inr 25, .inr 26, .inr 27, .inr 28, .inr 29, .inr 30, .inr 31, .inr 32, .inr 33, .inr 34, .inr 35, .inr 36, .inr 37, .inr 38, .inr 39, .inr 40, .inr 41, .inr 42, .inr 43, .inr 44, .inr 45, .inr 46, .inr 47, .inr 48, .inr 49] rfl rfl rfl rfl
        refine W.eq (g2 := F0 m 127 ls [.int ((ti_Sclose I DD (nI a)).1)]) rfl ?_
        refine lv_if_lt (tgt := 134) hx hb dX11_does_127 (by decide) (fun c127 => ?_) (fun c127 => ?_)
        · skip
          refine lv_iconst (v := nI 0) hx hb dX11_does_134 (by decide) ?_
          have hdo : ti_Sdo I DD 99 a b c0 = ti_Sclose I DD (nI a) := by rw [ti_Sdo, if_neg (by decide), if_neg (by decide), if_pos rfl]
          have hv9 : (nI 0) = ti_b ((fun _ => !decide ((ti_Sdo I DD 99 a b c0).1 < 0)) (ug.1, ug.2.1, ug.2.2.1, ug.2.2.2)) := by show _ = ti_b (!decide ((ti_Sdo I DD 99 a b c0).1 < 0)); rw [hdo, decide_eq_true c127]; rfl
          refine W.eq (g2 := F0 m 135 ls [.int (ti_b ((fun _ => !decide ((ti_Sdo I DD 99 a b c0).1 < 0)) (ug.1, ug.2.1, ug.2.2.1, ug.2.2.2)))]) (congrArg (fun z => F0 m 135 ls [.int z]) hv9) ?_
          exact hret _ (ug.1, ug.2.1, ug.2.2.1, ug.2.2.2) _ _ _ _ (by rw [hdo]; exact ⟨hu1, hu2, hu3, hu4, hu5, hu6⟩) hP trivial hS (Nat.le_of_ble_eq_true rfl) (Nat.le_of_ble_eq_true rfl) (fun hq hf9 => W.zret hx hb hr (ti_b_nar _) hq hf9 dX11_does_135 hlk)
        · skip
          refine lv_iconst (v := nI 1) hx hb dX11_does_130 (by decide) ?_
          refine lv_goto (tgt := 135) hx hb dX11_does_131 (by decide) ?_
          have hdo : ti_Sdo I DD 99 a b c0 = ti_Sclose I DD (nI a) := by rw [ti_Sdo, if_neg (by decide), if_neg (by decide), if_pos rfl]
          have hv9 : (nI 1) = ti_b ((fun _ => !decide ((ti_Sdo I DD 99 a b c0).1 < 0)) (ug.1, ug.2.1, ug.2.2.1, ug.2.2.2)) := by show _ = ti_b (!decide ((ti_Sdo I DD 99 a b c0).1 < 0)); rw [hdo, decide_eq_false c127]; rfl
          refine W.eq (g2 := F0 m 135 ls [.int (ti_b ((fun _ => !decide ((ti_Sdo I DD 99 a b c0).1 < 0)) (ug.1, ug.2.1, ug.2.2.1, ug.2.2.2)))]) (congrArg (fun z => F0 m 135 ls [.int z]) hv9) ?_
          exact hret _ (ug.1, ug.2.1, ug.2.2.1, ug.2.2.2) _ _ _ _ (by rw [hdo]; exact ⟨hu1, hu2, hu3, hu4, hu5, hu6⟩) hP trivial hS (Nat.le_of_ble_eq_true rfl) (Nat.le_of_ble_eq_true rfl) (fun hq hf9 => W.zret hx hb hr (ti_b_nar _) hq hf9 dX11_does_135 hlk)
      · skip
        by_cases sw4_3 : sg = 109
        · subst sw4_3
          refine lv_lookup (off := 132) (tgt := 136) hx hb dX11_does_4 (by decide) (by decide) (by decide) ?_
          refine lv_aload_n hx hb dX11_does_136 rfl (lv_at hl 1 rfl) ?_
          refine lv_aload_n hx hb dX11_does_137 rfl (lv_at hl 0 rfl) ?_
          refine va_get (v := .int (nI a)) hx hb hts in_X11 hown hK hP 0 rfl rfl 1 (by decide) (hts _ q550) (fun _ h => h) rfl dX11_does_138 ?_
          refine ti_mV (As := [.int (nI a)]) (rest := []) S hE hP hD hS hA [1, 2, 3, 4, 5, 6, 7, 8, 9, 10, 11, 18, 19, 20, 21, 22, 23, 24, 25, 26, 27, 28, 29, 30, 31, 32, 33, 34, 35, 36, 37, 38, 39, 40, 41, 42, 43, 44, 45, 46, 47, 48, 49, 50] rfl (met_X0_merge l D E ad dh du dv jh ju jv kh ku kv tx hi xi xr xd hxi I hJ hxd DD hDD hxr (nI a)) rfl (fun _ => rfl) (lw_V q574 q344 q345 q66 q346) 1 rfl 1 rfl rfl (by decide +kernel) ⟨Nat.le_of_ble_eq_true rfl, Nat.le_of_ble_eq_true rfl⟩ hl.1 rfl (Nat.le_of_ble_eq_true rfl) ⟨Nat.le_of_ble_eq_true rfl, Nat.le_of_ble_eq_true rfl⟩ dX11_does_141 (fun ug H locs hu hP hD hS => ?_)
          obtain ⟨hu1, hu2, hu3, hu4, hu5⟩ := hu
          have hP : va_P D vwCl ((h, .inr (11, [.int 109, .int (nI a), .int (nI b), .int (nI c0)])) :: ti_wMJRFD E ad dh du dv jh ju jv kh ku kv tx hi ug.1 (ug.2.1.1, ug.2.1.2.1, ug.2.1.2.2) xf (ug.2.2.1, ug.2.2.2.1, ug.2.2.2.2.1, ug.2.2.2.2.2.1, ug.2.2.2.2.2.2.1, ug.2.2.2.2.2.2.2)) H := ti_asP hP [.inl 0, .inr 0, .inr 1, .inr 2, .inr 3, .inr 4, .inr 5, .inr 6, .inr 7, .inr 8, .inr 9, .inr 10, .inl 12, .inl 13, .inl 14, .inl 15, .inl 16, .inl 17, .inr 11, .inr 12, .inr 13, .inr 14, .inr 15, .inr 16, .inr 17, .inr 18, .inr 19, .inr 20, .inr 21, .inr 22, .inr 23, .inr 24, .inr 25, .inr 26, .inr 27, .inr 28, .inr 29, .inr 30, .inr 31, .inr 32, .inr 33, .inr 34, .inr 35, .inr 36, .inr 37, .inr 38, .inr 39, .inr 40, .inr 41, .inr 42, .inr 43] rfl rfl rfl rfl
          have hD : va_D A ((h, .inr (11, [.int 109, .int (nI a), .int (nI b), .int (nI c0)])) :: ti_wMJRFD E ad dh du dv jh ju jv kh ku kv tx hi ug.1 (ug.2.1.1, ug.2.1.2.1, ug.2.1.2.2) xf (ug.2.2.1, ug.2.2.2.1, ug.2.2.2.2.1, ug.2.2.2.2.2.1, ug.2.2.2.2.2.2.1, ug.2.2.2.2.2.2.2)) := ti_asD hD [.inl 0, .inr 0, .inr 1, .inr 2, .inr 3, .inr 4, .inr 5, .inr 6, .inr 7, .inr 8, .inr 9, .inr 10, .inl 12, .inl 13, .inl 14, .inl 15, .inl 16, .inl 17, .inr 11, .inr 12, .inr 13, .inr 14, .inr 15, .inr 16, .inr 17, .inr 18, .inr 19, .inr 20, .inr 21, .inr 22, .inr 23, .inr 24, .inr 25, .inr 26, .inr 27, .inr 28, .inr 29, .inr 30, .inr 31, .inr 32, .inr 33, .inr 34, .inr 35, .inr 36, .inr 37, .inr 38, .inr 39, .inr 40, .inr 41, .inr 42, .inr 43] rfl rfl rfl rfl
          refine W.eq (g2 := F0 m 144 ls [.int ((ti_Smerge I DD (nI a)).1)]) rfl ?_
          refine lv_if_lt (tgt := 151) hx hb dX11_does_144 (by decide) (fun c144 => ?_) (fun c144 => ?_)
          · skip
            refine lv_iconst (v := nI 0) hx hb dX11_does_151 (by decide) ?_
            have hdo : ti_Sdo I DD 109 a b c0 = ti_Smerge I DD (nI a) := by rw [ti_Sdo, if_neg (by decide), if_neg (by decide), if_neg (by decide), if_pos rfl]
            have hv9 : (nI 0) = ti_b ((fun _ => !decide ((ti_Sdo I DD 109 a b c0).1 < 0)) (ug.1, ug.2.1, xf, ug.2.2)) := by show _ = ti_b (!decide ((ti_Sdo I DD 109 a b c0).1 < 0)); rw [hdo, decide_eq_true c144]; rfl
            refine W.eq (g2 := F0 m 152 ls [.int (ti_b ((fun _ => !decide ((ti_Sdo I DD 109 a b c0).1 < 0)) (ug.1, ug.2.1, xf, ug.2.2)))]) (congrArg (fun z => F0 m 152 ls [.int z]) hv9) ?_
            exact hret _ (ug.1, ug.2.1, xf, ug.2.2) _ _ _ _ (by rw [hdo]; exact ⟨hu1, hu2, hu3, hu4, hxf, hu5⟩) hP trivial hS (Nat.le_of_ble_eq_true rfl) (Nat.le_of_ble_eq_true rfl) (fun hq hf9 => W.zret hx hb hr (ti_b_nar _) hq hf9 dX11_does_152 hlk)
          · skip
            refine lv_iconst (v := nI 1) hx hb dX11_does_147 (by decide) ?_
            refine lv_goto (tgt := 152) hx hb dX11_does_148 (by decide) ?_
            have hdo : ti_Sdo I DD 109 a b c0 = ti_Smerge I DD (nI a) := by rw [ti_Sdo, if_neg (by decide), if_neg (by decide), if_neg (by decide), if_pos rfl]
            have hv9 : (nI 1) = ti_b ((fun _ => !decide ((ti_Sdo I DD 109 a b c0).1 < 0)) (ug.1, ug.2.1, xf, ug.2.2)) := by show _ = ti_b (!decide ((ti_Sdo I DD 109 a b c0).1 < 0)); rw [hdo, decide_eq_false c144]; rfl
            refine W.eq (g2 := F0 m 152 ls [.int (ti_b ((fun _ => !decide ((ti_Sdo I DD 109 a b c0).1 < 0)) (ug.1, ug.2.1, xf, ug.2.2)))]) (congrArg (fun z => F0 m 152 ls [.int z]) hv9) ?_
            exact hret _ (ug.1, ug.2.1, xf, ug.2.2) _ _ _ _ (by rw [hdo]; exact ⟨hu1, hu2, hu3, hu4, hxf, hu5⟩) hP trivial hS (Nat.le_of_ble_eq_true rfl) (Nat.le_of_ble_eq_true rfl) (fun hq hf9 => W.zret hx hb hr (ti_b_nar _) hq hf9 dX11_does_152 hlk)
        · skip
          by_cases sw4_4 : sg = 122
          · subst sw4_4
            refine lv_lookup (off := 98) (tgt := 102) hx hb dX11_does_4 (by decide) (by decide) (by decide) ?_
            refine lv_aload_n hx hb dX11_does_102 rfl (lv_at hl 1 rfl) ?_
            refine lv_aload_n hx hb dX11_does_103 rfl (lv_at hl 0 rfl) ?_
            refine va_get (v := .int (nI a)) hx hb hts in_X11 hown hK hP 0 rfl rfl 1 (by decide) (hts _ q550) (fun _ h => h) rfl dX11_does_104 ?_
            refine ti_mV (As := [.int (nI a)]) (rest := []) S hE hP hD hS hA [1, 2, 3, 4, 5, 6, 7, 8, 18, 19, 20, 21, 22, 23, 24, 25, 26, 27, 28, 29, 30, 31, 32, 33, 34, 35, 36, 37, 38, 39, 40, 41, 42, 43, 44, 45, 46, 47, 48, 49, 50] rfl (met_X0_clear l D E ad dh du dv jh ju jv kh ku kv tx hi xi xd hxi I hJ hxd DD hDD (nI a)) rfl (fun _ => rfl) (lw_V q572 q340 q341 q66 q342) 1 rfl 1 rfl rfl (by decide +kernel) ⟨Nat.le_of_ble_eq_true rfl, Nat.le_of_ble_eq_true rfl⟩ hl.1 rfl (Nat.le_of_ble_eq_true rfl) ⟨Nat.le_of_ble_eq_true rfl, Nat.le_of_ble_eq_true rfl⟩ dX11_does_107 (fun ug H locs hu hP hD hS => ?_)
            obtain ⟨hu1, hu2, hu3, hu4⟩ := hu
            have hP : va_P D vwCl ((h, .inr (11, [.int 122, .int (nI a), .int (nI b), .int (nI c0)])) :: ti_wMJRFD E ad dh du dv jh ju jv kh ku kv tx hi ug.1 xr xf (ug.2.1, ug.2.2.1, ug.2.2.2.1, ug.2.2.2.2.1, ug.2.2.2.2.2.1, ug.2.2.2.2.2.2)) H := ti_asP hP [.inl 0, .inr 0, .inr 1, .inr 2, .inr 3, .inr 4, .inr 5, .inr 6, .inr 7, .inl 9, .inl 10, .inl 11, .inl 12, .inl 13, .inl 14, .inl 15, .inl 16, .inl 17, .inr 8, .inr 9, .inr 10, .inr 11, .inr 12, .inr 13, .inr 14, .inr 15, .inr 16, .inr 17, .inr 18, .inr 19, .inr 20, .inr 21, .inr 22, .inr 23, .inr 24, .inr 25, .inr 26, .inr 27, .inr 28, .inr 29, .inr 30, .inr 31, .inr 32, .inr 33, .inr 34, .inr 35, .inr 36, .inr 37, .inr 38, .inr 39, .inr 40] rfl rfl rfl rfl
            have hD : va_D A ((h, .inr (11, [.int 122, .int (nI a), .int (nI b), .int (nI c0)])) :: ti_wMJRFD E ad dh du dv jh ju jv kh ku kv tx hi ug.1 xr xf (ug.2.1, ug.2.2.1, ug.2.2.2.1, ug.2.2.2.2.1, ug.2.2.2.2.2.1, ug.2.2.2.2.2.2)) := ti_asD hD [.inl 0, .inr 0, .inr 1, .inr 2, .inr 3, .inr 4, .inr 5, .inr 6, .inr 7, .inl 9, .inl 10, .inl 11, .inl 12, .inl 13, .inl 14, .inl 15, .inl 16, .inl 17, .inr 8, .inr 9, .inr 10, .inr 11, .inr 12, .inr 13, .inr 14, .inr 15, .inr 16, .inr 17, .inr 18, .inr 19, .inr 20, .inr 21, .inr 22, .inr 23, .inr 24, .inr 25, .inr 26, .inr 27, .inr 28, .inr 29, .inr 30, .inr 31, .inr 32, .inr 33, .inr 34, .inr 35, .inr 36, .inr 37, .inr 38, .inr 39, .inr 40] rfl rfl rfl rfl
            refine W.eq (g2 := F0 m 110 ls [.int ((ti_Sclear I DD (nI a)).1)]) rfl ?_
            refine lv_if_lt (tgt := 117) hx hb dX11_does_110 (by decide) (fun c110 => ?_) (fun c110 => ?_)
            · skip
              refine lv_iconst (v := nI 0) hx hb dX11_does_117 (by decide) ?_
              have hdo : ti_Sdo I DD 122 a b c0 = ti_Sclear I DD (nI a) := by rw [ti_Sdo, if_neg (by decide), if_neg (by decide), if_neg (by decide), if_neg (by decide), if_pos rfl]
              have hv9 : (nI 0) = ti_b ((fun _ => !decide ((ti_Sdo I DD 122 a b c0).1 < 0)) (ug.1, xr, xf, ug.2)) := by show _ = ti_b (!decide ((ti_Sdo I DD 122 a b c0).1 < 0)); rw [hdo, decide_eq_true c110]; rfl
              refine W.eq (g2 := F0 m 118 ls [.int (ti_b ((fun _ => !decide ((ti_Sdo I DD 122 a b c0).1 < 0)) (ug.1, xr, xf, ug.2)))]) (congrArg (fun z => F0 m 118 ls [.int z]) hv9) ?_
              exact hret _ (ug.1, xr, xf, ug.2) _ _ _ _ (by rw [hdo]; exact ⟨hu1, hu2, hu3, hxr, hxf, hu4⟩) hP trivial hS (Nat.le_of_ble_eq_true rfl) (Nat.le_of_ble_eq_true rfl) (fun hq hf9 => W.zret hx hb hr (ti_b_nar _) hq hf9 dX11_does_118 hlk)
            · skip
              refine lv_iconst (v := nI 1) hx hb dX11_does_113 (by decide) ?_
              refine lv_goto (tgt := 118) hx hb dX11_does_114 (by decide) ?_
              have hdo : ti_Sdo I DD 122 a b c0 = ti_Sclear I DD (nI a) := by rw [ti_Sdo, if_neg (by decide), if_neg (by decide), if_neg (by decide), if_neg (by decide), if_pos rfl]
              have hv9 : (nI 1) = ti_b ((fun _ => !decide ((ti_Sdo I DD 122 a b c0).1 < 0)) (ug.1, xr, xf, ug.2)) := by show _ = ti_b (!decide ((ti_Sdo I DD 122 a b c0).1 < 0)); rw [hdo, decide_eq_false c110]; rfl
              refine W.eq (g2 := F0 m 118 ls [.int (ti_b ((fun _ => !decide ((ti_Sdo I DD 122 a b c0).1 < 0)) (ug.1, xr, xf, ug.2)))]) (congrArg (fun z => F0 m 118 ls [.int z]) hv9) ?_
              exact hret _ (ug.1, xr, xf, ug.2) _ _ _ _ (by rw [hdo]; exact ⟨hu1, hu2, hu3, hxr, hxf, hu4⟩) hP trivial hS (Nat.le_of_ble_eq_true rfl) (Nat.le_of_ble_eq_true rfl) (fun hq hf9 => W.zret hx hb hr (ti_b_nar _) hq hf9 dX11_does_118 hlk)
          · skip
            refine lv_lookup (off := 149) (tgt := 153) hx hb dX11_does_4 (by decide) (by show Op.lookupswitch.offset [(43, 52), (45, 77), (99, 115), (109, 132), (122, 98)] _ _ = _; rw [lv_osw (a := 43) sw4_0 (by decide), lv_osw (a := 45) sw4_1 (by decide), lv_osw (a := 99) sw4_2 (by decide), lv_osw (a := 109) sw4_3 (by decide), lv_osw (a := 122) sw4_4 (by decide)]; rfl) (by decide) ?_
            refine lv_aload_n hx hb dX11_does_153 rfl (lv_at hl 1 rfl) ?_
            refine ti_mV (As := []) (rest := []) S hE hP hD hS hA [1, 2, 3, 4, 5, 6, 7, 8, 18, 19, 20, 21, 22, 23, 24, 25, 26, 27, 28, 29, 30, 31, 32, 33, 34, 35, 36, 37, 38, 39, 40, 41, 42, 43, 44, 45, 46, 47, 48, 49, 50] rfl (met_X0_back l D E ad dh du dv jh ju jv kh ku kv tx hi xi xd hxi I hJ hxd DD hDD ) rfl (fun _ => rfl) (lw_V q575 q468 q469 q66 q470) 0 rfl 1 rfl rfl (by decide +kernel) ⟨Nat.le_of_ble_eq_true rfl, Nat.le_of_ble_eq_true rfl⟩ hl.1 rfl (Nat.le_of_ble_eq_true rfl) ⟨Nat.le_of_ble_eq_true rfl, Nat.le_of_ble_eq_true rfl⟩ dX11_does_154 (fun ug H locs hu hP hD hS => ?_)
            obtain ⟨hu1, hu2, hu3, hu4⟩ := hu
            have hP : va_P D vwCl ((h, .inr (11, [.int sg, .int (nI a), .int (nI b), .int (nI c0)])) :: ti_wMJRFD E ad dh du dv jh ju jv kh ku kv tx hi ug.1 xr xf (ug.2.1, ug.2.2.1, ug.2.2.2.1, ug.2.2.2.2.1, ug.2.2.2.2.2.1, ug.2.2.2.2.2.2)) H := ti_asP hP [.inl 0, .inr 0, .inr 1, .inr 2, .inr 3, .inr 4, .inr 5, .inr 6, .inr 7, .inl 9, .inl 10, .inl 11, .inl 12, .inl 13, .inl 14, .inl 15, .inl 16, .inl 17, .inr 8, .inr 9, .inr 10, .inr 11, .inr 12, .inr 13, .inr 14, .inr 15, .inr 16, .inr 17, .inr 18, .inr 19, .inr 20, .inr 21, .inr 22, .inr 23, .inr 24, .inr 25, .inr 26, .inr 27, .inr 28, .inr 29, .inr 30, .inr 31, .inr 32, .inr 33, .inr 34, .inr 35, .inr 36, .inr 37, .inr 38, .inr 39, .inr 40] rfl rfl rfl rfl
            have hD : va_D A ((h, .inr (11, [.int sg, .int (nI a), .int (nI b), .int (nI c0)])) :: ti_wMJRFD E ad dh du dv jh ju jv kh ku kv tx hi ug.1 xr xf (ug.2.1, ug.2.2.1, ug.2.2.2.1, ug.2.2.2.2.1, ug.2.2.2.2.2.1, ug.2.2.2.2.2.2)) := ti_asD hD [.inl 0, .inr 0, .inr 1, .inr 2, .inr 3, .inr 4, .inr 5, .inr 6, .inr 7, .inl 9, .inl 10, .inl 11, .inl 12, .inl 13, .inl 14, .inl 15, .inl 16, .inl 17, .inr 8, .inr 9, .inr 10, .inr 11, .inr 12, .inr 13, .inr 14, .inr 15, .inr 16, .inr 17, .inr 18, .inr 19, .inr 20, .inr 21, .inr 22, .inr 23, .inr 24, .inr 25, .inr 26, .inr 27, .inr 28, .inr 29, .inr 30, .inr 31, .inr 32, .inr 33, .inr 34, .inr 35, .inr 36, .inr 37, .inr 38, .inr 39, .inr 40] rfl rfl rfl rfl
            refine W.eq (g2 := F0 m 157 ls [.int ((ti_Sback I DD).1)]) rfl ?_
            refine lv_if_lt (tgt := 164) hx hb dX11_does_157 (by decide) (fun c157 => ?_) (fun c157 => ?_)
            · skip
              refine lv_iconst (v := nI 0) hx hb dX11_does_164 (by decide) ?_
              have hdo : ti_Sdo I DD sg a b c0 = ti_Sback I DD := by rw [ti_Sdo, if_neg sw4_0, if_neg sw4_1, if_neg sw4_2, if_neg sw4_3, if_neg sw4_4]
              have hv9 : (nI 0) = ti_b ((fun _ => !decide ((ti_Sdo I DD sg a b c0).1 < 0)) (ug.1, xr, xf, ug.2)) := by show _ = ti_b (!decide ((ti_Sdo I DD sg a b c0).1 < 0)); rw [hdo, decide_eq_true c157]; rfl
              refine W.eq (g2 := F0 m 165 ls [.int (ti_b ((fun _ => !decide ((ti_Sdo I DD sg a b c0).1 < 0)) (ug.1, xr, xf, ug.2)))]) (congrArg (fun z => F0 m 165 ls [.int z]) hv9) ?_
              exact hret _ (ug.1, xr, xf, ug.2) _ _ _ _ (by rw [hdo]; exact ⟨hu1, hu2, hu3, hxr, hxf, hu4⟩) hP trivial hS (Nat.le_of_ble_eq_true rfl) (Nat.le_of_ble_eq_true rfl) (fun hq hf9 => W.zret hx hb hr (ti_b_nar _) hq hf9 dX11_does_165 hlk)
            · skip
              refine lv_iconst (v := nI 1) hx hb dX11_does_160 (by decide) ?_
              refine lv_goto (tgt := 165) hx hb dX11_does_161 (by decide) ?_
              have hdo : ti_Sdo I DD sg a b c0 = ti_Sback I DD := by rw [ti_Sdo, if_neg sw4_0, if_neg sw4_1, if_neg sw4_2, if_neg sw4_3, if_neg sw4_4]
              have hv9 : (nI 1) = ti_b ((fun _ => !decide ((ti_Sdo I DD sg a b c0).1 < 0)) (ug.1, xr, xf, ug.2)) := by show _ = ti_b (!decide ((ti_Sdo I DD sg a b c0).1 < 0)); rw [hdo, decide_eq_false c157]; rfl
              refine W.eq (g2 := F0 m 165 ls [.int (ti_b ((fun _ => !decide ((ti_Sdo I DD sg a b c0).1 < 0)) (ug.1, xr, xf, ug.2)))]) (congrArg (fun z => F0 m 165 ls [.int z]) hv9) ?_
              exact hret _ (ug.1, xr, xf, ug.2) _ _ _ _ (by rw [hdo]; exact ⟨hu1, hu2, hu3, hxr, hxf, hu4⟩) hP trivial hS (Nat.le_of_ble_eq_true rfl) (Nat.le_of_ble_eq_true rfl) (fun hq hf9 => W.zret hx hb hr (ti_b_nar _) hq hf9 dX11_does_165 hlk)
