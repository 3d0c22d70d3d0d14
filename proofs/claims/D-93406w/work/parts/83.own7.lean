/-! TermIdeals: reduces, areSo, happens, after (printed by w_own7.py) -/
set_option maxRecDepth 100000
theorem ti_out1 {w : Int32} (h0 : ¬ w = 0) (h1 : ¬ w = 1) : ti_bt w = false := by
  cases h : ti_bt w with
  | false => rfl
  | true =>
    obtain ⟨j, hj, rfl⟩ := ti_bt_nat h
    rcases (show j = 0 ∨ j = 1 by omega) with rfl | rfl
    · exact absurd rfl h0
    · exact absurd rfl h1

abbrev ti_wMR (E : Nat → ClassId) (ad dh du dv jh ju jv kh ku kv : Nat → Nat) (tx : Nat) (hi : Bool) (xr : ti_Tr) : va_W := [(ad 0, .inr (0, [.ref (ad 1), .ref (ad 2), .ref (ad 5), .ref (ad 11), .ref (ad 14), .ref (ad 16), .ref (ad 18), .ref (ad 20), .ref (ad 22), .int (nI tx), .ref (ad 23), .ref (ad 27), .ref (ad 31), .ref (ad 35), .ref (ad 36), .ref (ad 37), .ref (ad 41), .ref (ad 45), .int (ti_b hi)])), (ad 2, .inr (1, [.ref (ad 3), .ref (ad 4), .int (nI xr.2.2)])), (ad 3, .inl (E 0, 6, .inl (ti_n xr.1))), (ad 4, .inl (E 0, 6, .inl (ti_n xr.2.1)))]

abbrev ti_wMJRFS (E : Nat → ClassId) (ad dh du dv jh ju jv kh ku kv : Nat → Nat) (tx : Nat) (hi : Bool) (xi : ti_Ti) (xr : ti_Tr) (xf : ti_Tf) (xs : ti_Tw) : va_W := [(ad 0, .inr (0, [.ref (ad 1), .ref (ad 2), .ref (ad 5), .ref (ad 11), .ref (ad 14), .ref (ad 16), .ref (ad 18), .ref (ad 20), .ref (ad 22), .int (nI tx), .ref (ad 23), .ref (ad 27), .ref (ad 31), .ref (ad 35), .ref (ad 36), .ref (ad 37), .ref (ad 41), .ref (ad 45), .int (ti_b hi)])), (ad 1, .inl (E 5, 2, .inr (.inr (.inr (.inr (ti_o jh (fun j => j))))))), (jh 0, .inr (1, [.ref (ju 0), .ref (jv 0), .int (nI (xi.2.2 0))])), (ju 0, .inl (E 0, 6, .inl (ti_n (xi.1 0)))), (jv 0, .inl (E 0, 6, .inl (ti_n (xi.2.1 0)))), (jh 1, .inr (1, [.ref (ju 1), .ref (jv 1), .int (nI (xi.2.2 1))])), (ju 1, .inl (E 0, 6, .inl (ti_n (xi.1 1)))), (jv 1, .inl (E 0, 6, .inl (ti_n (xi.2.1 1)))), (ad 2, .inr (1, [.ref (ad 3), .ref (ad 4), .int (nI xr.2.2)])), (ad 3, .inl (E 0, 6, .inl (ti_n xr.1))), (ad 4, .inl (E 0, 6, .inl (ti_n xr.2.1))), (ad 5, .inr (2, [xf.1, .ref (ad 6), .ref (ad 7), .ref (ad 8), .int (nI xf.2.2.2.2.1), .int (nI xf.2.2.2.2.2.1), .int (nI xf.2.2.2.2.2.2.1), .ref (ad 9), .ref (ad 10), .int (nI xf.2.2.2.2.2.2.2.2.2)])), (ad 6, .inl (E 0, 8, .inl (ti_n xf.2.1))), (ad 7, .inl (E 0, 8, .inl (ti_n xf.2.2.1))), (ad 8, .inl (E 0, 8, .inl (ti_n xf.2.2.2.1))), (ad 9, .inl (E 0, 100, .inl (ti_n xf.2.2.2.2.2.2.2.1))), (ad 10, .inl (E 0, 100, .inl (ti_n xf.2.2.2.2.2.2.2.2.1))), (ad 23, .inr (5, [.ref (ad 24), .ref (ad 25), .ref (ad 26), .int (nI xs.2.2.2)])), (ad 24, .inl (E 0, 4, .inl (ti_n xs.1))), (ad 25, .inl (E 0, 4, .inl (ti_n xs.2.1))), (ad 26, .inl (E 0, 4, .inl (ti_n xs.2.2.1)))]

abbrev ti_wMJRFV (E : Nat → ClassId) (ad dh du dv jh ju jv kh ku kv : Nat → Nat) (tx : Nat) (hi : Bool) (xi : ti_Ti) (xr : ti_Tr) (xf : ti_Tf) (xv : ti_Tw) : va_W := [(ad 0, .inr (0, [.ref (ad 1), .ref (ad 2), .ref (ad 5), .ref (ad 11), .ref (ad 14), .ref (ad 16), .ref (ad 18), .ref (ad 20), .ref (ad 22), .int (nI tx), .ref (ad 23), .ref (ad 27), .ref (ad 31), .ref (ad 35), .ref (ad 36), .ref (ad 37), .ref (ad 41), .ref (ad 45), .int (ti_b hi)])), (ad 1, .inl (E 5, 2, .inr (.inr (.inr (.inr (ti_o jh (fun j => j))))))), (jh 0, .inr (1, [.ref (ju 0), .ref (jv 0), .int (nI (xi.2.2 0))])), (ju 0, .inl (E 0, 6, .inl (ti_n (xi.1 0)))), (jv 0, .inl (E 0, 6, .inl (ti_n (xi.2.1 0)))), (jh 1, .inr (1, [.ref (ju 1), .ref (jv 1), .int (nI (xi.2.2 1))])), (ju 1, .inl (E 0, 6, .inl (ti_n (xi.1 1)))), (jv 1, .inl (E 0, 6, .inl (ti_n (xi.2.1 1)))), (ad 2, .inr (1, [.ref (ad 3), .ref (ad 4), .int (nI xr.2.2)])), (ad 3, .inl (E 0, 6, .inl (ti_n xr.1))), (ad 4, .inl (E 0, 6, .inl (ti_n xr.2.1))), (ad 5, .inr (2, [xf.1, .ref (ad 6), .ref (ad 7), .ref (ad 8), .int (nI xf.2.2.2.2.1), .int (nI xf.2.2.2.2.2.1), .int (nI xf.2.2.2.2.2.2.1), .ref (ad 9), .ref (ad 10), .int (nI xf.2.2.2.2.2.2.2.2.2)])), (ad 6, .inl (E 0, 8, .inl (ti_n xf.2.1))), (ad 7, .inl (E 0, 8, .inl (ti_n xf.2.2.1))), (ad 8, .inl (E 0, 8, .inl (ti_n xf.2.2.2.1))), (ad 9, .inl (E 0, 100, .inl (ti_n xf.2.2.2.2.2.2.2.1))), (ad 10, .inl (E 0, 100, .inl (ti_n xf.2.2.2.2.2.2.2.2.1))), (ad 27, .inr (5, [.ref (ad 28), .ref (ad 29), .ref (ad 30), .int (nI xv.2.2.2)])), (ad 28, .inl (E 0, 8, .inl (ti_n xv.1))), (ad 29, .inl (E 0, 8, .inl (ti_n xv.2.1))), (ad 30, .inl (E 0, 8, .inl (ti_n xv.2.2.1)))]

set_option maxHeartbeats 2000000 in
theorem met_X0_reduces (l : Launch) (D : va_G) (E : Nat → ClassId) (htr : l.stackTraces = false) (z0 : Nat) (ad dh du dv jh ju jv kh ku kv : Nat → Nat) (tx : Nat) (hi : Bool) (xi : ti_Ti) (xf : ti_Tf) (xo : Nat → Nat) (xq : Nat → Nat) (xp : Nat → Nat) (xn : Nat → Nat) (hxi : ti_Jok xi) (I : Nat → ti_GL) (hJ : ti_JI xi I) (hxf : ti_Fok xf) (hnd : ∀ i, i < 2 → (I i).Nodup) (hxo : ∀ k, xo k ≤ 9999) (hxq : ∀ k, xq k ≤ 9999) (hxp : ∀ k, xp k ≤ 9999) (hxn : ∀ k, xn k ≤ 9999) (w : Int32) : ti_MetX (σ := ti_Tf × (Nat → Nat) × (Nat → Nat) × (Nat → Nat) × (Nat → Nat)) (τ := Unit) l D E yX0_reduces (ws_ yX0_reduces cX0_reduces 2 (some .int)) 8 2 62 z0 (ti_wMJFOTPN E ad dh du dv jh ju jv kh ku kv tx hi xi xf xo xq xp xn) [.ref (ad 0), .int w] (fun _ => True) (fun u => ti_wMJFOTPN E ad dh du dv jh ju jv kh ku kv tx hi xi u.1 u.2.1 u.2.2.1 u.2.2.2.1 u.2.2.2.2) (fun u => some (.int ((fun _ => ti_Sreduces I w) u))) (fun u => ti_Fok u.1 ∧ (∀ k, u.2.1 k ≤ 9999) ∧ (∀ k, u.2.2.1 k ≤ 9999) ∧ (∀ k, u.2.2.2.1 k ≤ 9999) ∧ ∀ k, u.2.2.2.2 k ≤ 9999) (fun _ _ => True) (fun w => RX14) (fun w => 0) (fun w => ti_wMJFOTPN E ad dh du dv jh ju jv kh ku kv tx hi xi xf xo xq xp xn) (fun w => []) (fun w => False) (fun w H => True) := by
  refine ti_metX (by decide) (Nat.le_of_ble_eq_true rfl) ?_
  intro p e s m below meth c H A Q ls S hE hP hD hS hA hZ hAz hx0 htab hl hret hq
  obtain ⟨hQ, hr, hlk, hinit⟩ := hq
  have hsz0 := hS.1
  have hx := S.1
  have hb := S.2.1
  have hown := S.2.2.2.1
  have hts := S.2.2.2.2
  have hK := hE.1
  have hl : lv_has ls 2 [(0, .ref (ad 0)), (1, .int w)] := hl
  refine lv_iload_n hx hb dX0_reduces_0 rfl (lv_at hl 1 rfl) ?_
  by_cases sw1_0 : w = 0
  · subst sw1_0
    refine lv_lookup (off := 27) (tgt := 28) hx hb dX0_reduces_1 (by decide) (by decide) (by decide) ?_
    refine lv_aload_n hx hb dX0_reduces_28 rfl (lv_at hl 0 rfl) ?_
    refine ti_callX (ty_runVX (As := []) (rest := []) S (met_X0_isReduction l D E htr z0 ad dh du dv jh ju jv kh ku kv tx hi xi xf hxi I hJ hxf hnd H.size) (vx_cwVW 0 S.2.2.2.2 (lw_VW q809 q811 qs17 q66 q812) rfl rfl rfl (by decide +kernel) ⟨Nat.le_of_ble_eq_true rfl, Nat.le_of_ble_eq_true rfl⟩) (ti_preXV (xp := fun _ => True) hE hP hD hS rfl hZ hAz trivial [0, 1, 2, 3, 4, 5, 6, 7, 8, 9, 10, 11, 12, 13] rfl rfl 0 rfl rfl) rfl rfl hl.1 rfl (lv_room (Nat.le_of_ble_eq_true rfl)) dX0_reduces_29 ⟨Nat.le_of_ble_eq_true rfl, Nat.le_of_ble_eq_true rfl⟩) hP hD hS hA [0, 1, 2, 3, 4, 5, 6, 7, 8, 9, 10, 11, 12, 13] rfl (fun _ => rfl) (fun _ => rfl) (fun uh H locs hu _ _ hP hD hS => ?_) (fun _ _ _ _ h9 => absurd h9 id)
    have hP : va_P D vwCl (ti_wMJFOTPN E ad dh du dv jh ju jv kh ku kv tx hi xi uh xo xq xp xn) H := ti_asP hP [.inr 0, .inr 1, .inr 2, .inr 3, .inr 4, .inr 5, .inr 6, .inr 7, .inr 8, .inr 9, .inr 10, .inr 11, .inr 12, .inr 13, .inl 14, .inl 15, .inl 16, .inl 17, .inl 18, .inl 19, .inl 20, .inl 21] rfl rfl rfl rfl
    have hD : va_D A (ti_wMJFOTPN E ad dh du dv jh ju jv kh ku kv tx hi xi uh xo xq xp xn) := ti_asD hD [.inr 0, .inr 1, .inr 2, .inr 3, .inr 4, .inr 5, .inr 6, .inr 7, .inr 8, .inr 9, .inr 10, .inr 11, .inr 12, .inr 13, .inl 14, .inl 15, .inl 16, .inl 17, .inl 18, .inl 19, .inl 20, .inl 21] rfl rfl rfl rfl
    refine W.eq (g2 := F0 m 32 ls [.int (ti_b (ti_red I))]) rfl ?_
    refine tb_eq (tgt := 39) hx hb dX0_reduces_32 (by decide) (fun c32 => ?_) (fun c32 => ?_)
    · skip
      refine lv_iconst (v := nI 0) hx hb dX0_reduces_39 (by decide) ?_
      have hv9 : (nI 0) = (fun _ => ti_Sreduces I 0) (uh, xo, xq, xp, xn) := by rw [ti_Sreduces, if_neg (by decide), if_pos rfl, c32]; rfl
      refine W.eq (g2 := F0 m 40 ls [.int ((fun _ => ti_Sreduces I 0) (uh, xo, xq, xp, xn))]) (congrArg (fun z => F0 m 40 ls [.int z]) hv9) ?_
      exact hret _ (uh, xo, xq, xp, xn) _ _ _ _ (⟨hu, hxo, hxq, hxp, hxn⟩) hP trivial hS (Nat.le_of_ble_eq_true rfl) (Nat.le_of_ble_eq_true rfl) (fun hq hf9 => W.iret hx hb hr hq hf9 dX0_reduces_40 hlk)
    · skip
      refine lv_iconst (v := nI 1) hx hb dX0_reduces_35 (by decide) ?_
      refine lv_goto (tgt := 40) hx hb dX0_reduces_36 (by decide) ?_
      have hv9 : (nI 1) = (fun _ => ti_Sreduces I 0) (uh, xo, xq, xp, xn) := by rw [ti_Sreduces, if_neg (by decide), if_pos rfl, c32]; rfl
      refine W.eq (g2 := F0 m 40 ls [.int ((fun _ => ti_Sreduces I 0) (uh, xo, xq, xp, xn))]) (congrArg (fun z => F0 m 40 ls [.int z]) hv9) ?_
      exact hret _ (uh, xo, xq, xp, xn) _ _ _ _ (⟨hu, hxo, hxq, hxp, hxn⟩) hP trivial hS (Nat.le_of_ble_eq_true rfl) (Nat.le_of_ble_eq_true rfl) (fun hq hf9 => W.iret hx hb hr hq hf9 dX0_reduces_40 hlk)
  · skip
    by_cases sw1_1 : w = 1
    · subst sw1_1
      refine lv_lookup (off := 40) (tgt := 41) hx hb dX0_reduces_1 (by decide) (by decide) (by decide) ?_
      refine lv_aload_n hx hb dX0_reduces_41 rfl (lv_at hl 0 rfl) ?_
      refine ti_mV (As := []) (rest := []) S hE hP hD hS hA [0, 1, 2, 3, 4, 5, 6, 7, 14, 15, 16, 17, 18, 19, 20, 21] rfl (met_X0_met l D E ad dh du dv jh ju jv kh ku kv tx hi xi xo xq xp xn hxi I hJ hxo hxq hxp hxn) rfl (fun _ => rfl) (lw_V q813 q815 qs18 q66 q816) 0 rfl 0 rfl rfl (by decide +kernel) ⟨Nat.le_of_ble_eq_true rfl, Nat.le_of_ble_eq_true rfl⟩ hl.1 rfl (Nat.le_of_ble_eq_true rfl) ⟨Nat.le_of_ble_eq_true rfl, Nat.le_of_ble_eq_true rfl⟩ dX0_reduces_42 (fun um H locs hu hP hD hS => ?_)
      have hum := hu
      have hP : va_P D vwCl (ti_wMJFOTPN E ad dh du dv jh ju jv kh ku kv tx hi xi xf um.1 um.2.1 um.2.2.1 um.2.2.2) H := ti_asP hP [.inr 0, .inr 1, .inr 2, .inr 3, .inr 4, .inr 5, .inr 6, .inr 7, .inl 8, .inl 9, .inl 10, .inl 11, .inl 12, .inl 13, .inr 8, .inr 9, .inr 10, .inr 11, .inr 12, .inr 13, .inr 14, .inr 15] rfl rfl rfl rfl
      have hD : va_D A (ti_wMJFOTPN E ad dh du dv jh ju jv kh ku kv tx hi xi xf um.1 um.2.1 um.2.2.1 um.2.2.2) := ti_asD hD [.inr 0, .inr 1, .inr 2, .inr 3, .inr 4, .inr 5, .inr 6, .inr 7, .inl 8, .inl 9, .inl 10, .inl 11, .inl 12, .inl 13, .inr 8, .inr 9, .inr 10, .inr 11, .inr 12, .inr 13, .inr 14, .inr 15] rfl rfl rfl rfl
      refine W.eq (g2 := F0 m 45 ls [.int (ti_mt I (List.range' 0 6))]) rfl ?_
      have hv9 : (ti_mt I (List.range' 0 6)) = (fun _ => ti_Sreduces I 1) (xf, um.1, um.2.1, um.2.2.1, um.2.2.2) := by rw [ti_Sreduces, if_neg (by decide), if_neg (by decide)]
      refine W.eq (g2 := F0 m 45 ls [.int ((fun _ => ti_Sreduces I 1) (xf, um.1, um.2.1, um.2.2.1, um.2.2.2))]) (congrArg (fun z => F0 m 45 ls [.int z]) hv9) ?_
      exact hret _ (xf, um.1, um.2.1, um.2.2.1, um.2.2.2) _ _ _ _ (⟨hxf, hum.1, hum.2.1, hum.2.2.1, hum.2.2.2⟩) hP trivial hS (Nat.le_of_ble_eq_true rfl) (Nat.le_of_ble_eq_true rfl) (fun hq hf9 => W.iret hx hb hr hq hf9 dX0_reduces_45 hlk)
    · skip
      refine lv_lookup (off := 45) (tgt := 46) hx hb dX0_reduces_1 (by decide) (by show Op.lookupswitch.offset [(0, 27), (1, 40)] _ _ = _; rw [lv_osw (a := 0) sw1_0 (by decide), lv_osw (a := 1) sw1_1 (by decide)]; rfl) (by decide) ?_
      refine lv_iconst (v := (-1)) hx hb dX0_reduces_46 (by decide) ?_
      have hv9 : ((-1)) = (fun _ => ti_Sreduces I w) (xf, xo, xq, xp, xn) := by rw [ti_Sreduces, if_pos (ti_out1 sw1_0 sw1_1)]
      refine W.eq (g2 := F0 m 47 ls [.int ((fun _ => ti_Sreduces I w) (xf, xo, xq, xp, xn))]) (congrArg (fun z => F0 m 47 ls [.int z]) hv9) ?_
      exact hret _ (xf, xo, xq, xp, xn) _ _ _ _ (⟨hxf, hxo, hxq, hxp, hxn⟩) hP trivial hS (Nat.le_of_ble_eq_true rfl) (Nat.le_of_ble_eq_true rfl) (fun hq hf9 => W.iret hx hb hr hq hf9 dX0_reduces_47 hlk)

set_option maxHeartbeats 2000000 in
theorem met_X0_areSo_R (l : Launch) (D : va_G) (E : Nat → ClassId) (htr : l.stackTraces = false) (z0 : Nat) (ad dh du dv jh ju jv kh ku kv : Nat → Nat) (tx : Nat) (hi : Bool) (xi : ti_Ti) (xr : ti_Tr) (xf : ti_Tf) (xs : ti_Tw) (hxi : ti_Jok xi) (hxr : ti_Rok xr) (hxf : ti_Fok xf) (hxs : ti_Wok 4 xs) (hnd9 : (ti_gr xr.1 xr.2.1 0 xr.2.2).Nodup) : ti_MetX (σ := ti_Tf) (τ := Unit) l D E yX0_areSo (wsW_ yX0_areSo cX0_areSo 5 (some .boolean) [(12, 98, 107, 150), (99, 106, 107, 150)]) 7 1 6 z0 (ti_wMJRFS E ad dh du dv jh ju jv kh ku kv tx hi xi xr xf xs) [.ref (ad 0), .ref (ad 2)] (fun _ => True) (fun u => ti_wMJRFS E ad dh du dv jh ju jv kh ku kv tx hi xi xr u xs) (fun u => some (.int (ti_b ((fun _ => ti_seen (ti_gr xr.1 xr.2.1 0 xr.2.2) (ti_Wl3 xs)) u)))) (fun u => ti_Fok u) (fun _ _ => True) (fun w => RX14) (fun w => 0) (fun w => ti_wMJRFS E ad dh du dv jh ju jv kh ku kv tx hi xi xr xf xs) (fun w => []) (fun w => False) (fun w H => True) := by
  refine ti_metXH (by decide) (Nat.le_of_ble_eq_true rfl) ?_
  intro p e s m below meth c H A Q ls S hE hP hD hS hA hZ hAz hx0 htab hl hret hq
  obtain ⟨hQ, hr, hlk, hinit⟩ := hq
  have hsz0 := hS.1
  have hx := S.1
  have hb := S.2.1
  have hown := S.2.2.2.1
  have hts := S.2.2.2.2
  have hK := hE.1
  have hl : lv_has ls 5 [(0, .ref (ad 0)), (1, .ref (ad 2))] := hl
  have h4 := hxs.1
  refine lv_aload_n hx hb dX0_areSo_0 rfl (lv_at hl 0 rfl) ?_
  refine va_get (v := .ref (ad 23)) hx hb hts in_X0 hown hK hP 0 rfl rfl 10 (by decide) (hts _ q247) (fun _ h => h) rfl dX0_areSo_1 ?_
  refine va_getN (v := .int (nI xs.2.2.2)) hx hb hts in_X5 hown hK hP 17 rfl rfl 3 (by decide) (hE.use q214 rfl rfl) (fun _ h => h) rfl dX0_areSo_4 ?_
  refine tn_if_ne (tgt := 12) hx hb dX0_areSo_7 (by decide) (by omega) (fun c7 => ?_) (fun c7 => ?_)
  · skip
    refine lv_aload_n hx hb dX0_areSo_12 rfl (lv_at hl 0 rfl) ?_
    refine va_get (v := .ref (ad 5)) hx hb hts in_X0 hown hK hP 0 rfl rfl 2 (by decide) (hts _ q239) (fun _ h => h) rfl dX0_areSo_13 ?_
    refine lv_aload_n hx hb dX0_areSo_16 rfl (lv_at hl 1 rfl) ?_
    by_cases hz17 : xr.2.2 = 0
    · skip
      refine ti_callX (ty_runV (As := [.ref (ad 2)]) (rest := []) S (met_X2_looks_z l D E htr z0 (ad 5) (ad 6) (ad 7) (ad 8) (ad 9) (ad 10) xf.1 xf.2.1 xf.2.2.1 xf.2.2.2.1 xf.2.2.2.2.1 xf.2.2.2.2.2.1 xf.2.2.2.2.2.2.1 xf.2.2.2.2.2.2.2.1 xf.2.2.2.2.2.2.2.2.1 xf.2.2.2.2.2.2.2.2.2 (ad 2) (ad 3) (ad 4) xr.1 xr.2.1 xr.2.2 hz17 H.size) (cwV 1 S.2.2.2.2 (lw_V q357 q358 q359 q68 q360) rfl rfl rfl (by decide +kernel) ⟨Nat.le_of_ble_eq_true rfl, Nat.le_of_ble_eq_true rfl⟩) (ti_preXV (xp := fun _ => True) hE hP hD hS rfl hZ hAz trivial [11, 12, 13, 14, 15, 16, 8, 9, 10] rfl rfl 11 rfl rfl) rfl rfl hl.1 rfl (lv_room (Nat.le_of_ble_eq_true rfl)) dX0_areSo_17 ⟨Nat.le_of_ble_eq_true rfl, Nat.le_of_ble_eq_true rfl⟩) hP hD hS hA [11, 12, 13, 14, 15, 16, 8, 9, 10] rfl (fun _ => rfl) (fun _ => rfl) (fun _ _ _ h9 => absurd h9 id) (fun we H locs ce hpx hxx hFr hP hD hPe hnew hS hce hcv hcl => ?_)
      have hP : va_P D vwCl (ti_wMJRFS E ad dh du dv jh ju jv kh ku kv tx hi xi xr xf xs) H := ti_asP hP [.inl 0, .inl 1, .inl 2, .inl 3, .inl 4, .inl 5, .inl 6, .inl 7, .inr 6, .inr 7, .inr 8, .inr 0, .inr 1, .inr 2, .inr 3, .inr 4, .inr 5, .inl 17, .inl 18, .inl 19, .inl 20] rfl rfl rfl rfl
      have hD : va_D A (ti_wMJRFS E ad dh du dv jh ju jv kh ku kv tx hi xi xr xf xs) := ti_asD hD [.inl 0, .inl 1, .inl 2, .inl 3, .inl 4, .inl 5, .inl 6, .inl 7, .inr 6, .inr 7, .inr 8, .inr 0, .inr 1, .inr 2, .inr 3, .inr 4, .inr 5, .inl 17, .inl 18, .inl 19, .inl 20] rfl rfl rfl rfl
      refine vx_catch hown [] ⟨12, 98, 107, 150⟩ [⟨99, 106, 107, 150⟩] htab (fun z hz => absurd hz List.not_mem_nil) rfl (by decide) (hts _ q356) (hE.use q363 rfl rfl) hce hcv hcl ?_
      refine lv_astore_n (lv' := [(2, .ref we.1), (0, .ref (ad 0)), (1, .ref (ad 2))]) hx hb dX0_areSo_107 rfl hl (by decide) rfl (fun ls hl => ?_)
      refine lv_iconst (v := nI 0) hx hb dX0_areSo_108 (by decide) ?_
      have hv9 : (nI 0) = ti_b ((fun _ => ti_seen (ti_gr xr.1 xr.2.1 0 xr.2.2) (ti_Wl3 xs)) xf) := by rw [ti_seen, if_neg (by rw [ti_fr_len]; exact c7), if_pos (by rw [ti_gr_len]; exact hz17)]; rfl
      refine W.eq (g2 := F0 m 109 ls [.int (ti_b ((fun _ => ti_seen (ti_gr xr.1 xr.2.1 0 xr.2.2) (ti_Wl3 xs)) xf))]) (congrArg (fun z => F0 m 109 ls [.int z]) hv9) ?_
      exact hret _ xf _ _ _ _ (hxf) hP trivial hS (Nat.le_of_ble_eq_true rfl) (Nat.le_of_ble_eq_true rfl) (fun hq hf9 => W.zret hx hb hr (ti_b_nar _) hq hf9 dX0_areSo_109 hlk)
    · skip
      have hz1 : 0 < xr.2.2 := Nat.pos_of_ne_zero hz17
      have hnd9 : (ti_gr xr.1 xr.2.1 0 xr.2.2).Nodup := hnd9
      have hN9 : ti_r2 (ti_gr xr.1 xr.2.1 0 xr.2.2) 9999 (List.range' 1 9) ≤ 6 := Nat.le_trans (ti_r2_le hnd9 9999) (by rw [ti_gr_len]; exact hxr.2.2)
      refine ti_mV (As := [.ref (ad 2)]) (rest := []) S hE hP hD hS hA [11, 12, 13, 14, 15, 16, 8, 9, 10] rfl (met_X2_looks l D E (ad 5) (ad 6) (ad 7) (ad 8) (ad 9) (ad 10) xf.1 xf.2.1 xf.2.2.1 xf.2.2.2.1 xf.2.2.2.2.1 xf.2.2.2.2.2.1 xf.2.2.2.2.2.2.1 xf.2.2.2.2.2.2.2.1 xf.2.2.2.2.2.2.2.2.1 xf.2.2.2.2.2.2.2.2.2 (ad 2) (ad 3) (ad 4) xr.1 xr.2.1 xr.2.2 hxr.2.2 hxr.1 hxr.2.1 hxf.1 hxf.2.1 hxf.2.2.1 hxf.2.2.2.1 hz1 hN9) rfl (fun _ => rfl) (lw_V q357 q358 q359 q68 q360) 1 rfl 11 rfl rfl (by decide +kernel) ⟨Nat.le_of_ble_eq_true rfl, Nat.le_of_ble_eq_true rfl⟩ hl.1 rfl (Nat.le_of_ble_eq_true rfl) ⟨Nat.le_of_ble_eq_true rfl, Nat.le_of_ble_eq_true rfl⟩ dX0_areSo_17 (fun u1 H locs hu hP hD hS => ?_)
      obtain ⟨hF1, hF2, hF3, hF4, hF5⟩ := hu
      have hFF : ti_fr u1.1 u1.2.1 u1.2.2.1 0 u1.2.2.2 = ti_FF (ti_gr xr.1 xr.2.1 0 xr.2.2) := by rw [hF1]; exact ti_fxm (by rw [ti_gr_len]; exact hz1) (ti_gr_9 hxr.1 hxr.2.1 0 _)
      have hFo : ti_Fok (Value.ref (ad 2), u1.1, u1.2.1, u1.2.2.1, u1.2.2.2, xf.2.2.2.2.2.1, xf.2.2.2.2.2.2.1, xf.2.2.2.2.2.2.2.1, xf.2.2.2.2.2.2.2.2.1, xf.2.2.2.2.2.2.2.2.2) := ⟨hF2, hF3, hF4, hF5, hxf.2.2.2.2⟩
      have hP : va_P D vwCl (ti_wMJRFS E ad dh du dv jh ju jv kh ku kv tx hi xi xr (Value.ref (ad 2), u1.1, u1.2.1, u1.2.2.1, u1.2.2.2, xf.2.2.2.2.2.1, xf.2.2.2.2.2.2.1, xf.2.2.2.2.2.2.2.1, xf.2.2.2.2.2.2.2.2.1, xf.2.2.2.2.2.2.2.2.2) xs) H := ti_asP hP [.inl 0, .inl 1, .inl 2, .inl 3, .inl 4, .inl 5, .inl 6, .inl 7, .inr 6, .inr 7, .inr 8, .inr 0, .inr 1, .inr 2, .inr 3, .inr 4, .inr 5, .inl 17, .inl 18, .inl 19, .inl 20] rfl rfl rfl rfl
      have hD : va_D A (ti_wMJRFS E ad dh du dv jh ju jv kh ku kv tx hi xi xr (Value.ref (ad 2), u1.1, u1.2.1, u1.2.2.1, u1.2.2.2, xf.2.2.2.2.2.1, xf.2.2.2.2.2.2.1, xf.2.2.2.2.2.2.2.1, xf.2.2.2.2.2.2.2.2.1, xf.2.2.2.2.2.2.2.2.2) xs) := ti_asD hD [.inl 0, .inl 1, .inl 2, .inl 3, .inl 4, .inl 5, .inl 6, .inl 7, .inr 6, .inr 7, .inr 8, .inr 0, .inr 1, .inr 2, .inr 3, .inr 4, .inr 5, .inl 17, .inl 18, .inl 19, .inl 20] rfl rfl rfl rfl
      refine W.eq (g2 := F0 m 20 ls [.ref (ad 5)]) rfl ?_
      refine ti_mV (As := []) (rest := []) S hE hP hD hS hA [11, 12, 13, 14, 15, 16] rfl (met_X2_lists l D E (ad 5) (ad 6) (ad 7) (ad 8) (ad 9) (ad 10) (Value.ref (ad 2)) u1.1 u1.2.1 u1.2.2.1 u1.2.2.2 xf.2.2.2.2.2.1 xf.2.2.2.2.2.2.1 xf.2.2.2.2.2.2.2.1 xf.2.2.2.2.2.2.2.2.1 xf.2.2.2.2.2.2.2.2.2 hFo.1 hFo.2.1 hFo.2.2.1 hFo.2.2.2.1 hFo.2.2.2.2.1 hFo.2.2.2.2.2.1 hFo.2.2.2.2.2.2.1 hFo.2.2.2.2.2.2.2) rfl (fun _ => rfl) (lw_V q606 q607 q608 q68 q609) 0 rfl 11 rfl rfl (by decide +kernel) ⟨Nat.le_of_ble_eq_true rfl, Nat.le_of_ble_eq_true rfl⟩ hl.1 rfl (Nat.le_of_ble_eq_true rfl) ⟨Nat.le_of_ble_eq_true rfl, Nat.le_of_ble_eq_true rfl⟩ dX0_areSo_20 (fun u2 H locs hu hP hD hS => ?_)
      obtain ⟨hL1, hL2, hL3, hL4, hL5, hL6⟩ := hu
      have hFl : ti_Fok (Value.ref (ad 2), u1.1, u1.2.1, u1.2.2.1, u1.2.2.2, u2.1, u2.2.1, u2.2.2.1, u2.2.2.2.1, u2.2.2.2.2) := ⟨hFo.1, hFo.2.1, hFo.2.2.1, hFo.2.2.2.1, hL3, hL4, hL5, hL6⟩
      obtain ⟨hR1, hR2⟩ := ti_jr hL1
      have hP : va_P D vwCl (ti_wMJRFS E ad dh du dv jh ju jv kh ku kv tx hi xi xr (Value.ref (ad 2), u1.1, u1.2.1, u1.2.2.1, u1.2.2.2, u2.1, u2.2.1, u2.2.2.1, u2.2.2.2.1, u2.2.2.2.2) xs) H := hP
      have hD : va_D A (ti_wMJRFS E ad dh du dv jh ju jv kh ku kv tx hi xi xr (Value.ref (ad 2), u1.1, u1.2.1, u1.2.2.1, u1.2.2.2, u2.1, u2.2.1, u2.2.2.1, u2.2.2.2.1, u2.2.2.2.2) xs) := hD
      refine W.eq (g2 := F0 m 23 ls [.int (nI u2.2.2.2.2)]) rfl ?_
      refine lv_istore_n (lv' := [(2, .int (nI u2.2.2.2.2)), (0, .ref (ad 0)), (1, .ref (ad 2))]) hx hb dX0_areSo_23 rfl hl (by decide) rfl (fun ls hl => ?_)
      refine lv_iconst (v := nI 0) hx hb dX0_areSo_24 (by decide) ?_
      refine lv_istore_n (lv' := [(3, .int (nI 0)), (2, .int (nI u2.2.2.2.2)), (0, .ref (ad 0)), (1, .ref (ad 2))]) hx hb dX0_areSo_25 rfl hl (by decide) rfl (fun ls hl => ?_)
      have L26 : ∀ (N : Nat) (k : Nat) (ls : Array Slot) (H : Heap) (locs : List Loc), va_P D vwCl (ti_wMJRFS E ad dh du dv jh ju jv kh ku kv tx hi xi xr (Value.ref (ad 2), u1.1, u1.2.1, u1.2.2.1, u1.2.2.2, u2.1, u2.2.1, u2.2.2.1, u2.2.2.2.1, u2.2.2.2.2) xs) H → va_D A (ti_wMJRFS E ad dh du dv jh ju jv kh ku kv tx hi xi xr (Value.ref (ad 2), u1.1, u1.2.1, u1.2.2.1, u1.2.2.2, u2.1, u2.2.1, u2.2.2.1, u2.2.2.2.1, u2.2.2.2.2) xs) → va_S A s.heap H locs → (xs.2.2.2 - k) < N → (k ≤ xs.2.2.2) → (ti_so (ti_ml (ti_FF (ti_gr xr.1 xr.2.1 0 xr.2.2)) (List.range' 0 100) []) (ti_fr xs.1 xs.2.1 xs.2.2.1 k (xs.2.2.2 - k)) = ti_so (ti_ml (ti_FF (ti_gr xr.1 xr.2.1 0 xr.2.2)) (List.range' 0 100) []) (ti_Wl3 xs)) → lv_has ls 5 [(0, .ref (ad 0)), (1, .ref (ad 2)), (2, .int (nI u2.2.2.2.2)), (3, .int (nI k))] → W p l e (ti_rm 7 1 6) s m ([.ref (ad 0), .ref (ad 2)] : List Value).toArray below meth c H locs 0 0 Q (F0 m 26 ls []) := by
        intro N
        induction N with
        | zero => intro k ls H locs hP hD hS h0; exact absurd h0 (Nat.not_lt_zero _)
        | succ N ih26 =>
          intro k ls H locs hP hD hS hN hk hso hl
          refine lv_iload_n hx hb dX0_areSo_26 rfl (lv_at hl 3 rfl) ?_
          refine lv_aload_n hx hb dX0_areSo_27 rfl (lv_at hl 0 rfl) ?_
          refine va_get (v := .ref (ad 23)) hx hb hts in_X0 hown hK hP 0 rfl rfl 10 (by decide) (hts _ q247) (fun _ h => h) rfl dX0_areSo_28 ?_
          refine va_getN (v := .int (nI xs.2.2.2)) hx hb hts in_X5 hown hK hP 17 rfl rfl 3 (by decide) (hE.use q214 rfl rfl) (fun _ h => h) rfl dX0_areSo_31 ?_
          refine tn_ge (tgt := 105) hx hb dX0_areSo_34 (by decide) (by omega) (by omega) (fun c34 => ?_) (fun c34 => ?_)
          · skip
            refine lv_iconst (v := nI 1) hx hb dX0_areSo_105 (by decide) ?_
            have hv9 : (nI 1) = ti_b ((fun _ => ti_seen (ti_gr xr.1 xr.2.1 0 xr.2.2) (ti_Wl3 xs)) ((Value.ref (ad 2), u1.1, u1.2.1, u1.2.2.1, u1.2.2.2, u2.1, u2.2.1, u2.2.2.1, u2.2.2.2.1, u2.2.2.2.2))) := by rw [show xs.2.2.2 - k = 0 by omega] at hso; rw [ti_seen, if_neg (by rw [ti_fr_len]; exact c7), if_neg (by rw [ti_gr_len]; exact hz17), ← hso]; rfl
            refine W.eq (g2 := F0 m 106 ls [.int (ti_b ((fun _ => ti_seen (ti_gr xr.1 xr.2.1 0 xr.2.2) (ti_Wl3 xs)) ((Value.ref (ad 2), u1.1, u1.2.1, u1.2.2.1, u1.2.2.2, u2.1, u2.2.1, u2.2.2.1, u2.2.2.2.1, u2.2.2.2.2))))]) (congrArg (fun z => F0 m 106 ls [.int z]) hv9) ?_
            exact hret _ ((Value.ref (ad 2), u1.1, u1.2.1, u1.2.2.1, u1.2.2.2, u2.1, u2.2.1, u2.2.2.1, u2.2.2.2.1, u2.2.2.2.2)) _ _ _ _ (hFl) hP trivial hS (Nat.le_of_ble_eq_true rfl) (Nat.le_of_ble_eq_true rfl) (fun hq hf9 => W.zret hx hb hr (ti_b_nar _) hq hf9 dX0_areSo_106 hlk)
          · skip
            obtain ⟨m9, hm9⟩ : ∃ m9, xs.2.2.2 - k = m9 + 1 := ⟨xs.2.2.2 - k - 1, by omega⟩
            rw [hm9, ti_fr_s, ti_so] at hso
            refine lv_aload_n hx hb dX0_areSo_37 rfl (lv_at hl 0 rfl) ?_
            refine va_get (v := .ref (ad 23)) hx hb hts in_X0 hown hK hP 0 rfl rfl 10 (by decide) (hts _ q247) (fun _ h => h) rfl dX0_areSo_38 ?_
            refine va_getN (v := .ref (ad 24)) hx hb hts in_X5 hown hK hP 17 rfl rfl 0 (by decide) (hE.use q208 rfl rfl) (fun _ h => h) rfl dX0_areSo_41 ?_
            refine lv_iload_n hx hb dX0_areSo_44 rfl (lv_at hl 3 rfl) ?_
            refine tn_iald (f := xs.1) hx hb hK hP 18 0 rfl rfl (by omega) (by decide) dX0_areSo_45 ?_
            have b45 := hxs.2.1 k
            refine lv_istore (lv' := [(4, .int (nI (xs.1 k))), (0, .ref (ad 0)), (1, .ref (ad 2)), (2, .int (nI u2.2.2.2.2)), (3, .int (nI k))]) hx hb dX0_areSo_46 hl (by decide) rfl (fun ls hl => ?_)
            refine lv_iload hx hb dX0_areSo_48 (lv_at hl 0 rfl) ?_
            refine lv_iload_n hx hb dX0_areSo_50 rfl (lv_at hl 3 rfl) ?_
            refine tn_ge (tgt := 97) hx hb dX0_areSo_51 (by decide) (by omega) (by omega) (fun c51 => ?_) (fun c51 => ?_)
            · skip
              rw [hFF] at hR1
              rw [if_neg (by rw [hR1]; omega)] at hso
              refine lv_iconst (v := nI 0) hx hb dX0_areSo_97 (by decide) ?_
              have hv9 : (nI 0) = ti_b ((fun _ => ti_seen (ti_gr xr.1 xr.2.1 0 xr.2.2) (ti_Wl3 xs)) ((Value.ref (ad 2), u1.1, u1.2.1, u1.2.2.1, u1.2.2.2, u2.1, u2.2.1, u2.2.2.1, u2.2.2.2.1, u2.2.2.2.2))) := by rw [ti_seen, if_neg (by rw [ti_fr_len]; exact c7), if_neg (by rw [ti_gr_len]; exact hz17), ← hso]; rfl
              refine W.eq (g2 := F0 m 98 ls [.int (ti_b ((fun _ => ti_seen (ti_gr xr.1 xr.2.1 0 xr.2.2) (ti_Wl3 xs)) ((Value.ref (ad 2), u1.1, u1.2.1, u1.2.2.1, u1.2.2.2, u2.1, u2.2.1, u2.2.2.1, u2.2.2.2.1, u2.2.2.2.2))))]) (congrArg (fun z => F0 m 98 ls [.int z]) hv9) ?_
              exact hret _ ((Value.ref (ad 2), u1.1, u1.2.1, u1.2.2.1, u1.2.2.2, u2.1, u2.2.1, u2.2.2.1, u2.2.2.2.1, u2.2.2.2.2)) _ _ _ _ (hFl) hP trivial hS (Nat.le_of_ble_eq_true rfl) (Nat.le_of_ble_eq_true rfl) (fun hq hf9 => W.zret hx hb hr (ti_b_nar _) hq hf9 dX0_areSo_98 hlk)
            · skip
              have hj9 : xs.1 k < u2.2.2.2.2 := by omega
              have hjd := hR2 (xs.1 k) hj9
              rw [hFF] at hjd hR1
              refine lv_aload_n hx hb dX0_areSo_54 rfl (lv_at hl 1 rfl) ?_
              refine va_get (v := .ref (ad 5)) hx hb hts in_X0 hown hK hP 0 rfl rfl 2 (by decide) (hts _ q239) (fun _ h => h) rfl dX0_areSo_55 ?_
              refine va_getN (v := .ref (ad 9)) hx hb hts in_X2 hown hK hP 11 rfl rfl 7 (by decide) (hE.use q146 rfl rfl) (fun _ h => h) rfl dX0_areSo_58 ?_
              refine lv_iload hx hb dX0_areSo_61 (lv_at hl 0 rfl) ?_
              refine tn_iald (f := u2.2.2.1) hx hb hK hP 15 0 rfl rfl (by omega) (by decide) dX0_areSo_63 ?_
              have b63 := hFl.2.2.2.2.2.2.1 (xs.1 k)
              refine lv_aload_n hx hb dX0_areSo_64 rfl (lv_at hl 1 rfl) ?_
              refine va_get (v := .ref (ad 23)) hx hb hts in_X0 hown hK hP 0 rfl rfl 10 (by decide) (hts _ q247) (fun _ h => h) rfl dX0_areSo_65 ?_
              refine va_getN (v := .ref (ad 26)) hx hb hts in_X5 hown hK hP 17 rfl rfl 2 (by decide) (hE.use q212 rfl rfl) (fun _ h => h) rfl dX0_areSo_68 ?_
              refine lv_iload_n hx hb dX0_areSo_71 rfl (lv_at hl 4 rfl) ?_
              refine tn_iald (f := xs.2.2.1) hx hb hK hP 20 0 rfl rfl (by omega) (by decide) dX0_areSo_72 ?_
              have b72 := hxs.2.2.2 k
              refine tn_mul hx hb dX0_areSo_73 ?_
              have b73 : (u2.2.2.1 (xs.1 k)) * (xs.2.2.1 k) ≤ 17820 := Nat.mul_le_mul b63 b72
              refine lv_aload_n hx hb dX0_areSo_74 rfl (lv_at hl 1 rfl) ?_
              refine va_get (v := .ref (ad 5)) hx hb hts in_X0 hown hK hP 0 rfl rfl 2 (by decide) (hts _ q239) (fun _ h => h) rfl dX0_areSo_75 ?_
              refine va_getN (v := .ref (ad 10)) hx hb hts in_X2 hown hK hP 11 rfl rfl 8 (by decide) (hE.use q148 rfl rfl) (fun _ h => h) rfl dX0_areSo_78 ?_
              refine lv_iload hx hb dX0_areSo_81 (lv_at hl 0 rfl) ?_
              refine tn_iald (f := u2.2.2.2.1) hx hb hK hP 16 0 rfl rfl (by omega) (by decide) dX0_areSo_83 ?_
              have b83 := hFl.2.2.2.2.2.2.2 (xs.1 k)
              refine lv_aload_n hx hb dX0_areSo_84 rfl (lv_at hl 1 rfl) ?_
              refine va_get (v := .ref (ad 23)) hx hb hts in_X0 hown hK hP 0 rfl rfl 10 (by decide) (hts _ q247) (fun _ h => h) rfl dX0_areSo_85 ?_
              refine va_getN (v := .ref (ad 25)) hx hb hts in_X5 hown hK hP 17 rfl rfl 1 (by decide) (hE.use q210 rfl rfl) (fun _ h => h) rfl dX0_areSo_88 ?_
              refine lv_iload_n hx hb dX0_areSo_91 rfl (lv_at hl 4 rfl) ?_
              refine tn_iald (f := xs.2.1) hx hb hK hP 19 0 rfl rfl (by omega) (by decide) dX0_areSo_92 ?_
              have b92 := hxs.2.2.1 k
              refine tn_mul hx hb dX0_areSo_93 ?_
              have b93 : (u2.2.2.2.1 (xs.1 k)) * (xs.2.1 k) ≤ 989901 := Nat.mul_le_mul b83 b92
              refine tn_eq (tgt := 99) hx hb dX0_areSo_94 (by decide) (by omega) (by omega) (fun c94 => ?_) (fun c94 => ?_)
              · skip
                rw [if_pos ⟨by rw [hR1]; exact hj9, by rw [hjd.1]; exact (ti_so_x hjd.2).mp c94⟩] at hso
                refine lv_iinc (v := nI (k + 1)) (lv' := [(3, .int (nI (k + 1))), (4, .int (nI (xs.1 k))), (0, .ref (ad 0)), (1, .ref (ad 2)), (2, .int (nI u2.2.2.2.2))]) hx hb dX0_areSo_99 hl (k := 4) rfl (nI_1 k) (by decide) rfl (fun ls hl => ?_)
                refine lv_goto (tgt := 26) hx hb dX0_areSo_102 (by decide) ?_
                exact ih26 (k + 1) _ _ _ hP hD hS (by omega) (by omega) (by rw [show xs.2.2.2 - (k + 1) = m9 by omega]; exact hso) (lv_sub hl [2, 3, 4, 0] rfl)
              · skip
                rw [if_neg (fun z => c94 ((ti_so_x hjd.2).mpr (by have := z.2; rw [hjd.1] at this; exact this)))] at hso
                refine lv_iconst (v := nI 0) hx hb dX0_areSo_97 (by decide) ?_
                have hv9 : (nI 0) = ti_b ((fun _ => ti_seen (ti_gr xr.1 xr.2.1 0 xr.2.2) (ti_Wl3 xs)) ((Value.ref (ad 2), u1.1, u1.2.1, u1.2.2.1, u1.2.2.2, u2.1, u2.2.1, u2.2.2.1, u2.2.2.2.1, u2.2.2.2.2))) := by rw [ti_seen, if_neg (by rw [ti_fr_len]; exact c7), if_neg (by rw [ti_gr_len]; exact hz17), ← hso]; rfl
                refine W.eq (g2 := F0 m 98 ls [.int (ti_b ((fun _ => ti_seen (ti_gr xr.1 xr.2.1 0 xr.2.2) (ti_Wl3 xs)) ((Value.ref (ad 2), u1.1, u1.2.1, u1.2.2.1, u1.2.2.2, u2.1, u2.2.1, u2.2.2.1, u2.2.2.2.1, u2.2.2.2.2))))]) (congrArg (fun z => F0 m 98 ls [.int z]) hv9) ?_
                exact hret _ ((Value.ref (ad 2), u1.1, u1.2.1, u1.2.2.1, u1.2.2.2, u2.1, u2.2.1, u2.2.2.1, u2.2.2.2.1, u2.2.2.2.2)) _ _ _ _ (hFl) hP trivial hS (Nat.le_of_ble_eq_true rfl) (Nat.le_of_ble_eq_true rfl) (fun hq hf9 => W.zret hx hb hr (ti_b_nar _) hq hf9 dX0_areSo_98 hlk)
      exact L26 _ 0 _ _ _ hP hD hS (Nat.lt_succ_self _) (by omega) (rfl) (lv_sub hl [2, 3, 1, 0] rfl)
  · skip
    refine lv_iconst (v := nI 1) hx hb dX0_areSo_10 (by decide) ?_
    have hv9 : (nI 1) = ti_b ((fun _ => ti_seen (ti_gr xr.1 xr.2.1 0 xr.2.2) (ti_Wl3 xs)) xf) := by rw [ti_seen, if_pos (by rw [ti_fr_len]; exact c7)]; rfl
    refine W.eq (g2 := F0 m 11 ls [.int (ti_b ((fun _ => ti_seen (ti_gr xr.1 xr.2.1 0 xr.2.2) (ti_Wl3 xs)) xf))]) (congrArg (fun z => F0 m 11 ls [.int z]) hv9) ?_
    exact hret _ xf _ _ _ _ (hxf) hP trivial hS (Nat.le_of_ble_eq_true rfl) (Nat.le_of_ble_eq_true rfl) (fun hq hf9 => W.zret hx hb hr (ti_b_nar _) hq hf9 dX0_areSo_11 hlk)

set_option maxHeartbeats 2000000 in
theorem met_X0_areSo_J (l : Launch) (D : va_G) (E : Nat → ClassId) (htr : l.stackTraces = false) (z0 : Nat) (ad dh du dv jh ju jv kh ku kv : Nat → Nat) (tx : Nat) (hi : Bool) (xi : ti_Ti) (xr : ti_Tr) (xf : ti_Tf) (xs : ti_Tw) (hxi : ti_Jok xi) (hxr : ti_Rok xr) (hxf : ti_Fok xf) (hxs : ti_Wok 4 xs) (hnd9 : (ti_gr (xi.1 0) (xi.2.1 0) 0 (xi.2.2 0)).Nodup) : ti_MetX (σ := ti_Tf) (τ := Unit) l D E yX0_areSo (wsW_ yX0_areSo cX0_areSo 5 (some .boolean) [(12, 98, 107, 150), (99, 106, 107, 150)]) 7 1 6 z0 (ti_wMJRFS E ad dh du dv jh ju jv kh ku kv tx hi xi xr xf xs) [.ref (ad 0), .ref (jh 0)] (fun _ => True) (fun u => ti_wMJRFS E ad dh du dv jh ju jv kh ku kv tx hi xi xr u xs) (fun u => some (.int (ti_b ((fun _ => ti_seen (ti_gr (xi.1 0) (xi.2.1 0) 0 (xi.2.2 0)) (ti_Wl3 xs)) u)))) (fun u => ti_Fok u) (fun _ _ => True) (fun w => RX14) (fun w => 0) (fun w => ti_wMJRFS E ad dh du dv jh ju jv kh ku kv tx hi xi xr xf xs) (fun w => []) (fun w => False) (fun w H => True) := by
  refine ti_metXH (by decide) (Nat.le_of_ble_eq_true rfl) ?_
  intro p e s m below meth c H A Q ls S hE hP hD hS hA hZ hAz hx0 htab hl hret hq
  obtain ⟨hQ, hr, hlk, hinit⟩ := hq
  have hsz0 := hS.1
  have hx := S.1
  have hb := S.2.1
  have hown := S.2.2.2.1
  have hts := S.2.2.2.2
  have hK := hE.1
  have hl : lv_has ls 5 [(0, .ref (ad 0)), (1, .ref (jh 0))] := hl
  have h4 := hxs.1
  refine lv_aload_n hx hb dX0_areSo_0 rfl (lv_at hl 0 rfl) ?_
  refine va_get (v := .ref (ad 23)) hx hb hts in_X0 hown hK hP 0 rfl rfl 10 (by decide) (hts _ q247) (fun _ h => h) rfl dX0_areSo_1 ?_
  refine va_getN (v := .int (nI xs.2.2.2)) hx hb hts in_X5 hown hK hP 17 rfl rfl 3 (by decide) (hE.use q214 rfl rfl) (fun _ h => h) rfl dX0_areSo_4 ?_
  refine tn_if_ne (tgt := 12) hx hb dX0_areSo_7 (by decide) (by omega) (fun c7 => ?_) (fun c7 => ?_)
  · skip
    refine lv_aload_n hx hb dX0_areSo_12 rfl (lv_at hl 0 rfl) ?_
    refine va_get (v := .ref (ad 5)) hx hb hts in_X0 hown hK hP 0 rfl rfl 2 (by decide) (hts _ q239) (fun _ h => h) rfl dX0_areSo_13 ?_
    refine lv_aload_n hx hb dX0_areSo_16 rfl (lv_at hl 1 rfl) ?_
    by_cases hz17 : xi.2.2 0 = 0
    · skip
      refine ti_callX (ty_runV (As := [.ref (jh 0)]) (rest := []) S (met_X2_looks_z l D E htr z0 (ad 5) (ad 6) (ad 7) (ad 8) (ad 9) (ad 10) xf.1 xf.2.1 xf.2.2.1 xf.2.2.2.1 xf.2.2.2.2.1 xf.2.2.2.2.2.1 xf.2.2.2.2.2.2.1 xf.2.2.2.2.2.2.2.1 xf.2.2.2.2.2.2.2.2.1 xf.2.2.2.2.2.2.2.2.2 (jh 0) (ju 0) (jv 0) (xi.1 0) (xi.2.1 0) (xi.2.2 0) hz17 H.size) (cwV 1 S.2.2.2.2 (lw_V q357 q358 q359 q68 q360) rfl rfl rfl (by decide +kernel) ⟨Nat.le_of_ble_eq_true rfl, Nat.le_of_ble_eq_true rfl⟩) (ti_preXV (xp := fun _ => True) hE hP hD hS rfl hZ hAz trivial [11, 12, 13, 14, 15, 16, 2, 3, 4] rfl rfl 11 rfl rfl) rfl rfl hl.1 rfl (lv_room (Nat.le_of_ble_eq_true rfl)) dX0_areSo_17 ⟨Nat.le_of_ble_eq_true rfl, Nat.le_of_ble_eq_true rfl⟩) hP hD hS hA [11, 12, 13, 14, 15, 16, 2, 3, 4] rfl (fun _ => rfl) (fun _ => rfl) (fun _ _ _ h9 => absurd h9 id) (fun we H locs ce hpx hxx hFr hP hD hPe hnew hS hce hcv hcl => ?_)
      have hP : va_P D vwCl (ti_wMJRFS E ad dh du dv jh ju jv kh ku kv tx hi xi xr xf xs) H := ti_asP hP [.inl 0, .inl 1, .inr 6, .inr 7, .inr 8, .inl 5, .inl 6, .inl 7, .inl 8, .inl 9, .inl 10, .inr 0, .inr 1, .inr 2, .inr 3, .inr 4, .inr 5, .inl 17, .inl 18, .inl 19, .inl 20] rfl rfl rfl rfl
      have hD : va_D A (ti_wMJRFS E ad dh du dv jh ju jv kh ku kv tx hi xi xr xf xs) := ti_asD hD [.inl 0, .inl 1, .inr 6, .inr 7, .inr 8, .inl 5, .inl 6, .inl 7, .inl 8, .inl 9, .inl 10, .inr 0, .inr 1, .inr 2, .inr 3, .inr 4, .inr 5, .inl 17, .inl 18, .inl 19, .inl 20] rfl rfl rfl rfl
      refine vx_catch hown [] ⟨12, 98, 107, 150⟩ [⟨99, 106, 107, 150⟩] htab (fun z hz => absurd hz List.not_mem_nil) rfl (by decide) (hts _ q356) (hE.use q363 rfl rfl) hce hcv hcl ?_
      refine lv_astore_n (lv' := [(2, .ref we.1), (0, .ref (ad 0)), (1, .ref (jh 0))]) hx hb dX0_areSo_107 rfl hl (by decide) rfl (fun ls hl => ?_)
      refine lv_iconst (v := nI 0) hx hb dX0_areSo_108 (by decide) ?_
      have hv9 : (nI 0) = ti_b ((fun _ => ti_seen (ti_gr (xi.1 0) (xi.2.1 0) 0 (xi.2.2 0)) (ti_Wl3 xs)) xf) := by rw [ti_seen, if_neg (by rw [ti_fr_len]; exact c7), if_pos (by rw [ti_gr_len]; exact hz17)]; rfl
      refine W.eq (g2 := F0 m 109 ls [.int (ti_b ((fun _ => ti_seen (ti_gr (xi.1 0) (xi.2.1 0) 0 (xi.2.2 0)) (ti_Wl3 xs)) xf))]) (congrArg (fun z => F0 m 109 ls [.int z]) hv9) ?_
      exact hret _ xf _ _ _ _ (hxf) hP trivial hS (Nat.le_of_ble_eq_true rfl) (Nat.le_of_ble_eq_true rfl) (fun hq hf9 => W.zret hx hb hr (ti_b_nar _) hq hf9 dX0_areSo_109 hlk)
    · skip
      have hz1 : 0 < xi.2.2 0 := Nat.pos_of_ne_zero hz17
      have hnd9 : (ti_gr (xi.1 0) (xi.2.1 0) 0 (xi.2.2 0)).Nodup := hnd9
      have hN9 : ti_r2 (ti_gr (xi.1 0) (xi.2.1 0) 0 (xi.2.2 0)) 9999 (List.range' 1 9) ≤ 6 := Nat.le_trans (ti_r2_le hnd9 9999) (by rw [ti_gr_len]; exact (hxi.2.2 0))
      refine ti_mV (As := [.ref (jh 0)]) (rest := []) S hE hP hD hS hA [11, 12, 13, 14, 15, 16, 2, 3, 4] rfl (met_X2_looks l D E (ad 5) (ad 6) (ad 7) (ad 8) (ad 9) (ad 10) xf.1 xf.2.1 xf.2.2.1 xf.2.2.2.1 xf.2.2.2.2.1 xf.2.2.2.2.2.1 xf.2.2.2.2.2.2.1 xf.2.2.2.2.2.2.2.1 xf.2.2.2.2.2.2.2.2.1 xf.2.2.2.2.2.2.2.2.2 (jh 0) (ju 0) (jv 0) (xi.1 0) (xi.2.1 0) (xi.2.2 0) (hxi.2.2 0) (hxi.1 0) (hxi.2.1 0) hxf.1 hxf.2.1 hxf.2.2.1 hxf.2.2.2.1 hz1 hN9) rfl (fun _ => rfl) (lw_V q357 q358 q359 q68 q360) 1 rfl 11 rfl rfl (by decide +kernel) ⟨Nat.le_of_ble_eq_true rfl, Nat.le_of_ble_eq_true rfl⟩ hl.1 rfl (Nat.le_of_ble_eq_true rfl) ⟨Nat.le_of_ble_eq_true rfl, Nat.le_of_ble_eq_true rfl⟩ dX0_areSo_17 (fun u1 H locs hu hP hD hS => ?_)
      obtain ⟨hF1, hF2, hF3, hF4, hF5⟩ := hu
      have hFF : ti_fr u1.1 u1.2.1 u1.2.2.1 0 u1.2.2.2 = ti_FF (ti_gr (xi.1 0) (xi.2.1 0) 0 (xi.2.2 0)) := by rw [hF1]; exact ti_fxm (by rw [ti_gr_len]; exact hz1) (ti_gr_9 (hxi.1 0) (hxi.2.1 0) 0 _)
      have hFo : ti_Fok (Value.ref (jh 0), u1.1, u1.2.1, u1.2.2.1, u1.2.2.2, xf.2.2.2.2.2.1, xf.2.2.2.2.2.2.1, xf.2.2.2.2.2.2.2.1, xf.2.2.2.2.2.2.2.2.1, xf.2.2.2.2.2.2.2.2.2) := ⟨hF2, hF3, hF4, hF5, hxf.2.2.2.2⟩
      have hP : va_P D vwCl (ti_wMJRFS E ad dh du dv jh ju jv kh ku kv tx hi xi xr (Value.ref (jh 0), u1.1, u1.2.1, u1.2.2.1, u1.2.2.2, xf.2.2.2.2.2.1, xf.2.2.2.2.2.2.1, xf.2.2.2.2.2.2.2.1, xf.2.2.2.2.2.2.2.2.1, xf.2.2.2.2.2.2.2.2.2) xs) H := ti_asP hP [.inl 0, .inl 1, .inr 6, .inr 7, .inr 8, .inl 5, .inl 6, .inl 7, .inl 8, .inl 9, .inl 10, .inr 0, .inr 1, .inr 2, .inr 3, .inr 4, .inr 5, .inl 17, .inl 18, .inl 19, .inl 20] rfl rfl rfl rfl
      have hD : va_D A (ti_wMJRFS E ad dh du dv jh ju jv kh ku kv tx hi xi xr (Value.ref (jh 0), u1.1, u1.2.1, u1.2.2.1, u1.2.2.2, xf.2.2.2.2.2.1, xf.2.2.2.2.2.2.1, xf.2.2.2.2.2.2.2.1, xf.2.2.2.2.2.2.2.2.1, xf.2.2.2.2.2.2.2.2.2) xs) := ti_asD hD [.inl 0, .inl 1, .inr 6, .inr 7, .inr 8, .inl 5, .inl 6, .inl 7, .inl 8, .inl 9, .inl 10, .inr 0, .inr 1, .inr 2, .inr 3, .inr 4, .inr 5, .inl 17, .inl 18, .inl 19, .inl 20] rfl rfl rfl rfl
      refine W.eq (g2 := F0 m 20 ls [.ref (ad 5)]) rfl ?_
      refine ti_mV (As := []) (rest := []) S hE hP hD hS hA [11, 12, 13, 14, 15, 16] rfl (met_X2_lists l D E (ad 5) (ad 6) (ad 7) (ad 8) (ad 9) (ad 10) (Value.ref (jh 0)) u1.1 u1.2.1 u1.2.2.1 u1.2.2.2 xf.2.2.2.2.2.1 xf.2.2.2.2.2.2.1 xf.2.2.2.2.2.2.2.1 xf.2.2.2.2.2.2.2.2.1 xf.2.2.2.2.2.2.2.2.2 hFo.1 hFo.2.1 hFo.2.2.1 hFo.2.2.2.1 hFo.2.2.2.2.1 hFo.2.2.2.2.2.1 hFo.2.2.2.2.2.2.1 hFo.2.2.2.2.2.2.2) rfl (fun _ => rfl) (lw_V q606 q607 q608 q68 q609) 0 rfl 11 rfl rfl (by decide +kernel) ⟨Nat.le_of_ble_eq_true rfl, Nat.le_of_ble_eq_true rfl⟩ hl.1 rfl (Nat.le_of_ble_eq_true rfl) ⟨Nat.le_of_ble_eq_true rfl, Nat.le_of_ble_eq_true rfl⟩ dX0_areSo_20 (fun u2 H locs hu hP hD hS => ?_)
      obtain ⟨hL1, hL2, hL3, hL4, hL5, hL6⟩ := hu
      have hFl : ti_Fok (Value.ref (jh 0), u1.1, u1.2.1, u1.2.2.1, u1.2.2.2, u2.1, u2.2.1, u2.2.2.1, u2.2.2.2.1, u2.2.2.2.2) := ⟨hFo.1, hFo.2.1, hFo.2.2.1, hFo.2.2.2.1, hL3, hL4, hL5, hL6⟩
      obtain ⟨hR1, hR2⟩ := ti_jr hL1
      have hP : va_P D vwCl (ti_wMJRFS E ad dh du dv jh ju jv kh ku kv tx hi xi xr (Value.ref (jh 0), u1.1, u1.2.1, u1.2.2.1, u1.2.2.2, u2.1, u2.2.1, u2.2.2.1, u2.2.2.2.1, u2.2.2.2.2) xs) H := hP
      have hD : va_D A (ti_wMJRFS E ad dh du dv jh ju jv kh ku kv tx hi xi xr (Value.ref (jh 0), u1.1, u1.2.1, u1.2.2.1, u1.2.2.2, u2.1, u2.2.1, u2.2.2.1, u2.2.2.2.1, u2.2.2.2.2) xs) := hD
      refine W.eq (g2 := F0 m 23 ls [.int (nI u2.2.2.2.2)]) rfl ?_
      refine lv_istore_n (lv' := [(2, .int (nI u2.2.2.2.2)), (0, .ref (ad 0)), (1, .ref (jh 0))]) hx hb dX0_areSo_23 rfl hl (by decide) rfl (fun ls hl => ?_)
      refine lv_iconst (v := nI 0) hx hb dX0_areSo_24 (by decide) ?_
      refine lv_istore_n (lv' := [(3, .int (nI 0)), (2, .int (nI u2.2.2.2.2)), (0, .ref (ad 0)), (1, .ref (jh 0))]) hx hb dX0_areSo_25 rfl hl (by decide) rfl (fun ls hl => ?_)
      have L26 : ∀ (N : Nat) (k : Nat) (ls : Array Slot) (H : Heap) (locs : List Loc), va_P D vwCl (ti_wMJRFS E ad dh du dv jh ju jv kh ku kv tx hi xi xr (Value.ref (jh 0), u1.1, u1.2.1, u1.2.2.1, u1.2.2.2, u2.1, u2.2.1, u2.2.2.1, u2.2.2.2.1, u2.2.2.2.2) xs) H → va_D A (ti_wMJRFS E ad dh du dv jh ju jv kh ku kv tx hi xi xr (Value.ref (jh 0), u1.1, u1.2.1, u1.2.2.1, u1.2.2.2, u2.1, u2.2.1, u2.2.2.1, u2.2.2.2.1, u2.2.2.2.2) xs) → va_S A s.heap H locs → (xs.2.2.2 - k) < N → (k ≤ xs.2.2.2) → (ti_so (ti_ml (ti_FF (ti_gr (xi.1 0) (xi.2.1 0) 0 (xi.2.2 0))) (List.range' 0 100) []) (ti_fr xs.1 xs.2.1 xs.2.2.1 k (xs.2.2.2 - k)) = ti_so (ti_ml (ti_FF (ti_gr (xi.1 0) (xi.2.1 0) 0 (xi.2.2 0))) (List.range' 0 100) []) (ti_Wl3 xs)) → lv_has ls 5 [(0, .ref (ad 0)), (1, .ref (jh 0)), (2, .int (nI u2.2.2.2.2)), (3, .int (nI k))] → W p l e (ti_rm 7 1 6) s m ([.ref (ad 0), .ref (jh 0)] : List Value).toArray below meth c H locs 0 0 Q (F0 m 26 ls []) := by
        intro N
        induction N with
        | zero => intro k ls H locs hP hD hS h0; exact absurd h0 (Nat.not_lt_zero _)
        | succ N ih26 =>
          intro k ls H locs hP hD hS hN hk hso hl
          refine lv_iload_n hx hb dX0_areSo_26 rfl (lv_at hl 3 rfl) ?_
          refine lv_aload_n hx hb dX0_areSo_27 rfl (lv_at hl 0 rfl) ?_
          refine va_get (v := .ref (ad 23)) hx hb hts in_X0 hown hK hP 0 rfl rfl 10 (by decide) (hts _ q247) (fun _ h => h) rfl dX0_areSo_28 ?_
          refine va_getN (v := .int (nI xs.2.2.2)) hx hb hts in_X5 hown hK hP 17 rfl rfl 3 (by decide) (hE.use q214 rfl rfl) (fun _ h => h) rfl dX0_areSo_31 ?_
          refine tn_ge (tgt := 105) hx hb dX0_areSo_34 (by decide) (by omega) (by omega) (fun c34 => ?_) (fun c34 => ?_)
          · skip
            refine lv_iconst (v := nI 1) hx hb dX0_areSo_105 (by decide) ?_
            have hv9 : (nI 1) = ti_b ((fun _ => ti_seen (ti_gr (xi.1 0) (xi.2.1 0) 0 (xi.2.2 0)) (ti_Wl3 xs)) ((Value.ref (jh 0), u1.1, u1.2.1, u1.2.2.1, u1.2.2.2, u2.1, u2.2.1, u2.2.2.1, u2.2.2.2.1, u2.2.2.2.2))) := by rw [show xs.2.2.2 - k = 0 by omega] at hso; rw [ti_seen, if_neg (by rw [ti_fr_len]; exact c7), if_neg (by rw [ti_gr_len]; exact hz17), ← hso]; rfl
            refine W.eq (g2 := F0 m 106 ls [.int (ti_b ((fun _ => ti_seen (ti_gr (xi.1 0) (xi.2.1 0) 0 (xi.2.2 0)) (ti_Wl3 xs)) ((Value.ref (jh 0), u1.1, u1.2.1, u1.2.2.1, u1.2.2.2, u2.1, u2.2.1, u2.2.2.1, u2.2.2.2.1, u2.2.2.2.2))))]) (congrArg (fun z => F0 m 106 ls [.int z]) hv9) ?_
            exact hret _ ((Value.ref (jh 0), u1.1, u1.2.1, u1.2.2.1, u1.2.2.2, u2.1, u2.2.1, u2.2.2.1, u2.2.2.2.1, u2.2.2.2.2)) _ _ _ _ (hFl) hP trivial hS (Nat.le_of_ble_eq_true rfl) (Nat.le_of_ble_eq_true rfl) (fun hq hf9 => W.zret hx hb hr (ti_b_nar _) hq hf9 dX0_areSo_106 hlk)
          · skip
            obtain ⟨m9, hm9⟩ : ∃ m9, xs.2.2.2 - k = m9 + 1 := ⟨xs.2.2.2 - k - 1, by omega⟩
            rw [hm9, ti_fr_s, ti_so] at hso
            refine lv_aload_n hx hb dX0_areSo_37 rfl (lv_at hl 0 rfl) ?_
            refine va_get (v := .ref (ad 23)) hx hb hts in_X0 hown hK hP 0 rfl rfl 10 (by decide) (hts _ q247) (fun _ h => h) rfl dX0_areSo_38 ?_
            refine va_getN (v := .ref (ad 24)) hx hb hts in_X5 hown hK hP 17 rfl rfl 0 (by decide) (hE.use q208 rfl rfl) (fun _ h => h) rfl dX0_areSo_41 ?_
            refine lv_iload_n hx hb dX0_areSo_44 rfl (lv_at hl 3 rfl) ?_
            refine tn_iald (f := xs.1) hx hb hK hP 18 0 rfl rfl (by omega) (by decide) dX0_areSo_45 ?_
            have b45 := hxs.2.1 k
            refine lv_istore (lv' := [(4, .int (nI (xs.1 k))), (0, .ref (ad 0)), (1, .ref (jh 0)), (2, .int (nI u2.2.2.2.2)), (3, .int (nI k))]) hx hb dX0_areSo_46 hl (by decide) rfl (fun ls hl => ?_)
            refine lv_iload hx hb dX0_areSo_48 (lv_at hl 0 rfl) ?_
            refine lv_iload_n hx hb dX0_areSo_50 rfl (lv_at hl 3 rfl) ?_
            refine tn_ge (tgt := 97) hx hb dX0_areSo_51 (by decide) (by omega) (by omega) (fun c51 => ?_) (fun c51 => ?_)
            · skip
              rw [hFF] at hR1
              rw [if_neg (by rw [hR1]; omega)] at hso
              refine lv_iconst (v := nI 0) hx hb dX0_areSo_97 (by decide) ?_
              have hv9 : (nI 0) = ti_b ((fun _ => ti_seen (ti_gr (xi.1 0) (xi.2.1 0) 0 (xi.2.2 0)) (ti_Wl3 xs)) ((Value.ref (jh 0), u1.1, u1.2.1, u1.2.2.1, u1.2.2.2, u2.1, u2.2.1, u2.2.2.1, u2.2.2.2.1, u2.2.2.2.2))) := by rw [ti_seen, if_neg (by rw [ti_fr_len]; exact c7), if_neg (by rw [ti_gr_len]; exact hz17), ← hso]; rfl
              refine W.eq (g2 := F0 m 98 ls [.int (ti_b ((fun _ => ti_seen (ti_gr (xi.1 0) (xi.2.1 0) 0 (xi.2.2 0)) (ti_Wl3 xs)) ((Value.ref (jh 0), u1.1, u1.2.1, u1.2.2.1, u1.2.2.2, u2.1, u2.2.1, u2.2.2.1, u2.2.2.2.1, u2.2.2.2.2))))]) (congrArg (fun z => F0 m 98 ls [.int z]) hv9) ?_
              exact hret _ ((Value.ref (jh 0), u1.1, u1.2.1, u1.2.2.1, u1.2.2.2, u2.1, u2.2.1, u2.2.2.1, u2.2.2.2.1, u2.2.2.2.2)) _ _ _ _ (hFl) hP trivial hS (Nat.le_of_ble_eq_true rfl) (Nat.le_of_ble_eq_true rfl) (fun hq hf9 => W.zret hx hb hr (ti_b_nar _) hq hf9 dX0_areSo_98 hlk)
            · skip
              have hj9 : xs.1 k < u2.2.2.2.2 := by omega
              have hjd := hR2 (xs.1 k) hj9
              rw [hFF] at hjd hR1
              refine lv_aload_n hx hb dX0_areSo_54 rfl (lv_at hl 1 rfl) ?_
              refine va_get (v := .ref (ad 5)) hx hb hts in_X0 hown hK hP 0 rfl rfl 2 (by decide) (hts _ q239) (fun _ h => h) rfl dX0_areSo_55 ?_
              refine va_getN (v := .ref (ad 9)) hx hb hts in_X2 hown hK hP 11 rfl rfl 7 (by decide) (hE.use q146 rfl rfl) (fun _ h => h) rfl dX0_areSo_58 ?_
              refine lv_iload hx hb dX0_areSo_61 (lv_at hl 0 rfl) ?_
              refine tn_iald (f := u2.2.2.1) hx hb hK hP 15 0 rfl rfl (by omega) (by decide) dX0_areSo_63 ?_
              have b63 := hFl.2.2.2.2.2.2.1 (xs.1 k)
              refine lv_aload_n hx hb dX0_areSo_64 rfl (lv_at hl 1 rfl) ?_
              refine va_get (v := .ref (ad 23)) hx hb hts in_X0 hown hK hP 0 rfl rfl 10 (by decide) (hts _ q247) (fun _ h => h) rfl dX0_areSo_65 ?_
              refine va_getN (v := .ref (ad 26)) hx hb hts in_X5 hown hK hP 17 rfl rfl 2 (by decide) (hE.use q212 rfl rfl) (fun _ h => h) rfl dX0_areSo_68 ?_
              refine lv_iload_n hx hb dX0_areSo_71 rfl (lv_at hl 4 rfl) ?_
              refine tn_iald (f := xs.2.2.1) hx hb hK hP 20 0 rfl rfl (by omega) (by decide) dX0_areSo_72 ?_
              have b72 := hxs.2.2.2 k
              refine tn_mul hx hb dX0_areSo_73 ?_
              have b73 : (u2.2.2.1 (xs.1 k)) * (xs.2.2.1 k) ≤ 17820 := Nat.mul_le_mul b63 b72
              refine lv_aload_n hx hb dX0_areSo_74 rfl (lv_at hl 1 rfl) ?_
              refine va_get (v := .ref (ad 5)) hx hb hts in_X0 hown hK hP 0 rfl rfl 2 (by decide) (hts _ q239) (fun _ h => h) rfl dX0_areSo_75 ?_
              refine va_getN (v := .ref (ad 10)) hx hb hts in_X2 hown hK hP 11 rfl rfl 8 (by decide) (hE.use q148 rfl rfl) (fun _ h => h) rfl dX0_areSo_78 ?_
              refine lv_iload hx hb dX0_areSo_81 (lv_at hl 0 rfl) ?_
              refine tn_iald (f := u2.2.2.2.1) hx hb hK hP 16 0 rfl rfl (by omega) (by decide) dX0_areSo_83 ?_
              have b83 := hFl.2.2.2.2.2.2.2 (xs.1 k)
              refine lv_aload_n hx hb dX0_areSo_84 rfl (lv_at hl 1 rfl) ?_
              refine va_get (v := .ref (ad 23)) hx hb hts in_X0 hown hK hP 0 rfl rfl 10 (by decide) (hts _ q247) (fun _ h => h) rfl dX0_areSo_85 ?_
              refine va_getN (v := .ref (ad 25)) hx hb hts in_X5 hown hK hP 17 rfl rfl 1 (by decide) (hE.use q210 rfl rfl) (fun _ h => h) rfl dX0_areSo_88 ?_
              refine lv_iload_n hx hb dX0_areSo_91 rfl (lv_at hl 4 rfl) ?_
              refine tn_iald (f := xs.2.1) hx hb hK hP 19 0 rfl rfl (by omega) (by decide) dX0_areSo_92 ?_
              have b92 := hxs.2.2.1 k
              refine tn_mul hx hb dX0_areSo_93 ?_
              have b93 : (u2.2.2.2.1 (xs.1 k)) * (xs.2.1 k) ≤ 989901 := Nat.mul_le_mul b83 b92
              refine tn_eq (tgt := 99) hx hb dX0_areSo_94 (by decide) (by omega) (by omega) (fun c94 => ?_) (fun c94 => ?_)
              · skip
                rw [if_pos ⟨by rw [hR1]; exact hj9, by rw [hjd.1]; exact (ti_so_x hjd.2).mp c94⟩] at hso
                refine lv_iinc (v := nI (k + 1)) (lv' := [(3, .int (nI (k + 1))), (4, .int (nI (xs.1 k))), (0, .ref (ad 0)), (1, .ref (jh 0)), (2, .int (nI u2.2.2.2.2))]) hx hb dX0_areSo_99 hl (k := 4) rfl (nI_1 k) (by decide) rfl (fun ls hl => ?_)
                refine lv_goto (tgt := 26) hx hb dX0_areSo_102 (by decide) ?_
                exact ih26 (k + 1) _ _ _ hP hD hS (by omega) (by omega) (by rw [show xs.2.2.2 - (k + 1) = m9 by omega]; exact hso) (lv_sub hl [2, 3, 4, 0] rfl)
              · skip
                rw [if_neg (fun z => c94 ((ti_so_x hjd.2).mpr (by have := z.2; rw [hjd.1] at this; exact this)))] at hso
                refine lv_iconst (v := nI 0) hx hb dX0_areSo_97 (by decide) ?_
                have hv9 : (nI 0) = ti_b ((fun _ => ti_seen (ti_gr (xi.1 0) (xi.2.1 0) 0 (xi.2.2 0)) (ti_Wl3 xs)) ((Value.ref (jh 0), u1.1, u1.2.1, u1.2.2.1, u1.2.2.2, u2.1, u2.2.1, u2.2.2.1, u2.2.2.2.1, u2.2.2.2.2))) := by rw [ti_seen, if_neg (by rw [ti_fr_len]; exact c7), if_neg (by rw [ti_gr_len]; exact hz17), ← hso]; rfl
                refine W.eq (g2 := F0 m 98 ls [.int (ti_b ((fun _ => ti_seen (ti_gr (xi.1 0) (xi.2.1 0) 0 (xi.2.2 0)) (ti_Wl3 xs)) ((Value.ref (jh 0), u1.1, u1.2.1, u1.2.2.1, u1.2.2.2, u2.1, u2.2.1, u2.2.2.1, u2.2.2.2.1, u2.2.2.2.2))))]) (congrArg (fun z => F0 m 98 ls [.int z]) hv9) ?_
                exact hret _ ((Value.ref (jh 0), u1.1, u1.2.1, u1.2.2.1, u1.2.2.2, u2.1, u2.2.1, u2.2.2.1, u2.2.2.2.1, u2.2.2.2.2)) _ _ _ _ (hFl) hP trivial hS (Nat.le_of_ble_eq_true rfl) (Nat.le_of_ble_eq_true rfl) (fun hq hf9 => W.zret hx hb hr (ti_b_nar _) hq hf9 dX0_areSo_98 hlk)
      exact L26 _ 0 _ _ _ hP hD hS (Nat.lt_succ_self _) (by omega) (rfl) (lv_sub hl [2, 3, 1, 0] rfl)
  · skip
    refine lv_iconst (v := nI 1) hx hb dX0_areSo_10 (by decide) ?_
    have hv9 : (nI 1) = ti_b ((fun _ => ti_seen (ti_gr (xi.1 0) (xi.2.1 0) 0 (xi.2.2 0)) (ti_Wl3 xs)) xf) := by rw [ti_seen, if_pos (by rw [ti_fr_len]; exact c7)]; rfl
    refine W.eq (g2 := F0 m 11 ls [.int (ti_b ((fun _ => ti_seen (ti_gr (xi.1 0) (xi.2.1 0) 0 (xi.2.2 0)) (ti_Wl3 xs)) xf))]) (congrArg (fun z => F0 m 11 ls [.int z]) hv9) ?_
    exact hret _ xf _ _ _ _ (hxf) hP trivial hS (Nat.le_of_ble_eq_true rfl) (Nat.le_of_ble_eq_true rfl) (fun hq hf9 => W.zret hx hb hr (ti_b_nar _) hq hf9 dX0_areSo_11 hlk)

set_option maxHeartbeats 1000000 in
theorem met_X0_happens_0 (l : Launch) (D : va_G) (E : Nat → ClassId) (ad dh du dv jh ju jv kh ku kv : Nat → Nat) (tx : Nat) (hi : Bool) (xr : ti_Tr) (hxr : ti_Rok xr) (d : Nat) (hd : d ≤ 99) (hd9 : 0 = 2 → d ≤ 9) : ti_MetM (σ := ti_Tr) l D E yX0_happens cX0_happens 3 none 4 0 0 (ti_wMR E ad dh du dv jh ju jv kh ku kv tx hi xr) [.ref (ad 0), .int (nI 0), .int (nI d)] (fun u => ti_wMR E ad dh du dv jh ju jv kh ku kv tx hi u) (fun _ => none) (fun u => ti_gr u.1 u.2.1 0 u.2.2 = ti_hp 0 d (ti_gr xr.1 xr.2.1 0 xr.2.2) ∧ ti_Rok u) := by
  refine ti_mutV (σ := ti_Tr) (by decide) (Nat.le_of_ble_eq_true rfl) ?_
  intro p e s m below meth c H H0 A Q ls S hE hP hD hS hA hinit hl hret
  have hx := S.1
  have hb := S.2.1
  have hown := S.2.2.2.1
  have hts := S.2.2.2.2
  have hK := hE.1
  have hl : lv_has ls 3 [(0, .ref (ad 0)), (1, .int (nI 0)), (2, .int (nI d))] := hl
  have h6 := hxr.2.2
  refine lv_iload_n hx hb dX0_happens_0 rfl (lv_at hl 1 rfl) ?_
  refine lv_lookup (off := 27) (tgt := 28) hx hb dX0_happens_1 (by decide) (by decide) (by decide) ?_
  refine lv_aload_n hx hb dX0_happens_28 rfl (lv_at hl 0 rfl) ?_
  refine va_get (v := .ref (ad 2)) hx hb hts in_X0 hown hK hP 0 rfl rfl 1 (by decide) (hts _ q238) (fun _ h => h) rfl dX0_happens_29 ?_
  refine lv_iload_n hx hb dX0_happens_32 rfl (lv_at hl 2 rfl) ?_
  refine lv_bipush (v := nI 10) hx hb dX0_happens_33 (by decide) ?_
  refine tn_div hx hb dX0_happens_35 (by omega) (by omega) (by omega) ?_
  refine lv_iload_n hx hb dX0_happens_36 rfl (lv_at hl 2 rfl) ?_
  refine lv_bipush (v := nI 10) hx hb dX0_happens_37 (by decide) ?_
  refine tn_rem hx hb dX0_happens_39 (by omega) (by omega) (by omega) ?_
  refine ti_pV (As := [.int (nI (d / 10)), .int (nI (d % 10))]) (rest := []) (v := .int (ti_px (ti_pl (d / 10) (d % 10) (ti_gr xr.1 xr.2.1 0 xr.2.2) 0))) S hE hP [1, 2, 3] (met_X1_placeOf l D E (ad 2) (ad 3) (ad 4) xr.1 xr.2.1 xr.2.2 hxr.2.2 hxr.1 hxr.2.1 (d / 10) (d % 10) (by omega) (by omega)) rfl (lw_V q308 q309 q310 q67 q311) 2 rfl 1 rfl rfl (by decide +kernel) ⟨Nat.le_of_ble_eq_true rfl, Nat.le_of_ble_eq_true rfl⟩ hl.1 rfl (Nat.le_of_ble_eq_true rfl) ⟨Nat.le_refl _, Nat.le_refl _⟩ dX0_happens_40 ?_
  refine lv_bipush (v := (-5)) hx hb dX0_happens_43 (by decide) ?_
  refine lv_icmp_ne (tgt := 108) hx hb dX0_happens_45 (by decide) (fun c45 => ?_) (fun c45 => ?_)
  · skip
    exact hret xr _ _ _ _ _ _ dX0_happens_108 (⟨by rw [ti_hp, if_neg (by decide), if_neg (by decide), if_neg (fun z => c45 ((ti_place5 (by rw [ti_gr_len]; omega)).mpr z.1))], hxr⟩) hP hS (Nat.le_refl _) (Nat.le_refl _)
  · skip
    refine lv_aload_n hx hb dX0_happens_48 rfl (lv_at hl 0 rfl) ?_
    refine va_get (v := .ref (ad 2)) hx hb hts in_X0 hown hK hP 0 rfl rfl 1 (by decide) (hts _ q238) (fun _ h => h) rfl dX0_happens_49 ?_
    refine va_getN (v := .int (nI xr.2.2)) hx hb hts in_X1 hown hK hP 1 rfl rfl 2 (by decide) (hE.use q117 rfl rfl) (fun _ h => h) rfl dX0_happens_52 ?_
    refine lv_bipush (v := nI 6) hx hb dX0_happens_55 (by decide) ?_
    refine tn_ge (tgt := 108) hx hb dX0_happens_57 (by decide) (by omega) (by omega) (fun c57 => ?_) (fun c57 => ?_)
    · skip
      exact hret xr _ _ _ _ _ _ dX0_happens_108 (⟨by rw [ti_hp, if_neg (by decide), if_neg (by decide), if_neg (fun z => by have := z.2; rw [ti_gr_len] at this; omega)], hxr⟩) hP hS (Nat.le_refl _) (Nat.le_refl _)
    · skip
      refine lv_aload_n hx hb dX0_happens_60 rfl (lv_at hl 0 rfl) ?_
      refine va_get (v := .ref (ad 2)) hx hb hts in_X0 hown hK hP 0 rfl rfl 1 (by decide) (hts _ q238) (fun _ h => h) rfl dX0_happens_61 ?_
      refine lv_iload_n hx hb dX0_happens_64 rfl (lv_at hl 2 rfl) ?_
      refine lv_bipush (v := nI 10) hx hb dX0_happens_65 (by decide) ?_
      refine tn_div hx hb dX0_happens_67 (by omega) (by omega) (by omega) ?_
      refine lv_iload_n hx hb dX0_happens_68 rfl (lv_at hl 2 rfl) ?_
      refine lv_bipush (v := nI 10) hx hb dX0_happens_69 (by decide) ?_
      refine tn_rem hx hb dX0_happens_71 (by omega) (by omega) (by omega) ?_
      refine ti_mV (As := [.int (nI (d / 10)), .int (nI (d % 10))]) (rest := []) S hE hP hD hS hA [1, 2, 3] rfl (met_X1_comes l D E (ad 2) (ad 3) (ad 4) xr.1 xr.2.1 xr.2.2 (by omega) (d / 10) (d % 10)) rfl (fun _ => rfl) (lw_V q323 q324 q325 q67 q326) 2 rfl 1 rfl rfl (by decide +kernel) ⟨Nat.le_of_ble_eq_true rfl, Nat.le_of_ble_eq_true rfl⟩ hl.1 rfl (Nat.le_of_ble_eq_true rfl) ⟨Nat.le_refl _, Nat.le_refl _⟩ dX0_happens_72 (fun _ H locs hu hP hD hS => ?_)
      have hP : va_P D vwCl (ti_wMR E ad dh du dv jh ju jv kh ku kv tx hi (va_up xr.1 xr.2.2 (d / 10), va_up xr.2.1 xr.2.2 (d % 10), xr.2.2 + 1)) H := hP
      have hD : va_D A (ti_wMR E ad dh du dv jh ju jv kh ku kv tx hi (va_up xr.1 xr.2.2 (d / 10), va_up xr.2.1 xr.2.2 (d % 10), xr.2.2 + 1)) := hD
      refine W.eq (g2 := F0 m 75 ls []) rfl ?_
      refine lv_goto (tgt := 108) hx hb dX0_happens_75 (by decide) ?_
      exact hret ((va_up xr.1 xr.2.2 (d / 10), va_up xr.2.1 xr.2.2 (d % 10), xr.2.2 + 1)) _ _ _ _ _ _ dX0_happens_108 (⟨by rw [ti_hp, if_neg (by decide), if_neg (by decide), if_pos ⟨(ti_place5 (by rw [ti_gr_len]; omega)).mp c45, by rw [ti_gr_len]; exact c57⟩]; exact ti_gr_push _ _ _ _ _, ⟨ti_up_le hxr.1 (by omega), ti_up_le hxr.2.1 (by omega), by dsimp only; omega⟩⟩) hP hS (Nat.le_refl _) (Nat.le_refl _)

set_option maxHeartbeats 1000000 in
theorem met_X0_happens_1 (l : Launch) (D : va_G) (E : Nat → ClassId) (ad dh du dv jh ju jv kh ku kv : Nat → Nat) (tx : Nat) (hi : Bool) (xr : ti_Tr) (hxr : ti_Rok xr) (d : Nat) (hd : d ≤ 99) (hd9 : 1 = 2 → d ≤ 9) : ti_MetM (σ := ti_Tr) l D E yX0_happens cX0_happens 3 none 4 0 0 (ti_wMR E ad dh du dv jh ju jv kh ku kv tx hi xr) [.ref (ad 0), .int (nI 1), .int (nI d)] (fun u => ti_wMR E ad dh du dv jh ju jv kh ku kv tx hi u) (fun _ => none) (fun u => ti_gr u.1 u.2.1 0 u.2.2 = ti_hp 1 d (ti_gr xr.1 xr.2.1 0 xr.2.2) ∧ ti_Rok u) := by
  refine ti_mutV (σ := ti_Tr) (by decide) (Nat.le_of_ble_eq_true rfl) ?_
  intro p e s m below meth c H H0 A Q ls S hE hP hD hS hA hinit hl hret
  have hx := S.1
  have hb := S.2.1
  have hown := S.2.2.2.1
  have hts := S.2.2.2.2
  have hK := hE.1
  have hl : lv_has ls 3 [(0, .ref (ad 0)), (1, .int (nI 1)), (2, .int (nI d))] := hl
  have h6 := hxr.2.2
  refine lv_iload_n hx hb dX0_happens_0 rfl (lv_at hl 1 rfl) ?_
  refine lv_lookup (off := 77) (tgt := 78) hx hb dX0_happens_1 (by decide) (by decide) (by decide) ?_
  refine lv_iload_n hx hb dX0_happens_78 rfl (lv_at hl 2 rfl) ?_
  refine lv_aload_n hx hb dX0_happens_79 rfl (lv_at hl 0 rfl) ?_
  refine va_get (v := .ref (ad 2)) hx hb hts in_X0 hown hK hP 0 rfl rfl 1 (by decide) (hts _ q238) (fun _ h => h) rfl dX0_happens_80 ?_
  refine va_getN (v := .int (nI xr.2.2)) hx hb hts in_X1 hown hK hP 1 rfl rfl 2 (by decide) (hE.use q117 rfl rfl) (fun _ h => h) rfl dX0_happens_83 ?_
  refine tn_ge (tgt := 108) hx hb dX0_happens_86 (by decide) (by omega) (by omega) (fun c86 => ?_) (fun c86 => ?_)
  · skip
    exact hret xr _ _ _ _ _ _ dX0_happens_108 (⟨by rw [ti_hp, if_neg (by decide), if_pos rfl, if_neg (by rw [ti_gr_len]; omega)], hxr⟩) hP hS (Nat.le_refl _) (Nat.le_refl _)
  · skip
    refine lv_aload_n hx hb dX0_happens_89 rfl (lv_at hl 0 rfl) ?_
    refine va_get (v := .ref (ad 2)) hx hb hts in_X0 hown hK hP 0 rfl rfl 1 (by decide) (hts _ q238) (fun _ h => h) rfl dX0_happens_90 ?_
    refine lv_iload_n hx hb dX0_happens_93 rfl (lv_at hl 2 rfl) ?_
    refine ti_mV (As := [.int (nI d)]) (rest := []) S hE hP hD hS hA [1, 2, 3] rfl (met_X1_goes l D E (ad 2) (ad 3) (ad 4) xr.1 xr.2.1 xr.2.2 hxr.2.2 d (by omega)) rfl (fun _ => rfl) (lw_V q335 q336 q337 q67 q338) 1 rfl 1 rfl rfl (by decide +kernel) ⟨Nat.le_of_ble_eq_true rfl, Nat.le_of_ble_eq_true rfl⟩ hl.1 rfl (Nat.le_of_ble_eq_true rfl) ⟨Nat.le_refl _, Nat.le_refl _⟩ dX0_happens_94 (fun _ H locs hu hP hD hS => ?_)
    have hP : va_P D vwCl (ti_wMR E ad dh du dv jh ju jv kh ku kv tx hi (ti_sh d (xr.2.2 - 1) xr.1, ti_sh d (xr.2.2 - 1) xr.2.1, xr.2.2 - 1)) H := hP
    have hD : va_D A (ti_wMR E ad dh du dv jh ju jv kh ku kv tx hi (ti_sh d (xr.2.2 - 1) xr.1, ti_sh d (xr.2.2 - 1) xr.2.1, xr.2.2 - 1)) := hD
    refine W.eq (g2 := F0 m 97 ls []) rfl ?_
    refine lv_goto (tgt := 108) hx hb dX0_happens_97 (by decide) ?_
    exact hret ((ti_sh d (xr.2.2 - 1) xr.1, ti_sh d (xr.2.2 - 1) xr.2.1, xr.2.2 - 1)) _ _ _ _ _ _ dX0_happens_108 (⟨by rw [ti_hp, if_neg (by decide), if_pos rfl, if_pos (by rw [ti_gr_len]; exact c86)]; exact ti_sh_gr c86 _ _, ⟨ti_sh_le hxr.1, ti_sh_le hxr.2.1, by dsimp only; omega⟩⟩) hP hS (Nat.le_refl _) (Nat.le_refl _)

set_option maxHeartbeats 1000000 in
theorem met_X0_happens_2 (l : Launch) (D : va_G) (E : Nat → ClassId) (ad dh du dv jh ju jv kh ku kv : Nat → Nat) (tx : Nat) (hi : Bool) (xr : ti_Tr) (hxr : ti_Rok xr) (d : Nat) (hd : d ≤ 99) (hd9 : 2 = 2 → d ≤ 9) : ti_MetM (σ := ti_Tr) l D E yX0_happens cX0_happens 3 none 4 0 0 (ti_wMR E ad dh du dv jh ju jv kh ku kv tx hi xr) [.ref (ad 0), .int (nI 2), .int (nI d)] (fun u => ti_wMR E ad dh du dv jh ju jv kh ku kv tx hi u) (fun _ => none) (fun u => ti_gr u.1 u.2.1 0 u.2.2 = ti_hp 2 d (ti_gr xr.1 xr.2.1 0 xr.2.2) ∧ ti_Rok u) := by
  refine ti_mutV (σ := ti_Tr) (by decide) (Nat.le_of_ble_eq_true rfl) ?_
  intro p e s m below meth c H H0 A Q ls S hE hP hD hS hA hinit hl hret
  have hx := S.1
  have hb := S.2.1
  have hown := S.2.2.2.1
  have hts := S.2.2.2.2
  have hK := hE.1
  have hl : lv_has ls 3 [(0, .ref (ad 0)), (1, .int (nI 2)), (2, .int (nI d))] := hl
  have h6 := hxr.2.2
  refine lv_iload_n hx hb dX0_happens_0 rfl (lv_at hl 1 rfl) ?_
  refine lv_lookup (off := 99) (tgt := 100) hx hb dX0_happens_1 (by decide) (by decide) (by decide) ?_
  refine lv_aload_n hx hb dX0_happens_100 rfl (lv_at hl 0 rfl) ?_
  refine va_get (v := .ref (ad 2)) hx hb hts in_X0 hown hK hP 0 rfl rfl 1 (by decide) (hts _ q238) (fun _ h => h) rfl dX0_happens_101 ?_
  refine lv_iload_n hx hb dX0_happens_104 rfl (lv_at hl 2 rfl) ?_
  refine ti_mV (As := [.int (nI d)]) (rest := []) S hE hP hD hS hA [1, 2, 3] rfl (met_X1_lessens l D E (ad 2) (ad 3) (ad 4) xr.1 xr.2.1 xr.2.2 hxr.2.2 hxr.1 hxr.2.1 d (hd9 rfl)) rfl (fun _ => rfl) (lw_V q870 q871 q872 q67 q873) 1 rfl 1 rfl rfl (by decide +kernel) ⟨Nat.le_of_ble_eq_true rfl, Nat.le_of_ble_eq_true rfl⟩ hl.1 rfl (Nat.le_of_ble_eq_true rfl) ⟨Nat.le_refl _, Nat.le_refl _⟩ dX0_happens_105 (fun ul H locs hu hP hD hS => ?_)
  have hul := hu
  have hP : va_P D vwCl (ti_wMR E ad dh du dv jh ju jv kh ku kv tx hi (ul.1, ul.2.1, ul.2.2)) H := hP
  have hD : va_D A (ti_wMR E ad dh du dv jh ju jv kh ku kv tx hi (ul.1, ul.2.1, ul.2.2)) := hD
  refine W.eq (g2 := F0 m 108 ls []) rfl ?_
  exact hret ul _ _ _ _ _ _ dX0_happens_108 (⟨by rw [ti_hp, if_pos rfl]; exact hul.1, ⟨hul.2.2.1, hul.2.2.2, hul.2.1⟩⟩) hP hS (Nat.le_refl _) (Nat.le_refl _)

theorem met_X0_happens (l : Launch) (D : va_G) (E : Nat → ClassId) (ad dh du dv jh ju jv kh ku kv : Nat → Nat) (tx : Nat) (hi : Bool) (xr : ti_Tr) (hxr : ti_Rok xr) (w d : Nat) (hw : w ≤ 2) (hd : d ≤ 99) (hd9 : w = 2 → d ≤ 9) : ti_MetM (σ := ti_Tr) l D E yX0_happens cX0_happens 3 none 4 0 0 (ti_wMR E ad dh du dv jh ju jv kh ku kv tx hi xr) [.ref (ad 0), .int (nI w), .int (nI d)] (fun u => ti_wMR E ad dh du dv jh ju jv kh ku kv tx hi u) (fun _ => none) (fun u => ti_gr u.1 u.2.1 0 u.2.2 = ti_hp w d (ti_gr xr.1 xr.2.1 0 xr.2.2) ∧ ti_Rok u) := by
  rcases (show w = 0 ∨ w = 1 ∨ w = 2 by omega) with rfl | rfl | rfl
  · exact met_X0_happens_0 l D E ad dh du dv jh ju jv kh ku kv tx hi xr hxr d hd hd9
  · exact met_X0_happens_1 l D E ad dh du dv jh ju jv kh ku kv tx hi xr hxr d hd hd9
  · exact met_X0_happens_2 l D E ad dh du dv jh ju jv kh ku kv tx hi xr hxr d hd hd9

set_option maxHeartbeats 2000000 in
theorem met_X0_after (l : Launch) (D : va_G) (E : Nat → ClassId) (htr : l.stackTraces = false) (z0 : Nat) (ad dh du dv jh ju jv kh ku kv : Nat → Nat) (tx : Nat) (hi : Bool) (xi : ti_Ti) (xr : ti_Tr) (xf : ti_Tf) (xv : ti_Tw) (hxi : ti_Jok xi) (I : Nat → ti_GL) (hJ : ti_JI xi I) (hxf : ti_Fok xf) (hnd : ∀ i, i < 2 → (I i).Nodup) (hxr : ti_Rok xr) (hxv : ti_Wok 8 xv) (EV : ti_GL) (hEV : ti_Wl2 xv = EV) (hevk : ∀ q ∈ EV, q.1 ≤ 2 ∧ (q.1 = 2 → q.2 ≤ 9)) (w : Int32) : ti_MetX (σ := ti_Tr × ti_Tf) (τ := Unit) l D E yX0_after (wsW_ yX0_after cX0_after 3 (some .int) [(65, 123, 124, 150)]) 7 1 6 z0 (ti_wMJRFV E ad dh du dv jh ju jv kh ku kv tx hi xi xr xf xv) [.ref (ad 0), .int w] (fun _ => True) (fun u => ti_wMJRFV E ad dh du dv jh ju jv kh ku kv tx hi xi u.1 u.2 xv) (fun u => some (.int ((fun _ => ti_Safter (I 0) EV w) u))) (fun u => ti_Rok u.1 ∧ ti_Fok u.2) (fun _ _ => True) (fun w => RX14) (fun w => 0) (fun w => ti_wMJRFV E ad dh du dv jh ju jv kh ku kv tx hi xi xr xf xv) (fun w => []) (fun w => False) (fun w H => True) := by
  refine ti_metXH (by decide) (Nat.le_of_ble_eq_true rfl) ?_
  intro p e s m below meth c H A Q ls S hE hP hD hS hA hZ hAz hx0 htab hl hret hq
  obtain ⟨hQ, hr, hlk, hinit⟩ := hq
  have hsz0 := hS.1
  have hx := S.1
  have hb := S.2.1
  have hown := S.2.2.2.1
  have hts := S.2.2.2.2
  have hK := hE.1
  have hl : lv_has ls 3 [(0, .ref (ad 0)), (1, .int w)] := hl
  refine lv_iload_n hx hb dX0_after_0 rfl (lv_at hl 1 rfl) ?_
  refine lv_iconst (v := nI 0) hx hb dX0_after_1 (by decide) ?_
  refine lv_iconst (v := nI 2) hx hb dX0_after_2 (by decide) ?_
  refine ti_pS (As := [.int w, .int (nI 0), .int (nI 2)]) (rest := []) (v := .int (ti_b (ti_in w (nI 0) (nI 2)))) S hE hP [] (met_X0_in l D E w (nI 0) (nI 2)) rfl (lw_S q302 q303 q66 q304) 3 rfl (by decide +kernel) ⟨Nat.le_of_ble_eq_true rfl, Nat.le_of_ble_eq_true rfl⟩ hl.1 rfl (Nat.le_of_ble_eq_true rfl) ⟨Nat.le_of_ble_eq_true rfl, Nat.le_of_ble_eq_true rfl⟩ dX0_after_3 ?_
  refine tb_ne (tgt := 11) hx hb dX0_after_6 (by decide) (fun c6 => ?_) (fun c6 => ?_)
  · skip
    have h8 := hxv.1
    have h60 := hxi.2.2 0
    refine lv_aload_n hx hb dX0_after_11 rfl (lv_at hl 0 rfl) ?_
    refine va_get (v := .ref (ad 2)) hx hb hts in_X0 hown hK hP 0 rfl rfl 1 (by decide) (hts _ q238) (fun _ h => h) rfl dX0_after_12 ?_
    refine lv_aload_n hx hb dX0_after_15 rfl (lv_at hl 0 rfl) ?_
    refine va_get (v := .ref (ad 1)) hx hb hts in_X0 hown hK hP 0 rfl rfl 0 (by decide) (hts _ q237) (fun _ h => h) rfl dX0_after_16 ?_
    refine lv_iconst (v := nI 0) hx hb dX0_after_19 (by decide) ?_
    refine tn_aald hx hb hK hP 1 5 rfl rfl (by omega) (by decide) dX0_after_20 ?_
    refine ti_mV (As := [.ref (jh 0)]) (rest := []) S hE hP hD hS hA [8, 9, 10, 2, 3, 4] rfl (met_X1_takes l D E (ad 2) (ad 3) (ad 4) xr.1 xr.2.1 xr.2.2 (jh 0) (ju 0) (jv 0) (xi.1 0) (xi.2.1 0) (xi.2.2 0)) rfl (fun _ => rfl) (lw_V q347 q317 q318 q67 q319) 1 rfl 8 rfl rfl (by decide +kernel) ⟨Nat.le_of_ble_eq_true rfl, Nat.le_of_ble_eq_true rfl⟩ hl.1 rfl (Nat.le_of_ble_eq_true rfl) ⟨Nat.le_of_ble_eq_true rfl, Nat.le_of_ble_eq_true rfl⟩ dX0_after_21 (fun _ H locs hu hP hD hS => ?_)
    have hP : va_P D vwCl (ti_wMJRFV E ad dh du dv jh ju jv kh ku kv tx hi xi (xi.1 0, xi.2.1 0, xi.2.2 0) xf xv) H := hP
    have hD : va_D A (ti_wMJRFV E ad dh du dv jh ju jv kh ku kv tx hi xi (xi.1 0, xi.2.1 0, xi.2.2 0) xf xv) := hD
    refine W.eq (g2 := F0 m 24 ls []) rfl ?_
    refine lv_iconst (v := nI 0) hx hb dX0_after_24 (by decide) ?_
    refine lv_istore_n (lv' := [(2, .int (nI 0)), (0, .ref (ad 0)), (1, .int w)]) hx hb dX0_after_25 rfl hl (by decide) rfl (fun ls hl => ?_)
    have L26 : ∀ (N : Nat) (k : Nat) (fa fb : Nat → Nat) (n1 : Nat) (ls : Array Slot) (H : Heap) (locs : List Loc), va_P D vwCl (ti_wMJRFV E ad dh du dv jh ju jv kh ku kv tx hi xi (fa, fb, n1) xf xv) H → va_D A (ti_wMJRFV E ad dh du dv jh ju jv kh ku kv tx hi xi (fa, fb, n1) xf xv) → va_S A s.heap H locs → (xv.2.2.2 - k) < N → (k ≤ xv.2.2.2) → (∀ j, fa j ≤ 9) → (∀ j, fb j ≤ 9) → (n1 ≤ 6) → (ti_ev (ti_gr fa fb 0 n1) (ti_gr xv.1 xv.2.1 k (xv.2.2.2 - k)) = ti_ev (I 0) EV) → lv_has ls 3 [(0, .ref (ad 0)), (1, .int w), (2, .int (nI k))] → W p l e (ti_rm 7 1 6) s m ([.ref (ad 0), .int w] : List Value).toArray below meth c H locs 0 0 Q (F0 m 26 ls []) := by
      intro N
      induction N with
      | zero => intro k fa fb n1 ls H locs hP hD hS h0; exact absurd h0 (Nat.not_lt_zero _)
      | succ N ih26 =>
        intro k fa fb n1 ls H locs hP hD hS hN hk hfa hfb hn1 hev hl
        refine lv_iload_n hx hb dX0_after_26 rfl (lv_at hl 2 rfl) ?_
        refine lv_aload_n hx hb dX0_after_27 rfl (lv_at hl 0 rfl) ?_
        refine va_get (v := .ref (ad 27)) hx hb hts in_X0 hown hK hP 0 rfl rfl 11 (by decide) (hts _ q248) (fun _ h => h) rfl dX0_after_28 ?_
        refine va_getN (v := .int (nI xv.2.2.2)) hx hb hts in_X5 hown hK hP 17 rfl rfl 3 (by decide) (hE.use q214 rfl rfl) (fun _ h => h) rfl dX0_after_31 ?_
        refine tn_ge (tgt := 65) hx hb dX0_after_34 (by decide) (by omega) (by omega) (fun c34 => ?_) (fun c34 => ?_)
        · skip
          rw [show xv.2.2.2 - k = 0 by omega, ti_gr_0] at hev
          have hRe : ti_gr fa fb 0 n1 = ti_ev (I 0) EV := hev
          have hle : (ti_ev (I 0) EV).length = n1 := by rw [← hRe, ti_gr_len]
          refine lv_iload_n hx hb dX0_after_65 rfl (lv_at hl 1 rfl) ?_
          refine lv_if_ne (tgt := 79) hx hb dX0_after_66 (by decide) (fun c66 => ?_) (fun c66 => ?_)
          · skip
            refine lv_iload_n hx hb dX0_after_79 rfl (lv_at hl 1 rfl) ?_
            refine lv_iconst (v := nI 1) hx hb dX0_after_80 (by decide) ?_
            refine lv_icmp_ne (tgt := 101) hx hb dX0_after_81 (by decide) (fun c81 => ?_) (fun c81 => ?_)
            · skip
              refine lv_aload_n hx hb dX0_after_101 rfl (lv_at hl 0 rfl) ?_
              refine va_get (v := .ref (ad 5)) hx hb hts in_X0 hown hK hP 0 rfl rfl 2 (by decide) (hts _ q239) (fun _ h => h) rfl dX0_after_102 ?_
              refine lv_aload_n hx hb dX0_after_105 rfl (lv_at hl 0 rfl) ?_
              refine va_get (v := .ref (ad 2)) hx hb hts in_X0 hown hK hP 0 rfl rfl 1 (by decide) (hts _ q238) (fun _ h => h) rfl dX0_after_106 ?_
              by_cases hz109 : n1 = 0
              · skip
                refine ti_callX (ty_runV (As := [.ref (ad 2)]) (rest := []) S (met_X2_looks_z l D E htr z0 (ad 5) (ad 6) (ad 7) (ad 8) (ad 9) (ad 10) xf.1 xf.2.1 xf.2.2.1 xf.2.2.2.1 xf.2.2.2.2.1 xf.2.2.2.2.2.1 xf.2.2.2.2.2.2.1 xf.2.2.2.2.2.2.2.1 xf.2.2.2.2.2.2.2.2.1 xf.2.2.2.2.2.2.2.2.2 (ad 2) (ad 3) (ad 4) fa fb n1 hz109 H.size) (cwV 1 S.2.2.2.2 (lw_V q357 q358 q359 q68 q360) rfl rfl rfl (by decide +kernel) ⟨Nat.le_of_ble_eq_true rfl, Nat.le_of_ble_eq_true rfl⟩) (ti_preXV (xp := fun _ => True) hE hP hD hS rfl hZ hAz trivial [11, 12, 13, 14, 15, 16, 8, 9, 10] rfl rfl 11 rfl rfl) rfl rfl hl.1 rfl (lv_room (Nat.le_of_ble_eq_true rfl)) dX0_after_109 ⟨Nat.le_of_ble_eq_true rfl, Nat.le_of_ble_eq_true rfl⟩) hP hD hS hA [11, 12, 13, 14, 15, 16, 8, 9, 10] rfl (fun _ => rfl) (fun _ => rfl) (fun _ _ _ h9 => absurd h9 id) (fun we H locs ce hpx hxx hFr hP hD hPe hnew hS hce hcv hcl => ?_)
                have hP : va_P D vwCl (ti_wMJRFV E ad dh du dv jh ju jv kh ku kv tx hi xi (fa, fb, n1) xf xv) H := ti_asP hP [.inl 0, .inl 1, .inl 2, .inl 3, .inl 4, .inl 5, .inl 6, .inl 7, .inr 6, .inr 7, .inr 8, .inr 0, .inr 1, .inr 2, .inr 3, .inr 4, .inr 5, .inl 17, .inl 18, .inl 19, .inl 20] rfl rfl rfl rfl
                have hD : va_D A (ti_wMJRFV E ad dh du dv jh ju jv kh ku kv tx hi xi (fa, fb, n1) xf xv) := ti_asD hD [.inl 0, .inl 1, .inl 2, .inl 3, .inl 4, .inl 5, .inl 6, .inl 7, .inr 6, .inr 7, .inr 8, .inr 0, .inr 1, .inr 2, .inr 3, .inr 4, .inr 5, .inl 17, .inl 18, .inl 19, .inl 20] rfl rfl rfl rfl
                refine vx_catch hown [] ⟨65, 123, 124, 150⟩ [] htab (fun z hz => absurd hz List.not_mem_nil) rfl (by decide) (hts _ q356) (hE.use q363 rfl rfl) hce hcv hcl ?_
                refine lv_astore_n (lv' := [(2, .ref we.1), (0, .ref (ad 0)), (1, .int w)]) hx hb dX0_after_124 rfl hl (by decide) rfl (fun ls hl => ?_)
                refine lv_bipush (v := (-3)) hx hb dX0_after_125 (by decide) ?_
                have hv9 : ((-3)) = (fun _ => ti_Safter (I 0) EV w) (((fa, fb, n1), xf)) := by rw [ti_Safter, if_neg (by rw [c6]; decide), if_neg c66, if_pos (by rw [hle]; exact hz109)]
                refine W.eq (g2 := F0 m 127 ls [.int ((fun _ => ti_Safter (I 0) EV w) (((fa, fb, n1), xf)))]) (congrArg (fun z => F0 m 127 ls [.int z]) hv9) ?_
                exact hret _ (((fa, fb, n1), xf)) _ _ _ _ (⟨⟨hfa, hfb, hn1⟩, hxf⟩) hP trivial hS (Nat.le_of_ble_eq_true rfl) (Nat.le_of_ble_eq_true rfl) (fun hq hf9 => W.iret hx hb hr hq hf9 dX0_after_127 hlk)
              · skip
                have hz1 : 0 < n1 := Nat.pos_of_ne_zero hz109
                have hnd9 : (ti_gr fa fb 0 n1).Nodup := by rw [hRe]; exact ti_ev_nod _ _ (hnd 0 (by decide))
                have hN9 : ti_r2 (ti_gr fa fb 0 n1) 9999 (List.range' 1 9) ≤ 6 := Nat.le_trans (ti_r2_le hnd9 9999) (by rw [ti_gr_len]; exact hn1)
                refine ti_mV (As := [.ref (ad 2)]) (rest := []) S hE hP hD hS hA [11, 12, 13, 14, 15, 16, 8, 9, 10] rfl (met_X2_looks l D E (ad 5) (ad 6) (ad 7) (ad 8) (ad 9) (ad 10) xf.1 xf.2.1 xf.2.2.1 xf.2.2.2.1 xf.2.2.2.2.1 xf.2.2.2.2.2.1 xf.2.2.2.2.2.2.1 xf.2.2.2.2.2.2.2.1 xf.2.2.2.2.2.2.2.2.1 xf.2.2.2.2.2.2.2.2.2 (ad 2) (ad 3) (ad 4) fa fb n1 hn1 hfa hfb hxf.1 hxf.2.1 hxf.2.2.1 hxf.2.2.2.1 hz1 hN9) rfl (fun _ => rfl) (lw_V q357 q358 q359 q68 q360) 1 rfl 11 rfl rfl (by decide +kernel) ⟨Nat.le_of_ble_eq_true rfl, Nat.le_of_ble_eq_true rfl⟩ hl.1 rfl (Nat.le_of_ble_eq_true rfl) ⟨Nat.le_of_ble_eq_true rfl, Nat.le_of_ble_eq_true rfl⟩ dX0_after_109 (fun u1 H locs hu hP hD hS => ?_)
                obtain ⟨hF1, hF2, hF3, hF4, hF5⟩ := hu
                have hFF : ti_fr u1.1 u1.2.1 u1.2.2.1 0 u1.2.2.2 = ti_FF (ti_gr fa fb 0 n1) := by rw [hF1]; exact ti_fxm (by rw [ti_gr_len]; exact hz1) (ti_gr_9 hfa hfb 0 _)
                have hFo : ti_Fok (Value.ref (ad 2), u1.1, u1.2.1, u1.2.2.1, u1.2.2.2, xf.2.2.2.2.2.1, xf.2.2.2.2.2.2.1, xf.2.2.2.2.2.2.2.1, xf.2.2.2.2.2.2.2.2.1, xf.2.2.2.2.2.2.2.2.2) := ⟨hF2, hF3, hF4, hF5, hxf.2.2.2.2⟩
                have hP : va_P D vwCl (ti_wMJRFV E ad dh du dv jh ju jv kh ku kv tx hi xi (fa, fb, n1) (Value.ref (ad 2), u1.1, u1.2.1, u1.2.2.1, u1.2.2.2, xf.2.2.2.2.2.1, xf.2.2.2.2.2.2.1, xf.2.2.2.2.2.2.2.1, xf.2.2.2.2.2.2.2.2.1, xf.2.2.2.2.2.2.2.2.2) xv) H := ti_asP hP [.inl 0, .inl 1, .inl 2, .inl 3, .inl 4, .inl 5, .inl 6, .inl 7, .inr 6, .inr 7, .inr 8, .inr 0, .inr 1, .inr 2, .inr 3, .inr 4, .inr 5, .inl 17, .inl 18, .inl 19, .inl 20] rfl rfl rfl rfl
                have hD : va_D A (ti_wMJRFV E ad dh du dv jh ju jv kh ku kv tx hi xi (fa, fb, n1) (Value.ref (ad 2), u1.1, u1.2.1, u1.2.2.1, u1.2.2.2, xf.2.2.2.2.2.1, xf.2.2.2.2.2.2.1, xf.2.2.2.2.2.2.2.1, xf.2.2.2.2.2.2.2.2.1, xf.2.2.2.2.2.2.2.2.2) xv) := ti_asD hD [.inl 0, .inl 1, .inl 2, .inl 3, .inl 4, .inl 5, .inl 6, .inl 7, .inr 6, .inr 7, .inr 8, .inr 0, .inr 1, .inr 2, .inr 3, .inr 4, .inr 5, .inl 17, .inl 18, .inl 19, .inl 20] rfl rfl rfl rfl
                refine W.eq (g2 := F0 m 112 ls [.ref (ad 5)]) rfl ?_
                refine ti_pV (As := []) (rest := []) (v := .int (ti_b (ti_cl2 (ti_fr u1.1 u1.2.1 u1.2.2.1 0 u1.2.2.2) (ti_gr fa fb 0 n1) (List.range' 0 10)))) S hE hP [11, 12, 13, 14, 15, 16, 8, 9, 10] (met_X2_isClosed l D E (ad 5) (ad 6) (ad 7) (ad 8) (ad 9) (ad 10) u1.1 u1.2.1 u1.2.2.1 u1.2.2.2 xf.2.2.2.2.2.1 xf.2.2.2.2.2.2.1 xf.2.2.2.2.2.2.2.1 xf.2.2.2.2.2.2.2.2.1 xf.2.2.2.2.2.2.2.2.2 (ad 2) (ad 3) (ad 4) fa fb n1 hn1 hfa hfb hFo.1 hFo.2.1 hFo.2.2.1 hFo.2.2.2.1) rfl (lw_V q597 q598 q599 q68 q600) 0 rfl 11 rfl rfl (by decide +kernel) ⟨Nat.le_of_ble_eq_true rfl, Nat.le_of_ble_eq_true rfl⟩ hl.1 rfl (Nat.le_of_ble_eq_true rfl) ⟨Nat.le_of_ble_eq_true rfl, Nat.le_of_ble_eq_true rfl⟩ dX0_after_112 ?_
                refine tb_eq (tgt := 122) hx hb dX0_after_115 (by decide) (fun c115 => ?_) (fun c115 => ?_)
                · skip
                  refine lv_iconst (v := nI 0) hx hb dX0_after_122 (by decide) ?_
                  have hv9 : (nI 0) = (fun _ => ti_Safter (I 0) EV w) (((fa, fb, n1), (Value.ref (ad 2), u1.1, u1.2.1, u1.2.2.1, u1.2.2.2, xf.2.2.2.2.2.1, xf.2.2.2.2.2.2.1, xf.2.2.2.2.2.2.2.1, xf.2.2.2.2.2.2.2.2.1, xf.2.2.2.2.2.2.2.2.2))) := by rw [ti_Safter, if_neg (by rw [c6]; decide), if_neg c66, if_neg (by rw [hle]; exact hz109), if_neg (show ¬ w = 1 from c81), ti_Sask, if_pos rfl, ← hRe, ← hFF, ← ti_cl2_eq, c115]; rfl
                  refine W.eq (g2 := F0 m 123 ls [.int ((fun _ => ti_Safter (I 0) EV w) (((fa, fb, n1), (Value.ref (ad 2), u1.1, u1.2.1, u1.2.2.1, u1.2.2.2, xf.2.2.2.2.2.1, xf.2.2.2.2.2.2.1, xf.2.2.2.2.2.2.2.1, xf.2.2.2.2.2.2.2.2.1, xf.2.2.2.2.2.2.2.2.2))))]) (congrArg (fun z => F0 m 123 ls [.int z]) hv9) ?_
                  exact hret _ (((fa, fb, n1), (Value.ref (ad 2), u1.1, u1.2.1, u1.2.2.1, u1.2.2.2, xf.2.2.2.2.2.1, xf.2.2.2.2.2.2.1, xf.2.2.2.2.2.2.2.1, xf.2.2.2.2.2.2.2.2.1, xf.2.2.2.2.2.2.2.2.2))) _ _ _ _ (⟨⟨hfa, hfb, hn1⟩, hFo⟩) hP trivial hS (Nat.le_of_ble_eq_true rfl) (Nat.le_of_ble_eq_true rfl) (fun hq hf9 => W.iret hx hb hr hq hf9 dX0_after_123 hlk)
                · skip
                  refine lv_iconst (v := nI 1) hx hb dX0_after_118 (by decide) ?_
                  refine lv_goto (tgt := 123) hx hb dX0_after_119 (by decide) ?_
                  have hv9 : (nI 1) = (fun _ => ti_Safter (I 0) EV w) (((fa, fb, n1), (Value.ref (ad 2), u1.1, u1.2.1, u1.2.2.1, u1.2.2.2, xf.2.2.2.2.2.1, xf.2.2.2.2.2.2.1, xf.2.2.2.2.2.2.2.1, xf.2.2.2.2.2.2.2.2.1, xf.2.2.2.2.2.2.2.2.2))) := by rw [ti_Safter, if_neg (by rw [c6]; decide), if_neg c66, if_neg (by rw [hle]; exact hz109), if_neg (show ¬ w = 1 from c81), ti_Sask, if_pos rfl, ← hRe, ← hFF, ← ti_cl2_eq, c115]; rfl
                  refine W.eq (g2 := F0 m 123 ls [.int ((fun _ => ti_Safter (I 0) EV w) (((fa, fb, n1), (Value.ref (ad 2), u1.1, u1.2.1, u1.2.2.1, u1.2.2.2, xf.2.2.2.2.2.1, xf.2.2.2.2.2.2.1, xf.2.2.2.2.2.2.2.1, xf.2.2.2.2.2.2.2.2.1, xf.2.2.2.2.2.2.2.2.2))))]) (congrArg (fun z => F0 m 123 ls [.int z]) hv9) ?_
                  exact hret _ (((fa, fb, n1), (Value.ref (ad 2), u1.1, u1.2.1, u1.2.2.1, u1.2.2.2, xf.2.2.2.2.2.1, xf.2.2.2.2.2.2.1, xf.2.2.2.2.2.2.2.1, xf.2.2.2.2.2.2.2.2.1, xf.2.2.2.2.2.2.2.2.2))) _ _ _ _ (⟨⟨hfa, hfb, hn1⟩, hFo⟩) hP trivial hS (Nat.le_of_ble_eq_true rfl) (Nat.le_of_ble_eq_true rfl) (fun hq hf9 => W.iret hx hb hr hq hf9 dX0_after_123 hlk)
            · skip
              refine lv_aload_n hx hb dX0_after_84 rfl (lv_at hl 0 rfl) ?_
              refine va_get (v := .ref (ad 5)) hx hb hts in_X0 hown hK hP 0 rfl rfl 2 (by decide) (hts _ q239) (fun _ h => h) rfl dX0_after_85 ?_
              refine lv_aload_n hx hb dX0_after_88 rfl (lv_at hl 0 rfl) ?_
              refine va_get (v := .ref (ad 2)) hx hb hts in_X0 hown hK hP 0 rfl rfl 1 (by decide) (hts _ q238) (fun _ h => h) rfl dX0_after_89 ?_
              by_cases hz92 : n1 = 0
              · skip
                refine ti_callX (ty_runV (As := [.ref (ad 2)]) (rest := []) S (met_X2_looks_z l D E htr z0 (ad 5) (ad 6) (ad 7) (ad 8) (ad 9) (ad 10) xf.1 xf.2.1 xf.2.2.1 xf.2.2.2.1 xf.2.2.2.2.1 xf.2.2.2.2.2.1 xf.2.2.2.2.2.2.1 xf.2.2.2.2.2.2.2.1 xf.2.2.2.2.2.2.2.2.1 xf.2.2.2.2.2.2.2.2.2 (ad 2) (ad 3) (ad 4) fa fb n1 hz92 H.size) (cwV 1 S.2.2.2.2 (lw_V q357 q358 q359 q68 q360) rfl rfl rfl (by decide +kernel) ⟨Nat.le_of_ble_eq_true rfl, Nat.le_of_ble_eq_true rfl⟩) (ti_preXV (xp := fun _ => True) hE hP hD hS rfl hZ hAz trivial [11, 12, 13, 14, 15, 16, 8, 9, 10] rfl rfl 11 rfl rfl) rfl rfl hl.1 rfl (lv_room (Nat.le_of_ble_eq_true rfl)) dX0_after_92 ⟨Nat.le_of_ble_eq_true rfl, Nat.le_of_ble_eq_true rfl⟩) hP hD hS hA [11, 12, 13, 14, 15, 16, 8, 9, 10] rfl (fun _ => rfl) (fun _ => rfl) (fun _ _ _ h9 => absurd h9 id) (fun we H locs ce hpx hxx hFr hP hD hPe hnew hS hce hcv hcl => ?_)
                have hP : va_P D vwCl (ti_wMJRFV E ad dh du dv jh ju jv kh ku kv tx hi xi (fa, fb, n1) xf xv) H := ti_asP hP [.inl 0, .inl 1, .inl 2, .inl 3, .inl 4, .inl 5, .inl 6, .inl 7, .inr 6, .inr 7, .inr 8, .inr 0, .inr 1, .inr 2, .inr 3, .inr 4, .inr 5, .inl 17, .inl 18, .inl 19, .inl 20] rfl rfl rfl rfl
                have hD : va_D A (ti_wMJRFV E ad dh du dv jh ju jv kh ku kv tx hi xi (fa, fb, n1) xf xv) := ti_asD hD [.inl 0, .inl 1, .inl 2, .inl 3, .inl 4, .inl 5, .inl 6, .inl 7, .inr 6, .inr 7, .inr 8, .inr 0, .inr 1, .inr 2, .inr 3, .inr 4, .inr 5, .inl 17, .inl 18, .inl 19, .inl 20] rfl rfl rfl rfl
                refine vx_catch hown [] ⟨65, 123, 124, 150⟩ [] htab (fun z hz => absurd hz List.not_mem_nil) rfl (by decide) (hts _ q356) (hE.use q363 rfl rfl) hce hcv hcl ?_
                refine lv_astore_n (lv' := [(2, .ref we.1), (0, .ref (ad 0)), (1, .int w)]) hx hb dX0_after_124 rfl hl (by decide) rfl (fun ls hl => ?_)
                refine lv_bipush (v := (-3)) hx hb dX0_after_125 (by decide) ?_
                have hv9 : ((-3)) = (fun _ => ti_Safter (I 0) EV w) (((fa, fb, n1), xf)) := by rw [ti_Safter, if_neg (by rw [c6]; decide), if_neg c66, if_pos (by rw [hle]; exact hz92)]
                refine W.eq (g2 := F0 m 127 ls [.int ((fun _ => ti_Safter (I 0) EV w) (((fa, fb, n1), xf)))]) (congrArg (fun z => F0 m 127 ls [.int z]) hv9) ?_
                exact hret _ (((fa, fb, n1), xf)) _ _ _ _ (⟨⟨hfa, hfb, hn1⟩, hxf⟩) hP trivial hS (Nat.le_of_ble_eq_true rfl) (Nat.le_of_ble_eq_true rfl) (fun hq hf9 => W.iret hx hb hr hq hf9 dX0_after_127 hlk)
              · skip
                have hz1 : 0 < n1 := Nat.pos_of_ne_zero hz92
                have hnd9 : (ti_gr fa fb 0 n1).Nodup := by rw [hRe]; exact ti_ev_nod _ _ (hnd 0 (by decide))
                have hN9 : ti_r2 (ti_gr fa fb 0 n1) 9999 (List.range' 1 9) ≤ 6 := Nat.le_trans (ti_r2_le hnd9 9999) (by rw [ti_gr_len]; exact hn1)
                refine ti_mV (As := [.ref (ad 2)]) (rest := []) S hE hP hD hS hA [11, 12, 13, 14, 15, 16, 8, 9, 10] rfl (met_X2_looks l D E (ad 5) (ad 6) (ad 7) (ad 8) (ad 9) (ad 10) xf.1 xf.2.1 xf.2.2.1 xf.2.2.2.1 xf.2.2.2.2.1 xf.2.2.2.2.2.1 xf.2.2.2.2.2.2.1 xf.2.2.2.2.2.2.2.1 xf.2.2.2.2.2.2.2.2.1 xf.2.2.2.2.2.2.2.2.2 (ad 2) (ad 3) (ad 4) fa fb n1 hn1 hfa hfb hxf.1 hxf.2.1 hxf.2.2.1 hxf.2.2.2.1 hz1 hN9) rfl (fun _ => rfl) (lw_V q357 q358 q359 q68 q360) 1 rfl 11 rfl rfl (by decide +kernel) ⟨Nat.le_of_ble_eq_true rfl, Nat.le_of_ble_eq_true rfl⟩ hl.1 rfl (Nat.le_of_ble_eq_true rfl) ⟨Nat.le_of_ble_eq_true rfl, Nat.le_of_ble_eq_true rfl⟩ dX0_after_92 (fun u1 H locs hu hP hD hS => ?_)
                obtain ⟨hF1, hF2, hF3, hF4, hF5⟩ := hu
                have hFF : ti_fr u1.1 u1.2.1 u1.2.2.1 0 u1.2.2.2 = ti_FF (ti_gr fa fb 0 n1) := by rw [hF1]; exact ti_fxm (by rw [ti_gr_len]; exact hz1) (ti_gr_9 hfa hfb 0 _)
                have hFo : ti_Fok (Value.ref (ad 2), u1.1, u1.2.1, u1.2.2.1, u1.2.2.2, xf.2.2.2.2.2.1, xf.2.2.2.2.2.2.1, xf.2.2.2.2.2.2.2.1, xf.2.2.2.2.2.2.2.2.1, xf.2.2.2.2.2.2.2.2.2) := ⟨hF2, hF3, hF4, hF5, hxf.2.2.2.2⟩
                have hP : va_P D vwCl (ti_wMJRFV E ad dh du dv jh ju jv kh ku kv tx hi xi (fa, fb, n1) (Value.ref (ad 2), u1.1, u1.2.1, u1.2.2.1, u1.2.2.2, xf.2.2.2.2.2.1, xf.2.2.2.2.2.2.1, xf.2.2.2.2.2.2.2.1, xf.2.2.2.2.2.2.2.2.1, xf.2.2.2.2.2.2.2.2.2) xv) H := ti_asP hP [.inl 0, .inl 1, .inl 2, .inl 3, .inl 4, .inl 5, .inl 6, .inl 7, .inr 6, .inr 7, .inr 8, .inr 0, .inr 1, .inr 2, .inr 3, .inr 4, .inr 5, .inl 17, .inl 18, .inl 19, .inl 20] rfl rfl rfl rfl
                have hD : va_D A (ti_wMJRFV E ad dh du dv jh ju jv kh ku kv tx hi xi (fa, fb, n1) (Value.ref (ad 2), u1.1, u1.2.1, u1.2.2.1, u1.2.2.2, xf.2.2.2.2.2.1, xf.2.2.2.2.2.2.1, xf.2.2.2.2.2.2.2.1, xf.2.2.2.2.2.2.2.2.1, xf.2.2.2.2.2.2.2.2.2) xv) := ti_asD hD [.inl 0, .inl 1, .inl 2, .inl 3, .inl 4, .inl 5, .inl 6, .inl 7, .inr 6, .inr 7, .inr 8, .inr 0, .inr 1, .inr 2, .inr 3, .inr 4, .inr 5, .inl 17, .inl 18, .inl 19, .inl 20] rfl rfl rfl rfl
                refine W.eq (g2 := F0 m 95 ls [.ref (ad 5)]) rfl ?_
                refine ti_mV (As := []) (rest := []) S hE hP hD hS hA [11, 12, 13, 14, 15, 16] rfl (met_X2_lists l D E (ad 5) (ad 6) (ad 7) (ad 8) (ad 9) (ad 10) (Value.ref (ad 2)) u1.1 u1.2.1 u1.2.2.1 u1.2.2.2 xf.2.2.2.2.2.1 xf.2.2.2.2.2.2.1 xf.2.2.2.2.2.2.2.1 xf.2.2.2.2.2.2.2.2.1 xf.2.2.2.2.2.2.2.2.2 hFo.1 hFo.2.1 hFo.2.2.1 hFo.2.2.2.1 hFo.2.2.2.2.1 hFo.2.2.2.2.2.1 hFo.2.2.2.2.2.2.1 hFo.2.2.2.2.2.2.2) rfl (fun _ => rfl) (lw_V q606 q607 q608 q68 q609) 0 rfl 11 rfl rfl (by decide +kernel) ⟨Nat.le_of_ble_eq_true rfl, Nat.le_of_ble_eq_true rfl⟩ hl.1 rfl (Nat.le_of_ble_eq_true rfl) ⟨Nat.le_of_ble_eq_true rfl, Nat.le_of_ble_eq_true rfl⟩ dX0_after_95 (fun u2 H locs hu hP hD hS => ?_)
                obtain ⟨hL1, hL2, hL3, hL4, hL5, hL6⟩ := hu
                have hFl : ti_Fok (Value.ref (ad 2), u1.1, u1.2.1, u1.2.2.1, u1.2.2.2, u2.1, u2.2.1, u2.2.2.1, u2.2.2.2.1, u2.2.2.2.2) := ⟨hFo.1, hFo.2.1, hFo.2.2.1, hFo.2.2.2.1, hL3, hL4, hL5, hL6⟩
                obtain ⟨hR1, hR2⟩ := ti_jr hL1
                have hP : va_P D vwCl (ti_wMJRFV E ad dh du dv jh ju jv kh ku kv tx hi xi (fa, fb, n1) (Value.ref (ad 2), u1.1, u1.2.1, u1.2.2.1, u1.2.2.2, u2.1, u2.2.1, u2.2.2.1, u2.2.2.2.1, u2.2.2.2.2) xv) H := hP
                have hD : va_D A (ti_wMJRFV E ad dh du dv jh ju jv kh ku kv tx hi xi (fa, fb, n1) (Value.ref (ad 2), u1.1, u1.2.1, u1.2.2.1, u1.2.2.2, u2.1, u2.2.1, u2.2.2.1, u2.2.2.2.1, u2.2.2.2.2) xv) := hD
                refine W.eq (g2 := F0 m 98 ls [.int (nI u2.2.2.2.2)]) rfl ?_
                refine lv_goto (tgt := 123) hx hb dX0_after_98 (by decide) ?_
                have hv9 : (nI u2.2.2.2.2) = (fun _ => ti_Safter (I 0) EV w) (((fa, fb, n1), (Value.ref (ad 2), u1.1, u1.2.1, u1.2.2.1, u1.2.2.2, u2.1, u2.2.1, u2.2.2.1, u2.2.2.2.1, u2.2.2.2.2))) := by rw [ti_Safter, if_neg (by rw [c6]; decide), if_neg c66, if_neg (by rw [hle]; exact hz92), if_pos (show w = 1 from c81), ti_Sask, if_neg (by decide), if_neg (by decide), ← hRe, ← hFF, hR1]
                refine W.eq (g2 := F0 m 123 ls [.int ((fun _ => ti_Safter (I 0) EV w) (((fa, fb, n1), (Value.ref (ad 2), u1.1, u1.2.1, u1.2.2.1, u1.2.2.2, u2.1, u2.2.1, u2.2.2.1, u2.2.2.2.1, u2.2.2.2.2))))]) (congrArg (fun z => F0 m 123 ls [.int z]) hv9) ?_
                exact hret _ (((fa, fb, n1), (Value.ref (ad 2), u1.1, u1.2.1, u1.2.2.1, u1.2.2.2, u2.1, u2.2.1, u2.2.2.1, u2.2.2.2.1, u2.2.2.2.2))) _ _ _ _ (⟨⟨hfa, hfb, hn1⟩, hFl⟩) hP trivial hS (Nat.le_of_ble_eq_true rfl) (Nat.le_of_ble_eq_true rfl) (fun hq hf9 => W.iret hx hb hr hq hf9 dX0_after_123 hlk)
          · skip
            refine lv_aload_n hx hb dX0_after_69 rfl (lv_at hl 0 rfl) ?_
            refine va_get (v := .ref (ad 2)) hx hb hts in_X0 hown hK hP 0 rfl rfl 1 (by decide) (hts _ q238) (fun _ h => h) rfl dX0_after_70 ?_
            refine va_getN (v := .int (nI n1)) hx hb hts in_X1 hown hK hP 8 rfl rfl 2 (by decide) (hE.use q117 rfl rfl) (fun _ h => h) rfl dX0_after_73 ?_
            refine lv_goto (tgt := 123) hx hb dX0_after_76 (by decide) ?_
            have hv9 : (nI n1) = (fun _ => ti_Safter (I 0) EV w) (((fa, fb, n1), xf)) := by rw [ti_Safter, if_neg (by rw [c6]; decide), if_pos c66, hle]
            refine W.eq (g2 := F0 m 123 ls [.int ((fun _ => ti_Safter (I 0) EV w) (((fa, fb, n1), xf)))]) (congrArg (fun z => F0 m 123 ls [.int z]) hv9) ?_
            exact hret _ (((fa, fb, n1), xf)) _ _ _ _ (⟨⟨hfa, hfb, hn1⟩, hxf⟩) hP trivial hS (Nat.le_of_ble_eq_true rfl) (Nat.le_of_ble_eq_true rfl) (fun hq hf9 => W.iret hx hb hr hq hf9 dX0_after_123 hlk)
        · skip
          obtain ⟨m9, hm9⟩ : ∃ m9, xv.2.2.2 - k = m9 + 1 := ⟨xv.2.2.2 - k - 1, by omega⟩
          rw [hm9, ti_gr_s, ti_ev] at hev
          have hew := hevk (xv.1 k, xv.2.1 k) (by rw [← hEV]; exact ti_gr_mem (by omega))
          refine lv_aload_n hx hb dX0_after_37 rfl (lv_at hl 0 rfl) ?_
          refine lv_aload_n hx hb dX0_after_38 rfl (lv_at hl 0 rfl) ?_
          refine va_get (v := .ref (ad 27)) hx hb hts in_X0 hown hK hP 0 rfl rfl 11 (by decide) (hts _ q248) (fun _ h => h) rfl dX0_after_39 ?_
          refine va_getN (v := .ref (ad 28)) hx hb hts in_X5 hown hK hP 17 rfl rfl 0 (by decide) (hE.use q208 rfl rfl) (fun _ h => h) rfl dX0_after_42 ?_
          refine lv_iload_n hx hb dX0_after_45 rfl (lv_at hl 2 rfl) ?_
          refine tn_iald (f := xv.1) hx hb hK hP 18 0 rfl rfl (by omega) (by decide) dX0_after_46 ?_
          have b46 := hxv.2.1 k
          refine lv_aload_n hx hb dX0_after_47 rfl (lv_at hl 0 rfl) ?_
          refine va_get (v := .ref (ad 27)) hx hb hts in_X0 hown hK hP 0 rfl rfl 11 (by decide) (hts _ q248) (fun _ h => h) rfl dX0_after_48 ?_
          refine va_getN (v := .ref (ad 29)) hx hb hts in_X5 hown hK hP 17 rfl rfl 1 (by decide) (hE.use q210 rfl rfl) (fun _ h => h) rfl dX0_after_51 ?_
          refine lv_iload_n hx hb dX0_after_54 rfl (lv_at hl 2 rfl) ?_
          refine tn_iald (f := xv.2.1) hx hb hK hP 19 0 rfl rfl (by omega) (by decide) dX0_after_55 ?_
          have b55 := hxv.2.2.1 k
          refine ti_mV (As := [.int (nI (xv.1 k)), .int (nI (xv.2.1 k))]) (rest := []) S hE hP hD hS hA [0, 8, 9, 10] rfl (met_X0_happens l D E ad dh du dv jh ju jv kh ku kv tx hi (fa, fb, n1) ⟨hfa, hfb, hn1⟩ (xv.1 k) (xv.2.1 k) hew.1 (hxv.2.2.1 k) hew.2) rfl (fun _ => rfl) (lw_V q866 q868 qs20 q66 q869) 2 rfl 0 rfl rfl (by decide +kernel) ⟨Nat.le_of_ble_eq_true rfl, Nat.le_of_ble_eq_true rfl⟩ hl.1 rfl (Nat.le_of_ble_eq_true rfl) ⟨Nat.le_of_ble_eq_true rfl, Nat.le_of_ble_eq_true rfl⟩ dX0_after_56 (fun ua H locs hu hP hD hS => ?_)
          have hua := hu
          have hP : va_P D vwCl (ti_wMJRFV E ad dh du dv jh ju jv kh ku kv tx hi xi (ua.1, ua.2.1, ua.2.2) xf xv) H := hP
          have hD : va_D A (ti_wMJRFV E ad dh du dv jh ju jv kh ku kv tx hi xi (ua.1, ua.2.1, ua.2.2) xf xv) := hD
          refine W.eq (g2 := F0 m 59 ls []) rfl ?_
          refine lv_iinc (v := nI (k + 1)) (lv' := [(2, .int (nI (k + 1))), (0, .ref (ad 0)), (1, .int w)]) hx hb dX0_after_59 hl (k := 2) rfl (nI_1 k) (by decide) rfl (fun ls hl => ?_)
          refine lv_goto (tgt := 26) hx hb dX0_after_62 (by decide) ?_
          exact ih26 (k + 1) ua.1 ua.2.1 ua.2.2 _ _ _ hP hD hS (by omega) (by omega) (hua.2.1) (hua.2.2.1) (hua.2.2.2) (by rw [hua.1, show xv.2.2.2 - (k + 1) = m9 by omega]; exact hev) (lv_sub hl [1, 2, 0] rfl)
    exact L26 _ 0 (xi.1 0) (xi.2.1 0) (xi.2.2 0) _ _ _ hP hD hS (Nat.lt_succ_self _) (by omega) (hxi.1 0) (hxi.2.1 0) (hxi.2.2 0) (by rw [show (ti_gr (xi.1 0) (xi.2.1 0) 0 (xi.2.2 0)) = I 0 from hJ 0 (by decide)]; exact congrArg (ti_ev (I 0)) hEV) (lv_sub hl [1, 2, 0] rfl)
  · skip
    refine lv_iconst (v := (-1)) hx hb dX0_after_9 (by decide) ?_
    have hv9 : ((-1)) = (fun _ => ti_Safter (I 0) EV w) (xr, xf) := by rw [ti_Safter, if_pos c6]
    refine W.eq (g2 := F0 m 10 ls [.int ((fun _ => ti_Safter (I 0) EV w) (xr, xf))]) (congrArg (fun z => F0 m 10 ls [.int z]) hv9) ?_
    exact hret _ (xr, xf) _ _ _ _ (⟨hxr, hxf⟩) hP trivial hS (Nat.le_of_ble_eq_true rfl) (Nat.le_of_ble_eq_true rfl) (fun hq hf9 => W.iret hx hb hr hq hf9 dX0_after_10 hlk)
