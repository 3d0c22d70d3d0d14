/-! TermIdeals: powers, height, isReduction, bounds, met, reduces (printed by w_own6.py) -/
set_option maxRecDepth 100000

abbrev ti_wMJOPN (E : Nat → ClassId) (ad dh du dv jh ju jv kh ku kv : Nat → Nat) (tx : Nat) (hi : Bool) (xi : ti_Ti) (xo : Nat → Nat) (xp : Nat → Nat) (xn : Nat → Nat) : va_W := [(ad 0, .inr (0, [.ref (ad 1), .ref (ad 2), .ref (ad 5), .ref (ad 11), .ref (ad 14), .ref (ad 16), .ref (ad 18), .ref (ad 20), .ref (ad 22), .int (nI tx), .ref (ad 23), .ref (ad 27), .ref (ad 31), .ref (ad 35), .ref (ad 36), .ref (ad 37), .ref (ad 41), .ref (ad 45), .int (ti_b hi)])), (ad 1, .inl (E 5, 2, .inr (.inr (.inr (.inr (ti_o jh (fun j => j))))))), (jh 0, .inr (1, [.ref (ju 0), .ref (jv 0), .int (nI (xi.2.2 0))])), (ju 0, .inl (E 0, 6, .inl (ti_n (xi.1 0)))), (jv 0, .inl (E 0, 6, .inl (ti_n (xi.2.1 0)))), (jh 1, .inr (1, [.ref (ju 1), .ref (jv 1), .int (nI (xi.2.2 1))])), (ju 1, .inl (E 0, 6, .inl (ti_n (xi.1 1)))), (jv 1, .inl (E 0, 6, .inl (ti_n (xi.2.1 1)))), (ad 14, .inr (4, [.ref (ad 15)])), (ad 15, .inl (E 0, 61, .inl (ti_n xo))), (ad 18, .inr (4, [.ref (ad 19)])), (ad 19, .inl (E 0, 61, .inl (ti_n xp))), (ad 20, .inr (4, [.ref (ad 21)])), (ad 21, .inl (E 0, 61, .inl (ti_n xn)))]

abbrev ti_wMJOTPN (E : Nat → ClassId) (ad dh du dv jh ju jv kh ku kv : Nat → Nat) (tx : Nat) (hi : Bool) (xi : ti_Ti) (xo : Nat → Nat) (xq : Nat → Nat) (xp : Nat → Nat) (xn : Nat → Nat) : va_W := [(ad 0, .inr (0, [.ref (ad 1), .ref (ad 2), .ref (ad 5), .ref (ad 11), .ref (ad 14), .ref (ad 16), .ref (ad 18), .ref (ad 20), .ref (ad 22), .int (nI tx), .ref (ad 23), .ref (ad 27), .ref (ad 31), .ref (ad 35), .ref (ad 36), .ref (ad 37), .ref (ad 41), .ref (ad 45), .int (ti_b hi)])), (ad 1, .inl (E 5, 2, .inr (.inr (.inr (.inr (ti_o jh (fun j => j))))))), (jh 0, .inr (1, [.ref (ju 0), .ref (jv 0), .int (nI (xi.2.2 0))])), (ju 0, .inl (E 0, 6, .inl (ti_n (xi.1 0)))), (jv 0, .inl (E 0, 6, .inl (ti_n (xi.2.1 0)))), (jh 1, .inr (1, [.ref (ju 1), .ref (jv 1), .int (nI (xi.2.2 1))])), (ju 1, .inl (E 0, 6, .inl (ti_n (xi.1 1)))), (jv 1, .inl (E 0, 6, .inl (ti_n (xi.2.1 1)))), (ad 14, .inr (4, [.ref (ad 15)])), (ad 15, .inl (E 0, 61, .inl (ti_n xo))), (ad 16, .inr (4, [.ref (ad 17)])), (ad 17, .inl (E 0, 61, .inl (ti_n xq))), (ad 18, .inr (4, [.ref (ad 19)])), (ad 19, .inl (E 0, 61, .inl (ti_n xp))), (ad 20, .inr (4, [.ref (ad 21)])), (ad 21, .inl (E 0, 61, .inl (ti_n xn)))]

abbrev ti_wMJFOTPN (E : Nat → ClassId) (ad dh du dv jh ju jv kh ku kv : Nat → Nat) (tx : Nat) (hi : Bool) (xi : ti_Ti) (xf : ti_Tf) (xo : Nat → Nat) (xq : Nat → Nat) (xp : Nat → Nat) (xn : Nat → Nat) : va_W := [(ad 0, .inr (0, [.ref (ad 1), .ref (ad 2), .ref (ad 5), .ref (ad 11), .ref (ad 14), .ref (ad 16), .ref (ad 18), .ref (ad 20), .ref (ad 22), .int (nI tx), .ref (ad 23), .ref (ad 27), .ref (ad 31), .ref (ad 35), .ref (ad 36), .ref (ad 37), .ref (ad 41), .ref (ad 45), .int (ti_b hi)])), (ad 1, .inl (E 5, 2, .inr (.inr (.inr (.inr (ti_o jh (fun j => j))))))), (jh 0, .inr (1, [.ref (ju 0), .ref (jv 0), .int (nI (xi.2.2 0))])), (ju 0, .inl (E 0, 6, .inl (ti_n (xi.1 0)))), (jv 0, .inl (E 0, 6, .inl (ti_n (xi.2.1 0)))), (jh 1, .inr (1, [.ref (ju 1), .ref (jv 1), .int (nI (xi.2.2 1))])), (ju 1, .inl (E 0, 6, .inl (ti_n (xi.1 1)))), (jv 1, .inl (E 0, 6, .inl (ti_n (xi.2.1 1)))), (ad 5, .inr (2, [xf.1, .ref (ad 6), .ref (ad 7), .ref (ad 8), .int (nI xf.2.2.2.2.1), .int (nI xf.2.2.2.2.2.1), .int (nI xf.2.2.2.2.2.2.1), .ref (ad 9), .ref (ad 10), .int (nI xf.2.2.2.2.2.2.2.2.2)])), (ad 6, .inl (E 0, 8, .inl (ti_n xf.2.1))), (ad 7, .inl (E 0, 8, .inl (ti_n xf.2.2.1))), (ad 8, .inl (E 0, 8, .inl (ti_n xf.2.2.2.1))), (ad 9, .inl (E 0, 100, .inl (ti_n xf.2.2.2.2.2.2.2.1))), (ad 10, .inl (E 0, 100, .inl (ti_n xf.2.2.2.2.2.2.2.2.1))), (ad 14, .inr (4, [.ref (ad 15)])), (ad 15, .inl (E 0, 61, .inl (ti_n xo))), (ad 16, .inr (4, [.ref (ad 17)])), (ad 17, .inl (E 0, 61, .inl (ti_n xq))), (ad 18, .inr (4, [.ref (ad 19)])), (ad 19, .inl (E 0, 61, .inl (ti_n xp))), (ad 20, .inr (4, [.ref (ad 21)])), (ad 21, .inl (E 0, 61, .inl (ti_n xn)))]

set_option maxHeartbeats 1000000 in
theorem met_X0_powers_0 (l : Launch) (D : va_G) (E : Nat → ClassId) (ad dh du dv jh ju jv kh ku kv : Nat → Nat) (tx : Nat) (hi : Bool) (xi : ti_Ti) (xo : Nat → Nat) (xp : Nat → Nat) (xn : Nat → Nat) (hxi : ti_Jok xi) (hxo : ∀ k, xo k ≤ 9999) (hxp : ∀ k, xp k ≤ 9999) (hxn : ∀ k, xn k ≤ 9999) (n9 : Nat) (hn9 : n9 ≤ 100) : ti_MetM (σ := Nat → Nat) l D E yX0_powers cX0_powers 4 none 3 0 0 (ti_wMJOPN E ad dh du dv jh ju jv kh ku kv tx hi xi xo xp xn) [.ref (ad 0), .ref (jh 0), .int (nI n9)] (fun u => ti_wMJOPN E ad dh du dv jh ju jv kh ku kv tx hi xi (ti_st (ti_gr (xi.1 0) (xi.2.1 0) 0 (xi.2.2 0))) (ti_ps (ti_gr (xi.1 0) (xi.2.1 0) 0 (xi.2.2 0)) n9) u) (fun _ => none) (fun u => ∀ k, u k ≤ 9999) := by
  refine ti_mutV (σ := Nat → Nat) (by decide) (Nat.le_of_ble_eq_true rfl) ?_
  intro p e s m below meth c H H0 A Q ls S hE hP hD hS hA hinit hl hret
  have hx := S.1
  have hb := S.2.1
  have hown := S.2.2.2.1
  have hts := S.2.2.2.2
  have hK := hE.1
  have hl : lv_has ls 4 [(0, .ref (ad 0)), (1, .ref (jh 0)), (2, .int (nI n9))] := hl
  refine lv_aload_n hx hb dX0_powers_0 rfl (lv_at hl 0 rfl) ?_
  refine va_get (v := .ref (ad 14)) hx hb hts in_X0 hown hK hP 0 rfl rfl 4 (by decide) (hts _ q241) (fun _ h => h) rfl dX0_powers_1 ?_
  refine lv_aload_n hx hb dX0_powers_4 rfl (lv_at hl 1 rfl) ?_
  refine ti_mV (As := [.ref (jh 0)]) (rest := []) S hE hP hD hS hA [8, 9, 2, 3, 4] rfl (met_X4_of l D E (ad 14) (ad 15) xo (jh 0) (ju 0) (jv 0) (xi.1 0) (xi.2.1 0) (xi.2.2 0) (hxi.2.2 0) (hxi.1 0) (hxi.2.1 0)) rfl (fun _ => rfl) (lw_V q774 q775 q776 q70 q777) 1 rfl 8 rfl rfl (by decide +kernel) ⟨Nat.le_of_ble_eq_true rfl, Nat.le_of_ble_eq_true rfl⟩ hl.1 rfl (Nat.le_of_ble_eq_true rfl) ⟨Nat.le_refl _, Nat.le_refl _⟩ dX0_powers_5 (fun _ H locs hu hP hD hS => ?_)
  have hP : va_P D vwCl (ti_wMJOPN E ad dh du dv jh ju jv kh ku kv tx hi xi (ti_st (ti_gr (xi.1 0) (xi.2.1 0) 0 (xi.2.2 0))) xp xn) H := hP
  have hD : va_D A (ti_wMJOPN E ad dh du dv jh ju jv kh ku kv tx hi xi (ti_st (ti_gr (xi.1 0) (xi.2.1 0) 0 (xi.2.2 0))) xp xn) := hD
  refine W.eq (g2 := F0 m 8 ls [.ref (ad 14)]) rfl ?_
  refine lv_pop hx hb dX0_powers_8 rfl ?_
  refine lv_aload_n hx hb dX0_powers_9 rfl (lv_at hl 0 rfl) ?_
  refine va_get (v := .ref (ad 18)) hx hb hts in_X0 hown hK hP 0 rfl rfl 6 (by decide) (hts _ q243) (fun _ h => h) rfl dX0_powers_10 ?_
  refine ti_mV (As := []) (rest := []) S hE hP hD hS hA [10, 11] rfl (met_X4_all l D E (ad 18) (ad 19) xp) rfl (fun _ => rfl) (lw_V q796 q797 q798 q70 q799) 0 rfl 10 rfl rfl (by decide +kernel) ⟨Nat.le_of_ble_eq_true rfl, Nat.le_of_ble_eq_true rfl⟩ hl.1 rfl (Nat.le_of_ble_eq_true rfl) ⟨Nat.le_refl _, Nat.le_refl _⟩ dX0_powers_13 (fun _ H locs hu hP hD hS => ?_)
  have hP : va_P D vwCl (ti_wMJOPN E ad dh du dv jh ju jv kh ku kv tx hi xi (ti_st (ti_gr (xi.1 0) (xi.2.1 0) 0 (xi.2.2 0))) (fun _ => 0) xn) H := hP
  have hD : va_D A (ti_wMJOPN E ad dh du dv jh ju jv kh ku kv tx hi xi (ti_st (ti_gr (xi.1 0) (xi.2.1 0) 0 (xi.2.2 0))) (fun _ => 0) xn) := hD
  refine W.eq (g2 := F0 m 16 ls []) rfl ?_
  refine lv_iconst (v := nI 0) hx hb dX0_powers_16 (by decide) ?_
  refine lv_istore_n (lv' := [(3, .int (nI 0)), (0, .ref (ad 0)), (1, .ref (jh 0)), (2, .int (nI n9))]) hx hb dX0_powers_17 rfl hl (by decide) rfl (fun ls hl => ?_)
  have L18 : ∀ (N : Nat) (k : Nat) (fn : Nat → Nat) (ls : Array Slot) (H : Heap) (locs : List Loc), va_P D vwCl (ti_wMJOPN E ad dh du dv jh ju jv kh ku kv tx hi xi (ti_st (ti_gr (xi.1 0) (xi.2.1 0) 0 (xi.2.2 0))) (ti_ps (ti_gr (xi.1 0) (xi.2.1 0) 0 (xi.2.2 0)) k) fn) H → va_D A (ti_wMJOPN E ad dh du dv jh ju jv kh ku kv tx hi xi (ti_st (ti_gr (xi.1 0) (xi.2.1 0) 0 (xi.2.2 0))) (ti_ps (ti_gr (xi.1 0) (xi.2.1 0) 0 (xi.2.2 0)) k) fn) → va_S A H0 H locs → (n9 - k) < N → (k ≤ n9) → (∀ j, fn j ≤ 9999) → lv_has ls 4 [(0, .ref (ad 0)), (1, .ref (jh 0)), (2, .int (nI n9)), (3, .int (nI k))] → W p l e (ti_rm 3 0 0) s m ([.ref (ad 0), .ref (jh 0), .int (nI n9)] : List Value).toArray below meth c H locs 0 0 Q (F0 m 18 ls []) := by
    intro N
    induction N with
    | zero => intro k fn ls H locs hP hD hS h0; exact absurd h0 (Nat.not_lt_zero _)
    | succ N ih18 =>
      intro k fn ls H locs hP hD hS hN hk hfn hl
      refine lv_iload_n hx hb dX0_powers_18 rfl (lv_at hl 3 rfl) ?_
      refine lv_iload_n hx hb dX0_powers_19 rfl (lv_at hl 2 rfl) ?_
      refine tn_ge (tgt := 55) hx hb dX0_powers_20 (by decide) (by omega) (by omega) (fun c20 => ?_) (fun c20 => ?_)
      · skip
        obtain rfl : k = n9 := by omega
        exact hret fn _ _ _ _ _ _ dX0_powers_55 (hfn) hP hS (Nat.le_refl _) (Nat.le_refl _)
      · skip
        refine lv_aload_n hx hb dX0_powers_23 rfl (lv_at hl 0 rfl) ?_
        refine va_get (v := .ref (ad 20)) hx hb hts in_X0 hown hK hP 0 rfl rfl 7 (by decide) (hts _ q244) (fun _ h => h) rfl dX0_powers_24 ?_
        refine lv_aload_n hx hb dX0_powers_27 rfl (lv_at hl 0 rfl) ?_
        refine va_get (v := .ref (ad 18)) hx hb hts in_X0 hown hK hP 0 rfl rfl 6 (by decide) (hts _ q243) (fun _ h => h) rfl dX0_powers_28 ?_
        refine lv_aload_n hx hb dX0_powers_31 rfl (lv_at hl 0 rfl) ?_
        refine va_get (v := .ref (ad 14)) hx hb hts in_X0 hown hK hP 0 rfl rfl 4 (by decide) (hts _ q241) (fun _ h => h) rfl dX0_powers_32 ?_
        refine ti_mV (As := [.ref (ad 18), .ref (ad 14)]) (rest := []) S hE hP hD hS hA [12, 13, 10, 11, 8, 9] rfl (met_X4_product l D E (ad 20) (ad 21) fn (ad 18) (ad 19) (ti_ps (ti_gr (xi.1 0) (xi.2.1 0) 0 (xi.2.2 0)) k) (ad 14) (ad 15) (ti_st (ti_gr (xi.1 0) (xi.2.1 0) 0 (xi.2.2 0))) (ti_ps_le (ti_gr (xi.1 0) (xi.2.1 0) 0 (xi.2.2 0)) k) (ti_st_le (ti_gr (xi.1 0) (xi.2.1 0) 0 (xi.2.2 0)))) rfl (fun _ => rfl) (lw_V q788 q789 q790 q70 q791) 2 rfl 12 rfl rfl (by decide +kernel) ⟨Nat.le_of_ble_eq_true rfl, Nat.le_of_ble_eq_true rfl⟩ hl.1 rfl (Nat.le_of_ble_eq_true rfl) ⟨Nat.le_refl _, Nat.le_refl _⟩ dX0_powers_35 (fun _ H locs hu hP hD hS => ?_)
        have hP : va_P D vwCl (ti_wMJOPN E ad dh du dv jh ju jv kh ku kv tx hi xi (ti_st (ti_gr (xi.1 0) (xi.2.1 0) 0 (xi.2.2 0))) (ti_ps (ti_gr (xi.1 0) (xi.2.1 0) 0 (xi.2.2 0)) k) (ti_pr (ti_ps (ti_gr (xi.1 0) (xi.2.1 0) 0 (xi.2.2 0)) k) (ti_st (ti_gr (xi.1 0) (xi.2.1 0) 0 (xi.2.2 0))))) H := hP
        have hD : va_D A (ti_wMJOPN E ad dh du dv jh ju jv kh ku kv tx hi xi (ti_st (ti_gr (xi.1 0) (xi.2.1 0) 0 (xi.2.2 0))) (ti_ps (ti_gr (xi.1 0) (xi.2.1 0) 0 (xi.2.2 0)) k) (ti_pr (ti_ps (ti_gr (xi.1 0) (xi.2.1 0) 0 (xi.2.2 0)) k) (ti_st (ti_gr (xi.1 0) (xi.2.1 0) 0 (xi.2.2 0))))) := hD
        refine W.eq (g2 := F0 m 38 ls []) rfl ?_
        refine lv_aload_n hx hb dX0_powers_38 rfl (lv_at hl 0 rfl) ?_
        refine va_get (v := .ref (ad 18)) hx hb hts in_X0 hown hK hP 0 rfl rfl 6 (by decide) (hts _ q243) (fun _ h => h) rfl dX0_powers_39 ?_
        refine lv_aload_n hx hb dX0_powers_42 rfl (lv_at hl 0 rfl) ?_
        refine va_get (v := .ref (ad 20)) hx hb hts in_X0 hown hK hP 0 rfl rfl 7 (by decide) (hts _ q244) (fun _ h => h) rfl dX0_powers_43 ?_
        refine ti_mV (As := [.ref (ad 20)]) (rest := []) S hE hP hD hS hA [10, 11, 12, 13] rfl (met_X4_takes l D E (ad 18) (ad 19) (ti_ps (ti_gr (xi.1 0) (xi.2.1 0) 0 (xi.2.2 0)) k) (ad 20) (ad 21) (ti_pr (ti_ps (ti_gr (xi.1 0) (xi.2.1 0) 0 (xi.2.2 0)) k) (ti_st (ti_gr (xi.1 0) (xi.2.1 0) 0 (xi.2.2 0))))) rfl (fun _ => rfl) (lw_V q800 q801 q802 q70 q803) 1 rfl 10 rfl rfl (by decide +kernel) ⟨Nat.le_of_ble_eq_true rfl, Nat.le_of_ble_eq_true rfl⟩ hl.1 rfl (Nat.le_of_ble_eq_true rfl) ⟨Nat.le_refl _, Nat.le_refl _⟩ dX0_powers_46 (fun _ H locs hu hP hD hS => ?_)
        have hP : va_P D vwCl (ti_wMJOPN E ad dh du dv jh ju jv kh ku kv tx hi xi (ti_st (ti_gr (xi.1 0) (xi.2.1 0) 0 (xi.2.2 0))) (ti_pr (ti_ps (ti_gr (xi.1 0) (xi.2.1 0) 0 (xi.2.2 0)) k) (ti_st (ti_gr (xi.1 0) (xi.2.1 0) 0 (xi.2.2 0)))) (ti_pr (ti_ps (ti_gr (xi.1 0) (xi.2.1 0) 0 (xi.2.2 0)) k) (ti_st (ti_gr (xi.1 0) (xi.2.1 0) 0 (xi.2.2 0))))) H := hP
        have hD : va_D A (ti_wMJOPN E ad dh du dv jh ju jv kh ku kv tx hi xi (ti_st (ti_gr (xi.1 0) (xi.2.1 0) 0 (xi.2.2 0))) (ti_pr (ti_ps (ti_gr (xi.1 0) (xi.2.1 0) 0 (xi.2.2 0)) k) (ti_st (ti_gr (xi.1 0) (xi.2.1 0) 0 (xi.2.2 0)))) (ti_pr (ti_ps (ti_gr (xi.1 0) (xi.2.1 0) 0 (xi.2.2 0)) k) (ti_st (ti_gr (xi.1 0) (xi.2.1 0) 0 (xi.2.2 0))))) := hD
        refine W.eq (g2 := F0 m 49 ls []) rfl ?_
        refine lv_iinc (v := nI (k + 1)) (lv' := [(3, .int (nI (k + 1))), (0, .ref (ad 0)), (1, .ref (jh 0)), (2, .int (nI n9))]) hx hb dX0_powers_49 hl (k := 3) rfl (nI_1 k) (by decide) rfl (fun ls hl => ?_)
        refine lv_goto (tgt := 18) hx hb dX0_powers_52 (by decide) ?_
        exact ih18 (k + 1) (ti_pr (ti_ps (ti_gr (xi.1 0) (xi.2.1 0) 0 (xi.2.2 0)) k) (ti_st (ti_gr (xi.1 0) (xi.2.1 0) 0 (xi.2.2 0)))) _ _ _ hP hD hS (by omega) (by omega) (ti_pr_le _ _) (lv_sub hl [1, 2, 3, 0] rfl)
  exact L18 _ 0 xn _ _ _ hP hD hS (Nat.lt_succ_self _) (by omega) (hxn) (lv_sub hl [1, 2, 3, 0] rfl)

set_option maxHeartbeats 1000000 in
theorem met_X0_powers_1 (l : Launch) (D : va_G) (E : Nat → ClassId) (ad dh du dv jh ju jv kh ku kv : Nat → Nat) (tx : Nat) (hi : Bool) (xi : ti_Ti) (xo : Nat → Nat) (xp : Nat → Nat) (xn : Nat → Nat) (hxi : ti_Jok xi) (hxo : ∀ k, xo k ≤ 9999) (hxp : ∀ k, xp k ≤ 9999) (hxn : ∀ k, xn k ≤ 9999) (n9 : Nat) (hn9 : n9 ≤ 100) : ti_MetM (σ := Nat → Nat) l D E yX0_powers cX0_powers 4 none 3 0 0 (ti_wMJOPN E ad dh du dv jh ju jv kh ku kv tx hi xi xo xp xn) [.ref (ad 0), .ref (jh 1), .int (nI n9)] (fun u => ti_wMJOPN E ad dh du dv jh ju jv kh ku kv tx hi xi (ti_st (ti_gr (xi.1 1) (xi.2.1 1) 0 (xi.2.2 1))) (ti_ps (ti_gr (xi.1 1) (xi.2.1 1) 0 (xi.2.2 1)) n9) u) (fun _ => none) (fun u => ∀ k, u k ≤ 9999) := by
  refine ti_mutV (σ := Nat → Nat) (by decide) (Nat.le_of_ble_eq_true rfl) ?_
  intro p e s m below meth c H H0 A Q ls S hE hP hD hS hA hinit hl hret
  have hx := S.1
  have hb := S.2.1
  have hown := S.2.2.2.1
  have hts := S.2.2.2.2
  have hK := hE.1
  have hl : lv_has ls 4 [(0, .ref (ad 0)), (1, .ref (jh 1)), (2, .int (nI n9))] := hl
  refine lv_aload_n hx hb dX0_powers_0 rfl (lv_at hl 0 rfl) ?_
  refine va_get (v := .ref (ad 14)) hx hb hts in_X0 hown hK hP 0 rfl rfl 4 (by decide) (hts _ q241) (fun _ h => h) rfl dX0_powers_1 ?_
  refine lv_aload_n hx hb dX0_powers_4 rfl (lv_at hl 1 rfl) ?_
  refine ti_mV (As := [.ref (jh 1)]) (rest := []) S hE hP hD hS hA [8, 9, 5, 6, 7] rfl (met_X4_of l D E (ad 14) (ad 15) xo (jh 1) (ju 1) (jv 1) (xi.1 1) (xi.2.1 1) (xi.2.2 1) (hxi.2.2 1) (hxi.1 1) (hxi.2.1 1)) rfl (fun _ => rfl) (lw_V q774 q775 q776 q70 q777) 1 rfl 8 rfl rfl (by decide +kernel) ⟨Nat.le_of_ble_eq_true rfl, Nat.le_of_ble_eq_true rfl⟩ hl.1 rfl (Nat.le_of_ble_eq_true rfl) ⟨Nat.le_refl _, Nat.le_refl _⟩ dX0_powers_5 (fun _ H locs hu hP hD hS => ?_)
  have hP : va_P D vwCl (ti_wMJOPN E ad dh du dv jh ju jv kh ku kv tx hi xi (ti_st (ti_gr (xi.1 1) (xi.2.1 1) 0 (xi.2.2 1))) xp xn) H := hP
  have hD : va_D A (ti_wMJOPN E ad dh du dv jh ju jv kh ku kv tx hi xi (ti_st (ti_gr (xi.1 1) (xi.2.1 1) 0 (xi.2.2 1))) xp xn) := hD
  refine W.eq (g2 := F0 m 8 ls [.ref (ad 14)]) rfl ?_
  refine lv_pop hx hb dX0_powers_8 rfl ?_
  refine lv_aload_n hx hb dX0_powers_9 rfl (lv_at hl 0 rfl) ?_
  refine va_get (v := .ref (ad 18)) hx hb hts in_X0 hown hK hP 0 rfl rfl 6 (by decide) (hts _ q243) (fun _ h => h) rfl dX0_powers_10 ?_
  refine ti_mV (As := []) (rest := []) S hE hP hD hS hA [10, 11] rfl (met_X4_all l D E (ad 18) (ad 19) xp) rfl (fun _ => rfl) (lw_V q796 q797 q798 q70 q799) 0 rfl 10 rfl rfl (by decide +kernel) ⟨Nat.le_of_ble_eq_true rfl, Nat.le_of_ble_eq_true rfl⟩ hl.1 rfl (Nat.le_of_ble_eq_true rfl) ⟨Nat.le_refl _, Nat.le_refl _⟩ dX0_powers_13 (fun _ H locs hu hP hD hS => ?_)
  have hP : va_P D vwCl (ti_wMJOPN E ad dh du dv jh ju jv kh ku kv tx hi xi (ti_st (ti_gr (xi.1 1) (xi.2.1 1) 0 (xi.2.2 1))) (fun _ => 0) xn) H := hP
  have hD : va_D A (ti_wMJOPN E ad dh du dv jh ju jv kh ku kv tx hi xi (ti_st (ti_gr (xi.1 1) (xi.2.1 1) 0 (xi.2.2 1))) (fun _ => 0) xn) := hD
  refine W.eq (g2 := F0 m 16 ls []) rfl ?_
  refine lv_iconst (v := nI 0) hx hb dX0_powers_16 (by decide) ?_
  refine lv_istore_n (lv' := [(3, .int (nI 0)), (0, .ref (ad 0)), (1, .ref (jh 1)), (2, .int (nI n9))]) hx hb dX0_powers_17 rfl hl (by decide) rfl (fun ls hl => ?_)
  have L18 : ∀ (N : Nat) (k : Nat) (fn : Nat → Nat) (ls : Array Slot) (H : Heap) (locs : List Loc), va_P D vwCl (ti_wMJOPN E ad dh du dv jh ju jv kh ku kv tx hi xi (ti_st (ti_gr (xi.1 1) (xi.2.1 1) 0 (xi.2.2 1))) (ti_ps (ti_gr (xi.1 1) (xi.2.1 1) 0 (xi.2.2 1)) k) fn) H → va_D A (ti_wMJOPN E ad dh du dv jh ju jv kh ku kv tx hi xi (ti_st (ti_gr (xi.1 1) (xi.2.1 1) 0 (xi.2.2 1))) (ti_ps (ti_gr (xi.1 1) (xi.2.1 1) 0 (xi.2.2 1)) k) fn) → va_S A H0 H locs → (n9 - k) < N → (k ≤ n9) → (∀ j, fn j ≤ 9999) → lv_has ls 4 [(0, .ref (ad 0)), (1, .ref (jh 1)), (2, .int (nI n9)), (3, .int (nI k))] → W p l e (ti_rm 3 0 0) s m ([.ref (ad 0), .ref (jh 1), .int (nI n9)] : List Value).toArray below meth c H locs 0 0 Q (F0 m 18 ls []) := by
    intro N
    induction N with
    | zero => intro k fn ls H locs hP hD hS h0; exact absurd h0 (Nat.not_lt_zero _)
    | succ N ih18 =>
      intro k fn ls H locs hP hD hS hN hk hfn hl
      refine lv_iload_n hx hb dX0_powers_18 rfl (lv_at hl 3 rfl) ?_
      refine lv_iload_n hx hb dX0_powers_19 rfl (lv_at hl 2 rfl) ?_
      refine tn_ge (tgt := 55) hx hb dX0_powers_20 (by decide) (by omega) (by omega) (fun c20 => ?_) (fun c20 => ?_)
      · skip
        obtain rfl : k = n9 := by omega
        exact hret fn _ _ _ _ _ _ dX0_powers_55 (hfn) hP hS (Nat.le_refl _) (Nat.le_refl _)
      · skip
        refine lv_aload_n hx hb dX0_powers_23 rfl (lv_at hl 0 rfl) ?_
        refine va_get (v := .ref (ad 20)) hx hb hts in_X0 hown hK hP 0 rfl rfl 7 (by decide) (hts _ q244) (fun _ h => h) rfl dX0_powers_24 ?_
        refine lv_aload_n hx hb dX0_powers_27 rfl (lv_at hl 0 rfl) ?_
        refine va_get (v := .ref (ad 18)) hx hb hts in_X0 hown hK hP 0 rfl rfl 6 (by decide) (hts _ q243) (fun _ h => h) rfl dX0_powers_28 ?_
        refine lv_aload_n hx hb dX0_powers_31 rfl (lv_at hl 0 rfl) ?_
        refine va_get (v := .ref (ad 14)) hx hb hts in_X0 hown hK hP 0 rfl rfl 4 (by decide) (hts _ q241) (fun _ h => h) rfl dX0_powers_32 ?_
        refine ti_mV (As := [.ref (ad 18), .ref (ad 14)]) (rest := []) S hE hP hD hS hA [12, 13, 10, 11, 8, 9] rfl (met_X4_product l D E (ad 20) (ad 21) fn (ad 18) (ad 19) (ti_ps (ti_gr (xi.1 1) (xi.2.1 1) 0 (xi.2.2 1)) k) (ad 14) (ad 15) (ti_st (ti_gr (xi.1 1) (xi.2.1 1) 0 (xi.2.2 1))) (ti_ps_le (ti_gr (xi.1 1) (xi.2.1 1) 0 (xi.2.2 1)) k) (ti_st_le (ti_gr (xi.1 1) (xi.2.1 1) 0 (xi.2.2 1)))) rfl (fun _ => rfl) (lw_V q788 q789 q790 q70 q791) 2 rfl 12 rfl rfl (by decide +kernel) ⟨Nat.le_of_ble_eq_true rfl, Nat.le_of_ble_eq_true rfl⟩ hl.1 rfl (Nat.le_of_ble_eq_true rfl) ⟨Nat.le_refl _, Nat.le_refl _⟩ dX0_powers_35 (fun _ H locs hu hP hD hS => ?_)
        have hP : va_P D vwCl (ti_wMJOPN E ad dh du dv jh ju jv kh ku kv tx hi xi (ti_st (ti_gr (xi.1 1) (xi.2.1 1) 0 (xi.2.2 1))) (ti_ps (ti_gr (xi.1 1) (xi.2.1 1) 0 (xi.2.2 1)) k) (ti_pr (ti_ps (ti_gr (xi.1 1) (xi.2.1 1) 0 (xi.2.2 1)) k) (ti_st (ti_gr (xi.1 1) (xi.2.1 1) 0 (xi.2.2 1))))) H := hP
        have hD : va_D A (ti_wMJOPN E ad dh du dv jh ju jv kh ku kv tx hi xi (ti_st (ti_gr (xi.1 1) (xi.2.1 1) 0 (xi.2.2 1))) (ti_ps (ti_gr (xi.1 1) (xi.2.1 1) 0 (xi.2.2 1)) k) (ti_pr (ti_ps (ti_gr (xi.1 1) (xi.2.1 1) 0 (xi.2.2 1)) k) (ti_st (ti_gr (xi.1 1) (xi.2.1 1) 0 (xi.2.2 1))))) := hD
        refine W.eq (g2 := F0 m 38 ls []) rfl ?_
        refine lv_aload_n hx hb dX0_powers_38 rfl (lv_at hl 0 rfl) ?_
        refine va_get (v := .ref (ad 18)) hx hb hts in_X0 hown hK hP 0 rfl rfl 6 (by decide) (hts _ q243) (fun _ h => h) rfl dX0_powers_39 ?_
        refine lv_aload_n hx hb dX0_powers_42 rfl (lv_at hl 0 rfl) ?_
        refine va_get (v := .ref (ad 20)) hx hb hts in_X0 hown hK hP 0 rfl rfl 7 (by decide) (hts _ q244) (fun _ h => h) rfl dX0_powers_43 ?_
        refine ti_mV (As := [.ref (ad 20)]) (rest := []) S hE hP hD hS hA [10, 11, 12, 13] rfl (met_X4_takes l D E (ad 18) (ad 19) (ti_ps (ti_gr (xi.1 1) (xi.2.1 1) 0 (xi.2.2 1)) k) (ad 20) (ad 21) (ti_pr (ti_ps (ti_gr (xi.1 1) (xi.2.1 1) 0 (xi.2.2 1)) k) (ti_st (ti_gr (xi.1 1) (xi.2.1 1) 0 (xi.2.2 1))))) rfl (fun _ => rfl) (lw_V q800 q801 q802 q70 q803) 1 rfl 10 rfl rfl (by decide +kernel) ⟨Nat.le_of_ble_eq_true rfl, Nat.le_of_ble_eq_true rfl⟩ hl.1 rfl (Nat.le_of_ble_eq_true rfl) ⟨Nat.le_refl _, Nat.le_refl _⟩ dX0_powers_46 (fun _ H locs hu hP hD hS => ?_)
        have hP : va_P D vwCl (ti_wMJOPN E ad dh du dv jh ju jv kh ku kv tx hi xi (ti_st (ti_gr (xi.1 1) (xi.2.1 1) 0 (xi.2.2 1))) (ti_pr (ti_ps (ti_gr (xi.1 1) (xi.2.1 1) 0 (xi.2.2 1)) k) (ti_st (ti_gr (xi.1 1) (xi.2.1 1) 0 (xi.2.2 1)))) (ti_pr (ti_ps (ti_gr (xi.1 1) (xi.2.1 1) 0 (xi.2.2 1)) k) (ti_st (ti_gr (xi.1 1) (xi.2.1 1) 0 (xi.2.2 1))))) H := hP
        have hD : va_D A (ti_wMJOPN E ad dh du dv jh ju jv kh ku kv tx hi xi (ti_st (ti_gr (xi.1 1) (xi.2.1 1) 0 (xi.2.2 1))) (ti_pr (ti_ps (ti_gr (xi.1 1) (xi.2.1 1) 0 (xi.2.2 1)) k) (ti_st (ti_gr (xi.1 1) (xi.2.1 1) 0 (xi.2.2 1)))) (ti_pr (ti_ps (ti_gr (xi.1 1) (xi.2.1 1) 0 (xi.2.2 1)) k) (ti_st (ti_gr (xi.1 1) (xi.2.1 1) 0 (xi.2.2 1))))) := hD
        refine W.eq (g2 := F0 m 49 ls []) rfl ?_
        refine lv_iinc (v := nI (k + 1)) (lv' := [(3, .int (nI (k + 1))), (0, .ref (ad 0)), (1, .ref (jh 1)), (2, .int (nI n9))]) hx hb dX0_powers_49 hl (k := 3) rfl (nI_1 k) (by decide) rfl (fun ls hl => ?_)
        refine lv_goto (tgt := 18) hx hb dX0_powers_52 (by decide) ?_
        exact ih18 (k + 1) (ti_pr (ti_ps (ti_gr (xi.1 1) (xi.2.1 1) 0 (xi.2.2 1)) k) (ti_st (ti_gr (xi.1 1) (xi.2.1 1) 0 (xi.2.2 1)))) _ _ _ hP hD hS (by omega) (by omega) (ti_pr_le _ _) (lv_sub hl [1, 2, 3, 0] rfl)
  exact L18 _ 0 xn _ _ _ hP hD hS (Nat.lt_succ_self _) (by omega) (hxn) (lv_sub hl [1, 2, 3, 0] rfl)

set_option maxHeartbeats 1000000 in
theorem met_X0_height (l : Launch) (D : va_G) (E : Nat → ClassId) (ad dh du dv jh ju jv kh ku kv : Nat → Nat) (tx : Nat) (hi : Bool) (xi : ti_Ti) (xo : Nat → Nat) (xq : Nat → Nat) (xp : Nat → Nat) (xn : Nat → Nat) (hxi : ti_Jok xi) (I : Nat → ti_GL) (hJ : ti_JI xi I) (hxo : ∀ k, xo k ≤ 9999) (hxq : ∀ k, xq k ≤ 9999) (hxp : ∀ k, xp k ≤ 9999) (hxn : ∀ k, xn k ≤ 9999) (v w a : Int32) : ti_MetM (σ := (Nat → Nat) × (Nat → Nat) × (Nat → Nat) × (Nat → Nat)) l D E yX0_height cX0_height 4 (some .int) 4 0 0 (ti_wMJOTPN E ad dh du dv jh ju jv kh ku kv tx hi xi xo xq xp xn) [.ref (ad 0), .int v, .int w, .int a] (fun u => ti_wMJOTPN E ad dh du dv jh ju jv kh ku kv tx hi xi u.1 u.2.1 u.2.2.1 u.2.2.2) (fun u => some (.int ((fun _ => ti_Sheight I v w a) u))) (fun u => (∀ k, u.1 k ≤ 9999) ∧ (∀ k, u.2.1 k ≤ 9999) ∧ (∀ k, u.2.2.1 k ≤ 9999) ∧ ∀ k, u.2.2.2 k ≤ 9999) := by
  refine ti_mutI (σ := (Nat → Nat) × (Nat → Nat) × (Nat → Nat) × (Nat → Nat)) (vi := fun _ => ti_Sheight I v w a) (by decide) (Nat.le_of_ble_eq_true rfl) ?_
  intro p e s m below meth c H H0 A Q ls S hE hP hD hS hA hinit hl hret
  have hx := S.1
  have hb := S.2.1
  have hown := S.2.2.2.1
  have hts := S.2.2.2.2
  have hK := hE.1
  have hl : lv_has ls 4 [(0, .ref (ad 0)), (1, .int v), (2, .int w), (3, .int a)] := hl
  refine lv_iload_n hx hb dX0_height_0 rfl (lv_at hl 1 rfl) ?_
  refine ti_pS (As := [.int v]) (rest := []) (v := .int (ti_b (ti_bt v))) S hE hP [] (met_X0_isIdeal l D E v) rfl (lw_S q299 q300 q66 q301) 1 rfl (by decide +kernel) ⟨Nat.le_of_ble_eq_true rfl, Nat.le_of_ble_eq_true rfl⟩ hl.1 rfl (Nat.le_of_ble_eq_true rfl) ⟨Nat.le_refl _, Nat.le_refl _⟩ dX0_height_1 ?_
  refine tb_eq (tgt := 27) hx hb dX0_height_4 (by decide) (fun c4 => ?_) (fun c4 => ?_)
  · skip
    refine lv_iconst (v := (-1)) hx hb dX0_height_27 (by decide) ?_
    exact hret (xo, xq, xp, xn) _ _ _ _ _ _ _ dX0_height_28 (by rw [ti_Sheight, if_pos (by rw [c4]; rfl)]) (⟨hxo, hxq, hxp, hxn⟩) hP hS (Nat.le_refl _) (Nat.le_refl _)
  · skip
    obtain ⟨i, hi2, rfl⟩ := ti_bt_nat c4
    refine lv_iload_n hx hb dX0_height_7 rfl (lv_at hl 2 rfl) ?_
    refine lv_iconst (v := nI 0) hx hb dX0_height_8 (by decide) ?_
    refine lv_iconst (v := nI 2) hx hb dX0_height_9 (by decide) ?_
    refine ti_pS (As := [.int w, .int (nI 0), .int (nI 2)]) (rest := []) (v := .int (ti_b (ti_in w (nI 0) (nI 2)))) S hE hP [] (met_X0_in l D E w (nI 0) (nI 2)) rfl (lw_S q302 q303 q66 q304) 3 rfl (by decide +kernel) ⟨Nat.le_of_ble_eq_true rfl, Nat.le_of_ble_eq_true rfl⟩ hl.1 rfl (Nat.le_of_ble_eq_true rfl) ⟨Nat.le_refl _, Nat.le_refl _⟩ dX0_height_10 ?_
    refine tb_ne (tgt := 29) hx hb dX0_height_13 (by decide) (fun c13 => ?_) (fun c13 => ?_)
    · skip
      refine lv_iload_n hx hb dX0_height_29 rfl (lv_at hl 3 rfl) ?_
      refine lv_iconst (v := nI 0) hx hb dX0_height_30 (by decide) ?_
      refine lv_bipush (v := nI 60) hx hb dX0_height_31 (by decide) ?_
      refine ti_pS (As := [.int a, .int (nI 0), .int (nI 60)]) (rest := []) (v := .int (ti_b (ti_in a (nI 0) (nI 60)))) S hE hP [] (met_X0_in l D E a (nI 0) (nI 60)) rfl (lw_S q302 q303 q66 q304) 3 rfl (by decide +kernel) ⟨Nat.le_of_ble_eq_true rfl, Nat.le_of_ble_eq_true rfl⟩ hl.1 rfl (Nat.le_of_ble_eq_true rfl) ⟨Nat.le_refl _, Nat.le_refl _⟩ dX0_height_33 ?_
      refine tb_ne (tgt := 42) hx hb dX0_height_36 (by decide) (fun c36 => ?_) (fun c36 => ?_)
      · skip
        obtain ⟨a9, -, ha9, rfl⟩ := ti_in_nat (by decide) (by decide) c36
        have hca : ti_cl (nI a9) = a9 := ti_cl_nI (by omega)
        rcases (show i = 0 ∨ i = 1 by omega) with rfl | rfl
        · skip
          have hg := hJ 0 (by decide)
          have hlen := ti_JI_len hJ (show 0 < 2 by decide)
          have h6 := hxi.2.2 0
          have hci : ti_cl (nI 0) = 0 := ti_cl_nI (by decide)
          refine lv_iload_n hx hb dX0_height_42 rfl (lv_at hl 2 rfl) ?_
          by_cases sw43_0 : w = 0
          · subst sw43_0
            refine lv_tableIn (off := 25) (tgt := 68) hx hb dX0_height_43 (by decide) (by decide) rfl (by decide) ?_
            refine lv_aload_n hx hb dX0_height_68 rfl (lv_at hl 0 rfl) ?_
            refine va_get (v := .ref (ad 18)) hx hb hts in_X0 hown hK hP 0 rfl rfl 6 (by decide) (hts _ q243) (fun _ h => h) rfl dX0_height_69 ?_
            refine lv_aload_n hx hb dX0_height_72 rfl (lv_at hl 0 rfl) ?_
            refine va_get (v := .ref (ad 1)) hx hb hts in_X0 hown hK hP 0 rfl rfl 0 (by decide) (hts _ q237) (fun _ h => h) rfl dX0_height_73 ?_
            refine lv_iload_n hx hb dX0_height_76 rfl (lv_at hl 1 rfl) ?_
            refine tn_aald hx hb hK hP 1 5 rfl rfl (by omega) (by decide) dX0_height_77 ?_
            refine ti_mV (As := [.ref (jh 0)]) (rest := []) S hE hP hD hS hA [12, 13, 2, 3, 4] rfl (met_X4_of l D E (ad 18) (ad 19) xp (jh 0) (ju 0) (jv 0) (xi.1 0) (xi.2.1 0) (xi.2.2 0) (hxi.2.2 0) (hxi.1 0) (hxi.2.1 0)) rfl (fun _ => rfl) (lw_V q774 q775 q776 q70 q777) 1 rfl 12 rfl rfl (by decide +kernel) ⟨Nat.le_of_ble_eq_true rfl, Nat.le_of_ble_eq_true rfl⟩ hl.1 rfl (Nat.le_of_ble_eq_true rfl) ⟨Nat.le_refl _, Nat.le_refl _⟩ dX0_height_78 (fun _ H locs hu hP hD hS => ?_)
            have hP : va_P D vwCl (ti_wMJOTPN E ad dh du dv jh ju jv kh ku kv tx hi xi xo xq (ti_st (ti_gr (xi.1 0) (xi.2.1 0) 0 (xi.2.2 0))) xn) H := hP
            have hD : va_D A (ti_wMJOTPN E ad dh du dv jh ju jv kh ku kv tx hi xi xo xq (ti_st (ti_gr (xi.1 0) (xi.2.1 0) 0 (xi.2.2 0))) xn) := hD
            refine W.eq (g2 := F0 m 81 ls [.ref (ad 18)]) rfl ?_
            refine lv_pop hx hb dX0_height_81 rfl ?_
            refine lv_goto (tgt := 171) hx hb dX0_height_82 (by decide) ?_
            refine lv_aload_n hx hb dX0_height_171 rfl (lv_at hl 0 rfl) ?_
            refine va_get (v := .ref (ad 18)) hx hb hts in_X0 hown hK hP 0 rfl rfl 6 (by decide) (hts _ q243) (fun _ h => h) rfl dX0_height_172 ?_
            refine va_getN (v := .ref (ad 19)) hx hb hts in_X4 hown hK hP 12 rfl rfl 0 (by decide) (hE.use q197 rfl rfl) (fun _ h => h) rfl dX0_height_175 ?_
            refine lv_iload_n hx hb dX0_height_178 rfl (lv_at hl 3 rfl) ?_
            refine tn_iald (f := ti_st (ti_gr (xi.1 0) (xi.2.1 0) 0 (xi.2.2 0))) hx hb hK hP 13 0 rfl rfl (by omega) (by decide) dX0_height_179 ?_
            have b179 := (ti_st_le (ti_gr (xi.1 0) (xi.2.1 0) 0 (xi.2.2 0))) a9
            refine lv_sipush (v := nI 9999) hx hb dX0_height_180 (by decide) ?_
            refine tn_lt (tgt := 191) hx hb dX0_height_183 (by decide) (by omega) (by omega) (fun c183 => ?_) (fun c183 => ?_)
            · skip
              refine lv_aload_n hx hb dX0_height_191 rfl (lv_at hl 0 rfl) ?_
              refine va_get (v := .ref (ad 18)) hx hb hts in_X0 hown hK hP 0 rfl rfl 6 (by decide) (hts _ q243) (fun _ h => h) rfl dX0_height_192 ?_
              refine va_getN (v := .ref (ad 19)) hx hb hts in_X4 hown hK hP 12 rfl rfl 0 (by decide) (hE.use q197 rfl rfl) (fun _ h => h) rfl dX0_height_195 ?_
              refine lv_iload_n hx hb dX0_height_198 rfl (lv_at hl 3 rfl) ?_
              refine tn_iald (f := ti_st (ti_gr (xi.1 0) (xi.2.1 0) 0 (xi.2.2 0))) hx hb hK hP 13 0 rfl rfl (by omega) (by decide) dX0_height_199 ?_
              have b199 := (ti_st_le (ti_gr (xi.1 0) (xi.2.1 0) 0 (xi.2.2 0))) a9
              exact hret ((xo, xq, ti_st (ti_gr (xi.1 0) (xi.2.1 0) 0 (xi.2.2 0)), xn)) _ _ _ _ _ _ _ dX0_height_200 (by refine Eq.symm ?_; rw [ti_Sheight, if_neg (by rw [c4, c13]; simp), if_neg (by rw [c36]; decide), hci, hca, if_pos rfl, ← show (ti_gr (xi.1 0) (xi.2.1 0) 0 (xi.2.2 0)) = I 0 from hJ 0 (by decide), ti_hx_eq (ti_alk_st _) (ti_pn_le _ _) (ti_gap_st (ti_gr_9 (hxi.1 0) (hxi.2.1 0) 0 _)) (by decide) (by omega), if_neg (by omega)]) (⟨hxo, hxq, (ti_st_le (ti_gr (xi.1 0) (xi.2.1 0) 0 (xi.2.2 0))), hxn⟩) hP hS (Nat.le_refl _) (Nat.le_refl _)
            · skip
              refine lv_bipush (v := (-5)) hx hb dX0_height_186 (by decide) ?_
              refine lv_goto (tgt := 200) hx hb dX0_height_188 (by decide) ?_
              exact hret ((xo, xq, ti_st (ti_gr (xi.1 0) (xi.2.1 0) 0 (xi.2.2 0)), xn)) _ _ _ _ _ _ _ dX0_height_200 (by refine Eq.symm ?_; rw [ti_Sheight, if_neg (by rw [c4, c13]; simp), if_neg (by rw [c36]; decide), hci, hca, if_pos rfl, ← show (ti_gr (xi.1 0) (xi.2.1 0) 0 (xi.2.2 0)) = I 0 from hJ 0 (by decide), ti_hx_eq (ti_alk_st _) (ti_pn_le _ _) (ti_gap_st (ti_gr_9 (hxi.1 0) (hxi.2.1 0) 0 _)) (by decide) (by omega), if_pos (by omega)]) (⟨hxo, hxq, (ti_st_le (ti_gr (xi.1 0) (xi.2.1 0) 0 (xi.2.2 0))), hxn⟩) hP hS (Nat.le_refl _) (Nat.le_refl _)
          · skip
            by_cases sw43_1 : w = 1
            · subst sw43_1
              refine lv_tableIn (off := 42) (tgt := 85) hx hb dX0_height_43 (by decide) (by decide) rfl (by decide) ?_
              refine lv_aload_n hx hb dX0_height_85 rfl (lv_at hl 0 rfl) ?_
              refine va_get (v := .ref (ad 18)) hx hb hts in_X0 hown hK hP 0 rfl rfl 6 (by decide) (hts _ q243) (fun _ h => h) rfl dX0_height_86 ?_
              refine lv_aload_n hx hb dX0_height_89 rfl (lv_at hl 0 rfl) ?_
              refine va_get (v := .ref (ad 14)) hx hb hts in_X0 hown hK hP 0 rfl rfl 4 (by decide) (hts _ q241) (fun _ h => h) rfl dX0_height_90 ?_
              refine lv_aload_n hx hb dX0_height_93 rfl (lv_at hl 0 rfl) ?_
              refine va_get (v := .ref (ad 1)) hx hb hts in_X0 hown hK hP 0 rfl rfl 0 (by decide) (hts _ q237) (fun _ h => h) rfl dX0_height_94 ?_
              refine lv_iconst (v := nI 0) hx hb dX0_height_97 (by decide) ?_
              refine tn_aald hx hb hK hP 1 5 rfl rfl (by omega) (by decide) dX0_height_98 ?_
              refine ti_mV (As := [.ref (jh 0)]) (rest := [.ref (ad 18)]) S hE hP hD hS hA [8, 9, 2, 3, 4] rfl (met_X4_of l D E (ad 14) (ad 15) xo (jh 0) (ju 0) (jv 0) (xi.1 0) (xi.2.1 0) (xi.2.2 0) (hxi.2.2 0) (hxi.1 0) (hxi.2.1 0)) rfl (fun _ => rfl) (lw_V q774 q775 q776 q70 q777) 1 rfl 8 rfl rfl (by decide +kernel) ⟨Nat.le_of_ble_eq_true rfl, Nat.le_of_ble_eq_true rfl⟩ hl.1 rfl (Nat.le_of_ble_eq_true rfl) ⟨Nat.le_refl _, Nat.le_refl _⟩ dX0_height_99 (fun _ H locs hu hP hD hS => ?_)
              have hP : va_P D vwCl (ti_wMJOTPN E ad dh du dv jh ju jv kh ku kv tx hi xi (ti_st (ti_gr (xi.1 0) (xi.2.1 0) 0 (xi.2.2 0))) xq xp xn) H := hP
              have hD : va_D A (ti_wMJOTPN E ad dh du dv jh ju jv kh ku kv tx hi xi (ti_st (ti_gr (xi.1 0) (xi.2.1 0) 0 (xi.2.2 0))) xq xp xn) := hD
              refine W.eq (g2 := F0 m 102 ls [.ref (ad 14), .ref (ad 18)]) rfl ?_
              refine lv_aload_n hx hb dX0_height_102 rfl (lv_at hl 0 rfl) ?_
              refine va_get (v := .ref (ad 16)) hx hb hts in_X0 hown hK hP 0 rfl rfl 5 (by decide) (hts _ q242) (fun _ h => h) rfl dX0_height_103 ?_
              refine lv_aload_n hx hb dX0_height_106 rfl (lv_at hl 0 rfl) ?_
              refine va_get (v := .ref (ad 1)) hx hb hts in_X0 hown hK hP 0 rfl rfl 0 (by decide) (hts _ q237) (fun _ h => h) rfl dX0_height_107 ?_
              refine lv_iconst (v := nI 1) hx hb dX0_height_110 (by decide) ?_
              refine tn_aald hx hb hK hP 1 5 rfl rfl (by omega) (by decide) dX0_height_111 ?_
              refine ti_mV (As := [.ref (jh 1)]) (rest := [.ref (ad 14), .ref (ad 18)]) S hE hP hD hS hA [10, 11, 5, 6, 7] rfl (met_X4_of l D E (ad 16) (ad 17) xq (jh 1) (ju 1) (jv 1) (xi.1 1) (xi.2.1 1) (xi.2.2 1) (hxi.2.2 1) (hxi.1 1) (hxi.2.1 1)) rfl (fun _ => rfl) (lw_V q774 q775 q776 q70 q777) 1 rfl 10 rfl rfl (by decide +kernel) ⟨Nat.le_of_ble_eq_true rfl, Nat.le_of_ble_eq_true rfl⟩ hl.1 rfl (Nat.le_of_ble_eq_true rfl) ⟨Nat.le_refl _, Nat.le_refl _⟩ dX0_height_112 (fun _ H locs hu hP hD hS => ?_)
              have hP : va_P D vwCl (ti_wMJOTPN E ad dh du dv jh ju jv kh ku kv tx hi xi (ti_st (ti_gr (xi.1 0) (xi.2.1 0) 0 (xi.2.2 0))) (ti_st (ti_gr (xi.1 1) (xi.2.1 1) 0 (xi.2.2 1))) xp xn) H := hP
              have hD : va_D A (ti_wMJOTPN E ad dh du dv jh ju jv kh ku kv tx hi xi (ti_st (ti_gr (xi.1 0) (xi.2.1 0) 0 (xi.2.2 0))) (ti_st (ti_gr (xi.1 1) (xi.2.1 1) 0 (xi.2.2 1))) xp xn) := hD
              refine W.eq (g2 := F0 m 115 ls [.ref (ad 16), .ref (ad 14), .ref (ad 18)]) rfl ?_
              refine ti_mV (As := [.ref (ad 14), .ref (ad 16)]) (rest := []) S hE hP hD hS hA [12, 13, 8, 9, 10, 11] rfl (met_X4_sum l D E (ad 18) (ad 19) xp (ad 14) (ad 15) (ti_st (ti_gr (xi.1 0) (xi.2.1 0) 0 (xi.2.2 0))) (ad 16) (ad 17) (ti_st (ti_gr (xi.1 1) (xi.2.1 1) 0 (xi.2.2 1))) (ti_st_le (ti_gr (xi.1 0) (xi.2.1 0) 0 (xi.2.2 0))) (ti_st_le (ti_gr (xi.1 1) (xi.2.1 1) 0 (xi.2.2 1)))) rfl (fun _ => rfl) (lw_V q783 q784 q785 q70 q786) 2 rfl 12 rfl rfl (by decide +kernel) ⟨Nat.le_of_ble_eq_true rfl, Nat.le_of_ble_eq_true rfl⟩ hl.1 rfl (Nat.le_of_ble_eq_true rfl) ⟨Nat.le_refl _, Nat.le_refl _⟩ dX0_height_115 (fun _ H locs hu hP hD hS => ?_)
              have hP : va_P D vwCl (ti_wMJOTPN E ad dh du dv jh ju jv kh ku kv tx hi xi (ti_st (ti_gr (xi.1 0) (xi.2.1 0) 0 (xi.2.2 0))) (ti_st (ti_gr (xi.1 1) (xi.2.1 1) 0 (xi.2.2 1))) (fun j => min ((ti_st (ti_gr (xi.1 0) (xi.2.1 0) 0 (xi.2.2 0))) j) ((ti_st (ti_gr (xi.1 1) (xi.2.1 1) 0 (xi.2.2 1))) j)) xn) H := hP
              have hD : va_D A (ti_wMJOTPN E ad dh du dv jh ju jv kh ku kv tx hi xi (ti_st (ti_gr (xi.1 0) (xi.2.1 0) 0 (xi.2.2 0))) (ti_st (ti_gr (xi.1 1) (xi.2.1 1) 0 (xi.2.2 1))) (fun j => min ((ti_st (ti_gr (xi.1 0) (xi.2.1 0) 0 (xi.2.2 0))) j) ((ti_st (ti_gr (xi.1 1) (xi.2.1 1) 0 (xi.2.2 1))) j)) xn) := hD
              refine W.eq (g2 := F0 m 118 ls []) rfl ?_
              refine lv_goto (tgt := 171) hx hb dX0_height_118 (by decide) ?_
              refine lv_aload_n hx hb dX0_height_171 rfl (lv_at hl 0 rfl) ?_
              refine va_get (v := .ref (ad 18)) hx hb hts in_X0 hown hK hP 0 rfl rfl 6 (by decide) (hts _ q243) (fun _ h => h) rfl dX0_height_172 ?_
              refine va_getN (v := .ref (ad 19)) hx hb hts in_X4 hown hK hP 12 rfl rfl 0 (by decide) (hE.use q197 rfl rfl) (fun _ h => h) rfl dX0_height_175 ?_
              refine lv_iload_n hx hb dX0_height_178 rfl (lv_at hl 3 rfl) ?_
              refine tn_iald (f := fun j => min ((ti_st (ti_gr (xi.1 0) (xi.2.1 0) 0 (xi.2.2 0))) j) ((ti_st (ti_gr (xi.1 1) (xi.2.1 1) 0 (xi.2.2 1))) j)) hx hb hK hP 13 0 rfl rfl (by omega) (by decide) dX0_height_179 ?_
              have b179 := (fun j => Nat.le_trans (Nat.min_le_left ((ti_st (ti_gr (xi.1 0) (xi.2.1 0) 0 (xi.2.2 0))) j) ((ti_st (ti_gr (xi.1 1) (xi.2.1 1) 0 (xi.2.2 1))) j)) ((ti_st_le (ti_gr (xi.1 0) (xi.2.1 0) 0 (xi.2.2 0))) j)) a9
              refine lv_sipush (v := nI 9999) hx hb dX0_height_180 (by decide) ?_
              refine tn_lt (tgt := 191) hx hb dX0_height_183 (by decide) (by omega) (by omega) (fun c183 => ?_) (fun c183 => ?_)
              · skip
                refine lv_aload_n hx hb dX0_height_191 rfl (lv_at hl 0 rfl) ?_
                refine va_get (v := .ref (ad 18)) hx hb hts in_X0 hown hK hP 0 rfl rfl 6 (by decide) (hts _ q243) (fun _ h => h) rfl dX0_height_192 ?_
                refine va_getN (v := .ref (ad 19)) hx hb hts in_X4 hown hK hP 12 rfl rfl 0 (by decide) (hE.use q197 rfl rfl) (fun _ h => h) rfl dX0_height_195 ?_
                refine lv_iload_n hx hb dX0_height_198 rfl (lv_at hl 3 rfl) ?_
                refine tn_iald (f := fun j => min ((ti_st (ti_gr (xi.1 0) (xi.2.1 0) 0 (xi.2.2 0))) j) ((ti_st (ti_gr (xi.1 1) (xi.2.1 1) 0 (xi.2.2 1))) j)) hx hb hK hP 13 0 rfl rfl (by omega) (by decide) dX0_height_199 ?_
                have b199 := (fun j => Nat.le_trans (Nat.min_le_left ((ti_st (ti_gr (xi.1 0) (xi.2.1 0) 0 (xi.2.2 0))) j) ((ti_st (ti_gr (xi.1 1) (xi.2.1 1) 0 (xi.2.2 1))) j)) ((ti_st_le (ti_gr (xi.1 0) (xi.2.1 0) 0 (xi.2.2 0))) j)) a9
                exact hret ((ti_st (ti_gr (xi.1 0) (xi.2.1 0) 0 (xi.2.2 0)), ti_st (ti_gr (xi.1 1) (xi.2.1 1) 0 (xi.2.2 1)), fun j => min ((ti_st (ti_gr (xi.1 0) (xi.2.1 0) 0 (xi.2.2 0))) j) ((ti_st (ti_gr (xi.1 1) (xi.2.1 1) 0 (xi.2.2 1))) j), xn)) _ _ _ _ _ _ _ dX0_height_200 (by refine Eq.symm ?_; rw [ti_Sheight, if_neg (by rw [c4, c13]; simp), if_neg (by rw [c36]; decide), hci, hca, if_neg (by decide), if_pos rfl, ← show (ti_gr (xi.1 0) (xi.2.1 0) 0 (xi.2.2 0)) = I 0 from hJ 0 (by decide), ← show (ti_gr (xi.1 1) (xi.2.1 1) 0 (xi.2.2 1)) = I 1 from hJ 1 (by decide), ti_sh2_eq (ti_alk_st _) (ti_pn_le _ _) (ti_gap_st (ti_gr_9 (hxi.1 0) (hxi.2.1 0) 0 _)) (ti_alk_st _) (ti_pn_le _ _) (ti_gap_st (ti_gr_9 (hxi.1 1) (hxi.2.1 1) 0 _)) (by decide) (by omega), if_neg (by omega)]) (⟨(ti_st_le (ti_gr (xi.1 0) (xi.2.1 0) 0 (xi.2.2 0))), (ti_st_le (ti_gr (xi.1 1) (xi.2.1 1) 0 (xi.2.2 1))), (fun j => Nat.le_trans (Nat.min_le_left ((ti_st (ti_gr (xi.1 0) (xi.2.1 0) 0 (xi.2.2 0))) j) ((ti_st (ti_gr (xi.1 1) (xi.2.1 1) 0 (xi.2.2 1))) j)) ((ti_st_le (ti_gr (xi.1 0) (xi.2.1 0) 0 (xi.2.2 0))) j)), hxn⟩) hP hS (Nat.le_refl _) (Nat.le_refl _)
              · skip
                refine lv_bipush (v := (-5)) hx hb dX0_height_186 (by decide) ?_
                refine lv_goto (tgt := 200) hx hb dX0_height_188 (by decide) ?_
                exact hret ((ti_st (ti_gr (xi.1 0) (xi.2.1 0) 0 (xi.2.2 0)), ti_st (ti_gr (xi.1 1) (xi.2.1 1) 0 (xi.2.2 1)), fun j => min ((ti_st (ti_gr (xi.1 0) (xi.2.1 0) 0 (xi.2.2 0))) j) ((ti_st (ti_gr (xi.1 1) (xi.2.1 1) 0 (xi.2.2 1))) j), xn)) _ _ _ _ _ _ _ dX0_height_200 (by refine Eq.symm ?_; rw [ti_Sheight, if_neg (by rw [c4, c13]; simp), if_neg (by rw [c36]; decide), hci, hca, if_neg (by decide), if_pos rfl, ← show (ti_gr (xi.1 0) (xi.2.1 0) 0 (xi.2.2 0)) = I 0 from hJ 0 (by decide), ← show (ti_gr (xi.1 1) (xi.2.1 1) 0 (xi.2.2 1)) = I 1 from hJ 1 (by decide), ti_sh2_eq (ti_alk_st _) (ti_pn_le _ _) (ti_gap_st (ti_gr_9 (hxi.1 0) (hxi.2.1 0) 0 _)) (ti_alk_st _) (ti_pn_le _ _) (ti_gap_st (ti_gr_9 (hxi.1 1) (hxi.2.1 1) 0 _)) (by decide) (by omega), if_pos (by omega)]) (⟨(ti_st_le (ti_gr (xi.1 0) (xi.2.1 0) 0 (xi.2.2 0))), (ti_st_le (ti_gr (xi.1 1) (xi.2.1 1) 0 (xi.2.2 1))), (fun j => Nat.le_trans (Nat.min_le_left ((ti_st (ti_gr (xi.1 0) (xi.2.1 0) 0 (xi.2.2 0))) j) ((ti_st (ti_gr (xi.1 1) (xi.2.1 1) 0 (xi.2.2 1))) j)) ((ti_st_le (ti_gr (xi.1 0) (xi.2.1 0) 0 (xi.2.2 0))) j)), hxn⟩) hP hS (Nat.le_refl _) (Nat.le_refl _)
            · skip
              by_cases sw43_2 : w = 2
              · subst sw43_2
                refine lv_tableIn (off := 78) (tgt := 121) hx hb dX0_height_43 (by decide) (by decide) rfl (by decide) ?_
                refine lv_aload_n hx hb dX0_height_121 rfl (lv_at hl 0 rfl) ?_
                refine va_get (v := .ref (ad 18)) hx hb hts in_X0 hown hK hP 0 rfl rfl 6 (by decide) (hts _ q243) (fun _ h => h) rfl dX0_height_122 ?_
                refine lv_aload_n hx hb dX0_height_125 rfl (lv_at hl 0 rfl) ?_
                refine va_get (v := .ref (ad 14)) hx hb hts in_X0 hown hK hP 0 rfl rfl 4 (by decide) (hts _ q241) (fun _ h => h) rfl dX0_height_126 ?_
                refine lv_aload_n hx hb dX0_height_129 rfl (lv_at hl 0 rfl) ?_
                refine va_get (v := .ref (ad 1)) hx hb hts in_X0 hown hK hP 0 rfl rfl 0 (by decide) (hts _ q237) (fun _ h => h) rfl dX0_height_130 ?_
                refine lv_iconst (v := nI 0) hx hb dX0_height_133 (by decide) ?_
                refine tn_aald hx hb hK hP 1 5 rfl rfl (by omega) (by decide) dX0_height_134 ?_
                refine ti_mV (As := [.ref (jh 0)]) (rest := [.ref (ad 18)]) S hE hP hD hS hA [8, 9, 2, 3, 4] rfl (met_X4_of l D E (ad 14) (ad 15) xo (jh 0) (ju 0) (jv 0) (xi.1 0) (xi.2.1 0) (xi.2.2 0) (hxi.2.2 0) (hxi.1 0) (hxi.2.1 0)) rfl (fun _ => rfl) (lw_V q774 q775 q776 q70 q777) 1 rfl 8 rfl rfl (by decide +kernel) ⟨Nat.le_of_ble_eq_true rfl, Nat.le_of_ble_eq_true rfl⟩ hl.1 rfl (Nat.le_of_ble_eq_true rfl) ⟨Nat.le_refl _, Nat.le_refl _⟩ dX0_height_135 (fun _ H locs hu hP hD hS => ?_)
                have hP : va_P D vwCl (ti_wMJOTPN E ad dh du dv jh ju jv kh ku kv tx hi xi (ti_st (ti_gr (xi.1 0) (xi.2.1 0) 0 (xi.2.2 0))) xq xp xn) H := hP
                have hD : va_D A (ti_wMJOTPN E ad dh du dv jh ju jv kh ku kv tx hi xi (ti_st (ti_gr (xi.1 0) (xi.2.1 0) 0 (xi.2.2 0))) xq xp xn) := hD
                refine W.eq (g2 := F0 m 138 ls [.ref (ad 14), .ref (ad 18)]) rfl ?_
                refine lv_aload_n hx hb dX0_height_138 rfl (lv_at hl 0 rfl) ?_
                refine va_get (v := .ref (ad 16)) hx hb hts in_X0 hown hK hP 0 rfl rfl 5 (by decide) (hts _ q242) (fun _ h => h) rfl dX0_height_139 ?_
                refine lv_aload_n hx hb dX0_height_142 rfl (lv_at hl 0 rfl) ?_
                refine va_get (v := .ref (ad 1)) hx hb hts in_X0 hown hK hP 0 rfl rfl 0 (by decide) (hts _ q237) (fun _ h => h) rfl dX0_height_143 ?_
                refine lv_iconst (v := nI 1) hx hb dX0_height_146 (by decide) ?_
                refine tn_aald hx hb hK hP 1 5 rfl rfl (by omega) (by decide) dX0_height_147 ?_
                refine ti_mV (As := [.ref (jh 1)]) (rest := [.ref (ad 14), .ref (ad 18)]) S hE hP hD hS hA [10, 11, 5, 6, 7] rfl (met_X4_of l D E (ad 16) (ad 17) xq (jh 1) (ju 1) (jv 1) (xi.1 1) (xi.2.1 1) (xi.2.2 1) (hxi.2.2 1) (hxi.1 1) (hxi.2.1 1)) rfl (fun _ => rfl) (lw_V q774 q775 q776 q70 q777) 1 rfl 10 rfl rfl (by decide +kernel) ⟨Nat.le_of_ble_eq_true rfl, Nat.le_of_ble_eq_true rfl⟩ hl.1 rfl (Nat.le_of_ble_eq_true rfl) ⟨Nat.le_refl _, Nat.le_refl _⟩ dX0_height_148 (fun _ H locs hu hP hD hS => ?_)
                have hP : va_P D vwCl (ti_wMJOTPN E ad dh du dv jh ju jv kh ku kv tx hi xi (ti_st (ti_gr (xi.1 0) (xi.2.1 0) 0 (xi.2.2 0))) (ti_st (ti_gr (xi.1 1) (xi.2.1 1) 0 (xi.2.2 1))) xp xn) H := hP
                have hD : va_D A (ti_wMJOTPN E ad dh du dv jh ju jv kh ku kv tx hi xi (ti_st (ti_gr (xi.1 0) (xi.2.1 0) 0 (xi.2.2 0))) (ti_st (ti_gr (xi.1 1) (xi.2.1 1) 0 (xi.2.2 1))) xp xn) := hD
                refine W.eq (g2 := F0 m 151 ls [.ref (ad 16), .ref (ad 14), .ref (ad 18)]) rfl ?_
                refine ti_mV (As := [.ref (ad 14), .ref (ad 16)]) (rest := []) S hE hP hD hS hA [12, 13, 8, 9, 10, 11] rfl (met_X4_product l D E (ad 18) (ad 19) xp (ad 14) (ad 15) (ti_st (ti_gr (xi.1 0) (xi.2.1 0) 0 (xi.2.2 0))) (ad 16) (ad 17) (ti_st (ti_gr (xi.1 1) (xi.2.1 1) 0 (xi.2.2 1))) (ti_st_le (ti_gr (xi.1 0) (xi.2.1 0) 0 (xi.2.2 0))) (ti_st_le (ti_gr (xi.1 1) (xi.2.1 1) 0 (xi.2.2 1)))) rfl (fun _ => rfl) (lw_V q788 q789 q790 q70 q791) 2 rfl 12 rfl rfl (by decide +kernel) ⟨Nat.le_of_ble_eq_true rfl, Nat.le_of_ble_eq_true rfl⟩ hl.1 rfl (Nat.le_of_ble_eq_true rfl) ⟨Nat.le_refl _, Nat.le_refl _⟩ dX0_height_151 (fun _ H locs hu hP hD hS => ?_)
                have hP : va_P D vwCl (ti_wMJOTPN E ad dh du dv jh ju jv kh ku kv tx hi xi (ti_st (ti_gr (xi.1 0) (xi.2.1 0) 0 (xi.2.2 0))) (ti_st (ti_gr (xi.1 1) (xi.2.1 1) 0 (xi.2.2 1))) (ti_pr (ti_st (ti_gr (xi.1 0) (xi.2.1 0) 0 (xi.2.2 0))) (ti_st (ti_gr (xi.1 1) (xi.2.1 1) 0 (xi.2.2 1)))) xn) H := hP
                have hD : va_D A (ti_wMJOTPN E ad dh du dv jh ju jv kh ku kv tx hi xi (ti_st (ti_gr (xi.1 0) (xi.2.1 0) 0 (xi.2.2 0))) (ti_st (ti_gr (xi.1 1) (xi.2.1 1) 0 (xi.2.2 1))) (ti_pr (ti_st (ti_gr (xi.1 0) (xi.2.1 0) 0 (xi.2.2 0))) (ti_st (ti_gr (xi.1 1) (xi.2.1 1) 0 (xi.2.2 1)))) xn) := hD
                refine W.eq (g2 := F0 m 154 ls []) rfl ?_
                refine lv_goto (tgt := 171) hx hb dX0_height_154 (by decide) ?_
                refine lv_aload_n hx hb dX0_height_171 rfl (lv_at hl 0 rfl) ?_
                refine va_get (v := .ref (ad 18)) hx hb hts in_X0 hown hK hP 0 rfl rfl 6 (by decide) (hts _ q243) (fun _ h => h) rfl dX0_height_172 ?_
                refine va_getN (v := .ref (ad 19)) hx hb hts in_X4 hown hK hP 12 rfl rfl 0 (by decide) (hE.use q197 rfl rfl) (fun _ h => h) rfl dX0_height_175 ?_
                refine lv_iload_n hx hb dX0_height_178 rfl (lv_at hl 3 rfl) ?_
                refine tn_iald (f := ti_pr (ti_st (ti_gr (xi.1 0) (xi.2.1 0) 0 (xi.2.2 0))) (ti_st (ti_gr (xi.1 1) (xi.2.1 1) 0 (xi.2.2 1)))) hx hb hK hP 13 0 rfl rfl (by omega) (by decide) dX0_height_179 ?_
                have b179 := (ti_pr_le (ti_st (ti_gr (xi.1 0) (xi.2.1 0) 0 (xi.2.2 0))) (ti_st (ti_gr (xi.1 1) (xi.2.1 1) 0 (xi.2.2 1)))) a9
                refine lv_sipush (v := nI 9999) hx hb dX0_height_180 (by decide) ?_
                refine tn_lt (tgt := 191) hx hb dX0_height_183 (by decide) (by omega) (by omega) (fun c183 => ?_) (fun c183 => ?_)
                · skip
                  refine lv_aload_n hx hb dX0_height_191 rfl (lv_at hl 0 rfl) ?_
                  refine va_get (v := .ref (ad 18)) hx hb hts in_X0 hown hK hP 0 rfl rfl 6 (by decide) (hts _ q243) (fun _ h => h) rfl dX0_height_192 ?_
                  refine va_getN (v := .ref (ad 19)) hx hb hts in_X4 hown hK hP 12 rfl rfl 0 (by decide) (hE.use q197 rfl rfl) (fun _ h => h) rfl dX0_height_195 ?_
                  refine lv_iload_n hx hb dX0_height_198 rfl (lv_at hl 3 rfl) ?_
                  refine tn_iald (f := ti_pr (ti_st (ti_gr (xi.1 0) (xi.2.1 0) 0 (xi.2.2 0))) (ti_st (ti_gr (xi.1 1) (xi.2.1 1) 0 (xi.2.2 1)))) hx hb hK hP 13 0 rfl rfl (by omega) (by decide) dX0_height_199 ?_
                  have b199 := (ti_pr_le (ti_st (ti_gr (xi.1 0) (xi.2.1 0) 0 (xi.2.2 0))) (ti_st (ti_gr (xi.1 1) (xi.2.1 1) 0 (xi.2.2 1)))) a9
                  exact hret ((ti_st (ti_gr (xi.1 0) (xi.2.1 0) 0 (xi.2.2 0)), ti_st (ti_gr (xi.1 1) (xi.2.1 1) 0 (xi.2.2 1)), ti_pr (ti_st (ti_gr (xi.1 0) (xi.2.1 0) 0 (xi.2.2 0))) (ti_st (ti_gr (xi.1 1) (xi.2.1 1) 0 (xi.2.2 1))), xn)) _ _ _ _ _ _ _ dX0_height_200 (by refine Eq.symm ?_; rw [ti_Sheight, if_neg (by rw [c4, c13]; simp), if_neg (by rw [c36]; decide), hci, hca, if_neg (by decide), if_neg (by decide), if_pos rfl, ← show (ti_gr (xi.1 0) (xi.2.1 0) 0 (xi.2.2 0)) = I 0 from hJ 0 (by decide), ← show (ti_gr (xi.1 1) (xi.2.1 1) 0 (xi.2.2 1)) = I 1 from hJ 1 (by decide), ti_hx_eq (ti_alk_step _ (ti_alk_st _)) (ti_tm_le _ _) (ti_gap_pr (ti_gap_st (ti_gr_9 (hxi.1 0) (hxi.2.1 0) 0 _)) (ti_gap_st (ti_gr_9 (hxi.1 1) (hxi.2.1 1) 0 _))) (by decide) (by omega), if_neg (by omega)]) (⟨(ti_st_le (ti_gr (xi.1 0) (xi.2.1 0) 0 (xi.2.2 0))), (ti_st_le (ti_gr (xi.1 1) (xi.2.1 1) 0 (xi.2.2 1))), (ti_pr_le (ti_st (ti_gr (xi.1 0) (xi.2.1 0) 0 (xi.2.2 0))) (ti_st (ti_gr (xi.1 1) (xi.2.1 1) 0 (xi.2.2 1)))), hxn⟩) hP hS (Nat.le_refl _) (Nat.le_refl _)
                · skip
                  refine lv_bipush (v := (-5)) hx hb dX0_height_186 (by decide) ?_
                  refine lv_goto (tgt := 200) hx hb dX0_height_188 (by decide) ?_
                  exact hret ((ti_st (ti_gr (xi.1 0) (xi.2.1 0) 0 (xi.2.2 0)), ti_st (ti_gr (xi.1 1) (xi.2.1 1) 0 (xi.2.2 1)), ti_pr (ti_st (ti_gr (xi.1 0) (xi.2.1 0) 0 (xi.2.2 0))) (ti_st (ti_gr (xi.1 1) (xi.2.1 1) 0 (xi.2.2 1))), xn)) _ _ _ _ _ _ _ dX0_height_200 (by refine Eq.symm ?_; rw [ti_Sheight, if_neg (by rw [c4, c13]; simp), if_neg (by rw [c36]; decide), hci, hca, if_neg (by decide), if_neg (by decide), if_pos rfl, ← show (ti_gr (xi.1 0) (xi.2.1 0) 0 (xi.2.2 0)) = I 0 from hJ 0 (by decide), ← show (ti_gr (xi.1 1) (xi.2.1 1) 0 (xi.2.2 1)) = I 1 from hJ 1 (by decide), ti_hx_eq (ti_alk_step _ (ti_alk_st _)) (ti_tm_le _ _) (ti_gap_pr (ti_gap_st (ti_gr_9 (hxi.1 0) (hxi.2.1 0) 0 _)) (ti_gap_st (ti_gr_9 (hxi.1 1) (hxi.2.1 1) 0 _))) (by decide) (by omega), if_pos (by omega)]) (⟨(ti_st_le (ti_gr (xi.1 0) (xi.2.1 0) 0 (xi.2.2 0))), (ti_st_le (ti_gr (xi.1 1) (xi.2.1 1) 0 (xi.2.2 1))), (ti_pr_le (ti_st (ti_gr (xi.1 0) (xi.2.1 0) 0 (xi.2.2 0))) (ti_st (ti_gr (xi.1 1) (xi.2.1 1) 0 (xi.2.2 1)))), hxn⟩) hP hS (Nat.le_refl _) (Nat.le_refl _)
              · skip
                refine lv_tableOut (tgt := 157) hx hb dX0_height_43 (Classical.byContradiction fun z => by
                    have z1 : w.toInt = 0 ∨ w.toInt = 1 ∨ w.toInt = 2 := by omega
                    rcases z1 with z2 | z2 | z2
                    · exact sw43_0 (Int32.toInt_inj.mp z2)
                    · exact sw43_1 (Int32.toInt_inj.mp z2)
                    · exact sw43_2 (Int32.toInt_inj.mp z2)) (by decide) ?_
                exact absurd c13 (by rw [ti_out2 sw43_0 sw43_1 sw43_2]; decide)
        · skip
          have hg := hJ 1 (by decide)
          have hlen := ti_JI_len hJ (show 1 < 2 by decide)
          have h6 := hxi.2.2 1
          have hci : ti_cl (nI 1) = 1 := ti_cl_nI (by decide)
          refine lv_iload_n hx hb dX0_height_42 rfl (lv_at hl 2 rfl) ?_
          by_cases sw43_0 : w = 0
          · subst sw43_0
            refine lv_tableIn (off := 25) (tgt := 68) hx hb dX0_height_43 (by decide) (by decide) rfl (by decide) ?_
            refine lv_aload_n hx hb dX0_height_68 rfl (lv_at hl 0 rfl) ?_
            refine va_get (v := .ref (ad 18)) hx hb hts in_X0 hown hK hP 0 rfl rfl 6 (by decide) (hts _ q243) (fun _ h => h) rfl dX0_height_69 ?_
            refine lv_aload_n hx hb dX0_height_72 rfl (lv_at hl 0 rfl) ?_
            refine va_get (v := .ref (ad 1)) hx hb hts in_X0 hown hK hP 0 rfl rfl 0 (by decide) (hts _ q237) (fun _ h => h) rfl dX0_height_73 ?_
            refine lv_iload_n hx hb dX0_height_76 rfl (lv_at hl 1 rfl) ?_
            refine tn_aald hx hb hK hP 1 5 rfl rfl (by omega) (by decide) dX0_height_77 ?_
            refine ti_mV (As := [.ref (jh 1)]) (rest := []) S hE hP hD hS hA [12, 13, 5, 6, 7] rfl (met_X4_of l D E (ad 18) (ad 19) xp (jh 1) (ju 1) (jv 1) (xi.1 1) (xi.2.1 1) (xi.2.2 1) (hxi.2.2 1) (hxi.1 1) (hxi.2.1 1)) rfl (fun _ => rfl) (lw_V q774 q775 q776 q70 q777) 1 rfl 12 rfl rfl (by decide +kernel) ⟨Nat.le_of_ble_eq_true rfl, Nat.le_of_ble_eq_true rfl⟩ hl.1 rfl (Nat.le_of_ble_eq_true rfl) ⟨Nat.le_refl _, Nat.le_refl _⟩ dX0_height_78 (fun _ H locs hu hP hD hS => ?_)
            have hP : va_P D vwCl (ti_wMJOTPN E ad dh du dv jh ju jv kh ku kv tx hi xi xo xq (ti_st (ti_gr (xi.1 1) (xi.2.1 1) 0 (xi.2.2 1))) xn) H := hP
            have hD : va_D A (ti_wMJOTPN E ad dh du dv jh ju jv kh ku kv tx hi xi xo xq (ti_st (ti_gr (xi.1 1) (xi.2.1 1) 0 (xi.2.2 1))) xn) := hD
            refine W.eq (g2 := F0 m 81 ls [.ref (ad 18)]) rfl ?_
            refine lv_pop hx hb dX0_height_81 rfl ?_
            refine lv_goto (tgt := 171) hx hb dX0_height_82 (by decide) ?_
            refine lv_aload_n hx hb dX0_height_171 rfl (lv_at hl 0 rfl) ?_
            refine va_get (v := .ref (ad 18)) hx hb hts in_X0 hown hK hP 0 rfl rfl 6 (by decide) (hts _ q243) (fun _ h => h) rfl dX0_height_172 ?_
            refine va_getN (v := .ref (ad 19)) hx hb hts in_X4 hown hK hP 12 rfl rfl 0 (by decide) (hE.use q197 rfl rfl) (fun _ h => h) rfl dX0_height_175 ?_
            refine lv_iload_n hx hb dX0_height_178 rfl (lv_at hl 3 rfl) ?_
            refine tn_iald (f := ti_st (ti_gr (xi.1 1) (xi.2.1 1) 0 (xi.2.2 1))) hx hb hK hP 13 0 rfl rfl (by omega) (by decide) dX0_height_179 ?_
            have b179 := (ti_st_le (ti_gr (xi.1 1) (xi.2.1 1) 0 (xi.2.2 1))) a9
            refine lv_sipush (v := nI 9999) hx hb dX0_height_180 (by decide) ?_
            refine tn_lt (tgt := 191) hx hb dX0_height_183 (by decide) (by omega) (by omega) (fun c183 => ?_) (fun c183 => ?_)
            · skip
              refine lv_aload_n hx hb dX0_height_191 rfl (lv_at hl 0 rfl) ?_
              refine va_get (v := .ref (ad 18)) hx hb hts in_X0 hown hK hP 0 rfl rfl 6 (by decide) (hts _ q243) (fun _ h => h) rfl dX0_height_192 ?_
              refine va_getN (v := .ref (ad 19)) hx hb hts in_X4 hown hK hP 12 rfl rfl 0 (by decide) (hE.use q197 rfl rfl) (fun _ h => h) rfl dX0_height_195 ?_
              refine lv_iload_n hx hb dX0_height_198 rfl (lv_at hl 3 rfl) ?_
              refine tn_iald (f := ti_st (ti_gr (xi.1 1) (xi.2.1 1) 0 (xi.2.2 1))) hx hb hK hP 13 0 rfl rfl (by omega) (by decide) dX0_height_199 ?_
              have b199 := (ti_st_le (ti_gr (xi.1 1) (xi.2.1 1) 0 (xi.2.2 1))) a9
              exact hret ((xo, xq, ti_st (ti_gr (xi.1 1) (xi.2.1 1) 0 (xi.2.2 1)), xn)) _ _ _ _ _ _ _ dX0_height_200 (by refine Eq.symm ?_; rw [ti_Sheight, if_neg (by rw [c4, c13]; simp), if_neg (by rw [c36]; decide), hci, hca, if_pos rfl, ← show (ti_gr (xi.1 1) (xi.2.1 1) 0 (xi.2.2 1)) = I 1 from hJ 1 (by decide), ti_hx_eq (ti_alk_st _) (ti_pn_le _ _) (ti_gap_st (ti_gr_9 (hxi.1 1) (hxi.2.1 1) 0 _)) (by decide) (by omega), if_neg (by omega)]) (⟨hxo, hxq, (ti_st_le (ti_gr (xi.1 1) (xi.2.1 1) 0 (xi.2.2 1))), hxn⟩) hP hS (Nat.le_refl _) (Nat.le_refl _)
            · skip
              refine lv_bipush (v := (-5)) hx hb dX0_height_186 (by decide) ?_
              refine lv_goto (tgt := 200) hx hb dX0_height_188 (by decide) ?_
              exact hret ((xo, xq, ti_st (ti_gr (xi.1 1) (xi.2.1 1) 0 (xi.2.2 1)), xn)) _ _ _ _ _ _ _ dX0_height_200 (by refine Eq.symm ?_; rw [ti_Sheight, if_neg (by rw [c4, c13]; simp), if_neg (by rw [c36]; decide), hci, hca, if_pos rfl, ← show (ti_gr (xi.1 1) (xi.2.1 1) 0 (xi.2.2 1)) = I 1 from hJ 1 (by decide), ti_hx_eq (ti_alk_st _) (ti_pn_le _ _) (ti_gap_st (ti_gr_9 (hxi.1 1) (hxi.2.1 1) 0 _)) (by decide) (by omega), if_pos (by omega)]) (⟨hxo, hxq, (ti_st_le (ti_gr (xi.1 1) (xi.2.1 1) 0 (xi.2.2 1))), hxn⟩) hP hS (Nat.le_refl _) (Nat.le_refl _)
          · skip
            by_cases sw43_1 : w = 1
            · subst sw43_1
              refine lv_tableIn (off := 42) (tgt := 85) hx hb dX0_height_43 (by decide) (by decide) rfl (by decide) ?_
              refine lv_aload_n hx hb dX0_height_85 rfl (lv_at hl 0 rfl) ?_
              refine va_get (v := .ref (ad 18)) hx hb hts in_X0 hown hK hP 0 rfl rfl 6 (by decide) (hts _ q243) (fun _ h => h) rfl dX0_height_86 ?_
              refine lv_aload_n hx hb dX0_height_89 rfl (lv_at hl 0 rfl) ?_
              refine va_get (v := .ref (ad 14)) hx hb hts in_X0 hown hK hP 0 rfl rfl 4 (by decide) (hts _ q241) (fun _ h => h) rfl dX0_height_90 ?_
              refine lv_aload_n hx hb dX0_height_93 rfl (lv_at hl 0 rfl) ?_
              refine va_get (v := .ref (ad 1)) hx hb hts in_X0 hown hK hP 0 rfl rfl 0 (by decide) (hts _ q237) (fun _ h => h) rfl dX0_height_94 ?_
              refine lv_iconst (v := nI 0) hx hb dX0_height_97 (by decide) ?_
              refine tn_aald hx hb hK hP 1 5 rfl rfl (by omega) (by decide) dX0_height_98 ?_
              refine ti_mV (As := [.ref (jh 0)]) (rest := [.ref (ad 18)]) S hE hP hD hS hA [8, 9, 2, 3, 4] rfl (met_X4_of l D E (ad 14) (ad 15) xo (jh 0) (ju 0) (jv 0) (xi.1 0) (xi.2.1 0) (xi.2.2 0) (hxi.2.2 0) (hxi.1 0) (hxi.2.1 0)) rfl (fun _ => rfl) (lw_V q774 q775 q776 q70 q777) 1 rfl 8 rfl rfl (by decide +kernel) ⟨Nat.le_of_ble_eq_true rfl, Nat.le_of_ble_eq_true rfl⟩ hl.1 rfl (Nat.le_of_ble_eq_true rfl) ⟨Nat.le_refl _, Nat.le_refl _⟩ dX0_height_99 (fun _ H locs hu hP hD hS => ?_)
              have hP : va_P D vwCl (ti_wMJOTPN E ad dh du dv jh ju jv kh ku kv tx hi xi (ti_st (ti_gr (xi.1 0) (xi.2.1 0) 0 (xi.2.2 0))) xq xp xn) H := hP
              have hD : va_D A (ti_wMJOTPN E ad dh du dv jh ju jv kh ku kv tx hi xi (ti_st (ti_gr (xi.1 0) (xi.2.1 0) 0 (xi.2.2 0))) xq xp xn) := hD
              refine W.eq (g2 := F0 m 102 ls [.ref (ad 14), .ref (ad 18)]) rfl ?_
              refine lv_aload_n hx hb dX0_height_102 rfl (lv_at hl 0 rfl) ?_
              refine va_get (v := .ref (ad 16)) hx hb hts in_X0 hown hK hP 0 rfl rfl 5 (by decide) (hts _ q242) (fun _ h => h) rfl dX0_height_103 ?_
              refine lv_aload_n hx hb dX0_height_106 rfl (lv_at hl 0 rfl) ?_
              refine va_get (v := .ref (ad 1)) hx hb hts in_X0 hown hK hP 0 rfl rfl 0 (by decide) (hts _ q237) (fun _ h => h) rfl dX0_height_107 ?_
              refine lv_iconst (v := nI 1) hx hb dX0_height_110 (by decide) ?_
              refine tn_aald hx hb hK hP 1 5 rfl rfl (by omega) (by decide) dX0_height_111 ?_
              refine ti_mV (As := [.ref (jh 1)]) (rest := [.ref (ad 14), .ref (ad 18)]) S hE hP hD hS hA [10, 11, 5, 6, 7] rfl (met_X4_of l D E (ad 16) (ad 17) xq (jh 1) (ju 1) (jv 1) (xi.1 1) (xi.2.1 1) (xi.2.2 1) (hxi.2.2 1) (hxi.1 1) (hxi.2.1 1)) rfl (fun _ => rfl) (lw_V q774 q775 q776 q70 q777) 1 rfl 10 rfl rfl (by decide +kernel) ⟨Nat.le_of_ble_eq_true rfl, Nat.le_of_ble_eq_true rfl⟩ hl.1 rfl (Nat.le_of_ble_eq_true rfl) ⟨Nat.le_refl _, Nat.le_refl _⟩ dX0_height_112 (fun _ H locs hu hP hD hS => ?_)
              have hP : va_P D vwCl (ti_wMJOTPN E ad dh du dv jh ju jv kh ku kv tx hi xi (ti_st (ti_gr (xi.1 0) (xi.2.1 0) 0 (xi.2.2 0))) (ti_st (ti_gr (xi.1 1) (xi.2.1 1) 0 (xi.2.2 1))) xp xn) H := hP
              have hD : va_D A (ti_wMJOTPN E ad dh du dv jh ju jv kh ku kv tx hi xi (ti_st (ti_gr (xi.1 0) (xi.2.1 0) 0 (xi.2.2 0))) (ti_st (ti_gr (xi.1 1) (xi.2.1 1) 0 (xi.2.2 1))) xp xn) := hD
              refine W.eq (g2 := F0 m 115 ls [.ref (ad 16), .ref (ad 14), .ref (ad 18)]) rfl ?_
              refine ti_mV (As := [.ref (ad 14), .ref (ad 16)]) (rest := []) S hE hP hD hS hA [12, 13, 8, 9, 10, 11] rfl (met_X4_sum l D E (ad 18) (ad 19) xp (ad 14) (ad 15) (ti_st (ti_gr (xi.1 0) (xi.2.1 0) 0 (xi.2.2 0))) (ad 16) (ad 17) (ti_st (ti_gr (xi.1 1) (xi.2.1 1) 0 (xi.2.2 1))) (ti_st_le (ti_gr (xi.1 0) (xi.2.1 0) 0 (xi.2.2 0))) (ti_st_le (ti_gr (xi.1 1) (xi.2.1 1) 0 (xi.2.2 1)))) rfl (fun _ => rfl) (lw_V q783 q784 q785 q70 q786) 2 rfl 12 rfl rfl (by decide +kernel) ⟨Nat.le_of_ble_eq_true rfl, Nat.le_of_ble_eq_true rfl⟩ hl.1 rfl (Nat.le_of_ble_eq_true rfl) ⟨Nat.le_refl _, Nat.le_refl _⟩ dX0_height_115 (fun _ H locs hu hP hD hS => ?_)
              have hP : va_P D vwCl (ti_wMJOTPN E ad dh du dv jh ju jv kh ku kv tx hi xi (ti_st (ti_gr (xi.1 0) (xi.2.1 0) 0 (xi.2.2 0))) (ti_st (ti_gr (xi.1 1) (xi.2.1 1) 0 (xi.2.2 1))) (fun j => min ((ti_st (ti_gr (xi.1 0) (xi.2.1 0) 0 (xi.2.2 0))) j) ((ti_st (ti_gr (xi.1 1) (xi.2.1 1) 0 (xi.2.2 1))) j)) xn) H := hP
              have hD : va_D A (ti_wMJOTPN E ad dh du dv jh ju jv kh ku kv tx hi xi (ti_st (ti_gr (xi.1 0) (xi.2.1 0) 0 (xi.2.2 0))) (ti_st (ti_gr (xi.1 1) (xi.2.1 1) 0 (xi.2.2 1))) (fun j => min ((ti_st (ti_gr (xi.1 0) (xi.2.1 0) 0 (xi.2.2 0))) j) ((ti_st (ti_gr (xi.1 1) (xi.2.1 1) 0 (xi.2.2 1))) j)) xn) := hD
              refine W.eq (g2 := F0 m 118 ls []) rfl ?_
              refine lv_goto (tgt := 171) hx hb dX0_height_118 (by decide) ?_
              refine lv_aload_n hx hb dX0_height_171 rfl (lv_at hl 0 rfl) ?_
              refine va_get (v := .ref (ad 18)) hx hb hts in_X0 hown hK hP 0 rfl rfl 6 (by decide) (hts _ q243) (fun _ h => h) rfl dX0_height_172 ?_
              refine va_getN (v := .ref (ad 19)) hx hb hts in_X4 hown hK hP 12 rfl rfl 0 (by decide) (hE.use q197 rfl rfl) (fun _ h => h) rfl dX0_height_175 ?_
              refine lv_iload_n hx hb dX0_height_178 rfl (lv_at hl 3 rfl) ?_
              refine tn_iald (f := fun j => min ((ti_st (ti_gr (xi.1 0) (xi.2.1 0) 0 (xi.2.2 0))) j) ((ti_st (ti_gr (xi.1 1) (xi.2.1 1) 0 (xi.2.2 1))) j)) hx hb hK hP 13 0 rfl rfl (by omega) (by decide) dX0_height_179 ?_
              have b179 := (fun j => Nat.le_trans (Nat.min_le_left ((ti_st (ti_gr (xi.1 0) (xi.2.1 0) 0 (xi.2.2 0))) j) ((ti_st (ti_gr (xi.1 1) (xi.2.1 1) 0 (xi.2.2 1))) j)) ((ti_st_le (ti_gr (xi.1 0) (xi.2.1 0) 0 (xi.2.2 0))) j)) a9
              refine lv_sipush (v := nI 9999) hx hb dX0_height_180 (by decide) ?_
              refine tn_lt (tgt := 191) hx hb dX0_height_183 (by decide) (by omega) (by omega) (fun c183 => ?_) (fun c183 => ?_)
              · skip
                refine lv_aload_n hx hb dX0_height_191 rfl (lv_at hl 0 rfl) ?_
                refine va_get (v := .ref (ad 18)) hx hb hts in_X0 hown hK hP 0 rfl rfl 6 (by decide) (hts _ q243) (fun _ h => h) rfl dX0_height_192 ?_
                refine va_getN (v := .ref (ad 19)) hx hb hts in_X4 hown hK hP 12 rfl rfl 0 (by decide) (hE.use q197 rfl rfl) (fun _ h => h) rfl dX0_height_195 ?_
                refine lv_iload_n hx hb dX0_height_198 rfl (lv_at hl 3 rfl) ?_
                refine tn_iald (f := fun j => min ((ti_st (ti_gr (xi.1 0) (xi.2.1 0) 0 (xi.2.2 0))) j) ((ti_st (ti_gr (xi.1 1) (xi.2.1 1) 0 (xi.2.2 1))) j)) hx hb hK hP 13 0 rfl rfl (by omega) (by decide) dX0_height_199 ?_
                have b199 := (fun j => Nat.le_trans (Nat.min_le_left ((ti_st (ti_gr (xi.1 0) (xi.2.1 0) 0 (xi.2.2 0))) j) ((ti_st (ti_gr (xi.1 1) (xi.2.1 1) 0 (xi.2.2 1))) j)) ((ti_st_le (ti_gr (xi.1 0) (xi.2.1 0) 0 (xi.2.2 0))) j)) a9
                exact hret ((ti_st (ti_gr (xi.1 0) (xi.2.1 0) 0 (xi.2.2 0)), ti_st (ti_gr (xi.1 1) (xi.2.1 1) 0 (xi.2.2 1)), fun j => min ((ti_st (ti_gr (xi.1 0) (xi.2.1 0) 0 (xi.2.2 0))) j) ((ti_st (ti_gr (xi.1 1) (xi.2.1 1) 0 (xi.2.2 1))) j), xn)) _ _ _ _ _ _ _ dX0_height_200 (by refine Eq.symm ?_; rw [ti_Sheight, if_neg (by rw [c4, c13]; simp), if_neg (by rw [c36]; decide), hci, hca, if_neg (by decide), if_pos rfl, ← show (ti_gr (xi.1 0) (xi.2.1 0) 0 (xi.2.2 0)) = I 0 from hJ 0 (by decide), ← show (ti_gr (xi.1 1) (xi.2.1 1) 0 (xi.2.2 1)) = I 1 from hJ 1 (by decide), ti_sh2_eq (ti_alk_st _) (ti_pn_le _ _) (ti_gap_st (ti_gr_9 (hxi.1 0) (hxi.2.1 0) 0 _)) (ti_alk_st _) (ti_pn_le _ _) (ti_gap_st (ti_gr_9 (hxi.1 1) (hxi.2.1 1) 0 _)) (by decide) (by omega), if_neg (by omega)]) (⟨(ti_st_le (ti_gr (xi.1 0) (xi.2.1 0) 0 (xi.2.2 0))), (ti_st_le (ti_gr (xi.1 1) (xi.2.1 1) 0 (xi.2.2 1))), (fun j => Nat.le_trans (Nat.min_le_left ((ti_st (ti_gr (xi.1 0) (xi.2.1 0) 0 (xi.2.2 0))) j) ((ti_st (ti_gr (xi.1 1) (xi.2.1 1) 0 (xi.2.2 1))) j)) ((ti_st_le (ti_gr (xi.1 0) (xi.2.1 0) 0 (xi.2.2 0))) j)), hxn⟩) hP hS (Nat.le_refl _) (Nat.le_refl _)
              · skip
                refine lv_bipush (v := (-5)) hx hb dX0_height_186 (by decide) ?_
                refine lv_goto (tgt := 200) hx hb dX0_height_188 (by decide) ?_
                exact hret ((ti_st (ti_gr (xi.1 0) (xi.2.1 0) 0 (xi.2.2 0)), ti_st (ti_gr (xi.1 1) (xi.2.1 1) 0 (xi.2.2 1)), fun j => min ((ti_st (ti_gr (xi.1 0) (xi.2.1 0) 0 (xi.2.2 0))) j) ((ti_st (ti_gr (xi.1 1) (xi.2.1 1) 0 (xi.2.2 1))) j), xn)) _ _ _ _ _ _ _ dX0_height_200 (by refine Eq.symm ?_; rw [ti_Sheight, if_neg (by rw [c4, c13]; simp), if_neg (by rw [c36]; decide), hci, hca, if_neg (by decide), if_pos rfl, ← show (ti_gr (xi.1 0) (xi.2.1 0) 0 (xi.2.2 0)) = I 0 from hJ 0 (by decide), ← show (ti_gr (xi.1 1) (xi.2.1 1) 0 (xi.2.2 1)) = I 1 from hJ 1 (by decide), ti_sh2_eq (ti_alk_st _) (ti_pn_le _ _) (ti_gap_st (ti_gr_9 (hxi.1 0) (hxi.2.1 0) 0 _)) (ti_alk_st _) (ti_pn_le _ _) (ti_gap_st (ti_gr_9 (hxi.1 1) (hxi.2.1 1) 0 _)) (by decide) (by omega), if_pos (by omega)]) (⟨(ti_st_le (ti_gr (xi.1 0) (xi.2.1 0) 0 (xi.2.2 0))), (ti_st_le (ti_gr (xi.1 1) (xi.2.1 1) 0 (xi.2.2 1))), (fun j => Nat.le_trans (Nat.min_le_left ((ti_st (ti_gr (xi.1 0) (xi.2.1 0) 0 (xi.2.2 0))) j) ((ti_st (ti_gr (xi.1 1) (xi.2.1 1) 0 (xi.2.2 1))) j)) ((ti_st_le (ti_gr (xi.1 0) (xi.2.1 0) 0 (xi.2.2 0))) j)), hxn⟩) hP hS (Nat.le_refl _) (Nat.le_refl _)
            · skip
              by_cases sw43_2 : w = 2
              · subst sw43_2
                refine lv_tableIn (off := 78) (tgt := 121) hx hb dX0_height_43 (by decide) (by decide) rfl (by decide) ?_
                refine lv_aload_n hx hb dX0_height_121 rfl (lv_at hl 0 rfl) ?_
                refine va_get (v := .ref (ad 18)) hx hb hts in_X0 hown hK hP 0 rfl rfl 6 (by decide) (hts _ q243) (fun _ h => h) rfl dX0_height_122 ?_
                refine lv_aload_n hx hb dX0_height_125 rfl (lv_at hl 0 rfl) ?_
                refine va_get (v := .ref (ad 14)) hx hb hts in_X0 hown hK hP 0 rfl rfl 4 (by decide) (hts _ q241) (fun _ h => h) rfl dX0_height_126 ?_
                refine lv_aload_n hx hb dX0_height_129 rfl (lv_at hl 0 rfl) ?_
                refine va_get (v := .ref (ad 1)) hx hb hts in_X0 hown hK hP 0 rfl rfl 0 (by decide) (hts _ q237) (fun _ h => h) rfl dX0_height_130 ?_
                refine lv_iconst (v := nI 0) hx hb dX0_height_133 (by decide) ?_
                refine tn_aald hx hb hK hP 1 5 rfl rfl (by omega) (by decide) dX0_height_134 ?_
                refine ti_mV (As := [.ref (jh 0)]) (rest := [.ref (ad 18)]) S hE hP hD hS hA [8, 9, 2, 3, 4] rfl (met_X4_of l D E (ad 14) (ad 15) xo (jh 0) (ju 0) (jv 0) (xi.1 0) (xi.2.1 0) (xi.2.2 0) (hxi.2.2 0) (hxi.1 0) (hxi.2.1 0)) rfl (fun _ => rfl) (lw_V q774 q775 q776 q70 q777) 1 rfl 8 rfl rfl (by decide +kernel) ⟨Nat.le_of_ble_eq_true rfl, Nat.le_of_ble_eq_true rfl⟩ hl.1 rfl (Nat.le_of_ble_eq_true rfl) ⟨Nat.le_refl _, Nat.le_refl _⟩ dX0_height_135 (fun _ H locs hu hP hD hS => ?_)
                have hP : va_P D vwCl (ti_wMJOTPN E ad dh du dv jh ju jv kh ku kv tx hi xi (ti_st (ti_gr (xi.1 0) (xi.2.1 0) 0 (xi.2.2 0))) xq xp xn) H := hP
                have hD : va_D A (ti_wMJOTPN E ad dh du dv jh ju jv kh ku kv tx hi xi (ti_st (ti_gr (xi.1 0) (xi.2.1 0) 0 (xi.2.2 0))) xq xp xn) := hD
                refine W.eq (g2 := F0 m 138 ls [.ref (ad 14), .ref (ad 18)]) rfl ?_
                refine lv_aload_n hx hb dX0_height_138 rfl (lv_at hl 0 rfl) ?_
                refine va_get (v := .ref (ad 16)) hx hb hts in_X0 hown hK hP 0 rfl rfl 5 (by decide) (hts _ q242) (fun _ h => h) rfl dX0_height_139 ?_
                refine lv_aload_n hx hb dX0_height_142 rfl (lv_at hl 0 rfl) ?_
                refine va_get (v := .ref (ad 1)) hx hb hts in_X0 hown hK hP 0 rfl rfl 0 (by decide) (hts _ q237) (fun _ h => h) rfl dX0_height_143 ?_
                refine lv_iconst (v := nI 1) hx hb dX0_height_146 (by decide) ?_
                refine tn_aald hx hb hK hP 1 5 rfl rfl (by omega) (by decide) dX0_height_147 ?_
                refine ti_mV (As := [.ref (jh 1)]) (rest := [.ref (ad 14), .ref (ad 18)]) S hE hP hD hS hA [10, 11, 5, 6, 7] rfl (met_X4_of l D E (ad 16) (ad 17) xq (jh 1) (ju 1) (jv 1) (xi.1 1) (xi.2.1 1) (xi.2.2 1) (hxi.2.2 1) (hxi.1 1) (hxi.2.1 1)) rfl (fun _ => rfl) (lw_V q774 q775 q776 q70 q777) 1 rfl 10 rfl rfl (by decide +kernel) ⟨Nat.le_of_ble_eq_true rfl, Nat.le_of_ble_eq_true rfl⟩ hl.1 rfl (Nat.le_of_ble_eq_true rfl) ⟨Nat.le_refl _, Nat.le_refl _⟩ dX0_height_148 (fun _ H locs hu hP hD hS => ?_)
                have hP : va_P D vwCl (ti_wMJOTPN E ad dh du dv jh ju jv kh ku kv tx hi xi (ti_st (ti_gr (xi.1 0) (xi.2.1 0) 0 (xi.2.2 0))) (ti_st (ti_gr (xi.1 1) (xi.2.1 1) 0 (xi.2.2 1))) xp xn) H := hP
                have hD : va_D A (ti_wMJOTPN E ad dh du dv jh ju jv kh ku kv tx hi xi (ti_st (ti_gr (xi.1 0) (xi.2.1 0) 0 (xi.2.2 0))) (ti_st (ti_gr (xi.1 1) (xi.2.1 1) 0 (xi.2.2 1))) xp xn) := hD
                refine W.eq (g2 := F0 m 151 ls [.ref (ad 16), .ref (ad 14), .ref (ad 18)]) rfl ?_
                refine ti_mV (As := [.ref (ad 14), .ref (ad 16)]) (rest := []) S hE hP hD hS hA [12, 13, 8, 9, 10, 11] rfl (met_X4_product l D E (ad 18) (ad 19) xp (ad 14) (ad 15) (ti_st (ti_gr (xi.1 0) (xi.2.1 0) 0 (xi.2.2 0))) (ad 16) (ad 17) (ti_st (ti_gr (xi.1 1) (xi.2.1 1) 0 (xi.2.2 1))) (ti_st_le (ti_gr (xi.1 0) (xi.2.1 0) 0 (xi.2.2 0))) (ti_st_le (ti_gr (xi.1 1) (xi.2.1 1) 0 (xi.2.2 1)))) rfl (fun _ => rfl) (lw_V q788 q789 q790 q70 q791) 2 rfl 12 rfl rfl (by decide +kernel) ⟨Nat.le_of_ble_eq_true rfl, Nat.le_of_ble_eq_true rfl⟩ hl.1 rfl (Nat.le_of_ble_eq_true rfl) ⟨Nat.le_refl _, Nat.le_refl _⟩ dX0_height_151 (fun _ H locs hu hP hD hS => ?_)
                have hP : va_P D vwCl (ti_wMJOTPN E ad dh du dv jh ju jv kh ku kv tx hi xi (ti_st (ti_gr (xi.1 0) (xi.2.1 0) 0 (xi.2.2 0))) (ti_st (ti_gr (xi.1 1) (xi.2.1 1) 0 (xi.2.2 1))) (ti_pr (ti_st (ti_gr (xi.1 0) (xi.2.1 0) 0 (xi.2.2 0))) (ti_st (ti_gr (xi.1 1) (xi.2.1 1) 0 (xi.2.2 1)))) xn) H := hP
                have hD : va_D A (ti_wMJOTPN E ad dh du dv jh ju jv kh ku kv tx hi xi (ti_st (ti_gr (xi.1 0) (xi.2.1 0) 0 (xi.2.2 0))) (ti_st (ti_gr (xi.1 1) (xi.2.1 1) 0 (xi.2.2 1))) (ti_pr (ti_st (ti_gr (xi.1 0) (xi.2.1 0) 0 (xi.2.2 0))) (ti_st (ti_gr (xi.1 1) (xi.2.1 1) 0 (xi.2.2 1)))) xn) := hD
                refine W.eq (g2 := F0 m 154 ls []) rfl ?_
                refine lv_goto (tgt := 171) hx hb dX0_height_154 (by decide) ?_
                refine lv_aload_n hx hb dX0_height_171 rfl (lv_at hl 0 rfl) ?_
                refine va_get (v := .ref (ad 18)) hx hb hts in_X0 hown hK hP 0 rfl rfl 6 (by decide) (hts _ q243) (fun _ h => h) rfl dX0_height_172 ?_
                refine va_getN (v := .ref (ad 19)) hx hb hts in_X4 hown hK hP 12 rfl rfl 0 (by decide) (hE.use q197 rfl rfl) (fun _ h => h) rfl dX0_height_175 ?_
                refine lv_iload_n hx hb dX0_height_178 rfl (lv_at hl 3 rfl) ?_
                refine tn_iald (f := ti_pr (ti_st (ti_gr (xi.1 0) (xi.2.1 0) 0 (xi.2.2 0))) (ti_st (ti_gr (xi.1 1) (xi.2.1 1) 0 (xi.2.2 1)))) hx hb hK hP 13 0 rfl rfl (by omega) (by decide) dX0_height_179 ?_
                have b179 := (ti_pr_le (ti_st (ti_gr (xi.1 0) (xi.2.1 0) 0 (xi.2.2 0))) (ti_st (ti_gr (xi.1 1) (xi.2.1 1) 0 (xi.2.2 1)))) a9
                refine lv_sipush (v := nI 9999) hx hb dX0_height_180 (by decide) ?_
                refine tn_lt (tgt := 191) hx hb dX0_height_183 (by decide) (by omega) (by omega) (fun c183 => ?_) (fun c183 => ?_)
                · skip
                  refine lv_aload_n hx hb dX0_height_191 rfl (lv_at hl 0 rfl) ?_
                  refine va_get (v := .ref (ad 18)) hx hb hts in_X0 hown hK hP 0 rfl rfl 6 (by decide) (hts _ q243) (fun _ h => h) rfl dX0_height_192 ?_
                  refine va_getN (v := .ref (ad 19)) hx hb hts in_X4 hown hK hP 12 rfl rfl 0 (by decide) (hE.use q197 rfl rfl) (fun _ h => h) rfl dX0_height_195 ?_
                  refine lv_iload_n hx hb dX0_height_198 rfl (lv_at hl 3 rfl) ?_
                  refine tn_iald (f := ti_pr (ti_st (ti_gr (xi.1 0) (xi.2.1 0) 0 (xi.2.2 0))) (ti_st (ti_gr (xi.1 1) (xi.2.1 1) 0 (xi.2.2 1)))) hx hb hK hP 13 0 rfl rfl (by omega) (by decide) dX0_height_199 ?_
                  have b199 := (ti_pr_le (ti_st (ti_gr (xi.1 0) (xi.2.1 0) 0 (xi.2.2 0))) (ti_st (ti_gr (xi.1 1) (xi.2.1 1) 0 (xi.2.2 1)))) a9
                  exact hret ((ti_st (ti_gr (xi.1 0) (xi.2.1 0) 0 (xi.2.2 0)), ti_st (ti_gr (xi.1 1) (xi.2.1 1) 0 (xi.2.2 1)), ti_pr (ti_st (ti_gr (xi.1 0) (xi.2.1 0) 0 (xi.2.2 0))) (ti_st (ti_gr (xi.1 1) (xi.2.1 1) 0 (xi.2.2 1))), xn)) _ _ _ _ _ _ _ dX0_height_200 (by refine Eq.symm ?_; rw [ti_Sheight, if_neg (by rw [c4, c13]; simp), if_neg (by rw [c36]; decide), hci, hca, if_neg (by decide), if_neg (by decide), if_pos rfl, ← show (ti_gr (xi.1 0) (xi.2.1 0) 0 (xi.2.2 0)) = I 0 from hJ 0 (by decide), ← show (ti_gr (xi.1 1) (xi.2.1 1) 0 (xi.2.2 1)) = I 1 from hJ 1 (by decide), ti_hx_eq (ti_alk_step _ (ti_alk_st _)) (ti_tm_le _ _) (ti_gap_pr (ti_gap_st (ti_gr_9 (hxi.1 0) (hxi.2.1 0) 0 _)) (ti_gap_st (ti_gr_9 (hxi.1 1) (hxi.2.1 1) 0 _))) (by decide) (by omega), if_neg (by omega)]) (⟨(ti_st_le (ti_gr (xi.1 0) (xi.2.1 0) 0 (xi.2.2 0))), (ti_st_le (ti_gr (xi.1 1) (xi.2.1 1) 0 (xi.2.2 1))), (ti_pr_le (ti_st (ti_gr (xi.1 0) (xi.2.1 0) 0 (xi.2.2 0))) (ti_st (ti_gr (xi.1 1) (xi.2.1 1) 0 (xi.2.2 1)))), hxn⟩) hP hS (Nat.le_refl _) (Nat.le_refl _)
                · skip
                  refine lv_bipush (v := (-5)) hx hb dX0_height_186 (by decide) ?_
                  refine lv_goto (tgt := 200) hx hb dX0_height_188 (by decide) ?_
                  exact hret ((ti_st (ti_gr (xi.1 0) (xi.2.1 0) 0 (xi.2.2 0)), ti_st (ti_gr (xi.1 1) (xi.2.1 1) 0 (xi.2.2 1)), ti_pr (ti_st (ti_gr (xi.1 0) (xi.2.1 0) 0 (xi.2.2 0))) (ti_st (ti_gr (xi.1 1) (xi.2.1 1) 0 (xi.2.2 1))), xn)) _ _ _ _ _ _ _ dX0_height_200 (by refine Eq.symm ?_; rw [ti_Sheight, if_neg (by rw [c4, c13]; simp), if_neg (by rw [c36]; decide), hci, hca, if_neg (by decide), if_neg (by decide), if_pos rfl, ← show (ti_gr (xi.1 0) (xi.2.1 0) 0 (xi.2.2 0)) = I 0 from hJ 0 (by decide), ← show (ti_gr (xi.1 1) (xi.2.1 1) 0 (xi.2.2 1)) = I 1 from hJ 1 (by decide), ti_hx_eq (ti_alk_step _ (ti_alk_st _)) (ti_tm_le _ _) (ti_gap_pr (ti_gap_st (ti_gr_9 (hxi.1 0) (hxi.2.1 0) 0 _)) (ti_gap_st (ti_gr_9 (hxi.1 1) (hxi.2.1 1) 0 _))) (by decide) (by omega), if_pos (by omega)]) (⟨(ti_st_le (ti_gr (xi.1 0) (xi.2.1 0) 0 (xi.2.2 0))), (ti_st_le (ti_gr (xi.1 1) (xi.2.1 1) 0 (xi.2.2 1))), (ti_pr_le (ti_st (ti_gr (xi.1 0) (xi.2.1 0) 0 (xi.2.2 0))) (ti_st (ti_gr (xi.1 1) (xi.2.1 1) 0 (xi.2.2 1)))), hxn⟩) hP hS (Nat.le_refl _) (Nat.le_refl _)
              · skip
                refine lv_tableOut (tgt := 157) hx hb dX0_height_43 (Classical.byContradiction fun z => by
                    have z1 : w.toInt = 0 ∨ w.toInt = 1 ∨ w.toInt = 2 := by omega
                    rcases z1 with z2 | z2 | z2
                    · exact sw43_0 (Int32.toInt_inj.mp z2)
                    · exact sw43_1 (Int32.toInt_inj.mp z2)
                    · exact sw43_2 (Int32.toInt_inj.mp z2)) (by decide) ?_
                exact absurd c13 (by rw [ti_out2 sw43_0 sw43_1 sw43_2]; decide)
      · skip
        refine lv_bipush (v := (-2)) hx hb dX0_height_39 (by decide) ?_
        exact hret (xo, xq, xp, xn) _ _ _ _ _ _ _ dX0_height_41 (by rw [ti_Sheight, if_neg (by rw [c4, c13]; simp), if_pos c36]) (⟨hxo, hxq, hxp, hxn⟩) hP hS (Nat.le_refl _) (Nat.le_refl _)
    · skip
      refine lv_iload_n hx hb dX0_height_16 rfl (lv_at hl 2 rfl) ?_
      refine lv_bipush (v := nI 10) hx hb dX0_height_17 (by decide) ?_
      refine lv_bipush (v := nI 16) hx hb dX0_height_19 (by decide) ?_
      refine ti_pS (As := [.int w, .int (nI 10), .int (nI 16)]) (rest := []) (v := .int (ti_b (ti_in w (nI 10) (nI 16)))) S hE hP [] (met_X0_in l D E w (nI 10) (nI 16)) rfl (lw_S q302 q303 q66 q304) 3 rfl (by decide +kernel) ⟨Nat.le_of_ble_eq_true rfl, Nat.le_of_ble_eq_true rfl⟩ hl.1 rfl (Nat.le_of_ble_eq_true rfl) ⟨Nat.le_refl _, Nat.le_refl _⟩ dX0_height_21 ?_
      refine tb_ne (tgt := 29) hx hb dX0_height_24 (by decide) (fun c24 => ?_) (fun c24 => ?_)
      · skip
        refine lv_iload_n hx hb dX0_height_29 rfl (lv_at hl 3 rfl) ?_
        refine lv_iconst (v := nI 0) hx hb dX0_height_30 (by decide) ?_
        refine lv_bipush (v := nI 60) hx hb dX0_height_31 (by decide) ?_
        refine ti_pS (As := [.int a, .int (nI 0), .int (nI 60)]) (rest := []) (v := .int (ti_b (ti_in a (nI 0) (nI 60)))) S hE hP [] (met_X0_in l D E a (nI 0) (nI 60)) rfl (lw_S q302 q303 q66 q304) 3 rfl (by decide +kernel) ⟨Nat.le_of_ble_eq_true rfl, Nat.le_of_ble_eq_true rfl⟩ hl.1 rfl (Nat.le_of_ble_eq_true rfl) ⟨Nat.le_refl _, Nat.le_refl _⟩ dX0_height_33 ?_
        refine tb_ne (tgt := 42) hx hb dX0_height_36 (by decide) (fun c36 => ?_) (fun c36 => ?_)
        · skip
          obtain ⟨a9, -, ha9, rfl⟩ := ti_in_nat (by decide) (by decide) c36
          have hca : ti_cl (nI a9) = a9 := ti_cl_nI (by omega)
          rcases (show i = 0 ∨ i = 1 by omega) with rfl | rfl
          · skip
            have hg := hJ 0 (by decide)
            have hlen := ti_JI_len hJ (show 0 < 2 by decide)
            have h6 := hxi.2.2 0
            have hci : ti_cl (nI 0) = 0 := ti_cl_nI (by decide)
            refine lv_iload_n hx hb dX0_height_42 rfl (lv_at hl 2 rfl) ?_
            by_cases sw43_0 : w = 0
            · subst sw43_0
              refine lv_tableIn (off := 25) (tgt := 68) hx hb dX0_height_43 (by decide) (by decide) rfl (by decide) ?_
              exact absurd c13 (by decide)
            · skip
              by_cases sw43_1 : w = 1
              · subst sw43_1
                refine lv_tableIn (off := 42) (tgt := 85) hx hb dX0_height_43 (by decide) (by decide) rfl (by decide) ?_
                exact absurd c13 (by decide)
              · skip
                by_cases sw43_2 : w = 2
                · subst sw43_2
                  refine lv_tableIn (off := 78) (tgt := 121) hx hb dX0_height_43 (by decide) (by decide) rfl (by decide) ?_
                  exact absurd c13 (by decide)
                · skip
                  refine lv_tableOut (tgt := 157) hx hb dX0_height_43 (Classical.byContradiction fun z => by
                      have z1 : w.toInt = 0 ∨ w.toInt = 1 ∨ w.toInt = 2 := by omega
                      rcases z1 with z2 | z2 | z2
                      · exact sw43_0 (Int32.toInt_inj.mp z2)
                      · exact sw43_1 (Int32.toInt_inj.mp z2)
                      · exact sw43_2 (Int32.toInt_inj.mp z2)) (by decide) ?_
                  obtain ⟨w9, hw10, hw16, rfl⟩ := ti_in_nat (by decide) (by decide) c24
                  have hcw : ti_cl (nI w9) = w9 := ti_cl_nI (by omega)
                  have hl : lv_has ls 4 [(0, .ref (ad 0)), (1, .int (nI 0)), (2, .int (nI w9)), (3, .int (nI a9))] := hl
                  refine lv_aload_n hx hb dX0_height_157 rfl (lv_at hl 0 rfl) ?_
                  refine lv_aload_n hx hb dX0_height_158 rfl (lv_at hl 0 rfl) ?_
                  refine va_get (v := .ref (ad 1)) hx hb hts in_X0 hown hK hP 0 rfl rfl 0 (by decide) (hts _ q237) (fun _ h => h) rfl dX0_height_159 ?_
                  refine lv_iload_n hx hb dX0_height_162 rfl (lv_at hl 1 rfl) ?_
                  refine tn_aald hx hb hK hP 1 5 rfl rfl (by omega) (by decide) dX0_height_163 ?_
                  refine lv_iload_n hx hb dX0_height_164 rfl (lv_at hl 2 rfl) ?_
                  refine lv_bipush (v := nI 10) hx hb dX0_height_165 (by decide) ?_
                  refine tn_sub hx hb dX0_height_167 (by omega) ?_
                  refine ti_mV (As := [.ref (jh 0), .int (nI (w9 - 10))]) (rest := []) S hE hP hD hS hA [0, 1, 2, 3, 4, 5, 6, 7, 8, 9, 12, 13, 14, 15] rfl (met_X0_powers_0 l D E ad dh du dv jh ju jv kh ku kv tx hi xi xo xp xn hxi hxo hxp hxn (w9 - 10) (by omega)) rfl (fun _ => rfl) (lw_V q792 q794 qs16 q66 q795) 2 rfl 0 rfl rfl (by decide +kernel) ⟨Nat.le_of_ble_eq_true rfl, Nat.le_of_ble_eq_true rfl⟩ hl.1 rfl (Nat.le_of_ble_eq_true rfl) ⟨Nat.le_refl _, Nat.le_refl _⟩ dX0_height_168 (fun un H locs hu hP hD hS => ?_)
                  have hun := hu
                  have hP : va_P D vwCl (ti_wMJOTPN E ad dh du dv jh ju jv kh ku kv tx hi xi (ti_st (ti_gr (xi.1 0) (xi.2.1 0) 0 (xi.2.2 0))) xq (ti_ps (ti_gr (xi.1 0) (xi.2.1 0) 0 (xi.2.2 0)) (w9 - 10)) un) H := ti_asP hP [.inr 0, .inr 1, .inr 2, .inr 3, .inr 4, .inr 5, .inr 6, .inr 7, .inr 8, .inr 9, .inl 10, .inl 11, .inr 10, .inr 11, .inr 12, .inr 13] rfl rfl rfl rfl
                  have hD : va_D A (ti_wMJOTPN E ad dh du dv jh ju jv kh ku kv tx hi xi (ti_st (ti_gr (xi.1 0) (xi.2.1 0) 0 (xi.2.2 0))) xq (ti_ps (ti_gr (xi.1 0) (xi.2.1 0) 0 (xi.2.2 0)) (w9 - 10)) un) := ti_asD hD [.inr 0, .inr 1, .inr 2, .inr 3, .inr 4, .inr 5, .inr 6, .inr 7, .inr 8, .inr 9, .inl 10, .inl 11, .inr 10, .inr 11, .inr 12, .inr 13] rfl rfl rfl rfl
                  refine W.eq (g2 := F0 m 171 ls []) rfl ?_
                  refine lv_aload_n hx hb dX0_height_171 rfl (lv_at hl 0 rfl) ?_
                  refine va_get (v := .ref (ad 18)) hx hb hts in_X0 hown hK hP 0 rfl rfl 6 (by decide) (hts _ q243) (fun _ h => h) rfl dX0_height_172 ?_
                  refine va_getN (v := .ref (ad 19)) hx hb hts in_X4 hown hK hP 12 rfl rfl 0 (by decide) (hE.use q197 rfl rfl) (fun _ h => h) rfl dX0_height_175 ?_
                  refine lv_iload_n hx hb dX0_height_178 rfl (lv_at hl 3 rfl) ?_
                  refine tn_iald (f := ti_ps (ti_gr (xi.1 0) (xi.2.1 0) 0 (xi.2.2 0)) (w9 - 10)) hx hb hK hP 13 0 rfl rfl (by omega) (by decide) dX0_height_179 ?_
                  have b179 := (ti_ps_le (ti_gr (xi.1 0) (xi.2.1 0) 0 (xi.2.2 0)) (w9 - 10)) a9
                  refine lv_sipush (v := nI 9999) hx hb dX0_height_180 (by decide) ?_
                  refine tn_lt (tgt := 191) hx hb dX0_height_183 (by decide) (by omega) (by omega) (fun c183 => ?_) (fun c183 => ?_)
                  · skip
                    refine lv_aload_n hx hb dX0_height_191 rfl (lv_at hl 0 rfl) ?_
                    refine va_get (v := .ref (ad 18)) hx hb hts in_X0 hown hK hP 0 rfl rfl 6 (by decide) (hts _ q243) (fun _ h => h) rfl dX0_height_192 ?_
                    refine va_getN (v := .ref (ad 19)) hx hb hts in_X4 hown hK hP 12 rfl rfl 0 (by decide) (hE.use q197 rfl rfl) (fun _ h => h) rfl dX0_height_195 ?_
                    refine lv_iload_n hx hb dX0_height_198 rfl (lv_at hl 3 rfl) ?_
                    refine tn_iald (f := ti_ps (ti_gr (xi.1 0) (xi.2.1 0) 0 (xi.2.2 0)) (w9 - 10)) hx hb hK hP 13 0 rfl rfl (by omega) (by decide) dX0_height_199 ?_
                    have b199 := (ti_ps_le (ti_gr (xi.1 0) (xi.2.1 0) 0 (xi.2.2 0)) (w9 - 10)) a9
                    exact hret ((ti_st (ti_gr (xi.1 0) (xi.2.1 0) 0 (xi.2.2 0)), xq, ti_ps (ti_gr (xi.1 0) (xi.2.1 0) 0 (xi.2.2 0)) (w9 - 10), un)) _ _ _ _ _ _ _ dX0_height_200 (by refine Eq.symm ?_; rw [ti_Sheight, if_neg (by rw [c4, c13, c24]; simp), if_neg (by rw [c36]; decide), hci, hca, if_neg sw43_0, if_neg sw43_1, if_neg sw43_2, hcw, ← show (ti_gr (xi.1 0) (xi.2.1 0) 0 (xi.2.2 0)) = I 0 from hJ 0 (by decide), ti_hx_eq (ti_alk_ps _ _) (ti_pn_le _ _) (ti_gap_ps (ti_gr_9 (hxi.1 0) (hxi.2.1 0) 0 _) _) (by omega) (by omega), if_neg (by omega)]) (⟨(ti_st_le (ti_gr (xi.1 0) (xi.2.1 0) 0 (xi.2.2 0))), hxq, (ti_ps_le (ti_gr (xi.1 0) (xi.2.1 0) 0 (xi.2.2 0)) (w9 - 10)), hun⟩) hP hS (Nat.le_refl _) (Nat.le_refl _)
                  · skip
                    refine lv_bipush (v := (-5)) hx hb dX0_height_186 (by decide) ?_
                    refine lv_goto (tgt := 200) hx hb dX0_height_188 (by decide) ?_
                    exact hret ((ti_st (ti_gr (xi.1 0) (xi.2.1 0) 0 (xi.2.2 0)), xq, ti_ps (ti_gr (xi.1 0) (xi.2.1 0) 0 (xi.2.2 0)) (w9 - 10), un)) _ _ _ _ _ _ _ dX0_height_200 (by refine Eq.symm ?_; rw [ti_Sheight, if_neg (by rw [c4, c13, c24]; simp), if_neg (by rw [c36]; decide), hci, hca, if_neg sw43_0, if_neg sw43_1, if_neg sw43_2, hcw, ← show (ti_gr (xi.1 0) (xi.2.1 0) 0 (xi.2.2 0)) = I 0 from hJ 0 (by decide), ti_hx_eq (ti_alk_ps _ _) (ti_pn_le _ _) (ti_gap_ps (ti_gr_9 (hxi.1 0) (hxi.2.1 0) 0 _) _) (by omega) (by omega), if_pos (by omega)]) (⟨(ti_st_le (ti_gr (xi.1 0) (xi.2.1 0) 0 (xi.2.2 0))), hxq, (ti_ps_le (ti_gr (xi.1 0) (xi.2.1 0) 0 (xi.2.2 0)) (w9 - 10)), hun⟩) hP hS (Nat.le_refl _) (Nat.le_refl _)
          · skip
            have hg := hJ 1 (by decide)
            have hlen := ti_JI_len hJ (show 1 < 2 by decide)
            have h6 := hxi.2.2 1
            have hci : ti_cl (nI 1) = 1 := ti_cl_nI (by decide)
            refine lv_iload_n hx hb dX0_height_42 rfl (lv_at hl 2 rfl) ?_
            by_cases sw43_0 : w = 0
            · subst sw43_0
              refine lv_tableIn (off := 25) (tgt := 68) hx hb dX0_height_43 (by decide) (by decide) rfl (by decide) ?_
              exact absurd c13 (by decide)
            · skip
              by_cases sw43_1 : w = 1
              · subst sw43_1
                refine lv_tableIn (off := 42) (tgt := 85) hx hb dX0_height_43 (by decide) (by decide) rfl (by decide) ?_
                exact absurd c13 (by decide)
              · skip
                by_cases sw43_2 : w = 2
                · subst sw43_2
                  refine lv_tableIn (off := 78) (tgt := 121) hx hb dX0_height_43 (by decide) (by decide) rfl (by decide) ?_
                  exact absurd c13 (by decide)
                · skip
                  refine lv_tableOut (tgt := 157) hx hb dX0_height_43 (Classical.byContradiction fun z => by
                      have z1 : w.toInt = 0 ∨ w.toInt = 1 ∨ w.toInt = 2 := by omega
                      rcases z1 with z2 | z2 | z2
                      · exact sw43_0 (Int32.toInt_inj.mp z2)
                      · exact sw43_1 (Int32.toInt_inj.mp z2)
                      · exact sw43_2 (Int32.toInt_inj.mp z2)) (by decide) ?_
                  obtain ⟨w9, hw10, hw16, rfl⟩ := ti_in_nat (by decide) (by decide) c24
                  have hcw : ti_cl (nI w9) = w9 := ti_cl_nI (by omega)
                  have hl : lv_has ls 4 [(0, .ref (ad 0)), (1, .int (nI 1)), (2, .int (nI w9)), (3, .int (nI a9))] := hl
                  refine lv_aload_n hx hb dX0_height_157 rfl (lv_at hl 0 rfl) ?_
                  refine lv_aload_n hx hb dX0_height_158 rfl (lv_at hl 0 rfl) ?_
                  refine va_get (v := .ref (ad 1)) hx hb hts in_X0 hown hK hP 0 rfl rfl 0 (by decide) (hts _ q237) (fun _ h => h) rfl dX0_height_159 ?_
                  refine lv_iload_n hx hb dX0_height_162 rfl (lv_at hl 1 rfl) ?_
                  refine tn_aald hx hb hK hP 1 5 rfl rfl (by omega) (by decide) dX0_height_163 ?_
                  refine lv_iload_n hx hb dX0_height_164 rfl (lv_at hl 2 rfl) ?_
                  refine lv_bipush (v := nI 10) hx hb dX0_height_165 (by decide) ?_
                  refine tn_sub hx hb dX0_height_167 (by omega) ?_
                  refine ti_mV (As := [.ref (jh 1), .int (nI (w9 - 10))]) (rest := []) S hE hP hD hS hA [0, 1, 2, 3, 4, 5, 6, 7, 8, 9, 12, 13, 14, 15] rfl (met_X0_powers_1 l D E ad dh du dv jh ju jv kh ku kv tx hi xi xo xp xn hxi hxo hxp hxn (w9 - 10) (by omega)) rfl (fun _ => rfl) (lw_V q792 q794 qs16 q66 q795) 2 rfl 0 rfl rfl (by decide +kernel) ⟨Nat.le_of_ble_eq_true rfl, Nat.le_of_ble_eq_true rfl⟩ hl.1 rfl (Nat.le_of_ble_eq_true rfl) ⟨Nat.le_refl _, Nat.le_refl _⟩ dX0_height_168 (fun un H locs hu hP hD hS => ?_)
                  have hun := hu
                  have hP : va_P D vwCl (ti_wMJOTPN E ad dh du dv jh ju jv kh ku kv tx hi xi (ti_st (ti_gr (xi.1 1) (xi.2.1 1) 0 (xi.2.2 1))) xq (ti_ps (ti_gr (xi.1 1) (xi.2.1 1) 0 (xi.2.2 1)) (w9 - 10)) un) H := ti_asP hP [.inr 0, .inr 1, .inr 2, .inr 3, .inr 4, .inr 5, .inr 6, .inr 7, .inr 8, .inr 9, .inl 10, .inl 11, .inr 10, .inr 11, .inr 12, .inr 13] rfl rfl rfl rfl
                  have hD : va_D A (ti_wMJOTPN E ad dh du dv jh ju jv kh ku kv tx hi xi (ti_st (ti_gr (xi.1 1) (xi.2.1 1) 0 (xi.2.2 1))) xq (ti_ps (ti_gr (xi.1 1) (xi.2.1 1) 0 (xi.2.2 1)) (w9 - 10)) un) := ti_asD hD [.inr 0, .inr 1, .inr 2, .inr 3, .inr 4, .inr 5, .inr 6, .inr 7, .inr 8, .inr 9, .inl 10, .inl 11, .inr 10, .inr 11, .inr 12, .inr 13] rfl rfl rfl rfl
                  refine W.eq (g2 := F0 m 171 ls []) rfl ?_
                  refine lv_aload_n hx hb dX0_height_171 rfl (lv_at hl 0 rfl) ?_
                  refine va_get (v := .ref (ad 18)) hx hb hts in_X0 hown hK hP 0 rfl rfl 6 (by decide) (hts _ q243) (fun _ h => h) rfl dX0_height_172 ?_
                  refine va_getN (v := .ref (ad 19)) hx hb hts in_X4 hown hK hP 12 rfl rfl 0 (by decide) (hE.use q197 rfl rfl) (fun _ h => h) rfl dX0_height_175 ?_
                  refine lv_iload_n hx hb dX0_height_178 rfl (lv_at hl 3 rfl) ?_
                  refine tn_iald (f := ti_ps (ti_gr (xi.1 1) (xi.2.1 1) 0 (xi.2.2 1)) (w9 - 10)) hx hb hK hP 13 0 rfl rfl (by omega) (by decide) dX0_height_179 ?_
                  have b179 := (ti_ps_le (ti_gr (xi.1 1) (xi.2.1 1) 0 (xi.2.2 1)) (w9 - 10)) a9
                  refine lv_sipush (v := nI 9999) hx hb dX0_height_180 (by decide) ?_
                  refine tn_lt (tgt := 191) hx hb dX0_height_183 (by decide) (by omega) (by omega) (fun c183 => ?_) (fun c183 => ?_)
                  · skip
                    refine lv_aload_n hx hb dX0_height_191 rfl (lv_at hl 0 rfl) ?_
                    refine va_get (v := .ref (ad 18)) hx hb hts in_X0 hown hK hP 0 rfl rfl 6 (by decide) (hts _ q243) (fun _ h => h) rfl dX0_height_192 ?_
                    refine va_getN (v := .ref (ad 19)) hx hb hts in_X4 hown hK hP 12 rfl rfl 0 (by decide) (hE.use q197 rfl rfl) (fun _ h => h) rfl dX0_height_195 ?_
                    refine lv_iload_n hx hb dX0_height_198 rfl (lv_at hl 3 rfl) ?_
                    refine tn_iald (f := ti_ps (ti_gr (xi.1 1) (xi.2.1 1) 0 (xi.2.2 1)) (w9 - 10)) hx hb hK hP 13 0 rfl rfl (by omega) (by decide) dX0_height_199 ?_
                    have b199 := (ti_ps_le (ti_gr (xi.1 1) (xi.2.1 1) 0 (xi.2.2 1)) (w9 - 10)) a9
                    exact hret ((ti_st (ti_gr (xi.1 1) (xi.2.1 1) 0 (xi.2.2 1)), xq, ti_ps (ti_gr (xi.1 1) (xi.2.1 1) 0 (xi.2.2 1)) (w9 - 10), un)) _ _ _ _ _ _ _ dX0_height_200 (by refine Eq.symm ?_; rw [ti_Sheight, if_neg (by rw [c4, c13, c24]; simp), if_neg (by rw [c36]; decide), hci, hca, if_neg sw43_0, if_neg sw43_1, if_neg sw43_2, hcw, ← show (ti_gr (xi.1 1) (xi.2.1 1) 0 (xi.2.2 1)) = I 1 from hJ 1 (by decide), ti_hx_eq (ti_alk_ps _ _) (ti_pn_le _ _) (ti_gap_ps (ti_gr_9 (hxi.1 1) (hxi.2.1 1) 0 _) _) (by omega) (by omega), if_neg (by omega)]) (⟨(ti_st_le (ti_gr (xi.1 1) (xi.2.1 1) 0 (xi.2.2 1))), hxq, (ti_ps_le (ti_gr (xi.1 1) (xi.2.1 1) 0 (xi.2.2 1)) (w9 - 10)), hun⟩) hP hS (Nat.le_refl _) (Nat.le_refl _)
                  · skip
                    refine lv_bipush (v := (-5)) hx hb dX0_height_186 (by decide) ?_
                    refine lv_goto (tgt := 200) hx hb dX0_height_188 (by decide) ?_
                    exact hret ((ti_st (ti_gr (xi.1 1) (xi.2.1 1) 0 (xi.2.2 1)), xq, ti_ps (ti_gr (xi.1 1) (xi.2.1 1) 0 (xi.2.2 1)) (w9 - 10), un)) _ _ _ _ _ _ _ dX0_height_200 (by refine Eq.symm ?_; rw [ti_Sheight, if_neg (by rw [c4, c13, c24]; simp), if_neg (by rw [c36]; decide), hci, hca, if_neg sw43_0, if_neg sw43_1, if_neg sw43_2, hcw, ← show (ti_gr (xi.1 1) (xi.2.1 1) 0 (xi.2.2 1)) = I 1 from hJ 1 (by decide), ti_hx_eq (ti_alk_ps _ _) (ti_pn_le _ _) (ti_gap_ps (ti_gr_9 (hxi.1 1) (hxi.2.1 1) 0 _) _) (by omega) (by omega), if_pos (by omega)]) (⟨(ti_st_le (ti_gr (xi.1 1) (xi.2.1 1) 0 (xi.2.2 1))), hxq, (ti_ps_le (ti_gr (xi.1 1) (xi.2.1 1) 0 (xi.2.2 1)) (w9 - 10)), hun⟩) hP hS (Nat.le_refl _) (Nat.le_refl _)
        · skip
          refine lv_bipush (v := (-2)) hx hb dX0_height_39 (by decide) ?_
          exact hret (xo, xq, xp, xn) _ _ _ _ _ _ _ dX0_height_41 (by rw [ti_Sheight, if_neg (by rw [c4, c13, c24]; simp), if_pos c36]) (⟨hxo, hxq, hxp, hxn⟩) hP hS (Nat.le_refl _) (Nat.le_refl _)
      · skip
        refine lv_iconst (v := (-1)) hx hb dX0_height_27 (by decide) ?_
        exact hret (xo, xq, xp, xn) _ _ _ _ _ _ _ dX0_height_28 (by rw [ti_Sheight, if_pos (by rw [c4, c13, c24]; rfl)]) (⟨hxo, hxq, hxp, hxn⟩) hP hS (Nat.le_refl _) (Nat.le_refl _)

set_option maxHeartbeats 2000000 in
theorem met_X0_isReduction (l : Launch) (D : va_G) (E : Nat → ClassId) (htr : l.stackTraces = false) (z0 : Nat) (ad dh du dv jh ju jv kh ku kv : Nat → Nat) (tx : Nat) (hi : Bool) (xi : ti_Ti) (xf : ti_Tf) (hxi : ti_Jok xi) (I : Nat → ti_GL) (hJ : ti_JI xi I) (hxf : ti_Fok xf) (hnd : ∀ i, i < 2 → (I i).Nodup) : ti_MetX (σ := ti_Tf) (τ := Unit) l D E yX0_isReduction (wsW_ yX0_isReduction cX0_isReduction 3 (some .boolean) [(80, 94, 97, 150)]) 7 1 6 z0 (ti_wMJF E ad dh du dv jh ju jv kh ku kv tx hi xi xf) [.ref (ad 0)] (fun _ => True) (fun u => ti_wMJF E ad dh du dv jh ju jv kh ku kv tx hi xi u) (fun u => some (.int (ti_b ((fun _ => ti_red I) u)))) (fun u => ti_Fok u) (fun _ _ => True) (fun w => RX14) (fun w => 0) (fun w => ti_wMJF E ad dh du dv jh ju jv kh ku kv tx hi xi xf) (fun w => []) (fun w => False) (fun w H => True) := by
  refine ti_metXH (by decide) (Nat.le_of_ble_eq_true rfl) ?_
  intro p e s m below meth c H A Q ls S hE hP hD hS hA hZ hAz hx0 htab hl hret hq
  obtain ⟨hQ, hr, hlk, hinit⟩ := hq
  have hsz0 := hS.1
  have hx := S.1
  have hb := S.2.1
  have hown := S.2.2.2.1
  have hts := S.2.2.2.2
  have hK := hE.1
  have hl : lv_has ls 3 [(0, .ref (ad 0))] := hl
  have hg0 := hJ 0 (by decide)
  have hg1 := hJ 1 (by decide)
  have hlen0 := ti_JI_len hJ (show 0 < 2 by decide)
  have hlen1 := ti_JI_len hJ (show 1 < 2 by decide)
  have h60 := hxi.2.2 0
  have h61 := hxi.2.2 1
  refine lv_aload_n hx hb dX0_isReduction_0 rfl (lv_at hl 0 rfl) ?_
  refine va_get (v := .ref (ad 1)) hx hb hts in_X0 hown hK hP 0 rfl rfl 0 (by decide) (hts _ q237) (fun _ h => h) rfl dX0_isReduction_1 ?_
  refine lv_iconst (v := nI 1) hx hb dX0_isReduction_4 (by decide) ?_
  refine tn_aald hx hb hK hP 1 5 rfl rfl (by omega) (by decide) dX0_isReduction_5 ?_
  refine lv_astore_n (lv' := [(1, .ref (jh 1)), (0, .ref (ad 0))]) hx hb dX0_isReduction_6 rfl hl (by decide) rfl (fun ls hl => ?_)
  refine lv_aload_n hx hb dX0_isReduction_7 rfl (lv_at hl 1 rfl) ?_
  refine va_get (v := .ref (ad 1)) hx hb hts in_X0 hown hK hP 0 rfl rfl 0 (by decide) (hts _ q237) (fun _ h => h) rfl dX0_isReduction_8 ?_
  refine lv_iconst (v := nI 0) hx hb dX0_isReduction_11 (by decide) ?_
  refine tn_aald hx hb hK hP 1 5 rfl rfl (by omega) (by decide) dX0_isReduction_12 ?_
  refine va_getN (v := .int (nI (xi.2.2 0))) hx hb hts in_X1 hown hK hP 2 rfl rfl 2 (by decide) (hE.use q117 rfl rfl) (fun _ h => h) rfl dX0_isReduction_13 ?_
  refine tn_if_eq (tgt := 26) hx hb dX0_isReduction_16 (by decide) (by omega) (fun c16 => ?_) (fun c16 => ?_)
  · skip
    refine lv_iconst (v := nI 0) hx hb dX0_isReduction_26 (by decide) ?_
    have hv9 : (nI 0) = ti_b ((fun _ => ti_red I) xf) := by rw [ti_red, if_pos (by rw [hlen0, hlen1]; omega)]; rfl
    refine W.eq (g2 := F0 m 27 ls [.int (ti_b ((fun _ => ti_red I) xf))]) (congrArg (fun z => F0 m 27 ls [.int z]) hv9) ?_
    exact hret _ xf _ _ _ _ (hxf) hP trivial hS (Nat.le_of_ble_eq_true rfl) (Nat.le_of_ble_eq_true rfl) (fun hq hf9 => W.zret hx hb hr (ti_b_nar _) hq hf9 dX0_isReduction_27 hlk)
  · skip
    refine lv_aload_n hx hb dX0_isReduction_19 rfl (lv_at hl 0 rfl) ?_
    refine va_getN (v := .int (nI (xi.2.2 1))) hx hb hts in_X1 hown hK hP 5 rfl rfl 2 (by decide) (hE.use q117 rfl rfl) (fun _ h => h) rfl dX0_isReduction_20 ?_
    refine tn_if_ne (tgt := 28) hx hb dX0_isReduction_23 (by decide) (by omega) (fun c23 => ?_) (fun c23 => ?_)
    · skip
      refine lv_iconst (v := nI 0) hx hb dX0_isReduction_28 (by decide) ?_
      refine lv_istore_n (lv' := [(2, .int (nI 0)), (1, .ref (jh 1)), (0, .ref (ad 0))]) hx hb dX0_isReduction_29 rfl hl (by decide) rfl (fun ls hl => ?_)
      have L30 : ∀ (N : Nat) (k : Nat) (ls : Array Slot) (H : Heap) (locs : List Loc), va_P D vwCl (ti_wMJF E ad dh du dv jh ju jv kh ku kv tx hi xi xf) H → va_D A (ti_wMJF E ad dh du dv jh ju jv kh ku kv tx hi xi xf) → va_S A s.heap H locs → (xi.2.2 0 - k) < N → (k ≤ xi.2.2 0) → (ti_all1 (I 1) (ti_gr (xi.1 0) (xi.2.1 0) k (xi.2.2 0 - k)) = ti_all1 (I 1) (I 0)) → lv_has ls 3 [(0, .ref (ad 0)), (1, .ref (jh 1)), (2, .int (nI k))] → W p l e (ti_rm 7 1 6) s m ([.ref (ad 0)] : List Value).toArray below meth c H locs 0 0 Q (F0 m 30 ls []) := by
        intro N
        induction N with
        | zero => intro k ls H locs hP hD hS h0; exact absurd h0 (Nat.not_lt_zero _)
        | succ N ih30 =>
          intro k ls H locs hP hD hS hN hk ha1 hl
          refine lv_iload_n hx hb dX0_isReduction_30 rfl (lv_at hl 2 rfl) ?_
          refine lv_aload_n hx hb dX0_isReduction_31 rfl (lv_at hl 0 rfl) ?_
          refine va_get (v := .ref (ad 1)) hx hb hts in_X0 hown hK hP 0 rfl rfl 0 (by decide) (hts _ q237) (fun _ h => h) rfl dX0_isReduction_32 ?_
          refine lv_iconst (v := nI 0) hx hb dX0_isReduction_35 (by decide) ?_
          refine tn_aald hx hb hK hP 1 5 rfl rfl (by omega) (by decide) dX0_isReduction_36 ?_
          refine va_getN (v := .int (nI (xi.2.2 0))) hx hb hts in_X1 hown hK hP 2 rfl rfl 2 (by decide) (hE.use q117 rfl rfl) (fun _ h => h) rfl dX0_isReduction_37 ?_
          refine tn_ge (tgt := 80) hx hb dX0_isReduction_40 (by decide) (by omega) (by omega) (fun c40 => ?_) (fun c40 => ?_)
          · skip
            rw [show xi.2.2 0 - k = 0 by omega, ti_gr_0] at ha1
            have ha1 : true = ti_all1 (I 1) (I 0) := ha1
            refine lv_aload_n hx hb dX0_isReduction_80 rfl (lv_at hl 0 rfl) ?_
            refine va_get (v := .ref (ad 5)) hx hb hts in_X0 hown hK hP 0 rfl rfl 2 (by decide) (hts _ q239) (fun _ h => h) rfl dX0_isReduction_81 ?_
            refine lv_aload_n hx hb dX0_isReduction_84 rfl (lv_at hl 0 rfl) ?_
            refine va_get (v := .ref (ad 1)) hx hb hts in_X0 hown hK hP 0 rfl rfl 0 (by decide) (hts _ q237) (fun _ h => h) rfl dX0_isReduction_85 ?_
            refine lv_iconst (v := nI 0) hx hb dX0_isReduction_88 (by decide) ?_
            refine tn_aald hx hb hK hP 1 5 rfl rfl (by omega) (by decide) dX0_isReduction_89 ?_
            by_cases hz90 : xi.2.2 0 = 0
            · skip
              refine ti_callX (ty_runV (As := [.ref (jh 0)]) (rest := []) S (met_X2_looks_z l D E htr z0 (ad 5) (ad 6) (ad 7) (ad 8) (ad 9) (ad 10) xf.1 xf.2.1 xf.2.2.1 xf.2.2.2.1 xf.2.2.2.2.1 xf.2.2.2.2.2.1 xf.2.2.2.2.2.2.1 xf.2.2.2.2.2.2.2.1 xf.2.2.2.2.2.2.2.2.1 xf.2.2.2.2.2.2.2.2.2 (jh 0) (ju 0) (jv 0) (xi.1 0) (xi.2.1 0) (xi.2.2 0) hz90 H.size) (cwV 1 S.2.2.2.2 (lw_V q357 q358 q359 q68 q360) rfl rfl rfl (by decide +kernel) ⟨Nat.le_of_ble_eq_true rfl, Nat.le_of_ble_eq_true rfl⟩) (ti_preXV (xp := fun _ => True) hE hP hD hS rfl hZ hAz trivial [8, 9, 10, 11, 12, 13, 2, 3, 4] rfl rfl 8 rfl rfl) rfl rfl hl.1 rfl (lv_room (Nat.le_of_ble_eq_true rfl)) dX0_isReduction_90 ⟨Nat.le_of_ble_eq_true rfl, Nat.le_of_ble_eq_true rfl⟩) hP hD hS hA [8, 9, 10, 11, 12, 13, 2, 3, 4] rfl (fun _ => rfl) (fun _ => rfl) (fun _ _ _ h9 => absurd h9 id) (fun we H locs ce hpx hxx hFr hP hD hPe hnew hS hce hcv hcl => ?_)
              have hP : va_P D vwCl (ti_wMJF E ad dh du dv jh ju jv kh ku kv tx hi xi xf) H := ti_asP hP [.inl 0, .inl 1, .inr 6, .inr 7, .inr 8, .inl 5, .inl 6, .inl 7, .inr 0, .inr 1, .inr 2, .inr 3, .inr 4, .inr 5] rfl rfl rfl rfl
              have hD : va_D A (ti_wMJF E ad dh du dv jh ju jv kh ku kv tx hi xi xf) := ti_asD hD [.inl 0, .inl 1, .inr 6, .inr 7, .inr 8, .inl 5, .inl 6, .inl 7, .inr 0, .inr 1, .inr 2, .inr 3, .inr 4, .inr 5] rfl rfl rfl rfl
              refine vx_catch hown [] ⟨80, 94, 97, 150⟩ [] htab (fun z hz => absurd hz List.not_mem_nil) rfl (by decide) (hts _ q356) (hE.use q363 rfl rfl) hce hcv hcl ?_
              refine lv_astore_n (lv' := [(2, .ref we.1), (0, .ref (ad 0)), (1, .ref (jh 1))]) hx hb dX0_isReduction_97 rfl hl (by decide) rfl (fun ls hl => ?_)
              refine lv_iconst (v := nI 0) hx hb dX0_isReduction_98 (by decide) ?_
              have hv9 : (nI 0) = ti_b ((fun _ => ti_red I) xf) := by exact absurd hz90 (by omega)
              refine W.eq (g2 := F0 m 99 ls [.int (ti_b ((fun _ => ti_red I) xf))]) (congrArg (fun z => F0 m 99 ls [.int z]) hv9) ?_
              exact hret _ xf _ _ _ _ (hxf) hP trivial hS (Nat.le_of_ble_eq_true rfl) (Nat.le_of_ble_eq_true rfl) (fun hq hf9 => W.zret hx hb hr (ti_b_nar _) hq hf9 dX0_isReduction_99 hlk)
            · skip
              have hz1 : 0 < xi.2.2 0 := Nat.pos_of_ne_zero hz90
              have hnd9 : (ti_gr (xi.1 0) (xi.2.1 0) 0 (xi.2.2 0)).Nodup := by have h9 := hnd 0 (by decide); rw [← hJ 0 (by decide)] at h9; exact h9
              have hN9 : ti_r2 (ti_gr (xi.1 0) (xi.2.1 0) 0 (xi.2.2 0)) 9999 (List.range' 1 9) ≤ 6 := Nat.le_trans (ti_r2_le hnd9 9999) (by rw [ti_gr_len]; exact (hxi.2.2 0))
              refine ti_mV (As := [.ref (jh 0)]) (rest := []) S hE hP hD hS hA [8, 9, 10, 11, 12, 13, 2, 3, 4] rfl (met_X2_looks l D E (ad 5) (ad 6) (ad 7) (ad 8) (ad 9) (ad 10) xf.1 xf.2.1 xf.2.2.1 xf.2.2.2.1 xf.2.2.2.2.1 xf.2.2.2.2.2.1 xf.2.2.2.2.2.2.1 xf.2.2.2.2.2.2.2.1 xf.2.2.2.2.2.2.2.2.1 xf.2.2.2.2.2.2.2.2.2 (jh 0) (ju 0) (jv 0) (xi.1 0) (xi.2.1 0) (xi.2.2 0) (hxi.2.2 0) (hxi.1 0) (hxi.2.1 0) hxf.1 hxf.2.1 hxf.2.2.1 hxf.2.2.2.1 hz1 hN9) rfl (fun _ => rfl) (lw_V q357 q358 q359 q68 q360) 1 rfl 8 rfl rfl (by decide +kernel) ⟨Nat.le_of_ble_eq_true rfl, Nat.le_of_ble_eq_true rfl⟩ hl.1 rfl (Nat.le_of_ble_eq_true rfl) ⟨Nat.le_of_ble_eq_true rfl, Nat.le_of_ble_eq_true rfl⟩ dX0_isReduction_90 (fun u1 H locs hu hP hD hS => ?_)
              obtain ⟨hF1, hF2, hF3, hF4, hF5⟩ := hu
              have hFF : ti_fr u1.1 u1.2.1 u1.2.2.1 0 u1.2.2.2 = ti_FF (ti_gr (xi.1 0) (xi.2.1 0) 0 (xi.2.2 0)) := by rw [hF1]; exact ti_fxm (by rw [ti_gr_len]; exact hz1) (ti_gr_9 (hxi.1 0) (hxi.2.1 0) 0 _)
              have hFo : ti_Fok (Value.ref (jh 0), u1.1, u1.2.1, u1.2.2.1, u1.2.2.2, xf.2.2.2.2.2.1, xf.2.2.2.2.2.2.1, xf.2.2.2.2.2.2.2.1, xf.2.2.2.2.2.2.2.2.1, xf.2.2.2.2.2.2.2.2.2) := ⟨hF2, hF3, hF4, hF5, hxf.2.2.2.2⟩
              have hP : va_P D vwCl (ti_wMJF E ad dh du dv jh ju jv kh ku kv tx hi xi (Value.ref (jh 0), u1.1, u1.2.1, u1.2.2.1, u1.2.2.2, xf.2.2.2.2.2.1, xf.2.2.2.2.2.2.1, xf.2.2.2.2.2.2.2.1, xf.2.2.2.2.2.2.2.2.1, xf.2.2.2.2.2.2.2.2.2)) H := ti_asP hP [.inl 0, .inl 1, .inr 6, .inr 7, .inr 8, .inl 5, .inl 6, .inl 7, .inr 0, .inr 1, .inr 2, .inr 3, .inr 4, .inr 5] rfl rfl rfl rfl
              have hD : va_D A (ti_wMJF E ad dh du dv jh ju jv kh ku kv tx hi xi (Value.ref (jh 0), u1.1, u1.2.1, u1.2.2.1, u1.2.2.2, xf.2.2.2.2.2.1, xf.2.2.2.2.2.2.1, xf.2.2.2.2.2.2.2.1, xf.2.2.2.2.2.2.2.2.1, xf.2.2.2.2.2.2.2.2.2)) := ti_asD hD [.inl 0, .inl 1, .inr 6, .inr 7, .inr 8, .inl 5, .inl 6, .inl 7, .inr 0, .inr 1, .inr 2, .inr 3, .inr 4, .inr 5] rfl rfl rfl rfl
              refine W.eq (g2 := F0 m 93 ls [.ref (ad 5)]) rfl ?_
              refine lv_pop hx hb dX0_isReduction_93 rfl ?_
              refine lv_goto (tgt := 100) hx hb dX0_isReduction_94 (by decide) ?_
              refine lv_iconst (v := nI 0) hx hb dX0_isReduction_100 (by decide) ?_
              refine lv_istore_n (lv' := [(2, .int (nI 0)), (0, .ref (ad 0)), (1, .ref (jh 1))]) hx hb dX0_isReduction_101 rfl hl (by decide) rfl (fun ls hl => ?_)
              have L102 : ∀ (N : Nat) (k : Nat) (ls : Array Slot) (H : Heap) (locs : List Loc), va_P D vwCl (ti_wMJF E ad dh du dv jh ju jv kh ku kv tx hi xi (Value.ref (jh 0), u1.1, u1.2.1, u1.2.2.1, u1.2.2.2, xf.2.2.2.2.2.1, xf.2.2.2.2.2.2.1, xf.2.2.2.2.2.2.2.1, xf.2.2.2.2.2.2.2.2.1, xf.2.2.2.2.2.2.2.2.2)) H → va_D A (ti_wMJF E ad dh du dv jh ju jv kh ku kv tx hi xi (Value.ref (jh 0), u1.1, u1.2.1, u1.2.2.1, u1.2.2.2, xf.2.2.2.2.2.1, xf.2.2.2.2.2.2.1, xf.2.2.2.2.2.2.2.1, xf.2.2.2.2.2.2.2.2.1, xf.2.2.2.2.2.2.2.2.2)) → va_S A s.heap H locs → (xi.2.2 1 - k) < N → (k ≤ xi.2.2 1) → (ti_all2 (ti_FF (I 0)) (ti_gr (xi.1 1) (xi.2.1 1) k (xi.2.2 1 - k)) = ti_all2 (ti_FF (I 0)) (I 1)) → lv_has ls 3 [(0, .ref (ad 0)), (1, .ref (jh 1)), (2, .int (nI k))] → W p l e (ti_rm 7 1 6) s m ([.ref (ad 0)] : List Value).toArray below meth c H locs 0 0 Q (F0 m 102 ls []) := by
                intro N
                induction N with
                | zero => intro k ls H locs hP hD hS h0; exact absurd h0 (Nat.not_lt_zero _)
                | succ N ih102 =>
                  intro k ls H locs hP hD hS hN hk ha2 hl
                  refine lv_iload_n hx hb dX0_isReduction_102 rfl (lv_at hl 2 rfl) ?_
                  refine lv_aload_n hx hb dX0_isReduction_103 rfl (lv_at hl 1 rfl) ?_
                  refine va_getN (v := .int (nI (xi.2.2 1))) hx hb hts in_X1 hown hK hP 5 rfl rfl 2 (by decide) (hE.use q117 rfl rfl) (fun _ h => h) rfl dX0_isReduction_104 ?_
                  refine tn_ge (tgt := 140) hx hb dX0_isReduction_107 (by decide) (by omega) (by omega) (fun c107 => ?_) (fun c107 => ?_)
                  · skip
                    rw [show xi.2.2 1 - k = 0 by omega, ti_gr_0] at ha2
                    have ha2 : true = ti_all2 (ti_FF (I 0)) (I 1) := ha2
                    refine lv_iconst (v := nI 1) hx hb dX0_isReduction_140 (by decide) ?_
                    have hv9 : (nI 1) = ti_b ((fun _ => ti_red I) ((Value.ref (jh 0), u1.1, u1.2.1, u1.2.2.1, u1.2.2.2, xf.2.2.2.2.2.1, xf.2.2.2.2.2.2.1, xf.2.2.2.2.2.2.2.1, xf.2.2.2.2.2.2.2.2.1, xf.2.2.2.2.2.2.2.2.2))) := by rw [ti_red, if_neg (by rw [hlen0, hlen1]; omega), ← ha1, ← ha2]; rfl
                    refine W.eq (g2 := F0 m 141 ls [.int (ti_b ((fun _ => ti_red I) ((Value.ref (jh 0), u1.1, u1.2.1, u1.2.2.1, u1.2.2.2, xf.2.2.2.2.2.1, xf.2.2.2.2.2.2.1, xf.2.2.2.2.2.2.2.1, xf.2.2.2.2.2.2.2.2.1, xf.2.2.2.2.2.2.2.2.2))))]) (congrArg (fun z => F0 m 141 ls [.int z]) hv9) ?_
                    exact hret _ ((Value.ref (jh 0), u1.1, u1.2.1, u1.2.2.1, u1.2.2.2, xf.2.2.2.2.2.1, xf.2.2.2.2.2.2.1, xf.2.2.2.2.2.2.2.1, xf.2.2.2.2.2.2.2.2.1, xf.2.2.2.2.2.2.2.2.2)) _ _ _ _ (hFo) hP trivial hS (Nat.le_of_ble_eq_true rfl) (Nat.le_of_ble_eq_true rfl) (fun hq hf9 => W.zret hx hb hr (ti_b_nar _) hq hf9 dX0_isReduction_141 hlk)
                  · skip
                    obtain ⟨m9, hm9⟩ : ∃ m9, xi.2.2 1 - k = m9 + 1 := ⟨xi.2.2 1 - k - 1, by omega⟩
                    rw [hm9, ti_gr_s, ti_all2] at ha2
                    refine lv_aload_n hx hb dX0_isReduction_110 rfl (lv_at hl 0 rfl) ?_
                    refine va_get (v := .ref (ad 5)) hx hb hts in_X0 hown hK hP 0 rfl rfl 2 (by decide) (hts _ q239) (fun _ h => h) rfl dX0_isReduction_111 ?_
                    refine lv_aload_n hx hb dX0_isReduction_114 rfl (lv_at hl 1 rfl) ?_
                    refine va_getN (v := .ref (ju 1)) hx hb hts in_X1 hown hK hP 5 rfl rfl 0 (by decide) (hE.use q111 rfl rfl) (fun _ h => h) rfl dX0_isReduction_115 ?_
                    refine lv_iload_n hx hb dX0_isReduction_118 rfl (lv_at hl 2 rfl) ?_
                    refine tn_iald (f := xi.1 1) hx hb hK hP 6 0 rfl rfl (by omega) (by decide) dX0_isReduction_119 ?_
                    have b119 := (hxi.1 1) k
                    refine lv_aload_n hx hb dX0_isReduction_120 rfl (lv_at hl 1 rfl) ?_
                    refine va_getN (v := .ref (jv 1)) hx hb hts in_X1 hown hK hP 5 rfl rfl 1 (by decide) (hE.use q114 rfl rfl) (fun _ h => h) rfl dX0_isReduction_121 ?_
                    refine lv_iload_n hx hb dX0_isReduction_124 rfl (lv_at hl 2 rfl) ?_
                    refine tn_iald (f := xi.2.1 1) hx hb hK hP 7 0 rfl rfl (by omega) (by decide) dX0_isReduction_125 ?_
                    have b125 := (hxi.2.1 1) k
                    refine ti_pV (As := [.int (nI ((xi.1 1) k)), .int (nI ((xi.2.1 1) k))]) (rest := []) (v := .int (ti_b (ti_hull ((xi.1 1) k) ((xi.2.1 1) k) (ti_fr u1.1 u1.2.1 u1.2.2.1 0 u1.2.2.2)))) S hE hP [8, 9, 10, 11, 12, 13] (met_X2_hasInHull l D E (ad 5) (ad 6) (ad 7) (ad 8) (ad 9) (ad 10) (Value.ref (jh 0)) u1.1 u1.2.1 u1.2.2.1 u1.2.2.2 xf.2.2.2.2.2.1 xf.2.2.2.2.2.2.1 xf.2.2.2.2.2.2.2.1 xf.2.2.2.2.2.2.2.2.1 xf.2.2.2.2.2.2.2.2.2 hFo.1 hFo.2.1 hFo.2.2.1 hFo.2.2.2.1 ((xi.1 1) k) ((xi.2.1 1) k) b119 b125) rfl (lw_V q463 q464 q465 q68 q466) 2 rfl 8 rfl rfl (by decide +kernel) ⟨Nat.le_of_ble_eq_true rfl, Nat.le_of_ble_eq_true rfl⟩ hl.1 rfl (Nat.le_of_ble_eq_true rfl) ⟨Nat.le_of_ble_eq_true rfl, Nat.le_of_ble_eq_true rfl⟩ dX0_isReduction_126 ?_
                    refine tb_ne (tgt := 134) hx hb dX0_isReduction_129 (by decide) (fun c129 => ?_) (fun c129 => ?_)
                    · skip
                      rw [hFF, show (ti_gr (xi.1 0) (xi.2.1 0) 0 (xi.2.2 0)) = I 0 from hg0] at c129
                      rw [if_pos c129] at ha2
                      refine lv_iinc (v := nI (k + 1)) (lv' := [(2, .int (nI (k + 1))), (0, .ref (ad 0)), (1, .ref (jh 1))]) hx hb dX0_isReduction_134 hl (k := 2) rfl (nI_1 k) (by decide) rfl (fun ls hl => ?_)
                      refine lv_goto (tgt := 102) hx hb dX0_isReduction_137 (by decide) ?_
                      exact ih102 (k + 1) _ _ _ hP hD hS (by omega) (by omega) (by rw [show xi.2.2 1 - (k + 1) = m9 by omega]; exact ha2) (lv_sub hl [1, 2, 0] rfl)
                    · skip
                      rw [hFF, show (ti_gr (xi.1 0) (xi.2.1 0) 0 (xi.2.2 0)) = I 0 from hg0] at c129
                      rw [if_neg (by rw [c129]; decide)] at ha2
                      refine lv_iconst (v := nI 0) hx hb dX0_isReduction_132 (by decide) ?_
                      have hv9 : (nI 0) = ti_b ((fun _ => ti_red I) ((Value.ref (jh 0), u1.1, u1.2.1, u1.2.2.1, u1.2.2.2, xf.2.2.2.2.2.1, xf.2.2.2.2.2.2.1, xf.2.2.2.2.2.2.2.1, xf.2.2.2.2.2.2.2.2.1, xf.2.2.2.2.2.2.2.2.2))) := by rw [ti_red, if_neg (by rw [hlen0, hlen1]; omega), ← ha1, ← ha2]; rfl
                      refine W.eq (g2 := F0 m 133 ls [.int (ti_b ((fun _ => ti_red I) ((Value.ref (jh 0), u1.1, u1.2.1, u1.2.2.1, u1.2.2.2, xf.2.2.2.2.2.1, xf.2.2.2.2.2.2.1, xf.2.2.2.2.2.2.2.1, xf.2.2.2.2.2.2.2.2.1, xf.2.2.2.2.2.2.2.2.2))))]) (congrArg (fun z => F0 m 133 ls [.int z]) hv9) ?_
                      exact hret _ ((Value.ref (jh 0), u1.1, u1.2.1, u1.2.2.1, u1.2.2.2, xf.2.2.2.2.2.1, xf.2.2.2.2.2.2.1, xf.2.2.2.2.2.2.2.1, xf.2.2.2.2.2.2.2.2.1, xf.2.2.2.2.2.2.2.2.2)) _ _ _ _ (hFo) hP trivial hS (Nat.le_of_ble_eq_true rfl) (Nat.le_of_ble_eq_true rfl) (fun hq hf9 => W.zret hx hb hr (ti_b_nar _) hq hf9 dX0_isReduction_133 hlk)
              exact L102 _ 0 _ _ _ hP hD hS (Nat.lt_succ_self _) (by omega) (congrArg (ti_all2 (ti_FF (I 0))) hg1) (lv_sub hl [1, 2, 0] rfl)
          · skip
            obtain ⟨m9, hm9⟩ : ∃ m9, xi.2.2 0 - k = m9 + 1 := ⟨xi.2.2 0 - k - 1, by omega⟩
            rw [hm9, ti_gr_s, ti_all1] at ha1
            refine lv_aload_n hx hb dX0_isReduction_43 rfl (lv_at hl 1 rfl) ?_
            refine lv_aload_n hx hb dX0_isReduction_44 rfl (lv_at hl 0 rfl) ?_
            refine va_get (v := .ref (ad 1)) hx hb hts in_X0 hown hK hP 0 rfl rfl 0 (by decide) (hts _ q237) (fun _ h => h) rfl dX0_isReduction_45 ?_
            refine lv_iconst (v := nI 0) hx hb dX0_isReduction_48 (by decide) ?_
            refine tn_aald hx hb hK hP 1 5 rfl rfl (by omega) (by decide) dX0_isReduction_49 ?_
            refine va_getN (v := .ref (ju 0)) hx hb hts in_X1 hown hK hP 2 rfl rfl 0 (by decide) (hE.use q111 rfl rfl) (fun _ h => h) rfl dX0_isReduction_50 ?_
            refine lv_iload_n hx hb dX0_isReduction_53 rfl (lv_at hl 2 rfl) ?_
            refine tn_iald (f := xi.1 0) hx hb hK hP 3 0 rfl rfl (by omega) (by decide) dX0_isReduction_54 ?_
            have b54 := (hxi.1 0) k
            refine lv_aload_n hx hb dX0_isReduction_55 rfl (lv_at hl 0 rfl) ?_
            refine va_get (v := .ref (ad 1)) hx hb hts in_X0 hown hK hP 0 rfl rfl 0 (by decide) (hts _ q237) (fun _ h => h) rfl dX0_isReduction_56 ?_
            refine lv_iconst (v := nI 0) hx hb dX0_isReduction_59 (by decide) ?_
            refine tn_aald hx hb hK hP 1 5 rfl rfl (by omega) (by decide) dX0_isReduction_60 ?_
            refine va_getN (v := .ref (jv 0)) hx hb hts in_X1 hown hK hP 2 rfl rfl 1 (by decide) (hE.use q114 rfl rfl) (fun _ h => h) rfl dX0_isReduction_61 ?_
            refine lv_iload_n hx hb dX0_isReduction_64 rfl (lv_at hl 2 rfl) ?_
            refine tn_iald (f := xi.2.1 0) hx hb hK hP 4 0 rfl rfl (by omega) (by decide) dX0_isReduction_65 ?_
            have b65 := (hxi.2.1 0) k
            refine ti_pV (As := [.int (nI ((xi.1 0) k)), .int (nI ((xi.2.1 0) k))]) (rest := []) (v := .int (ti_b (ti_hb ((xi.1 0) k) ((xi.2.1 0) k) (-5) (ti_gr (xi.1 1) (xi.2.1 1) 0 (xi.2.2 1)) 0))) S hE hP [5, 6, 7] (met_X1_holds l D E (jh 1) (ju 1) (jv 1) (xi.1 1) (xi.2.1 1) (xi.2.2 1) (hxi.2.2 1) (hxi.1 1) (hxi.2.1 1) ((xi.1 0) k) ((xi.2.1 0) k) b54 b65) rfl (lw_V q626 q603 q604 q67 q605) 2 rfl 5 rfl rfl (by decide +kernel) ⟨Nat.le_of_ble_eq_true rfl, Nat.le_of_ble_eq_true rfl⟩ hl.1 rfl (Nat.le_of_ble_eq_true rfl) ⟨Nat.le_of_ble_eq_true rfl, Nat.le_of_ble_eq_true rfl⟩ dX0_isReduction_66 ?_
            refine tb_ne (tgt := 74) hx hb dX0_isReduction_69 (by decide) (fun c69 => ?_) (fun c69 => ?_)
            · skip
              rw [show (ti_gr (xi.1 1) (xi.2.1 1) 0 (xi.2.2 1)) = I 1 from hg1] at c69
              rw [if_pos c69] at ha1
              refine lv_iinc (v := nI (k + 1)) (lv' := [(2, .int (nI (k + 1))), (0, .ref (ad 0)), (1, .ref (jh 1))]) hx hb dX0_isReduction_74 hl (k := 2) rfl (nI_1 k) (by decide) rfl (fun ls hl => ?_)
              refine lv_goto (tgt := 30) hx hb dX0_isReduction_77 (by decide) ?_
              exact ih30 (k + 1) _ _ _ hP hD hS (by omega) (by omega) (by rw [show xi.2.2 0 - (k + 1) = m9 by omega]; exact ha1) (lv_sub hl [1, 2, 0] rfl)
            · skip
              rw [show (ti_gr (xi.1 1) (xi.2.1 1) 0 (xi.2.2 1)) = I 1 from hg1] at c69
              rw [if_neg (by rw [c69]; decide)] at ha1
              refine lv_iconst (v := nI 0) hx hb dX0_isReduction_72 (by decide) ?_
              have hv9 : (nI 0) = ti_b ((fun _ => ti_red I) xf) := by rw [ti_red, if_neg (by rw [hlen0, hlen1]; omega), ← ha1]; rfl
              refine W.eq (g2 := F0 m 73 ls [.int (ti_b ((fun _ => ti_red I) xf))]) (congrArg (fun z => F0 m 73 ls [.int z]) hv9) ?_
              exact hret _ xf _ _ _ _ (hxf) hP trivial hS (Nat.le_of_ble_eq_true rfl) (Nat.le_of_ble_eq_true rfl) (fun hq hf9 => W.zret hx hb hr (ti_b_nar _) hq hf9 dX0_isReduction_73 hlk)
      exact L30 _ 0 _ _ _ hP hD hS (Nat.lt_succ_self _) (by omega) (congrArg (ti_all1 (I 1)) hg0) (lv_sub hl [2, 1, 0] rfl)
    · skip
      refine lv_iconst (v := nI 0) hx hb dX0_isReduction_26 (by decide) ?_
      have hv9 : (nI 0) = ti_b ((fun _ => ti_red I) xf) := by rw [ti_red, if_pos (by rw [hlen0, hlen1]; omega)]; rfl
      refine W.eq (g2 := F0 m 27 ls [.int (ti_b ((fun _ => ti_red I) xf))]) (congrArg (fun z => F0 m 27 ls [.int z]) hv9) ?_
      exact hret _ xf _ _ _ _ (hxf) hP trivial hS (Nat.le_of_ble_eq_true rfl) (Nat.le_of_ble_eq_true rfl) (fun hq hf9 => W.zret hx hb hr (ti_b_nar _) hq hf9 dX0_isReduction_27 hlk)

set_option maxHeartbeats 1000000 in
theorem met_X0_bounds (l : Launch) (D : va_G) (E : Nat → ClassId) (s0 s1 : Nat) (f : Nat → Nat) (hf : ∀ k, f k ≤ 9999) : ti_MetM (σ := Unit) l D E yX0_bounds cX0_bounds 2 none 1 0 0 (ti_wS E s0 s1 f) [.ref s0] (fun _ => ti_wS E s0 s1 f) (fun _ => none) (fun _ => True) := by
  refine ti_mutV (σ := Unit) (by decide) (Nat.le_of_ble_eq_true rfl) ?_
  intro p e s m below meth c H H0 A Q ls S hE hP hD hS hA hinit hl hret
  have hx := S.1
  have hb := S.2.1
  have hown := S.2.2.2.1
  have hts := S.2.2.2.2
  have hK := hE.1
  have hl : lv_has ls 2 [(0, .ref s0)] := hl
  refine lv_iconst (v := nI 0) hx hb dX0_bounds_0 (by decide) ?_
  refine lv_istore_n (lv' := [(1, .int (nI 0)), (0, .ref s0)]) hx hb dX0_bounds_1 rfl hl (by decide) rfl (fun ls hl => ?_)
  have L2 : ∀ (N : Nat) (k : Nat) (ls : Array Slot) (H : Heap) (locs : List Loc), va_P D vwCl (ti_wS E s0 s1 f) H → va_D A (ti_wS E s0 s1 f) → va_S A H0 H locs → (61 - k) < N → (k ≤ 61) → lv_has ls 2 [(0, .ref s0), (1, .int (nI k))] → W p l e (ti_rm 1 0 0) s m ([.ref s0] : List Value).toArray below meth c H locs 0 0 Q (F0 m 2 ls []) := by
    intro N
    induction N with
    | zero => intro k ls H locs hP hD hS h0; exact absurd h0 (Nat.not_lt_zero _)
    | succ N ih2 =>
      intro k ls H locs hP hD hS hN hk hl
      refine lv_iload_n hx hb dX0_bounds_2 rfl (lv_at hl 1 rfl) ?_
      refine lv_bipush (v := nI 61) hx hb dX0_bounds_3 (by decide) ?_
      refine tn_ge (tgt := 32) hx hb dX0_bounds_5 (by decide) (by omega) (by omega) (fun c5 => ?_) (fun c5 => ?_)
      · skip
        exact hret () _ _ _ _ _ _ dX0_bounds_32 (trivial) hP hS (Nat.le_refl _) (Nat.le_refl _)
      · skip
        refine lv_aload_n hx hb dX0_bounds_8 rfl (lv_at hl 0 rfl) ?_
        refine va_getN (v := .ref s1) hx hb hts in_X4 hown hK hP 0 rfl rfl 0 (by decide) (hE.use q197 rfl rfl) (fun _ h => h) rfl dX0_bounds_9 ?_
        refine lv_iload_n hx hb dX0_bounds_12 rfl (lv_at hl 1 rfl) ?_
        refine lv_sipush (v := nI 9999) hx hb dX0_bounds_13 (by decide) ?_
        refine lv_aload_n hx hb dX0_bounds_16 rfl (lv_at hl 0 rfl) ?_
        refine va_getN (v := .ref s1) hx hb hts in_X4 hown hK hP 0 rfl rfl 0 (by decide) (hE.use q197 rfl rfl) (fun _ h => h) rfl dX0_bounds_17 ?_
        refine lv_iload_n hx hb dX0_bounds_20 rfl (lv_at hl 1 rfl) ?_
        refine tn_iald (f := f) hx hb hK hP 1 0 rfl rfl (by omega) (by decide) dX0_bounds_21 ?_
        have b21 := hf k
        refine tn_min S hl.1 q820 (Nat.le_of_ble_eq_true rfl) (Nat.le_of_ble_eq_true rfl) ⟨Nat.le_refl _, Nat.le_refl _⟩ (by omega) (by omega) dX0_bounds_22 ?_
        refine tn_iast (f := f) hx hb hK hP hD hS 1 0 rfl rfl (by omega) (by decide) dX0_bounds_25 (fun H locs hP hD hS => ?_)
        have hP : va_P D vwCl (ti_wS E s0 s1 (va_up f k (min 9999 (f k)))) H := hP
        have hD : va_D A (ti_wS E s0 s1 (va_up f k (min 9999 (f k)))) := hD
        have hP := ti_P_rep (g := ti_n f) hP 1 rfl (fun j hj => ti_n_at (by rw [Nat.min_eq_right (hf k), ti_up_id]))
        have hD := ti_D_rep (q := 1) hD rfl (e := .inl (E 0, 61, .inl (ti_n f)))
        have hP : va_P D vwCl (ti_wS E s0 s1 f) H := hP
        have hD : va_D A (ti_wS E s0 s1 f) := hD
        refine lv_iinc (v := nI (k + 1)) (lv' := [(1, .int (nI (k + 1))), (0, .ref s0)]) hx hb dX0_bounds_26 hl (k := 1) rfl (nI_1 k) (by decide) rfl (fun ls hl => ?_)
        refine lv_goto (tgt := 2) hx hb dX0_bounds_29 (by decide) ?_
        exact ih2 (k + 1) _ _ _ hP hD hS (by omega) (by omega) (lv_sub hl [1, 0] rfl)
  exact L2 _ 0 _ _ _ hP hD hS (Nat.lt_succ_self _) (by omega) (lv_sub hl [1, 0] rfl)

set_option maxHeartbeats 1000000 in
theorem met_X0_met (l : Launch) (D : va_G) (E : Nat → ClassId) (ad dh du dv jh ju jv kh ku kv : Nat → Nat) (tx : Nat) (hi : Bool) (xi : ti_Ti) (xo : Nat → Nat) (xq : Nat → Nat) (xp : Nat → Nat) (xn : Nat → Nat) (hxi : ti_Jok xi) (I : Nat → ti_GL) (hJ : ti_JI xi I) (hxo : ∀ k, xo k ≤ 9999) (hxq : ∀ k, xq k ≤ 9999) (hxp : ∀ k, xp k ≤ 9999) (hxn : ∀ k, xn k ≤ 9999) : ti_MetM (σ := (Nat → Nat) × (Nat → Nat) × (Nat → Nat) × (Nat → Nat)) l D E yX0_met cX0_met 3 (some .int) 4 2 62 (ti_wMJOTPN E ad dh du dv jh ju jv kh ku kv tx hi xi xo xq xp xn) [.ref (ad 0)] (fun u => ti_wMJOTPN E ad dh du dv jh ju jv kh ku kv tx hi xi u.1 u.2.1 u.2.2.1 u.2.2.2) (fun u => some (.int ((fun _ => ti_mt I (List.range' 0 6)) u))) (fun u => (∀ k, u.1 k ≤ 9999) ∧ (∀ k, u.2.1 k ≤ 9999) ∧ (∀ k, u.2.2.1 k ≤ 9999) ∧ ∀ k, u.2.2.2 k ≤ 9999) := by
  refine ti_mutI (σ := (Nat → Nat) × (Nat → Nat) × (Nat → Nat) × (Nat → Nat)) (vi := fun _ => ti_mt I (List.range' 0 6)) (by decide) (Nat.le_of_ble_eq_true rfl) ?_
  intro p e s m below meth c H H0 A Q ls S hE hP hD hS hA hinit hl hret
  have hx := S.1
  have hb := S.2.1
  have hown := S.2.2.2.1
  have hts := S.2.2.2.2
  have hK := hE.1
  have hl : lv_has ls 3 [(0, .ref (ad 0))] := hl
  have h90 : ∀ q ∈ I 0, q.1 ≤ 9 ∧ q.2 ≤ 9 := by rw [← show (ti_gr (xi.1 0) (xi.2.1 0) 0 (xi.2.2 0)) = I 0 from hJ 0 (by decide)]; exact (ti_gr_9 (hxi.1 0) (hxi.2.1 0) 0 _)
  have h91 : ∀ q ∈ I 1, q.1 ≤ 9 ∧ q.2 ≤ 9 := by rw [← show (ti_gr (xi.1 1) (xi.2.1 1) 0 (xi.2.2 1)) = I 1 from hJ 1 (by decide)]; exact (ti_gr_9 (hxi.1 1) (hxi.2.1 1) 0 _)
  have hb1 := hS.1
  refine ti_newM hx hb hts in_X4 tyX4 tyX4_ok hown (hts _ q190) (hts _ q191) (hts _ q70) hK hP hD hS hA (ci := 4) rfl ti_df4 (Nat.le_of_ble_eq_true rfl) (Nat.le_of_ble_eq_true rfl) dX0_met_0 (fun q1 H hq1 hs1 hf1 ho1 hP hD hS => ?_)
  have g_q1 : H0.size ≤ q1 := by omega
  have hP : va_P D vwCl (ti_wMJOTPN E ad dh du dv jh ju jv kh ku kv tx hi xi xo xq xp xn ++ [(q1, .inr (4, [.null]))]) H := hP
  have hD : va_D A (ti_wMJOTPN E ad dh du dv jh ju jv kh ku kv tx hi xi xo xq xp xn ++ [(q1, .inr (4, [.null]))]) := hD
  refine lv_dup hx hb dX0_met_3 rfl ?_
  have hb2 := hS.1
  refine ti_nIN (As := []) (rest := [.ref q1]) S hE hP hD hS hA [16] rfl (met_X4_init l D E q1) rfl (fun _ => rfl) (lw_meth q194) q70 q192 q193 rfl 0 rfl (by decide +kernel) ⟨Nat.le_of_ble_eq_true rfl, Nat.le_of_ble_eq_true rfl⟩ hl.1 rfl (Nat.le_of_ble_eq_true rfl) ⟨Nat.le_of_ble_eq_true rfl, Nat.le_of_ble_eq_true rfl⟩ dX0_met_4 (fun u2 H locs hu hn2 hP hD hS => ?_)
  have g_u2_0 : H0.size ≤ u2 := Nat.le_trans hb2 (hn2 0 _ rfl)
  have hP : va_P D vwCl (ti_wMJOTPN E ad dh du dv jh ju jv kh ku kv tx hi xi xo xq xp xn ++ [(q1, .inr (4, [.ref u2])), (u2, .inl (E 0, 61, .inl (ti_n (fun _ => 0))))]) H := hP
  have hD : va_D A (ti_wMJOTPN E ad dh du dv jh ju jv kh ku kv tx hi xi xo xq xp xn ++ [(q1, .inr (4, [.ref u2])), (u2, .inl (E 0, 61, .inl (ti_n (fun _ => 0))))]) := hD
  refine W.eq (g2 := F0 m 7 ls [.ref q1]) rfl ?_
  refine lv_aload_n hx hb dX0_met_7 rfl (lv_at hl 0 rfl) ?_
  refine va_get (v := .ref (ad 1)) hx hb hts in_X0 hown hK hP 0 rfl rfl 0 (by decide) (hts _ q237) (fun _ h => h) rfl dX0_met_8 ?_
  refine lv_iconst (v := nI 0) hx hb dX0_met_11 (by decide) ?_
  refine tn_aald hx hb hK hP 1 5 rfl rfl (by omega) (by decide) dX0_met_12 ?_
  refine ti_mV (As := [.ref (jh 0)]) (rest := []) S hE hP hD hS hA [16, 17, 2, 3, 4] rfl (met_X4_of l D E q1 u2 (fun _ => 0) (jh 0) (ju 0) (jv 0) (xi.1 0) (xi.2.1 0) (xi.2.2 0) (hxi.2.2 0) (hxi.1 0) (hxi.2.1 0)) rfl (fun _ => rfl) (lw_V q774 q775 q776 q70 q777) 1 rfl 16 rfl rfl (by decide +kernel) ⟨Nat.le_of_ble_eq_true rfl, Nat.le_of_ble_eq_true rfl⟩ hl.1 rfl (Nat.le_of_ble_eq_true rfl) ⟨Nat.le_of_ble_eq_true rfl, Nat.le_of_ble_eq_true rfl⟩ dX0_met_13 (fun _ H locs hu hP hD hS => ?_)
  have hP : va_P D vwCl (ti_wMJOTPN E ad dh du dv jh ju jv kh ku kv tx hi xi xo xq xp xn ++ [(q1, .inr (4, [.ref u2])), (u2, .inl (E 0, 61, .inl (ti_n (ti_st (ti_gr (xi.1 0) (xi.2.1 0) 0 (xi.2.2 0))))))]) H := hP
  have hD : va_D A (ti_wMJOTPN E ad dh du dv jh ju jv kh ku kv tx hi xi xo xq xp xn ++ [(q1, .inr (4, [.ref u2])), (u2, .inl (E 0, 61, .inl (ti_n (ti_st (ti_gr (xi.1 0) (xi.2.1 0) 0 (xi.2.2 0))))))]) := hD
  refine W.eq (g2 := F0 m 16 ls [.ref q1]) rfl ?_
  refine lv_astore_n (lv' := [(1, .ref q1), (0, .ref (ad 0))]) hx hb dX0_met_16 rfl hl (by decide) rfl (fun ls hl => ?_)
  refine lv_iconst (v := nI 0) hx hb dX0_met_17 (by decide) ?_
  refine lv_istore_n (lv' := [(2, .int (nI 0)), (1, .ref q1), (0, .ref (ad 0))]) hx hb dX0_met_18 rfl hl (by decide) rfl (fun ls hl => ?_)
  have L19 : ∀ (N : Nat) (r9 : Nat) (fo fq fp fn : Nat → Nat) (ls : Array Slot) (H : Heap) (locs : List Loc), va_P D vwCl (ti_wMJOTPN E ad dh du dv jh ju jv kh ku kv tx hi xi fo fq fp fn ++ [(q1, .inr (4, [.ref u2])), (u2, .inl (E 0, 61, .inl (ti_n (ti_st (ti_gr (xi.1 0) (xi.2.1 0) 0 (xi.2.2 0))))))]) H → va_D A (ti_wMJOTPN E ad dh du dv jh ju jv kh ku kv tx hi xi fo fq fp fn ++ [(q1, .inr (4, [.ref u2])), (u2, .inl (E 0, 61, .inl (ti_n (ti_st (ti_gr (xi.1 0) (xi.2.1 0) 0 (xi.2.2 0))))))]) → va_S A H0 H locs → (6 - r9) < N → (r9 ≤ 6) → (∀ k, fo k ≤ 9999) → (∀ k, fq k ≤ 9999) → (∀ k, fp k ≤ 9999) → (∀ k, fn k ≤ 9999) → (ti_mts (ti_gr (xi.1 0) (xi.2.1 0) 0 (xi.2.2 0)) (ti_gr (xi.1 1) (xi.2.1 1) 0 (xi.2.2 1)) (List.range' r9 (6 - r9)) = ti_mt I (List.range' 0 6)) → lv_has ls 3 [(0, .ref (ad 0)), (1, .ref q1), (2, .int (nI r9))] → W p l e (ti_rm 4 2 62) s m ([.ref (ad 0)] : List Value).toArray below meth c H locs (0 + 1 + 1) (0 + 1 + 61) Q (F0 m 19 ls []) := by
    intro N
    induction N with
    | zero => intro r9 fo fq fp fn ls H locs hP hD hS h0; exact absurd h0 (Nat.not_lt_zero _)
    | succ N ih19 =>
      intro r9 fo fq fp fn ls H locs hP hD hS hN hr hfo hfq hfp hfn hmt hl
      refine lv_iload_n hx hb dX0_met_19 rfl (lv_at hl 2 rfl) ?_
      refine lv_iconst (v := nI 5) hx hb dX0_met_20 (by decide) ?_
      refine tn_gt (tgt := 109) hx hb dX0_met_21 (by decide) (by omega) (by omega) (fun c21 => ?_) (fun c21 => ?_)
      · skip
        refine lv_bipush (v := (-5)) hx hb dX0_met_109 (by decide) ?_
        exact hret (fo, fq, fp, fn) _ _ _ _ _ _ _ dX0_met_111 (by rw [show 6 - r9 = 0 by omega] at hmt; exact hmt) (⟨hfo, hfq, hfp, hfn⟩) (ti_P_l hP) hS (by omega) (by omega)
      · skip
        obtain ⟨m9, hm9⟩ : ∃ m9, 6 - r9 = m9 + 1 := ⟨6 - r9 - 1, by omega⟩
        rw [hm9, List.range'_succ, ti_mts] at hmt
        refine lv_aload_n hx hb dX0_met_24 rfl (lv_at hl 0 rfl) ?_
        refine lv_aload_n hx hb dX0_met_25 rfl (lv_at hl 0 rfl) ?_
        refine va_get (v := .ref (ad 1)) hx hb hts in_X0 hown hK hP 0 rfl rfl 0 (by decide) (hts _ q237) (fun _ h => h) rfl dX0_met_26 ?_
        refine lv_iconst (v := nI 1) hx hb dX0_met_29 (by decide) ?_
        refine tn_aald hx hb hK hP 1 5 rfl rfl (by omega) (by decide) dX0_met_30 ?_
        refine lv_iload_n hx hb dX0_met_31 rfl (lv_at hl 2 rfl) ?_
        refine ti_mV (As := [.ref (jh 1), .int (nI r9)]) (rest := []) S hE hP hD hS hA [0, 1, 2, 3, 4, 5, 6, 7, 8, 9, 12, 13, 14, 15] rfl (met_X0_powers_1 l D E ad dh du dv jh ju jv kh ku kv tx hi xi fo fp fn hxi hfo hfp hfn r9 (by omega)) rfl (fun _ => rfl) (lw_V q792 q794 qs16 q66 q795) 2 rfl 0 rfl rfl (by decide +kernel) ⟨Nat.le_of_ble_eq_true rfl, Nat.le_of_ble_eq_true rfl⟩ hl.1 rfl (Nat.le_of_ble_eq_true rfl) ⟨Nat.le_of_ble_eq_true rfl, Nat.le_of_ble_eq_true rfl⟩ dX0_met_32 (fun un H locs hu hP hD hS => ?_)
        have hun := hu
        have hP : va_P D vwCl (ti_wMJOTPN E ad dh du dv jh ju jv kh ku kv tx hi xi (ti_st (ti_gr (xi.1 1) (xi.2.1 1) 0 (xi.2.2 1))) fq (ti_ps (ti_gr (xi.1 1) (xi.2.1 1) 0 (xi.2.2 1)) r9) un ++ [(q1, .inr (4, [.ref u2])), (u2, .inl (E 0, 61, .inl (ti_n (ti_st (ti_gr (xi.1 0) (xi.2.1 0) 0 (xi.2.2 0))))))]) H := ti_asP hP [.inr 0, .inr 1, .inr 2, .inr 3, .inr 4, .inr 5, .inr 6, .inr 7, .inr 8, .inr 9, .inl 10, .inl 11, .inr 10, .inr 11, .inr 12, .inr 13, .inl 16, .inl 17] rfl rfl rfl rfl
        have hD : va_D A (ti_wMJOTPN E ad dh du dv jh ju jv kh ku kv tx hi xi (ti_st (ti_gr (xi.1 1) (xi.2.1 1) 0 (xi.2.2 1))) fq (ti_ps (ti_gr (xi.1 1) (xi.2.1 1) 0 (xi.2.2 1)) r9) un ++ [(q1, .inr (4, [.ref u2])), (u2, .inl (E 0, 61, .inl (ti_n (ti_st (ti_gr (xi.1 0) (xi.2.1 0) 0 (xi.2.2 0))))))]) := ti_asD hD [.inr 0, .inr 1, .inr 2, .inr 3, .inr 4, .inr 5, .inr 6, .inr 7, .inr 8, .inr 9, .inl 10, .inl 11, .inr 10, .inr 11, .inr 12, .inr 13, .inl 16, .inl 17] rfl rfl rfl rfl
        refine W.eq (g2 := F0 m 35 ls []) rfl ?_
        refine lv_aload_n hx hb dX0_met_35 rfl (lv_at hl 0 rfl) ?_
        refine va_get (v := .ref (ad 20)) hx hb hts in_X0 hown hK hP 0 rfl rfl 7 (by decide) (hts _ q244) (fun _ h => h) rfl dX0_met_36 ?_
        refine lv_aload_n hx hb dX0_met_39 rfl (lv_at hl 1 rfl) ?_
        refine lv_aload_n hx hb dX0_met_40 rfl (lv_at hl 0 rfl) ?_
        refine va_get (v := .ref (ad 18)) hx hb hts in_X0 hown hK hP 0 rfl rfl 6 (by decide) (hts _ q243) (fun _ h => h) rfl dX0_met_41 ?_
        refine ti_mV (As := [.ref q1, .ref (ad 18)]) (rest := []) S hE hP hD hS hA [14, 15, 16, 17, 12, 13] rfl (met_X4_product l D E (ad 20) (ad 21) un q1 u2 (ti_st (ti_gr (xi.1 0) (xi.2.1 0) 0 (xi.2.2 0))) (ad 18) (ad 19) (ti_ps (ti_gr (xi.1 1) (xi.2.1 1) 0 (xi.2.2 1)) r9) (ti_st_le (ti_gr (xi.1 0) (xi.2.1 0) 0 (xi.2.2 0))) (ti_ps_le (ti_gr (xi.1 1) (xi.2.1 1) 0 (xi.2.2 1)) r9)) rfl (fun _ => rfl) (lw_V q788 q789 q790 q70 q791) 2 rfl 14 rfl rfl (by decide +kernel) ⟨Nat.le_of_ble_eq_true rfl, Nat.le_of_ble_eq_true rfl⟩ hl.1 rfl (Nat.le_of_ble_eq_true rfl) ⟨Nat.le_of_ble_eq_true rfl, Nat.le_of_ble_eq_true rfl⟩ dX0_met_44 (fun _ H locs hu hP hD hS => ?_)
        have hP : va_P D vwCl (ti_wMJOTPN E ad dh du dv jh ju jv kh ku kv tx hi xi (ti_st (ti_gr (xi.1 1) (xi.2.1 1) 0 (xi.2.2 1))) fq (ti_ps (ti_gr (xi.1 1) (xi.2.1 1) 0 (xi.2.2 1)) r9) (ti_pr (ti_st (ti_gr (xi.1 0) (xi.2.1 0) 0 (xi.2.2 0))) (ti_ps (ti_gr (xi.1 1) (xi.2.1 1) 0 (xi.2.2 1)) r9)) ++ [(q1, .inr (4, [.ref u2])), (u2, .inl (E 0, 61, .inl (ti_n (ti_st (ti_gr (xi.1 0) (xi.2.1 0) 0 (xi.2.2 0))))))]) H := hP
        have hD : va_D A (ti_wMJOTPN E ad dh du dv jh ju jv kh ku kv tx hi xi (ti_st (ti_gr (xi.1 1) (xi.2.1 1) 0 (xi.2.2 1))) fq (ti_ps (ti_gr (xi.1 1) (xi.2.1 1) 0 (xi.2.2 1)) r9) (ti_pr (ti_st (ti_gr (xi.1 0) (xi.2.1 0) 0 (xi.2.2 0))) (ti_ps (ti_gr (xi.1 1) (xi.2.1 1) 0 (xi.2.2 1)) r9)) ++ [(q1, .inr (4, [.ref u2])), (u2, .inl (E 0, 61, .inl (ti_n (ti_st (ti_gr (xi.1 0) (xi.2.1 0) 0 (xi.2.2 0))))))]) := hD
        refine W.eq (g2 := F0 m 47 ls []) rfl ?_
        refine lv_aload_n hx hb dX0_met_47 rfl (lv_at hl 0 rfl) ?_
        refine va_get (v := .ref (ad 16)) hx hb hts in_X0 hown hK hP 0 rfl rfl 5 (by decide) (hts _ q242) (fun _ h => h) rfl dX0_met_48 ?_
        refine lv_aload_n hx hb dX0_met_51 rfl (lv_at hl 0 rfl) ?_
        refine va_get (v := .ref (ad 20)) hx hb hts in_X0 hown hK hP 0 rfl rfl 7 (by decide) (hts _ q244) (fun _ h => h) rfl dX0_met_52 ?_
        refine ti_mV (As := [.ref (ad 20)]) (rest := []) S hE hP hD hS hA [10, 11, 14, 15] rfl (met_X4_takes l D E (ad 16) (ad 17) fq (ad 20) (ad 21) (ti_pr (ti_st (ti_gr (xi.1 0) (xi.2.1 0) 0 (xi.2.2 0))) (ti_ps (ti_gr (xi.1 1) (xi.2.1 1) 0 (xi.2.2 1)) r9))) rfl (fun _ => rfl) (lw_V q800 q801 q802 q70 q803) 1 rfl 10 rfl rfl (by decide +kernel) ⟨Nat.le_of_ble_eq_true rfl, Nat.le_of_ble_eq_true rfl⟩ hl.1 rfl (Nat.le_of_ble_eq_true rfl) ⟨Nat.le_of_ble_eq_true rfl, Nat.le_of_ble_eq_true rfl⟩ dX0_met_55 (fun _ H locs hu hP hD hS => ?_)
        have hP : va_P D vwCl (ti_wMJOTPN E ad dh du dv jh ju jv kh ku kv tx hi xi (ti_st (ti_gr (xi.1 1) (xi.2.1 1) 0 (xi.2.2 1))) (ti_pr (ti_st (ti_gr (xi.1 0) (xi.2.1 0) 0 (xi.2.2 0))) (ti_ps (ti_gr (xi.1 1) (xi.2.1 1) 0 (xi.2.2 1)) r9)) (ti_ps (ti_gr (xi.1 1) (xi.2.1 1) 0 (xi.2.2 1)) r9) (ti_pr (ti_st (ti_gr (xi.1 0) (xi.2.1 0) 0 (xi.2.2 0))) (ti_ps (ti_gr (xi.1 1) (xi.2.1 1) 0 (xi.2.2 1)) r9)) ++ [(q1, .inr (4, [.ref u2])), (u2, .inl (E 0, 61, .inl (ti_n (ti_st (ti_gr (xi.1 0) (xi.2.1 0) 0 (xi.2.2 0))))))]) H := hP
        have hD : va_D A (ti_wMJOTPN E ad dh du dv jh ju jv kh ku kv tx hi xi (ti_st (ti_gr (xi.1 1) (xi.2.1 1) 0 (xi.2.2 1))) (ti_pr (ti_st (ti_gr (xi.1 0) (xi.2.1 0) 0 (xi.2.2 0))) (ti_ps (ti_gr (xi.1 1) (xi.2.1 1) 0 (xi.2.2 1)) r9)) (ti_ps (ti_gr (xi.1 1) (xi.2.1 1) 0 (xi.2.2 1)) r9) (ti_pr (ti_st (ti_gr (xi.1 0) (xi.2.1 0) 0 (xi.2.2 0))) (ti_ps (ti_gr (xi.1 1) (xi.2.1 1) 0 (xi.2.2 1)) r9)) ++ [(q1, .inr (4, [.ref u2])), (u2, .inl (E 0, 61, .inl (ti_n (ti_st (ti_gr (xi.1 0) (xi.2.1 0) 0 (xi.2.2 0))))))]) := hD
        refine W.eq (g2 := F0 m 58 ls []) rfl ?_
        refine lv_aload_n hx hb dX0_met_58 rfl (lv_at hl 0 rfl) ?_
        refine va_get (v := .ref (ad 20)) hx hb hts in_X0 hown hK hP 0 rfl rfl 7 (by decide) (hts _ q244) (fun _ h => h) rfl dX0_met_59 ?_
        refine lv_aload_n hx hb dX0_met_62 rfl (lv_at hl 0 rfl) ?_
        refine va_get (v := .ref (ad 18)) hx hb hts in_X0 hown hK hP 0 rfl rfl 6 (by decide) (hts _ q243) (fun _ h => h) rfl dX0_met_63 ?_
        refine lv_aload_n hx hb dX0_met_66 rfl (lv_at hl 0 rfl) ?_
        refine va_get (v := .ref (ad 14)) hx hb hts in_X0 hown hK hP 0 rfl rfl 4 (by decide) (hts _ q241) (fun _ h => h) rfl dX0_met_67 ?_
        refine ti_mV (As := [.ref (ad 18), .ref (ad 14)]) (rest := []) S hE hP hD hS hA [14, 15, 12, 13, 8, 9] rfl (met_X4_product l D E (ad 20) (ad 21) (ti_pr (ti_st (ti_gr (xi.1 0) (xi.2.1 0) 0 (xi.2.2 0))) (ti_ps (ti_gr (xi.1 1) (xi.2.1 1) 0 (xi.2.2 1)) r9)) (ad 18) (ad 19) (ti_ps (ti_gr (xi.1 1) (xi.2.1 1) 0 (xi.2.2 1)) r9) (ad 14) (ad 15) (ti_st (ti_gr (xi.1 1) (xi.2.1 1) 0 (xi.2.2 1))) (ti_ps_le (ti_gr (xi.1 1) (xi.2.1 1) 0 (xi.2.2 1)) r9) (ti_st_le (ti_gr (xi.1 1) (xi.2.1 1) 0 (xi.2.2 1)))) rfl (fun _ => rfl) (lw_V q788 q789 q790 q70 q791) 2 rfl 14 rfl rfl (by decide +kernel) ⟨Nat.le_of_ble_eq_true rfl, Nat.le_of_ble_eq_true rfl⟩ hl.1 rfl (Nat.le_of_ble_eq_true rfl) ⟨Nat.le_of_ble_eq_true rfl, Nat.le_of_ble_eq_true rfl⟩ dX0_met_70 (fun _ H locs hu hP hD hS => ?_)
        have hP : va_P D vwCl (ti_wMJOTPN E ad dh du dv jh ju jv kh ku kv tx hi xi (ti_st (ti_gr (xi.1 1) (xi.2.1 1) 0 (xi.2.2 1))) (ti_pr (ti_st (ti_gr (xi.1 0) (xi.2.1 0) 0 (xi.2.2 0))) (ti_ps (ti_gr (xi.1 1) (xi.2.1 1) 0 (xi.2.2 1)) r9)) (ti_ps (ti_gr (xi.1 1) (xi.2.1 1) 0 (xi.2.2 1)) r9) (ti_pr (ti_ps (ti_gr (xi.1 1) (xi.2.1 1) 0 (xi.2.2 1)) r9) (ti_st (ti_gr (xi.1 1) (xi.2.1 1) 0 (xi.2.2 1)))) ++ [(q1, .inr (4, [.ref u2])), (u2, .inl (E 0, 61, .inl (ti_n (ti_st (ti_gr (xi.1 0) (xi.2.1 0) 0 (xi.2.2 0))))))]) H := hP
        have hD : va_D A (ti_wMJOTPN E ad dh du dv jh ju jv kh ku kv tx hi xi (ti_st (ti_gr (xi.1 1) (xi.2.1 1) 0 (xi.2.2 1))) (ti_pr (ti_st (ti_gr (xi.1 0) (xi.2.1 0) 0 (xi.2.2 0))) (ti_ps (ti_gr (xi.1 1) (xi.2.1 1) 0 (xi.2.2 1)) r9)) (ti_ps (ti_gr (xi.1 1) (xi.2.1 1) 0 (xi.2.2 1)) r9) (ti_pr (ti_ps (ti_gr (xi.1 1) (xi.2.1 1) 0 (xi.2.2 1)) r9) (ti_st (ti_gr (xi.1 1) (xi.2.1 1) 0 (xi.2.2 1)))) ++ [(q1, .inr (4, [.ref u2])), (u2, .inl (E 0, 61, .inl (ti_n (ti_st (ti_gr (xi.1 0) (xi.2.1 0) 0 (xi.2.2 0))))))]) := hD
        refine W.eq (g2 := F0 m 73 ls []) rfl ?_
        refine lv_aload_n hx hb dX0_met_73 rfl (lv_at hl 0 rfl) ?_
        refine va_get (v := .ref (ad 20)) hx hb hts in_X0 hown hK hP 0 rfl rfl 7 (by decide) (hts _ q244) (fun _ h => h) rfl dX0_met_74 ?_
        refine ti_mS (As := [.ref (ad 20)]) (rest := []) S hE hP hD hS hA [14, 15] rfl (met_X0_bounds l D E (ad 20) (ad 21) (ti_pr (ti_ps (ti_gr (xi.1 1) (xi.2.1 1) 0 (xi.2.2 1)) r9) (ti_st (ti_gr (xi.1 1) (xi.2.1 1) 0 (xi.2.2 1)))) (ti_pr_le (ti_ps (ti_gr (xi.1 1) (xi.2.1 1) 0 (xi.2.2 1)) r9) (ti_st (ti_gr (xi.1 1) (xi.2.1 1) 0 (xi.2.2 1))))) rfl (fun _ => rfl) (lw_S q817 q818 q66 q819) 1 rfl (by decide +kernel) ⟨Nat.le_of_ble_eq_true rfl, Nat.le_of_ble_eq_true rfl⟩ hl.1 rfl (Nat.le_of_ble_eq_true rfl) ⟨Nat.le_of_ble_eq_true rfl, Nat.le_of_ble_eq_true rfl⟩ dX0_met_77 (fun _ H locs hu hP hD hS => ?_)
        have hP : va_P D vwCl (ti_wMJOTPN E ad dh du dv jh ju jv kh ku kv tx hi xi (ti_st (ti_gr (xi.1 1) (xi.2.1 1) 0 (xi.2.2 1))) (ti_pr (ti_st (ti_gr (xi.1 0) (xi.2.1 0) 0 (xi.2.2 0))) (ti_ps (ti_gr (xi.1 1) (xi.2.1 1) 0 (xi.2.2 1)) r9)) (ti_ps (ti_gr (xi.1 1) (xi.2.1 1) 0 (xi.2.2 1)) r9) (ti_pr (ti_ps (ti_gr (xi.1 1) (xi.2.1 1) 0 (xi.2.2 1)) r9) (ti_st (ti_gr (xi.1 1) (xi.2.1 1) 0 (xi.2.2 1)))) ++ [(q1, .inr (4, [.ref u2])), (u2, .inl (E 0, 61, .inl (ti_n (ti_st (ti_gr (xi.1 0) (xi.2.1 0) 0 (xi.2.2 0))))))]) H := hP
        have hD : va_D A (ti_wMJOTPN E ad dh du dv jh ju jv kh ku kv tx hi xi (ti_st (ti_gr (xi.1 1) (xi.2.1 1) 0 (xi.2.2 1))) (ti_pr (ti_st (ti_gr (xi.1 0) (xi.2.1 0) 0 (xi.2.2 0))) (ti_ps (ti_gr (xi.1 1) (xi.2.1 1) 0 (xi.2.2 1)) r9)) (ti_ps (ti_gr (xi.1 1) (xi.2.1 1) 0 (xi.2.2 1)) r9) (ti_pr (ti_ps (ti_gr (xi.1 1) (xi.2.1 1) 0 (xi.2.2 1)) r9) (ti_st (ti_gr (xi.1 1) (xi.2.1 1) 0 (xi.2.2 1)))) ++ [(q1, .inr (4, [.ref u2])), (u2, .inl (E 0, 61, .inl (ti_n (ti_st (ti_gr (xi.1 0) (xi.2.1 0) 0 (xi.2.2 0))))))]) := hD
        refine W.eq (g2 := F0 m 80 ls []) rfl ?_
        refine lv_aload_n hx hb dX0_met_80 rfl (lv_at hl 0 rfl) ?_
        refine va_get (v := .ref (ad 16)) hx hb hts in_X0 hown hK hP 0 rfl rfl 5 (by decide) (hts _ q242) (fun _ h => h) rfl dX0_met_81 ?_
        refine ti_mS (As := [.ref (ad 16)]) (rest := []) S hE hP hD hS hA [10, 11] rfl (met_X0_bounds l D E (ad 16) (ad 17) (ti_pr (ti_st (ti_gr (xi.1 0) (xi.2.1 0) 0 (xi.2.2 0))) (ti_ps (ti_gr (xi.1 1) (xi.2.1 1) 0 (xi.2.2 1)) r9)) (ti_pr_le (ti_st (ti_gr (xi.1 0) (xi.2.1 0) 0 (xi.2.2 0))) (ti_ps (ti_gr (xi.1 1) (xi.2.1 1) 0 (xi.2.2 1)) r9))) rfl (fun _ => rfl) (lw_S q817 q818 q66 q819) 1 rfl (by decide +kernel) ⟨Nat.le_of_ble_eq_true rfl, Nat.le_of_ble_eq_true rfl⟩ hl.1 rfl (Nat.le_of_ble_eq_true rfl) ⟨Nat.le_of_ble_eq_true rfl, Nat.le_of_ble_eq_true rfl⟩ dX0_met_84 (fun _ H locs hu hP hD hS => ?_)
        have hP : va_P D vwCl (ti_wMJOTPN E ad dh du dv jh ju jv kh ku kv tx hi xi (ti_st (ti_gr (xi.1 1) (xi.2.1 1) 0 (xi.2.2 1))) (ti_pr (ti_st (ti_gr (xi.1 0) (xi.2.1 0) 0 (xi.2.2 0))) (ti_ps (ti_gr (xi.1 1) (xi.2.1 1) 0 (xi.2.2 1)) r9)) (ti_ps (ti_gr (xi.1 1) (xi.2.1 1) 0 (xi.2.2 1)) r9) (ti_pr (ti_ps (ti_gr (xi.1 1) (xi.2.1 1) 0 (xi.2.2 1)) r9) (ti_st (ti_gr (xi.1 1) (xi.2.1 1) 0 (xi.2.2 1)))) ++ [(q1, .inr (4, [.ref u2])), (u2, .inl (E 0, 61, .inl (ti_n (ti_st (ti_gr (xi.1 0) (xi.2.1 0) 0 (xi.2.2 0))))))]) H := hP
        have hD : va_D A (ti_wMJOTPN E ad dh du dv jh ju jv kh ku kv tx hi xi (ti_st (ti_gr (xi.1 1) (xi.2.1 1) 0 (xi.2.2 1))) (ti_pr (ti_st (ti_gr (xi.1 0) (xi.2.1 0) 0 (xi.2.2 0))) (ti_ps (ti_gr (xi.1 1) (xi.2.1 1) 0 (xi.2.2 1)) r9)) (ti_ps (ti_gr (xi.1 1) (xi.2.1 1) 0 (xi.2.2 1)) r9) (ti_pr (ti_ps (ti_gr (xi.1 1) (xi.2.1 1) 0 (xi.2.2 1)) r9) (ti_st (ti_gr (xi.1 1) (xi.2.1 1) 0 (xi.2.2 1)))) ++ [(q1, .inr (4, [.ref u2])), (u2, .inl (E 0, 61, .inl (ti_n (ti_st (ti_gr (xi.1 0) (xi.2.1 0) 0 (xi.2.2 0))))))]) := hD
        refine W.eq (g2 := F0 m 87 ls []) rfl ?_
        refine lv_aload_n hx hb dX0_met_87 rfl (lv_at hl 0 rfl) ?_
        refine va_get (v := .ref (ad 16)) hx hb hts in_X0 hown hK hP 0 rfl rfl 5 (by decide) (hts _ q242) (fun _ h => h) rfl dX0_met_88 ?_
        refine lv_aload_n hx hb dX0_met_91 rfl (lv_at hl 0 rfl) ?_
        refine va_get (v := .ref (ad 20)) hx hb hts in_X0 hown hK hP 0 rfl rfl 7 (by decide) (hts _ q244) (fun _ h => h) rfl dX0_met_92 ?_
        refine ti_pV (As := [.ref (ad 20)]) (rest := []) (v := .int (ti_b (ti_eq (ti_pr (ti_st (ti_gr (xi.1 0) (xi.2.1 0) 0 (xi.2.2 0))) (ti_ps (ti_gr (xi.1 1) (xi.2.1 1) 0 (xi.2.2 1)) r9)) (ti_pr (ti_ps (ti_gr (xi.1 1) (xi.2.1 1) 0 (xi.2.2 1)) r9) (ti_st (ti_gr (xi.1 1) (xi.2.1 1) 0 (xi.2.2 1)))) (List.range' 0 61)))) S hE hP [10, 11, 14, 15] (met_X4_isAs l D E (ad 16) (ad 17) (ti_pr (ti_st (ti_gr (xi.1 0) (xi.2.1 0) 0 (xi.2.2 0))) (ti_ps (ti_gr (xi.1 1) (xi.2.1 1) 0 (xi.2.2 1)) r9)) (ad 20) (ad 21) (ti_pr (ti_ps (ti_gr (xi.1 1) (xi.2.1 1) 0 (xi.2.2 1)) r9) (ti_st (ti_gr (xi.1 1) (xi.2.1 1) 0 (xi.2.2 1)))) (ti_pr_le (ti_st (ti_gr (xi.1 0) (xi.2.1 0) 0 (xi.2.2 0))) (ti_ps (ti_gr (xi.1 1) (xi.2.1 1) 0 (xi.2.2 1)) r9)) (ti_pr_le (ti_ps (ti_gr (xi.1 1) (xi.2.1 1) 0 (xi.2.2 1)) r9) (ti_st (ti_gr (xi.1 1) (xi.2.1 1) 0 (xi.2.2 1))))) rfl (lw_V q821 q822 q823 q70 q824) 1 rfl 10 rfl rfl (by decide +kernel) ⟨Nat.le_of_ble_eq_true rfl, Nat.le_of_ble_eq_true rfl⟩ hl.1 rfl (Nat.le_of_ble_eq_true rfl) ⟨Nat.le_of_ble_eq_true rfl, Nat.le_of_ble_eq_true rfl⟩ dX0_met_95 ?_
        refine tb_eq (tgt := 103) hx hb dX0_met_98 (by decide) (fun c98 => ?_) (fun c98 => ?_)
        · skip
          rw [if_neg (by rw [show ti_ps (ti_gr (xi.1 1) (xi.2.1 1) 0 (xi.2.2 1)) (r9 + 1) = ti_pr (ti_ps (ti_gr (xi.1 1) (xi.2.1 1) 0 (xi.2.2 1)) r9) (ti_st (ti_gr (xi.1 1) (xi.2.1 1) 0 (xi.2.2 1))) from rfl, c98]; decide)] at hmt
          refine lv_iinc (v := nI (r9 + 1)) (lv' := [(2, .int (nI (r9 + 1))), (0, .ref (ad 0)), (1, .ref q1)]) hx hb dX0_met_103 hl (k := 2) rfl (nI_1 r9) (by decide) rfl (fun ls hl => ?_)
          refine lv_goto (tgt := 19) hx hb dX0_met_106 (by decide) ?_
          exact ih19 (r9 + 1) (ti_st (ti_gr (xi.1 1) (xi.2.1 1) 0 (xi.2.2 1))) (ti_pr (ti_st (ti_gr (xi.1 0) (xi.2.1 0) 0 (xi.2.2 0))) (ti_ps (ti_gr (xi.1 1) (xi.2.1 1) 0 (xi.2.2 1)) r9)) (ti_ps (ti_gr (xi.1 1) (xi.2.1 1) 0 (xi.2.2 1)) r9) (ti_pr (ti_ps (ti_gr (xi.1 1) (xi.2.1 1) 0 (xi.2.2 1)) r9) (ti_st (ti_gr (xi.1 1) (xi.2.1 1) 0 (xi.2.2 1)))) _ _ _ hP hD hS (by omega) (by omega) (ti_st_le _) (ti_pr_le _ _) (ti_ps_le _ _) (ti_pr_le _ _) (by rw [show 6 - (r9 + 1) = m9 by omega]; exact hmt) (lv_sub hl [1, 2, 0] rfl)
        · skip
          rw [if_pos (by rw [show ti_ps (ti_gr (xi.1 1) (xi.2.1 1) 0 (xi.2.2 1)) (r9 + 1) = ti_pr (ti_ps (ti_gr (xi.1 1) (xi.2.1 1) 0 (xi.2.2 1)) r9) (ti_st (ti_gr (xi.1 1) (xi.2.1 1) 0 (xi.2.2 1))) from rfl]; exact c98)] at hmt
          refine lv_iload_n hx hb dX0_met_101 rfl (lv_at hl 2 rfl) ?_
          exact hret ((ti_st (ti_gr (xi.1 1) (xi.2.1 1) 0 (xi.2.2 1)), ti_pr (ti_st (ti_gr (xi.1 0) (xi.2.1 0) 0 (xi.2.2 0))) (ti_ps (ti_gr (xi.1 1) (xi.2.1 1) 0 (xi.2.2 1)) r9), ti_ps (ti_gr (xi.1 1) (xi.2.1 1) 0 (xi.2.2 1)) r9, ti_pr (ti_ps (ti_gr (xi.1 1) (xi.2.1 1) 0 (xi.2.2 1)) r9) (ti_st (ti_gr (xi.1 1) (xi.2.1 1) 0 (xi.2.2 1))))) _ _ _ _ _ _ _ dX0_met_102 (hmt) (⟨(ti_st_le (ti_gr (xi.1 1) (xi.2.1 1) 0 (xi.2.2 1))), (ti_pr_le (ti_st (ti_gr (xi.1 0) (xi.2.1 0) 0 (xi.2.2 0))) (ti_ps (ti_gr (xi.1 1) (xi.2.1 1) 0 (xi.2.2 1)) r9)), (ti_ps_le (ti_gr (xi.1 1) (xi.2.1 1) 0 (xi.2.2 1)) r9), (ti_pr_le (ti_ps (ti_gr (xi.1 1) (xi.2.1 1) 0 (xi.2.2 1)) r9) (ti_st (ti_gr (xi.1 1) (xi.2.1 1) 0 (xi.2.2 1))))⟩) (ti_P_l hP) hS (by omega) (by omega)
  exact L19 _ 0 xo xq xp xn _ _ _ hP hD hS (Nat.lt_succ_self _) (by omega) (hxo) (hxq) (hxp) (hxn) (by rw [show (ti_gr (xi.1 0) (xi.2.1 0) 0 (xi.2.2 0)) = I 0 from hJ 0 (by decide), show (ti_gr (xi.1 1) (xi.2.1 1) 0 (xi.2.2 1)) = I 1 from hJ 1 (by decide)]; exact ti_mts_eq h90 h91 _ (by decide)) (lv_sub hl [2, 1, 0] rfl)
