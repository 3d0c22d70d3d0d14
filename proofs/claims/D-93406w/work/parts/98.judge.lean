/-! TermIdeals: judge (printed by w_judge.py) -/
set_option maxRecDepth 100000

set_option maxHeartbeats 2000000 in
theorem met_X0_judge_b (l : Launch) (D : va_G) (E : Nat → ClassId) (htr : l.stackTraces = false) (z0 : Nat) (ad : Nat → Nat) (tx : Nat) (hi : Bool) (v t j : Int32) (hno : (ti_bt v && ti_t5 t) = false) : ti_MetB (σ := Unit) (τ := Unit) l D E yX0_judge (wsW_ yX0_judge cX0_judge 5 (some .int) [(16, 39, 40, 352)]) 10 3 222 z0 ([(ad 0, .inr (0, [.ref (ad 1), .ref (ad 2), .ref (ad 5), .ref (ad 11), .ref (ad 14), .ref (ad 16), .ref (ad 18), .ref (ad 20), .ref (ad 22), .int (nI tx), .ref (ad 23), .ref (ad 27), .ref (ad 31), .ref (ad 35), .ref (ad 36), .ref (ad 37), .ref (ad 41), .ref (ad 45), .int (ti_b hi)]))]) [.ref (ad 0), .int v, .int t, .int j] (fun _ => True) (fun _ => [(ad 0, .inr (0, [.ref (ad 1), .ref (ad 2), .ref (ad 5), .ref (ad 11), .ref (ad 14), .ref (ad 16), .ref (ad 18), .ref (ad 20), .ref (ad 22), .int (nI tx), .ref (ad 23), .ref (ad 27), .ref (ad 31), .ref (ad 35), .ref (ad 36), .ref (ad 37), .ref (ad 41), .ref (ad 45), .int (ti_b hi)]))]) (fun u => some (.int ((fun _ => (-1 : Int32)) u))) (fun _ => True) (fun _ _ => True) (fun w => RX14) (fun w => 0) (fun w => [(ad 0, .inr (0, [.ref (ad 1), .ref (ad 2), .ref (ad 5), .ref (ad 11), .ref (ad 14), .ref (ad 16), .ref (ad 18), .ref (ad 20), .ref (ad 22), .int (nI tx), .ref (ad 23), .ref (ad 27), .ref (ad 31), .ref (ad 35), .ref (ad 36), .ref (ad 37), .ref (ad 41), .ref (ad 45), .int (ti_b hi)]))]) (fun w => []) (fun w => False) (fun w H => True) := by
  refine ti_metBH (by decide) (Nat.le_of_ble_eq_true rfl) ?_
  intro p e s m below meth c H A Q ls S hE hP hD hS hA hZ hAz hx0 htab hl hret hq
  obtain ⟨hQ, hr, hlk, hinit⟩ := hq
  have hsz0 := hS.1
  have hx := S.1
  have hb := S.2.1
  have hown := S.2.2.2.1
  have hts := S.2.2.2.2
  have hK := hE.1
  have hl : lv_has ls 5 [(0, .ref (ad 0)), (1, .int v), (2, .int t), (3, .int j)] := hl
  refine lv_iload_n hx hb dX0_judge_0 rfl (lv_at hl 1 rfl) ?_
  refine ti_pS (As := [.int v]) (rest := []) (v := .int (ti_b (ti_bt v))) S hE hP [] (met_X0_isIdeal l D E v) rfl (lw_S q299 q300 q66 q301) 1 rfl (by decide +kernel) ⟨Nat.le_of_ble_eq_true rfl, Nat.le_of_ble_eq_true rfl⟩ hl.1 rfl (Nat.le_of_ble_eq_true rfl) ⟨Nat.le_of_ble_eq_true rfl, Nat.le_of_ble_eq_true rfl⟩ dX0_judge_1 ?_
  refine tb_eq (tgt := 14) hx hb dX0_judge_4 (by decide) (fun c4 => ?_) (fun c4 => ?_)
  · skip
    refine lv_iconst (v := (-1)) hx hb dX0_judge_14 (by decide) ?_
    have hv9 : ((-1)) = (fun _ => (-1 : Int32)) () := (rfl : (-1 : Int32) = -1)
    refine W.eq (g2 := F0 m 15 ls [.int ((fun _ => (-1 : Int32)) ())]) (congrArg (fun z => F0 m 15 ls [.int z]) hv9) ?_
    exact hret _ () _ _ _ _ (trivial) hP trivial hS (Nat.le_of_ble_eq_true rfl) (Nat.le_of_ble_eq_true rfl) (fun hq hf9 => W.iret hx hb hr hq hf9 dX0_judge_15 hlk)
  · skip
    refine lv_iload_n hx hb dX0_judge_7 rfl (lv_at hl 2 rfl) ?_
    refine ti_pS (As := [.int t]) (rest := []) (v := .int (ti_b (ti_t5 t))) S hE hP [] (met_X0_isTape l D E t) rfl (lw_S q920 q921 q66 q922) 1 rfl (by decide +kernel) ⟨Nat.le_of_ble_eq_true rfl, Nat.le_of_ble_eq_true rfl⟩ hl.1 rfl (Nat.le_of_ble_eq_true rfl) ⟨Nat.le_of_ble_eq_true rfl, Nat.le_of_ble_eq_true rfl⟩ dX0_judge_8 ?_
    refine tb_ne (tgt := 16) hx hb dX0_judge_11 (by decide) (fun c11 => ?_) (fun c11 => ?_)
    · skip
      exact absurd hno (by rw [c4, c11]; decide)
    · skip
      refine lv_iconst (v := (-1)) hx hb dX0_judge_14 (by decide) ?_
      have hv9 : ((-1)) = (fun _ => (-1 : Int32)) () := (rfl : (-1 : Int32) = -1)
      refine W.eq (g2 := F0 m 15 ls [.int ((fun _ => (-1 : Int32)) ())]) (congrArg (fun z => F0 m 15 ls [.int z]) hv9) ?_
      exact hret _ () _ _ _ _ (trivial) hP trivial hS (Nat.le_of_ble_eq_true rfl) (Nat.le_of_ble_eq_true rfl) (fun hq hf9 => W.iret hx hb hr hq hf9 dX0_judge_15 hlk)

set_option maxHeartbeats 2000000 in
theorem met_X0_judge_1 (l : Launch) (D : va_G) (E : Nat → ClassId) (htr : l.stackTraces = false) (z0 : Nat) (ad dh du dv jh ju jv kh ku kv : Nat → Nat) (tx : Nat) (hi : Bool) (xi : ti_Ti) (hxi : ti_Jok xi) (th : Nat → Nat) (t9 : Nat) (ht9 : t9 < 6) (i : Nat) (hi2 : i < 2) (a n : Nat) (f : Nat → Int32) (j : Int32) : ti_MetB (σ := Unit) (τ := Unit) l D E yX0_judge (wsW_ yX0_judge cX0_judge 5 (some .int) [(16, 39, 40, 352)]) 10 3 222 z0 (ti_wMJ E ad dh du dv jh ju jv kh ku kv tx hi xi ++ [(ad 35, .inl (E 6, 6, .inr (.inr (.inr (.inr (ti_o th (fun j => j))))))), (th t9, .inr (6, [.ref a])), (a, .inl (E 2, n, .inl f))]) [.ref (ad 0), .int (nI i), .int (nI t9), .int j] (fun _ => True) (fun _ => ti_wMJ E ad dh du dv jh ju jv kh ku kv tx hi xi ++ [(ad 35, .inl (E 6, 6, .inr (.inr (.inr (.inr (ti_o th (fun j => j))))))), (th t9, .inr (6, [.ref a])), (a, .inl (E 2, n, .inl f))]) (fun u => some (.int ((fun _ => (-12 : Int32)) u))) (fun _ => True) (fun _ _ => True) (fun w => RX14) (fun w => 0) (fun w => ti_wMJ E ad dh du dv jh ju jv kh ku kv tx hi xi ++ [(ad 35, .inl (E 6, 6, .inr (.inr (.inr (.inr (ti_o th (fun j => j))))))), (th t9, .inr (6, [.ref a])), (a, .inl (E 2, n, .inl f))]) (fun w => []) (fun w => False) (fun w H => True) := by
  refine ti_metBH (by decide) (Nat.le_of_ble_eq_true rfl) ?_
  intro p e s m below meth c H A Q ls S hE hP hD hS hA hZ hAz hx0 htab hl hret hq
  obtain ⟨hQ, hr, hlk, hinit⟩ := hq
  have hsz0 := hS.1
  have hx := S.1
  have hb := S.2.1
  have hown := S.2.2.2.1
  have hts := S.2.2.2.2
  have hK := hE.1
  have hl : lv_has ls 5 [(0, .ref (ad 0)), (1, .int (nI i)), (2, .int (nI t9)), (3, .int j)] := hl
  have ht5 : ti_t5 (nI t9) = true := by unfold ti_t5; rw [ti_in_nI (by omega) (by decide) (by decide)]; exact decide_eq_true ⟨Nat.zero_le _, by omega⟩
  have hbt : ti_bt (nI i) = true := by unfold ti_bt; rw [ti_in_nI (by omega) (by decide) (by decide)]; exact decide_eq_true ⟨Nat.zero_le _, by omega⟩
  refine lv_iload_n hx hb dX0_judge_0 rfl (lv_at hl 1 rfl) ?_
  refine ti_pS (As := [.int (nI i)]) (rest := []) (v := .int (ti_b (ti_bt (nI i)))) S hE hP [] (met_X0_isIdeal l D E (nI i)) rfl (lw_S q299 q300 q66 q301) 1 rfl (by decide +kernel) ⟨Nat.le_of_ble_eq_true rfl, Nat.le_of_ble_eq_true rfl⟩ hl.1 rfl (Nat.le_of_ble_eq_true rfl) ⟨Nat.le_of_ble_eq_true rfl, Nat.le_of_ble_eq_true rfl⟩ dX0_judge_1 ?_
  refine tb_eq (tgt := 14) hx hb dX0_judge_4 (by decide) (fun c4 => ?_) (fun c4 => ?_)
  · skip
    exact absurd hbt (by rw [c4]; decide)
  · skip
    refine lv_iload_n hx hb dX0_judge_7 rfl (lv_at hl 2 rfl) ?_
    refine ti_pS (As := [.int (nI t9)]) (rest := []) (v := .int (ti_b (ti_t5 (nI t9)))) S hE hP [] (met_X0_isTape l D E (nI t9)) rfl (lw_S q920 q921 q66 q922) 1 rfl (by decide +kernel) ⟨Nat.le_of_ble_eq_true rfl, Nat.le_of_ble_eq_true rfl⟩ hl.1 rfl (Nat.le_of_ble_eq_true rfl) ⟨Nat.le_of_ble_eq_true rfl, Nat.le_of_ble_eq_true rfl⟩ dX0_judge_8 ?_
    refine tb_ne (tgt := 16) hx hb dX0_judge_11 (by decide) (fun c11 => ?_) (fun c11 => ?_)
    · skip
      rcases (show i = 0 ∨ i = 1 by omega) with rfl | rfl
      · skip
        refine lv_aload_n hx hb dX0_judge_16 rfl (lv_at hl 0 rfl) ?_
        refine lv_aload_n hx hb dX0_judge_17 rfl (lv_at hl 0 rfl) ?_
        refine va_get (v := .ref (ad 1)) hx hb hts in_X0 hown hK hP 0 rfl rfl 0 (by decide) (hts _ q237) (fun _ h => h) rfl dX0_judge_18 ?_
        refine lv_iload_n hx hb dX0_judge_21 rfl (lv_at hl 1 rfl) ?_
        refine tn_aald hx hb hK hP 1 5 rfl rfl (by omega) (by decide) dX0_judge_22 ?_
        refine lv_aload_n hx hb dX0_judge_23 rfl (lv_at hl 0 rfl) ?_
        refine va_get (v := .ref (ad 35)) hx hb hts in_X0 hown hK hP 0 rfl rfl 13 (by decide) (hts _ q250) (fun _ h => h) rfl dX0_judge_24 ?_
        refine lv_iload_n hx hb dX0_judge_27 rfl (lv_at hl 2 rfl) ?_
        refine tn_aald hx hb hK hP 8 6 rfl rfl (by omega) (by decide) dX0_judge_28 ?_
        refine va_getN (v := .ref a) hx hb hts in_X6 hown hK hP 9 rfl rfl 0 (by decide) (hE.use q233 rfl rfl) (fun _ h => h) rfl dX0_judge_29 ?_
        refine ti_castW (C := "[S") (nm := "[B") hx hb hown (hts _ q923) hK hP (hZ.2.2.2.2 "[S" "[B" (by decide)) 10 2 1 rfl rfl rfl (hK.2 2 _ rfl).2 (hK.2 1 _ rfl).2 (by decide) (by decide) (by decide) (by decide) dX0_judge_32 (fun tx9 htx => ti_vmr (names := ["java/lang/RuntimeException", "java/lang/Exception"]) (nb := 120) S hE htr (by decide +kernel) (by decide +kernel) (by decide) (by decide) (by decide +kernel) (by decide +kernel) hZ hAz hS hl.1 (by rcases htx with rfl | rfl <;> decide +kernel) (by rcases htx with rfl | rfl <;> decide +kernel) (by decide) (Nat.le_of_ble_eq_true rfl) (Nat.le_of_ble_eq_true rfl) (by decide) (Nat.le_of_ble_eq_true rfl) (Nat.le_of_ble_eq_true rfl) hlk (fun H1 q9 ce hk9 hS hce hcv hcl => ?_))
        have hP := hP.kept (fun k x hx => hk9 x.1 (hP k x hx).lt)
        refine vx_catch hown [] ⟨16, 39, 40, 352⟩ [] htab (fun z hz => absurd hz List.not_mem_nil) rfl (by decide) (hts _ q891) (hE.use q911 rfl rfl) hce hcv hcl ?_
        refine lv_astore (lv' := [(4, .ref q9), (0, .ref (ad 0)), (1, .int (nI 0)), (2, .int (nI t9)), (3, .int j)]) hx hb dX0_judge_40 hl (by decide) rfl (fun ls hl => ?_)
        refine lv_bipush (v := (-12)) hx hb dX0_judge_42 (by decide) ?_
        have hv9 : ((-12)) = (fun _ => (-12 : Int32)) () := (rfl : (-12 : Int32) = -12)
        refine W.eq (g2 := F0 m 44 ls [.int ((fun _ => (-12 : Int32)) ())]) (congrArg (fun z => F0 m 44 ls [.int z]) hv9) ?_
        exact hret _ () _ _ _ _ (trivial) hP trivial hS (Nat.le_of_ble_eq_true rfl) (Nat.le_of_ble_eq_true rfl) (fun hq hf9 => W.iret hx hb hr hq hf9 dX0_judge_44 hlk)
      · skip
        refine lv_aload_n hx hb dX0_judge_16 rfl (lv_at hl 0 rfl) ?_
        refine lv_aload_n hx hb dX0_judge_17 rfl (lv_at hl 0 rfl) ?_
        refine va_get (v := .ref (ad 1)) hx hb hts in_X0 hown hK hP 0 rfl rfl 0 (by decide) (hts _ q237) (fun _ h => h) rfl dX0_judge_18 ?_
        refine lv_iload_n hx hb dX0_judge_21 rfl (lv_at hl 1 rfl) ?_
        refine tn_aald hx hb hK hP 1 5 rfl rfl (by omega) (by decide) dX0_judge_22 ?_
        refine lv_aload_n hx hb dX0_judge_23 rfl (lv_at hl 0 rfl) ?_
        refine va_get (v := .ref (ad 35)) hx hb hts in_X0 hown hK hP 0 rfl rfl 13 (by decide) (hts _ q250) (fun _ h => h) rfl dX0_judge_24 ?_
        refine lv_iload_n hx hb dX0_judge_27 rfl (lv_at hl 2 rfl) ?_
        refine tn_aald hx hb hK hP 8 6 rfl rfl (by omega) (by decide) dX0_judge_28 ?_
        refine va_getN (v := .ref a) hx hb hts in_X6 hown hK hP 9 rfl rfl 0 (by decide) (hE.use q233 rfl rfl) (fun _ h => h) rfl dX0_judge_29 ?_
        refine ti_castW (C := "[S") (nm := "[B") hx hb hown (hts _ q923) hK hP (hZ.2.2.2.2 "[S" "[B" (by decide)) 10 2 1 rfl rfl rfl (hK.2 2 _ rfl).2 (hK.2 1 _ rfl).2 (by decide) (by decide) (by decide) (by decide) dX0_judge_32 (fun tx9 htx => ti_vmr (names := ["java/lang/RuntimeException", "java/lang/Exception"]) (nb := 120) S hE htr (by decide +kernel) (by decide +kernel) (by decide) (by decide) (by decide +kernel) (by decide +kernel) hZ hAz hS hl.1 (by rcases htx with rfl | rfl <;> decide +kernel) (by rcases htx with rfl | rfl <;> decide +kernel) (by decide) (Nat.le_of_ble_eq_true rfl) (Nat.le_of_ble_eq_true rfl) (by decide) (Nat.le_of_ble_eq_true rfl) (Nat.le_of_ble_eq_true rfl) hlk (fun H1 q9 ce hk9 hS hce hcv hcl => ?_))
        have hP := hP.kept (fun k x hx => hk9 x.1 (hP k x hx).lt)
        refine vx_catch hown [] ⟨16, 39, 40, 352⟩ [] htab (fun z hz => absurd hz List.not_mem_nil) rfl (by decide) (hts _ q891) (hE.use q911 rfl rfl) hce hcv hcl ?_
        refine lv_astore (lv' := [(4, .ref q9), (0, .ref (ad 0)), (1, .int (nI 1)), (2, .int (nI t9)), (3, .int j)]) hx hb dX0_judge_40 hl (by decide) rfl (fun ls hl => ?_)
        refine lv_bipush (v := (-12)) hx hb dX0_judge_42 (by decide) ?_
        have hv9 : ((-12)) = (fun _ => (-12 : Int32)) () := (rfl : (-12 : Int32) = -12)
        refine W.eq (g2 := F0 m 44 ls [.int ((fun _ => (-12 : Int32)) ())]) (congrArg (fun z => F0 m 44 ls [.int z]) hv9) ?_
        exact hret _ () _ _ _ _ (trivial) hP trivial hS (Nat.le_of_ble_eq_true rfl) (Nat.le_of_ble_eq_true rfl) (fun hq hf9 => W.iret hx hb hr hq hf9 dX0_judge_44 hlk)
    · skip
      exact absurd ht5 (by rw [c11]; decide)

set_option maxHeartbeats 2000000 in
theorem met_X0_judge_2 (l : Launch) (D : va_G) (E : Nat → ClassId) (htr : l.stackTraces = false) (z0 : Nat) (ad dh du dv jh ju jv kh ku kv : Nat → Nat) (tx : Nat) (hi : Bool) (xi : ti_Ti) (hxi : ti_Jok xi) (th : Nat → Nat) (t9 : Nat) (ht9 : t9 < 6) (i : Nat) (hi2 : i < 2) (a n : Nat) (f : Nat → Int32) (j : Int32) : ti_MetB (σ := Unit) (τ := Unit) l D E yX0_judge (wsW_ yX0_judge cX0_judge 5 (some .int) [(16, 39, 40, 352)]) 10 3 222 z0 (ti_wMJ E ad dh du dv jh ju jv kh ku kv tx hi xi ++ [(ad 35, .inl (E 6, 6, .inr (.inr (.inr (.inr (ti_o th (fun j => j))))))), (th t9, .inr (6, [.ref a])), (a, .inl (E 0, n, .inl f))]) [.ref (ad 0), .int (nI i), .int (nI t9), .int j] (fun _ => True) (fun _ => ti_wMJ E ad dh du dv jh ju jv kh ku kv tx hi xi ++ [(ad 35, .inl (E 6, 6, .inr (.inr (.inr (.inr (ti_o th (fun j => j))))))), (th t9, .inr (6, [.ref a])), (a, .inl (E 0, n, .inl f))]) (fun u => some (.int ((fun _ => (-12 : Int32)) u))) (fun _ => True) (fun _ _ => True) (fun w => RX14) (fun w => 0) (fun w => ti_wMJ E ad dh du dv jh ju jv kh ku kv tx hi xi ++ [(ad 35, .inl (E 6, 6, .inr (.inr (.inr (.inr (ti_o th (fun j => j))))))), (th t9, .inr (6, [.ref a])), (a, .inl (E 0, n, .inl f))]) (fun w => []) (fun w => False) (fun w H => True) := by
  refine ti_metBH (by decide) (Nat.le_of_ble_eq_true rfl) ?_
  intro p e s m below meth c H A Q ls S hE hP hD hS hA hZ hAz hx0 htab hl hret hq
  obtain ⟨hQ, hr, hlk, hinit⟩ := hq
  have hsz0 := hS.1
  have hx := S.1
  have hb := S.2.1
  have hown := S.2.2.2.1
  have hts := S.2.2.2.2
  have hK := hE.1
  have hl : lv_has ls 5 [(0, .ref (ad 0)), (1, .int (nI i)), (2, .int (nI t9)), (3, .int j)] := hl
  have ht5 : ti_t5 (nI t9) = true := by unfold ti_t5; rw [ti_in_nI (by omega) (by decide) (by decide)]; exact decide_eq_true ⟨Nat.zero_le _, by omega⟩
  have hbt : ti_bt (nI i) = true := by unfold ti_bt; rw [ti_in_nI (by omega) (by decide) (by decide)]; exact decide_eq_true ⟨Nat.zero_le _, by omega⟩
  refine lv_iload_n hx hb dX0_judge_0 rfl (lv_at hl 1 rfl) ?_
  refine ti_pS (As := [.int (nI i)]) (rest := []) (v := .int (ti_b (ti_bt (nI i)))) S hE hP [] (met_X0_isIdeal l D E (nI i)) rfl (lw_S q299 q300 q66 q301) 1 rfl (by decide +kernel) ⟨Nat.le_of_ble_eq_true rfl, Nat.le_of_ble_eq_true rfl⟩ hl.1 rfl (Nat.le_of_ble_eq_true rfl) ⟨Nat.le_of_ble_eq_true rfl, Nat.le_of_ble_eq_true rfl⟩ dX0_judge_1 ?_
  refine tb_eq (tgt := 14) hx hb dX0_judge_4 (by decide) (fun c4 => ?_) (fun c4 => ?_)
  · skip
    exact absurd hbt (by rw [c4]; decide)
  · skip
    refine lv_iload_n hx hb dX0_judge_7 rfl (lv_at hl 2 rfl) ?_
    refine ti_pS (As := [.int (nI t9)]) (rest := []) (v := .int (ti_b (ti_t5 (nI t9)))) S hE hP [] (met_X0_isTape l D E (nI t9)) rfl (lw_S q920 q921 q66 q922) 1 rfl (by decide +kernel) ⟨Nat.le_of_ble_eq_true rfl, Nat.le_of_ble_eq_true rfl⟩ hl.1 rfl (Nat.le_of_ble_eq_true rfl) ⟨Nat.le_of_ble_eq_true rfl, Nat.le_of_ble_eq_true rfl⟩ dX0_judge_8 ?_
    refine tb_ne (tgt := 16) hx hb dX0_judge_11 (by decide) (fun c11 => ?_) (fun c11 => ?_)
    · skip
      rcases (show i = 0 ∨ i = 1 by omega) with rfl | rfl
      · skip
        refine lv_aload_n hx hb dX0_judge_16 rfl (lv_at hl 0 rfl) ?_
        refine lv_aload_n hx hb dX0_judge_17 rfl (lv_at hl 0 rfl) ?_
        refine va_get (v := .ref (ad 1)) hx hb hts in_X0 hown hK hP 0 rfl rfl 0 (by decide) (hts _ q237) (fun _ h => h) rfl dX0_judge_18 ?_
        refine lv_iload_n hx hb dX0_judge_21 rfl (lv_at hl 1 rfl) ?_
        refine tn_aald hx hb hK hP 1 5 rfl rfl (by omega) (by decide) dX0_judge_22 ?_
        refine lv_aload_n hx hb dX0_judge_23 rfl (lv_at hl 0 rfl) ?_
        refine va_get (v := .ref (ad 35)) hx hb hts in_X0 hown hK hP 0 rfl rfl 13 (by decide) (hts _ q250) (fun _ h => h) rfl dX0_judge_24 ?_
        refine lv_iload_n hx hb dX0_judge_27 rfl (lv_at hl 2 rfl) ?_
        refine tn_aald hx hb hK hP 8 6 rfl rfl (by omega) (by decide) dX0_judge_28 ?_
        refine va_getN (v := .ref a) hx hb hts in_X6 hown hK hP 9 rfl rfl 0 (by decide) (hE.use q233 rfl rfl) (fun _ h => h) rfl dX0_judge_29 ?_
        refine ti_castW (C := "[I") (nm := "[B") hx hb hown (hts _ q923) hK hP (hZ.2.2.2.2 "[I" "[B" (by decide)) 10 0 1 rfl rfl rfl (hK.2 0 _ rfl).2 (hK.2 1 _ rfl).2 (by decide) (by decide) (by decide) (by decide) dX0_judge_32 (fun tx9 htx => ti_vmr (names := ["java/lang/RuntimeException", "java/lang/Exception"]) (nb := 120) S hE htr (by decide +kernel) (by decide +kernel) (by decide) (by decide) (by decide +kernel) (by decide +kernel) hZ hAz hS hl.1 (by rcases htx with rfl | rfl <;> decide +kernel) (by rcases htx with rfl | rfl <;> decide +kernel) (by decide) (Nat.le_of_ble_eq_true rfl) (Nat.le_of_ble_eq_true rfl) (by decide) (Nat.le_of_ble_eq_true rfl) (Nat.le_of_ble_eq_true rfl) hlk (fun H1 q9 ce hk9 hS hce hcv hcl => ?_))
        have hP := hP.kept (fun k x hx => hk9 x.1 (hP k x hx).lt)
        refine vx_catch hown [] ⟨16, 39, 40, 352⟩ [] htab (fun z hz => absurd hz List.not_mem_nil) rfl (by decide) (hts _ q891) (hE.use q911 rfl rfl) hce hcv hcl ?_
        refine lv_astore (lv' := [(4, .ref q9), (0, .ref (ad 0)), (1, .int (nI 0)), (2, .int (nI t9)), (3, .int j)]) hx hb dX0_judge_40 hl (by decide) rfl (fun ls hl => ?_)
        refine lv_bipush (v := (-12)) hx hb dX0_judge_42 (by decide) ?_
        have hv9 : ((-12)) = (fun _ => (-12 : Int32)) () := (rfl : (-12 : Int32) = -12)
        refine W.eq (g2 := F0 m 44 ls [.int ((fun _ => (-12 : Int32)) ())]) (congrArg (fun z => F0 m 44 ls [.int z]) hv9) ?_
        exact hret _ () _ _ _ _ (trivial) hP trivial hS (Nat.le_of_ble_eq_true rfl) (Nat.le_of_ble_eq_true rfl) (fun hq hf9 => W.iret hx hb hr hq hf9 dX0_judge_44 hlk)
      · skip
        refine lv_aload_n hx hb dX0_judge_16 rfl (lv_at hl 0 rfl) ?_
        refine lv_aload_n hx hb dX0_judge_17 rfl (lv_at hl 0 rfl) ?_
        refine va_get (v := .ref (ad 1)) hx hb hts in_X0 hown hK hP 0 rfl rfl 0 (by decide) (hts _ q237) (fun _ h => h) rfl dX0_judge_18 ?_
        refine lv_iload_n hx hb dX0_judge_21 rfl (lv_at hl 1 rfl) ?_
        refine tn_aald hx hb hK hP 1 5 rfl rfl (by omega) (by decide) dX0_judge_22 ?_
        refine lv_aload_n hx hb dX0_judge_23 rfl (lv_at hl 0 rfl) ?_
        refine va_get (v := .ref (ad 35)) hx hb hts in_X0 hown hK hP 0 rfl rfl 13 (by decide) (hts _ q250) (fun _ h => h) rfl dX0_judge_24 ?_
        refine lv_iload_n hx hb dX0_judge_27 rfl (lv_at hl 2 rfl) ?_
        refine tn_aald hx hb hK hP 8 6 rfl rfl (by omega) (by decide) dX0_judge_28 ?_
        refine va_getN (v := .ref a) hx hb hts in_X6 hown hK hP 9 rfl rfl 0 (by decide) (hE.use q233 rfl rfl) (fun _ h => h) rfl dX0_judge_29 ?_
        refine ti_castW (C := "[I") (nm := "[B") hx hb hown (hts _ q923) hK hP (hZ.2.2.2.2 "[I" "[B" (by decide)) 10 0 1 rfl rfl rfl (hK.2 0 _ rfl).2 (hK.2 1 _ rfl).2 (by decide) (by decide) (by decide) (by decide) dX0_judge_32 (fun tx9 htx => ti_vmr (names := ["java/lang/RuntimeException", "java/lang/Exception"]) (nb := 120) S hE htr (by decide +kernel) (by decide +kernel) (by decide) (by decide) (by decide +kernel) (by decide +kernel) hZ hAz hS hl.1 (by rcases htx with rfl | rfl <;> decide +kernel) (by rcases htx with rfl | rfl <;> decide +kernel) (by decide) (Nat.le_of_ble_eq_true rfl) (Nat.le_of_ble_eq_true rfl) (by decide) (Nat.le_of_ble_eq_true rfl) (Nat.le_of_ble_eq_true rfl) hlk (fun H1 q9 ce hk9 hS hce hcv hcl => ?_))
        have hP := hP.kept (fun k x hx => hk9 x.1 (hP k x hx).lt)
        refine vx_catch hown [] ⟨16, 39, 40, 352⟩ [] htab (fun z hz => absurd hz List.not_mem_nil) rfl (by decide) (hts _ q891) (hE.use q911 rfl rfl) hce hcv hcl ?_
        refine lv_astore (lv' := [(4, .ref q9), (0, .ref (ad 0)), (1, .int (nI 1)), (2, .int (nI t9)), (3, .int j)]) hx hb dX0_judge_40 hl (by decide) rfl (fun ls hl => ?_)
        refine lv_bipush (v := (-12)) hx hb dX0_judge_42 (by decide) ?_
        have hv9 : ((-12)) = (fun _ => (-12 : Int32)) () := (rfl : (-12 : Int32) = -12)
        refine W.eq (g2 := F0 m 44 ls [.int ((fun _ => (-12 : Int32)) ())]) (congrArg (fun z => F0 m 44 ls [.int z]) hv9) ?_
        exact hret _ () _ _ _ _ (trivial) hP trivial hS (Nat.le_of_ble_eq_true rfl) (Nat.le_of_ble_eq_true rfl) (fun hq hf9 => W.iret hx hb hr hq hf9 dX0_judge_44 hlk)
    · skip
      exact absurd ht5 (by rw [c11]; decide)

set_option maxHeartbeats 2000000 in
theorem met_X0_judge_3 (l : Launch) (D : va_G) (E : Nat → ClassId) (htr : l.stackTraces = false) (z0 : Nat) (ad dh du dv jh ju jv kh ku kv : Nat → Nat) (tx : Nat) (hi : Bool) (xi : ti_Ti) (hxi : ti_Jok xi) (th : Nat → Nat) (t9 : Nat) (ht9 : t9 < 6) (i : Nat) (hi2 : i < 2) (a n : Nat) (f : Nat → Int64) (j : Int32) : ti_MetB (σ := Unit) (τ := Unit) l D E yX0_judge (wsW_ yX0_judge cX0_judge 5 (some .int) [(16, 39, 40, 352)]) 10 3 222 z0 (ti_wMJ E ad dh du dv jh ju jv kh ku kv tx hi xi ++ [(ad 35, .inl (E 6, 6, .inr (.inr (.inr (.inr (ti_o th (fun j => j))))))), (th t9, .inr (6, [.ref a])), (a, .inl (E 3, n, .inr (.inl f)))]) [.ref (ad 0), .int (nI i), .int (nI t9), .int j] (fun _ => True) (fun _ => ti_wMJ E ad dh du dv jh ju jv kh ku kv tx hi xi ++ [(ad 35, .inl (E 6, 6, .inr (.inr (.inr (.inr (ti_o th (fun j => j))))))), (th t9, .inr (6, [.ref a])), (a, .inl (E 3, n, .inr (.inl f)))]) (fun u => some (.int ((fun _ => (-12 : Int32)) u))) (fun _ => True) (fun _ _ => True) (fun w => RX14) (fun w => 0) (fun w => ti_wMJ E ad dh du dv jh ju jv kh ku kv tx hi xi ++ [(ad 35, .inl (E 6, 6, .inr (.inr (.inr (.inr (ti_o th (fun j => j))))))), (th t9, .inr (6, [.ref a])), (a, .inl (E 3, n, .inr (.inl f)))]) (fun w => []) (fun w => False) (fun w H => True) := by
  refine ti_metBH (by decide) (Nat.le_of_ble_eq_true rfl) ?_
  intro p e s m below meth c H A Q ls S hE hP hD hS hA hZ hAz hx0 htab hl hret hq
  obtain ⟨hQ, hr, hlk, hinit⟩ := hq
  have hsz0 := hS.1
  have hx := S.1
  have hb := S.2.1
  have hown := S.2.2.2.1
  have hts := S.2.2.2.2
  have hK := hE.1
  have hl : lv_has ls 5 [(0, .ref (ad 0)), (1, .int (nI i)), (2, .int (nI t9)), (3, .int j)] := hl
  have ht5 : ti_t5 (nI t9) = true := by unfold ti_t5; rw [ti_in_nI (by omega) (by decide) (by decide)]; exact decide_eq_true ⟨Nat.zero_le _, by omega⟩
  have hbt : ti_bt (nI i) = true := by unfold ti_bt; rw [ti_in_nI (by omega) (by decide) (by decide)]; exact decide_eq_true ⟨Nat.zero_le _, by omega⟩
  refine lv_iload_n hx hb dX0_judge_0 rfl (lv_at hl 1 rfl) ?_
  refine ti_pS (As := [.int (nI i)]) (rest := []) (v := .int (ti_b (ti_bt (nI i)))) S hE hP [] (met_X0_isIdeal l D E (nI i)) rfl (lw_S q299 q300 q66 q301) 1 rfl (by decide +kernel) ⟨Nat.le_of_ble_eq_true rfl, Nat.le_of_ble_eq_true rfl⟩ hl.1 rfl (Nat.le_of_ble_eq_true rfl) ⟨Nat.le_of_ble_eq_true rfl, Nat.le_of_ble_eq_true rfl⟩ dX0_judge_1 ?_
  refine tb_eq (tgt := 14) hx hb dX0_judge_4 (by decide) (fun c4 => ?_) (fun c4 => ?_)
  · skip
    exact absurd hbt (by rw [c4]; decide)
  · skip
    refine lv_iload_n hx hb dX0_judge_7 rfl (lv_at hl 2 rfl) ?_
    refine ti_pS (As := [.int (nI t9)]) (rest := []) (v := .int (ti_b (ti_t5 (nI t9)))) S hE hP [] (met_X0_isTape l D E (nI t9)) rfl (lw_S q920 q921 q66 q922) 1 rfl (by decide +kernel) ⟨Nat.le_of_ble_eq_true rfl, Nat.le_of_ble_eq_true rfl⟩ hl.1 rfl (Nat.le_of_ble_eq_true rfl) ⟨Nat.le_of_ble_eq_true rfl, Nat.le_of_ble_eq_true rfl⟩ dX0_judge_8 ?_
    refine tb_ne (tgt := 16) hx hb dX0_judge_11 (by decide) (fun c11 => ?_) (fun c11 => ?_)
    · skip
      rcases (show i = 0 ∨ i = 1 by omega) with rfl | rfl
      · skip
        refine lv_aload_n hx hb dX0_judge_16 rfl (lv_at hl 0 rfl) ?_
        refine lv_aload_n hx hb dX0_judge_17 rfl (lv_at hl 0 rfl) ?_
        refine va_get (v := .ref (ad 1)) hx hb hts in_X0 hown hK hP 0 rfl rfl 0 (by decide) (hts _ q237) (fun _ h => h) rfl dX0_judge_18 ?_
        refine lv_iload_n hx hb dX0_judge_21 rfl (lv_at hl 1 rfl) ?_
        refine tn_aald hx hb hK hP 1 5 rfl rfl (by omega) (by decide) dX0_judge_22 ?_
        refine lv_aload_n hx hb dX0_judge_23 rfl (lv_at hl 0 rfl) ?_
        refine va_get (v := .ref (ad 35)) hx hb hts in_X0 hown hK hP 0 rfl rfl 13 (by decide) (hts _ q250) (fun _ h => h) rfl dX0_judge_24 ?_
        refine lv_iload_n hx hb dX0_judge_27 rfl (lv_at hl 2 rfl) ?_
        refine tn_aald hx hb hK hP 8 6 rfl rfl (by omega) (by decide) dX0_judge_28 ?_
        refine va_getN (v := .ref a) hx hb hts in_X6 hown hK hP 9 rfl rfl 0 (by decide) (hE.use q233 rfl rfl) (fun _ h => h) rfl dX0_judge_29 ?_
        refine ti_castW (C := "[J") (nm := "[B") hx hb hown (hts _ q923) hK hP (hZ.2.2.2.2 "[J" "[B" (by decide)) 10 3 1 rfl rfl rfl (hK.2 3 _ rfl).2 (hK.2 1 _ rfl).2 (by decide) (by decide) (by decide) (by decide) dX0_judge_32 (fun tx9 htx => ti_vmr (names := ["java/lang/RuntimeException", "java/lang/Exception"]) (nb := 120) S hE htr (by decide +kernel) (by decide +kernel) (by decide) (by decide) (by decide +kernel) (by decide +kernel) hZ hAz hS hl.1 (by rcases htx with rfl | rfl <;> decide +kernel) (by rcases htx with rfl | rfl <;> decide +kernel) (by decide) (Nat.le_of_ble_eq_true rfl) (Nat.le_of_ble_eq_true rfl) (by decide) (Nat.le_of_ble_eq_true rfl) (Nat.le_of_ble_eq_true rfl) hlk (fun H1 q9 ce hk9 hS hce hcv hcl => ?_))
        have hP := hP.kept (fun k x hx => hk9 x.1 (hP k x hx).lt)
        refine vx_catch hown [] ⟨16, 39, 40, 352⟩ [] htab (fun z hz => absurd hz List.not_mem_nil) rfl (by decide) (hts _ q891) (hE.use q911 rfl rfl) hce hcv hcl ?_
        refine lv_astore (lv' := [(4, .ref q9), (0, .ref (ad 0)), (1, .int (nI 0)), (2, .int (nI t9)), (3, .int j)]) hx hb dX0_judge_40 hl (by decide) rfl (fun ls hl => ?_)
        refine lv_bipush (v := (-12)) hx hb dX0_judge_42 (by decide) ?_
        have hv9 : ((-12)) = (fun _ => (-12 : Int32)) () := (rfl : (-12 : Int32) = -12)
        refine W.eq (g2 := F0 m 44 ls [.int ((fun _ => (-12 : Int32)) ())]) (congrArg (fun z => F0 m 44 ls [.int z]) hv9) ?_
        exact hret _ () _ _ _ _ (trivial) hP trivial hS (Nat.le_of_ble_eq_true rfl) (Nat.le_of_ble_eq_true rfl) (fun hq hf9 => W.iret hx hb hr hq hf9 dX0_judge_44 hlk)
      · skip
        refine lv_aload_n hx hb dX0_judge_16 rfl (lv_at hl 0 rfl) ?_
        refine lv_aload_n hx hb dX0_judge_17 rfl (lv_at hl 0 rfl) ?_
        refine va_get (v := .ref (ad 1)) hx hb hts in_X0 hown hK hP 0 rfl rfl 0 (by decide) (hts _ q237) (fun _ h => h) rfl dX0_judge_18 ?_
        refine lv_iload_n hx hb dX0_judge_21 rfl (lv_at hl 1 rfl) ?_
        refine tn_aald hx hb hK hP 1 5 rfl rfl (by omega) (by decide) dX0_judge_22 ?_
        refine lv_aload_n hx hb dX0_judge_23 rfl (lv_at hl 0 rfl) ?_
        refine va_get (v := .ref (ad 35)) hx hb hts in_X0 hown hK hP 0 rfl rfl 13 (by decide) (hts _ q250) (fun _ h => h) rfl dX0_judge_24 ?_
        refine lv_iload_n hx hb dX0_judge_27 rfl (lv_at hl 2 rfl) ?_
        refine tn_aald hx hb hK hP 8 6 rfl rfl (by omega) (by decide) dX0_judge_28 ?_
        refine va_getN (v := .ref a) hx hb hts in_X6 hown hK hP 9 rfl rfl 0 (by decide) (hE.use q233 rfl rfl) (fun _ h => h) rfl dX0_judge_29 ?_
        refine ti_castW (C := "[J") (nm := "[B") hx hb hown (hts _ q923) hK hP (hZ.2.2.2.2 "[J" "[B" (by decide)) 10 3 1 rfl rfl rfl (hK.2 3 _ rfl).2 (hK.2 1 _ rfl).2 (by decide) (by decide) (by decide) (by decide) dX0_judge_32 (fun tx9 htx => ti_vmr (names := ["java/lang/RuntimeException", "java/lang/Exception"]) (nb := 120) S hE htr (by decide +kernel) (by decide +kernel) (by decide) (by decide) (by decide +kernel) (by decide +kernel) hZ hAz hS hl.1 (by rcases htx with rfl | rfl <;> decide +kernel) (by rcases htx with rfl | rfl <;> decide +kernel) (by decide) (Nat.le_of_ble_eq_true rfl) (Nat.le_of_ble_eq_true rfl) (by decide) (Nat.le_of_ble_eq_true rfl) (Nat.le_of_ble_eq_true rfl) hlk (fun H1 q9 ce hk9 hS hce hcv hcl => ?_))
        have hP := hP.kept (fun k x hx => hk9 x.1 (hP k x hx).lt)
        refine vx_catch hown [] ⟨16, 39, 40, 352⟩ [] htab (fun z hz => absurd hz List.not_mem_nil) rfl (by decide) (hts _ q891) (hE.use q911 rfl rfl) hce hcv hcl ?_
        refine lv_astore (lv' := [(4, .ref q9), (0, .ref (ad 0)), (1, .int (nI 1)), (2, .int (nI t9)), (3, .int j)]) hx hb dX0_judge_40 hl (by decide) rfl (fun ls hl => ?_)
        refine lv_bipush (v := (-12)) hx hb dX0_judge_42 (by decide) ?_
        have hv9 : ((-12)) = (fun _ => (-12 : Int32)) () := (rfl : (-12 : Int32) = -12)
        refine W.eq (g2 := F0 m 44 ls [.int ((fun _ => (-12 : Int32)) ())]) (congrArg (fun z => F0 m 44 ls [.int z]) hv9) ?_
        exact hret _ () _ _ _ _ (trivial) hP trivial hS (Nat.le_of_ble_eq_true rfl) (Nat.le_of_ble_eq_true rfl) (fun hq hf9 => W.iret hx hb hr hq hf9 dX0_judge_44 hlk)
    · skip
      exact absurd ht5 (by rw [c11]; decide)

set_option maxHeartbeats 2000000 in
theorem met_X0_judge_4 (l : Launch) (D : va_G) (E : Nat → ClassId) (htr : l.stackTraces = false) (z0 : Nat) (ad dh du dv jh ju jv kh ku kv : Nat → Nat) (tx : Nat) (hi : Bool) (xi : ti_Ti) (hxi : ti_Jok xi) (th : Nat → Nat) (t9 : Nat) (ht9 : t9 < 6) (i : Nat) (hi2 : i < 2) (a n : Nat) (f : Nat → Int32) (j : Int32) : ti_MetB (σ := Unit) (τ := Unit) l D E yX0_judge (wsW_ yX0_judge cX0_judge 5 (some .int) [(16, 39, 40, 352)]) 10 3 222 z0 (ti_wMJ E ad dh du dv jh ju jv kh ku kv tx hi xi ++ [(ad 35, .inl (E 6, 6, .inr (.inr (.inr (.inr (ti_o th (fun j => j))))))), (th t9, .inr (6, [.ref a])), (a, .inl (E 4, n, .inl f))]) [.ref (ad 0), .int (nI i), .int (nI t9), .int j] (fun _ => True) (fun _ => ti_wMJ E ad dh du dv jh ju jv kh ku kv tx hi xi ++ [(ad 35, .inl (E 6, 6, .inr (.inr (.inr (.inr (ti_o th (fun j => j))))))), (th t9, .inr (6, [.ref a])), (a, .inl (E 4, n, .inl f))]) (fun u => some (.int ((fun _ => (-12 : Int32)) u))) (fun _ => True) (fun _ _ => True) (fun w => RX14) (fun w => 0) (fun w => ti_wMJ E ad dh du dv jh ju jv kh ku kv tx hi xi ++ [(ad 35, .inl (E 6, 6, .inr (.inr (.inr (.inr (ti_o th (fun j => j))))))), (th t9, .inr (6, [.ref a])), (a, .inl (E 4, n, .inl f))]) (fun w => []) (fun w => False) (fun w H => True) := by
  refine ti_metBH (by decide) (Nat.le_of_ble_eq_true rfl) ?_
  intro p e s m below meth c H A Q ls S hE hP hD hS hA hZ hAz hx0 htab hl hret hq
  obtain ⟨hQ, hr, hlk, hinit⟩ := hq
  have hsz0 := hS.1
  have hx := S.1
  have hb := S.2.1
  have hown := S.2.2.2.1
  have hts := S.2.2.2.2
  have hK := hE.1
  have hl : lv_has ls 5 [(0, .ref (ad 0)), (1, .int (nI i)), (2, .int (nI t9)), (3, .int j)] := hl
  have ht5 : ti_t5 (nI t9) = true := by unfold ti_t5; rw [ti_in_nI (by omega) (by decide) (by decide)]; exact decide_eq_true ⟨Nat.zero_le _, by omega⟩
  have hbt : ti_bt (nI i) = true := by unfold ti_bt; rw [ti_in_nI (by omega) (by decide) (by decide)]; exact decide_eq_true ⟨Nat.zero_le _, by omega⟩
  refine lv_iload_n hx hb dX0_judge_0 rfl (lv_at hl 1 rfl) ?_
  refine ti_pS (As := [.int (nI i)]) (rest := []) (v := .int (ti_b (ti_bt (nI i)))) S hE hP [] (met_X0_isIdeal l D E (nI i)) rfl (lw_S q299 q300 q66 q301) 1 rfl (by decide +kernel) ⟨Nat.le_of_ble_eq_true rfl, Nat.le_of_ble_eq_true rfl⟩ hl.1 rfl (Nat.le_of_ble_eq_true rfl) ⟨Nat.le_of_ble_eq_true rfl, Nat.le_of_ble_eq_true rfl⟩ dX0_judge_1 ?_
  refine tb_eq (tgt := 14) hx hb dX0_judge_4 (by decide) (fun c4 => ?_) (fun c4 => ?_)
  · skip
    exact absurd hbt (by rw [c4]; decide)
  · skip
    refine lv_iload_n hx hb dX0_judge_7 rfl (lv_at hl 2 rfl) ?_
    refine ti_pS (As := [.int (nI t9)]) (rest := []) (v := .int (ti_b (ti_t5 (nI t9)))) S hE hP [] (met_X0_isTape l D E (nI t9)) rfl (lw_S q920 q921 q66 q922) 1 rfl (by decide +kernel) ⟨Nat.le_of_ble_eq_true rfl, Nat.le_of_ble_eq_true rfl⟩ hl.1 rfl (Nat.le_of_ble_eq_true rfl) ⟨Nat.le_of_ble_eq_true rfl, Nat.le_of_ble_eq_true rfl⟩ dX0_judge_8 ?_
    refine tb_ne (tgt := 16) hx hb dX0_judge_11 (by decide) (fun c11 => ?_) (fun c11 => ?_)
    · skip
      rcases (show i = 0 ∨ i = 1 by omega) with rfl | rfl
      · skip
        refine lv_aload_n hx hb dX0_judge_16 rfl (lv_at hl 0 rfl) ?_
        refine lv_aload_n hx hb dX0_judge_17 rfl (lv_at hl 0 rfl) ?_
        refine va_get (v := .ref (ad 1)) hx hb hts in_X0 hown hK hP 0 rfl rfl 0 (by decide) (hts _ q237) (fun _ h => h) rfl dX0_judge_18 ?_
        refine lv_iload_n hx hb dX0_judge_21 rfl (lv_at hl 1 rfl) ?_
        refine tn_aald hx hb hK hP 1 5 rfl rfl (by omega) (by decide) dX0_judge_22 ?_
        refine lv_aload_n hx hb dX0_judge_23 rfl (lv_at hl 0 rfl) ?_
        refine va_get (v := .ref (ad 35)) hx hb hts in_X0 hown hK hP 0 rfl rfl 13 (by decide) (hts _ q250) (fun _ h => h) rfl dX0_judge_24 ?_
        refine lv_iload_n hx hb dX0_judge_27 rfl (lv_at hl 2 rfl) ?_
        refine tn_aald hx hb hK hP 8 6 rfl rfl (by omega) (by decide) dX0_judge_28 ?_
        refine va_getN (v := .ref a) hx hb hts in_X6 hown hK hP 9 rfl rfl 0 (by decide) (hE.use q233 rfl rfl) (fun _ h => h) rfl dX0_judge_29 ?_
        refine ti_castW (C := "[Z") (nm := "[B") hx hb hown (hts _ q923) hK hP (hZ.2.2.2.2 "[Z" "[B" (by decide)) 10 4 1 rfl rfl rfl (hK.2 4 _ rfl).2 (hK.2 1 _ rfl).2 (by decide) (by decide) (by decide) (by decide) dX0_judge_32 (fun tx9 htx => ti_vmr (names := ["java/lang/RuntimeException", "java/lang/Exception"]) (nb := 120) S hE htr (by decide +kernel) (by decide +kernel) (by decide) (by decide) (by decide +kernel) (by decide +kernel) hZ hAz hS hl.1 (by rcases htx with rfl | rfl <;> decide +kernel) (by rcases htx with rfl | rfl <;> decide +kernel) (by decide) (Nat.le_of_ble_eq_true rfl) (Nat.le_of_ble_eq_true rfl) (by decide) (Nat.le_of_ble_eq_true rfl) (Nat.le_of_ble_eq_true rfl) hlk (fun H1 q9 ce hk9 hS hce hcv hcl => ?_))
        have hP := hP.kept (fun k x hx => hk9 x.1 (hP k x hx).lt)
        refine vx_catch hown [] ⟨16, 39, 40, 352⟩ [] htab (fun z hz => absurd hz List.not_mem_nil) rfl (by decide) (hts _ q891) (hE.use q911 rfl rfl) hce hcv hcl ?_
        refine lv_astore (lv' := [(4, .ref q9), (0, .ref (ad 0)), (1, .int (nI 0)), (2, .int (nI t9)), (3, .int j)]) hx hb dX0_judge_40 hl (by decide) rfl (fun ls hl => ?_)
        refine lv_bipush (v := (-12)) hx hb dX0_judge_42 (by decide) ?_
        have hv9 : ((-12)) = (fun _ => (-12 : Int32)) () := (rfl : (-12 : Int32) = -12)
        refine W.eq (g2 := F0 m 44 ls [.int ((fun _ => (-12 : Int32)) ())]) (congrArg (fun z => F0 m 44 ls [.int z]) hv9) ?_
        exact hret _ () _ _ _ _ (trivial) hP trivial hS (Nat.le_of_ble_eq_true rfl) (Nat.le_of_ble_eq_true rfl) (fun hq hf9 => W.iret hx hb hr hq hf9 dX0_judge_44 hlk)
      · skip
        refine lv_aload_n hx hb dX0_judge_16 rfl (lv_at hl 0 rfl) ?_
        refine lv_aload_n hx hb dX0_judge_17 rfl (lv_at hl 0 rfl) ?_
        refine va_get (v := .ref (ad 1)) hx hb hts in_X0 hown hK hP 0 rfl rfl 0 (by decide) (hts _ q237) (fun _ h => h) rfl dX0_judge_18 ?_
        refine lv_iload_n hx hb dX0_judge_21 rfl (lv_at hl 1 rfl) ?_
        refine tn_aald hx hb hK hP 1 5 rfl rfl (by omega) (by decide) dX0_judge_22 ?_
        refine lv_aload_n hx hb dX0_judge_23 rfl (lv_at hl 0 rfl) ?_
        refine va_get (v := .ref (ad 35)) hx hb hts in_X0 hown hK hP 0 rfl rfl 13 (by decide) (hts _ q250) (fun _ h => h) rfl dX0_judge_24 ?_
        refine lv_iload_n hx hb dX0_judge_27 rfl (lv_at hl 2 rfl) ?_
        refine tn_aald hx hb hK hP 8 6 rfl rfl (by omega) (by decide) dX0_judge_28 ?_
        refine va_getN (v := .ref a) hx hb hts in_X6 hown hK hP 9 rfl rfl 0 (by decide) (hE.use q233 rfl rfl) (fun _ h => h) rfl dX0_judge_29 ?_
        refine ti_castW (C := "[Z") (nm := "[B") hx hb hown (hts _ q923) hK hP (hZ.2.2.2.2 "[Z" "[B" (by decide)) 10 4 1 rfl rfl rfl (hK.2 4 _ rfl).2 (hK.2 1 _ rfl).2 (by decide) (by decide) (by decide) (by decide) dX0_judge_32 (fun tx9 htx => ti_vmr (names := ["java/lang/RuntimeException", "java/lang/Exception"]) (nb := 120) S hE htr (by decide +kernel) (by decide +kernel) (by decide) (by decide) (by decide +kernel) (by decide +kernel) hZ hAz hS hl.1 (by rcases htx with rfl | rfl <;> decide +kernel) (by rcases htx with rfl | rfl <;> decide +kernel) (by decide) (Nat.le_of_ble_eq_true rfl) (Nat.le_of_ble_eq_true rfl) (by decide) (Nat.le_of_ble_eq_true rfl) (Nat.le_of_ble_eq_true rfl) hlk (fun H1 q9 ce hk9 hS hce hcv hcl => ?_))
        have hP := hP.kept (fun k x hx => hk9 x.1 (hP k x hx).lt)
        refine vx_catch hown [] ⟨16, 39, 40, 352⟩ [] htab (fun z hz => absurd hz List.not_mem_nil) rfl (by decide) (hts _ q891) (hE.use q911 rfl rfl) hce hcv hcl ?_
        refine lv_astore (lv' := [(4, .ref q9), (0, .ref (ad 0)), (1, .int (nI 1)), (2, .int (nI t9)), (3, .int j)]) hx hb dX0_judge_40 hl (by decide) rfl (fun ls hl => ?_)
        refine lv_bipush (v := (-12)) hx hb dX0_judge_42 (by decide) ?_
        have hv9 : ((-12)) = (fun _ => (-12 : Int32)) () := (rfl : (-12 : Int32) = -12)
        refine W.eq (g2 := F0 m 44 ls [.int ((fun _ => (-12 : Int32)) ())]) (congrArg (fun z => F0 m 44 ls [.int z]) hv9) ?_
        exact hret _ () _ _ _ _ (trivial) hP trivial hS (Nat.le_of_ble_eq_true rfl) (Nat.le_of_ble_eq_true rfl) (fun hq hf9 => W.iret hx hb hr hq hf9 dX0_judge_44 hlk)
    · skip
      exact absurd ht5 (by rw [c11]; decide)

set_option maxHeartbeats 2000000 in
theorem met_X0_judge_0x (l : Launch) (D : va_G) (E : Nat → ClassId) (htr : l.stackTraces = false) (z0 : Nat) (ad dh du dv jh ju jv kh ku kv : Nat → Nat) (tx : Nat) (hi : Bool) (xi : ti_Ti) (hxi : ti_Jok xi) (th : Nat → Nat) (t9 : Nat) (ht9 : t9 < 6) (i : Nat) (hi2 : i < 2) (a n : Nat) (hn60 : n ≤ 60) (f : Nat → Int32) (j : Int32) (hin : ti_lt j n = false) : ti_MetB (σ := Unit) (τ := Unit) l D E yX0_judge (wsW_ yX0_judge cX0_judge 5 (some .int) [(16, 39, 40, 352)]) 10 3 222 z0 (ti_wMJ E ad dh du dv jh ju jv kh ku kv tx hi xi ++ [(ad 35, .inl (E 6, 6, .inr (.inr (.inr (.inr (ti_o th (fun j => j))))))), (th t9, .inr (6, [.ref a])), (a, .inl (E 1, n, .inl f))]) [.ref (ad 0), .int (nI i), .int (nI t9), .int j] (fun _ => True) (fun _ => ti_wMJ E ad dh du dv jh ju jv kh ku kv tx hi xi ++ [(ad 35, .inl (E 6, 6, .inr (.inr (.inr (.inr (ti_o th (fun j => j))))))), (th t9, .inr (6, [.ref a])), (a, .inl (E 1, n, .inl f))]) (fun u => some (.int ((fun _ => nI 100) u))) (fun _ => True) (fun _ _ => True) (fun w => RX14) (fun w => 0) (fun w => ti_wMJ E ad dh du dv jh ju jv kh ku kv tx hi xi ++ [(ad 35, .inl (E 6, 6, .inr (.inr (.inr (.inr (ti_o th (fun j => j))))))), (th t9, .inr (6, [.ref a])), (a, .inl (E 1, n, .inl f))]) (fun w => []) (fun w => False) (fun w H => True) := by
  refine ti_metBH (by decide) (Nat.le_of_ble_eq_true rfl) ?_
  intro p e s m below meth c H A Q ls S hE hP hD hS hA hZ hAz hx0 htab hl hret hq
  obtain ⟨hQ, hr, hlk, hinit⟩ := hq
  have hsz0 := hS.1
  have hx := S.1
  have hb := S.2.1
  have hown := S.2.2.2.1
  have hts := S.2.2.2.2
  have hK := hE.1
  have hl : lv_has ls 5 [(0, .ref (ad 0)), (1, .int (nI i)), (2, .int (nI t9)), (3, .int j)] := hl
  have ht5 : ti_t5 (nI t9) = true := by unfold ti_t5; rw [ti_in_nI (by omega) (by decide) (by decide)]; exact decide_eq_true ⟨Nat.zero_le _, by omega⟩
  have hbt : ti_bt (nI i) = true := by unfold ti_bt; rw [ti_in_nI (by omega) (by decide) (by decide)]; exact decide_eq_true ⟨Nat.zero_le _, by omega⟩
  refine lv_iload_n hx hb dX0_judge_0 rfl (lv_at hl 1 rfl) ?_
  refine ti_pS (As := [.int (nI i)]) (rest := []) (v := .int (ti_b (ti_bt (nI i)))) S hE hP [] (met_X0_isIdeal l D E (nI i)) rfl (lw_S q299 q300 q66 q301) 1 rfl (by decide +kernel) ⟨Nat.le_of_ble_eq_true rfl, Nat.le_of_ble_eq_true rfl⟩ hl.1 rfl (Nat.le_of_ble_eq_true rfl) ⟨Nat.le_of_ble_eq_true rfl, Nat.le_of_ble_eq_true rfl⟩ dX0_judge_1 ?_
  refine tb_eq (tgt := 14) hx hb dX0_judge_4 (by decide) (fun c4 => ?_) (fun c4 => ?_)
  · skip
    exact absurd hbt (by rw [c4]; decide)
  · skip
    refine lv_iload_n hx hb dX0_judge_7 rfl (lv_at hl 2 rfl) ?_
    refine ti_pS (As := [.int (nI t9)]) (rest := []) (v := .int (ti_b (ti_t5 (nI t9)))) S hE hP [] (met_X0_isTape l D E (nI t9)) rfl (lw_S q920 q921 q66 q922) 1 rfl (by decide +kernel) ⟨Nat.le_of_ble_eq_true rfl, Nat.le_of_ble_eq_true rfl⟩ hl.1 rfl (Nat.le_of_ble_eq_true rfl) ⟨Nat.le_of_ble_eq_true rfl, Nat.le_of_ble_eq_true rfl⟩ dX0_judge_8 ?_
    refine tb_ne (tgt := 16) hx hb dX0_judge_11 (by decide) (fun c11 => ?_) (fun c11 => ?_)
    · skip
      rcases (show i = 0 ∨ i = 1 by omega) with rfl | rfl
      · skip
        refine lv_aload_n hx hb dX0_judge_16 rfl (lv_at hl 0 rfl) ?_
        refine lv_aload_n hx hb dX0_judge_17 rfl (lv_at hl 0 rfl) ?_
        refine va_get (v := .ref (ad 1)) hx hb hts in_X0 hown hK hP 0 rfl rfl 0 (by decide) (hts _ q237) (fun _ h => h) rfl dX0_judge_18 ?_
        refine lv_iload_n hx hb dX0_judge_21 rfl (lv_at hl 1 rfl) ?_
        refine tn_aald hx hb hK hP 1 5 rfl rfl (by omega) (by decide) dX0_judge_22 ?_
        refine lv_aload_n hx hb dX0_judge_23 rfl (lv_at hl 0 rfl) ?_
        refine va_get (v := .ref (ad 35)) hx hb hts in_X0 hown hK hP 0 rfl rfl 13 (by decide) (hts _ q250) (fun _ h => h) rfl dX0_judge_24 ?_
        refine lv_iload_n hx hb dX0_judge_27 rfl (lv_at hl 2 rfl) ?_
        refine tn_aald hx hb hK hP 8 6 rfl rfl (by omega) (by decide) dX0_judge_28 ?_
        refine va_getN (v := .ref a) hx hb hts in_X6 hown hK hP 9 rfl rfl 0 (by decide) (hE.use q233 rfl rfl) (fun _ h => h) rfl dX0_judge_29 ?_
        refine va_castA hx hb hown (hts _ q923) hP 10 rfl (hK.2 1 _ rfl).2 dX0_judge_32 ?_
        refine lv_iload_n hx hb dX0_judge_35 rfl (lv_at hl 3 rfl) ?_
        refine ti_callX (ty_runVX (As := [.ref (jh 0), .ref a, .int j]) (rest := []) S (met_X0_firstOther_x l D E htr z0 ad tx hi (jh 0) (ju 0) (jv 0) (xi.1 0) (xi.2.1 0) (xi.2.2 0) (hxi.2.2 0) (hxi.1 0) (hxi.2.1 0) a n hn60 f j hin H.size) (vx_cwVW 3 S.2.2.2.2 (lw_VW q924 q926 qs21 q66 q927) rfl rfl rfl (by decide +kernel) ⟨Nat.le_of_ble_eq_true rfl, Nat.le_of_ble_eq_true rfl⟩) (ti_preXV (xp := fun _ => True) hE hP hD hS rfl hZ hAz trivial [0, 2, 3, 4, 10] rfl rfl 0 rfl rfl) rfl rfl hl.1 rfl (lv_room (Nat.le_of_ble_eq_true rfl)) dX0_judge_36 ⟨Nat.le_of_ble_eq_true rfl, Nat.le_of_ble_eq_true rfl⟩) hP hD hS hA [0, 2, 3, 4, 10] rfl (fun _ => rfl) (fun _ => rfl) (fun _ H locs hu _ _ hP hD hS => ?_) (fun _ _ _ _ h9 => absurd h9 id)
        have hP : va_P D vwCl (ti_wMJ E ad dh du dv jh ju jv kh ku kv tx hi xi ++ [(ad 35, .inl (E 6, 6, .inr (.inr (.inr (.inr (ti_o th (fun j => j))))))), (th t9, .inr (6, [.ref a])), (a, .inl (E 1, n, .inl f))]) H := hP
        have hD : va_D A (ti_wMJ E ad dh du dv jh ju jv kh ku kv tx hi xi ++ [(ad 35, .inl (E 6, 6, .inr (.inr (.inr (.inr (ti_o th (fun j => j))))))), (th t9, .inr (6, [.ref a])), (a, .inl (E 1, n, .inl f))]) := hD
        refine W.eq (g2 := F0 m 39 ls [.int (nI 100)]) rfl ?_
        have hv9 : (nI 100) = (fun _ => nI 100) () := rfl
        refine W.eq (g2 := F0 m 39 ls [.int ((fun _ => nI 100) ())]) (congrArg (fun z => F0 m 39 ls [.int z]) hv9) ?_
        exact hret _ () _ _ _ _ (trivial) hP trivial hS (Nat.le_of_ble_eq_true rfl) (Nat.le_of_ble_eq_true rfl) (fun hq hf9 => W.iret hx hb hr hq hf9 dX0_judge_39 hlk)
      · skip
        refine lv_aload_n hx hb dX0_judge_16 rfl (lv_at hl 0 rfl) ?_
        refine lv_aload_n hx hb dX0_judge_17 rfl (lv_at hl 0 rfl) ?_
        refine va_get (v := .ref (ad 1)) hx hb hts in_X0 hown hK hP 0 rfl rfl 0 (by decide) (hts _ q237) (fun _ h => h) rfl dX0_judge_18 ?_
        refine lv_iload_n hx hb dX0_judge_21 rfl (lv_at hl 1 rfl) ?_
        refine tn_aald hx hb hK hP 1 5 rfl rfl (by omega) (by decide) dX0_judge_22 ?_
        refine lv_aload_n hx hb dX0_judge_23 rfl (lv_at hl 0 rfl) ?_
        refine va_get (v := .ref (ad 35)) hx hb hts in_X0 hown hK hP 0 rfl rfl 13 (by decide) (hts _ q250) (fun _ h => h) rfl dX0_judge_24 ?_
        refine lv_iload_n hx hb dX0_judge_27 rfl (lv_at hl 2 rfl) ?_
        refine tn_aald hx hb hK hP 8 6 rfl rfl (by omega) (by decide) dX0_judge_28 ?_
        refine va_getN (v := .ref a) hx hb hts in_X6 hown hK hP 9 rfl rfl 0 (by decide) (hE.use q233 rfl rfl) (fun _ h => h) rfl dX0_judge_29 ?_
        refine va_castA hx hb hown (hts _ q923) hP 10 rfl (hK.2 1 _ rfl).2 dX0_judge_32 ?_
        refine lv_iload_n hx hb dX0_judge_35 rfl (lv_at hl 3 rfl) ?_
        refine ti_callX (ty_runVX (As := [.ref (jh 1), .ref a, .int j]) (rest := []) S (met_X0_firstOther_x l D E htr z0 ad tx hi (jh 1) (ju 1) (jv 1) (xi.1 1) (xi.2.1 1) (xi.2.2 1) (hxi.2.2 1) (hxi.1 1) (hxi.2.1 1) a n hn60 f j hin H.size) (vx_cwVW 3 S.2.2.2.2 (lw_VW q924 q926 qs21 q66 q927) rfl rfl rfl (by decide +kernel) ⟨Nat.le_of_ble_eq_true rfl, Nat.le_of_ble_eq_true rfl⟩) (ti_preXV (xp := fun _ => True) hE hP hD hS rfl hZ hAz trivial [0, 5, 6, 7, 10] rfl rfl 0 rfl rfl) rfl rfl hl.1 rfl (lv_room (Nat.le_of_ble_eq_true rfl)) dX0_judge_36 ⟨Nat.le_of_ble_eq_true rfl, Nat.le_of_ble_eq_true rfl⟩) hP hD hS hA [0, 5, 6, 7, 10] rfl (fun _ => rfl) (fun _ => rfl) (fun _ H locs hu _ _ hP hD hS => ?_) (fun _ _ _ _ h9 => absurd h9 id)
        have hP : va_P D vwCl (ti_wMJ E ad dh du dv jh ju jv kh ku kv tx hi xi ++ [(ad 35, .inl (E 6, 6, .inr (.inr (.inr (.inr (ti_o th (fun j => j))))))), (th t9, .inr (6, [.ref a])), (a, .inl (E 1, n, .inl f))]) H := hP
        have hD : va_D A (ti_wMJ E ad dh du dv jh ju jv kh ku kv tx hi xi ++ [(ad 35, .inl (E 6, 6, .inr (.inr (.inr (.inr (ti_o th (fun j => j))))))), (th t9, .inr (6, [.ref a])), (a, .inl (E 1, n, .inl f))]) := hD
        refine W.eq (g2 := F0 m 39 ls [.int (nI 100)]) rfl ?_
        have hv9 : (nI 100) = (fun _ => nI 100) () := rfl
        refine W.eq (g2 := F0 m 39 ls [.int ((fun _ => nI 100) ())]) (congrArg (fun z => F0 m 39 ls [.int z]) hv9) ?_
        exact hret _ () _ _ _ _ (trivial) hP trivial hS (Nat.le_of_ble_eq_true rfl) (Nat.le_of_ble_eq_true rfl) (fun hq hf9 => W.iret hx hb hr hq hf9 dX0_judge_39 hlk)
    · skip
      exact absurd ht5 (by rw [c11]; decide)

set_option maxHeartbeats 2000000 in
theorem met_X0_judge_0 (l : Launch) (D : va_G) (E : Nat → ClassId) (htr : l.stackTraces = false) (z0 : Nat) (ad dh du dv jh ju jv kh ku kv : Nat → Nat) (tx : Nat) (hi : Bool) (xi : ti_Ti) (hxi : ti_Jok xi) (th : Nat → Nat) (t9 : Nat) (ht9 : t9 < 6) (i : Nat) (hi2 : i < 2) (a n : Nat) (hn60 : n ≤ 60) (f : Nat → Int32) (j9 : Nat) (hj9 : j9 < n) : ti_MetB (σ := Unit) (τ := Unit) l D E yX0_judge (wsW_ yX0_judge cX0_judge 5 (some .int) [(16, 39, 40, 352)]) 10 3 222 z0 (ti_wMJ E ad dh du dv jh ju jv kh ku kv tx hi xi ++ [(ad 35, .inl (E 6, 6, .inr (.inr (.inr (.inr (ti_o th (fun j => j))))))), (th t9, .inr (6, [.ref a])), (a, .inl (E 1, n, .inl f))]) [.ref (ad 0), .int (nI i), .int (nI t9), .int (nI j9)] (fun _ => True) (fun _ => ti_wMJ E ad dh du dv jh ju jv kh ku kv tx hi xi ++ [(ad 35, .inl (E 6, 6, .inr (.inr (.inr (.inr (ti_o th (fun j => j))))))), (th t9, .inr (6, [.ref a])), (a, .inl (E 1, n, .inl f))]) (fun u => some (.int ((fun _ => ti_fo (ti_gr (xi.1 i) (xi.2.1 i) 0 (xi.2.2 i)) f n j9 (List.range' 0 10)) u))) (fun _ => True) (fun _ _ => True) (fun w => RX14) (fun w => 0) (fun w => ti_wMJ E ad dh du dv jh ju jv kh ku kv tx hi xi ++ [(ad 35, .inl (E 6, 6, .inr (.inr (.inr (.inr (ti_o th (fun j => j))))))), (th t9, .inr (6, [.ref a])), (a, .inl (E 1, n, .inl f))]) (fun w => []) (fun w => False) (fun w H => True) := by
  refine ti_metBH (by decide) (Nat.le_of_ble_eq_true rfl) ?_
  intro p e s m below meth c H A Q ls S hE hP hD hS hA hZ hAz hx0 htab hl hret hq
  obtain ⟨hQ, hr, hlk, hinit⟩ := hq
  have hsz0 := hS.1
  have hx := S.1
  have hb := S.2.1
  have hown := S.2.2.2.1
  have hts := S.2.2.2.2
  have hK := hE.1
  have hl : lv_has ls 5 [(0, .ref (ad 0)), (1, .int (nI i)), (2, .int (nI t9)), (3, .int (nI j9))] := hl
  have ht5 : ti_t5 (nI t9) = true := by unfold ti_t5; rw [ti_in_nI (by omega) (by decide) (by decide)]; exact decide_eq_true ⟨Nat.zero_le _, by omega⟩
  have hbt : ti_bt (nI i) = true := by unfold ti_bt; rw [ti_in_nI (by omega) (by decide) (by decide)]; exact decide_eq_true ⟨Nat.zero_le _, by omega⟩
  refine lv_iload_n hx hb dX0_judge_0 rfl (lv_at hl 1 rfl) ?_
  refine ti_pS (As := [.int (nI i)]) (rest := []) (v := .int (ti_b (ti_bt (nI i)))) S hE hP [] (met_X0_isIdeal l D E (nI i)) rfl (lw_S q299 q300 q66 q301) 1 rfl (by decide +kernel) ⟨Nat.le_of_ble_eq_true rfl, Nat.le_of_ble_eq_true rfl⟩ hl.1 rfl (Nat.le_of_ble_eq_true rfl) ⟨Nat.le_of_ble_eq_true rfl, Nat.le_of_ble_eq_true rfl⟩ dX0_judge_1 ?_
  refine tb_eq (tgt := 14) hx hb dX0_judge_4 (by decide) (fun c4 => ?_) (fun c4 => ?_)
  · skip
    exact absurd hbt (by rw [c4]; decide)
  · skip
    refine lv_iload_n hx hb dX0_judge_7 rfl (lv_at hl 2 rfl) ?_
    refine ti_pS (As := [.int (nI t9)]) (rest := []) (v := .int (ti_b (ti_t5 (nI t9)))) S hE hP [] (met_X0_isTape l D E (nI t9)) rfl (lw_S q920 q921 q66 q922) 1 rfl (by decide +kernel) ⟨Nat.le_of_ble_eq_true rfl, Nat.le_of_ble_eq_true rfl⟩ hl.1 rfl (Nat.le_of_ble_eq_true rfl) ⟨Nat.le_of_ble_eq_true rfl, Nat.le_of_ble_eq_true rfl⟩ dX0_judge_8 ?_
    refine tb_ne (tgt := 16) hx hb dX0_judge_11 (by decide) (fun c11 => ?_) (fun c11 => ?_)
    · skip
      rcases (show i = 0 ∨ i = 1 by omega) with rfl | rfl
      · skip
        refine lv_aload_n hx hb dX0_judge_16 rfl (lv_at hl 0 rfl) ?_
        refine lv_aload_n hx hb dX0_judge_17 rfl (lv_at hl 0 rfl) ?_
        refine va_get (v := .ref (ad 1)) hx hb hts in_X0 hown hK hP 0 rfl rfl 0 (by decide) (hts _ q237) (fun _ h => h) rfl dX0_judge_18 ?_
        refine lv_iload_n hx hb dX0_judge_21 rfl (lv_at hl 1 rfl) ?_
        refine tn_aald hx hb hK hP 1 5 rfl rfl (by omega) (by decide) dX0_judge_22 ?_
        refine lv_aload_n hx hb dX0_judge_23 rfl (lv_at hl 0 rfl) ?_
        refine va_get (v := .ref (ad 35)) hx hb hts in_X0 hown hK hP 0 rfl rfl 13 (by decide) (hts _ q250) (fun _ h => h) rfl dX0_judge_24 ?_
        refine lv_iload_n hx hb dX0_judge_27 rfl (lv_at hl 2 rfl) ?_
        refine tn_aald hx hb hK hP 8 6 rfl rfl (by omega) (by decide) dX0_judge_28 ?_
        refine va_getN (v := .ref a) hx hb hts in_X6 hown hK hP 9 rfl rfl 0 (by decide) (hE.use q233 rfl rfl) (fun _ h => h) rfl dX0_judge_29 ?_
        refine va_castA hx hb hown (hts _ q923) hP 10 rfl (hK.2 1 _ rfl).2 dX0_judge_32 ?_
        refine lv_iload_n hx hb dX0_judge_35 rfl (lv_at hl 3 rfl) ?_
        refine ti_callX (ty_runVX (As := [.ref (jh 0), .ref a, .int (nI j9)]) (rest := []) S (met_X0_firstOther l D E htr z0 ad tx hi (jh 0) (ju 0) (jv 0) (xi.1 0) (xi.2.1 0) (xi.2.2 0) (hxi.2.2 0) (hxi.1 0) (hxi.2.1 0) a n hn60 f j9 hj9 H.size) (vx_cwVW 3 S.2.2.2.2 (lw_VW q924 q926 qs21 q66 q927) rfl rfl rfl (by decide +kernel) ⟨Nat.le_of_ble_eq_true rfl, Nat.le_of_ble_eq_true rfl⟩) (ti_preXV (xp := fun _ => True) hE hP hD hS rfl hZ hAz trivial [0, 2, 3, 4, 10] rfl rfl 0 rfl rfl) rfl rfl hl.1 rfl (lv_room (Nat.le_of_ble_eq_true rfl)) dX0_judge_36 ⟨Nat.le_of_ble_eq_true rfl, Nat.le_of_ble_eq_true rfl⟩) hP hD hS hA [0, 2, 3, 4, 10] rfl (fun _ => rfl) (fun _ => rfl) (fun _ H locs hu _ _ hP hD hS => ?_) (fun _ _ _ _ h9 => absurd h9 id)
        have hP : va_P D vwCl (ti_wMJ E ad dh du dv jh ju jv kh ku kv tx hi xi ++ [(ad 35, .inl (E 6, 6, .inr (.inr (.inr (.inr (ti_o th (fun j => j))))))), (th t9, .inr (6, [.ref a])), (a, .inl (E 1, n, .inl f))]) H := hP
        have hD : va_D A (ti_wMJ E ad dh du dv jh ju jv kh ku kv tx hi xi ++ [(ad 35, .inl (E 6, 6, .inr (.inr (.inr (.inr (ti_o th (fun j => j))))))), (th t9, .inr (6, [.ref a])), (a, .inl (E 1, n, .inl f))]) := hD
        refine W.eq (g2 := F0 m 39 ls [.int (ti_fo (ti_gr (xi.1 0) (xi.2.1 0) 0 (xi.2.2 0)) f n j9 (List.range' 0 10))]) rfl ?_
        have hv9 : (ti_fo (ti_gr (xi.1 0) (xi.2.1 0) 0 (xi.2.2 0)) f n j9 (List.range' 0 10)) = (fun _ => ti_fo (ti_gr (xi.1 0) (xi.2.1 0) 0 (xi.2.2 0)) f n j9 (List.range' 0 10)) () := rfl
        refine W.eq (g2 := F0 m 39 ls [.int ((fun _ => ti_fo (ti_gr (xi.1 0) (xi.2.1 0) 0 (xi.2.2 0)) f n j9 (List.range' 0 10)) ())]) (congrArg (fun z => F0 m 39 ls [.int z]) hv9) ?_
        exact hret _ () _ _ _ _ (trivial) hP trivial hS (Nat.le_of_ble_eq_true rfl) (Nat.le_of_ble_eq_true rfl) (fun hq hf9 => W.iret hx hb hr hq hf9 dX0_judge_39 hlk)
      · skip
        refine lv_aload_n hx hb dX0_judge_16 rfl (lv_at hl 0 rfl) ?_
        refine lv_aload_n hx hb dX0_judge_17 rfl (lv_at hl 0 rfl) ?_
        refine va_get (v := .ref (ad 1)) hx hb hts in_X0 hown hK hP 0 rfl rfl 0 (by decide) (hts _ q237) (fun _ h => h) rfl dX0_judge_18 ?_
        refine lv_iload_n hx hb dX0_judge_21 rfl (lv_at hl 1 rfl) ?_
        refine tn_aald hx hb hK hP 1 5 rfl rfl (by omega) (by decide) dX0_judge_22 ?_
        refine lv_aload_n hx hb dX0_judge_23 rfl (lv_at hl 0 rfl) ?_
        refine va_get (v := .ref (ad 35)) hx hb hts in_X0 hown hK hP 0 rfl rfl 13 (by decide) (hts _ q250) (fun _ h => h) rfl dX0_judge_24 ?_
        refine lv_iload_n hx hb dX0_judge_27 rfl (lv_at hl 2 rfl) ?_
        refine tn_aald hx hb hK hP 8 6 rfl rfl (by omega) (by decide) dX0_judge_28 ?_
        refine va_getN (v := .ref a) hx hb hts in_X6 hown hK hP 9 rfl rfl 0 (by decide) (hE.use q233 rfl rfl) (fun _ h => h) rfl dX0_judge_29 ?_
        refine va_castA hx hb hown (hts _ q923) hP 10 rfl (hK.2 1 _ rfl).2 dX0_judge_32 ?_
        refine lv_iload_n hx hb dX0_judge_35 rfl (lv_at hl 3 rfl) ?_
        refine ti_callX (ty_runVX (As := [.ref (jh 1), .ref a, .int (nI j9)]) (rest := []) S (met_X0_firstOther l D E htr z0 ad tx hi (jh 1) (ju 1) (jv 1) (xi.1 1) (xi.2.1 1) (xi.2.2 1) (hxi.2.2 1) (hxi.1 1) (hxi.2.1 1) a n hn60 f j9 hj9 H.size) (vx_cwVW 3 S.2.2.2.2 (lw_VW q924 q926 qs21 q66 q927) rfl rfl rfl (by decide +kernel) ⟨Nat.le_of_ble_eq_true rfl, Nat.le_of_ble_eq_true rfl⟩) (ti_preXV (xp := fun _ => True) hE hP hD hS rfl hZ hAz trivial [0, 5, 6, 7, 10] rfl rfl 0 rfl rfl) rfl rfl hl.1 rfl (lv_room (Nat.le_of_ble_eq_true rfl)) dX0_judge_36 ⟨Nat.le_of_ble_eq_true rfl, Nat.le_of_ble_eq_true rfl⟩) hP hD hS hA [0, 5, 6, 7, 10] rfl (fun _ => rfl) (fun _ => rfl) (fun _ H locs hu _ _ hP hD hS => ?_) (fun _ _ _ _ h9 => absurd h9 id)
        have hP : va_P D vwCl (ti_wMJ E ad dh du dv jh ju jv kh ku kv tx hi xi ++ [(ad 35, .inl (E 6, 6, .inr (.inr (.inr (.inr (ti_o th (fun j => j))))))), (th t9, .inr (6, [.ref a])), (a, .inl (E 1, n, .inl f))]) H := hP
        have hD : va_D A (ti_wMJ E ad dh du dv jh ju jv kh ku kv tx hi xi ++ [(ad 35, .inl (E 6, 6, .inr (.inr (.inr (.inr (ti_o th (fun j => j))))))), (th t9, .inr (6, [.ref a])), (a, .inl (E 1, n, .inl f))]) := hD
        refine W.eq (g2 := F0 m 39 ls [.int (ti_fo (ti_gr (xi.1 1) (xi.2.1 1) 0 (xi.2.2 1)) f n j9 (List.range' 0 10))]) rfl ?_
        have hv9 : (ti_fo (ti_gr (xi.1 1) (xi.2.1 1) 0 (xi.2.2 1)) f n j9 (List.range' 0 10)) = (fun _ => ti_fo (ti_gr (xi.1 1) (xi.2.1 1) 0 (xi.2.2 1)) f n j9 (List.range' 0 10)) () := rfl
        refine W.eq (g2 := F0 m 39 ls [.int ((fun _ => ti_fo (ti_gr (xi.1 1) (xi.2.1 1) 0 (xi.2.2 1)) f n j9 (List.range' 0 10)) ())]) (congrArg (fun z => F0 m 39 ls [.int z]) hv9) ?_
        exact hret _ () _ _ _ _ (trivial) hP trivial hS (Nat.le_of_ble_eq_true rfl) (Nat.le_of_ble_eq_true rfl) (fun hq hf9 => W.iret hx hb hr hq hf9 dX0_judge_39 hlk)
    · skip
      exact absurd ht5 (by rw [c11]; decide)

set_option maxHeartbeats 2000000 in
theorem met_X0_judge_n (l : Launch) (D : va_G) (E : Nat → ClassId) (htr : l.stackTraces = false) (z0 : Nat) (ad dh du dv jh ju jv kh ku kv : Nat → Nat) (tx : Nat) (hi : Bool) (xi : ti_Ti) (hxi : ti_Jok xi) (th : Nat → Nat) (t9 : Nat) (ht9 : t9 < 6) (i : Nat) (hi2 : i < 2) (j : Int32) : ti_MetB (σ := Unit) (τ := Unit) l D E yX0_judge (wsW_ yX0_judge cX0_judge 5 (some .int) [(16, 39, 40, 352)]) 10 3 222 z0 (ti_wMJ E ad dh du dv jh ju jv kh ku kv tx hi xi ++ [(ad 35, .inl (E 6, 6, .inr (.inr (.inr (.inr (ti_o th (fun j => j))))))), (th t9, .inr (6, [.null]))]) [.ref (ad 0), .int (nI i), .int (nI t9), .int j] (fun _ => True) (fun _ => ti_wMJ E ad dh du dv jh ju jv kh ku kv tx hi xi ++ [(ad 35, .inl (E 6, 6, .inr (.inr (.inr (.inr (ti_o th (fun j => j))))))), (th t9, .inr (6, [.null]))]) (fun u => some (.int ((fun _ => nI 100) u))) (fun _ => True) (fun _ _ => True) (fun w => RX14) (fun w => 0) (fun w => ti_wMJ E ad dh du dv jh ju jv kh ku kv tx hi xi ++ [(ad 35, .inl (E 6, 6, .inr (.inr (.inr (.inr (ti_o th (fun j => j))))))), (th t9, .inr (6, [.null]))]) (fun w => []) (fun w => False) (fun w H => True) := by
  refine ti_metBH (by decide) (Nat.le_of_ble_eq_true rfl) ?_
  intro p e s m below meth c H A Q ls S hE hP hD hS hA hZ hAz hx0 htab hl hret hq
  obtain ⟨hQ, hr, hlk, hinit⟩ := hq
  have hsz0 := hS.1
  have hx := S.1
  have hb := S.2.1
  have hown := S.2.2.2.1
  have hts := S.2.2.2.2
  have hK := hE.1
  have hl : lv_has ls 5 [(0, .ref (ad 0)), (1, .int (nI i)), (2, .int (nI t9)), (3, .int j)] := hl
  have ht5 : ti_t5 (nI t9) = true := by unfold ti_t5; rw [ti_in_nI (by omega) (by decide) (by decide)]; exact decide_eq_true ⟨Nat.zero_le _, by omega⟩
  have hbt : ti_bt (nI i) = true := by unfold ti_bt; rw [ti_in_nI (by omega) (by decide) (by decide)]; exact decide_eq_true ⟨Nat.zero_le _, by omega⟩
  refine lv_iload_n hx hb dX0_judge_0 rfl (lv_at hl 1 rfl) ?_
  refine ti_pS (As := [.int (nI i)]) (rest := []) (v := .int (ti_b (ti_bt (nI i)))) S hE hP [] (met_X0_isIdeal l D E (nI i)) rfl (lw_S q299 q300 q66 q301) 1 rfl (by decide +kernel) ⟨Nat.le_of_ble_eq_true rfl, Nat.le_of_ble_eq_true rfl⟩ hl.1 rfl (Nat.le_of_ble_eq_true rfl) ⟨Nat.le_of_ble_eq_true rfl, Nat.le_of_ble_eq_true rfl⟩ dX0_judge_1 ?_
  refine tb_eq (tgt := 14) hx hb dX0_judge_4 (by decide) (fun c4 => ?_) (fun c4 => ?_)
  · skip
    exact absurd hbt (by rw [c4]; decide)
  · skip
    refine lv_iload_n hx hb dX0_judge_7 rfl (lv_at hl 2 rfl) ?_
    refine ti_pS (As := [.int (nI t9)]) (rest := []) (v := .int (ti_b (ti_t5 (nI t9)))) S hE hP [] (met_X0_isTape l D E (nI t9)) rfl (lw_S q920 q921 q66 q922) 1 rfl (by decide +kernel) ⟨Nat.le_of_ble_eq_true rfl, Nat.le_of_ble_eq_true rfl⟩ hl.1 rfl (Nat.le_of_ble_eq_true rfl) ⟨Nat.le_of_ble_eq_true rfl, Nat.le_of_ble_eq_true rfl⟩ dX0_judge_8 ?_
    refine tb_ne (tgt := 16) hx hb dX0_judge_11 (by decide) (fun c11 => ?_) (fun c11 => ?_)
    · skip
      rcases (show i = 0 ∨ i = 1 by omega) with rfl | rfl
      · skip
        refine lv_aload_n hx hb dX0_judge_16 rfl (lv_at hl 0 rfl) ?_
        refine lv_aload_n hx hb dX0_judge_17 rfl (lv_at hl 0 rfl) ?_
        refine va_get (v := .ref (ad 1)) hx hb hts in_X0 hown hK hP 0 rfl rfl 0 (by decide) (hts _ q237) (fun _ h => h) rfl dX0_judge_18 ?_
        refine lv_iload_n hx hb dX0_judge_21 rfl (lv_at hl 1 rfl) ?_
        refine tn_aald hx hb hK hP 1 5 rfl rfl (by omega) (by decide) dX0_judge_22 ?_
        refine lv_aload_n hx hb dX0_judge_23 rfl (lv_at hl 0 rfl) ?_
        refine va_get (v := .ref (ad 35)) hx hb hts in_X0 hown hK hP 0 rfl rfl 13 (by decide) (hts _ q250) (fun _ h => h) rfl dX0_judge_24 ?_
        refine lv_iload_n hx hb dX0_judge_27 rfl (lv_at hl 2 rfl) ?_
        refine tn_aald hx hb hK hP 8 6 rfl rfl (by omega) (by decide) dX0_judge_28 ?_
        refine va_getN (v := .null) hx hb hts in_X6 hown hK hP 9 rfl rfl 0 (by decide) (hE.use q233 rfl rfl) (fun _ h => h) rfl dX0_judge_29 ?_
        refine lv_castN hx hb dX0_judge_32 ?_
        refine lv_iload_n hx hb dX0_judge_35 rfl (lv_at hl 3 rfl) ?_
        refine ti_callX (ty_runVX (As := [.ref (jh 0), .null, .int j]) (rest := []) S (met_X0_firstOther_n l D E htr z0 ad tx hi (jh 0) (ju 0) (jv 0) (xi.1 0) (xi.2.1 0) (xi.2.2 0) (hxi.2.2 0) (hxi.1 0) (hxi.2.1 0) j H.size) (vx_cwVW 3 S.2.2.2.2 (lw_VW q924 q926 qs21 q66 q927) rfl rfl rfl (by decide +kernel) ⟨Nat.le_of_ble_eq_true rfl, Nat.le_of_ble_eq_true rfl⟩) (ti_preXV (xp := fun _ => True) hE hP hD hS rfl hZ hAz trivial [0, 2, 3, 4] rfl rfl 0 rfl rfl) rfl rfl hl.1 rfl (lv_room (Nat.le_of_ble_eq_true rfl)) dX0_judge_36 ⟨Nat.le_of_ble_eq_true rfl, Nat.le_of_ble_eq_true rfl⟩) hP hD hS hA [0, 2, 3, 4] rfl (fun _ => rfl) (fun _ => rfl) (fun _ H locs hu _ _ hP hD hS => ?_) (fun _ _ _ _ h9 => absurd h9 id)
        have hP : va_P D vwCl (ti_wMJ E ad dh du dv jh ju jv kh ku kv tx hi xi ++ [(ad 35, .inl (E 6, 6, .inr (.inr (.inr (.inr (ti_o th (fun j => j))))))), (th t9, .inr (6, [.null]))]) H := hP
        have hD : va_D A (ti_wMJ E ad dh du dv jh ju jv kh ku kv tx hi xi ++ [(ad 35, .inl (E 6, 6, .inr (.inr (.inr (.inr (ti_o th (fun j => j))))))), (th t9, .inr (6, [.null]))]) := hD
        refine W.eq (g2 := F0 m 39 ls [.int (nI 100)]) rfl ?_
        have hv9 : (nI 100) = (fun _ => nI 100) () := rfl
        refine W.eq (g2 := F0 m 39 ls [.int ((fun _ => nI 100) ())]) (congrArg (fun z => F0 m 39 ls [.int z]) hv9) ?_
        exact hret _ () _ _ _ _ (trivial) hP trivial hS (Nat.le_of_ble_eq_true rfl) (Nat.le_of_ble_eq_true rfl) (fun hq hf9 => W.iret hx hb hr hq hf9 dX0_judge_39 hlk)
      · skip
        refine lv_aload_n hx hb dX0_judge_16 rfl (lv_at hl 0 rfl) ?_
        refine lv_aload_n hx hb dX0_judge_17 rfl (lv_at hl 0 rfl) ?_
        refine va_get (v := .ref (ad 1)) hx hb hts in_X0 hown hK hP 0 rfl rfl 0 (by decide) (hts _ q237) (fun _ h => h) rfl dX0_judge_18 ?_
        refine lv_iload_n hx hb dX0_judge_21 rfl (lv_at hl 1 rfl) ?_
        refine tn_aald hx hb hK hP 1 5 rfl rfl (by omega) (by decide) dX0_judge_22 ?_
        refine lv_aload_n hx hb dX0_judge_23 rfl (lv_at hl 0 rfl) ?_
        refine va_get (v := .ref (ad 35)) hx hb hts in_X0 hown hK hP 0 rfl rfl 13 (by decide) (hts _ q250) (fun _ h => h) rfl dX0_judge_24 ?_
        refine lv_iload_n hx hb dX0_judge_27 rfl (lv_at hl 2 rfl) ?_
        refine tn_aald hx hb hK hP 8 6 rfl rfl (by omega) (by decide) dX0_judge_28 ?_
        refine va_getN (v := .null) hx hb hts in_X6 hown hK hP 9 rfl rfl 0 (by decide) (hE.use q233 rfl rfl) (fun _ h => h) rfl dX0_judge_29 ?_
        refine lv_castN hx hb dX0_judge_32 ?_
        refine lv_iload_n hx hb dX0_judge_35 rfl (lv_at hl 3 rfl) ?_
        refine ti_callX (ty_runVX (As := [.ref (jh 1), .null, .int j]) (rest := []) S (met_X0_firstOther_n l D E htr z0 ad tx hi (jh 1) (ju 1) (jv 1) (xi.1 1) (xi.2.1 1) (xi.2.2 1) (hxi.2.2 1) (hxi.1 1) (hxi.2.1 1) j H.size) (vx_cwVW 3 S.2.2.2.2 (lw_VW q924 q926 qs21 q66 q927) rfl rfl rfl (by decide +kernel) ⟨Nat.le_of_ble_eq_true rfl, Nat.le_of_ble_eq_true rfl⟩) (ti_preXV (xp := fun _ => True) hE hP hD hS rfl hZ hAz trivial [0, 5, 6, 7] rfl rfl 0 rfl rfl) rfl rfl hl.1 rfl (lv_room (Nat.le_of_ble_eq_true rfl)) dX0_judge_36 ⟨Nat.le_of_ble_eq_true rfl, Nat.le_of_ble_eq_true rfl⟩) hP hD hS hA [0, 5, 6, 7] rfl (fun _ => rfl) (fun _ => rfl) (fun _ H locs hu _ _ hP hD hS => ?_) (fun _ _ _ _ h9 => absurd h9 id)
        have hP : va_P D vwCl (ti_wMJ E ad dh du dv jh ju jv kh ku kv tx hi xi ++ [(ad 35, .inl (E 6, 6, .inr (.inr (.inr (.inr (ti_o th (fun j => j))))))), (th t9, .inr (6, [.null]))]) H := hP
        have hD : va_D A (ti_wMJ E ad dh du dv jh ju jv kh ku kv tx hi xi ++ [(ad 35, .inl (E 6, 6, .inr (.inr (.inr (.inr (ti_o th (fun j => j))))))), (th t9, .inr (6, [.null]))]) := hD
        refine W.eq (g2 := F0 m 39 ls [.int (nI 100)]) rfl ?_
        have hv9 : (nI 100) = (fun _ => nI 100) () := rfl
        refine W.eq (g2 := F0 m 39 ls [.int ((fun _ => nI 100) ())]) (congrArg (fun z => F0 m 39 ls [.int z]) hv9) ?_
        exact hret _ () _ _ _ _ (trivial) hP trivial hS (Nat.le_of_ble_eq_true rfl) (Nat.le_of_ble_eq_true rfl) (fun hq hf9 => W.iret hx hb hr hq hf9 dX0_judge_39 hlk)
    · skip
      exact absurd ht5 (by rw [c11]; decide)
