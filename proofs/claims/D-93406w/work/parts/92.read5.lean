/-! TermIdeals.read (printed by w_read5.py) -/
set_option maxRecDepth 100000

set_option maxHeartbeats 4000000 in
theorem met_X0_read (l : Launch) (D : va_G) (E : Nat → ClassId) (htr : l.stackTraces = false) (z0 : Nat) (ad dh du dv jh ju jv kh ku kv : Nat → Nat) (tx : Nat) (hi : Bool) (xi : ti_Ti) (xr : ti_Tr) (xf : ti_Tf) (xd : ti_Td) (xt : Nat → Nat) (hxi : ti_Jok xi) (I : Nat → ti_GL) (hJ : ti_JI xi I) (hxd : ti_Dok xd) (DD : ti_DL) (hDD : ti_Dl xd = DD) (hxr : ti_Rok xr) (hxf : ti_Fok xf) (hinv : ti_inv I DD) (htx : tx ≤ 100) (hxt : ∀ k, xt k ≤ 127) : ti_MetX (σ := ti_Ti × ti_Tr × ti_Tf × ti_Td) (τ := Unit) l D E yX0_read (wsW_ yX0_read cX0_read 3 (some .int) [(10, 29, 30, 176)]) 10 39 228 z0 (ti_wMJRFDX E ad dh du dv jh ju jv kh ku kv tx hi xi xr xf xd xt) [.ref (ad 0)] (fun _ => True) (fun u => ti_wMJRFDX E ad dh du dv jh ju jv kh ku kv 0 hi u.1 u.2.1 u.2.2.1 u.2.2.2 xt) (fun u => some (.int ((fun _ => (ti_Sread I DD (ti_tl xt tx)).1) u))) (fun u => ti_JI u.1 (ti_Sread I DD (ti_tl xt tx)).2.1 ∧ ti_Dl u.2.2.2 = (ti_Sread I DD (ti_tl xt tx)).2.2 ∧ ti_Jok u.1 ∧ ti_Rok u.2.1 ∧ ti_Fok u.2.2.1 ∧ ti_Dok u.2.2.2) (fun _ _ => True) (fun w => RX14) (fun w => 0) (fun w => ti_wMJRFDX E ad dh du dv jh ju jv kh ku kv tx hi xi xr xf xd xt) (fun w => []) (fun w => False) (fun w H => True) := by
  refine ti_metXH (by decide) (Nat.le_of_ble_eq_true rfl) ?_
  intro p e s m below meth c H A Q ls S hE hP hD hS hA hZ hAz hx0 htab hl hret hq
  obtain ⟨hQ, hr, hlk, hinit⟩ := hq
  have hsz0 := hS.1
  have hx := S.1
  have hb := S.2.1
  have hown := S.2.2.2.1
  have hts := S.2.2.2.2
  have hK := hE.1
  have hl : lv_has ls 3 [(0, .ref (ad 0))] := hl
  refine lv_aload_n hx hb dX0_read_0 rfl (lv_at hl 0 rfl) ?_
  refine va_get (v := .int (nI tx)) hx hb hts in_X0 hown hK hP 0 rfl rfl 9 (by decide) (hts _ q246) (fun _ h => h) rfl dX0_read_1 ?_
  refine lv_istore_n (lv' := [(1, .int (nI tx)), (0, .ref (ad 0))]) hx hb dX0_read_4 rfl hl (by decide) rfl (fun ls hl => ?_)
  refine lv_aload_n hx hb dX0_read_5 rfl (lv_at hl 1 rfl) ?_
  refine lv_iconst (v := nI 0) hx hb dX0_read_6 (by decide) ?_
  refine va_put (ty := .int) hx hb hts in_X0 tyX0 tyX0_ok nmX0 hown hK hP hD hS 0 rfl rfl 9 (by decide) (hts _ q246) (fun _ h => h) rfl rfl rfl rfl (Nat.le_of_ble_eq_true rfl) dX0_read_7 (fun H locs hP hD hS => ?_)
  have hP : va_P D vwCl (ti_wMJRFDX E ad dh du dv jh ju jv kh ku kv 0 hi xi xr xf xd xt) H := hP
  have hD : va_D A (ti_wMJRFDX E ad dh du dv jh ju jv kh ku kv 0 hi xi xr xf xd xt) := hD
  have hb1 := hS.1
  refine ti_newM hx hb hts in_X9 tyX9 tyX9_ok hown (hts _ q484) (hts _ q485) (hts _ q79) hK hP hD hS hA (ci := 9) rfl ti_df9 (Nat.le_of_ble_eq_true rfl) (Nat.le_of_ble_eq_true rfl) dX0_read_10 (fun q1 H hq1 hs1 hf1 ho1 hP hD hS => ?_)
  have g_q1 : s.heap.size ≤ q1 := by omega
  have hP : va_P D vwCl (ti_wMJRFDX E ad dh du dv jh ju jv kh ku kv 0 hi xi xr xf xd xt ++ [(q1, .inr (9, [.null, .int (nI 0), .int (nI 0), .null, .int (nI 0)]))]) H := hP
  have hD : va_D A (ti_wMJRFDX E ad dh du dv jh ju jv kh ku kv 0 hi xi xr xf xd xt ++ [(q1, .inr (9, [.null, .int (nI 0), .int (nI 0), .null, .int (nI 0)]))]) := hD
  refine lv_dup hx hb dX0_read_13 rfl ?_
  refine lv_aload_n hx hb dX0_read_14 rfl (lv_at hl 1 rfl) ?_
  refine va_get (v := .ref (ad 22)) hx hb hts in_X0 hown hK hP 0 rfl rfl 8 (by decide) (hts _ q245) (fun _ h => h) rfl dX0_read_15 ?_
  refine lv_iload_n hx hb dX0_read_18 rfl (lv_at hl 0 rfl) ?_
  have hb2 := hS.1
  refine ti_nI (As := [.ref (ad 22), .int (nI tx)]) (rest := [.ref q1]) S hE hP hD hS hA [51] rfl (met_X9_init l D E q1 (ad 22) tx) rfl (fun _ => rfl) (lw_meth q488) q79 q486 q487 rfl 2 rfl (by decide +kernel) ⟨Nat.le_of_ble_eq_true rfl, Nat.le_of_ble_eq_true rfl⟩ hl.1 rfl (Nat.le_of_ble_eq_true rfl) ⟨Nat.le_of_ble_eq_true rfl, Nat.le_of_ble_eq_true rfl⟩ dX0_read_19 (fun u2 H locs hu hn2 hP hD hS => ?_)
  have g_u2_0 : s.heap.size ≤ u2 := Nat.le_trans hb2 (hn2 0 _ rfl)
  have hP : va_P D vwCl (ti_wMJRFDX E ad dh du dv jh ju jv kh ku kv 0 hi xi xr xf xd xt ++ [(q1, .inr (9, [.ref (ad 22), .int (nI tx), .int (nI 0), .ref u2, .int (nI 0)])), (u2, .inl (E 7, 12, .inr (.inr (.inr (.inr (fun _ => none))))))]) H := hP
  have hD : va_D A (ti_wMJRFDX E ad dh du dv jh ju jv kh ku kv 0 hi xi xr xf xd xt ++ [(q1, .inr (9, [.ref (ad 22), .int (nI tx), .int (nI 0), .ref u2, .int (nI 0)])), (u2, .inl (E 7, 12, .inr (.inr (.inr (.inr (fun _ => none))))))]) := hD
  refine W.eq (g2 := F0 m 22 ls [.ref q1]) rfl ?_
  have hsz1 := hS.1
  have hDo := hD
  have hlt9 : ∀ (k : Nat) (z : Nat × va_E), (ti_wMJRFDX E ad dh du dv jh ju jv kh ku kv 0 hi xi xr xf xd xt ++ [(q1, .inr (9, [.ref (ad 22), .int (nI tx), .int (nI 0), .ref u2, .int (nI 0)])), (u2, .inl (E 7, 12, .inr (.inr (.inr (.inr (fun _ => none))))))] : va_W)[k]? = some z → z.1 < H.size := fun k z h => (hP k z h).lt
  refine ti_callY (ty_runV (As := []) (rest := []) S (met_X9_whole l D E htr z0 q1 (ad 22) u2 xt tx (fun _ => none) hxt htx H.size) (cwV 0 S.2.2.2.2 (lw_V q508 q509 q510 q79 q511) rfl rfl rfl (by decide +kernel) ⟨Nat.le_of_ble_eq_true rfl, Nat.le_of_ble_eq_true rfl⟩) (ti_preXV (xp := fun _ => True) hE hP hD hS rfl hZ hAz trivial [51, 50, 52] rfl rfl 51 rfl rfl) rfl rfl hl.1 rfl (lv_room (Nat.le_of_ble_eq_true rfl)) dX0_read_22 ⟨Nat.le_of_ble_eq_true rfl, Nat.le_of_ble_eq_true rfl⟩) hP hD hS hA [51, 50, 52] rfl (fun _ => rfl) (fun _ => rfl) (fun uw H locs hu hn9 hP hD hS => ?_) (fun we H locs ce hpx hxx hP hD hPe hnew hS hce hcv hcl => ?_)
  · skip
    obtain ⟨hwh, hw12, hwf⟩ := hu
    have hQ9 : ti_sets (ti_wMJRFDX E ad dh du dv jh ju jv kh ku kv 0 hi xi xr xf xd xt ++ [(q1, .inr (9, [.ref (ad 22), .int (nI tx), .int (nI 0), .ref u2, .int (nI 0)])), (u2, .inl (E 7, 12, .inr (.inr (.inr (.inr (fun _ => none))))))]) [51, 50, 52] (ti_wRa E q1 (ad 22) u2 xt tx uw.2.1 uw.1.length uw.2.2) = ti_wMJRFDXZ E ad dh du dv jh ju jv kh ku kv 0 hi xi xr xf xd xt q1 u2 tx uw.2.1 uw.1.length uw.2.2 := ti_asE [.inl 0, .inl 1, .inl 2, .inl 3, .inl 4, .inl 5, .inl 6, .inl 7, .inl 8, .inl 9, .inl 10, .inl 11, .inl 12, .inl 13, .inl 14, .inl 15, .inl 16, .inl 17, .inl 18, .inl 19, .inl 20, .inl 21, .inl 22, .inl 23, .inl 24, .inl 25, .inl 26, .inl 27, .inl 28, .inl 29, .inl 30, .inl 31, .inl 32, .inl 33, .inl 34, .inl 35, .inl 36, .inl 37, .inl 38, .inl 39, .inl 40, .inl 41, .inl 42, .inl 43, .inl 44, .inl 45, .inl 46, .inl 47, .inl 48, .inl 49, .inr 1, .inr 0, .inr 2] rfl rfl rfl rfl
    have hP : va_P D vwCl (ti_sets (ti_wMJRFDX E ad dh du dv jh ju jv kh ku kv 0 hi xi xr xf xd xt ++ [(q1, .inr (9, [.ref (ad 22), .int (nI tx), .int (nI 0), .ref u2, .int (nI 0)])), (u2, .inl (E 7, 12, .inr (.inr (.inr (.inr (fun _ => none))))))]) [51, 50, 52] (ti_wRa E q1 (ad 22) u2 xt tx uw.2.1 uw.1.length uw.2.2) ++ ti_cls uw.1) H := hP
    have hD : va_D A (ti_sets (ti_wMJRFDX E ad dh du dv jh ju jv kh ku kv 0 hi xi xr xf xd xt ++ [(q1, .inr (9, [.ref (ad 22), .int (nI tx), .int (nI 0), .ref u2, .int (nI 0)])), (u2, .inl (E 7, 12, .inr (.inr (.inr (.inr (fun _ => none))))))]) [51, 50, 52] (ti_wRa E q1 (ad 22) u2 xt tx uw.2.1 uw.1.length uw.2.2) ++ ti_cls uw.1) := hD
    rw [hQ9] at hP hD
    refine W.eq (g2 := F0 m 25 ls [.ref q1]) rfl ?_
    refine lv_aload_n hx hb dX0_read_25 rfl (lv_at hl 1 rfl) ?_
    refine ti_callXa (ty_runV (As := [.ref (ad 0)]) (rest := []) S (met_X9_does l D E htr z0 ad dh du dv jh ju jv kh ku kv 0 hi xi xr xf xd xt q1 u2 tx uw.2.1 uw.1.length uw.2.2 uw.1 hxi I hJ hxd DD hDD hxr hxf hinv rfl hw12 hwf H.size) (cwV 1 S.2.2.2.2 (lw_V q562 q563 q564 q79 q565) rfl rfl rfl (by decide +kernel) ⟨Nat.le_of_ble_eq_true rfl, Nat.le_of_ble_eq_true rfl⟩) (ti_preXVa hE hP hD hS rfl hZ hAz 51 rfl rfl) rfl rfl hl.1 rfl (lv_room (Nat.le_of_ble_eq_true rfl)) dX0_read_26 ⟨Nat.le_of_ble_eq_true rfl, Nat.le_of_ble_eq_true rfl⟩) hD hS hA (fun _ => by rw [List.map_append, List.map_append]; rfl) (fun _ => id) (fun ug H locs hu hP hD hS => ?_)
    obtain ⟨hu1, hu2, hu3, hu4, hu5, hu6⟩ := hu
    have hP : va_P D vwCl (ti_wMJRFDXZ E ad dh du dv jh ju jv kh ku kv 0 hi ug.1 ug.2.1 ug.2.2.1 ug.2.2.2 xt q1 u2 tx uw.2.1 uw.1.length uw.2.2) H := ti_P_l hP
    have hP : va_P D vwCl (ti_wMJRFDX E ad dh du dv jh ju jv kh ku kv 0 hi ug.1 ug.2.1 ug.2.2.1 ug.2.2.2 xt) H := ti_subC (is := List.range 51) rfl hP
    refine W.eq (g2 := F0 m 29 ls [.int (nI (ti_rd I DD (uw.1.map (·.2)) 0).1)]) rfl ?_
    have hv9 : (nI (ti_rd I DD (uw.1.map (·.2)) 0).1) = (fun _ => (ti_Sread I DD (ti_tl xt tx)).1) (ug.1, ug.2.1, ug.2.2.1, ug.2.2.2) := by rw [ti_Sread, hwh]
    refine W.eq (g2 := F0 m 29 ls [.int ((fun _ => (ti_Sread I DD (ti_tl xt tx)).1) (ug.1, ug.2.1, ug.2.2.1, ug.2.2.2))]) (congrArg (fun z => F0 m 29 ls [.int z]) hv9) ?_
    exact hret _ (ug.1, ug.2.1, ug.2.2.1, ug.2.2.2) _ _ _ _ (by rw [ti_Sread, hwh]; exact ⟨hu1, hu2, hu3, hu4, hu5, hu6⟩) hP trivial hS (Nat.le_of_ble_eq_true rfl) (Nat.le_of_ble_eq_true rfl) (fun hq hf9 => W.iret hx hb hr hq hf9 dX0_read_29 hlk)
  · skip
    have hQ9 : ti_sets (ti_wMJRFDX E ad dh du dv jh ju jv kh ku kv 0 hi xi xr xf xd xt ++ [(q1, .inr (9, [.ref (ad 22), .int (nI tx), .int (nI 0), .ref u2, .int (nI 0)])), (u2, .inl (E 7, 12, .inr (.inr (.inr (.inr (fun _ => none))))))]) [51, 50, 52] (ti_wRa E q1 (ad 22) u2 xt tx we.2.2.2.1 we.2.2.2.2.1 we.2.2.2.2.2) = ti_wMJRFDXZ E ad dh du dv jh ju jv kh ku kv 0 hi xi xr xf xd xt q1 u2 tx we.2.2.2.1 we.2.2.2.2.1 we.2.2.2.2.2 := ti_asE [.inl 0, .inl 1, .inl 2, .inl 3, .inl 4, .inl 5, .inl 6, .inl 7, .inl 8, .inl 9, .inl 10, .inl 11, .inl 12, .inl 13, .inl 14, .inl 15, .inl 16, .inl 17, .inl 18, .inl 19, .inl 20, .inl 21, .inl 22, .inl 23, .inl 24, .inl 25, .inl 26, .inl 27, .inl 28, .inl 29, .inl 30, .inl 31, .inl 32, .inl 33, .inl 34, .inl 35, .inl 36, .inl 37, .inl 38, .inl 39, .inl 40, .inl 41, .inl 42, .inl 43, .inl 44, .inl 45, .inl 46, .inl 47, .inl 48, .inl 49, .inr 1, .inr 0, .inr 2] rfl rfl rfl rfl
    have hP : va_P D vwCl (ti_sets (ti_wMJRFDX E ad dh du dv jh ju jv kh ku kv 0 hi xi xr xf xd xt ++ [(q1, .inr (9, [.ref (ad 22), .int (nI tx), .int (nI 0), .ref u2, .int (nI 0)])), (u2, .inl (E 7, 12, .inr (.inr (.inr (.inr (fun _ => none))))))]) [51, 50, 52] (ti_wRa E q1 (ad 22) u2 xt tx we.2.2.2.1 we.2.2.2.2.1 we.2.2.2.2.2)) H := hP
    rw [hQ9] at hP
    have hPe : va_P D vwCl [(we.1, .inr (10, [.ref we.1, we.2.1.1, we.2.1.2, .null, .null, .int 0, .int (nI we.2.2.1)]))] H := hPe
    have hP := hP.app hPe
    refine vx_catch hown [] ⟨10, 29, 30, 176⟩ [] htab (fun z hz => absurd hz List.not_mem_nil) rfl (by decide) (hts _ q483) (hE.use q527 rfl rfl) hce hcv hcl ?_
    refine lv_astore_n (lv' := [(2, .ref we.1), (1, .int (nI tx)), (0, .ref (ad 0))]) hx hb dX0_read_30 rfl hl (by decide) rfl (fun ls hl => ?_)
    refine lv_bipush (v := (-10)) hx hb dX0_read_31 (by decide) ?_
    refine lv_aload_n hx hb dX0_read_33 rfl (lv_at hl 0 rfl) ?_
    refine va_getN (v := .int (nI we.2.2.1)) hx hb hts in_X10 hown hK hP 53 rfl rfl 6 (by decide) (hE.use q539 rfl rfl) (fun _ h => h) rfl dX0_read_34 ?_
    refine lv_isub hx hb dX0_read_37 ?_
    have hP : va_P D vwCl (ti_wMJRFDX E ad dh du dv jh ju jv kh ku kv 0 hi xi xr xf xd xt) H := ti_subC (is := List.range 51) rfl hP
    have hv9 : (((-10)) - (nI we.2.2.1)) = (fun _ => (ti_Sread I DD (ti_tl xt tx)).1) (xi, xr, xf, xd) := by rw [ti_Sread, hpx]
    refine W.eq (g2 := F0 m 38 ls [.int ((fun _ => (ti_Sread I DD (ti_tl xt tx)).1) (xi, xr, xf, xd))]) (congrArg (fun z => F0 m 38 ls [.int z]) hv9) ?_
    exact hret _ (xi, xr, xf, xd) _ _ _ _ (by rw [ti_Sread, hpx]; exact ⟨hJ, hDD, hxi, hxr, hxf, hxd⟩) hP trivial hS (Nat.le_of_ble_eq_true rfl) (Nat.le_of_ble_eq_true rfl) (fun hq hf9 => W.iret hx hb hr hq hf9 dX0_read_38 hlk)
