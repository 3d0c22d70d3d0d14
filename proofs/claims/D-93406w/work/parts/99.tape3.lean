/-! TermIdeals: rowOf, tape (printed by w_tape3.py) -/
set_option maxRecDepth 100000
theorem ti_P0 {D : va_G} {cl : List vw_C} {H : Heap} : va_P D cl [] H := fun k q h => absurd h (by simp)

set_option maxHeartbeats 1000000 in
theorem met_X0_rowOf_0 (l : Launch) (D : va_G) (E : Nat → ClassId) (n9 : Nat) (hn9 : n9 ≤ 60) : ti_MetN (σ := Nat) l D E yX0_rowOf cX0_rowOf 2 (some (.object "java/lang/Object")) 1 1 60 [] [.int (nI 0), .int (nI n9)] (fun _ => []) (fun u => [(u, .inl (E 1, n9, .inl (ti_n (fun _ => 0))))]) (fun u => some (.ref u)) (fun _ => True) := by
  refine ti_metNA (σ := Nat) (va := fun u => u) (by decide) (Nat.le_of_ble_eq_true rfl) ?_
  intro p e s m below meth c H H0 A Q ls S hE hP hD hS hA hinit hl hret
  have hx := S.1
  have hb := S.2.1
  have hown := S.2.2.2.1
  have hts := S.2.2.2.2
  have hK := hE.1
  have hl : lv_has ls 2 [(0, .int (nI 0)), (1, .int (nI n9))] := hl
  refine lv_iload_n hx hb dX0_rowOf_0 rfl (lv_at hl 0 rfl) ?_
  refine lv_tableIn (off := 31) (tgt := 32) hx hb dX0_rowOf_1 (by decide) (by decide) rfl (by decide) ?_
  refine lv_iload_n hx hb dX0_rowOf_32 rfl (lv_at hl 1 rfl) ?_
  have hb1 := hS.1
  refine ti_newaM hx hb .byte (hts _ q224) hK hP hD hS hA 1 rfl (a0 := (n9, .inl (ti_n (fun _ => 0)))) rfl (nI_pos (by omega)) (nI_clamp (by omega)) (by show n9 * 1 ≤ 536870912; omega) (Nat.le_of_ble_eq_true rfl) (show 0 + n9 ≤ 60 by omega) dX0_rowOf_33 (fun q1 H hq1 hs1 ho1 hP hD hS => ?_)
  have g_q1 : H0.size ≤ q1 := by omega
  have hP : va_P D vwCl ([(q1, .inl (E 1, n9, .inl (ti_n (fun _ => 0))))]) H := hP
  have hD : va_D A ([(q1, .inl (E 1, n9, .inl (ti_n (fun _ => 0))))]) := hD
  exact hret q1 _ _ _ _ _ _ _ dX0_rowOf_35 rfl trivial hP hD (ti_nu1 g_q1 ti_nu0) hS (by omega) (by omega)

set_option maxHeartbeats 2000000 in
theorem met_X0_rowOf_x0 (l : Launch) (D : va_G) (E : Nat → ClassId) (htr : l.stackTraces = false) (z0 : Nat) (j : Int32) (hneg : j < 0) : ti_MetB (σ := Unit) (τ := Nat) l D E yX0_rowOf (ws_ yX0_rowOf cX0_rowOf 2 (some (.object "java/lang/Object"))) 8 3 54 z0 ([]) [.int (nI 0), .int j] (fun _ => True) (fun _ => []) (fun u => some (.ref ((fun _ => 0) u))) (fun _ => False) (fun _ _ => True) (fun w => "java/lang/NegativeArraySizeException") (fun w => w) (fun w => []) (fun w => []) (fun w => True) (fun w H => True) := by
  refine ti_metB (by decide) (Nat.le_of_ble_eq_true rfl) ?_
  intro p e s m below meth c H A Q ls S hE hP hD hS hA hZ hAz hx0 htab hl hret hq
  obtain ⟨hQ, hr, hlk, hinit⟩ := hq
  have hsz0 := hS.1
  have hx := S.1
  have hb := S.2.1
  have hown := S.2.2.2.1
  have hts := S.2.2.2.2
  have hK := hE.1
  have hl : lv_has ls 2 [(0, .int (nI 0)), (1, .int j)] := hl
  refine lv_iload_n hx hb dX0_rowOf_0 rfl (lv_at hl 0 rfl) ?_
  refine lv_tableIn (off := 31) (tgt := 32) hx hb dX0_rowOf_1 (by decide) (by decide) rfl (by decide) ?_
  refine lv_iload_n hx hb dX0_rowOf_32 rfl (lv_at hl 1 rfl) ?_
  refine vx_newarrayZ hx hb hneg dX0_rowOf_33 (fun tx9 htx => ti_vmr (names := ["java/lang/RuntimeException", "java/lang/Exception"]) (nb := 44) S hE htr (by decide +kernel) (by decide +kernel) (by decide) (by decide) (by decide +kernel) (by decide +kernel) hZ hAz hS hl.1 (by rw [htx]; exact negative_text_modelled hneg) (by rw [htx]; exact negative_text_bytes _) (by decide) (Nat.le_of_ble_eq_true rfl) (Nat.le_of_ble_eq_true rfl) (by decide) (Nat.le_of_ble_eq_true rfl) (Nat.le_of_ble_eq_true rfl) hlk (fun H1 q9 ce hk9 hS hce hcv hcl => ?_))
  rw [hQ]
  exact ty_out (fun x hx9 => absurd (htab x hx9) id) hlk hce hcv hcl (fun t ht hal => ⟨q9, rfl, rfl, trivial, ti_P0, ti_P0, fun k z h => absurd h (by simp), trivial, hS.F ht⟩) hS.2.2 (Nat.le_of_ble_eq_true rfl) (Nat.le_of_ble_eq_true rfl)

set_option maxHeartbeats 1000000 in
theorem met_X0_rowOf_1 (l : Launch) (D : va_G) (E : Nat → ClassId) (n9 : Nat) (hn9 : n9 ≤ 60) : ti_MetN (σ := Nat) l D E yX0_rowOf cX0_rowOf 2 (some (.object "java/lang/Object")) 1 1 60 [] [.int (nI 1), .int (nI n9)] (fun _ => []) (fun u => [(u, .inl (E 2, n9, .inl (ti_n (fun _ => 0))))]) (fun u => some (.ref u)) (fun _ => True) := by
  refine ti_metNA (σ := Nat) (va := fun u => u) (by decide) (Nat.le_of_ble_eq_true rfl) ?_
  intro p e s m below meth c H H0 A Q ls S hE hP hD hS hA hinit hl hret
  have hx := S.1
  have hb := S.2.1
  have hown := S.2.2.2.1
  have hts := S.2.2.2.2
  have hK := hE.1
  have hl : lv_has ls 2 [(0, .int (nI 1)), (1, .int (nI n9))] := hl
  refine lv_iload_n hx hb dX0_rowOf_0 rfl (lv_at hl 0 rfl) ?_
  refine lv_tableIn (off := 35) (tgt := 36) hx hb dX0_rowOf_1 (by decide) (by decide) rfl (by decide) ?_
  refine lv_iload_n hx hb dX0_rowOf_36 rfl (lv_at hl 1 rfl) ?_
  have hb1 := hS.1
  refine ti_newaM hx hb .short (hts _ q1012) hK hP hD hS hA 2 rfl (a0 := (n9, .inl (ti_n (fun _ => 0)))) rfl (nI_pos (by omega)) (nI_clamp (by omega)) (by show n9 * 2 ≤ 536870912; omega) (Nat.le_of_ble_eq_true rfl) (show 0 + n9 ≤ 60 by omega) dX0_rowOf_37 (fun q1 H hq1 hs1 ho1 hP hD hS => ?_)
  have g_q1 : H0.size ≤ q1 := by omega
  have hP : va_P D vwCl ([(q1, .inl (E 2, n9, .inl (ti_n (fun _ => 0))))]) H := hP
  have hD : va_D A ([(q1, .inl (E 2, n9, .inl (ti_n (fun _ => 0))))]) := hD
  exact hret q1 _ _ _ _ _ _ _ dX0_rowOf_39 rfl trivial hP hD (ti_nu1 g_q1 ti_nu0) hS (by omega) (by omega)

set_option maxHeartbeats 2000000 in
theorem met_X0_rowOf_x1 (l : Launch) (D : va_G) (E : Nat → ClassId) (htr : l.stackTraces = false) (z0 : Nat) (j : Int32) (hneg : j < 0) : ti_MetB (σ := Unit) (τ := Nat) l D E yX0_rowOf (ws_ yX0_rowOf cX0_rowOf 2 (some (.object "java/lang/Object"))) 8 3 54 z0 ([]) [.int (nI 1), .int j] (fun _ => True) (fun _ => []) (fun u => some (.ref ((fun _ => 0) u))) (fun _ => False) (fun _ _ => True) (fun w => "java/lang/NegativeArraySizeException") (fun w => w) (fun w => []) (fun w => []) (fun w => True) (fun w H => True) := by
  refine ti_metB (by decide) (Nat.le_of_ble_eq_true rfl) ?_
  intro p e s m below meth c H A Q ls S hE hP hD hS hA hZ hAz hx0 htab hl hret hq
  obtain ⟨hQ, hr, hlk, hinit⟩ := hq
  have hsz0 := hS.1
  have hx := S.1
  have hb := S.2.1
  have hown := S.2.2.2.1
  have hts := S.2.2.2.2
  have hK := hE.1
  have hl : lv_has ls 2 [(0, .int (nI 1)), (1, .int j)] := hl
  refine lv_iload_n hx hb dX0_rowOf_0 rfl (lv_at hl 0 rfl) ?_
  refine lv_tableIn (off := 35) (tgt := 36) hx hb dX0_rowOf_1 (by decide) (by decide) rfl (by decide) ?_
  refine lv_iload_n hx hb dX0_rowOf_36 rfl (lv_at hl 1 rfl) ?_
  refine vx_newarrayZ hx hb hneg dX0_rowOf_37 (fun tx9 htx => ti_vmr (names := ["java/lang/RuntimeException", "java/lang/Exception"]) (nb := 44) S hE htr (by decide +kernel) (by decide +kernel) (by decide) (by decide) (by decide +kernel) (by decide +kernel) hZ hAz hS hl.1 (by rw [htx]; exact negative_text_modelled hneg) (by rw [htx]; exact negative_text_bytes _) (by decide) (Nat.le_of_ble_eq_true rfl) (Nat.le_of_ble_eq_true rfl) (by decide) (Nat.le_of_ble_eq_true rfl) (Nat.le_of_ble_eq_true rfl) hlk (fun H1 q9 ce hk9 hS hce hcv hcl => ?_))
  rw [hQ]
  exact ty_out (fun x hx9 => absurd (htab x hx9) id) hlk hce hcv hcl (fun t ht hal => ⟨q9, rfl, rfl, trivial, ti_P0, ti_P0, fun k z h => absurd h (by simp), trivial, hS.F ht⟩) hS.2.2 (Nat.le_of_ble_eq_true rfl) (Nat.le_of_ble_eq_true rfl)

set_option maxHeartbeats 1000000 in
theorem met_X0_rowOf_2 (l : Launch) (D : va_G) (E : Nat → ClassId) (n9 : Nat) (hn9 : n9 ≤ 60) : ti_MetN (σ := Nat) l D E yX0_rowOf cX0_rowOf 2 (some (.object "java/lang/Object")) 1 1 60 [] [.int (nI 2), .int (nI n9)] (fun _ => []) (fun u => [(u, .inl (E 0, n9, .inl (ti_n (fun _ => 0))))]) (fun u => some (.ref u)) (fun _ => True) := by
  refine ti_metNA (σ := Nat) (va := fun u => u) (by decide) (Nat.le_of_ble_eq_true rfl) ?_
  intro p e s m below meth c H H0 A Q ls S hE hP hD hS hA hinit hl hret
  have hx := S.1
  have hb := S.2.1
  have hown := S.2.2.2.1
  have hts := S.2.2.2.2
  have hK := hE.1
  have hl : lv_has ls 2 [(0, .int (nI 2)), (1, .int (nI n9))] := hl
  refine lv_iload_n hx hb dX0_rowOf_0 rfl (lv_at hl 0 rfl) ?_
  refine lv_tableIn (off := 39) (tgt := 40) hx hb dX0_rowOf_1 (by decide) (by decide) rfl (by decide) ?_
  refine lv_iload_n hx hb dX0_rowOf_40 rfl (lv_at hl 1 rfl) ?_
  have hb1 := hS.1
  refine ti_newaM hx hb .int (hts _ q125) hK hP hD hS hA 0 rfl (a0 := (n9, .inl (ti_n (fun _ => 0)))) rfl (nI_pos (by omega)) (nI_clamp (by omega)) (by show n9 * 4 ≤ 536870912; omega) (Nat.le_of_ble_eq_true rfl) (show 0 + n9 ≤ 60 by omega) dX0_rowOf_41 (fun q1 H hq1 hs1 ho1 hP hD hS => ?_)
  have g_q1 : H0.size ≤ q1 := by omega
  have hP : va_P D vwCl ([(q1, .inl (E 0, n9, .inl (ti_n (fun _ => 0))))]) H := hP
  have hD : va_D A ([(q1, .inl (E 0, n9, .inl (ti_n (fun _ => 0))))]) := hD
  exact hret q1 _ _ _ _ _ _ _ dX0_rowOf_43 rfl trivial hP hD (ti_nu1 g_q1 ti_nu0) hS (by omega) (by omega)

set_option maxHeartbeats 2000000 in
theorem met_X0_rowOf_x2 (l : Launch) (D : va_G) (E : Nat → ClassId) (htr : l.stackTraces = false) (z0 : Nat) (j : Int32) (hneg : j < 0) : ti_MetB (σ := Unit) (τ := Nat) l D E yX0_rowOf (ws_ yX0_rowOf cX0_rowOf 2 (some (.object "java/lang/Object"))) 8 3 54 z0 ([]) [.int (nI 2), .int j] (fun _ => True) (fun _ => []) (fun u => some (.ref ((fun _ => 0) u))) (fun _ => False) (fun _ _ => True) (fun w => "java/lang/NegativeArraySizeException") (fun w => w) (fun w => []) (fun w => []) (fun w => True) (fun w H => True) := by
  refine ti_metB (by decide) (Nat.le_of_ble_eq_true rfl) ?_
  intro p e s m below meth c H A Q ls S hE hP hD hS hA hZ hAz hx0 htab hl hret hq
  obtain ⟨hQ, hr, hlk, hinit⟩ := hq
  have hsz0 := hS.1
  have hx := S.1
  have hb := S.2.1
  have hown := S.2.2.2.1
  have hts := S.2.2.2.2
  have hK := hE.1
  have hl : lv_has ls 2 [(0, .int (nI 2)), (1, .int j)] := hl
  refine lv_iload_n hx hb dX0_rowOf_0 rfl (lv_at hl 0 rfl) ?_
  refine lv_tableIn (off := 39) (tgt := 40) hx hb dX0_rowOf_1 (by decide) (by decide) rfl (by decide) ?_
  refine lv_iload_n hx hb dX0_rowOf_40 rfl (lv_at hl 1 rfl) ?_
  refine vx_newarrayZ hx hb hneg dX0_rowOf_41 (fun tx9 htx => ti_vmr (names := ["java/lang/RuntimeException", "java/lang/Exception"]) (nb := 44) S hE htr (by decide +kernel) (by decide +kernel) (by decide) (by decide) (by decide +kernel) (by decide +kernel) hZ hAz hS hl.1 (by rw [htx]; exact negative_text_modelled hneg) (by rw [htx]; exact negative_text_bytes _) (by decide) (Nat.le_of_ble_eq_true rfl) (Nat.le_of_ble_eq_true rfl) (by decide) (Nat.le_of_ble_eq_true rfl) (Nat.le_of_ble_eq_true rfl) hlk (fun H1 q9 ce hk9 hS hce hcv hcl => ?_))
  rw [hQ]
  exact ty_out (fun x hx9 => absurd (htab x hx9) id) hlk hce hcv hcl (fun t ht hal => ⟨q9, rfl, rfl, trivial, ti_P0, ti_P0, fun k z h => absurd h (by simp), trivial, hS.F ht⟩) hS.2.2 (Nat.le_of_ble_eq_true rfl) (Nat.le_of_ble_eq_true rfl)

set_option maxHeartbeats 1000000 in
theorem met_X0_rowOf_3 (l : Launch) (D : va_G) (E : Nat → ClassId) (n9 : Nat) (hn9 : n9 ≤ 60) : ti_MetN (σ := Nat) l D E yX0_rowOf cX0_rowOf 2 (some (.object "java/lang/Object")) 1 1 60 [] [.int (nI 3), .int (nI n9)] (fun _ => []) (fun u => [(u, .inl (E 3, n9, .inr (.inl (fun _ => 0))))]) (fun u => some (.ref u)) (fun _ => True) := by
  refine ti_metNA (σ := Nat) (va := fun u => u) (by decide) (Nat.le_of_ble_eq_true rfl) ?_
  intro p e s m below meth c H H0 A Q ls S hE hP hD hS hA hinit hl hret
  have hx := S.1
  have hb := S.2.1
  have hown := S.2.2.2.1
  have hts := S.2.2.2.2
  have hK := hE.1
  have hl : lv_has ls 2 [(0, .int (nI 3)), (1, .int (nI n9))] := hl
  refine lv_iload_n hx hb dX0_rowOf_0 rfl (lv_at hl 0 rfl) ?_
  refine lv_tableIn (off := 43) (tgt := 44) hx hb dX0_rowOf_1 (by decide) (by decide) rfl (by decide) ?_
  refine lv_iload_n hx hb dX0_rowOf_44 rfl (lv_at hl 1 rfl) ?_
  have hb1 := hS.1
  refine ti_newaM hx hb .long (hts _ q1013) hK hP hD hS hA 3 rfl (a0 := (n9, .inr (.inl (fun _ => 0)))) rfl (nI_pos (by omega)) (nI_clamp (by omega)) (by show n9 * 8 ≤ 536870912; omega) (Nat.le_of_ble_eq_true rfl) (show 0 + n9 ≤ 60 by omega) dX0_rowOf_45 (fun q1 H hq1 hs1 ho1 hP hD hS => ?_)
  have g_q1 : H0.size ≤ q1 := by omega
  have hP : va_P D vwCl ([(q1, .inl (E 3, n9, .inr (.inl (fun _ => 0))))]) H := hP
  have hD : va_D A ([(q1, .inl (E 3, n9, .inr (.inl (fun _ => 0))))]) := hD
  exact hret q1 _ _ _ _ _ _ _ dX0_rowOf_47 rfl trivial hP hD (ti_nu1 g_q1 ti_nu0) hS (by omega) (by omega)

set_option maxHeartbeats 2000000 in
theorem met_X0_rowOf_x3 (l : Launch) (D : va_G) (E : Nat → ClassId) (htr : l.stackTraces = false) (z0 : Nat) (j : Int32) (hneg : j < 0) : ti_MetB (σ := Unit) (τ := Nat) l D E yX0_rowOf (ws_ yX0_rowOf cX0_rowOf 2 (some (.object "java/lang/Object"))) 8 3 54 z0 ([]) [.int (nI 3), .int j] (fun _ => True) (fun _ => []) (fun u => some (.ref ((fun _ => 0) u))) (fun _ => False) (fun _ _ => True) (fun w => "java/lang/NegativeArraySizeException") (fun w => w) (fun w => []) (fun w => []) (fun w => True) (fun w H => True) := by
  refine ti_metB (by decide) (Nat.le_of_ble_eq_true rfl) ?_
  intro p e s m below meth c H A Q ls S hE hP hD hS hA hZ hAz hx0 htab hl hret hq
  obtain ⟨hQ, hr, hlk, hinit⟩ := hq
  have hsz0 := hS.1
  have hx := S.1
  have hb := S.2.1
  have hown := S.2.2.2.1
  have hts := S.2.2.2.2
  have hK := hE.1
  have hl : lv_has ls 2 [(0, .int (nI 3)), (1, .int j)] := hl
  refine lv_iload_n hx hb dX0_rowOf_0 rfl (lv_at hl 0 rfl) ?_
  refine lv_tableIn (off := 43) (tgt := 44) hx hb dX0_rowOf_1 (by decide) (by decide) rfl (by decide) ?_
  refine lv_iload_n hx hb dX0_rowOf_44 rfl (lv_at hl 1 rfl) ?_
  refine vx_newarrayZ hx hb hneg dX0_rowOf_45 (fun tx9 htx => ti_vmr (names := ["java/lang/RuntimeException", "java/lang/Exception"]) (nb := 44) S hE htr (by decide +kernel) (by decide +kernel) (by decide) (by decide) (by decide +kernel) (by decide +kernel) hZ hAz hS hl.1 (by rw [htx]; exact negative_text_modelled hneg) (by rw [htx]; exact negative_text_bytes _) (by decide) (Nat.le_of_ble_eq_true rfl) (Nat.le_of_ble_eq_true rfl) (by decide) (Nat.le_of_ble_eq_true rfl) (Nat.le_of_ble_eq_true rfl) hlk (fun H1 q9 ce hk9 hS hce hcv hcl => ?_))
  rw [hQ]
  exact ty_out (fun x hx9 => absurd (htab x hx9) id) hlk hce hcv hcl (fun t ht hal => ⟨q9, rfl, rfl, trivial, ti_P0, ti_P0, fun k z h => absurd h (by simp), trivial, hS.F ht⟩) hS.2.2 (Nat.le_of_ble_eq_true rfl) (Nat.le_of_ble_eq_true rfl)

set_option maxHeartbeats 1000000 in
theorem met_X0_rowOf_4 (l : Launch) (D : va_G) (E : Nat → ClassId) (n9 : Nat) (hn9 : n9 ≤ 60) : ti_MetN (σ := Nat) l D E yX0_rowOf cX0_rowOf 2 (some (.object "java/lang/Object")) 1 1 60 [] [.int (nI 4), .int (nI n9)] (fun _ => []) (fun u => [(u, .inl (E 4, n9, .inl (ti_n (fun _ => 0))))]) (fun u => some (.ref u)) (fun _ => True) := by
  refine ti_metNA (σ := Nat) (va := fun u => u) (by decide) (Nat.le_of_ble_eq_true rfl) ?_
  intro p e s m below meth c H H0 A Q ls S hE hP hD hS hA hinit hl hret
  have hx := S.1
  have hb := S.2.1
  have hown := S.2.2.2.1
  have hts := S.2.2.2.2
  have hK := hE.1
  have hl : lv_has ls 2 [(0, .int (nI 4)), (1, .int (nI n9))] := hl
  refine lv_iload_n hx hb dX0_rowOf_0 rfl (lv_at hl 0 rfl) ?_
  refine lv_tableOut (tgt := 48) hx hb dX0_rowOf_1 (by decide) (by decide) ?_
  refine lv_iload_n hx hb dX0_rowOf_48 rfl (lv_at hl 1 rfl) ?_
  have hb1 := hS.1
  refine ti_newaM hx hb .boolean (hts _ q1014) hK hP hD hS hA 4 rfl (a0 := (n9, .inl (ti_n (fun _ => 0)))) rfl (nI_pos (by omega)) (nI_clamp (by omega)) (by show n9 * 1 ≤ 536870912; omega) (Nat.le_of_ble_eq_true rfl) (show 0 + n9 ≤ 60 by omega) dX0_rowOf_49 (fun q1 H hq1 hs1 ho1 hP hD hS => ?_)
  have g_q1 : H0.size ≤ q1 := by omega
  have hP : va_P D vwCl ([(q1, .inl (E 4, n9, .inl (ti_n (fun _ => 0))))]) H := hP
  have hD : va_D A ([(q1, .inl (E 4, n9, .inl (ti_n (fun _ => 0))))]) := hD
  exact hret q1 _ _ _ _ _ _ _ dX0_rowOf_51 rfl trivial hP hD (ti_nu1 g_q1 ti_nu0) hS (by omega) (by omega)

set_option maxHeartbeats 2000000 in
theorem met_X0_rowOf_x4 (l : Launch) (D : va_G) (E : Nat → ClassId) (htr : l.stackTraces = false) (z0 : Nat) (j : Int32) (hneg : j < 0) : ti_MetB (σ := Unit) (τ := Nat) l D E yX0_rowOf (ws_ yX0_rowOf cX0_rowOf 2 (some (.object "java/lang/Object"))) 8 3 54 z0 ([]) [.int (nI 4), .int j] (fun _ => True) (fun _ => []) (fun u => some (.ref ((fun _ => 0) u))) (fun _ => False) (fun _ _ => True) (fun w => "java/lang/NegativeArraySizeException") (fun w => w) (fun w => []) (fun w => []) (fun w => True) (fun w H => True) := by
  refine ti_metB (by decide) (Nat.le_of_ble_eq_true rfl) ?_
  intro p e s m below meth c H A Q ls S hE hP hD hS hA hZ hAz hx0 htab hl hret hq
  obtain ⟨hQ, hr, hlk, hinit⟩ := hq
  have hsz0 := hS.1
  have hx := S.1
  have hb := S.2.1
  have hown := S.2.2.2.1
  have hts := S.2.2.2.2
  have hK := hE.1
  have hl : lv_has ls 2 [(0, .int (nI 4)), (1, .int j)] := hl
  refine lv_iload_n hx hb dX0_rowOf_0 rfl (lv_at hl 0 rfl) ?_
  refine lv_tableOut (tgt := 48) hx hb dX0_rowOf_1 (by decide) (by decide) ?_
  refine lv_iload_n hx hb dX0_rowOf_48 rfl (lv_at hl 1 rfl) ?_
  refine vx_newarrayZ hx hb hneg dX0_rowOf_49 (fun tx9 htx => ti_vmr (names := ["java/lang/RuntimeException", "java/lang/Exception"]) (nb := 44) S hE htr (by decide +kernel) (by decide +kernel) (by decide) (by decide) (by decide +kernel) (by decide +kernel) hZ hAz hS hl.1 (by rw [htx]; exact negative_text_modelled hneg) (by rw [htx]; exact negative_text_bytes _) (by decide) (Nat.le_of_ble_eq_true rfl) (Nat.le_of_ble_eq_true rfl) (by decide) (Nat.le_of_ble_eq_true rfl) (Nat.le_of_ble_eq_true rfl) hlk (fun H1 q9 ce hk9 hS hce hcv hcl => ?_))
  rw [hQ]
  exact ty_out (fun x hx9 => absurd (htab x hx9) id) hlk hce hcv hcl (fun t ht hal => ⟨q9, rfl, rfl, trivial, ti_P0, ti_P0, fun k z h => absurd h (by simp), trivial, hS.F ht⟩) hS.2.2 (Nat.le_of_ble_eq_true rfl) (Nat.le_of_ble_eq_true rfl)

set_option maxHeartbeats 2000000 in
theorem met_X0_tape_b (l : Launch) (D : va_G) (E : Nat → ClassId) (htr : l.stackTraces = false) (z0 : Nat) (ad : Nat → Nat) (tx : Nat) (hi : Bool) (t sg j : Int32) (hno : ti_t5 t = false) : ti_MetB (σ := Unit) (τ := Unit) l D E yX0_tape (wsW_ yX0_tape cX0_tape 5 (some .int) [(32, 56, 57, 368)]) 9 3 60 z0 ([(ad 0, .inr (0, [.ref (ad 1), .ref (ad 2), .ref (ad 5), .ref (ad 11), .ref (ad 14), .ref (ad 16), .ref (ad 18), .ref (ad 20), .ref (ad 22), .int (nI tx), .ref (ad 23), .ref (ad 27), .ref (ad 31), .ref (ad 35), .ref (ad 36), .ref (ad 37), .ref (ad 41), .ref (ad 45), .int (ti_b hi)]))]) [.ref (ad 0), .int t, .int sg, .int j] (fun _ => True) (fun _ => [(ad 0, .inr (0, [.ref (ad 1), .ref (ad 2), .ref (ad 5), .ref (ad 11), .ref (ad 14), .ref (ad 16), .ref (ad 18), .ref (ad 20), .ref (ad 22), .int (nI tx), .ref (ad 23), .ref (ad 27), .ref (ad 31), .ref (ad 35), .ref (ad 36), .ref (ad 37), .ref (ad 41), .ref (ad 45), .int (ti_b hi)]))]) (fun u => some (.int ((fun _ => (-1 : Int32)) u))) (fun _ => True) (fun _ _ => True) (fun w => RX14) (fun w => 0) (fun w => [(ad 0, .inr (0, [.ref (ad 1), .ref (ad 2), .ref (ad 5), .ref (ad 11), .ref (ad 14), .ref (ad 16), .ref (ad 18), .ref (ad 20), .ref (ad 22), .int (nI tx), .ref (ad 23), .ref (ad 27), .ref (ad 31), .ref (ad 35), .ref (ad 36), .ref (ad 37), .ref (ad 41), .ref (ad 45), .int (ti_b hi)]))]) (fun w => []) (fun w => False) (fun w H => True) := by
  refine ti_metBH (by decide) (Nat.le_of_ble_eq_true rfl) ?_
  intro p e s m below meth c H A Q ls S hE hP hD hS hA hZ hAz hx0 htab hl hret hq
  obtain ⟨hQ, hr, hlk, hinit⟩ := hq
  have hsz0 := hS.1
  have hx := S.1
  have hb := S.2.1
  have hown := S.2.2.2.1
  have hts := S.2.2.2.2
  have hK := hE.1
  have hl : lv_has ls 5 [(0, .ref (ad 0)), (1, .int t), (2, .int sg), (3, .int j)] := hl
  refine lv_iload_n hx hb dX0_tape_0 rfl (lv_at hl 1 rfl) ?_
  refine ti_pS (As := [.int t]) (rest := []) (v := .int (ti_b (ti_t5 t))) S hE hP [] (met_X0_isTape l D E t) rfl (lw_S q920 q921 q66 q922) 1 rfl (by decide +kernel) ⟨Nat.le_of_ble_eq_true rfl, Nat.le_of_ble_eq_true rfl⟩ hl.1 rfl (Nat.le_of_ble_eq_true rfl) ⟨Nat.le_of_ble_eq_true rfl, Nat.le_of_ble_eq_true rfl⟩ dX0_tape_1 ?_
  refine tb_ne (tgt := 9) hx hb dX0_tape_4 (by decide) (fun c4 => ?_) (fun c4 => ?_)
  · skip
    exact absurd c4 (by rw [hno]; decide)
  · skip
    refine lv_iconst (v := (-1)) hx hb dX0_tape_7 (by decide) ?_
    have hv9 : ((-1)) = (fun _ => (-1 : Int32)) () := (rfl : (-1 : Int32) = -1)
    refine W.eq (g2 := F0 m 8 ls [.int ((fun _ => (-1 : Int32)) ())]) (congrArg (fun z => F0 m 8 ls [.int z]) hv9) ?_
    exact hret _ () _ _ _ _ (trivial) hP trivial hS (Nat.le_of_ble_eq_true rfl) (Nat.le_of_ble_eq_true rfl) (fun hq hf9 => W.iret hx hb hr hq hf9 dX0_tape_8 hlk)

set_option maxHeartbeats 2000000 in
theorem met_X0_tape_c (l : Launch) (D : va_G) (E : Nat → ClassId) (htr : l.stackTraces = false) (z0 : Nat) (ad : Nat → Nat) (tx : Nat) (hi : Bool) (t sg j : Int32) (ht : ti_t5 t = true) (hno : ti_in sg (-1) (nI 4) = false ∨ (sg ≠ -1 ∧ 60 < j)) : ti_MetB (σ := Unit) (τ := Unit) l D E yX0_tape (wsW_ yX0_tape cX0_tape 5 (some .int) [(32, 56, 57, 368)]) 9 3 60 z0 ([(ad 0, .inr (0, [.ref (ad 1), .ref (ad 2), .ref (ad 5), .ref (ad 11), .ref (ad 14), .ref (ad 16), .ref (ad 18), .ref (ad 20), .ref (ad 22), .int (nI tx), .ref (ad 23), .ref (ad 27), .ref (ad 31), .ref (ad 35), .ref (ad 36), .ref (ad 37), .ref (ad 41), .ref (ad 45), .int (ti_b hi)]))]) [.ref (ad 0), .int t, .int sg, .int j] (fun _ => True) (fun _ => [(ad 0, .inr (0, [.ref (ad 1), .ref (ad 2), .ref (ad 5), .ref (ad 11), .ref (ad 14), .ref (ad 16), .ref (ad 18), .ref (ad 20), .ref (ad 22), .int (nI tx), .ref (ad 23), .ref (ad 27), .ref (ad 31), .ref (ad 35), .ref (ad 36), .ref (ad 37), .ref (ad 41), .ref (ad 45), .int (ti_b hi)]))]) (fun u => some (.int ((fun _ => (-2 : Int32)) u))) (fun _ => True) (fun _ _ => True) (fun w => RX14) (fun w => 0) (fun w => [(ad 0, .inr (0, [.ref (ad 1), .ref (ad 2), .ref (ad 5), .ref (ad 11), .ref (ad 14), .ref (ad 16), .ref (ad 18), .ref (ad 20), .ref (ad 22), .int (nI tx), .ref (ad 23), .ref (ad 27), .ref (ad 31), .ref (ad 35), .ref (ad 36), .ref (ad 37), .ref (ad 41), .ref (ad 45), .int (ti_b hi)]))]) (fun w => []) (fun w => False) (fun w H => True) := by
  refine ti_metBH (by decide) (Nat.le_of_ble_eq_true rfl) ?_
  intro p e s m below meth c H A Q ls S hE hP hD hS hA hZ hAz hx0 htab hl hret hq
  obtain ⟨hQ, hr, hlk, hinit⟩ := hq
  have hsz0 := hS.1
  have hx := S.1
  have hb := S.2.1
  have hown := S.2.2.2.1
  have hts := S.2.2.2.2
  have hK := hE.1
  have hl : lv_has ls 5 [(0, .ref (ad 0)), (1, .int t), (2, .int sg), (3, .int j)] := hl
  refine lv_iload_n hx hb dX0_tape_0 rfl (lv_at hl 1 rfl) ?_
  refine ti_pS (As := [.int t]) (rest := []) (v := .int (ti_b (ti_t5 t))) S hE hP [] (met_X0_isTape l D E t) rfl (lw_S q920 q921 q66 q922) 1 rfl (by decide +kernel) ⟨Nat.le_of_ble_eq_true rfl, Nat.le_of_ble_eq_true rfl⟩ hl.1 rfl (Nat.le_of_ble_eq_true rfl) ⟨Nat.le_of_ble_eq_true rfl, Nat.le_of_ble_eq_true rfl⟩ dX0_tape_1 ?_
  refine tb_ne (tgt := 9) hx hb dX0_tape_4 (by decide) (fun c4 => ?_) (fun c4 => ?_)
  · skip
    refine lv_iload_n hx hb dX0_tape_9 rfl (lv_at hl 2 rfl) ?_
    refine lv_iconst (v := (-1)) hx hb dX0_tape_10 (by decide) ?_
    refine lv_iconst (v := nI 4) hx hb dX0_tape_11 (by decide) ?_
    refine ti_pS (As := [.int sg, .int ((-1)), .int (nI 4)]) (rest := []) (v := .int (ti_b (ti_in sg (((-1))) (nI 4)))) S hE hP [] (met_X0_in l D E sg (((-1))) (nI 4)) rfl (lw_S q302 q303 q66 q304) 3 rfl (by decide +kernel) ⟨Nat.le_of_ble_eq_true rfl, Nat.le_of_ble_eq_true rfl⟩ hl.1 rfl (Nat.le_of_ble_eq_true rfl) ⟨Nat.le_of_ble_eq_true rfl, Nat.le_of_ble_eq_true rfl⟩ dX0_tape_12 ?_
    refine tb_eq (tgt := 29) hx hb dX0_tape_15 (by decide) (fun c15 => ?_) (fun c15 => ?_)
    · skip
      refine lv_bipush (v := (-2)) hx hb dX0_tape_29 (by decide) ?_
      have hv9 : ((-2)) = (fun _ => (-2 : Int32)) () := (rfl : (-2 : Int32) = -2)
      refine W.eq (g2 := F0 m 31 ls [.int ((fun _ => (-2 : Int32)) ())]) (congrArg (fun z => F0 m 31 ls [.int z]) hv9) ?_
      exact hret _ () _ _ _ _ (trivial) hP trivial hS (Nat.le_of_ble_eq_true rfl) (Nat.le_of_ble_eq_true rfl) (fun hq hf9 => W.iret hx hb hr hq hf9 dX0_tape_31 hlk)
    · skip
      refine lv_iload_n hx hb dX0_tape_18 rfl (lv_at hl 2 rfl) ?_
      refine lv_iconst (v := (-1)) hx hb dX0_tape_19 (by decide) ?_
      refine lv_icmp_eq (tgt := 32) hx hb dX0_tape_20 (by decide) (fun c20 => ?_) (fun c20 => ?_)
      · skip
        rcases hno with h9 | h9
        · exact absurd h9 (by rw [c15]; decide)
        · exact absurd c20 h9.1
      · skip
        refine lv_iload_n hx hb dX0_tape_23 rfl (lv_at hl 3 rfl) ?_
        refine lv_bipush (v := nI 60) hx hb dX0_tape_24 (by decide) ?_
        refine lv_icmp_le (tgt := 32) hx hb dX0_tape_26 (by decide) (fun c26 => ?_) (fun c26 => ?_)
        · skip
          rcases hno with h9 | h9
          · exact absurd h9 (by rw [c15]; decide)
          · exact absurd (show j ≤ 60 from c26) (Int32.not_le.mpr h9.2)
        · skip
          refine lv_bipush (v := (-2)) hx hb dX0_tape_29 (by decide) ?_
          have hv9 : ((-2)) = (fun _ => (-2 : Int32)) () := (rfl : (-2 : Int32) = -2)
          refine W.eq (g2 := F0 m 31 ls [.int ((fun _ => (-2 : Int32)) ())]) (congrArg (fun z => F0 m 31 ls [.int z]) hv9) ?_
          exact hret _ () _ _ _ _ (trivial) hP trivial hS (Nat.le_of_ble_eq_true rfl) (Nat.le_of_ble_eq_true rfl) (fun hq hf9 => W.iret hx hb hr hq hf9 dX0_tape_31 hlk)
  · skip
    exact absurd ht (by rw [c4]; decide)

set_option maxHeartbeats 2000000 in
theorem met_X0_tape_m (l : Launch) (D : va_G) (E : Nat → ClassId) (htr : l.stackTraces = false) (z0 : Nat) (ad th : Nat → Nat) (tx : Nat) (hi : Bool) (t9 : Nat) (ht9 : t9 < 6) (v : Value) (j : Int32) : ti_MetB (σ := Unit) (τ := Unit) l D E yX0_tape (wsW_ yX0_tape cX0_tape 5 (some .int) [(32, 56, 57, 368)]) 9 3 60 z0 (ti_wT3 E ad th tx hi t9 v) [.ref (ad 0), .int (nI t9), .int ((-1)), .int j] (fun _ => True) (fun _ => ti_wT3 E ad th tx hi t9 .null) (fun u => some (.int ((fun _ => (1 : Int32)) u))) (fun _ => True) (fun _ _ => True) (fun w => RX14) (fun w => 0) (fun w => ti_wT3 E ad th tx hi t9 v) (fun w => []) (fun w => False) (fun w H => True) := by
  refine ti_metBH (by decide) (Nat.le_of_ble_eq_true rfl) ?_
  intro p e s m below meth c H A Q ls S hE hP hD hS hA hZ hAz hx0 htab hl hret hq
  obtain ⟨hQ, hr, hlk, hinit⟩ := hq
  have hsz0 := hS.1
  have hx := S.1
  have hb := S.2.1
  have hown := S.2.2.2.1
  have hts := S.2.2.2.2
  have hK := hE.1
  have hl : lv_has ls 5 [(0, .ref (ad 0)), (1, .int (nI t9)), (2, .int ((-1))), (3, .int j)] := hl
  have ht5 : ti_t5 (nI t9) = true := by unfold ti_t5; rw [ti_in_nI (by omega) (by decide) (by decide)]; exact decide_eq_true ⟨Nat.zero_le _, by omega⟩
  refine lv_iload_n hx hb dX0_tape_0 rfl (lv_at hl 1 rfl) ?_
  refine ti_pS (As := [.int (nI t9)]) (rest := []) (v := .int (ti_b (ti_t5 (nI t9)))) S hE hP [] (met_X0_isTape l D E (nI t9)) rfl (lw_S q920 q921 q66 q922) 1 rfl (by decide +kernel) ⟨Nat.le_of_ble_eq_true rfl, Nat.le_of_ble_eq_true rfl⟩ hl.1 rfl (Nat.le_of_ble_eq_true rfl) ⟨Nat.le_of_ble_eq_true rfl, Nat.le_of_ble_eq_true rfl⟩ dX0_tape_1 ?_
  refine tb_ne (tgt := 9) hx hb dX0_tape_4 (by decide) (fun c4 => ?_) (fun c4 => ?_)
  · skip
    refine lv_iload_n hx hb dX0_tape_9 rfl (lv_at hl 2 rfl) ?_
    refine lv_iconst (v := (-1)) hx hb dX0_tape_10 (by decide) ?_
    refine lv_iconst (v := nI 4) hx hb dX0_tape_11 (by decide) ?_
    refine ti_pS (As := [.int ((-1)), .int ((-1)), .int (nI 4)]) (rest := []) (v := .int (ti_b (ti_in (((-1))) (((-1))) (nI 4)))) S hE hP [] (met_X0_in l D E (((-1))) (((-1))) (nI 4)) rfl (lw_S q302 q303 q66 q304) 3 rfl (by decide +kernel) ⟨Nat.le_of_ble_eq_true rfl, Nat.le_of_ble_eq_true rfl⟩ hl.1 rfl (Nat.le_of_ble_eq_true rfl) ⟨Nat.le_of_ble_eq_true rfl, Nat.le_of_ble_eq_true rfl⟩ dX0_tape_12 ?_
    refine tb_eq (tgt := 29) hx hb dX0_tape_15 (by decide) (fun c15 => ?_) (fun c15 => ?_)
    · skip
      exact absurd c15 (by decide)
    · skip
      refine lv_iload_n hx hb dX0_tape_18 rfl (lv_at hl 2 rfl) ?_
      refine lv_iconst (v := (-1)) hx hb dX0_tape_19 (by decide) ?_
      refine lv_icmp_eq (tgt := 32) hx hb dX0_tape_20 (by decide) (fun c20 => ?_) (fun c20 => ?_)
      · skip
        refine lv_aload_n hx hb dX0_tape_32 rfl (lv_at hl 0 rfl) ?_
        refine va_get (v := .ref (ad 35)) hx hb hts in_X0 hown hK hP 0 rfl rfl 13 (by decide) (hts _ q250) (fun _ h => h) rfl dX0_tape_33 ?_
        refine lv_iload_n hx hb dX0_tape_36 rfl (lv_at hl 1 rfl) ?_
        refine tn_aald hx hb hK hP 1 6 rfl rfl (by omega) (by decide) dX0_tape_37 ?_
        refine lv_iload_n hx hb dX0_tape_38 rfl (lv_at hl 2 rfl) ?_
        refine lv_iconst (v := (-1)) hx hb dX0_tape_39 (by decide) ?_
        refine lv_icmp_ne (tgt := 47) hx hb dX0_tape_40 (by decide) (fun c40 => ?_) (fun c40 => ?_)
        · skip
          exact absurd rfl c40
        · skip
          refine lv_null hx hb dX0_tape_43 ?_
          refine lv_goto (tgt := 52) hx hb dX0_tape_44 (by decide) ?_
          refine va_putN (ty := .object "java/lang/Object") hx hb hts in_X6 tyX6 tyX6_ok nmX6 hown hK hP hD hS 2 rfl rfl 0 (by decide) (hE.use q233 rfl rfl) (fun _ h => h) rfl rfl rfl rfl (Nat.le_of_ble_eq_true rfl) dX0_tape_52 (fun H locs hP hD hS => ?_)
          have hP : va_P D vwCl (ti_wT3 E ad th tx hi t9 .null) H := hP
          have hD : va_D A (ti_wT3 E ad th tx hi t9 .null) := hD
          refine lv_iconst (v := nI 1) hx hb dX0_tape_55 (by decide) ?_
          have hv9 : (nI 1) = (fun _ => (1 : Int32)) () := (rfl : nI 1 = (1 : Int32))
          refine W.eq (g2 := F0 m 56 ls [.int ((fun _ => (1 : Int32)) ())]) (congrArg (fun z => F0 m 56 ls [.int z]) hv9) ?_
          exact hret _ () _ _ _ _ (trivial) hP trivial hS (Nat.le_of_ble_eq_true rfl) (Nat.le_of_ble_eq_true rfl) (fun hq hf9 => W.iret hx hb hr hq hf9 dX0_tape_56 hlk)
      · skip
        exact absurd rfl c20
  · skip
    exact absurd ht5 (by rw [c4]; decide)

set_option maxHeartbeats 2000000 in
theorem met_X0_tape_0 (l : Launch) (D : va_G) (E : Nat → ClassId) (htr : l.stackTraces = false) (z0 : Nat) (ad th : Nat → Nat) (tx : Nat) (hi : Bool) (t9 : Nat) (ht9 : t9 < 6) (v : Value) (n9 : Nat) (hn9 : n9 ≤ 60) : ti_MetY (σ := Nat) (τ := Unit) l D E yX0_tape (wsW_ yX0_tape cX0_tape 5 (some .int) [(32, 56, 57, 368)]) 3 1 60 z0 (ti_wT3 E ad th tx hi t9 v) [.ref (ad 0), .int (nI t9), .int (nI 0), .int (nI n9)] (fun u => ti_wT3 E ad th tx hi t9 (.ref u)) (fun u => [(u, .inl (E 1, n9, .inl (ti_n (fun _ => 0))))]) (fun u => some (.int ((fun _ => (1 : Int32)) u))) (fun _ => True) (fun w => RX14) (fun w => 0) (fun w => ti_wT3 E ad th tx hi t9 v) (fun w => []) (fun w => False) (fun w H => True) := by
  refine ti_metYH (by decide) (Nat.le_of_ble_eq_true rfl) ?_
  intro p e s m below meth c H A Q ls S hE hP hD hS hA hZ hAz htab hl hret hq
  obtain ⟨hQ, hr, hlk, hinit⟩ := hq
  have hsz0 := hS.1
  have hx := S.1
  have hb := S.2.1
  have hown := S.2.2.2.1
  have hts := S.2.2.2.2
  have hK := hE.1
  have hl : lv_has ls 5 [(0, .ref (ad 0)), (1, .int (nI t9)), (2, .int (nI 0)), (3, .int (nI n9))] := hl
  have ht5 : ti_t5 (nI t9) = true := by unfold ti_t5; rw [ti_in_nI (by omega) (by decide) (by decide)]; exact decide_eq_true ⟨Nat.zero_le _, by omega⟩
  refine lv_iload_n hx hb dX0_tape_0 rfl (lv_at hl 1 rfl) ?_
  refine ti_pS (As := [.int (nI t9)]) (rest := []) (v := .int (ti_b (ti_t5 (nI t9)))) S hE hP [] (met_X0_isTape l D E (nI t9)) rfl (lw_S q920 q921 q66 q922) 1 rfl (by decide +kernel) ⟨Nat.le_of_ble_eq_true rfl, Nat.le_of_ble_eq_true rfl⟩ hl.1 rfl (Nat.le_of_ble_eq_true rfl) ⟨Nat.le_of_ble_eq_true rfl, Nat.le_of_ble_eq_true rfl⟩ dX0_tape_1 ?_
  refine tb_ne (tgt := 9) hx hb dX0_tape_4 (by decide) (fun c4 => ?_) (fun c4 => ?_)
  · skip
    refine lv_iload_n hx hb dX0_tape_9 rfl (lv_at hl 2 rfl) ?_
    refine lv_iconst (v := (-1)) hx hb dX0_tape_10 (by decide) ?_
    refine lv_iconst (v := nI 4) hx hb dX0_tape_11 (by decide) ?_
    refine ti_pS (As := [.int (nI 0), .int ((-1)), .int (nI 4)]) (rest := []) (v := .int (ti_b (ti_in (nI 0) (((-1))) (nI 4)))) S hE hP [] (met_X0_in l D E (nI 0) (((-1))) (nI 4)) rfl (lw_S q302 q303 q66 q304) 3 rfl (by decide +kernel) ⟨Nat.le_of_ble_eq_true rfl, Nat.le_of_ble_eq_true rfl⟩ hl.1 rfl (Nat.le_of_ble_eq_true rfl) ⟨Nat.le_of_ble_eq_true rfl, Nat.le_of_ble_eq_true rfl⟩ dX0_tape_12 ?_
    refine tb_eq (tgt := 29) hx hb dX0_tape_15 (by decide) (fun c15 => ?_) (fun c15 => ?_)
    · skip
      exact absurd c15 (by decide)
    · skip
      refine lv_iload_n hx hb dX0_tape_18 rfl (lv_at hl 2 rfl) ?_
      refine lv_iconst (v := (-1)) hx hb dX0_tape_19 (by decide) ?_
      refine lv_icmp_eq (tgt := 32) hx hb dX0_tape_20 (by decide) (fun c20 => ?_) (fun c20 => ?_)
      · skip
        exact absurd c20 (by decide)
      · skip
        refine lv_iload_n hx hb dX0_tape_23 rfl (lv_at hl 3 rfl) ?_
        refine lv_bipush (v := nI 60) hx hb dX0_tape_24 (by decide) ?_
        refine tn_le (tgt := 32) hx hb dX0_tape_26 (by decide) (by omega) (by omega) (fun c26 => ?_) (fun c26 => ?_)
        · skip
          refine lv_aload_n hx hb dX0_tape_32 rfl (lv_at hl 0 rfl) ?_
          refine va_get (v := .ref (ad 35)) hx hb hts in_X0 hown hK hP 0 rfl rfl 13 (by decide) (hts _ q250) (fun _ h => h) rfl dX0_tape_33 ?_
          refine lv_iload_n hx hb dX0_tape_36 rfl (lv_at hl 1 rfl) ?_
          refine tn_aald hx hb hK hP 1 6 rfl rfl (by omega) (by decide) dX0_tape_37 ?_
          refine lv_iload_n hx hb dX0_tape_38 rfl (lv_at hl 2 rfl) ?_
          refine lv_iconst (v := (-1)) hx hb dX0_tape_39 (by decide) ?_
          refine lv_icmp_ne (tgt := 47) hx hb dX0_tape_40 (by decide) (fun c40 => ?_) (fun c40 => ?_)
          · skip
            refine lv_iload_n hx hb dX0_tape_47 rfl (lv_at hl 2 rfl) ?_
            refine lv_iload_n hx hb dX0_tape_48 rfl (lv_at hl 3 rfl) ?_
            have hsz1 := hS.1
            refine ti_nS (As := [.int (nI 0), .int (nI n9)]) (rest := [.ref (th t9)]) S hE hP hD hS hA [] rfl (met_X0_rowOf_0 l D E n9 hn9) rfl (fun _ => rfl) (lw_S q1009 q1010 q66 q1011) 2 rfl (by decide +kernel) ⟨Nat.le_of_ble_eq_true rfl, Nat.le_of_ble_eq_true rfl⟩ hl.1 rfl (Nat.le_of_ble_eq_true rfl) ⟨Nat.le_of_ble_eq_true rfl, Nat.le_of_ble_eq_true rfl⟩ dX0_tape_49 (fun u1 H locs hu hn1 hP hD hS => ?_)
            have g_u1 : s.heap.size ≤ u1 := Nat.le_trans hsz1 (hn1 0 _ rfl)
            have hP : va_P D vwCl (ti_wT3 E ad th tx hi t9 v ++ [(u1, .inl (E 1, n9, .inl (ti_n (fun _ => 0))))]) H := hP
            have hD : va_D A (ti_wT3 E ad th tx hi t9 v ++ [(u1, .inl (E 1, n9, .inl (ti_n (fun _ => 0))))]) := hD
            refine W.eq (g2 := F0 m 52 ls [.ref u1, .ref (th t9)]) rfl ?_
            refine va_putN (ty := .object "java/lang/Object") hx hb hts in_X6 tyX6 tyX6_ok nmX6 hown hK hP hD hS 2 rfl rfl 0 (by decide) (hE.use q233 rfl rfl) (fun _ h => h) rfl rfl rfl rfl (Nat.le_of_ble_eq_true rfl) dX0_tape_52 (fun H locs hP hD hS => ?_)
            have hP : va_P D vwCl (ti_wT3 E ad th tx hi t9 (.ref u1) ++ [(u1, .inl (E 1, n9, .inl (ti_n (fun _ => 0))))]) H := hP
            have hD : va_D A (ti_wT3 E ad th tx hi t9 (.ref u1) ++ [(u1, .inl (E 1, n9, .inl (ti_n (fun _ => 0))))]) := hD
            refine lv_iconst (v := nI 1) hx hb dX0_tape_55 (by decide) ?_
            have hv9 : (nI 1) = (fun _ => (1 : Int32)) u1 := (rfl : nI 1 = (1 : Int32))
            refine W.eq (g2 := F0 m 56 ls [.int ((fun _ => (1 : Int32)) u1)]) (congrArg (fun z => F0 m 56 ls [.int z]) hv9) ?_
            exact hret _ u1 _ _ _ _ (trivial) hP hD (ti_nu1 g_u1 ti_nu0) hS (Nat.le_of_ble_eq_true rfl) (Nat.le_of_ble_eq_true rfl) (fun hq hf9 => W.iret hx hb hr hq hf9 dX0_tape_56 hlk)
          · skip
            exact absurd c40 (by decide)
        · skip
          exact absurd hn9 (by omega)
  · skip
    exact absurd ht5 (by rw [c4]; decide)

set_option maxHeartbeats 2000000 in
theorem met_X0_tape_x0 (l : Launch) (D : va_G) (E : Nat → ClassId) (htr : l.stackTraces = false) (z0 : Nat) (ad th : Nat → Nat) (tx : Nat) (hi : Bool) (t9 : Nat) (ht9 : t9 < 6) (v : Value) (j : Int32) (hneg : j < 0) : ti_MetB (σ := Unit) (τ := Unit) l D E yX0_tape (wsW_ yX0_tape cX0_tape 5 (some .int) [(32, 56, 57, 368)]) 9 3 60 z0 (ti_wT3 E ad th tx hi t9 v) [.ref (ad 0), .int (nI t9), .int (nI 0), .int j] (fun _ => True) (fun _ => ti_wT3 E ad th tx hi t9 v) (fun u => some (.int ((fun _ => (-14 : Int32)) u))) (fun _ => True) (fun _ _ => True) (fun w => RX14) (fun w => 0) (fun w => ti_wT3 E ad th tx hi t9 v) (fun w => []) (fun w => False) (fun w H => True) := by
  refine ti_metBH (by decide) (Nat.le_of_ble_eq_true rfl) ?_
  intro p e s m below meth c H A Q ls S hE hP hD hS hA hZ hAz hx0 htab hl hret hq
  obtain ⟨hQ, hr, hlk, hinit⟩ := hq
  have hsz0 := hS.1
  have hx := S.1
  have hb := S.2.1
  have hown := S.2.2.2.1
  have hts := S.2.2.2.2
  have hK := hE.1
  have hl : lv_has ls 5 [(0, .ref (ad 0)), (1, .int (nI t9)), (2, .int (nI 0)), (3, .int j)] := hl
  have ht5 : ti_t5 (nI t9) = true := by unfold ti_t5; rw [ti_in_nI (by omega) (by decide) (by decide)]; exact decide_eq_true ⟨Nat.zero_le _, by omega⟩
  refine lv_iload_n hx hb dX0_tape_0 rfl (lv_at hl 1 rfl) ?_
  refine ti_pS (As := [.int (nI t9)]) (rest := []) (v := .int (ti_b (ti_t5 (nI t9)))) S hE hP [] (met_X0_isTape l D E (nI t9)) rfl (lw_S q920 q921 q66 q922) 1 rfl (by decide +kernel) ⟨Nat.le_of_ble_eq_true rfl, Nat.le_of_ble_eq_true rfl⟩ hl.1 rfl (Nat.le_of_ble_eq_true rfl) ⟨Nat.le_of_ble_eq_true rfl, Nat.le_of_ble_eq_true rfl⟩ dX0_tape_1 ?_
  refine tb_ne (tgt := 9) hx hb dX0_tape_4 (by decide) (fun c4 => ?_) (fun c4 => ?_)
  · skip
    refine lv_iload_n hx hb dX0_tape_9 rfl (lv_at hl 2 rfl) ?_
    refine lv_iconst (v := (-1)) hx hb dX0_tape_10 (by decide) ?_
    refine lv_iconst (v := nI 4) hx hb dX0_tape_11 (by decide) ?_
    refine ti_pS (As := [.int (nI 0), .int ((-1)), .int (nI 4)]) (rest := []) (v := .int (ti_b (ti_in (nI 0) (((-1))) (nI 4)))) S hE hP [] (met_X0_in l D E (nI 0) (((-1))) (nI 4)) rfl (lw_S q302 q303 q66 q304) 3 rfl (by decide +kernel) ⟨Nat.le_of_ble_eq_true rfl, Nat.le_of_ble_eq_true rfl⟩ hl.1 rfl (Nat.le_of_ble_eq_true rfl) ⟨Nat.le_of_ble_eq_true rfl, Nat.le_of_ble_eq_true rfl⟩ dX0_tape_12 ?_
    refine tb_eq (tgt := 29) hx hb dX0_tape_15 (by decide) (fun c15 => ?_) (fun c15 => ?_)
    · skip
      exact absurd c15 (by decide)
    · skip
      refine lv_iload_n hx hb dX0_tape_18 rfl (lv_at hl 2 rfl) ?_
      refine lv_iconst (v := (-1)) hx hb dX0_tape_19 (by decide) ?_
      refine lv_icmp_eq (tgt := 32) hx hb dX0_tape_20 (by decide) (fun c20 => ?_) (fun c20 => ?_)
      · skip
        exact absurd c20 (by decide)
      · skip
        refine lv_iload_n hx hb dX0_tape_23 rfl (lv_at hl 3 rfl) ?_
        refine lv_bipush (v := nI 60) hx hb dX0_tape_24 (by decide) ?_
        refine lv_icmp_le (tgt := 32) hx hb dX0_tape_26 (by decide) (fun c26 => ?_) (fun c26 => ?_)
        · skip
          refine lv_aload_n hx hb dX0_tape_32 rfl (lv_at hl 0 rfl) ?_
          refine va_get (v := .ref (ad 35)) hx hb hts in_X0 hown hK hP 0 rfl rfl 13 (by decide) (hts _ q250) (fun _ h => h) rfl dX0_tape_33 ?_
          refine lv_iload_n hx hb dX0_tape_36 rfl (lv_at hl 1 rfl) ?_
          refine tn_aald hx hb hK hP 1 6 rfl rfl (by omega) (by decide) dX0_tape_37 ?_
          refine lv_iload_n hx hb dX0_tape_38 rfl (lv_at hl 2 rfl) ?_
          refine lv_iconst (v := (-1)) hx hb dX0_tape_39 (by decide) ?_
          refine lv_icmp_ne (tgt := 47) hx hb dX0_tape_40 (by decide) (fun c40 => ?_) (fun c40 => ?_)
          · skip
            refine lv_iload_n hx hb dX0_tape_47 rfl (lv_at hl 2 rfl) ?_
            refine lv_iload_n hx hb dX0_tape_48 rfl (lv_at hl 3 rfl) ?_
            refine ti_callX (ty_runS (As := [.int (nI 0), .int j]) (rest := [.ref (th t9)]) S (met_X0_rowOf_x0 l D E htr z0 j hneg H.size) (va_cwS 2 S.2.2.2.2 (lw_S q1009 q1010 q66 q1011) rfl rfl rfl (by decide +kernel) ⟨Nat.le_of_ble_eq_true rfl, Nat.le_of_ble_eq_true rfl⟩) (ti_preF (wc := []) (xp := fun _ => True) hE ti_P0 (hD.sub [] rfl rfl) hS rfl hZ hAz trivial) rfl rfl hl.1 rfl (lv_room (Nat.le_of_ble_eq_true rfl)) dX0_tape_49 ⟨Nat.le_of_ble_eq_true rfl, Nat.le_of_ble_eq_true rfl⟩) hP hD hS hA [] rfl (fun _ => rfl) (fun _ => rfl) (fun _ _ _ h9 => absurd h9 id) (fun we H locs ce hpx hxx hFr hP hD hPe hnew hS hce hcv hcl => ?_)
            refine vx_catch hown [] ⟨32, 56, 57, 368⟩ [] htab (fun z hz => absurd hz List.not_mem_nil) rfl (by decide) (hts _ q995) (hE.use q1007 rfl rfl) hce hcv hcl ?_
            refine lv_astore (lv' := [(4, .ref we), (0, .ref (ad 0)), (1, .int (nI t9)), (2, .int (nI 0)), (3, .int j)]) hx hb dX0_tape_57 hl (by decide) rfl (fun ls hl => ?_)
            refine lv_bipush (v := (-14)) hx hb dX0_tape_59 (by decide) ?_
            have hv9 : ((-14)) = (fun _ => (-14 : Int32)) () := (rfl : (-14 : Int32) = -14)
            refine W.eq (g2 := F0 m 61 ls [.int ((fun _ => (-14 : Int32)) ())]) (congrArg (fun z => F0 m 61 ls [.int z]) hv9) ?_
            exact hret _ () _ _ _ _ (trivial) hP trivial hS (Nat.le_of_ble_eq_true rfl) (Nat.le_of_ble_eq_true rfl) (fun hq hf9 => W.iret hx hb hr hq hf9 dX0_tape_61 hlk)
          · skip
            exact absurd c40 (by decide)
        · skip
          exact absurd (show j ≤ nI 60 from Int32.le_of_lt (Int32.lt_of_lt_of_le hneg (by decide))) c26
  · skip
    exact absurd ht5 (by rw [c4]; decide)

set_option maxHeartbeats 2000000 in
theorem met_X0_tape_1 (l : Launch) (D : va_G) (E : Nat → ClassId) (htr : l.stackTraces = false) (z0 : Nat) (ad th : Nat → Nat) (tx : Nat) (hi : Bool) (t9 : Nat) (ht9 : t9 < 6) (v : Value) (n9 : Nat) (hn9 : n9 ≤ 60) : ti_MetY (σ := Nat) (τ := Unit) l D E yX0_tape (wsW_ yX0_tape cX0_tape 5 (some .int) [(32, 56, 57, 368)]) 3 1 60 z0 (ti_wT3 E ad th tx hi t9 v) [.ref (ad 0), .int (nI t9), .int (nI 1), .int (nI n9)] (fun u => ti_wT3 E ad th tx hi t9 (.ref u)) (fun u => [(u, .inl (E 2, n9, .inl (ti_n (fun _ => 0))))]) (fun u => some (.int ((fun _ => (1 : Int32)) u))) (fun _ => True) (fun w => RX14) (fun w => 0) (fun w => ti_wT3 E ad th tx hi t9 v) (fun w => []) (fun w => False) (fun w H => True) := by
  refine ti_metYH (by decide) (Nat.le_of_ble_eq_true rfl) ?_
  intro p e s m below meth c H A Q ls S hE hP hD hS hA hZ hAz htab hl hret hq
  obtain ⟨hQ, hr, hlk, hinit⟩ := hq
  have hsz0 := hS.1
  have hx := S.1
  have hb := S.2.1
  have hown := S.2.2.2.1
  have hts := S.2.2.2.2
  have hK := hE.1
  have hl : lv_has ls 5 [(0, .ref (ad 0)), (1, .int (nI t9)), (2, .int (nI 1)), (3, .int (nI n9))] := hl
  have ht5 : ti_t5 (nI t9) = true := by unfold ti_t5; rw [ti_in_nI (by omega) (by decide) (by decide)]; exact decide_eq_true ⟨Nat.zero_le _, by omega⟩
  refine lv_iload_n hx hb dX0_tape_0 rfl (lv_at hl 1 rfl) ?_
  refine ti_pS (As := [.int (nI t9)]) (rest := []) (v := .int (ti_b (ti_t5 (nI t9)))) S hE hP [] (met_X0_isTape l D E (nI t9)) rfl (lw_S q920 q921 q66 q922) 1 rfl (by decide +kernel) ⟨Nat.le_of_ble_eq_true rfl, Nat.le_of_ble_eq_true rfl⟩ hl.1 rfl (Nat.le_of_ble_eq_true rfl) ⟨Nat.le_of_ble_eq_true rfl, Nat.le_of_ble_eq_true rfl⟩ dX0_tape_1 ?_
  refine tb_ne (tgt := 9) hx hb dX0_tape_4 (by decide) (fun c4 => ?_) (fun c4 => ?_)
  · skip
    refine lv_iload_n hx hb dX0_tape_9 rfl (lv_at hl 2 rfl) ?_
    refine lv_iconst (v := (-1)) hx hb dX0_tape_10 (by decide) ?_
    refine lv_iconst (v := nI 4) hx hb dX0_tape_11 (by decide) ?_
    refine ti_pS (As := [.int (nI 1), .int ((-1)), .int (nI 4)]) (rest := []) (v := .int (ti_b (ti_in (nI 1) (((-1))) (nI 4)))) S hE hP [] (met_X0_in l D E (nI 1) (((-1))) (nI 4)) rfl (lw_S q302 q303 q66 q304) 3 rfl (by decide +kernel) ⟨Nat.le_of_ble_eq_true rfl, Nat.le_of_ble_eq_true rfl⟩ hl.1 rfl (Nat.le_of_ble_eq_true rfl) ⟨Nat.le_of_ble_eq_true rfl, Nat.le_of_ble_eq_true rfl⟩ dX0_tape_12 ?_
    refine tb_eq (tgt := 29) hx hb dX0_tape_15 (by decide) (fun c15 => ?_) (fun c15 => ?_)
    · skip
      exact absurd c15 (by decide)
    · skip
      refine lv_iload_n hx hb dX0_tape_18 rfl (lv_at hl 2 rfl) ?_
      refine lv_iconst (v := (-1)) hx hb dX0_tape_19 (by decide) ?_
      refine lv_icmp_eq (tgt := 32) hx hb dX0_tape_20 (by decide) (fun c20 => ?_) (fun c20 => ?_)
      · skip
        exact absurd c20 (by decide)
      · skip
        refine lv_iload_n hx hb dX0_tape_23 rfl (lv_at hl 3 rfl) ?_
        refine lv_bipush (v := nI 60) hx hb dX0_tape_24 (by decide) ?_
        refine tn_le (tgt := 32) hx hb dX0_tape_26 (by decide) (by omega) (by omega) (fun c26 => ?_) (fun c26 => ?_)
        · skip
          refine lv_aload_n hx hb dX0_tape_32 rfl (lv_at hl 0 rfl) ?_
          refine va_get (v := .ref (ad 35)) hx hb hts in_X0 hown hK hP 0 rfl rfl 13 (by decide) (hts _ q250) (fun _ h => h) rfl dX0_tape_33 ?_
          refine lv_iload_n hx hb dX0_tape_36 rfl (lv_at hl 1 rfl) ?_
          refine tn_aald hx hb hK hP 1 6 rfl rfl (by omega) (by decide) dX0_tape_37 ?_
          refine lv_iload_n hx hb dX0_tape_38 rfl (lv_at hl 2 rfl) ?_
          refine lv_iconst (v := (-1)) hx hb dX0_tape_39 (by decide) ?_
          refine lv_icmp_ne (tgt := 47) hx hb dX0_tape_40 (by decide) (fun c40 => ?_) (fun c40 => ?_)
          · skip
            refine lv_iload_n hx hb dX0_tape_47 rfl (lv_at hl 2 rfl) ?_
            refine lv_iload_n hx hb dX0_tape_48 rfl (lv_at hl 3 rfl) ?_
            have hsz1 := hS.1
            refine ti_nS (As := [.int (nI 1), .int (nI n9)]) (rest := [.ref (th t9)]) S hE hP hD hS hA [] rfl (met_X0_rowOf_1 l D E n9 hn9) rfl (fun _ => rfl) (lw_S q1009 q1010 q66 q1011) 2 rfl (by decide +kernel) ⟨Nat.le_of_ble_eq_true rfl, Nat.le_of_ble_eq_true rfl⟩ hl.1 rfl (Nat.le_of_ble_eq_true rfl) ⟨Nat.le_of_ble_eq_true rfl, Nat.le_of_ble_eq_true rfl⟩ dX0_tape_49 (fun u1 H locs hu hn1 hP hD hS => ?_)
            have g_u1 : s.heap.size ≤ u1 := Nat.le_trans hsz1 (hn1 0 _ rfl)
            have hP : va_P D vwCl (ti_wT3 E ad th tx hi t9 v ++ [(u1, .inl (E 2, n9, .inl (ti_n (fun _ => 0))))]) H := hP
            have hD : va_D A (ti_wT3 E ad th tx hi t9 v ++ [(u1, .inl (E 2, n9, .inl (ti_n (fun _ => 0))))]) := hD
            refine W.eq (g2 := F0 m 52 ls [.ref u1, .ref (th t9)]) rfl ?_
            refine va_putN (ty := .object "java/lang/Object") hx hb hts in_X6 tyX6 tyX6_ok nmX6 hown hK hP hD hS 2 rfl rfl 0 (by decide) (hE.use q233 rfl rfl) (fun _ h => h) rfl rfl rfl rfl (Nat.le_of_ble_eq_true rfl) dX0_tape_52 (fun H locs hP hD hS => ?_)
            have hP : va_P D vwCl (ti_wT3 E ad th tx hi t9 (.ref u1) ++ [(u1, .inl (E 2, n9, .inl (ti_n (fun _ => 0))))]) H := hP
            have hD : va_D A (ti_wT3 E ad th tx hi t9 (.ref u1) ++ [(u1, .inl (E 2, n9, .inl (ti_n (fun _ => 0))))]) := hD
            refine lv_iconst (v := nI 1) hx hb dX0_tape_55 (by decide) ?_
            have hv9 : (nI 1) = (fun _ => (1 : Int32)) u1 := (rfl : nI 1 = (1 : Int32))
            refine W.eq (g2 := F0 m 56 ls [.int ((fun _ => (1 : Int32)) u1)]) (congrArg (fun z => F0 m 56 ls [.int z]) hv9) ?_
            exact hret _ u1 _ _ _ _ (trivial) hP hD (ti_nu1 g_u1 ti_nu0) hS (Nat.le_of_ble_eq_true rfl) (Nat.le_of_ble_eq_true rfl) (fun hq hf9 => W.iret hx hb hr hq hf9 dX0_tape_56 hlk)
          · skip
            exact absurd c40 (by decide)
        · skip
          exact absurd hn9 (by omega)
  · skip
    exact absurd ht5 (by rw [c4]; decide)

set_option maxHeartbeats 2000000 in
theorem met_X0_tape_x1 (l : Launch) (D : va_G) (E : Nat → ClassId) (htr : l.stackTraces = false) (z0 : Nat) (ad th : Nat → Nat) (tx : Nat) (hi : Bool) (t9 : Nat) (ht9 : t9 < 6) (v : Value) (j : Int32) (hneg : j < 0) : ti_MetB (σ := Unit) (τ := Unit) l D E yX0_tape (wsW_ yX0_tape cX0_tape 5 (some .int) [(32, 56, 57, 368)]) 9 3 60 z0 (ti_wT3 E ad th tx hi t9 v) [.ref (ad 0), .int (nI t9), .int (nI 1), .int j] (fun _ => True) (fun _ => ti_wT3 E ad th tx hi t9 v) (fun u => some (.int ((fun _ => (-14 : Int32)) u))) (fun _ => True) (fun _ _ => True) (fun w => RX14) (fun w => 0) (fun w => ti_wT3 E ad th tx hi t9 v) (fun w => []) (fun w => False) (fun w H => True) := by
  refine ti_metBH (by decide) (Nat.le_of_ble_eq_true rfl) ?_
  intro p e s m below meth c H A Q ls S hE hP hD hS hA hZ hAz hx0 htab hl hret hq
  obtain ⟨hQ, hr, hlk, hinit⟩ := hq
  have hsz0 := hS.1
  have hx := S.1
  have hb := S.2.1
  have hown := S.2.2.2.1
  have hts := S.2.2.2.2
  have hK := hE.1
  have hl : lv_has ls 5 [(0, .ref (ad 0)), (1, .int (nI t9)), (2, .int (nI 1)), (3, .int j)] := hl
  have ht5 : ti_t5 (nI t9) = true := by unfold ti_t5; rw [ti_in_nI (by omega) (by decide) (by decide)]; exact decide_eq_true ⟨Nat.zero_le _, by omega⟩
  refine lv_iload_n hx hb dX0_tape_0 rfl (lv_at hl 1 rfl) ?_
  refine ti_pS (As := [.int (nI t9)]) (rest := []) (v := .int (ti_b (ti_t5 (nI t9)))) S hE hP [] (met_X0_isTape l D E (nI t9)) rfl (lw_S q920 q921 q66 q922) 1 rfl (by decide +kernel) ⟨Nat.le_of_ble_eq_true rfl, Nat.le_of_ble_eq_true rfl⟩ hl.1 rfl (Nat.le_of_ble_eq_true rfl) ⟨Nat.le_of_ble_eq_true rfl, Nat.le_of_ble_eq_true rfl⟩ dX0_tape_1 ?_
  refine tb_ne (tgt := 9) hx hb dX0_tape_4 (by decide) (fun c4 => ?_) (fun c4 => ?_)
  · skip
    refine lv_iload_n hx hb dX0_tape_9 rfl (lv_at hl 2 rfl) ?_
    refine lv_iconst (v := (-1)) hx hb dX0_tape_10 (by decide) ?_
    refine lv_iconst (v := nI 4) hx hb dX0_tape_11 (by decide) ?_
    refine ti_pS (As := [.int (nI 1), .int ((-1)), .int (nI 4)]) (rest := []) (v := .int (ti_b (ti_in (nI 1) (((-1))) (nI 4)))) S hE hP [] (met_X0_in l D E (nI 1) (((-1))) (nI 4)) rfl (lw_S q302 q303 q66 q304) 3 rfl (by decide +kernel) ⟨Nat.le_of_ble_eq_true rfl, Nat.le_of_ble_eq_true rfl⟩ hl.1 rfl (Nat.le_of_ble_eq_true rfl) ⟨Nat.le_of_ble_eq_true rfl, Nat.le_of_ble_eq_true rfl⟩ dX0_tape_12 ?_
    refine tb_eq (tgt := 29) hx hb dX0_tape_15 (by decide) (fun c15 => ?_) (fun c15 => ?_)
    · skip
      exact absurd c15 (by decide)
    · skip
      refine lv_iload_n hx hb dX0_tape_18 rfl (lv_at hl 2 rfl) ?_
      refine lv_iconst (v := (-1)) hx hb dX0_tape_19 (by decide) ?_
      refine lv_icmp_eq (tgt := 32) hx hb dX0_tape_20 (by decide) (fun c20 => ?_) (fun c20 => ?_)
      · skip
        exact absurd c20 (by decide)
      · skip
        refine lv_iload_n hx hb dX0_tape_23 rfl (lv_at hl 3 rfl) ?_
        refine lv_bipush (v := nI 60) hx hb dX0_tape_24 (by decide) ?_
        refine lv_icmp_le (tgt := 32) hx hb dX0_tape_26 (by decide) (fun c26 => ?_) (fun c26 => ?_)
        · skip
          refine lv_aload_n hx hb dX0_tape_32 rfl (lv_at hl 0 rfl) ?_
          refine va_get (v := .ref (ad 35)) hx hb hts in_X0 hown hK hP 0 rfl rfl 13 (by decide) (hts _ q250) (fun _ h => h) rfl dX0_tape_33 ?_
          refine lv_iload_n hx hb dX0_tape_36 rfl (lv_at hl 1 rfl) ?_
          refine tn_aald hx hb hK hP 1 6 rfl rfl (by omega) (by decide) dX0_tape_37 ?_
          refine lv_iload_n hx hb dX0_tape_38 rfl (lv_at hl 2 rfl) ?_
          refine lv_iconst (v := (-1)) hx hb dX0_tape_39 (by decide) ?_
          refine lv_icmp_ne (tgt := 47) hx hb dX0_tape_40 (by decide) (fun c40 => ?_) (fun c40 => ?_)
          · skip
            refine lv_iload_n hx hb dX0_tape_47 rfl (lv_at hl 2 rfl) ?_
            refine lv_iload_n hx hb dX0_tape_48 rfl (lv_at hl 3 rfl) ?_
            refine ti_callX (ty_runS (As := [.int (nI 1), .int j]) (rest := [.ref (th t9)]) S (met_X0_rowOf_x1 l D E htr z0 j hneg H.size) (va_cwS 2 S.2.2.2.2 (lw_S q1009 q1010 q66 q1011) rfl rfl rfl (by decide +kernel) ⟨Nat.le_of_ble_eq_true rfl, Nat.le_of_ble_eq_true rfl⟩) (ti_preF (wc := []) (xp := fun _ => True) hE ti_P0 (hD.sub [] rfl rfl) hS rfl hZ hAz trivial) rfl rfl hl.1 rfl (lv_room (Nat.le_of_ble_eq_true rfl)) dX0_tape_49 ⟨Nat.le_of_ble_eq_true rfl, Nat.le_of_ble_eq_true rfl⟩) hP hD hS hA [] rfl (fun _ => rfl) (fun _ => rfl) (fun _ _ _ h9 => absurd h9 id) (fun we H locs ce hpx hxx hFr hP hD hPe hnew hS hce hcv hcl => ?_)
            refine vx_catch hown [] ⟨32, 56, 57, 368⟩ [] htab (fun z hz => absurd hz List.not_mem_nil) rfl (by decide) (hts _ q995) (hE.use q1007 rfl rfl) hce hcv hcl ?_
            refine lv_astore (lv' := [(4, .ref we), (0, .ref (ad 0)), (1, .int (nI t9)), (2, .int (nI 1)), (3, .int j)]) hx hb dX0_tape_57 hl (by decide) rfl (fun ls hl => ?_)
            refine lv_bipush (v := (-14)) hx hb dX0_tape_59 (by decide) ?_
            have hv9 : ((-14)) = (fun _ => (-14 : Int32)) () := (rfl : (-14 : Int32) = -14)
            refine W.eq (g2 := F0 m 61 ls [.int ((fun _ => (-14 : Int32)) ())]) (congrArg (fun z => F0 m 61 ls [.int z]) hv9) ?_
            exact hret _ () _ _ _ _ (trivial) hP trivial hS (Nat.le_of_ble_eq_true rfl) (Nat.le_of_ble_eq_true rfl) (fun hq hf9 => W.iret hx hb hr hq hf9 dX0_tape_61 hlk)
          · skip
            exact absurd c40 (by decide)
        · skip
          exact absurd (show j ≤ nI 60 from Int32.le_of_lt (Int32.lt_of_lt_of_le hneg (by decide))) c26
  · skip
    exact absurd ht5 (by rw [c4]; decide)

set_option maxHeartbeats 2000000 in
theorem met_X0_tape_2 (l : Launch) (D : va_G) (E : Nat → ClassId) (htr : l.stackTraces = false) (z0 : Nat) (ad th : Nat → Nat) (tx : Nat) (hi : Bool) (t9 : Nat) (ht9 : t9 < 6) (v : Value) (n9 : Nat) (hn9 : n9 ≤ 60) : ti_MetY (σ := Nat) (τ := Unit) l D E yX0_tape (wsW_ yX0_tape cX0_tape 5 (some .int) [(32, 56, 57, 368)]) 3 1 60 z0 (ti_wT3 E ad th tx hi t9 v) [.ref (ad 0), .int (nI t9), .int (nI 2), .int (nI n9)] (fun u => ti_wT3 E ad th tx hi t9 (.ref u)) (fun u => [(u, .inl (E 0, n9, .inl (ti_n (fun _ => 0))))]) (fun u => some (.int ((fun _ => (1 : Int32)) u))) (fun _ => True) (fun w => RX14) (fun w => 0) (fun w => ti_wT3 E ad th tx hi t9 v) (fun w => []) (fun w => False) (fun w H => True) := by
  refine ti_metYH (by decide) (Nat.le_of_ble_eq_true rfl) ?_
  intro p e s m below meth c H A Q ls S hE hP hD hS hA hZ hAz htab hl hret hq
  obtain ⟨hQ, hr, hlk, hinit⟩ := hq
  have hsz0 := hS.1
  have hx := S.1
  have hb := S.2.1
  have hown := S.2.2.2.1
  have hts := S.2.2.2.2
  have hK := hE.1
  have hl : lv_has ls 5 [(0, .ref (ad 0)), (1, .int (nI t9)), (2, .int (nI 2)), (3, .int (nI n9))] := hl
  have ht5 : ti_t5 (nI t9) = true := by unfold ti_t5; rw [ti_in_nI (by omega) (by decide) (by decide)]; exact decide_eq_true ⟨Nat.zero_le _, by omega⟩
  refine lv_iload_n hx hb dX0_tape_0 rfl (lv_at hl 1 rfl) ?_
  refine ti_pS (As := [.int (nI t9)]) (rest := []) (v := .int (ti_b (ti_t5 (nI t9)))) S hE hP [] (met_X0_isTape l D E (nI t9)) rfl (lw_S q920 q921 q66 q922) 1 rfl (by decide +kernel) ⟨Nat.le_of_ble_eq_true rfl, Nat.le_of_ble_eq_true rfl⟩ hl.1 rfl (Nat.le_of_ble_eq_true rfl) ⟨Nat.le_of_ble_eq_true rfl, Nat.le_of_ble_eq_true rfl⟩ dX0_tape_1 ?_
  refine tb_ne (tgt := 9) hx hb dX0_tape_4 (by decide) (fun c4 => ?_) (fun c4 => ?_)
  · skip
    refine lv_iload_n hx hb dX0_tape_9 rfl (lv_at hl 2 rfl) ?_
    refine lv_iconst (v := (-1)) hx hb dX0_tape_10 (by decide) ?_
    refine lv_iconst (v := nI 4) hx hb dX0_tape_11 (by decide) ?_
    refine ti_pS (As := [.int (nI 2), .int ((-1)), .int (nI 4)]) (rest := []) (v := .int (ti_b (ti_in (nI 2) (((-1))) (nI 4)))) S hE hP [] (met_X0_in l D E (nI 2) (((-1))) (nI 4)) rfl (lw_S q302 q303 q66 q304) 3 rfl (by decide +kernel) ⟨Nat.le_of_ble_eq_true rfl, Nat.le_of_ble_eq_true rfl⟩ hl.1 rfl (Nat.le_of_ble_eq_true rfl) ⟨Nat.le_of_ble_eq_true rfl, Nat.le_of_ble_eq_true rfl⟩ dX0_tape_12 ?_
    refine tb_eq (tgt := 29) hx hb dX0_tape_15 (by decide) (fun c15 => ?_) (fun c15 => ?_)
    · skip
      exact absurd c15 (by decide)
    · skip
      refine lv_iload_n hx hb dX0_tape_18 rfl (lv_at hl 2 rfl) ?_
      refine lv_iconst (v := (-1)) hx hb dX0_tape_19 (by decide) ?_
      refine lv_icmp_eq (tgt := 32) hx hb dX0_tape_20 (by decide) (fun c20 => ?_) (fun c20 => ?_)
      · skip
        exact absurd c20 (by decide)
      · skip
        refine lv_iload_n hx hb dX0_tape_23 rfl (lv_at hl 3 rfl) ?_
        refine lv_bipush (v := nI 60) hx hb dX0_tape_24 (by decide) ?_
        refine tn_le (tgt := 32) hx hb dX0_tape_26 (by decide) (by omega) (by omega) (fun c26 => ?_) (fun c26 => ?_)
        · skip
          refine lv_aload_n hx hb dX0_tape_32 rfl (lv_at hl 0 rfl) ?_
          refine va_get (v := .ref (ad 35)) hx hb hts in_X0 hown hK hP 0 rfl rfl 13 (by decide) (hts _ q250) (fun _ h => h) rfl dX0_tape_33 ?_
          refine lv_iload_n hx hb dX0_tape_36 rfl (lv_at hl 1 rfl) ?_
          refine tn_aald hx hb hK hP 1 6 rfl rfl (by omega) (by decide) dX0_tape_37 ?_
          refine lv_iload_n hx hb dX0_tape_38 rfl (lv_at hl 2 rfl) ?_
          refine lv_iconst (v := (-1)) hx hb dX0_tape_39 (by decide) ?_
          refine lv_icmp_ne (tgt := 47) hx hb dX0_tape_40 (by decide) (fun c40 => ?_) (fun c40 => ?_)
          · skip
            refine lv_iload_n hx hb dX0_tape_47 rfl (lv_at hl 2 rfl) ?_
            refine lv_iload_n hx hb dX0_tape_48 rfl (lv_at hl 3 rfl) ?_
            have hsz1 := hS.1
            refine ti_nS (As := [.int (nI 2), .int (nI n9)]) (rest := [.ref (th t9)]) S hE hP hD hS hA [] rfl (met_X0_rowOf_2 l D E n9 hn9) rfl (fun _ => rfl) (lw_S q1009 q1010 q66 q1011) 2 rfl (by decide +kernel) ⟨Nat.le_of_ble_eq_true rfl, Nat.le_of_ble_eq_true rfl⟩ hl.1 rfl (Nat.le_of_ble_eq_true rfl) ⟨Nat.le_of_ble_eq_true rfl, Nat.le_of_ble_eq_true rfl⟩ dX0_tape_49 (fun u1 H locs hu hn1 hP hD hS => ?_)
            have g_u1 : s.heap.size ≤ u1 := Nat.le_trans hsz1 (hn1 0 _ rfl)
            have hP : va_P D vwCl (ti_wT3 E ad th tx hi t9 v ++ [(u1, .inl (E 0, n9, .inl (ti_n (fun _ => 0))))]) H := hP
            have hD : va_D A (ti_wT3 E ad th tx hi t9 v ++ [(u1, .inl (E 0, n9, .inl (ti_n (fun _ => 0))))]) := hD
            refine W.eq (g2 := F0 m 52 ls [.ref u1, .ref (th t9)]) rfl ?_
            refine va_putN (ty := .object "java/lang/Object") hx hb hts in_X6 tyX6 tyX6_ok nmX6 hown hK hP hD hS 2 rfl rfl 0 (by decide) (hE.use q233 rfl rfl) (fun _ h => h) rfl rfl rfl rfl (Nat.le_of_ble_eq_true rfl) dX0_tape_52 (fun H locs hP hD hS => ?_)
            have hP : va_P D vwCl (ti_wT3 E ad th tx hi t9 (.ref u1) ++ [(u1, .inl (E 0, n9, .inl (ti_n (fun _ => 0))))]) H := hP
            have hD : va_D A (ti_wT3 E ad th tx hi t9 (.ref u1) ++ [(u1, .inl (E 0, n9, .inl (ti_n (fun _ => 0))))]) := hD
            refine lv_iconst (v := nI 1) hx hb dX0_tape_55 (by decide) ?_
            have hv9 : (nI 1) = (fun _ => (1 : Int32)) u1 := (rfl : nI 1 = (1 : Int32))
            refine W.eq (g2 := F0 m 56 ls [.int ((fun _ => (1 : Int32)) u1)]) (congrArg (fun z => F0 m 56 ls [.int z]) hv9) ?_
            exact hret _ u1 _ _ _ _ (trivial) hP hD (ti_nu1 g_u1 ti_nu0) hS (Nat.le_of_ble_eq_true rfl) (Nat.le_of_ble_eq_true rfl) (fun hq hf9 => W.iret hx hb hr hq hf9 dX0_tape_56 hlk)
          · skip
            exact absurd c40 (by decide)
        · skip
          exact absurd hn9 (by omega)
  · skip
    exact absurd ht5 (by rw [c4]; decide)

set_option maxHeartbeats 2000000 in
theorem met_X0_tape_x2 (l : Launch) (D : va_G) (E : Nat → ClassId) (htr : l.stackTraces = false) (z0 : Nat) (ad th : Nat → Nat) (tx : Nat) (hi : Bool) (t9 : Nat) (ht9 : t9 < 6) (v : Value) (j : Int32) (hneg : j < 0) : ti_MetB (σ := Unit) (τ := Unit) l D E yX0_tape (wsW_ yX0_tape cX0_tape 5 (some .int) [(32, 56, 57, 368)]) 9 3 60 z0 (ti_wT3 E ad th tx hi t9 v) [.ref (ad 0), .int (nI t9), .int (nI 2), .int j] (fun _ => True) (fun _ => ti_wT3 E ad th tx hi t9 v) (fun u => some (.int ((fun _ => (-14 : Int32)) u))) (fun _ => True) (fun _ _ => True) (fun w => RX14) (fun w => 0) (fun w => ti_wT3 E ad th tx hi t9 v) (fun w => []) (fun w => False) (fun w H => True) := by
  refine ti_metBH (by decide) (Nat.le_of_ble_eq_true rfl) ?_
  intro p e s m below meth c H A Q ls S hE hP hD hS hA hZ hAz hx0 htab hl hret hq
  obtain ⟨hQ, hr, hlk, hinit⟩ := hq
  have hsz0 := hS.1
  have hx := S.1
  have hb := S.2.1
  have hown := S.2.2.2.1
  have hts := S.2.2.2.2
  have hK := hE.1
  have hl : lv_has ls 5 [(0, .ref (ad 0)), (1, .int (nI t9)), (2, .int (nI 2)), (3, .int j)] := hl
  have ht5 : ti_t5 (nI t9) = true := by unfold ti_t5; rw [ti_in_nI (by omega) (by decide) (by decide)]; exact decide_eq_true ⟨Nat.zero_le _, by omega⟩
  refine lv_iload_n hx hb dX0_tape_0 rfl (lv_at hl 1 rfl) ?_
  refine ti_pS (As := [.int (nI t9)]) (rest := []) (v := .int (ti_b (ti_t5 (nI t9)))) S hE hP [] (met_X0_isTape l D E (nI t9)) rfl (lw_S q920 q921 q66 q922) 1 rfl (by decide +kernel) ⟨Nat.le_of_ble_eq_true rfl, Nat.le_of_ble_eq_true rfl⟩ hl.1 rfl (Nat.le_of_ble_eq_true rfl) ⟨Nat.le_of_ble_eq_true rfl, Nat.le_of_ble_eq_true rfl⟩ dX0_tape_1 ?_
  refine tb_ne (tgt := 9) hx hb dX0_tape_4 (by decide) (fun c4 => ?_) (fun c4 => ?_)
  · skip
    refine lv_iload_n hx hb dX0_tape_9 rfl (lv_at hl 2 rfl) ?_
    refine lv_iconst (v := (-1)) hx hb dX0_tape_10 (by decide) ?_
    refine lv_iconst (v := nI 4) hx hb dX0_tape_11 (by decide) ?_
    refine ti_pS (As := [.int (nI 2), .int ((-1)), .int (nI 4)]) (rest := []) (v := .int (ti_b (ti_in (nI 2) (((-1))) (nI 4)))) S hE hP [] (met_X0_in l D E (nI 2) (((-1))) (nI 4)) rfl (lw_S q302 q303 q66 q304) 3 rfl (by decide +kernel) ⟨Nat.le_of_ble_eq_true rfl, Nat.le_of_ble_eq_true rfl⟩ hl.1 rfl (Nat.le_of_ble_eq_true rfl) ⟨Nat.le_of_ble_eq_true rfl, Nat.le_of_ble_eq_true rfl⟩ dX0_tape_12 ?_
    refine tb_eq (tgt := 29) hx hb dX0_tape_15 (by decide) (fun c15 => ?_) (fun c15 => ?_)
    · skip
      exact absurd c15 (by decide)
    · skip
      refine lv_iload_n hx hb dX0_tape_18 rfl (lv_at hl 2 rfl) ?_
      refine lv_iconst (v := (-1)) hx hb dX0_tape_19 (by decide) ?_
      refine lv_icmp_eq (tgt := 32) hx hb dX0_tape_20 (by decide) (fun c20 => ?_) (fun c20 => ?_)
      · skip
        exact absurd c20 (by decide)
      · skip
        refine lv_iload_n hx hb dX0_tape_23 rfl (lv_at hl 3 rfl) ?_
        refine lv_bipush (v := nI 60) hx hb dX0_tape_24 (by decide) ?_
        refine lv_icmp_le (tgt := 32) hx hb dX0_tape_26 (by decide) (fun c26 => ?_) (fun c26 => ?_)
        · skip
          refine lv_aload_n hx hb dX0_tape_32 rfl (lv_at hl 0 rfl) ?_
          refine va_get (v := .ref (ad 35)) hx hb hts in_X0 hown hK hP 0 rfl rfl 13 (by decide) (hts _ q250) (fun _ h => h) rfl dX0_tape_33 ?_
          refine lv_iload_n hx hb dX0_tape_36 rfl (lv_at hl 1 rfl) ?_
          refine tn_aald hx hb hK hP 1 6 rfl rfl (by omega) (by decide) dX0_tape_37 ?_
          refine lv_iload_n hx hb dX0_tape_38 rfl (lv_at hl 2 rfl) ?_
          refine lv_iconst (v := (-1)) hx hb dX0_tape_39 (by decide) ?_
          refine lv_icmp_ne (tgt := 47) hx hb dX0_tape_40 (by decide) (fun c40 => ?_) (fun c40 => ?_)
          · skip
            refine lv_iload_n hx hb dX0_tape_47 rfl (lv_at hl 2 rfl) ?_
            refine lv_iload_n hx hb dX0_tape_48 rfl (lv_at hl 3 rfl) ?_
            refine ti_callX (ty_runS (As := [.int (nI 2), .int j]) (rest := [.ref (th t9)]) S (met_X0_rowOf_x2 l D E htr z0 j hneg H.size) (va_cwS 2 S.2.2.2.2 (lw_S q1009 q1010 q66 q1011) rfl rfl rfl (by decide +kernel) ⟨Nat.le_of_ble_eq_true rfl, Nat.le_of_ble_eq_true rfl⟩) (ti_preF (wc := []) (xp := fun _ => True) hE ti_P0 (hD.sub [] rfl rfl) hS rfl hZ hAz trivial) rfl rfl hl.1 rfl (lv_room (Nat.le_of_ble_eq_true rfl)) dX0_tape_49 ⟨Nat.le_of_ble_eq_true rfl, Nat.le_of_ble_eq_true rfl⟩) hP hD hS hA [] rfl (fun _ => rfl) (fun _ => rfl) (fun _ _ _ h9 => absurd h9 id) (fun we H locs ce hpx hxx hFr hP hD hPe hnew hS hce hcv hcl => ?_)
            refine vx_catch hown [] ⟨32, 56, 57, 368⟩ [] htab (fun z hz => absurd hz List.not_mem_nil) rfl (by decide) (hts _ q995) (hE.use q1007 rfl rfl) hce hcv hcl ?_
            refine lv_astore (lv' := [(4, .ref we), (0, .ref (ad 0)), (1, .int (nI t9)), (2, .int (nI 2)), (3, .int j)]) hx hb dX0_tape_57 hl (by decide) rfl (fun ls hl => ?_)
            refine lv_bipush (v := (-14)) hx hb dX0_tape_59 (by decide) ?_
            have hv9 : ((-14)) = (fun _ => (-14 : Int32)) () := (rfl : (-14 : Int32) = -14)
            refine W.eq (g2 := F0 m 61 ls [.int ((fun _ => (-14 : Int32)) ())]) (congrArg (fun z => F0 m 61 ls [.int z]) hv9) ?_
            exact hret _ () _ _ _ _ (trivial) hP trivial hS (Nat.le_of_ble_eq_true rfl) (Nat.le_of_ble_eq_true rfl) (fun hq hf9 => W.iret hx hb hr hq hf9 dX0_tape_61 hlk)
          · skip
            exact absurd c40 (by decide)
        · skip
          exact absurd (show j ≤ nI 60 from Int32.le_of_lt (Int32.lt_of_lt_of_le hneg (by decide))) c26
  · skip
    exact absurd ht5 (by rw [c4]; decide)

set_option maxHeartbeats 2000000 in
theorem met_X0_tape_3 (l : Launch) (D : va_G) (E : Nat → ClassId) (htr : l.stackTraces = false) (z0 : Nat) (ad th : Nat → Nat) (tx : Nat) (hi : Bool) (t9 : Nat) (ht9 : t9 < 6) (v : Value) (n9 : Nat) (hn9 : n9 ≤ 60) : ti_MetY (σ := Nat) (τ := Unit) l D E yX0_tape (wsW_ yX0_tape cX0_tape 5 (some .int) [(32, 56, 57, 368)]) 3 1 60 z0 (ti_wT3 E ad th tx hi t9 v) [.ref (ad 0), .int (nI t9), .int (nI 3), .int (nI n9)] (fun u => ti_wT3 E ad th tx hi t9 (.ref u)) (fun u => [(u, .inl (E 3, n9, .inr (.inl (fun _ => 0))))]) (fun u => some (.int ((fun _ => (1 : Int32)) u))) (fun _ => True) (fun w => RX14) (fun w => 0) (fun w => ti_wT3 E ad th tx hi t9 v) (fun w => []) (fun w => False) (fun w H => True) := by
  refine ti_metYH (by decide) (Nat.le_of_ble_eq_true rfl) ?_
  intro p e s m below meth c H A Q ls S hE hP hD hS hA hZ hAz htab hl hret hq
  obtain ⟨hQ, hr, hlk, hinit⟩ := hq
  have hsz0 := hS.1
  have hx := S.1
  have hb := S.2.1
  have hown := S.2.2.2.1
  have hts := S.2.2.2.2
  have hK := hE.1
  have hl : lv_has ls 5 [(0, .ref (ad 0)), (1, .int (nI t9)), (2, .int (nI 3)), (3, .int (nI n9))] := hl
  have ht5 : ti_t5 (nI t9) = true := by unfold ti_t5; rw [ti_in_nI (by omega) (by decide) (by decide)]; exact decide_eq_true ⟨Nat.zero_le _, by omega⟩
  refine lv_iload_n hx hb dX0_tape_0 rfl (lv_at hl 1 rfl) ?_
  refine ti_pS (As := [.int (nI t9)]) (rest := []) (v := .int (ti_b (ti_t5 (nI t9)))) S hE hP [] (met_X0_isTape l D E (nI t9)) rfl (lw_S q920 q921 q66 q922) 1 rfl (by decide +kernel) ⟨Nat.le_of_ble_eq_true rfl, Nat.le_of_ble_eq_true rfl⟩ hl.1 rfl (Nat.le_of_ble_eq_true rfl) ⟨Nat.le_of_ble_eq_true rfl, Nat.le_of_ble_eq_true rfl⟩ dX0_tape_1 ?_
  refine tb_ne (tgt := 9) hx hb dX0_tape_4 (by decide) (fun c4 => ?_) (fun c4 => ?_)
  · skip
    refine lv_iload_n hx hb dX0_tape_9 rfl (lv_at hl 2 rfl) ?_
    refine lv_iconst (v := (-1)) hx hb dX0_tape_10 (by decide) ?_
    refine lv_iconst (v := nI 4) hx hb dX0_tape_11 (by decide) ?_
    refine ti_pS (As := [.int (nI 3), .int ((-1)), .int (nI 4)]) (rest := []) (v := .int (ti_b (ti_in (nI 3) (((-1))) (nI 4)))) S hE hP [] (met_X0_in l D E (nI 3) (((-1))) (nI 4)) rfl (lw_S q302 q303 q66 q304) 3 rfl (by decide +kernel) ⟨Nat.le_of_ble_eq_true rfl, Nat.le_of_ble_eq_true rfl⟩ hl.1 rfl (Nat.le_of_ble_eq_true rfl) ⟨Nat.le_of_ble_eq_true rfl, Nat.le_of_ble_eq_true rfl⟩ dX0_tape_12 ?_
    refine tb_eq (tgt := 29) hx hb dX0_tape_15 (by decide) (fun c15 => ?_) (fun c15 => ?_)
    · skip
      exact absurd c15 (by decide)
    · skip
      refine lv_iload_n hx hb dX0_tape_18 rfl (lv_at hl 2 rfl) ?_
      refine lv_iconst (v := (-1)) hx hb dX0_tape_19 (by decide) ?_
      refine lv_icmp_eq (tgt := 32) hx hb dX0_tape_20 (by decide) (fun c20 => ?_) (fun c20 => ?_)
      · skip
        exact absurd c20 (by decide)
      · skip
        refine lv_iload_n hx hb dX0_tape_23 rfl (lv_at hl 3 rfl) ?_
        refine lv_bipush (v := nI 60) hx hb dX0_tape_24 (by decide) ?_
        refine tn_le (tgt := 32) hx hb dX0_tape_26 (by decide) (by omega) (by omega) (fun c26 => ?_) (fun c26 => ?_)
        · skip
          refine lv_aload_n hx hb dX0_tape_32 rfl (lv_at hl 0 rfl) ?_
          refine va_get (v := .ref (ad 35)) hx hb hts in_X0 hown hK hP 0 rfl rfl 13 (by decide) (hts _ q250) (fun _ h => h) rfl dX0_tape_33 ?_
          refine lv_iload_n hx hb dX0_tape_36 rfl (lv_at hl 1 rfl) ?_
          refine tn_aald hx hb hK hP 1 6 rfl rfl (by omega) (by decide) dX0_tape_37 ?_
          refine lv_iload_n hx hb dX0_tape_38 rfl (lv_at hl 2 rfl) ?_
          refine lv_iconst (v := (-1)) hx hb dX0_tape_39 (by decide) ?_
          refine lv_icmp_ne (tgt := 47) hx hb dX0_tape_40 (by decide) (fun c40 => ?_) (fun c40 => ?_)
          · skip
            refine lv_iload_n hx hb dX0_tape_47 rfl (lv_at hl 2 rfl) ?_
            refine lv_iload_n hx hb dX0_tape_48 rfl (lv_at hl 3 rfl) ?_
            have hsz1 := hS.1
            refine ti_nS (As := [.int (nI 3), .int (nI n9)]) (rest := [.ref (th t9)]) S hE hP hD hS hA [] rfl (met_X0_rowOf_3 l D E n9 hn9) rfl (fun _ => rfl) (lw_S q1009 q1010 q66 q1011) 2 rfl (by decide +kernel) ⟨Nat.le_of_ble_eq_true rfl, Nat.le_of_ble_eq_true rfl⟩ hl.1 rfl (Nat.le_of_ble_eq_true rfl) ⟨Nat.le_of_ble_eq_true rfl, Nat.le_of_ble_eq_true rfl⟩ dX0_tape_49 (fun u1 H locs hu hn1 hP hD hS => ?_)
            have g_u1 : s.heap.size ≤ u1 := Nat.le_trans hsz1 (hn1 0 _ rfl)
            have hP : va_P D vwCl (ti_wT3 E ad th tx hi t9 v ++ [(u1, .inl (E 3, n9, .inr (.inl (fun _ => 0))))]) H := hP
            have hD : va_D A (ti_wT3 E ad th tx hi t9 v ++ [(u1, .inl (E 3, n9, .inr (.inl (fun _ => 0))))]) := hD
            refine W.eq (g2 := F0 m 52 ls [.ref u1, .ref (th t9)]) rfl ?_
            refine va_putN (ty := .object "java/lang/Object") hx hb hts in_X6 tyX6 tyX6_ok nmX6 hown hK hP hD hS 2 rfl rfl 0 (by decide) (hE.use q233 rfl rfl) (fun _ h => h) rfl rfl rfl rfl (Nat.le_of_ble_eq_true rfl) dX0_tape_52 (fun H locs hP hD hS => ?_)
            have hP : va_P D vwCl (ti_wT3 E ad th tx hi t9 (.ref u1) ++ [(u1, .inl (E 3, n9, .inr (.inl (fun _ => 0))))]) H := hP
            have hD : va_D A (ti_wT3 E ad th tx hi t9 (.ref u1) ++ [(u1, .inl (E 3, n9, .inr (.inl (fun _ => 0))))]) := hD
            refine lv_iconst (v := nI 1) hx hb dX0_tape_55 (by decide) ?_
            have hv9 : (nI 1) = (fun _ => (1 : Int32)) u1 := (rfl : nI 1 = (1 : Int32))
            refine W.eq (g2 := F0 m 56 ls [.int ((fun _ => (1 : Int32)) u1)]) (congrArg (fun z => F0 m 56 ls [.int z]) hv9) ?_
            exact hret _ u1 _ _ _ _ (trivial) hP hD (ti_nu1 g_u1 ti_nu0) hS (Nat.le_of_ble_eq_true rfl) (Nat.le_of_ble_eq_true rfl) (fun hq hf9 => W.iret hx hb hr hq hf9 dX0_tape_56 hlk)
          · skip
            exact absurd c40 (by decide)
        · skip
          exact absurd hn9 (by omega)
  · skip
    exact absurd ht5 (by rw [c4]; decide)

set_option maxHeartbeats 2000000 in
theorem met_X0_tape_x3 (l : Launch) (D : va_G) (E : Nat → ClassId) (htr : l.stackTraces = false) (z0 : Nat) (ad th : Nat → Nat) (tx : Nat) (hi : Bool) (t9 : Nat) (ht9 : t9 < 6) (v : Value) (j : Int32) (hneg : j < 0) : ti_MetB (σ := Unit) (τ := Unit) l D E yX0_tape (wsW_ yX0_tape cX0_tape 5 (some .int) [(32, 56, 57, 368)]) 9 3 60 z0 (ti_wT3 E ad th tx hi t9 v) [.ref (ad 0), .int (nI t9), .int (nI 3), .int j] (fun _ => True) (fun _ => ti_wT3 E ad th tx hi t9 v) (fun u => some (.int ((fun _ => (-14 : Int32)) u))) (fun _ => True) (fun _ _ => True) (fun w => RX14) (fun w => 0) (fun w => ti_wT3 E ad th tx hi t9 v) (fun w => []) (fun w => False) (fun w H => True) := by
  refine ti_metBH (by decide) (Nat.le_of_ble_eq_true rfl) ?_
  intro p e s m below meth c H A Q ls S hE hP hD hS hA hZ hAz hx0 htab hl hret hq
  obtain ⟨hQ, hr, hlk, hinit⟩ := hq
  have hsz0 := hS.1
  have hx := S.1
  have hb := S.2.1
  have hown := S.2.2.2.1
  have hts := S.2.2.2.2
  have hK := hE.1
  have hl : lv_has ls 5 [(0, .ref (ad 0)), (1, .int (nI t9)), (2, .int (nI 3)), (3, .int j)] := hl
  have ht5 : ti_t5 (nI t9) = true := by unfold ti_t5; rw [ti_in_nI (by omega) (by decide) (by decide)]; exact decide_eq_true ⟨Nat.zero_le _, by omega⟩
  refine lv_iload_n hx hb dX0_tape_0 rfl (lv_at hl 1 rfl) ?_
  refine ti_pS (As := [.int (nI t9)]) (rest := []) (v := .int (ti_b (ti_t5 (nI t9)))) S hE hP [] (met_X0_isTape l D E (nI t9)) rfl (lw_S q920 q921 q66 q922) 1 rfl (by decide +kernel) ⟨Nat.le_of_ble_eq_true rfl, Nat.le_of_ble_eq_true rfl⟩ hl.1 rfl (Nat.le_of_ble_eq_true rfl) ⟨Nat.le_of_ble_eq_true rfl, Nat.le_of_ble_eq_true rfl⟩ dX0_tape_1 ?_
  refine tb_ne (tgt := 9) hx hb dX0_tape_4 (by decide) (fun c4 => ?_) (fun c4 => ?_)
  · skip
    refine lv_iload_n hx hb dX0_tape_9 rfl (lv_at hl 2 rfl) ?_
    refine lv_iconst (v := (-1)) hx hb dX0_tape_10 (by decide) ?_
    refine lv_iconst (v := nI 4) hx hb dX0_tape_11 (by decide) ?_
    refine ti_pS (As := [.int (nI 3), .int ((-1)), .int (nI 4)]) (rest := []) (v := .int (ti_b (ti_in (nI 3) (((-1))) (nI 4)))) S hE hP [] (met_X0_in l D E (nI 3) (((-1))) (nI 4)) rfl (lw_S q302 q303 q66 q304) 3 rfl (by decide +kernel) ⟨Nat.le_of_ble_eq_true rfl, Nat.le_of_ble_eq_true rfl⟩ hl.1 rfl (Nat.le_of_ble_eq_true rfl) ⟨Nat.le_of_ble_eq_true rfl, Nat.le_of_ble_eq_true rfl⟩ dX0_tape_12 ?_
    refine tb_eq (tgt := 29) hx hb dX0_tape_15 (by decide) (fun c15 => ?_) (fun c15 => ?_)
    · skip
      exact absurd c15 (by decide)
    · skip
      refine lv_iload_n hx hb dX0_tape_18 rfl (lv_at hl 2 rfl) ?_
      refine lv_iconst (v := (-1)) hx hb dX0_tape_19 (by decide) ?_
      refine lv_icmp_eq (tgt := 32) hx hb dX0_tape_20 (by decide) (fun c20 => ?_) (fun c20 => ?_)
      · skip
        exact absurd c20 (by decide)
      · skip
        refine lv_iload_n hx hb dX0_tape_23 rfl (lv_at hl 3 rfl) ?_
        refine lv_bipush (v := nI 60) hx hb dX0_tape_24 (by decide) ?_
        refine lv_icmp_le (tgt := 32) hx hb dX0_tape_26 (by decide) (fun c26 => ?_) (fun c26 => ?_)
        · skip
          refine lv_aload_n hx hb dX0_tape_32 rfl (lv_at hl 0 rfl) ?_
          refine va_get (v := .ref (ad 35)) hx hb hts in_X0 hown hK hP 0 rfl rfl 13 (by decide) (hts _ q250) (fun _ h => h) rfl dX0_tape_33 ?_
          refine lv_iload_n hx hb dX0_tape_36 rfl (lv_at hl 1 rfl) ?_
          refine tn_aald hx hb hK hP 1 6 rfl rfl (by omega) (by decide) dX0_tape_37 ?_
          refine lv_iload_n hx hb dX0_tape_38 rfl (lv_at hl 2 rfl) ?_
          refine lv_iconst (v := (-1)) hx hb dX0_tape_39 (by decide) ?_
          refine lv_icmp_ne (tgt := 47) hx hb dX0_tape_40 (by decide) (fun c40 => ?_) (fun c40 => ?_)
          · skip
            refine lv_iload_n hx hb dX0_tape_47 rfl (lv_at hl 2 rfl) ?_
            refine lv_iload_n hx hb dX0_tape_48 rfl (lv_at hl 3 rfl) ?_
            refine ti_callX (ty_runS (As := [.int (nI 3), .int j]) (rest := [.ref (th t9)]) S (met_X0_rowOf_x3 l D E htr z0 j hneg H.size) (va_cwS 2 S.2.2.2.2 (lw_S q1009 q1010 q66 q1011) rfl rfl rfl (by decide +kernel) ⟨Nat.le_of_ble_eq_true rfl, Nat.le_of_ble_eq_true rfl⟩) (ti_preF (wc := []) (xp := fun _ => True) hE ti_P0 (hD.sub [] rfl rfl) hS rfl hZ hAz trivial) rfl rfl hl.1 rfl (lv_room (Nat.le_of_ble_eq_true rfl)) dX0_tape_49 ⟨Nat.le_of_ble_eq_true rfl, Nat.le_of_ble_eq_true rfl⟩) hP hD hS hA [] rfl (fun _ => rfl) (fun _ => rfl) (fun _ _ _ h9 => absurd h9 id) (fun we H locs ce hpx hxx hFr hP hD hPe hnew hS hce hcv hcl => ?_)
            refine vx_catch hown [] ⟨32, 56, 57, 368⟩ [] htab (fun z hz => absurd hz List.not_mem_nil) rfl (by decide) (hts _ q995) (hE.use q1007 rfl rfl) hce hcv hcl ?_
            refine lv_astore (lv' := [(4, .ref we), (0, .ref (ad 0)), (1, .int (nI t9)), (2, .int (nI 3)), (3, .int j)]) hx hb dX0_tape_57 hl (by decide) rfl (fun ls hl => ?_)
            refine lv_bipush (v := (-14)) hx hb dX0_tape_59 (by decide) ?_
            have hv9 : ((-14)) = (fun _ => (-14 : Int32)) () := (rfl : (-14 : Int32) = -14)
            refine W.eq (g2 := F0 m 61 ls [.int ((fun _ => (-14 : Int32)) ())]) (congrArg (fun z => F0 m 61 ls [.int z]) hv9) ?_
            exact hret _ () _ _ _ _ (trivial) hP trivial hS (Nat.le_of_ble_eq_true rfl) (Nat.le_of_ble_eq_true rfl) (fun hq hf9 => W.iret hx hb hr hq hf9 dX0_tape_61 hlk)
          · skip
            exact absurd c40 (by decide)
        · skip
          exact absurd (show j ≤ nI 60 from Int32.le_of_lt (Int32.lt_of_lt_of_le hneg (by decide))) c26
  · skip
    exact absurd ht5 (by rw [c4]; decide)

set_option maxHeartbeats 2000000 in
theorem met_X0_tape_4 (l : Launch) (D : va_G) (E : Nat → ClassId) (htr : l.stackTraces = false) (z0 : Nat) (ad th : Nat → Nat) (tx : Nat) (hi : Bool) (t9 : Nat) (ht9 : t9 < 6) (v : Value) (n9 : Nat) (hn9 : n9 ≤ 60) : ti_MetY (σ := Nat) (τ := Unit) l D E yX0_tape (wsW_ yX0_tape cX0_tape 5 (some .int) [(32, 56, 57, 368)]) 3 1 60 z0 (ti_wT3 E ad th tx hi t9 v) [.ref (ad 0), .int (nI t9), .int (nI 4), .int (nI n9)] (fun u => ti_wT3 E ad th tx hi t9 (.ref u)) (fun u => [(u, .inl (E 4, n9, .inl (ti_n (fun _ => 0))))]) (fun u => some (.int ((fun _ => (1 : Int32)) u))) (fun _ => True) (fun w => RX14) (fun w => 0) (fun w => ti_wT3 E ad th tx hi t9 v) (fun w => []) (fun w => False) (fun w H => True) := by
  refine ti_metYH (by decide) (Nat.le_of_ble_eq_true rfl) ?_
  intro p e s m below meth c H A Q ls S hE hP hD hS hA hZ hAz htab hl hret hq
  obtain ⟨hQ, hr, hlk, hinit⟩ := hq
  have hsz0 := hS.1
  have hx := S.1
  have hb := S.2.1
  have hown := S.2.2.2.1
  have hts := S.2.2.2.2
  have hK := hE.1
  have hl : lv_has ls 5 [(0, .ref (ad 0)), (1, .int (nI t9)), (2, .int (nI 4)), (3, .int (nI n9))] := hl
  have ht5 : ti_t5 (nI t9) = true := by unfold ti_t5; rw [ti_in_nI (by omega) (by decide) (by decide)]; exact decide_eq_true ⟨Nat.zero_le _, by omega⟩
  refine lv_iload_n hx hb dX0_tape_0 rfl (lv_at hl 1 rfl) ?_
  refine ti_pS (As := [.int (nI t9)]) (rest := []) (v := .int (ti_b (ti_t5 (nI t9)))) S hE hP [] (met_X0_isTape l D E (nI t9)) rfl (lw_S q920 q921 q66 q922) 1 rfl (by decide +kernel) ⟨Nat.le_of_ble_eq_true rfl, Nat.le_of_ble_eq_true rfl⟩ hl.1 rfl (Nat.le_of_ble_eq_true rfl) ⟨Nat.le_of_ble_eq_true rfl, Nat.le_of_ble_eq_true rfl⟩ dX0_tape_1 ?_
  refine tb_ne (tgt := 9) hx hb dX0_tape_4 (by decide) (fun c4 => ?_) (fun c4 => ?_)
  · skip
    refine lv_iload_n hx hb dX0_tape_9 rfl (lv_at hl 2 rfl) ?_
    refine lv_iconst (v := (-1)) hx hb dX0_tape_10 (by decide) ?_
    refine lv_iconst (v := nI 4) hx hb dX0_tape_11 (by decide) ?_
    refine ti_pS (As := [.int (nI 4), .int ((-1)), .int (nI 4)]) (rest := []) (v := .int (ti_b (ti_in (nI 4) (((-1))) (nI 4)))) S hE hP [] (met_X0_in l D E (nI 4) (((-1))) (nI 4)) rfl (lw_S q302 q303 q66 q304) 3 rfl (by decide +kernel) ⟨Nat.le_of_ble_eq_true rfl, Nat.le_of_ble_eq_true rfl⟩ hl.1 rfl (Nat.le_of_ble_eq_true rfl) ⟨Nat.le_of_ble_eq_true rfl, Nat.le_of_ble_eq_true rfl⟩ dX0_tape_12 ?_
    refine tb_eq (tgt := 29) hx hb dX0_tape_15 (by decide) (fun c15 => ?_) (fun c15 => ?_)
    · skip
      exact absurd c15 (by decide)
    · skip
      refine lv_iload_n hx hb dX0_tape_18 rfl (lv_at hl 2 rfl) ?_
      refine lv_iconst (v := (-1)) hx hb dX0_tape_19 (by decide) ?_
      refine lv_icmp_eq (tgt := 32) hx hb dX0_tape_20 (by decide) (fun c20 => ?_) (fun c20 => ?_)
      · skip
        exact absurd c20 (by decide)
      · skip
        refine lv_iload_n hx hb dX0_tape_23 rfl (lv_at hl 3 rfl) ?_
        refine lv_bipush (v := nI 60) hx hb dX0_tape_24 (by decide) ?_
        refine tn_le (tgt := 32) hx hb dX0_tape_26 (by decide) (by omega) (by omega) (fun c26 => ?_) (fun c26 => ?_)
        · skip
          refine lv_aload_n hx hb dX0_tape_32 rfl (lv_at hl 0 rfl) ?_
          refine va_get (v := .ref (ad 35)) hx hb hts in_X0 hown hK hP 0 rfl rfl 13 (by decide) (hts _ q250) (fun _ h => h) rfl dX0_tape_33 ?_
          refine lv_iload_n hx hb dX0_tape_36 rfl (lv_at hl 1 rfl) ?_
          refine tn_aald hx hb hK hP 1 6 rfl rfl (by omega) (by decide) dX0_tape_37 ?_
          refine lv_iload_n hx hb dX0_tape_38 rfl (lv_at hl 2 rfl) ?_
          refine lv_iconst (v := (-1)) hx hb dX0_tape_39 (by decide) ?_
          refine lv_icmp_ne (tgt := 47) hx hb dX0_tape_40 (by decide) (fun c40 => ?_) (fun c40 => ?_)
          · skip
            refine lv_iload_n hx hb dX0_tape_47 rfl (lv_at hl 2 rfl) ?_
            refine lv_iload_n hx hb dX0_tape_48 rfl (lv_at hl 3 rfl) ?_
            have hsz1 := hS.1
            refine ti_nS (As := [.int (nI 4), .int (nI n9)]) (rest := [.ref (th t9)]) S hE hP hD hS hA [] rfl (met_X0_rowOf_4 l D E n9 hn9) rfl (fun _ => rfl) (lw_S q1009 q1010 q66 q1011) 2 rfl (by decide +kernel) ⟨Nat.le_of_ble_eq_true rfl, Nat.le_of_ble_eq_true rfl⟩ hl.1 rfl (Nat.le_of_ble_eq_true rfl) ⟨Nat.le_of_ble_eq_true rfl, Nat.le_of_ble_eq_true rfl⟩ dX0_tape_49 (fun u1 H locs hu hn1 hP hD hS => ?_)
            have g_u1 : s.heap.size ≤ u1 := Nat.le_trans hsz1 (hn1 0 _ rfl)
            have hP : va_P D vwCl (ti_wT3 E ad th tx hi t9 v ++ [(u1, .inl (E 4, n9, .inl (ti_n (fun _ => 0))))]) H := hP
            have hD : va_D A (ti_wT3 E ad th tx hi t9 v ++ [(u1, .inl (E 4, n9, .inl (ti_n (fun _ => 0))))]) := hD
            refine W.eq (g2 := F0 m 52 ls [.ref u1, .ref (th t9)]) rfl ?_
            refine va_putN (ty := .object "java/lang/Object") hx hb hts in_X6 tyX6 tyX6_ok nmX6 hown hK hP hD hS 2 rfl rfl 0 (by decide) (hE.use q233 rfl rfl) (fun _ h => h) rfl rfl rfl rfl (Nat.le_of_ble_eq_true rfl) dX0_tape_52 (fun H locs hP hD hS => ?_)
            have hP : va_P D vwCl (ti_wT3 E ad th tx hi t9 (.ref u1) ++ [(u1, .inl (E 4, n9, .inl (ti_n (fun _ => 0))))]) H := hP
            have hD : va_D A (ti_wT3 E ad th tx hi t9 (.ref u1) ++ [(u1, .inl (E 4, n9, .inl (ti_n (fun _ => 0))))]) := hD
            refine lv_iconst (v := nI 1) hx hb dX0_tape_55 (by decide) ?_
            have hv9 : (nI 1) = (fun _ => (1 : Int32)) u1 := (rfl : nI 1 = (1 : Int32))
            refine W.eq (g2 := F0 m 56 ls [.int ((fun _ => (1 : Int32)) u1)]) (congrArg (fun z => F0 m 56 ls [.int z]) hv9) ?_
            exact hret _ u1 _ _ _ _ (trivial) hP hD (ti_nu1 g_u1 ti_nu0) hS (Nat.le_of_ble_eq_true rfl) (Nat.le_of_ble_eq_true rfl) (fun hq hf9 => W.iret hx hb hr hq hf9 dX0_tape_56 hlk)
          · skip
            exact absurd c40 (by decide)
        · skip
          exact absurd hn9 (by omega)
  · skip
    exact absurd ht5 (by rw [c4]; decide)

set_option maxHeartbeats 2000000 in
theorem met_X0_tape_x4 (l : Launch) (D : va_G) (E : Nat → ClassId) (htr : l.stackTraces = false) (z0 : Nat) (ad th : Nat → Nat) (tx : Nat) (hi : Bool) (t9 : Nat) (ht9 : t9 < 6) (v : Value) (j : Int32) (hneg : j < 0) : ti_MetB (σ := Unit) (τ := Unit) l D E yX0_tape (wsW_ yX0_tape cX0_tape 5 (some .int) [(32, 56, 57, 368)]) 9 3 60 z0 (ti_wT3 E ad th tx hi t9 v) [.ref (ad 0), .int (nI t9), .int (nI 4), .int j] (fun _ => True) (fun _ => ti_wT3 E ad th tx hi t9 v) (fun u => some (.int ((fun _ => (-14 : Int32)) u))) (fun _ => True) (fun _ _ => True) (fun w => RX14) (fun w => 0) (fun w => ti_wT3 E ad th tx hi t9 v) (fun w => []) (fun w => False) (fun w H => True) := by
  refine ti_metBH (by decide) (Nat.le_of_ble_eq_true rfl) ?_
  intro p e s m below meth c H A Q ls S hE hP hD hS hA hZ hAz hx0 htab hl hret hq
  obtain ⟨hQ, hr, hlk, hinit⟩ := hq
  have hsz0 := hS.1
  have hx := S.1
  have hb := S.2.1
  have hown := S.2.2.2.1
  have hts := S.2.2.2.2
  have hK := hE.1
  have hl : lv_has ls 5 [(0, .ref (ad 0)), (1, .int (nI t9)), (2, .int (nI 4)), (3, .int j)] := hl
  have ht5 : ti_t5 (nI t9) = true := by unfold ti_t5; rw [ti_in_nI (by omega) (by decide) (by decide)]; exact decide_eq_true ⟨Nat.zero_le _, by omega⟩
  refine lv_iload_n hx hb dX0_tape_0 rfl (lv_at hl 1 rfl) ?_
  refine ti_pS (As := [.int (nI t9)]) (rest := []) (v := .int (ti_b (ti_t5 (nI t9)))) S hE hP [] (met_X0_isTape l D E (nI t9)) rfl (lw_S q920 q921 q66 q922) 1 rfl (by decide +kernel) ⟨Nat.le_of_ble_eq_true rfl, Nat.le_of_ble_eq_true rfl⟩ hl.1 rfl (Nat.le_of_ble_eq_true rfl) ⟨Nat.le_of_ble_eq_true rfl, Nat.le_of_ble_eq_true rfl⟩ dX0_tape_1 ?_
  refine tb_ne (tgt := 9) hx hb dX0_tape_4 (by decide) (fun c4 => ?_) (fun c4 => ?_)
  · skip
    refine lv_iload_n hx hb dX0_tape_9 rfl (lv_at hl 2 rfl) ?_
    refine lv_iconst (v := (-1)) hx hb dX0_tape_10 (by decide) ?_
    refine lv_iconst (v := nI 4) hx hb dX0_tape_11 (by decide) ?_
    refine ti_pS (As := [.int (nI 4), .int ((-1)), .int (nI 4)]) (rest := []) (v := .int (ti_b (ti_in (nI 4) (((-1))) (nI 4)))) S hE hP [] (met_X0_in l D E (nI 4) (((-1))) (nI 4)) rfl (lw_S q302 q303 q66 q304) 3 rfl (by decide +kernel) ⟨Nat.le_of_ble_eq_true rfl, Nat.le_of_ble_eq_true rfl⟩ hl.1 rfl (Nat.le_of_ble_eq_true rfl) ⟨Nat.le_of_ble_eq_true rfl, Nat.le_of_ble_eq_true rfl⟩ dX0_tape_12 ?_
    refine tb_eq (tgt := 29) hx hb dX0_tape_15 (by decide) (fun c15 => ?_) (fun c15 => ?_)
    · skip
      exact absurd c15 (by decide)
    · skip
      refine lv_iload_n hx hb dX0_tape_18 rfl (lv_at hl 2 rfl) ?_
      refine lv_iconst (v := (-1)) hx hb dX0_tape_19 (by decide) ?_
      refine lv_icmp_eq (tgt := 32) hx hb dX0_tape_20 (by decide) (fun c20 => ?_) (fun c20 => ?_)
      · skip
        exact absurd c20 (by decide)
      · skip
        refine lv_iload_n hx hb dX0_tape_23 rfl (lv_at hl 3 rfl) ?_
        refine lv_bipush (v := nI 60) hx hb dX0_tape_24 (by decide) ?_
        refine lv_icmp_le (tgt := 32) hx hb dX0_tape_26 (by decide) (fun c26 => ?_) (fun c26 => ?_)
        · skip
          refine lv_aload_n hx hb dX0_tape_32 rfl (lv_at hl 0 rfl) ?_
          refine va_get (v := .ref (ad 35)) hx hb hts in_X0 hown hK hP 0 rfl rfl 13 (by decide) (hts _ q250) (fun _ h => h) rfl dX0_tape_33 ?_
          refine lv_iload_n hx hb dX0_tape_36 rfl (lv_at hl 1 rfl) ?_
          refine tn_aald hx hb hK hP 1 6 rfl rfl (by omega) (by decide) dX0_tape_37 ?_
          refine lv_iload_n hx hb dX0_tape_38 rfl (lv_at hl 2 rfl) ?_
          refine lv_iconst (v := (-1)) hx hb dX0_tape_39 (by decide) ?_
          refine lv_icmp_ne (tgt := 47) hx hb dX0_tape_40 (by decide) (fun c40 => ?_) (fun c40 => ?_)
          · skip
            refine lv_iload_n hx hb dX0_tape_47 rfl (lv_at hl 2 rfl) ?_
            refine lv_iload_n hx hb dX0_tape_48 rfl (lv_at hl 3 rfl) ?_
            refine ti_callX (ty_runS (As := [.int (nI 4), .int j]) (rest := [.ref (th t9)]) S (met_X0_rowOf_x4 l D E htr z0 j hneg H.size) (va_cwS 2 S.2.2.2.2 (lw_S q1009 q1010 q66 q1011) rfl rfl rfl (by decide +kernel) ⟨Nat.le_of_ble_eq_true rfl, Nat.le_of_ble_eq_true rfl⟩) (ti_preF (wc := []) (xp := fun _ => True) hE ti_P0 (hD.sub [] rfl rfl) hS rfl hZ hAz trivial) rfl rfl hl.1 rfl (lv_room (Nat.le_of_ble_eq_true rfl)) dX0_tape_49 ⟨Nat.le_of_ble_eq_true rfl, Nat.le_of_ble_eq_true rfl⟩) hP hD hS hA [] rfl (fun _ => rfl) (fun _ => rfl) (fun _ _ _ h9 => absurd h9 id) (fun we H locs ce hpx hxx hFr hP hD hPe hnew hS hce hcv hcl => ?_)
            refine vx_catch hown [] ⟨32, 56, 57, 368⟩ [] htab (fun z hz => absurd hz List.not_mem_nil) rfl (by decide) (hts _ q995) (hE.use q1007 rfl rfl) hce hcv hcl ?_
            refine lv_astore (lv' := [(4, .ref we), (0, .ref (ad 0)), (1, .int (nI t9)), (2, .int (nI 4)), (3, .int j)]) hx hb dX0_tape_57 hl (by decide) rfl (fun ls hl => ?_)
            refine lv_bipush (v := (-14)) hx hb dX0_tape_59 (by decide) ?_
            have hv9 : ((-14)) = (fun _ => (-14 : Int32)) () := (rfl : (-14 : Int32) = -14)
            refine W.eq (g2 := F0 m 61 ls [.int ((fun _ => (-14 : Int32)) ())]) (congrArg (fun z => F0 m 61 ls [.int z]) hv9) ?_
            exact hret _ () _ _ _ _ (trivial) hP trivial hS (Nat.le_of_ble_eq_true rfl) (Nat.le_of_ble_eq_true rfl) (fun hq hf9 => W.iret hx hb hr hq hf9 dX0_tape_61 hlk)
          · skip
            exact absurd c40 (by decide)
        · skip
          exact absurd (show j ≤ nI 60 from Int32.le_of_lt (Int32.lt_of_lt_of_le hneg (by decide))) c26
  · skip
    exact absurd ht5 (by rw [c4]; decide)
