/-! constructors of exceptions (printed by w_exc1.py) -/
set_option maxRecDepth 100000
theorem ti_Zq_val {C n d : String} {A : Nat → Prop} {U : State} {H : Heap} (h : va_Zq C n d A U H) : ∃ u : Value, u.isRef = true ∧ va_Z C n d u A U H := by
  rcases h with h | ⟨t, h⟩
  · exact ⟨_, rfl, h⟩
  · exact ⟨_, rfl, h⟩
theorem ti_nrA {u : Value} (h : u.isRef = true) {t : FieldType} : narrow (.array t) u = u := by cases u <;> first | rfl | (simp [Value.isRef] at h)
theorem ti_ftA {u : Value} (h : u.isRef = true) {t : FieldType} : fits (.array t) u = true := by cases u <;> first | rfl | (simp [Value.isRef] at h)
theorem ti_nrO {u : Value} (h : u.isRef = true) {t : String} : narrow (.object t) u = u := by cases u <;> first | rfl | (simp [Value.isRef] at h)
theorem ti_ftO {u : Value} (h : u.isRef = true) {t : String} : fits (.object t) u = true := by cases u <;> first | rfl | (simp [Value.isRef] at h)

set_option maxHeartbeats 1000000 in
theorem met_J0_init_X8 (l : Launch) (D : va_G) (E : Nat → ClassId) (htr : l.stackTraces = false) (z0 : Nat) (a : Nat) : ti_MetF (σ := Value × Value) l D E yJ0_init cJ0_init 1 none 3 0 0 z0 ([(a, .inr (8, [.null, .null, .null, .null, .null, .int 0]))]) [.ref a] (ti_free a) (fun w => [(a, .inr (8, [.ref a, w.1, w.2, .null, .null, .int 0]))]) (fun _ => none) (fun _ => True) (fun _ H => ti_free a H) := by
  refine ti_metFV (σ := Value × Value) (by decide) (Nat.le_of_ble_eq_true rfl) ?_
  intro p e s m below meth c H H0 A Q ls S hE hP hD hS hA h0 hZ hAz hx0 hinit hl hret
  subst h0
  obtain ⟨u, hu, hZu⟩ := ti_Zq_val (hZ.1.narrow hAz).1
  obtain ⟨sn, hsn, hZn⟩ := ti_Zq_val (hZ.2.1.narrow hAz).1
  have hLU := (hZ.1.narrow hAz).2
  have hLN := (hZ.2.1.narrow hAz).2
  have hx := S.1
  have hb := S.2.1
  have hown := S.2.2.2.1
  have hts := S.2.2.2.2
  have hK := hE.1
  have hl : lv_has ls 1 [(0, .ref a)] := hl
  refine lv_aload_n hx hb dJ0_init_0 rfl (lv_at hl 0 rfl) ?_
  refine W.objInit hx hb hown (hts _ q384) (hts _ q100) (hts _ q101) rfl (by rw [S.2.2.1]; exact hl.1) rfl dJ0_init_1 (Nat.le_of_ble_eq_true rfl) (Nat.le_of_ble_eq_true rfl) ?_
  refine W.eq (g2 := F0 m 4 ls []) rfl ?_
  refine lv_aload_n hx hb dJ0_init_4 rfl (lv_at hl 0 rfl) ?_
  refine lv_aload_n hx hb dJ0_init_5 rfl (lv_at hl 0 rfl) ?_
  refine va_put (ty := .object "java/lang/Throwable") hx hb hts in_X8 tyX8 tyX8_ok nmX8 hown hK hP hD hS 0 rfl rfl 0 (by decide) (hts _ q430) (fun _ h => h) rfl rfl rfl rfl (Nat.le_of_ble_eq_true rfl) dJ0_init_6 (fun H locs hP hD hS => ?_)
  have hP : va_P D vwCl ([(a, .inr (8, [.ref a, .null, .null, .null, .null, .int 0]))]) H := hP
  have hD : va_D A ([(a, .inr (8, [.ref a, .null, .null, .null, .null, .int 0]))]) := hD
  refine lv_aload_n hx hb dJ0_init_9 rfl (lv_at hl 0 rfl) ?_
  refine va_gets hx hb hZu hS hown (hts _ q385) (fun _ h => h) dJ0_init_10 ?_
  refine va_put (ty := .array (.object "java/lang/StackTraceElement")) hx hb hts in_X8 tyX8 tyX8_ok nmX8 hown hK hP hD hS 0 rfl rfl 1 (by decide) (hts _ q431) (fun _ h => h) rfl rfl (ti_nrA hu) (ti_ftA hu) (Nat.le_of_ble_eq_true rfl) dJ0_init_13 (fun H locs hP hD hS => ?_)
  have hP : va_P D vwCl ([(a, .inr (8, [.ref a, u, .null, .null, .null, .int 0]))]) H := hP
  have hD : va_D A ([(a, .inr (8, [.ref a, u, .null, .null, .null, .int 0]))]) := hD
  refine lv_aload_n hx hb dJ0_init_16 rfl (lv_at hl 0 rfl) ?_
  refine va_gets hx hb hZn hS hown (hts _ q387) (fun _ h => h) dJ0_init_17 ?_
  refine va_put (ty := .object "java/util/List") hx hb hts in_X8 tyX8 tyX8_ok nmX8 hown hK hP hD hS 0 rfl rfl 2 (by decide) (hts _ q432) (fun _ h => h) rfl rfl (ti_nrO hsn) (ti_ftO hsn) (Nat.le_of_ble_eq_true rfl) dJ0_init_20 (fun H locs hP hD hS => ?_)
  have hP : va_P D vwCl ([(a, .inr (8, [.ref a, u, sn, .null, .null, .int 0]))]) H := hP
  have hD : va_D A ([(a, .inr (8, [.ref a, u, sn, .null, .null, .int 0]))]) := hD
  refine lv_aload_n hx hb dJ0_init_23 rfl (lv_at hl 0 rfl) ?_
  refine ti_fillW (u := u) S htr hK hP hS hLU hLN hu hZu 0 rfl rfl rfl rfl (by decide) rfl rfl (hD.2 0 _ rfl) q368 q369 q372 hx0 (Nat.le_of_ble_eq_true rfl) ⟨Nat.le_of_ble_eq_true rfl, Nat.le_of_ble_eq_true rfl⟩ hl.1 dJ0_init_24 (fun locs hS => ?_)
  refine lv_pop hx hb dJ0_init_27 rfl ?_
  refine ti_withFree hx0 (fun hfr => ?_)
  exact hret (u, sn) _ _ _ _ _ _ dJ0_init_28 (trivial) hP hfr hS (Nat.le_refl _) (Nat.le_refl _)

set_option maxHeartbeats 1000000 in
theorem met_J0_init_X10 (l : Launch) (D : va_G) (E : Nat → ClassId) (htr : l.stackTraces = false) (z0 : Nat) (a : Nat) : ti_MetF (σ := Value × Value) l D E yJ0_init cJ0_init 1 none 3 0 0 z0 ([(a, .inr (10, [.null, .null, .null, .null, .null, .int 0, .int 0]))]) [.ref a] (ti_free a) (fun w => [(a, .inr (10, [.ref a, w.1, w.2, .null, .null, .int 0, .int 0]))]) (fun _ => none) (fun _ => True) (fun _ H => ti_free a H) := by
  refine ti_metFV (σ := Value × Value) (by decide) (Nat.le_of_ble_eq_true rfl) ?_
  intro p e s m below meth c H H0 A Q ls S hE hP hD hS hA h0 hZ hAz hx0 hinit hl hret
  subst h0
  obtain ⟨u, hu, hZu⟩ := ti_Zq_val (hZ.1.narrow hAz).1
  obtain ⟨sn, hsn, hZn⟩ := ti_Zq_val (hZ.2.1.narrow hAz).1
  have hLU := (hZ.1.narrow hAz).2
  have hLN := (hZ.2.1.narrow hAz).2
  have hx := S.1
  have hb := S.2.1
  have hown := S.2.2.2.1
  have hts := S.2.2.2.2
  have hK := hE.1
  have hl : lv_has ls 1 [(0, .ref a)] := hl
  refine lv_aload_n hx hb dJ0_init_0 rfl (lv_at hl 0 rfl) ?_
  refine W.objInit hx hb hown (hts _ q384) (hts _ q100) (hts _ q101) rfl (by rw [S.2.2.1]; exact hl.1) rfl dJ0_init_1 (Nat.le_of_ble_eq_true rfl) (Nat.le_of_ble_eq_true rfl) ?_
  refine W.eq (g2 := F0 m 4 ls []) rfl ?_
  refine lv_aload_n hx hb dJ0_init_4 rfl (lv_at hl 0 rfl) ?_
  refine lv_aload_n hx hb dJ0_init_5 rfl (lv_at hl 0 rfl) ?_
  refine va_put (ty := .object "java/lang/Throwable") hx hb hts in_X10 tyX10 tyX10_ok nmX10 hown hK hP hD hS 0 rfl rfl 0 (by decide) (hts _ q430) (fun _ h => h) rfl rfl rfl rfl (Nat.le_of_ble_eq_true rfl) dJ0_init_6 (fun H locs hP hD hS => ?_)
  have hP : va_P D vwCl ([(a, .inr (10, [.ref a, .null, .null, .null, .null, .int 0, .int 0]))]) H := hP
  have hD : va_D A ([(a, .inr (10, [.ref a, .null, .null, .null, .null, .int 0, .int 0]))]) := hD
  refine lv_aload_n hx hb dJ0_init_9 rfl (lv_at hl 0 rfl) ?_
  refine va_gets hx hb hZu hS hown (hts _ q385) (fun _ h => h) dJ0_init_10 ?_
  refine va_put (ty := .array (.object "java/lang/StackTraceElement")) hx hb hts in_X10 tyX10 tyX10_ok nmX10 hown hK hP hD hS 0 rfl rfl 1 (by decide) (hts _ q431) (fun _ h => h) rfl rfl (ti_nrA hu) (ti_ftA hu) (Nat.le_of_ble_eq_true rfl) dJ0_init_13 (fun H locs hP hD hS => ?_)
  have hP : va_P D vwCl ([(a, .inr (10, [.ref a, u, .null, .null, .null, .int 0, .int 0]))]) H := hP
  have hD : va_D A ([(a, .inr (10, [.ref a, u, .null, .null, .null, .int 0, .int 0]))]) := hD
  refine lv_aload_n hx hb dJ0_init_16 rfl (lv_at hl 0 rfl) ?_
  refine va_gets hx hb hZn hS hown (hts _ q387) (fun _ h => h) dJ0_init_17 ?_
  refine va_put (ty := .object "java/util/List") hx hb hts in_X10 tyX10 tyX10_ok nmX10 hown hK hP hD hS 0 rfl rfl 2 (by decide) (hts _ q432) (fun _ h => h) rfl rfl (ti_nrO hsn) (ti_ftO hsn) (Nat.le_of_ble_eq_true rfl) dJ0_init_20 (fun H locs hP hD hS => ?_)
  have hP : va_P D vwCl ([(a, .inr (10, [.ref a, u, sn, .null, .null, .int 0, .int 0]))]) H := hP
  have hD : va_D A ([(a, .inr (10, [.ref a, u, sn, .null, .null, .int 0, .int 0]))]) := hD
  refine lv_aload_n hx hb dJ0_init_23 rfl (lv_at hl 0 rfl) ?_
  refine ti_fillW (u := u) S htr hK hP hS hLU hLN hu hZu 0 rfl rfl rfl rfl (by decide) rfl rfl (hD.2 0 _ rfl) q528 q394 q530 hx0 (Nat.le_of_ble_eq_true rfl) ⟨Nat.le_of_ble_eq_true rfl, Nat.le_of_ble_eq_true rfl⟩ hl.1 dJ0_init_24 (fun locs hS => ?_)
  refine lv_pop hx hb dJ0_init_27 rfl ?_
  refine ti_withFree hx0 (fun hfr => ?_)
  exact hret (u, sn) _ _ _ _ _ _ dJ0_init_28 (trivial) hP hfr hS (Nat.le_refl _) (Nat.le_refl _)

set_option maxHeartbeats 1000000 in
theorem met_J0_init_X12 (l : Launch) (D : va_G) (E : Nat → ClassId) (htr : l.stackTraces = false) (z0 : Nat) (a : Nat) : ti_MetF (σ := Value × Value) l D E yJ0_init cJ0_init 1 none 3 0 0 z0 ([(a, .inr (12, [.null, .null, .null, .null, .null, .int 0, .int 0]))]) [.ref a] (ti_free a) (fun w => [(a, .inr (12, [.ref a, w.1, w.2, .null, .null, .int 0, .int 0]))]) (fun _ => none) (fun _ => True) (fun _ H => ti_free a H) := by
  refine ti_metFV (σ := Value × Value) (by decide) (Nat.le_of_ble_eq_true rfl) ?_
  intro p e s m below meth c H H0 A Q ls S hE hP hD hS hA h0 hZ hAz hx0 hinit hl hret
  subst h0
  obtain ⟨u, hu, hZu⟩ := ti_Zq_val (hZ.1.narrow hAz).1
  obtain ⟨sn, hsn, hZn⟩ := ti_Zq_val (hZ.2.1.narrow hAz).1
  have hLU := (hZ.1.narrow hAz).2
  have hLN := (hZ.2.1.narrow hAz).2
  have hx := S.1
  have hb := S.2.1
  have hown := S.2.2.2.1
  have hts := S.2.2.2.2
  have hK := hE.1
  have hl : lv_has ls 1 [(0, .ref a)] := hl
  refine lv_aload_n hx hb dJ0_init_0 rfl (lv_at hl 0 rfl) ?_
  refine W.objInit hx hb hown (hts _ q384) (hts _ q100) (hts _ q101) rfl (by rw [S.2.2.1]; exact hl.1) rfl dJ0_init_1 (Nat.le_of_ble_eq_true rfl) (Nat.le_of_ble_eq_true rfl) ?_
  refine W.eq (g2 := F0 m 4 ls []) rfl ?_
  refine lv_aload_n hx hb dJ0_init_4 rfl (lv_at hl 0 rfl) ?_
  refine lv_aload_n hx hb dJ0_init_5 rfl (lv_at hl 0 rfl) ?_
  refine va_put (ty := .object "java/lang/Throwable") hx hb hts in_X12 tyX12 tyX12_ok nmX12 hown hK hP hD hS 0 rfl rfl 0 (by decide) (hts _ q430) (fun _ h => h) rfl rfl rfl rfl (Nat.le_of_ble_eq_true rfl) dJ0_init_6 (fun H locs hP hD hS => ?_)
  have hP : va_P D vwCl ([(a, .inr (12, [.ref a, .null, .null, .null, .null, .int 0, .int 0]))]) H := hP
  have hD : va_D A ([(a, .inr (12, [.ref a, .null, .null, .null, .null, .int 0, .int 0]))]) := hD
  refine lv_aload_n hx hb dJ0_init_9 rfl (lv_at hl 0 rfl) ?_
  refine va_gets hx hb hZu hS hown (hts _ q385) (fun _ h => h) dJ0_init_10 ?_
  refine va_put (ty := .array (.object "java/lang/StackTraceElement")) hx hb hts in_X12 tyX12 tyX12_ok nmX12 hown hK hP hD hS 0 rfl rfl 1 (by decide) (hts _ q431) (fun _ h => h) rfl rfl (ti_nrA hu) (ti_ftA hu) (Nat.le_of_ble_eq_true rfl) dJ0_init_13 (fun H locs hP hD hS => ?_)
  have hP : va_P D vwCl ([(a, .inr (12, [.ref a, u, .null, .null, .null, .int 0, .int 0]))]) H := hP
  have hD : va_D A ([(a, .inr (12, [.ref a, u, .null, .null, .null, .int 0, .int 0]))]) := hD
  refine lv_aload_n hx hb dJ0_init_16 rfl (lv_at hl 0 rfl) ?_
  refine va_gets hx hb hZn hS hown (hts _ q387) (fun _ h => h) dJ0_init_17 ?_
  refine va_put (ty := .object "java/util/List") hx hb hts in_X12 tyX12 tyX12_ok nmX12 hown hK hP hD hS 0 rfl rfl 2 (by decide) (hts _ q432) (fun _ h => h) rfl rfl (ti_nrO hsn) (ti_ftO hsn) (Nat.le_of_ble_eq_true rfl) dJ0_init_20 (fun H locs hP hD hS => ?_)
  have hP : va_P D vwCl ([(a, .inr (12, [.ref a, u, sn, .null, .null, .int 0, .int 0]))]) H := hP
  have hD : va_D A ([(a, .inr (12, [.ref a, u, sn, .null, .null, .int 0, .int 0]))]) := hD
  refine lv_aload_n hx hb dJ0_init_23 rfl (lv_at hl 0 rfl) ?_
  refine ti_fillW (u := u) S htr hK hP hS hLU hLN hu hZu 0 rfl rfl rfl rfl (by decide) rfl rfl (hD.2 0 _ rfl) q667 q396 q669 hx0 (Nat.le_of_ble_eq_true rfl) ⟨Nat.le_of_ble_eq_true rfl, Nat.le_of_ble_eq_true rfl⟩ hl.1 dJ0_init_24 (fun locs hS => ?_)
  refine lv_pop hx hb dJ0_init_27 rfl ?_
  refine ti_withFree hx0 (fun hfr => ?_)
  exact hret (u, sn) _ _ _ _ _ _ dJ0_init_28 (trivial) hP hfr hS (Nat.le_refl _) (Nat.le_refl _)

set_option maxHeartbeats 1000000 in
theorem met_J0_init_X15 (l : Launch) (D : va_G) (E : Nat → ClassId) (htr : l.stackTraces = false) (z0 : Nat) (a : Nat) : ti_MetF (σ := Value × Value) l D E yJ0_init cJ0_init 1 none 3 0 0 z0 ([(a, .inr (15, [.null, .null, .null, .null, .null, .int 0, .int 0]))]) [.ref a] (ti_free a) (fun w => [(a, .inr (15, [.ref a, w.1, w.2, .null, .null, .int 0, .int 0]))]) (fun _ => none) (fun _ => True) (fun _ H => ti_free a H) := by
  refine ti_metFV (σ := Value × Value) (by decide) (Nat.le_of_ble_eq_true rfl) ?_
  intro p e s m below meth c H H0 A Q ls S hE hP hD hS hA h0 hZ hAz hx0 hinit hl hret
  subst h0
  obtain ⟨u, hu, hZu⟩ := ti_Zq_val (hZ.1.narrow hAz).1
  obtain ⟨sn, hsn, hZn⟩ := ti_Zq_val (hZ.2.1.narrow hAz).1
  have hLU := (hZ.1.narrow hAz).2
  have hLN := (hZ.2.1.narrow hAz).2
  have hx := S.1
  have hb := S.2.1
  have hown := S.2.2.2.1
  have hts := S.2.2.2.2
  have hK := hE.1
  have hl : lv_has ls 1 [(0, .ref a)] := hl
  refine lv_aload_n hx hb dJ0_init_0 rfl (lv_at hl 0 rfl) ?_
  refine W.objInit hx hb hown (hts _ q384) (hts _ q100) (hts _ q101) rfl (by rw [S.2.2.1]; exact hl.1) rfl dJ0_init_1 (Nat.le_of_ble_eq_true rfl) (Nat.le_of_ble_eq_true rfl) ?_
  refine W.eq (g2 := F0 m 4 ls []) rfl ?_
  refine lv_aload_n hx hb dJ0_init_4 rfl (lv_at hl 0 rfl) ?_
  refine lv_aload_n hx hb dJ0_init_5 rfl (lv_at hl 0 rfl) ?_
  refine va_put (ty := .object "java/lang/Throwable") hx hb hts in_X15 tyX15 tyX15_ok nmX15 hown hK hP hD hS 0 rfl rfl 0 (by decide) (hts _ q430) (fun _ h => h) rfl rfl rfl rfl (Nat.le_of_ble_eq_true rfl) dJ0_init_6 (fun H locs hP hD hS => ?_)
  have hP : va_P D vwCl ([(a, .inr (15, [.ref a, .null, .null, .null, .null, .int 0, .int 0]))]) H := hP
  have hD : va_D A ([(a, .inr (15, [.ref a, .null, .null, .null, .null, .int 0, .int 0]))]) := hD
  refine lv_aload_n hx hb dJ0_init_9 rfl (lv_at hl 0 rfl) ?_
  refine va_gets hx hb hZu hS hown (hts _ q385) (fun _ h => h) dJ0_init_10 ?_
  refine va_put (ty := .array (.object "java/lang/StackTraceElement")) hx hb hts in_X15 tyX15 tyX15_ok nmX15 hown hK hP hD hS 0 rfl rfl 1 (by decide) (hts _ q431) (fun _ h => h) rfl rfl (ti_nrA hu) (ti_ftA hu) (Nat.le_of_ble_eq_true rfl) dJ0_init_13 (fun H locs hP hD hS => ?_)
  have hP : va_P D vwCl ([(a, .inr (15, [.ref a, u, .null, .null, .null, .int 0, .int 0]))]) H := hP
  have hD : va_D A ([(a, .inr (15, [.ref a, u, .null, .null, .null, .int 0, .int 0]))]) := hD
  refine lv_aload_n hx hb dJ0_init_16 rfl (lv_at hl 0 rfl) ?_
  refine va_gets hx hb hZn hS hown (hts _ q387) (fun _ h => h) dJ0_init_17 ?_
  refine va_put (ty := .object "java/util/List") hx hb hts in_X15 tyX15 tyX15_ok nmX15 hown hK hP hD hS 0 rfl rfl 2 (by decide) (hts _ q432) (fun _ h => h) rfl rfl (ti_nrO hsn) (ti_ftO hsn) (Nat.le_of_ble_eq_true rfl) dJ0_init_20 (fun H locs hP hD hS => ?_)
  have hP : va_P D vwCl ([(a, .inr (15, [.ref a, u, sn, .null, .null, .int 0, .int 0]))]) H := hP
  have hD : va_D A ([(a, .inr (15, [.ref a, u, sn, .null, .null, .int 0, .int 0]))]) := hD
  refine lv_aload_n hx hb dJ0_init_23 rfl (lv_at hl 0 rfl) ?_
  refine ti_fillW (u := u) S htr hK hP hS hLU hLN hu hZu 0 rfl rfl rfl rfl (by decide) rfl rfl (hD.2 0 _ rfl) q1027 q395 q1029 hx0 (Nat.le_of_ble_eq_true rfl) ⟨Nat.le_of_ble_eq_true rfl, Nat.le_of_ble_eq_true rfl⟩ hl.1 dJ0_init_24 (fun locs hS => ?_)
  refine lv_pop hx hb dJ0_init_27 rfl ?_
  refine ti_withFree hx0 (fun hfr => ?_)
  exact hret (u, sn) _ _ _ _ _ _ dJ0_init_28 (trivial) hP hfr hS (Nat.le_refl _) (Nat.le_refl _)

set_option maxHeartbeats 1000000 in
theorem met_J0_init_2_X12 (l : Launch) (D : va_G) (E : Nat → ClassId) (htr : l.stackTraces = false) (z0 : Nat) (a b : Nat) : ti_MetF (σ := Value × Value) l D E yJ0_init_2 cJ0_init_2 3 none 3 0 0 z0 ([(a, .inr (12, [.null, .null, .null, .null, .null, .int 0, .int 0]))]) [.ref a, .null, .ref b] (ti_free a) (fun w => [(a, .inr (12, [.ref b, w.1, w.2, .null, .null, .int 0, .int 0]))]) (fun _ => none) (fun _ => True) (fun _ H => ti_free a H) := by
  refine ti_metFV (σ := Value × Value) (by decide) (Nat.le_of_ble_eq_true rfl) ?_
  intro p e s m below meth c H H0 A Q ls S hE hP hD hS hA h0 hZ hAz hx0 hinit hl hret
  subst h0
  obtain ⟨u, hu, hZu⟩ := ti_Zq_val (hZ.1.narrow hAz).1
  obtain ⟨sn, hsn, hZn⟩ := ti_Zq_val (hZ.2.1.narrow hAz).1
  have hLU := (hZ.1.narrow hAz).2
  have hLN := (hZ.2.1.narrow hAz).2
  have hx := S.1
  have hb := S.2.1
  have hown := S.2.2.2.1
  have hts := S.2.2.2.2
  have hK := hE.1
  have hl : lv_has ls 3 [(0, .ref a), (1, .null), (2, .ref b)] := hl
  refine lv_aload_n hx hb dJ0_init_2_0 rfl (lv_at hl 0 rfl) ?_
  refine W.objInit hx hb hown (hts _ q384) (hts _ q100) (hts _ q101) rfl (by rw [S.2.2.1]; exact hl.1) rfl dJ0_init_2_1 (Nat.le_of_ble_eq_true rfl) (Nat.le_of_ble_eq_true rfl) ?_
  refine W.eq (g2 := F0 m 4 ls []) rfl ?_
  refine lv_aload_n hx hb dJ0_init_2_4 rfl (lv_at hl 0 rfl) ?_
  refine lv_aload_n hx hb dJ0_init_2_5 rfl (lv_at hl 0 rfl) ?_
  refine va_put (ty := .object "java/lang/Throwable") hx hb hts in_X12 tyX12 tyX12_ok nmX12 hown hK hP hD hS 0 rfl rfl 0 (by decide) (hts _ q430) (fun _ h => h) rfl rfl rfl rfl (Nat.le_of_ble_eq_true rfl) dJ0_init_2_6 (fun H locs hP hD hS => ?_)
  have hP : va_P D vwCl ([(a, .inr (12, [.ref a, .null, .null, .null, .null, .int 0, .int 0]))]) H := hP
  have hD : va_D A ([(a, .inr (12, [.ref a, .null, .null, .null, .null, .int 0, .int 0]))]) := hD
  refine lv_aload_n hx hb dJ0_init_2_9 rfl (lv_at hl 0 rfl) ?_
  refine va_gets hx hb hZu hS hown (hts _ q385) (fun _ h => h) dJ0_init_2_10 ?_
  refine va_put (ty := .array (.object "java/lang/StackTraceElement")) hx hb hts in_X12 tyX12 tyX12_ok nmX12 hown hK hP hD hS 0 rfl rfl 1 (by decide) (hts _ q431) (fun _ h => h) rfl rfl (ti_nrA hu) (ti_ftA hu) (Nat.le_of_ble_eq_true rfl) dJ0_init_2_13 (fun H locs hP hD hS => ?_)
  have hP : va_P D vwCl ([(a, .inr (12, [.ref a, u, .null, .null, .null, .int 0, .int 0]))]) H := hP
  have hD : va_D A ([(a, .inr (12, [.ref a, u, .null, .null, .null, .int 0, .int 0]))]) := hD
  refine lv_aload_n hx hb dJ0_init_2_16 rfl (lv_at hl 0 rfl) ?_
  refine va_gets hx hb hZn hS hown (hts _ q387) (fun _ h => h) dJ0_init_2_17 ?_
  refine va_put (ty := .object "java/util/List") hx hb hts in_X12 tyX12 tyX12_ok nmX12 hown hK hP hD hS 0 rfl rfl 2 (by decide) (hts _ q432) (fun _ h => h) rfl rfl (ti_nrO hsn) (ti_ftO hsn) (Nat.le_of_ble_eq_true rfl) dJ0_init_2_20 (fun H locs hP hD hS => ?_)
  have hP : va_P D vwCl ([(a, .inr (12, [.ref a, u, sn, .null, .null, .int 0, .int 0]))]) H := hP
  have hD : va_D A ([(a, .inr (12, [.ref a, u, sn, .null, .null, .int 0, .int 0]))]) := hD
  refine lv_aload_n hx hb dJ0_init_2_23 rfl (lv_at hl 0 rfl) ?_
  refine ti_fillW (u := u) S htr hK hP hS hLU hLN hu hZu 0 rfl rfl rfl rfl (by decide) rfl rfl (hD.2 0 _ rfl) q667 q396 q669 hx0 (Nat.le_of_ble_eq_true rfl) ⟨Nat.le_of_ble_eq_true rfl, Nat.le_of_ble_eq_true rfl⟩ hl.1 dJ0_init_2_24 (fun locs hS => ?_)
  refine lv_pop hx hb dJ0_init_2_27 rfl ?_
  refine lv_aload_n hx hb dJ0_init_2_28 rfl (lv_at hl 0 rfl) ?_
  refine lv_aload_nN hx hb dJ0_init_2_29 rfl (lv_at hl 1 rfl) ?_
  refine va_put (ty := .object "java/lang/String") hx hb hts in_X12 tyX12 tyX12_ok nmX12 hown hK hP hD hS 0 rfl rfl 3 (by decide) (hts _ q429) (fun _ h => h) rfl rfl rfl rfl (Nat.le_of_ble_eq_true rfl) dJ0_init_2_30 (fun H locs hP hD hS => ?_)
  have hP : va_P D vwCl ([(a, .inr (12, [.ref a, u, sn, .null, .null, .int 0, .int 0]))]) H := hP
  have hD : va_D A ([(a, .inr (12, [.ref a, u, sn, .null, .null, .int 0, .int 0]))]) := hD
  refine lv_aload_n hx hb dJ0_init_2_33 rfl (lv_at hl 0 rfl) ?_
  refine lv_aload_n hx hb dJ0_init_2_34 rfl (lv_at hl 2 rfl) ?_
  refine va_put (ty := .object "java/lang/Throwable") hx hb hts in_X12 tyX12 tyX12_ok nmX12 hown hK hP hD hS 0 rfl rfl 0 (by decide) (hts _ q430) (fun _ h => h) rfl rfl rfl rfl (Nat.le_of_ble_eq_true rfl) dJ0_init_2_35 (fun H locs hP hD hS => ?_)
  have hP : va_P D vwCl ([(a, .inr (12, [.ref b, u, sn, .null, .null, .int 0, .int 0]))]) H := hP
  have hD : va_D A ([(a, .inr (12, [.ref b, u, sn, .null, .null, .int 0, .int 0]))]) := hD
  refine ti_withFree hx0 (fun hfr => ?_)
  exact hret (u, sn) _ _ _ _ _ _ dJ0_init_2_38 (trivial) hP hfr hS (Nat.le_refl _) (Nat.le_refl _)

set_option maxHeartbeats 1000000 in
theorem met_J0_init_2_X13 (l : Launch) (D : va_G) (E : Nat → ClassId) (htr : l.stackTraces = false) (z0 : Nat) (a b : Nat) : ti_MetF (σ := Value × Value) l D E yJ0_init_2 cJ0_init_2 3 none 3 0 0 z0 ([(a, .inr (13, [.null, .null, .null, .null, .null, .int 0, .int 0]))]) [.ref a, .null, .ref b] (ti_free a) (fun w => [(a, .inr (13, [.ref b, w.1, w.2, .null, .null, .int 0, .int 0]))]) (fun _ => none) (fun _ => True) (fun _ H => ti_free a H) := by
  refine ti_metFV (σ := Value × Value) (by decide) (Nat.le_of_ble_eq_true rfl) ?_
  intro p e s m below meth c H H0 A Q ls S hE hP hD hS hA h0 hZ hAz hx0 hinit hl hret
  subst h0
  obtain ⟨u, hu, hZu⟩ := ti_Zq_val (hZ.1.narrow hAz).1
  obtain ⟨sn, hsn, hZn⟩ := ti_Zq_val (hZ.2.1.narrow hAz).1
  have hLU := (hZ.1.narrow hAz).2
  have hLN := (hZ.2.1.narrow hAz).2
  have hx := S.1
  have hb := S.2.1
  have hown := S.2.2.2.1
  have hts := S.2.2.2.2
  have hK := hE.1
  have hl : lv_has ls 3 [(0, .ref a), (1, .null), (2, .ref b)] := hl
  refine lv_aload_n hx hb dJ0_init_2_0 rfl (lv_at hl 0 rfl) ?_
  refine W.objInit hx hb hown (hts _ q384) (hts _ q100) (hts _ q101) rfl (by rw [S.2.2.1]; exact hl.1) rfl dJ0_init_2_1 (Nat.le_of_ble_eq_true rfl) (Nat.le_of_ble_eq_true rfl) ?_
  refine W.eq (g2 := F0 m 4 ls []) rfl ?_
  refine lv_aload_n hx hb dJ0_init_2_4 rfl (lv_at hl 0 rfl) ?_
  refine lv_aload_n hx hb dJ0_init_2_5 rfl (lv_at hl 0 rfl) ?_
  refine va_put (ty := .object "java/lang/Throwable") hx hb hts in_X13 tyX13 tyX13_ok nmX13 hown hK hP hD hS 0 rfl rfl 0 (by decide) (hts _ q430) (fun _ h => h) rfl rfl rfl rfl (Nat.le_of_ble_eq_true rfl) dJ0_init_2_6 (fun H locs hP hD hS => ?_)
  have hP : va_P D vwCl ([(a, .inr (13, [.ref a, .null, .null, .null, .null, .int 0, .int 0]))]) H := hP
  have hD : va_D A ([(a, .inr (13, [.ref a, .null, .null, .null, .null, .int 0, .int 0]))]) := hD
  refine lv_aload_n hx hb dJ0_init_2_9 rfl (lv_at hl 0 rfl) ?_
  refine va_gets hx hb hZu hS hown (hts _ q385) (fun _ h => h) dJ0_init_2_10 ?_
  refine va_put (ty := .array (.object "java/lang/StackTraceElement")) hx hb hts in_X13 tyX13 tyX13_ok nmX13 hown hK hP hD hS 0 rfl rfl 1 (by decide) (hts _ q431) (fun _ h => h) rfl rfl (ti_nrA hu) (ti_ftA hu) (Nat.le_of_ble_eq_true rfl) dJ0_init_2_13 (fun H locs hP hD hS => ?_)
  have hP : va_P D vwCl ([(a, .inr (13, [.ref a, u, .null, .null, .null, .int 0, .int 0]))]) H := hP
  have hD : va_D A ([(a, .inr (13, [.ref a, u, .null, .null, .null, .int 0, .int 0]))]) := hD
  refine lv_aload_n hx hb dJ0_init_2_16 rfl (lv_at hl 0 rfl) ?_
  refine va_gets hx hb hZn hS hown (hts _ q387) (fun _ h => h) dJ0_init_2_17 ?_
  refine va_put (ty := .object "java/util/List") hx hb hts in_X13 tyX13 tyX13_ok nmX13 hown hK hP hD hS 0 rfl rfl 2 (by decide) (hts _ q432) (fun _ h => h) rfl rfl (ti_nrO hsn) (ti_ftO hsn) (Nat.le_of_ble_eq_true rfl) dJ0_init_2_20 (fun H locs hP hD hS => ?_)
  have hP : va_P D vwCl ([(a, .inr (13, [.ref a, u, sn, .null, .null, .int 0, .int 0]))]) H := hP
  have hD : va_D A ([(a, .inr (13, [.ref a, u, sn, .null, .null, .int 0, .int 0]))]) := hD
  refine lv_aload_n hx hb dJ0_init_2_23 rfl (lv_at hl 0 rfl) ?_
  refine ti_fillW (u := u) S htr hK hP hS hLU hLN hu hZu 0 rfl rfl rfl rfl (by decide) rfl rfl (hD.2 0 _ rfl) q658 q393 q660 hx0 (Nat.le_of_ble_eq_true rfl) ⟨Nat.le_of_ble_eq_true rfl, Nat.le_of_ble_eq_true rfl⟩ hl.1 dJ0_init_2_24 (fun locs hS => ?_)
  refine lv_pop hx hb dJ0_init_2_27 rfl ?_
  refine lv_aload_n hx hb dJ0_init_2_28 rfl (lv_at hl 0 rfl) ?_
  refine lv_aload_nN hx hb dJ0_init_2_29 rfl (lv_at hl 1 rfl) ?_
  refine va_put (ty := .object "java/lang/String") hx hb hts in_X13 tyX13 tyX13_ok nmX13 hown hK hP hD hS 0 rfl rfl 3 (by decide) (hts _ q429) (fun _ h => h) rfl rfl rfl rfl (Nat.le_of_ble_eq_true rfl) dJ0_init_2_30 (fun H locs hP hD hS => ?_)
  have hP : va_P D vwCl ([(a, .inr (13, [.ref a, u, sn, .null, .null, .int 0, .int 0]))]) H := hP
  have hD : va_D A ([(a, .inr (13, [.ref a, u, sn, .null, .null, .int 0, .int 0]))]) := hD
  refine lv_aload_n hx hb dJ0_init_2_33 rfl (lv_at hl 0 rfl) ?_
  refine lv_aload_n hx hb dJ0_init_2_34 rfl (lv_at hl 2 rfl) ?_
  refine va_put (ty := .object "java/lang/Throwable") hx hb hts in_X13 tyX13 tyX13_ok nmX13 hown hK hP hD hS 0 rfl rfl 0 (by decide) (hts _ q430) (fun _ h => h) rfl rfl rfl rfl (Nat.le_of_ble_eq_true rfl) dJ0_init_2_35 (fun H locs hP hD hS => ?_)
  have hP : va_P D vwCl ([(a, .inr (13, [.ref b, u, sn, .null, .null, .int 0, .int 0]))]) H := hP
  have hD : va_D A ([(a, .inr (13, [.ref b, u, sn, .null, .null, .int 0, .int 0]))]) := hD
  refine ti_withFree hx0 (fun hfr => ?_)
  exact hret (u, sn) _ _ _ _ _ _ dJ0_init_2_38 (trivial) hP hfr hS (Nat.le_refl _) (Nat.le_refl _)

set_option maxHeartbeats 1000000 in
theorem met_J0_init_2_X14 (l : Launch) (D : va_G) (E : Nat → ClassId) (htr : l.stackTraces = false) (z0 : Nat) (a b : Nat) : ti_MetF (σ := Value × Value) l D E yJ0_init_2 cJ0_init_2 3 none 3 0 0 z0 ([(a, .inr (14, [.null, .null, .null, .null, .null, .int 0, .int 0]))]) [.ref a, .null, .ref b] (ti_free a) (fun w => [(a, .inr (14, [.ref b, w.1, w.2, .null, .null, .int 0, .int 0]))]) (fun _ => none) (fun _ => True) (fun _ H => ti_free a H) := by
  refine ti_metFV (σ := Value × Value) (by decide) (Nat.le_of_ble_eq_true rfl) ?_
  intro p e s m below meth c H H0 A Q ls S hE hP hD hS hA h0 hZ hAz hx0 hinit hl hret
  subst h0
  obtain ⟨u, hu, hZu⟩ := ti_Zq_val (hZ.1.narrow hAz).1
  obtain ⟨sn, hsn, hZn⟩ := ti_Zq_val (hZ.2.1.narrow hAz).1
  have hLU := (hZ.1.narrow hAz).2
  have hLN := (hZ.2.1.narrow hAz).2
  have hx := S.1
  have hb := S.2.1
  have hown := S.2.2.2.1
  have hts := S.2.2.2.2
  have hK := hE.1
  have hl : lv_has ls 3 [(0, .ref a), (1, .null), (2, .ref b)] := hl
  refine lv_aload_n hx hb dJ0_init_2_0 rfl (lv_at hl 0 rfl) ?_
  refine W.objInit hx hb hown (hts _ q384) (hts _ q100) (hts _ q101) rfl (by rw [S.2.2.1]; exact hl.1) rfl dJ0_init_2_1 (Nat.le_of_ble_eq_true rfl) (Nat.le_of_ble_eq_true rfl) ?_
  refine W.eq (g2 := F0 m 4 ls []) rfl ?_
  refine lv_aload_n hx hb dJ0_init_2_4 rfl (lv_at hl 0 rfl) ?_
  refine lv_aload_n hx hb dJ0_init_2_5 rfl (lv_at hl 0 rfl) ?_
  refine va_put (ty := .object "java/lang/Throwable") hx hb hts in_X14 tyX14 tyX14_ok nmX14 hown hK hP hD hS 0 rfl rfl 0 (by decide) (hts _ q430) (fun _ h => h) rfl rfl rfl rfl (Nat.le_of_ble_eq_true rfl) dJ0_init_2_6 (fun H locs hP hD hS => ?_)
  have hP : va_P D vwCl ([(a, .inr (14, [.ref a, .null, .null, .null, .null, .int 0, .int 0]))]) H := hP
  have hD : va_D A ([(a, .inr (14, [.ref a, .null, .null, .null, .null, .int 0, .int 0]))]) := hD
  refine lv_aload_n hx hb dJ0_init_2_9 rfl (lv_at hl 0 rfl) ?_
  refine va_gets hx hb hZu hS hown (hts _ q385) (fun _ h => h) dJ0_init_2_10 ?_
  refine va_put (ty := .array (.object "java/lang/StackTraceElement")) hx hb hts in_X14 tyX14 tyX14_ok nmX14 hown hK hP hD hS 0 rfl rfl 1 (by decide) (hts _ q431) (fun _ h => h) rfl rfl (ti_nrA hu) (ti_ftA hu) (Nat.le_of_ble_eq_true rfl) dJ0_init_2_13 (fun H locs hP hD hS => ?_)
  have hP : va_P D vwCl ([(a, .inr (14, [.ref a, u, .null, .null, .null, .int 0, .int 0]))]) H := hP
  have hD : va_D A ([(a, .inr (14, [.ref a, u, .null, .null, .null, .int 0, .int 0]))]) := hD
  refine lv_aload_n hx hb dJ0_init_2_16 rfl (lv_at hl 0 rfl) ?_
  refine va_gets hx hb hZn hS hown (hts _ q387) (fun _ h => h) dJ0_init_2_17 ?_
  refine va_put (ty := .object "java/util/List") hx hb hts in_X14 tyX14 tyX14_ok nmX14 hown hK hP hD hS 0 rfl rfl 2 (by decide) (hts _ q432) (fun _ h => h) rfl rfl (ti_nrO hsn) (ti_ftO hsn) (Nat.le_of_ble_eq_true rfl) dJ0_init_2_20 (fun H locs hP hD hS => ?_)
  have hP : va_P D vwCl ([(a, .inr (14, [.ref a, u, sn, .null, .null, .int 0, .int 0]))]) H := hP
  have hD : va_D A ([(a, .inr (14, [.ref a, u, sn, .null, .null, .int 0, .int 0]))]) := hD
  refine lv_aload_n hx hb dJ0_init_2_23 rfl (lv_at hl 0 rfl) ?_
  refine ti_fillW (u := u) S htr hK hP hS hLU hLN hu hZu 0 rfl rfl rfl rfl (by decide) rfl rfl (hD.2 0 _ rfl) q701 q392 q703 hx0 (Nat.le_of_ble_eq_true rfl) ⟨Nat.le_of_ble_eq_true rfl, Nat.le_of_ble_eq_true rfl⟩ hl.1 dJ0_init_2_24 (fun locs hS => ?_)
  refine lv_pop hx hb dJ0_init_2_27 rfl ?_
  refine lv_aload_n hx hb dJ0_init_2_28 rfl (lv_at hl 0 rfl) ?_
  refine lv_aload_nN hx hb dJ0_init_2_29 rfl (lv_at hl 1 rfl) ?_
  refine va_put (ty := .object "java/lang/String") hx hb hts in_X14 tyX14 tyX14_ok nmX14 hown hK hP hD hS 0 rfl rfl 3 (by decide) (hts _ q429) (fun _ h => h) rfl rfl rfl rfl (Nat.le_of_ble_eq_true rfl) dJ0_init_2_30 (fun H locs hP hD hS => ?_)
  have hP : va_P D vwCl ([(a, .inr (14, [.ref a, u, sn, .null, .null, .int 0, .int 0]))]) H := hP
  have hD : va_D A ([(a, .inr (14, [.ref a, u, sn, .null, .null, .int 0, .int 0]))]) := hD
  refine lv_aload_n hx hb dJ0_init_2_33 rfl (lv_at hl 0 rfl) ?_
  refine lv_aload_n hx hb dJ0_init_2_34 rfl (lv_at hl 2 rfl) ?_
  refine va_put (ty := .object "java/lang/Throwable") hx hb hts in_X14 tyX14 tyX14_ok nmX14 hown hK hP hD hS 0 rfl rfl 0 (by decide) (hts _ q430) (fun _ h => h) rfl rfl rfl rfl (Nat.le_of_ble_eq_true rfl) dJ0_init_2_35 (fun H locs hP hD hS => ?_)
  have hP : va_P D vwCl ([(a, .inr (14, [.ref b, u, sn, .null, .null, .int 0, .int 0]))]) H := hP
  have hD : va_D A ([(a, .inr (14, [.ref b, u, sn, .null, .null, .int 0, .int 0]))]) := hD
  refine ti_withFree hx0 (fun hfr => ?_)
  exact hret (u, sn) _ _ _ _ _ _ dJ0_init_2_38 (trivial) hP hfr hS (Nat.le_refl _) (Nat.le_refl _)

set_option maxHeartbeats 1000000 in
theorem met_J1_init_X8 (l : Launch) (D : va_G) (E : Nat → ClassId) (htr : l.stackTraces = false) (z0 : Nat) (a : Nat) : ti_MetF (σ := Value × Value) l D E yJ1_init cJ1_init 1 none 4 0 0 z0 ([(a, .inr (8, [.null, .null, .null, .null, .null, .int 0]))]) [.ref a] (ti_free a) (fun w => [(a, .inr (8, [.ref a, w.1, w.2, .null, .null, .int 0]))]) (fun _ => none) (fun _ => True) (fun _ H => ti_free a H) := by
  refine ti_metFV (σ := Value × Value) (by decide) (Nat.le_of_ble_eq_true rfl) ?_
  intro p e s m below meth c H H0 A Q ls S hE hP hD hS hA h0 hZ hAz hx0 hinit hl hret
  subst h0
  have hx := S.1
  have hb := S.2.1
  have hown := S.2.2.2.1
  have hts := S.2.2.2.2
  have hK := hE.1
  have hl : lv_has ls 1 [(0, .ref a)] := hl
  refine lv_aload_n hx hb dJ1_init_0 rfl (lv_at hl 0 rfl) ?_
  refine ti_withFree hx0 (fun hfr1 => ?_)
  refine ti_fI (As := []) (rest := []) S hE hP hD hS hA rfl hZ hAz hfr1 [0] rfl (met_J0_init_X8 l D E htr z0 a ) rfl (fun _ => rfl) (lw_meth q383) q75 q427 q382 rfl 0 rfl (by decide +kernel) ⟨Nat.le_of_ble_eq_true rfl, Nat.le_of_ble_eq_true rfl⟩ hl.1 rfl (Nat.le_of_ble_eq_true rfl) ⟨Nat.le_refl _, Nat.le_refl _⟩ dJ1_init_1 (fun w9 H locs hu hxq hFr hP hD hS => ?_)
  have hP : va_P D vwCl ([(a, .inr (8, [.ref a, w9.1, w9.2, .null, .null, .int 0]))]) H := hP
  have hD : va_D A ([(a, .inr (8, [.ref a, w9.1, w9.2, .null, .null, .int 0]))]) := hD
  refine W.eq (g2 := F0 m 4 ls []) rfl ?_
  refine ti_withFree hx0 (fun hfr => ?_)
  exact hret w9 _ _ _ _ _ _ dJ1_init_4 (trivial) hP hfr hS (Nat.le_refl _) (Nat.le_refl _)

set_option maxHeartbeats 1000000 in
theorem met_J1_init_X10 (l : Launch) (D : va_G) (E : Nat → ClassId) (htr : l.stackTraces = false) (z0 : Nat) (a : Nat) : ti_MetF (σ := Value × Value) l D E yJ1_init cJ1_init 1 none 4 0 0 z0 ([(a, .inr (10, [.null, .null, .null, .null, .null, .int 0, .int 0]))]) [.ref a] (ti_free a) (fun w => [(a, .inr (10, [.ref a, w.1, w.2, .null, .null, .int 0, .int 0]))]) (fun _ => none) (fun _ => True) (fun _ H => ti_free a H) := by
  refine ti_metFV (σ := Value × Value) (by decide) (Nat.le_of_ble_eq_true rfl) ?_
  intro p e s m below meth c H H0 A Q ls S hE hP hD hS hA h0 hZ hAz hx0 hinit hl hret
  subst h0
  have hx := S.1
  have hb := S.2.1
  have hown := S.2.2.2.1
  have hts := S.2.2.2.2
  have hK := hE.1
  have hl : lv_has ls 1 [(0, .ref a)] := hl
  refine lv_aload_n hx hb dJ1_init_0 rfl (lv_at hl 0 rfl) ?_
  refine ti_withFree hx0 (fun hfr1 => ?_)
  refine ti_fI (As := []) (rest := []) S hE hP hD hS hA rfl hZ hAz hfr1 [0] rfl (met_J0_init_X10 l D E htr z0 a ) rfl (fun _ => rfl) (lw_meth q383) q75 q427 q382 rfl 0 rfl (by decide +kernel) ⟨Nat.le_of_ble_eq_true rfl, Nat.le_of_ble_eq_true rfl⟩ hl.1 rfl (Nat.le_of_ble_eq_true rfl) ⟨Nat.le_refl _, Nat.le_refl _⟩ dJ1_init_1 (fun w9 H locs hu hxq hFr hP hD hS => ?_)
  have hP : va_P D vwCl ([(a, .inr (10, [.ref a, w9.1, w9.2, .null, .null, .int 0, .int 0]))]) H := hP
  have hD : va_D A ([(a, .inr (10, [.ref a, w9.1, w9.2, .null, .null, .int 0, .int 0]))]) := hD
  refine W.eq (g2 := F0 m 4 ls []) rfl ?_
  refine ti_withFree hx0 (fun hfr => ?_)
  exact hret w9 _ _ _ _ _ _ dJ1_init_4 (trivial) hP hfr hS (Nat.le_refl _) (Nat.le_refl _)

set_option maxHeartbeats 1000000 in
theorem met_J1_init_X12 (l : Launch) (D : va_G) (E : Nat → ClassId) (htr : l.stackTraces = false) (z0 : Nat) (a : Nat) : ti_MetF (σ := Value × Value) l D E yJ1_init cJ1_init 1 none 4 0 0 z0 ([(a, .inr (12, [.null, .null, .null, .null, .null, .int 0, .int 0]))]) [.ref a] (ti_free a) (fun w => [(a, .inr (12, [.ref a, w.1, w.2, .null, .null, .int 0, .int 0]))]) (fun _ => none) (fun _ => True) (fun _ H => ti_free a H) := by
  refine ti_metFV (σ := Value × Value) (by decide) (Nat.le_of_ble_eq_true rfl) ?_
  intro p e s m below meth c H H0 A Q ls S hE hP hD hS hA h0 hZ hAz hx0 hinit hl hret
  subst h0
  have hx := S.1
  have hb := S.2.1
  have hown := S.2.2.2.1
  have hts := S.2.2.2.2
  have hK := hE.1
  have hl : lv_has ls 1 [(0, .ref a)] := hl
  refine lv_aload_n hx hb dJ1_init_0 rfl (lv_at hl 0 rfl) ?_
  refine ti_withFree hx0 (fun hfr1 => ?_)
  refine ti_fI (As := []) (rest := []) S hE hP hD hS hA rfl hZ hAz hfr1 [0] rfl (met_J0_init_X12 l D E htr z0 a ) rfl (fun _ => rfl) (lw_meth q383) q75 q427 q382 rfl 0 rfl (by decide +kernel) ⟨Nat.le_of_ble_eq_true rfl, Nat.le_of_ble_eq_true rfl⟩ hl.1 rfl (Nat.le_of_ble_eq_true rfl) ⟨Nat.le_refl _, Nat.le_refl _⟩ dJ1_init_1 (fun w9 H locs hu hxq hFr hP hD hS => ?_)
  have hP : va_P D vwCl ([(a, .inr (12, [.ref a, w9.1, w9.2, .null, .null, .int 0, .int 0]))]) H := hP
  have hD : va_D A ([(a, .inr (12, [.ref a, w9.1, w9.2, .null, .null, .int 0, .int 0]))]) := hD
  refine W.eq (g2 := F0 m 4 ls []) rfl ?_
  refine ti_withFree hx0 (fun hfr => ?_)
  exact hret w9 _ _ _ _ _ _ dJ1_init_4 (trivial) hP hfr hS (Nat.le_refl _) (Nat.le_refl _)

set_option maxHeartbeats 1000000 in
theorem met_J1_init_X15 (l : Launch) (D : va_G) (E : Nat → ClassId) (htr : l.stackTraces = false) (z0 : Nat) (a : Nat) : ti_MetF (σ := Value × Value) l D E yJ1_init cJ1_init 1 none 4 0 0 z0 ([(a, .inr (15, [.null, .null, .null, .null, .null, .int 0, .int 0]))]) [.ref a] (ti_free a) (fun w => [(a, .inr (15, [.ref a, w.1, w.2, .null, .null, .int 0, .int 0]))]) (fun _ => none) (fun _ => True) (fun _ H => ti_free a H) := by
  refine ti_metFV (σ := Value × Value) (by decide) (Nat.le_of_ble_eq_true rfl) ?_
  intro p e s m below meth c H H0 A Q ls S hE hP hD hS hA h0 hZ hAz hx0 hinit hl hret
  subst h0
  have hx := S.1
  have hb := S.2.1
  have hown := S.2.2.2.1
  have hts := S.2.2.2.2
  have hK := hE.1
  have hl : lv_has ls 1 [(0, .ref a)] := hl
  refine lv_aload_n hx hb dJ1_init_0 rfl (lv_at hl 0 rfl) ?_
  refine ti_withFree hx0 (fun hfr1 => ?_)
  refine ti_fI (As := []) (rest := []) S hE hP hD hS hA rfl hZ hAz hfr1 [0] rfl (met_J0_init_X15 l D E htr z0 a ) rfl (fun _ => rfl) (lw_meth q383) q75 q427 q382 rfl 0 rfl (by decide +kernel) ⟨Nat.le_of_ble_eq_true rfl, Nat.le_of_ble_eq_true rfl⟩ hl.1 rfl (Nat.le_of_ble_eq_true rfl) ⟨Nat.le_refl _, Nat.le_refl _⟩ dJ1_init_1 (fun w9 H locs hu hxq hFr hP hD hS => ?_)
  have hP : va_P D vwCl ([(a, .inr (15, [.ref a, w9.1, w9.2, .null, .null, .int 0, .int 0]))]) H := hP
  have hD : va_D A ([(a, .inr (15, [.ref a, w9.1, w9.2, .null, .null, .int 0, .int 0]))]) := hD
  refine W.eq (g2 := F0 m 4 ls []) rfl ?_
  refine ti_withFree hx0 (fun hfr => ?_)
  exact hret w9 _ _ _ _ _ _ dJ1_init_4 (trivial) hP hfr hS (Nat.le_refl _) (Nat.le_refl _)

set_option maxHeartbeats 1000000 in
theorem met_J1_init_2_X12 (l : Launch) (D : va_G) (E : Nat → ClassId) (htr : l.stackTraces = false) (z0 : Nat) (a b : Nat) : ti_MetF (σ := Value × Value) l D E yJ1_init_2 cJ1_init_2 3 none 4 0 0 z0 ([(a, .inr (12, [.null, .null, .null, .null, .null, .int 0, .int 0]))]) [.ref a, .null, .ref b] (ti_free a) (fun w => [(a, .inr (12, [.ref b, w.1, w.2, .null, .null, .int 0, .int 0]))]) (fun _ => none) (fun _ => True) (fun _ H => ti_free a H) := by
  refine ti_metFV (σ := Value × Value) (by decide) (Nat.le_of_ble_eq_true rfl) ?_
  intro p e s m below meth c H H0 A Q ls S hE hP hD hS hA h0 hZ hAz hx0 hinit hl hret
  subst h0
  have hx := S.1
  have hb := S.2.1
  have hown := S.2.2.2.1
  have hts := S.2.2.2.2
  have hK := hE.1
  have hl : lv_has ls 3 [(0, .ref a), (1, .null), (2, .ref b)] := hl
  refine lv_aload_n hx hb dJ1_init_2_0 rfl (lv_at hl 0 rfl) ?_
  refine lv_aload_nN hx hb dJ1_init_2_1 rfl (lv_at hl 1 rfl) ?_
  refine lv_aload_n hx hb dJ1_init_2_2 rfl (lv_at hl 2 rfl) ?_
  refine ti_withFree hx0 (fun hfr1 => ?_)
  refine ti_fI (As := [.null, .ref b]) (rest := []) S hE hP hD hS hA rfl hZ hAz hfr1 [0] rfl (met_J0_init_2_X12 l D E htr z0 a b) rfl (fun _ => rfl) (lw_meth q690) q75 q688 q689 rfl 2 rfl (by decide +kernel) ⟨Nat.le_of_ble_eq_true rfl, Nat.le_of_ble_eq_true rfl⟩ hl.1 rfl (Nat.le_of_ble_eq_true rfl) ⟨Nat.le_refl _, Nat.le_refl _⟩ dJ1_init_2_3 (fun w9 H locs hu hxq hFr hP hD hS => ?_)
  have hP : va_P D vwCl ([(a, .inr (12, [.ref b, w9.1, w9.2, .null, .null, .int 0, .int 0]))]) H := hP
  have hD : va_D A ([(a, .inr (12, [.ref b, w9.1, w9.2, .null, .null, .int 0, .int 0]))]) := hD
  refine W.eq (g2 := F0 m 6 ls []) rfl ?_
  refine ti_withFree hx0 (fun hfr => ?_)
  exact hret w9 _ _ _ _ _ _ dJ1_init_2_6 (trivial) hP hfr hS (Nat.le_refl _) (Nat.le_refl _)

set_option maxHeartbeats 1000000 in
theorem met_J1_init_2_X13 (l : Launch) (D : va_G) (E : Nat → ClassId) (htr : l.stackTraces = false) (z0 : Nat) (a b : Nat) : ti_MetF (σ := Value × Value) l D E yJ1_init_2 cJ1_init_2 3 none 4 0 0 z0 ([(a, .inr (13, [.null, .null, .null, .null, .null, .int 0, .int 0]))]) [.ref a, .null, .ref b] (ti_free a) (fun w => [(a, .inr (13, [.ref b, w.1, w.2, .null, .null, .int 0, .int 0]))]) (fun _ => none) (fun _ => True) (fun _ H => ti_free a H) := by
  refine ti_metFV (σ := Value × Value) (by decide) (Nat.le_of_ble_eq_true rfl) ?_
  intro p e s m below meth c H H0 A Q ls S hE hP hD hS hA h0 hZ hAz hx0 hinit hl hret
  subst h0
  have hx := S.1
  have hb := S.2.1
  have hown := S.2.2.2.1
  have hts := S.2.2.2.2
  have hK := hE.1
  have hl : lv_has ls 3 [(0, .ref a), (1, .null), (2, .ref b)] := hl
  refine lv_aload_n hx hb dJ1_init_2_0 rfl (lv_at hl 0 rfl) ?_
  refine lv_aload_nN hx hb dJ1_init_2_1 rfl (lv_at hl 1 rfl) ?_
  refine lv_aload_n hx hb dJ1_init_2_2 rfl (lv_at hl 2 rfl) ?_
  refine ti_withFree hx0 (fun hfr1 => ?_)
  refine ti_fI (As := [.null, .ref b]) (rest := []) S hE hP hD hS hA rfl hZ hAz hfr1 [0] rfl (met_J0_init_2_X13 l D E htr z0 a b) rfl (fun _ => rfl) (lw_meth q690) q75 q688 q689 rfl 2 rfl (by decide +kernel) ⟨Nat.le_of_ble_eq_true rfl, Nat.le_of_ble_eq_true rfl⟩ hl.1 rfl (Nat.le_of_ble_eq_true rfl) ⟨Nat.le_refl _, Nat.le_refl _⟩ dJ1_init_2_3 (fun w9 H locs hu hxq hFr hP hD hS => ?_)
  have hP : va_P D vwCl ([(a, .inr (13, [.ref b, w9.1, w9.2, .null, .null, .int 0, .int 0]))]) H := hP
  have hD : va_D A ([(a, .inr (13, [.ref b, w9.1, w9.2, .null, .null, .int 0, .int 0]))]) := hD
  refine W.eq (g2 := F0 m 6 ls []) rfl ?_
  refine ti_withFree hx0 (fun hfr => ?_)
  exact hret w9 _ _ _ _ _ _ dJ1_init_2_6 (trivial) hP hfr hS (Nat.le_refl _) (Nat.le_refl _)

set_option maxHeartbeats 1000000 in
theorem met_J1_init_2_X14 (l : Launch) (D : va_G) (E : Nat → ClassId) (htr : l.stackTraces = false) (z0 : Nat) (a b : Nat) : ti_MetF (σ := Value × Value) l D E yJ1_init_2 cJ1_init_2 3 none 4 0 0 z0 ([(a, .inr (14, [.null, .null, .null, .null, .null, .int 0, .int 0]))]) [.ref a, .null, .ref b] (ti_free a) (fun w => [(a, .inr (14, [.ref b, w.1, w.2, .null, .null, .int 0, .int 0]))]) (fun _ => none) (fun _ => True) (fun _ H => ti_free a H) := by
  refine ti_metFV (σ := Value × Value) (by decide) (Nat.le_of_ble_eq_true rfl) ?_
  intro p e s m below meth c H H0 A Q ls S hE hP hD hS hA h0 hZ hAz hx0 hinit hl hret
  subst h0
  have hx := S.1
  have hb := S.2.1
  have hown := S.2.2.2.1
  have hts := S.2.2.2.2
  have hK := hE.1
  have hl : lv_has ls 3 [(0, .ref a), (1, .null), (2, .ref b)] := hl
  refine lv_aload_n hx hb dJ1_init_2_0 rfl (lv_at hl 0 rfl) ?_
  refine lv_aload_nN hx hb dJ1_init_2_1 rfl (lv_at hl 1 rfl) ?_
  refine lv_aload_n hx hb dJ1_init_2_2 rfl (lv_at hl 2 rfl) ?_
  refine ti_withFree hx0 (fun hfr1 => ?_)
  refine ti_fI (As := [.null, .ref b]) (rest := []) S hE hP hD hS hA rfl hZ hAz hfr1 [0] rfl (met_J0_init_2_X14 l D E htr z0 a b) rfl (fun _ => rfl) (lw_meth q690) q75 q688 q689 rfl 2 rfl (by decide +kernel) ⟨Nat.le_of_ble_eq_true rfl, Nat.le_of_ble_eq_true rfl⟩ hl.1 rfl (Nat.le_of_ble_eq_true rfl) ⟨Nat.le_refl _, Nat.le_refl _⟩ dJ1_init_2_3 (fun w9 H locs hu hxq hFr hP hD hS => ?_)
  have hP : va_P D vwCl ([(a, .inr (14, [.ref b, w9.1, w9.2, .null, .null, .int 0, .int 0]))]) H := hP
  have hD : va_D A ([(a, .inr (14, [.ref b, w9.1, w9.2, .null, .null, .int 0, .int 0]))]) := hD
  refine W.eq (g2 := F0 m 6 ls []) rfl ?_
  refine ti_withFree hx0 (fun hfr => ?_)
  exact hret w9 _ _ _ _ _ _ dJ1_init_2_6 (trivial) hP hfr hS (Nat.le_refl _) (Nat.le_refl _)

set_option maxHeartbeats 1000000 in
theorem met_J3_init_2_X15 (l : Launch) (D : va_G) (E : Nat → ClassId) (htr : l.stackTraces = false) (z0 : Nat) (a : Nat) : ti_MetF (σ := Value × Value) l D E yJ3_init_2 cJ3_init_2 1 none 5 0 0 z0 ([(a, .inr (15, [.null, .null, .null, .null, .null, .int 0, .int 0]))]) [.ref a] (ti_free a) (fun w => [(a, .inr (15, [.ref a, w.1, w.2, .null, .null, .int 0, .int 0]))]) (fun _ => none) (fun _ => True) (fun _ H => ti_free a H) := by
  refine ti_metFV (σ := Value × Value) (by decide) (Nat.le_of_ble_eq_true rfl) ?_
  intro p e s m below meth c H H0 A Q ls S hE hP hD hS hA h0 hZ hAz hx0 hinit hl hret
  subst h0
  have hx := S.1
  have hb := S.2.1
  have hown := S.2.2.2.1
  have hts := S.2.2.2.2
  have hK := hE.1
  have hl : lv_has ls 1 [(0, .ref a)] := hl
  refine lv_aload_n hx hb dJ3_init_2_0 rfl (lv_at hl 0 rfl) ?_
  refine ti_withFree hx0 (fun hfr1 => ?_)
  refine ti_fI (As := []) (rest := []) S hE hP hD hS hA rfl hZ hAz hfr1 [0] rfl (met_J1_init_X15 l D E htr z0 a ) rfl (fun _ => rfl) (lw_meth q426) q76 q953 q425 rfl 0 rfl (by decide +kernel) ⟨Nat.le_of_ble_eq_true rfl, Nat.le_of_ble_eq_true rfl⟩ hl.1 rfl (Nat.le_of_ble_eq_true rfl) ⟨Nat.le_refl _, Nat.le_refl _⟩ dJ3_init_2_1 (fun w9 H locs hu hxq hFr hP hD hS => ?_)
  have hP : va_P D vwCl ([(a, .inr (15, [.ref a, w9.1, w9.2, .null, .null, .int 0, .int 0]))]) H := hP
  have hD : va_D A ([(a, .inr (15, [.ref a, w9.1, w9.2, .null, .null, .int 0, .int 0]))]) := hD
  refine W.eq (g2 := F0 m 4 ls []) rfl ?_
  refine ti_withFree hx0 (fun hfr => ?_)
  exact hret w9 _ _ _ _ _ _ dJ3_init_2_4 (trivial) hP hfr hS (Nat.le_refl _) (Nat.le_refl _)

set_option maxHeartbeats 1000000 in
theorem met_X8_init (l : Launch) (D : va_G) (E : Nat → ClassId) (htr : l.stackTraces = false) (z0 : Nat) (a : Nat) : ti_MetF (σ := Value × Value) l D E yX8_init cX8_init 1 none 5 0 0 z0 ([(a, .inr (8, [.null, .null, .null, .null, .null, .int 0]))]) [.ref a] (ti_free a) (fun w => [(a, .inr (8, [.ref a, w.1, w.2, .null, .null, .int 0]))]) (fun _ => none) (fun _ => True) (fun _ H => ti_free a H) := by
  refine ti_metFV (σ := Value × Value) (by decide) (Nat.le_of_ble_eq_true rfl) ?_
  intro p e s m below meth c H H0 A Q ls S hE hP hD hS hA h0 hZ hAz hx0 hinit hl hret
  subst h0
  have hx := S.1
  have hb := S.2.1
  have hown := S.2.2.2.1
  have hts := S.2.2.2.2
  have hK := hE.1
  have hl : lv_has ls 1 [(0, .ref a)] := hl
  refine lv_aload_n hx hb dX8_init_0 rfl (lv_at hl 0 rfl) ?_
  refine ti_withFree hx0 (fun hfr1 => ?_)
  refine ti_fI (As := []) (rest := []) S hE hP hD hS hA rfl hZ hAz hfr1 [0] rfl (met_J1_init_X8 l D E htr z0 a ) rfl (fun _ => rfl) (lw_meth q426) q76 q424 q425 rfl 0 rfl (by decide +kernel) ⟨Nat.le_of_ble_eq_true rfl, Nat.le_of_ble_eq_true rfl⟩ hl.1 rfl (Nat.le_of_ble_eq_true rfl) ⟨Nat.le_refl _, Nat.le_refl _⟩ dX8_init_1 (fun w9 H locs hu hxq hFr hP hD hS => ?_)
  have hP : va_P D vwCl ([(a, .inr (8, [.ref a, w9.1, w9.2, .null, .null, .int 0]))]) H := hP
  have hD : va_D A ([(a, .inr (8, [.ref a, w9.1, w9.2, .null, .null, .int 0]))]) := hD
  refine W.eq (g2 := F0 m 4 ls []) rfl ?_
  refine ti_withFree hx0 (fun hfr => ?_)
  exact hret w9 _ _ _ _ _ _ dX8_init_4 (trivial) hP hfr hS (Nat.le_refl _) (Nat.le_refl _)

set_option maxHeartbeats 1000000 in
theorem met_X10_init (l : Launch) (D : va_G) (E : Nat → ClassId) (htr : l.stackTraces = false) (z0 : Nat) (a : Nat) (v : Int32) : ti_MetF (σ := Value × Value) l D E yX10_init cX10_init 2 none 5 0 0 z0 ([(a, .inr (10, [.null, .null, .null, .null, .null, .int 0, .int 0]))]) [.ref a, .int v] (ti_free a) (fun w => [(a, .inr (10, [.ref a, w.1, w.2, .null, .null, .int 0, .int v]))]) (fun _ => none) (fun _ => True) (fun _ H => ti_free a H) := by
  refine ti_metFV (σ := Value × Value) (by decide) (Nat.le_of_ble_eq_true rfl) ?_
  intro p e s m below meth c H H0 A Q ls S hE hP hD hS hA h0 hZ hAz hx0 hinit hl hret
  subst h0
  have hx := S.1
  have hb := S.2.1
  have hown := S.2.2.2.1
  have hts := S.2.2.2.2
  have hK := hE.1
  have hl : lv_has ls 2 [(0, .ref a), (1, .int v)] := hl
  refine lv_aload_n hx hb dX10_init_0 rfl (lv_at hl 0 rfl) ?_
  refine ti_withFree hx0 (fun hfr1 => ?_)
  refine ti_fI (As := []) (rest := []) S hE hP hD hS hA rfl hZ hAz hfr1 [0] rfl (met_J1_init_X10 l D E htr z0 a ) rfl (fun _ => rfl) (lw_meth q426) q76 q537 q425 rfl 0 rfl (by decide +kernel) ⟨Nat.le_of_ble_eq_true rfl, Nat.le_of_ble_eq_true rfl⟩ hl.1 rfl (Nat.le_of_ble_eq_true rfl) ⟨Nat.le_refl _, Nat.le_refl _⟩ dX10_init_1 (fun w9 H locs hu hxq hFr hP hD hS => ?_)
  have hP : va_P D vwCl ([(a, .inr (10, [.ref a, w9.1, w9.2, .null, .null, .int 0, .int 0]))]) H := hP
  have hD : va_D A ([(a, .inr (10, [.ref a, w9.1, w9.2, .null, .null, .int 0, .int 0]))]) := hD
  refine W.eq (g2 := F0 m 4 ls []) rfl ?_
  refine lv_aload_n hx hb dX10_init_4 rfl (lv_at hl 0 rfl) ?_
  refine lv_iload_n hx hb dX10_init_5 rfl (lv_at hl 1 rfl) ?_
  refine va_putF (ty := .int) hx hb hts in_X10 tyX10 tyX10_ok nmX10 hown hK hP hD hS 0 rfl rfl 6 (by decide) (hts _ q538) (fun _ h => h) rfl hinit rfl rfl rfl rfl (Nat.le_of_ble_eq_true rfl) dX10_init_6 (fun H locs hP hD hS => ?_)
  have hP : va_P D vwCl ([(a, .inr (10, [.ref a, w9.1, w9.2, .null, .null, .int 0, .int v]))]) H := hP
  have hD : va_D A ([(a, .inr (10, [.ref a, w9.1, w9.2, .null, .null, .int 0, .int v]))]) := hD
  refine ti_withFree hx0 (fun hfr => ?_)
  exact hret w9 _ _ _ _ _ _ dX10_init_9 (trivial) hP hfr hS (Nat.le_refl _) (Nat.le_refl _)

set_option maxHeartbeats 1000000 in
theorem met_X12_init (l : Launch) (D : va_G) (E : Nat → ClassId) (htr : l.stackTraces = false) (z0 : Nat) (a : Nat) (v : Int32) : ti_MetF (σ := Value × Value) l D E yX12_init cX12_init 2 none 5 0 0 z0 ([(a, .inr (12, [.null, .null, .null, .null, .null, .int 0, .int 0]))]) [.ref a, .int v] (ti_free a) (fun w => [(a, .inr (12, [.ref a, w.1, w.2, .null, .null, .int 0, .int v]))]) (fun _ => none) (fun _ => True) (fun _ H => ti_free a H) := by
  refine ti_metFV (σ := Value × Value) (by decide) (Nat.le_of_ble_eq_true rfl) ?_
  intro p e s m below meth c H H0 A Q ls S hE hP hD hS hA h0 hZ hAz hx0 hinit hl hret
  subst h0
  have hx := S.1
  have hb := S.2.1
  have hown := S.2.2.2.1
  have hts := S.2.2.2.2
  have hK := hE.1
  have hl : lv_has ls 2 [(0, .ref a), (1, .int v)] := hl
  refine lv_aload_n hx hb dX12_init_0 rfl (lv_at hl 0 rfl) ?_
  refine ti_withFree hx0 (fun hfr1 => ?_)
  refine ti_fI (As := []) (rest := []) S hE hP hD hS hA rfl hZ hAz hfr1 [0] rfl (met_J1_init_X12 l D E htr z0 a ) rfl (fun _ => rfl) (lw_meth q426) q76 q676 q425 rfl 0 rfl (by decide +kernel) ⟨Nat.le_of_ble_eq_true rfl, Nat.le_of_ble_eq_true rfl⟩ hl.1 rfl (Nat.le_of_ble_eq_true rfl) ⟨Nat.le_refl _, Nat.le_refl _⟩ dX12_init_1 (fun w9 H locs hu hxq hFr hP hD hS => ?_)
  have hP : va_P D vwCl ([(a, .inr (12, [.ref a, w9.1, w9.2, .null, .null, .int 0, .int 0]))]) H := hP
  have hD : va_D A ([(a, .inr (12, [.ref a, w9.1, w9.2, .null, .null, .int 0, .int 0]))]) := hD
  refine W.eq (g2 := F0 m 4 ls []) rfl ?_
  refine lv_aload_n hx hb dX12_init_4 rfl (lv_at hl 0 rfl) ?_
  refine lv_iload_n hx hb dX12_init_5 rfl (lv_at hl 1 rfl) ?_
  refine va_putF (ty := .int) hx hb hts in_X12 tyX12 tyX12_ok nmX12 hown hK hP hD hS 0 rfl rfl 6 (by decide) (hts _ q677) (fun _ h => h) rfl hinit rfl rfl rfl rfl (Nat.le_of_ble_eq_true rfl) dX12_init_6 (fun H locs hP hD hS => ?_)
  have hP : va_P D vwCl ([(a, .inr (12, [.ref a, w9.1, w9.2, .null, .null, .int 0, .int v]))]) H := hP
  have hD : va_D A ([(a, .inr (12, [.ref a, w9.1, w9.2, .null, .null, .int 0, .int v]))]) := hD
  refine ti_withFree hx0 (fun hfr => ?_)
  exact hret w9 _ _ _ _ _ _ dX12_init_9 (trivial) hP hfr hS (Nat.le_refl _) (Nat.le_refl _)

set_option maxHeartbeats 1000000 in
theorem met_X15_init (l : Launch) (D : va_G) (E : Nat → ClassId) (htr : l.stackTraces = false) (z0 : Nat) (a : Nat) (v : Int32) : ti_MetF (σ := Value × Value) l D E yX15_init cX15_init 2 none 6 0 0 z0 ([(a, .inr (15, [.null, .null, .null, .null, .null, .int 0, .int 0]))]) [.ref a, .int v] (ti_free a) (fun w => [(a, .inr (15, [.ref a, w.1, w.2, .null, .null, .int 0, .int v]))]) (fun _ => none) (fun _ => True) (fun _ H => ti_free a H) := by
  refine ti_metFV (σ := Value × Value) (by decide) (Nat.le_of_ble_eq_true rfl) ?_
  intro p e s m below meth c H H0 A Q ls S hE hP hD hS hA h0 hZ hAz hx0 hinit hl hret
  subst h0
  have hx := S.1
  have hb := S.2.1
  have hown := S.2.2.2.1
  have hts := S.2.2.2.2
  have hK := hE.1
  have hl : lv_has ls 2 [(0, .ref a), (1, .int v)] := hl
  refine lv_aload_n hx hb dX15_init_0 rfl (lv_at hl 0 rfl) ?_
  refine ti_withFree hx0 (fun hfr1 => ?_)
  refine ti_fI (As := []) (rest := []) S hE hP hD hS hA rfl hZ hAz hfr1 [0] rfl (met_J3_init_2_X15 l D E htr z0 a ) rfl (fun _ => rfl) (lw_meth q952) q85 q1036 q951 rfl 0 rfl (by decide +kernel) ⟨Nat.le_of_ble_eq_true rfl, Nat.le_of_ble_eq_true rfl⟩ hl.1 rfl (Nat.le_of_ble_eq_true rfl) ⟨Nat.le_refl _, Nat.le_refl _⟩ dX15_init_1 (fun w9 H locs hu hxq hFr hP hD hS => ?_)
  have hP : va_P D vwCl ([(a, .inr (15, [.ref a, w9.1, w9.2, .null, .null, .int 0, .int 0]))]) H := hP
  have hD : va_D A ([(a, .inr (15, [.ref a, w9.1, w9.2, .null, .null, .int 0, .int 0]))]) := hD
  refine W.eq (g2 := F0 m 4 ls []) rfl ?_
  refine lv_aload_n hx hb dX15_init_4 rfl (lv_at hl 0 rfl) ?_
  refine lv_iload_n hx hb dX15_init_5 rfl (lv_at hl 1 rfl) ?_
  refine va_putF (ty := .int) hx hb hts in_X15 tyX15 tyX15_ok nmX15 hown hK hP hD hS 0 rfl rfl 6 (by decide) (hts _ q1037) (fun _ h => h) rfl hinit rfl rfl rfl rfl (Nat.le_of_ble_eq_true rfl) dX15_init_6 (fun H locs hP hD hS => ?_)
  have hP : va_P D vwCl ([(a, .inr (15, [.ref a, w9.1, w9.2, .null, .null, .int 0, .int v]))]) H := hP
  have hD : va_D A ([(a, .inr (15, [.ref a, w9.1, w9.2, .null, .null, .int 0, .int v]))]) := hD
  refine ti_withFree hx0 (fun hfr => ?_)
  exact hret w9 _ _ _ _ _ _ dX15_init_9 (trivial) hP hfr hS (Nat.le_refl _) (Nat.le_refl _)

set_option maxHeartbeats 1000000 in
theorem met_X12_init_2_X12 (l : Launch) (D : va_G) (E : Nat → ClassId) (htr : l.stackTraces = false) (z0 : Nat) (a b : Nat) (v : Int32) : ti_MetF (σ := Value × Value) l D E yX12_init_2 cX12_init_2 3 none 5 0 0 z0 ([(a, .inr (12, [.null, .null, .null, .null, .null, .int 0, .int 0]))]) [.ref a, .int v, .ref b] (ti_free a) (fun w => [(a, .inr (12, [.ref b, w.1, w.2, .null, .null, .int 0, .int v]))]) (fun _ => none) (fun _ => True) (fun _ H => ti_free a H) := by
  refine ti_metFV (σ := Value × Value) (by decide) (Nat.le_of_ble_eq_true rfl) ?_
  intro p e s m below meth c H H0 A Q ls S hE hP hD hS hA h0 hZ hAz hx0 hinit hl hret
  subst h0
  have hx := S.1
  have hb := S.2.1
  have hown := S.2.2.2.1
  have hts := S.2.2.2.2
  have hK := hE.1
  have hl : lv_has ls 3 [(0, .ref a), (1, .int v), (2, .ref b)] := hl
  refine lv_aload_n hx hb dX12_init_2_0 rfl (lv_at hl 0 rfl) ?_
  refine lv_null hx hb dX12_init_2_1 ?_
  refine lv_aload_n hx hb dX12_init_2_2 rfl (lv_at hl 2 rfl) ?_
  refine ti_withFree hx0 (fun hfr1 => ?_)
  refine ti_fI (As := [.null, .ref b]) (rest := []) S hE hP hD hS hA rfl hZ hAz hfr1 [0] rfl (met_J1_init_2_X12 l D E htr z0 a b) rfl (fun _ => rfl) (lw_meth q687) q76 q685 q686 rfl 2 rfl (by decide +kernel) ⟨Nat.le_of_ble_eq_true rfl, Nat.le_of_ble_eq_true rfl⟩ hl.1 rfl (Nat.le_of_ble_eq_true rfl) ⟨Nat.le_refl _, Nat.le_refl _⟩ dX12_init_2_3 (fun w9 H locs hu hxq hFr hP hD hS => ?_)
  have hP : va_P D vwCl ([(a, .inr (12, [.ref b, w9.1, w9.2, .null, .null, .int 0, .int 0]))]) H := hP
  have hD : va_D A ([(a, .inr (12, [.ref b, w9.1, w9.2, .null, .null, .int 0, .int 0]))]) := hD
  refine W.eq (g2 := F0 m 6 ls []) rfl ?_
  refine lv_aload_n hx hb dX12_init_2_6 rfl (lv_at hl 0 rfl) ?_
  refine lv_iload_n hx hb dX12_init_2_7 rfl (lv_at hl 1 rfl) ?_
  refine va_putF (ty := .int) hx hb hts in_X12 tyX12 tyX12_ok nmX12 hown hK hP hD hS 0 rfl rfl 6 (by decide) (hts _ q677) (fun _ h => h) rfl hinit rfl rfl rfl rfl (Nat.le_of_ble_eq_true rfl) dX12_init_2_8 (fun H locs hP hD hS => ?_)
  have hP : va_P D vwCl ([(a, .inr (12, [.ref b, w9.1, w9.2, .null, .null, .int 0, .int v]))]) H := hP
  have hD : va_D A ([(a, .inr (12, [.ref b, w9.1, w9.2, .null, .null, .int 0, .int v]))]) := hD
  refine ti_withFree hx0 (fun hfr => ?_)
  exact hret w9 _ _ _ _ _ _ dX12_init_2_11 (trivial) hP hfr hS (Nat.le_refl _) (Nat.le_refl _)

set_option maxHeartbeats 1000000 in
theorem met_X12_init_2_X13 (l : Launch) (D : va_G) (E : Nat → ClassId) (htr : l.stackTraces = false) (z0 : Nat) (a b : Nat) (v : Int32) : ti_MetF (σ := Value × Value) l D E yX12_init_2 cX12_init_2 3 none 5 0 0 z0 ([(a, .inr (13, [.null, .null, .null, .null, .null, .int 0, .int 0]))]) [.ref a, .int v, .ref b] (ti_free a) (fun w => [(a, .inr (13, [.ref b, w.1, w.2, .null, .null, .int 0, .int v]))]) (fun _ => none) (fun _ => True) (fun _ H => ti_free a H) := by
  refine ti_metFV (σ := Value × Value) (by decide) (Nat.le_of_ble_eq_true rfl) ?_
  intro p e s m below meth c H H0 A Q ls S hE hP hD hS hA h0 hZ hAz hx0 hinit hl hret
  subst h0
  have hx := S.1
  have hb := S.2.1
  have hown := S.2.2.2.1
  have hts := S.2.2.2.2
  have hK := hE.1
  have hl : lv_has ls 3 [(0, .ref a), (1, .int v), (2, .ref b)] := hl
  refine lv_aload_n hx hb dX12_init_2_0 rfl (lv_at hl 0 rfl) ?_
  refine lv_null hx hb dX12_init_2_1 ?_
  refine lv_aload_n hx hb dX12_init_2_2 rfl (lv_at hl 2 rfl) ?_
  refine ti_withFree hx0 (fun hfr1 => ?_)
  refine ti_fI (As := [.null, .ref b]) (rest := []) S hE hP hD hS hA rfl hZ hAz hfr1 [0] rfl (met_J1_init_2_X13 l D E htr z0 a b) rfl (fun _ => rfl) (lw_meth q687) q76 q685 q686 rfl 2 rfl (by decide +kernel) ⟨Nat.le_of_ble_eq_true rfl, Nat.le_of_ble_eq_true rfl⟩ hl.1 rfl (Nat.le_of_ble_eq_true rfl) ⟨Nat.le_refl _, Nat.le_refl _⟩ dX12_init_2_3 (fun w9 H locs hu hxq hFr hP hD hS => ?_)
  have hP : va_P D vwCl ([(a, .inr (13, [.ref b, w9.1, w9.2, .null, .null, .int 0, .int 0]))]) H := hP
  have hD : va_D A ([(a, .inr (13, [.ref b, w9.1, w9.2, .null, .null, .int 0, .int 0]))]) := hD
  refine W.eq (g2 := F0 m 6 ls []) rfl ?_
  refine lv_aload_n hx hb dX12_init_2_6 rfl (lv_at hl 0 rfl) ?_
  refine lv_iload_n hx hb dX12_init_2_7 rfl (lv_at hl 1 rfl) ?_
  refine va_putF (ty := .int) hx hb hts in_X13 tyX13 tyX13_ok nmX13 hown hK hP hD hS 0 rfl rfl 6 (by decide) (hts _ q677) (fun _ h => h) rfl hinit rfl rfl rfl rfl (Nat.le_of_ble_eq_true rfl) dX12_init_2_8 (fun H locs hP hD hS => ?_)
  have hP : va_P D vwCl ([(a, .inr (13, [.ref b, w9.1, w9.2, .null, .null, .int 0, .int v]))]) H := hP
  have hD : va_D A ([(a, .inr (13, [.ref b, w9.1, w9.2, .null, .null, .int 0, .int v]))]) := hD
  refine ti_withFree hx0 (fun hfr => ?_)
  exact hret w9 _ _ _ _ _ _ dX12_init_2_11 (trivial) hP hfr hS (Nat.le_refl _) (Nat.le_refl _)

set_option maxHeartbeats 1000000 in
theorem met_X12_init_2_X14 (l : Launch) (D : va_G) (E : Nat → ClassId) (htr : l.stackTraces = false) (z0 : Nat) (a b : Nat) (v : Int32) : ti_MetF (σ := Value × Value) l D E yX12_init_2 cX12_init_2 3 none 5 0 0 z0 ([(a, .inr (14, [.null, .null, .null, .null, .null, .int 0, .int 0]))]) [.ref a, .int v, .ref b] (ti_free a) (fun w => [(a, .inr (14, [.ref b, w.1, w.2, .null, .null, .int 0, .int v]))]) (fun _ => none) (fun _ => True) (fun _ H => ti_free a H) := by
  refine ti_metFV (σ := Value × Value) (by decide) (Nat.le_of_ble_eq_true rfl) ?_
  intro p e s m below meth c H H0 A Q ls S hE hP hD hS hA h0 hZ hAz hx0 hinit hl hret
  subst h0
  have hx := S.1
  have hb := S.2.1
  have hown := S.2.2.2.1
  have hts := S.2.2.2.2
  have hK := hE.1
  have hl : lv_has ls 3 [(0, .ref a), (1, .int v), (2, .ref b)] := hl
  refine lv_aload_n hx hb dX12_init_2_0 rfl (lv_at hl 0 rfl) ?_
  refine lv_null hx hb dX12_init_2_1 ?_
  refine lv_aload_n hx hb dX12_init_2_2 rfl (lv_at hl 2 rfl) ?_
  refine ti_withFree hx0 (fun hfr1 => ?_)
  refine ti_fI (As := [.null, .ref b]) (rest := []) S hE hP hD hS hA rfl hZ hAz hfr1 [0] rfl (met_J1_init_2_X14 l D E htr z0 a b) rfl (fun _ => rfl) (lw_meth q687) q76 q685 q686 rfl 2 rfl (by decide +kernel) ⟨Nat.le_of_ble_eq_true rfl, Nat.le_of_ble_eq_true rfl⟩ hl.1 rfl (Nat.le_of_ble_eq_true rfl) ⟨Nat.le_refl _, Nat.le_refl _⟩ dX12_init_2_3 (fun w9 H locs hu hxq hFr hP hD hS => ?_)
  have hP : va_P D vwCl ([(a, .inr (14, [.ref b, w9.1, w9.2, .null, .null, .int 0, .int 0]))]) H := hP
  have hD : va_D A ([(a, .inr (14, [.ref b, w9.1, w9.2, .null, .null, .int 0, .int 0]))]) := hD
  refine W.eq (g2 := F0 m 6 ls []) rfl ?_
  refine lv_aload_n hx hb dX12_init_2_6 rfl (lv_at hl 0 rfl) ?_
  refine lv_iload_n hx hb dX12_init_2_7 rfl (lv_at hl 1 rfl) ?_
  refine va_putF (ty := .int) hx hb hts in_X14 tyX14 tyX14_ok nmX14 hown hK hP hD hS 0 rfl rfl 6 (by decide) (hts _ q677) (fun _ h => h) rfl hinit rfl rfl rfl rfl (Nat.le_of_ble_eq_true rfl) dX12_init_2_8 (fun H locs hP hD hS => ?_)
  have hP : va_P D vwCl ([(a, .inr (14, [.ref b, w9.1, w9.2, .null, .null, .int 0, .int v]))]) H := hP
  have hD : va_D A ([(a, .inr (14, [.ref b, w9.1, w9.2, .null, .null, .int 0, .int v]))]) := hD
  refine ti_withFree hx0 (fun hfr => ?_)
  exact hret w9 _ _ _ _ _ _ dX12_init_2_11 (trivial) hP hfr hS (Nat.le_refl _) (Nat.le_refl _)

set_option maxHeartbeats 1000000 in
theorem met_X13_init (l : Launch) (D : va_G) (E : Nat → ClassId) (htr : l.stackTraces = false) (z0 : Nat) (a b : Nat) (v : Int32) : ti_MetF (σ := Value × Value) l D E yX13_init cX13_init 3 none 6 0 0 z0 ([(a, .inr (13, [.null, .null, .null, .null, .null, .int 0, .int 0]))]) [.ref a, .int v, .ref b] (ti_free a) (fun w => [(a, .inr (13, [.ref b, w.1, w.2, .null, .null, .int 0, .int v]))]) (fun _ => none) (fun _ => True) (fun _ H => ti_free a H) := by
  refine ti_metFV (σ := Value × Value) (by decide) (Nat.le_of_ble_eq_true rfl) ?_
  intro p e s m below meth c H H0 A Q ls S hE hP hD hS hA h0 hZ hAz hx0 hinit hl hret
  subst h0
  have hx := S.1
  have hb := S.2.1
  have hown := S.2.2.2.1
  have hts := S.2.2.2.2
  have hK := hE.1
  have hl : lv_has ls 3 [(0, .ref a), (1, .int v), (2, .ref b)] := hl
  refine lv_aload_n hx hb dX13_init_0 rfl (lv_at hl 0 rfl) ?_
  refine lv_iload_n hx hb dX13_init_1 rfl (lv_at hl 1 rfl) ?_
  refine lv_aload_n hx hb dX13_init_2 rfl (lv_at hl 2 rfl) ?_
  refine ti_withFree hx0 (fun hfr1 => ?_)
  refine ti_fI (As := [.int v, .ref b]) (rest := []) S hE hP hD hS hA rfl hZ hAz hfr1 [0] rfl (met_X12_init_2_X13 l D E htr z0 a b v) rfl (fun _ => rfl) (lw_meth q684) q82 q694 q683 rfl 2 rfl (by decide +kernel) ⟨Nat.le_of_ble_eq_true rfl, Nat.le_of_ble_eq_true rfl⟩ hl.1 rfl (Nat.le_of_ble_eq_true rfl) ⟨Nat.le_refl _, Nat.le_refl _⟩ dX13_init_3 (fun w9 H locs hu hxq hFr hP hD hS => ?_)
  have hP : va_P D vwCl ([(a, .inr (13, [.ref b, w9.1, w9.2, .null, .null, .int 0, .int v]))]) H := hP
  have hD : va_D A ([(a, .inr (13, [.ref b, w9.1, w9.2, .null, .null, .int 0, .int v]))]) := hD
  refine W.eq (g2 := F0 m 6 ls []) rfl ?_
  refine ti_withFree hx0 (fun hfr => ?_)
  exact hret w9 _ _ _ _ _ _ dX13_init_6 (trivial) hP hfr hS (Nat.le_refl _) (Nat.le_refl _)

set_option maxHeartbeats 1000000 in
theorem met_X14_init (l : Launch) (D : va_G) (E : Nat → ClassId) (htr : l.stackTraces = false) (z0 : Nat) (a b : Nat) (v : Int32) : ti_MetF (σ := Value × Value) l D E yX14_init cX14_init 3 none 6 0 0 z0 ([(a, .inr (14, [.null, .null, .null, .null, .null, .int 0, .int 0]))]) [.ref a, .int v, .ref b] (ti_free a) (fun w => [(a, .inr (14, [.ref b, w.1, w.2, .null, .null, .int 0, .int v]))]) (fun _ => none) (fun _ => True) (fun _ H => ti_free a H) := by
  refine ti_metFV (σ := Value × Value) (by decide) (Nat.le_of_ble_eq_true rfl) ?_
  intro p e s m below meth c H H0 A Q ls S hE hP hD hS hA h0 hZ hAz hx0 hinit hl hret
  subst h0
  have hx := S.1
  have hb := S.2.1
  have hown := S.2.2.2.1
  have hts := S.2.2.2.2
  have hK := hE.1
  have hl : lv_has ls 3 [(0, .ref a), (1, .int v), (2, .ref b)] := hl
  refine lv_aload_n hx hb dX14_init_0 rfl (lv_at hl 0 rfl) ?_
  refine lv_iload_n hx hb dX14_init_1 rfl (lv_at hl 1 rfl) ?_
  refine lv_aload_n hx hb dX14_init_2 rfl (lv_at hl 2 rfl) ?_
  refine ti_withFree hx0 (fun hfr1 => ?_)
  refine ti_fI (As := [.int v, .ref b]) (rest := []) S hE hP hD hS hA rfl hZ hAz hfr1 [0] rfl (met_X12_init_2_X14 l D E htr z0 a b v) rfl (fun _ => rfl) (lw_meth q684) q82 q710 q683 rfl 2 rfl (by decide +kernel) ⟨Nat.le_of_ble_eq_true rfl, Nat.le_of_ble_eq_true rfl⟩ hl.1 rfl (Nat.le_of_ble_eq_true rfl) ⟨Nat.le_refl _, Nat.le_refl _⟩ dX14_init_3 (fun w9 H locs hu hxq hFr hP hD hS => ?_)
  have hP : va_P D vwCl ([(a, .inr (14, [.ref b, w9.1, w9.2, .null, .null, .int 0, .int v]))]) H := hP
  have hD : va_D A ([(a, .inr (14, [.ref b, w9.1, w9.2, .null, .null, .int 0, .int v]))]) := hD
  refine W.eq (g2 := F0 m 6 ls []) rfl ?_
  refine ti_withFree hx0 (fun hfr => ?_)
  exact hret w9 _ _ _ _ _ _ dX14_init_6 (trivial) hP hfr hS (Nat.le_refl _) (Nat.le_refl _)
