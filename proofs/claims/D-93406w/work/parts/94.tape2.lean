/-! TermIdeals: peek, item (printed by w_tape2.py) -/
set_option maxRecDepth 100000
section TPB
variable {p : Program} {l : Launch} {e : Env} {R : Room} {s : State} {m : MethodId} {args : Array Value} {below : List Frame} {meth : Method} {c : Code} {H H0 : Heap} {locs : List Loc} {cells slots : Nat} {Q : State → Prop}
variable {cc : ByteArray} {pc : Nat} {ls : Array Slot} {rest : List Value} {D : va_G} {cl : List vw_C} {tys : List (ClassId × FieldType)} {ws : va_W} {a : Nat} {A : Nat → Prop}

theorem tn_baldR (hx : p.tables.exec = Jvm.exec) (hb : c.code = cc) (hK : va_K D cl tys s) (hP : va_P D cl ws H) (q0 t0 : Nat) {cA : ClassId} {n i : Nat} {f : Nat → Int32} (ha : ws[q0]? = some (a, .inl (cA, n, .inl f))) (ht : tys[t0]? = some (cA, .byte)) (hi : i < n) (hn : n < 2 ^ 31) (hd : decode cc pc = .ok (.baload, 1))
    (k : W p l e R s m args below meth c H locs cells slots Q (F0 m (pc + 1) ls (.int (f i) :: rest))) : W p l e R s m args below meth c H locs cells slots Q (F0 m pc ls (.int (nI i) :: .ref a :: rest)) :=
  va_bald hx hb hK hP q0 t0 ha ht (vp_in_nI hi hn) hd (by rw [nI_clamp (Nat.lt_trans hi hn)]; exact k)
theorem tn_saldR (hx : p.tables.exec = Jvm.exec) (hb : c.code = cc) (hK : va_K D cl tys s) (hP : va_P D cl ws H) (q0 t0 : Nat) {cA : ClassId} {n i : Nat} {f : Nat → Int32} (ha : ws[q0]? = some (a, .inl (cA, n, .inl f))) (ht : tys[t0]? = some (cA, .short)) (hi : i < n) (hn : n < 2 ^ 31) (hd : decode cc pc = .ok (.saload, 1))
    (k : W p l e R s m args below meth c H locs cells slots Q (F0 m (pc + 1) ls (.int (f i) :: rest))) : W p l e R s m args below meth c H locs cells slots Q (F0 m pc ls (.int (nI i) :: .ref a :: rest)) :=
  va_sald hx hb hK hP q0 t0 ha ht (vp_in_nI hi hn) hd (by rw [nI_clamp (Nat.lt_trans hi hn)]; exact k)
theorem tn_zaldR (hx : p.tables.exec = Jvm.exec) (hb : c.code = cc) (hK : va_K D cl tys s) (hP : va_P D cl ws H) (q0 t0 : Nat) {cA : ClassId} {n i : Nat} {f : Nat → Int32} (ha : ws[q0]? = some (a, .inl (cA, n, .inl f))) (ht : tys[t0]? = some (cA, .boolean)) (hi : i < n) (hn : n < 2 ^ 31) (hd : decode cc pc = .ok (.baload, 1))
    (k : W p l e R s m args below meth c H locs cells slots Q (F0 m (pc + 1) ls (.int (f i) :: rest))) : W p l e R s m args below meth c H locs cells slots Q (F0 m pc ls (.int (nI i) :: .ref a :: rest)) :=
  va_zald hx hb hK hP q0 t0 ha ht (vp_in_nI hi hn) hd (by rw [nI_clamp (Nat.lt_trans hi hn)]; exact k)
theorem tn_bastR (hx : p.tables.exec = Jvm.exec) (hb : c.code = cc) (hK : va_K D cl tys s) (hP : va_P D cl ws H) (hD : va_D A ws) (hS : va_S A H0 H locs) (q0 t0 : Nat) {cA : ClassId} {n i : Nat} {x y : Int32} {f : Nat → Int32} (ha : ws[q0]? = some (a, .inl (cA, n, .inl f))) (ht : tys[t0]? = some (cA, .byte)) (hi : i < n) (hn : n < 2 ^ 31) (hv : vp_nar .byte x = y) (hd : decode cc pc = .ok (.bastore, 1))
    (k : ∀ (H : Heap) (locs : List Loc), va_P D cl (ws.set q0 (a, .inl (cA, n, .inl (va_up f i y)))) H → va_D A (ws.set q0 (a, .inl (cA, n, .inl (va_up f i y)))) → va_S A H0 H locs → W p l e R s m args below meth c H locs cells slots Q (F0 m (pc + 1) ls rest)) : W p l e R s m args below meth c H locs cells slots Q (F0 m pc ls (.int x :: .int (nI i) :: .ref a :: rest)) :=
  va_bast hx hb hK hP hD hS q0 t0 ha ht (vp_in_nI hi hn) hd (by rw [nI_clamp (Nat.lt_trans hi hn), hv]; exact k)
theorem tn_sastR (hx : p.tables.exec = Jvm.exec) (hb : c.code = cc) (hK : va_K D cl tys s) (hP : va_P D cl ws H) (hD : va_D A ws) (hS : va_S A H0 H locs) (q0 t0 : Nat) {cA : ClassId} {n i : Nat} {x y : Int32} {f : Nat → Int32} (ha : ws[q0]? = some (a, .inl (cA, n, .inl f))) (ht : tys[t0]? = some (cA, .short)) (hi : i < n) (hn : n < 2 ^ 31) (hv : vp_nar .short x = y) (hd : decode cc pc = .ok (.sastore, 1))
    (k : ∀ (H : Heap) (locs : List Loc), va_P D cl (ws.set q0 (a, .inl (cA, n, .inl (va_up f i y)))) H → va_D A (ws.set q0 (a, .inl (cA, n, .inl (va_up f i y)))) → va_S A H0 H locs → W p l e R s m args below meth c H locs cells slots Q (F0 m (pc + 1) ls rest)) : W p l e R s m args below meth c H locs cells slots Q (F0 m pc ls (.int x :: .int (nI i) :: .ref a :: rest)) :=
  va_sast hx hb hK hP hD hS q0 t0 ha ht (vp_in_nI hi hn) hd (by rw [nI_clamp (Nat.lt_trans hi hn), hv]; exact k)
theorem tn_zastR (hx : p.tables.exec = Jvm.exec) (hb : c.code = cc) (hK : va_K D cl tys s) (hP : va_P D cl ws H) (hD : va_D A ws) (hS : va_S A H0 H locs) (q0 t0 : Nat) {cA : ClassId} {n i : Nat} {x y : Int32} {f : Nat → Int32} (ha : ws[q0]? = some (a, .inl (cA, n, .inl f))) (ht : tys[t0]? = some (cA, .boolean)) (hi : i < n) (hn : n < 2 ^ 31) (hv : vp_nar .boolean x = y) (hd : decode cc pc = .ok (.bastore, 1))
    (k : ∀ (H : Heap) (locs : List Loc), va_P D cl (ws.set q0 (a, .inl (cA, n, .inl (va_up f i y)))) H → va_D A (ws.set q0 (a, .inl (cA, n, .inl (va_up f i y)))) → va_S A H0 H locs → W p l e R s m args below meth c H locs cells slots Q (F0 m (pc + 1) ls rest)) : W p l e R s m args below meth c H locs cells slots Q (F0 m pc ls (.int x :: .int (nI i) :: .ref a :: rest)) :=
  va_zast hx hb hK hP hD hS q0 t0 ha ht (vp_in_nI hi hn) hd (by rw [nI_clamp (Nat.lt_trans hi hn), hv]; exact k)
end TPB
theorem ti_nrB (x : Int32) : vp_nar .byte (x.toInt8.toInt32) = x.toInt8.toInt32 := by
  show (x.toInt8.toInt32).toInt8.toInt32 = _
  rw [Int8.toInt8_toInt32]
theorem ti_nrS (x : Int32) : vp_nar .short (x.toInt16.toInt32) = x.toInt16.toInt32 := by
  show (x.toInt16.toInt32).toInt16.toInt32 = _
  rw [Int16.toInt16_toInt32]

abbrev ti_wT3 (E : Nat → ClassId) (ad th : Nat → Nat) (tx : Nat) (hi : Bool) (t9 : Nat) (v : Value) : va_W := [(ad 0, .inr (0, [.ref (ad 1), .ref (ad 2), .ref (ad 5), .ref (ad 11), .ref (ad 14), .ref (ad 16), .ref (ad 18), .ref (ad 20), .ref (ad 22), .int (nI tx), .ref (ad 23), .ref (ad 27), .ref (ad 31), .ref (ad 35), .ref (ad 36), .ref (ad 37), .ref (ad 41), .ref (ad 45), .int (ti_b hi)])), (ad 35, .inl (E 6, 6, .inr (.inr (.inr (.inr (ti_o th (fun j => j))))))), (th t9, .inr (6, [v]))]

set_option maxHeartbeats 2000000 in
theorem met_X0_peek_b (l : Launch) (D : va_G) (E : Nat → ClassId) (htr : l.stackTraces = false) (z0 : Nat) (ad : Nat → Nat) (tx : Nat) (hi : Bool) (t j : Int32) (ht5 : ti_t5 t = false) : ti_MetX (σ := Unit) (τ := Unit) l D E yX0_peek (ws_ yX0_peek cX0_peek 6 (some .long)) 3 0 0 z0 ([(ad 0, .inr (0, [.ref (ad 1), .ref (ad 2), .ref (ad 5), .ref (ad 11), .ref (ad 14), .ref (ad 16), .ref (ad 18), .ref (ad 20), .ref (ad 22), .int (nI tx), .ref (ad 23), .ref (ad 27), .ref (ad 31), .ref (ad 35), .ref (ad 36), .ref (ad 37), .ref (ad 41), .ref (ad 45), .int (ti_b hi)]))]) [.ref (ad 0), .int t, .int j] (fun _ => True) (fun _ => [(ad 0, .inr (0, [.ref (ad 1), .ref (ad 2), .ref (ad 5), .ref (ad 11), .ref (ad 14), .ref (ad 16), .ref (ad 18), .ref (ad 20), .ref (ad 22), .int (nI tx), .ref (ad 23), .ref (ad 27), .ref (ad 31), .ref (ad 35), .ref (ad 36), .ref (ad 37), .ref (ad 41), .ref (ad 45), .int (ti_b hi)]))]) (fun u => some (.long ((fun _ => ti_NO) u))) (fun _ => True) (fun _ _ => True) (fun w => RX14) (fun w => 0) (fun w => [(ad 0, .inr (0, [.ref (ad 1), .ref (ad 2), .ref (ad 5), .ref (ad 11), .ref (ad 14), .ref (ad 16), .ref (ad 18), .ref (ad 20), .ref (ad 22), .int (nI tx), .ref (ad 23), .ref (ad 27), .ref (ad 31), .ref (ad 35), .ref (ad 36), .ref (ad 37), .ref (ad 41), .ref (ad 45), .int (ti_b hi)]))]) (fun w => []) (fun w => False) (fun w H => True) := by
  refine ti_metX (by decide) (Nat.le_of_ble_eq_true rfl) ?_
  intro p e s m below meth c H A Q ls S hE hP hD hS hA hZ hAz hx0 htab hl hret hq
  obtain ⟨hQ, hr, hlk, hinit⟩ := hq
  have hsz0 := hS.1
  have hx := S.1
  have hb := S.2.1
  have hown := S.2.2.2.1
  have hts := S.2.2.2.2
  have hK := hE.1
  have hl : lv_has ls 6 [(0, .ref (ad 0)), (1, .int t), (2, .int j)] := hl
  refine lv_iload_n hx hb dX0_peek_0 rfl (lv_at hl 1 rfl) ?_
  refine ti_pS (As := [.int t]) (rest := []) (v := .int (ti_b (ti_t5 t))) S hE hP [] (met_X0_isTape l D E t) rfl (lw_S q920 q921 q66 q922) 1 rfl (by decide +kernel) ⟨Nat.le_of_ble_eq_true rfl, Nat.le_of_ble_eq_true rfl⟩ hl.1 rfl (Nat.le_of_ble_eq_true rfl) ⟨Nat.le_refl _, Nat.le_refl _⟩ dX0_peek_1 ?_
  refine tb_eq (tgt := 38) hx hb dX0_peek_4 (by decide) (fun c4 => ?_) (fun c4 => ?_)
  · skip
    refine lv_ldc2 (v := (-9223372036854775808)) hx hb hown (hts _ q748) dX0_peek_38 ?_
    have hv9 : ((-9223372036854775808)) = (fun _ => ti_NO) () := rfl
    refine W.eq (g2 := F0 m 41 ls [.long ((fun _ => ti_NO) ())]) (congrArg (fun z => F0 m 41 ls [.long z]) hv9) ?_
    exact hret _ () _ _ _ _ (trivial) hP trivial hS (Nat.le_of_ble_eq_true rfl) (Nat.le_of_ble_eq_true rfl) (fun hq hf9 => W.lret hx hb hr hq hf9 dX0_peek_41 hlk)
  · skip
    exact absurd c4 (by rw [ht5]; decide)

set_option maxHeartbeats 2000000 in
theorem met_X0_peek_n (l : Launch) (D : va_G) (E : Nat → ClassId) (htr : l.stackTraces = false) (z0 : Nat) (ad th : Nat → Nat) (tx : Nat) (hi : Bool) (t9 : Nat) (ht9 : t9 < 6) (j : Int32) : ti_MetX (σ := Unit) (τ := Unit) l D E yX0_peek (ws_ yX0_peek cX0_peek 6 (some .long)) 3 0 0 z0 (ti_wT3 E ad th tx hi t9 .null) [.ref (ad 0), .int (nI t9), .int j] (fun _ => True) (fun _ => ti_wT3 E ad th tx hi t9 .null) (fun u => some (.long ((fun _ => ti_NO) u))) (fun _ => True) (fun _ _ => True) (fun w => RX14) (fun w => 0) (fun w => ti_wT3 E ad th tx hi t9 .null) (fun w => []) (fun w => False) (fun w H => True) := by
  refine ti_metX (by decide) (Nat.le_of_ble_eq_true rfl) ?_
  intro p e s m below meth c H A Q ls S hE hP hD hS hA hZ hAz hx0 htab hl hret hq
  obtain ⟨hQ, hr, hlk, hinit⟩ := hq
  have hsz0 := hS.1
  have hx := S.1
  have hb := S.2.1
  have hown := S.2.2.2.1
  have hts := S.2.2.2.2
  have hK := hE.1
  have hl : lv_has ls 6 [(0, .ref (ad 0)), (1, .int (nI t9)), (2, .int j)] := hl
  have ht5 : ti_t5 (nI t9) = true := by unfold ti_t5; rw [ti_in_nI (by omega) (by decide) (by decide)]; exact decide_eq_true ⟨Nat.zero_le _, by omega⟩
  refine lv_iload_n hx hb dX0_peek_0 rfl (lv_at hl 1 rfl) ?_
  refine ti_pS (As := [.int (nI t9)]) (rest := []) (v := .int (ti_b (ti_t5 (nI t9)))) S hE hP [] (met_X0_isTape l D E (nI t9)) rfl (lw_S q920 q921 q66 q922) 1 rfl (by decide +kernel) ⟨Nat.le_of_ble_eq_true rfl, Nat.le_of_ble_eq_true rfl⟩ hl.1 rfl (Nat.le_of_ble_eq_true rfl) ⟨Nat.le_refl _, Nat.le_refl _⟩ dX0_peek_1 ?_
  refine tb_eq (tgt := 38) hx hb dX0_peek_4 (by decide) (fun c4 => ?_) (fun c4 => ?_)
  · skip
    exact absurd ht5 (by rw [c4]; decide)
  · skip
    refine lv_aload_n hx hb dX0_peek_7 rfl (lv_at hl 0 rfl) ?_
    refine va_get (v := .ref (ad 35)) hx hb hts in_X0 hown hK hP 0 rfl rfl 13 (by decide) (hts _ q250) (fun _ h => h) rfl dX0_peek_8 ?_
    refine lv_iload_n hx hb dX0_peek_11 rfl (lv_at hl 1 rfl) ?_
    refine tn_aald hx hb hK hP 1 6 rfl rfl (by omega) (by decide) dX0_peek_12 ?_
    refine va_getN (v := .null) hx hb hts in_X6 hown hK hP 2 rfl rfl 0 (by decide) (hE.use q233 rfl rfl) (fun _ h => h) rfl dX0_peek_13 ?_
    refine lv_ifnullN (tgt := 38) hx hb dX0_peek_16 (by decide) ?_
    refine lv_ldc2 (v := (-9223372036854775808)) hx hb hown (hts _ q748) dX0_peek_38 ?_
    have hv9 : ((-9223372036854775808)) = (fun _ => ti_NO) () := rfl
    refine W.eq (g2 := F0 m 41 ls [.long ((fun _ => ti_NO) ())]) (congrArg (fun z => F0 m 41 ls [.long z]) hv9) ?_
    exact hret _ () _ _ _ _ (trivial) hP trivial hS (Nat.le_of_ble_eq_true rfl) (Nat.le_of_ble_eq_true rfl) (fun hq hf9 => W.lret hx hb hr hq hf9 dX0_peek_41 hlk)

set_option maxHeartbeats 2000000 in
theorem met_X0_peek_0 (l : Launch) (D : va_G) (E : Nat → ClassId) (htr : l.stackTraces = false) (z0 : Nat) (ad th : Nat → Nat) (tx : Nat) (hi : Bool) (t9 : Nat) (ht9 : t9 < 6) (a n : Nat) (hn60 : n ≤ 60) (f : Nat → Int32) (j : Int32) : ti_MetX (σ := Unit) (τ := Unit) l D E yX0_peek (ws_ yX0_peek cX0_peek 6 (some .long)) 3 0 0 z0 (ti_wT3 E ad th tx hi t9 (.ref a) ++ [(a, .inl (E 1, n, .inl f))]) [.ref (ad 0), .int (nI t9), .int j] (fun _ => True) (fun _ => ti_wT3 E ad th tx hi t9 (.ref a) ++ [(a, .inl (E 1, n, .inl f))]) (fun u => some (.long ((fun _ => if ti_lt j n = true then (f (ti_cl j)).toInt64 else ti_NO) u))) (fun _ => True) (fun _ _ => True) (fun w => RX14) (fun w => 0) (fun w => ti_wT3 E ad th tx hi t9 (.ref a) ++ [(a, .inl (E 1, n, .inl f))]) (fun w => []) (fun w => False) (fun w H => True) := by
  refine ti_metX (by decide) (Nat.le_of_ble_eq_true rfl) ?_
  intro p e s m below meth c H A Q ls S hE hP hD hS hA hZ hAz hx0 htab hl hret hq
  obtain ⟨hQ, hr, hlk, hinit⟩ := hq
  have hsz0 := hS.1
  have hx := S.1
  have hb := S.2.1
  have hown := S.2.2.2.1
  have hts := S.2.2.2.2
  have hK := hE.1
  have hl : lv_has ls 6 [(0, .ref (ad 0)), (1, .int (nI t9)), (2, .int j)] := hl
  have ht5 : ti_t5 (nI t9) = true := by unfold ti_t5; rw [ti_in_nI (by omega) (by decide) (by decide)]; exact decide_eq_true ⟨Nat.zero_le _, by omega⟩
  have hin9 : ti_in j (nI 0) (nI n - nI 1) = ti_lt j n := ti_in_lt (by omega)
  refine lv_iload_n hx hb dX0_peek_0 rfl (lv_at hl 1 rfl) ?_
  refine ti_pS (As := [.int (nI t9)]) (rest := []) (v := .int (ti_b (ti_t5 (nI t9)))) S hE hP [] (met_X0_isTape l D E (nI t9)) rfl (lw_S q920 q921 q66 q922) 1 rfl (by decide +kernel) ⟨Nat.le_of_ble_eq_true rfl, Nat.le_of_ble_eq_true rfl⟩ hl.1 rfl (Nat.le_of_ble_eq_true rfl) ⟨Nat.le_refl _, Nat.le_refl _⟩ dX0_peek_1 ?_
  refine tb_eq (tgt := 38) hx hb dX0_peek_4 (by decide) (fun c4 => ?_) (fun c4 => ?_)
  · skip
    exact absurd ht5 (by rw [c4]; decide)
  · skip
    refine lv_aload_n hx hb dX0_peek_7 rfl (lv_at hl 0 rfl) ?_
    refine va_get (v := .ref (ad 35)) hx hb hts in_X0 hown hK hP 0 rfl rfl 13 (by decide) (hts _ q250) (fun _ h => h) rfl dX0_peek_8 ?_
    refine lv_iload_n hx hb dX0_peek_11 rfl (lv_at hl 1 rfl) ?_
    refine tn_aald hx hb hK hP 1 6 rfl rfl (by omega) (by decide) dX0_peek_12 ?_
    refine va_getN (v := .ref a) hx hb hts in_X6 hown hK hP 2 rfl rfl 0 (by decide) (hE.use q233 rfl rfl) (fun _ h => h) rfl dX0_peek_13 ?_
    refine lv_ifnull hx hb dX0_peek_16 ?_
    refine lv_iload_n hx hb dX0_peek_19 rfl (lv_at hl 2 rfl) ?_
    refine lv_iconst (v := nI 0) hx hb dX0_peek_20 (by decide) ?_
    refine lv_aload_n hx hb dX0_peek_21 rfl (lv_at hl 0 rfl) ?_
    refine va_get (v := .ref (ad 35)) hx hb hts in_X0 hown hK hP 0 rfl rfl 13 (by decide) (hts _ q250) (fun _ h => h) rfl dX0_peek_22 ?_
    refine lv_iload_n hx hb dX0_peek_25 rfl (lv_at hl 1 rfl) ?_
    refine tn_aald hx hb hK hP 1 6 rfl rfl (by omega) (by decide) dX0_peek_26 ?_
    refine ti_callX (ty_runVN (As := []) (rest := [.int (nI 0), .int j]) S (met_X6_size_0 l D E htr z0 (th t9) a n hn60 f H.size) ⟨va_cnB 0 S.2.2.2.2 (lw_meth q1046) rfl rfl rfl (hE.nw q1061 rfl) (S.2.2.2.2 _ q72) (by decide +kernel) ⟨Nat.le_of_ble_eq_true rfl, Nat.le_of_ble_eq_true rfl⟩, S.2.2.2.2 _ q1045, S.2.2.2.2 _ qs24⟩ (ti_preXV (xp := fun _ => True) hE hP hD hS rfl hZ hAz trivial [2, 3] rfl rfl 2 rfl rfl) rfl rfl hl.1 rfl (lv_room (Nat.le_of_ble_eq_true rfl)) dX0_peek_27 ⟨Nat.le_of_ble_eq_true rfl, Nat.le_of_ble_eq_true rfl⟩) hP hD hS hA [2, 3] rfl (fun _ => rfl) (fun _ => rfl) (fun _ H locs hu _ _ hP hD hS => ?_) (fun _ _ _ _ h9 => absurd h9 id)
    have hP : va_P D vwCl (ti_wT3 E ad th tx hi t9 (.ref a) ++ [(a, .inl (E 1, n, .inl f))]) H := hP
    have hD : va_D A (ti_wT3 E ad th tx hi t9 (.ref a) ++ [(a, .inl (E 1, n, .inl f))]) := hD
    refine W.eq (g2 := F0 m 30 ls [.int (nI n), .int (nI 0), .int j]) rfl ?_
    refine lv_iconst (v := nI 1) hx hb dX0_peek_30 (by decide) ?_
    refine lv_isub hx hb dX0_peek_31 ?_
    refine ti_pS (As := [.int j, .int (nI 0), .int ((nI n) - (nI 1))]) (rest := []) (v := .int (ti_b (ti_in j (nI 0) (((nI n) - (nI 1)))))) S hE hP [] (met_X0_in l D E j (nI 0) (((nI n) - (nI 1)))) rfl (lw_S q302 q303 q66 q304) 3 rfl (by decide +kernel) ⟨Nat.le_of_ble_eq_true rfl, Nat.le_of_ble_eq_true rfl⟩ hl.1 rfl (Nat.le_of_ble_eq_true rfl) ⟨Nat.le_refl _, Nat.le_refl _⟩ dX0_peek_32 ?_
    refine tb_ne (tgt := 42) hx hb dX0_peek_35 (by decide) (fun c35 => ?_) (fun c35 => ?_)
    · skip
      have hin : ti_lt j n = true := by rw [← hin9]; exact c35
      obtain ⟨j9, hj9, rfl⟩ := ti_lt_nat hin
      refine lv_aload_n hx hb dX0_peek_42 rfl (lv_at hl 0 rfl) ?_
      refine va_get (v := .ref (ad 35)) hx hb hts in_X0 hown hK hP 0 rfl rfl 13 (by decide) (hts _ q250) (fun _ h => h) rfl dX0_peek_43 ?_
      refine lv_iload_n hx hb dX0_peek_46 rfl (lv_at hl 1 rfl) ?_
      refine tn_aald hx hb hK hP 1 6 rfl rfl (by omega) (by decide) dX0_peek_47 ?_
      refine lv_astore_n (lv' := [(3, .ref (th t9)), (0, .ref (ad 0)), (1, .int (nI t9)), (2, .int (nI j9))]) hx hb dX0_peek_48 rfl hl (by decide) rfl (fun ls hl => ?_)
      refine lv_aload_n hx hb dX0_peek_49 rfl (lv_at hl 0 rfl) ?_
      refine va_getN (v := .ref a) hx hb hts in_X6 hown hK hP 2 rfl rfl 0 (by decide) (hE.use q233 rfl rfl) (fun _ h => h) rfl dX0_peek_50 ?_
      refine lv_astore (lv' := [(5, .ref a), (3, .ref (th t9)), (0, .ref (ad 0)), (1, .int (nI t9)), (2, .int (nI j9))]) hx hb dX0_peek_53 hl (by decide) rfl (fun ls hl => ?_)
      refine lv_aload hx hb dX0_peek_55 (lv_at hl 0 rfl) ?_
      refine ti_instA (nm := "[B") hx hb hown (hts _ q923) hP 3 rfl (hK.2 1 _ rfl).2 dX0_peek_57 ?_
      refine W.eq (g2 := F0 m 60 ls [.int (nI 1)]) rfl ?_
      refine lv_if_eq (tgt := 76) hx hb dX0_peek_60 (by decide) (fun h9 => absurd h9 (by decide)) (fun _ => ?_)
      refine lv_aload hx hb dX0_peek_63 (lv_at hl 0 rfl) ?_
      refine va_castA hx hb hown (hts _ q923) hP 3 rfl (hK.2 1 _ rfl).2 dX0_peek_65 ?_
      refine lv_astore (lv' := [(4, .ref a), (5, .ref a), (3, .ref (th t9)), (0, .ref (ad 0)), (1, .int (nI t9)), (2, .int (nI j9))]) hx hb dX0_peek_68 hl (by decide) rfl (fun ls hl => ?_)
      refine lv_aload hx hb dX0_peek_70 (lv_at hl 0 rfl) ?_
      refine lv_iload_n hx hb dX0_peek_72 rfl (lv_at hl 5 rfl) ?_
      refine tn_baldR (f := f) hx hb hK hP 3 1 rfl rfl (by omega) (by omega) dX0_peek_73 ?_
      refine lv_i2l (v := Int32.toInt64 (f j9)) hx hb dX0_peek_74 rfl ?_
      have hv9 : (Int32.toInt64 (f j9)) = (fun _ => if ti_lt (nI j9) n = true then (f (ti_cl (nI j9))).toInt64 else ti_NO) () := by rw [if_pos hin, ti_cl_nI (by omega)]
      refine W.eq (g2 := F0 m 75 ls [.long ((fun _ => if ti_lt (nI j9) n = true then (f (ti_cl (nI j9))).toInt64 else ti_NO) ())]) (congrArg (fun z => F0 m 75 ls [.long z]) hv9) ?_
      exact hret _ () _ _ _ _ (trivial) hP trivial hS (Nat.le_of_ble_eq_true rfl) (Nat.le_of_ble_eq_true rfl) (fun hq hf9 => W.lret hx hb hr hq hf9 dX0_peek_75 hlk)
    · skip
      have hinF : ti_lt j n = false := by rw [← hin9]; exact c35
      refine lv_ldc2 (v := (-9223372036854775808)) hx hb hown (hts _ q748) dX0_peek_38 ?_
      have hv9 : ((-9223372036854775808)) = (fun _ => if ti_lt j n = true then (f (ti_cl j)).toInt64 else ti_NO) () := by rw [if_neg (by rw [hinF]; decide)]; rfl
      refine W.eq (g2 := F0 m 41 ls [.long ((fun _ => if ti_lt j n = true then (f (ti_cl j)).toInt64 else ti_NO) ())]) (congrArg (fun z => F0 m 41 ls [.long z]) hv9) ?_
      exact hret _ () _ _ _ _ (trivial) hP trivial hS (Nat.le_of_ble_eq_true rfl) (Nat.le_of_ble_eq_true rfl) (fun hq hf9 => W.lret hx hb hr hq hf9 dX0_peek_41 hlk)

set_option maxHeartbeats 2000000 in
theorem met_X0_peek_1 (l : Launch) (D : va_G) (E : Nat → ClassId) (htr : l.stackTraces = false) (z0 : Nat) (ad th : Nat → Nat) (tx : Nat) (hi : Bool) (t9 : Nat) (ht9 : t9 < 6) (a n : Nat) (hn60 : n ≤ 60) (f : Nat → Int32) (j : Int32) : ti_MetX (σ := Unit) (τ := Unit) l D E yX0_peek (ws_ yX0_peek cX0_peek 6 (some .long)) 3 0 0 z0 (ti_wT3 E ad th tx hi t9 (.ref a) ++ [(a, .inl (E 2, n, .inl f))]) [.ref (ad 0), .int (nI t9), .int j] (fun _ => True) (fun _ => ti_wT3 E ad th tx hi t9 (.ref a) ++ [(a, .inl (E 2, n, .inl f))]) (fun u => some (.long ((fun _ => if ti_lt j n = true then (f (ti_cl j)).toInt64 else ti_NO) u))) (fun _ => True) (fun _ _ => True) (fun w => RX14) (fun w => 0) (fun w => ti_wT3 E ad th tx hi t9 (.ref a) ++ [(a, .inl (E 2, n, .inl f))]) (fun w => []) (fun w => False) (fun w H => True) := by
  refine ti_metX (by decide) (Nat.le_of_ble_eq_true rfl) ?_
  intro p e s m below meth c H A Q ls S hE hP hD hS hA hZ hAz hx0 htab hl hret hq
  obtain ⟨hQ, hr, hlk, hinit⟩ := hq
  have hsz0 := hS.1
  have hx := S.1
  have hb := S.2.1
  have hown := S.2.2.2.1
  have hts := S.2.2.2.2
  have hK := hE.1
  have hl : lv_has ls 6 [(0, .ref (ad 0)), (1, .int (nI t9)), (2, .int j)] := hl
  have ht5 : ti_t5 (nI t9) = true := by unfold ti_t5; rw [ti_in_nI (by omega) (by decide) (by decide)]; exact decide_eq_true ⟨Nat.zero_le _, by omega⟩
  have hin9 : ti_in j (nI 0) (nI n - nI 1) = ti_lt j n := ti_in_lt (by omega)
  refine lv_iload_n hx hb dX0_peek_0 rfl (lv_at hl 1 rfl) ?_
  refine ti_pS (As := [.int (nI t9)]) (rest := []) (v := .int (ti_b (ti_t5 (nI t9)))) S hE hP [] (met_X0_isTape l D E (nI t9)) rfl (lw_S q920 q921 q66 q922) 1 rfl (by decide +kernel) ⟨Nat.le_of_ble_eq_true rfl, Nat.le_of_ble_eq_true rfl⟩ hl.1 rfl (Nat.le_of_ble_eq_true rfl) ⟨Nat.le_refl _, Nat.le_refl _⟩ dX0_peek_1 ?_
  refine tb_eq (tgt := 38) hx hb dX0_peek_4 (by decide) (fun c4 => ?_) (fun c4 => ?_)
  · skip
    exact absurd ht5 (by rw [c4]; decide)
  · skip
    refine lv_aload_n hx hb dX0_peek_7 rfl (lv_at hl 0 rfl) ?_
    refine va_get (v := .ref (ad 35)) hx hb hts in_X0 hown hK hP 0 rfl rfl 13 (by decide) (hts _ q250) (fun _ h => h) rfl dX0_peek_8 ?_
    refine lv_iload_n hx hb dX0_peek_11 rfl (lv_at hl 1 rfl) ?_
    refine tn_aald hx hb hK hP 1 6 rfl rfl (by omega) (by decide) dX0_peek_12 ?_
    refine va_getN (v := .ref a) hx hb hts in_X6 hown hK hP 2 rfl rfl 0 (by decide) (hE.use q233 rfl rfl) (fun _ h => h) rfl dX0_peek_13 ?_
    refine lv_ifnull hx hb dX0_peek_16 ?_
    refine lv_iload_n hx hb dX0_peek_19 rfl (lv_at hl 2 rfl) ?_
    refine lv_iconst (v := nI 0) hx hb dX0_peek_20 (by decide) ?_
    refine lv_aload_n hx hb dX0_peek_21 rfl (lv_at hl 0 rfl) ?_
    refine va_get (v := .ref (ad 35)) hx hb hts in_X0 hown hK hP 0 rfl rfl 13 (by decide) (hts _ q250) (fun _ h => h) rfl dX0_peek_22 ?_
    refine lv_iload_n hx hb dX0_peek_25 rfl (lv_at hl 1 rfl) ?_
    refine tn_aald hx hb hK hP 1 6 rfl rfl (by omega) (by decide) dX0_peek_26 ?_
    refine ti_callX (ty_runVN (As := []) (rest := [.int (nI 0), .int j]) S (met_X6_size_1 l D E htr z0 (th t9) a n hn60 f H.size) ⟨va_cnB 0 S.2.2.2.2 (lw_meth q1046) rfl rfl rfl (hE.nw q1061 rfl) (S.2.2.2.2 _ q72) (by decide +kernel) ⟨Nat.le_of_ble_eq_true rfl, Nat.le_of_ble_eq_true rfl⟩, S.2.2.2.2 _ q1045, S.2.2.2.2 _ qs24⟩ (ti_preXV (xp := fun _ => True) hE hP hD hS rfl hZ hAz trivial [2, 3] rfl rfl 2 rfl rfl) rfl rfl hl.1 rfl (lv_room (Nat.le_of_ble_eq_true rfl)) dX0_peek_27 ⟨Nat.le_of_ble_eq_true rfl, Nat.le_of_ble_eq_true rfl⟩) hP hD hS hA [2, 3] rfl (fun _ => rfl) (fun _ => rfl) (fun _ H locs hu _ _ hP hD hS => ?_) (fun _ _ _ _ h9 => absurd h9 id)
    have hP : va_P D vwCl (ti_wT3 E ad th tx hi t9 (.ref a) ++ [(a, .inl (E 2, n, .inl f))]) H := hP
    have hD : va_D A (ti_wT3 E ad th tx hi t9 (.ref a) ++ [(a, .inl (E 2, n, .inl f))]) := hD
    refine W.eq (g2 := F0 m 30 ls [.int (nI n), .int (nI 0), .int j]) rfl ?_
    refine lv_iconst (v := nI 1) hx hb dX0_peek_30 (by decide) ?_
    refine lv_isub hx hb dX0_peek_31 ?_
    refine ti_pS (As := [.int j, .int (nI 0), .int ((nI n) - (nI 1))]) (rest := []) (v := .int (ti_b (ti_in j (nI 0) (((nI n) - (nI 1)))))) S hE hP [] (met_X0_in l D E j (nI 0) (((nI n) - (nI 1)))) rfl (lw_S q302 q303 q66 q304) 3 rfl (by decide +kernel) ⟨Nat.le_of_ble_eq_true rfl, Nat.le_of_ble_eq_true rfl⟩ hl.1 rfl (Nat.le_of_ble_eq_true rfl) ⟨Nat.le_refl _, Nat.le_refl _⟩ dX0_peek_32 ?_
    refine tb_ne (tgt := 42) hx hb dX0_peek_35 (by decide) (fun c35 => ?_) (fun c35 => ?_)
    · skip
      have hin : ti_lt j n = true := by rw [← hin9]; exact c35
      obtain ⟨j9, hj9, rfl⟩ := ti_lt_nat hin
      refine lv_aload_n hx hb dX0_peek_42 rfl (lv_at hl 0 rfl) ?_
      refine va_get (v := .ref (ad 35)) hx hb hts in_X0 hown hK hP 0 rfl rfl 13 (by decide) (hts _ q250) (fun _ h => h) rfl dX0_peek_43 ?_
      refine lv_iload_n hx hb dX0_peek_46 rfl (lv_at hl 1 rfl) ?_
      refine tn_aald hx hb hK hP 1 6 rfl rfl (by omega) (by decide) dX0_peek_47 ?_
      refine lv_astore_n (lv' := [(3, .ref (th t9)), (0, .ref (ad 0)), (1, .int (nI t9)), (2, .int (nI j9))]) hx hb dX0_peek_48 rfl hl (by decide) rfl (fun ls hl => ?_)
      refine lv_aload_n hx hb dX0_peek_49 rfl (lv_at hl 0 rfl) ?_
      refine va_getN (v := .ref a) hx hb hts in_X6 hown hK hP 2 rfl rfl 0 (by decide) (hE.use q233 rfl rfl) (fun _ h => h) rfl dX0_peek_50 ?_
      refine lv_astore (lv' := [(5, .ref a), (3, .ref (th t9)), (0, .ref (ad 0)), (1, .int (nI t9)), (2, .int (nI j9))]) hx hb dX0_peek_53 hl (by decide) rfl (fun ls hl => ?_)
      refine lv_aload hx hb dX0_peek_55 (lv_at hl 0 rfl) ?_
      refine va_instNo (C := "[S") hx hb hown (hts _ q923) (hZ.2.2.2.2 "[S" "[B" (by decide)) (ti_recvA hP 3 rfl (hK.2 2 _ rfl).2) dX0_peek_57 ?_
      refine W.eq (g2 := F0 m 60 ls [.int (nI 0)]) rfl ?_
      refine lv_if_eq (tgt := 76) hx hb dX0_peek_60 (by decide) (fun _ => ?_) (fun h9 => absurd rfl h9)
      refine lv_aload_n hx hb dX0_peek_76 rfl (lv_at hl 1 rfl) ?_
      refine va_getN (v := .ref a) hx hb hts in_X6 hown hK hP 2 rfl rfl 0 (by decide) (hE.use q233 rfl rfl) (fun _ h => h) rfl dX0_peek_77 ?_
      refine lv_astore (lv' := [(5, .ref a), (3, .ref (th t9)), (0, .ref (ad 0)), (1, .int (nI t9)), (2, .int (nI j9))]) hx hb dX0_peek_80 hl (by decide) rfl (fun ls hl => ?_)
      refine lv_aload hx hb dX0_peek_82 (lv_at hl 0 rfl) ?_
      refine ti_instA (nm := "[S") hx hb hown (hts _ q1053) hP 3 rfl (hK.2 2 _ rfl).2 dX0_peek_84 ?_
      refine W.eq (g2 := F0 m 87 ls [.int (nI 1)]) rfl ?_
      refine lv_if_eq (tgt := 103) hx hb dX0_peek_87 (by decide) (fun h9 => absurd h9 (by decide)) (fun _ => ?_)
      refine lv_aload hx hb dX0_peek_90 (lv_at hl 0 rfl) ?_
      refine va_castA hx hb hown (hts _ q1053) hP 3 rfl (hK.2 2 _ rfl).2 dX0_peek_92 ?_
      refine lv_astore (lv' := [(4, .ref a), (5, .ref a), (3, .ref (th t9)), (0, .ref (ad 0)), (1, .int (nI t9)), (2, .int (nI j9))]) hx hb dX0_peek_95 hl (by decide) rfl (fun ls hl => ?_)
      refine lv_aload hx hb dX0_peek_97 (lv_at hl 0 rfl) ?_
      refine lv_iload_n hx hb dX0_peek_99 rfl (lv_at hl 5 rfl) ?_
      refine tn_saldR (f := f) hx hb hK hP 3 2 rfl rfl (by omega) (by omega) dX0_peek_100 ?_
      refine lv_i2l (v := Int32.toInt64 (f j9)) hx hb dX0_peek_101 rfl ?_
      have hv9 : (Int32.toInt64 (f j9)) = (fun _ => if ti_lt (nI j9) n = true then (f (ti_cl (nI j9))).toInt64 else ti_NO) () := by rw [if_pos hin, ti_cl_nI (by omega)]
      refine W.eq (g2 := F0 m 102 ls [.long ((fun _ => if ti_lt (nI j9) n = true then (f (ti_cl (nI j9))).toInt64 else ti_NO) ())]) (congrArg (fun z => F0 m 102 ls [.long z]) hv9) ?_
      exact hret _ () _ _ _ _ (trivial) hP trivial hS (Nat.le_of_ble_eq_true rfl) (Nat.le_of_ble_eq_true rfl) (fun hq hf9 => W.lret hx hb hr hq hf9 dX0_peek_102 hlk)
    · skip
      have hinF : ti_lt j n = false := by rw [← hin9]; exact c35
      refine lv_ldc2 (v := (-9223372036854775808)) hx hb hown (hts _ q748) dX0_peek_38 ?_
      have hv9 : ((-9223372036854775808)) = (fun _ => if ti_lt j n = true then (f (ti_cl j)).toInt64 else ti_NO) () := by rw [if_neg (by rw [hinF]; decide)]; rfl
      refine W.eq (g2 := F0 m 41 ls [.long ((fun _ => if ti_lt j n = true then (f (ti_cl j)).toInt64 else ti_NO) ())]) (congrArg (fun z => F0 m 41 ls [.long z]) hv9) ?_
      exact hret _ () _ _ _ _ (trivial) hP trivial hS (Nat.le_of_ble_eq_true rfl) (Nat.le_of_ble_eq_true rfl) (fun hq hf9 => W.lret hx hb hr hq hf9 dX0_peek_41 hlk)

set_option maxHeartbeats 2000000 in
theorem met_X0_peek_2 (l : Launch) (D : va_G) (E : Nat → ClassId) (htr : l.stackTraces = false) (z0 : Nat) (ad th : Nat → Nat) (tx : Nat) (hi : Bool) (t9 : Nat) (ht9 : t9 < 6) (a n : Nat) (hn60 : n ≤ 60) (f : Nat → Int32) (j : Int32) : ti_MetX (σ := Unit) (τ := Unit) l D E yX0_peek (ws_ yX0_peek cX0_peek 6 (some .long)) 3 0 0 z0 (ti_wT3 E ad th tx hi t9 (.ref a) ++ [(a, .inl (E 0, n, .inl f))]) [.ref (ad 0), .int (nI t9), .int j] (fun _ => True) (fun _ => ti_wT3 E ad th tx hi t9 (.ref a) ++ [(a, .inl (E 0, n, .inl f))]) (fun u => some (.long ((fun _ => if ti_lt j n = true then (f (ti_cl j)).toInt64 else ti_NO) u))) (fun _ => True) (fun _ _ => True) (fun w => RX14) (fun w => 0) (fun w => ti_wT3 E ad th tx hi t9 (.ref a) ++ [(a, .inl (E 0, n, .inl f))]) (fun w => []) (fun w => False) (fun w H => True) := by
  refine ti_metX (by decide) (Nat.le_of_ble_eq_true rfl) ?_
  intro p e s m below meth c H A Q ls S hE hP hD hS hA hZ hAz hx0 htab hl hret hq
  obtain ⟨hQ, hr, hlk, hinit⟩ := hq
  have hsz0 := hS.1
  have hx := S.1
  have hb := S.2.1
  have hown := S.2.2.2.1
  have hts := S.2.2.2.2
  have hK := hE.1
  have hl : lv_has ls 6 [(0, .ref (ad 0)), (1, .int (nI t9)), (2, .int j)] := hl
  have ht5 : ti_t5 (nI t9) = true := by unfold ti_t5; rw [ti_in_nI (by omega) (by decide) (by decide)]; exact decide_eq_true ⟨Nat.zero_le _, by omega⟩
  have hin9 : ti_in j (nI 0) (nI n - nI 1) = ti_lt j n := ti_in_lt (by omega)
  refine lv_iload_n hx hb dX0_peek_0 rfl (lv_at hl 1 rfl) ?_
  refine ti_pS (As := [.int (nI t9)]) (rest := []) (v := .int (ti_b (ti_t5 (nI t9)))) S hE hP [] (met_X0_isTape l D E (nI t9)) rfl (lw_S q920 q921 q66 q922) 1 rfl (by decide +kernel) ⟨Nat.le_of_ble_eq_true rfl, Nat.le_of_ble_eq_true rfl⟩ hl.1 rfl (Nat.le_of_ble_eq_true rfl) ⟨Nat.le_refl _, Nat.le_refl _⟩ dX0_peek_1 ?_
  refine tb_eq (tgt := 38) hx hb dX0_peek_4 (by decide) (fun c4 => ?_) (fun c4 => ?_)
  · skip
    exact absurd ht5 (by rw [c4]; decide)
  · skip
    refine lv_aload_n hx hb dX0_peek_7 rfl (lv_at hl 0 rfl) ?_
    refine va_get (v := .ref (ad 35)) hx hb hts in_X0 hown hK hP 0 rfl rfl 13 (by decide) (hts _ q250) (fun _ h => h) rfl dX0_peek_8 ?_
    refine lv_iload_n hx hb dX0_peek_11 rfl (lv_at hl 1 rfl) ?_
    refine tn_aald hx hb hK hP 1 6 rfl rfl (by omega) (by decide) dX0_peek_12 ?_
    refine va_getN (v := .ref a) hx hb hts in_X6 hown hK hP 2 rfl rfl 0 (by decide) (hE.use q233 rfl rfl) (fun _ h => h) rfl dX0_peek_13 ?_
    refine lv_ifnull hx hb dX0_peek_16 ?_
    refine lv_iload_n hx hb dX0_peek_19 rfl (lv_at hl 2 rfl) ?_
    refine lv_iconst (v := nI 0) hx hb dX0_peek_20 (by decide) ?_
    refine lv_aload_n hx hb dX0_peek_21 rfl (lv_at hl 0 rfl) ?_
    refine va_get (v := .ref (ad 35)) hx hb hts in_X0 hown hK hP 0 rfl rfl 13 (by decide) (hts _ q250) (fun _ h => h) rfl dX0_peek_22 ?_
    refine lv_iload_n hx hb dX0_peek_25 rfl (lv_at hl 1 rfl) ?_
    refine tn_aald hx hb hK hP 1 6 rfl rfl (by omega) (by decide) dX0_peek_26 ?_
    refine ti_callX (ty_runVN (As := []) (rest := [.int (nI 0), .int j]) S (met_X6_size_2 l D E htr z0 (th t9) a n hn60 f H.size) ⟨va_cnB 0 S.2.2.2.2 (lw_meth q1046) rfl rfl rfl (hE.nw q1061 rfl) (S.2.2.2.2 _ q72) (by decide +kernel) ⟨Nat.le_of_ble_eq_true rfl, Nat.le_of_ble_eq_true rfl⟩, S.2.2.2.2 _ q1045, S.2.2.2.2 _ qs24⟩ (ti_preXV (xp := fun _ => True) hE hP hD hS rfl hZ hAz trivial [2, 3] rfl rfl 2 rfl rfl) rfl rfl hl.1 rfl (lv_room (Nat.le_of_ble_eq_true rfl)) dX0_peek_27 ⟨Nat.le_of_ble_eq_true rfl, Nat.le_of_ble_eq_true rfl⟩) hP hD hS hA [2, 3] rfl (fun _ => rfl) (fun _ => rfl) (fun _ H locs hu _ _ hP hD hS => ?_) (fun _ _ _ _ h9 => absurd h9 id)
    have hP : va_P D vwCl (ti_wT3 E ad th tx hi t9 (.ref a) ++ [(a, .inl (E 0, n, .inl f))]) H := hP
    have hD : va_D A (ti_wT3 E ad th tx hi t9 (.ref a) ++ [(a, .inl (E 0, n, .inl f))]) := hD
    refine W.eq (g2 := F0 m 30 ls [.int (nI n), .int (nI 0), .int j]) rfl ?_
    refine lv_iconst (v := nI 1) hx hb dX0_peek_30 (by decide) ?_
    refine lv_isub hx hb dX0_peek_31 ?_
    refine ti_pS (As := [.int j, .int (nI 0), .int ((nI n) - (nI 1))]) (rest := []) (v := .int (ti_b (ti_in j (nI 0) (((nI n) - (nI 1)))))) S hE hP [] (met_X0_in l D E j (nI 0) (((nI n) - (nI 1)))) rfl (lw_S q302 q303 q66 q304) 3 rfl (by decide +kernel) ⟨Nat.le_of_ble_eq_true rfl, Nat.le_of_ble_eq_true rfl⟩ hl.1 rfl (Nat.le_of_ble_eq_true rfl) ⟨Nat.le_refl _, Nat.le_refl _⟩ dX0_peek_32 ?_
    refine tb_ne (tgt := 42) hx hb dX0_peek_35 (by decide) (fun c35 => ?_) (fun c35 => ?_)
    · skip
      have hin : ti_lt j n = true := by rw [← hin9]; exact c35
      obtain ⟨j9, hj9, rfl⟩ := ti_lt_nat hin
      refine lv_aload_n hx hb dX0_peek_42 rfl (lv_at hl 0 rfl) ?_
      refine va_get (v := .ref (ad 35)) hx hb hts in_X0 hown hK hP 0 rfl rfl 13 (by decide) (hts _ q250) (fun _ h => h) rfl dX0_peek_43 ?_
      refine lv_iload_n hx hb dX0_peek_46 rfl (lv_at hl 1 rfl) ?_
      refine tn_aald hx hb hK hP 1 6 rfl rfl (by omega) (by decide) dX0_peek_47 ?_
      refine lv_astore_n (lv' := [(3, .ref (th t9)), (0, .ref (ad 0)), (1, .int (nI t9)), (2, .int (nI j9))]) hx hb dX0_peek_48 rfl hl (by decide) rfl (fun ls hl => ?_)
      refine lv_aload_n hx hb dX0_peek_49 rfl (lv_at hl 0 rfl) ?_
      refine va_getN (v := .ref a) hx hb hts in_X6 hown hK hP 2 rfl rfl 0 (by decide) (hE.use q233 rfl rfl) (fun _ h => h) rfl dX0_peek_50 ?_
      refine lv_astore (lv' := [(5, .ref a), (3, .ref (th t9)), (0, .ref (ad 0)), (1, .int (nI t9)), (2, .int (nI j9))]) hx hb dX0_peek_53 hl (by decide) rfl (fun ls hl => ?_)
      refine lv_aload hx hb dX0_peek_55 (lv_at hl 0 rfl) ?_
      refine va_instNo (C := "[I") hx hb hown (hts _ q923) (hZ.2.2.2.2 "[I" "[B" (by decide)) (ti_recvA hP 3 rfl (hK.2 0 _ rfl).2) dX0_peek_57 ?_
      refine W.eq (g2 := F0 m 60 ls [.int (nI 0)]) rfl ?_
      refine lv_if_eq (tgt := 76) hx hb dX0_peek_60 (by decide) (fun _ => ?_) (fun h9 => absurd rfl h9)
      refine lv_aload_n hx hb dX0_peek_76 rfl (lv_at hl 1 rfl) ?_
      refine va_getN (v := .ref a) hx hb hts in_X6 hown hK hP 2 rfl rfl 0 (by decide) (hE.use q233 rfl rfl) (fun _ h => h) rfl dX0_peek_77 ?_
      refine lv_astore (lv' := [(5, .ref a), (3, .ref (th t9)), (0, .ref (ad 0)), (1, .int (nI t9)), (2, .int (nI j9))]) hx hb dX0_peek_80 hl (by decide) rfl (fun ls hl => ?_)
      refine lv_aload hx hb dX0_peek_82 (lv_at hl 0 rfl) ?_
      refine va_instNo (C := "[I") hx hb hown (hts _ q1053) (hZ.2.2.2.2 "[I" "[S" (by decide)) (ti_recvA hP 3 rfl (hK.2 0 _ rfl).2) dX0_peek_84 ?_
      refine W.eq (g2 := F0 m 87 ls [.int (nI 0)]) rfl ?_
      refine lv_if_eq (tgt := 103) hx hb dX0_peek_87 (by decide) (fun _ => ?_) (fun h9 => absurd rfl h9)
      refine lv_aload_n hx hb dX0_peek_103 rfl (lv_at hl 1 rfl) ?_
      refine va_getN (v := .ref a) hx hb hts in_X6 hown hK hP 2 rfl rfl 0 (by decide) (hE.use q233 rfl rfl) (fun _ h => h) rfl dX0_peek_104 ?_
      refine lv_astore (lv' := [(5, .ref a), (3, .ref (th t9)), (0, .ref (ad 0)), (1, .int (nI t9)), (2, .int (nI j9))]) hx hb dX0_peek_107 hl (by decide) rfl (fun ls hl => ?_)
      refine lv_aload hx hb dX0_peek_109 (lv_at hl 0 rfl) ?_
      refine ti_instA (nm := "[I") hx hb hown (hts _ q1054) hP 3 rfl (hK.2 0 _ rfl).2 dX0_peek_111 ?_
      refine W.eq (g2 := F0 m 114 ls [.int (nI 1)]) rfl ?_
      refine lv_if_eq (tgt := 130) hx hb dX0_peek_114 (by decide) (fun h9 => absurd h9 (by decide)) (fun _ => ?_)
      refine lv_aload hx hb dX0_peek_117 (lv_at hl 0 rfl) ?_
      refine va_castA hx hb hown (hts _ q1054) hP 3 rfl (hK.2 0 _ rfl).2 dX0_peek_119 ?_
      refine lv_astore (lv' := [(4, .ref a), (5, .ref a), (3, .ref (th t9)), (0, .ref (ad 0)), (1, .int (nI t9)), (2, .int (nI j9))]) hx hb dX0_peek_122 hl (by decide) rfl (fun ls hl => ?_)
      refine lv_aload hx hb dX0_peek_124 (lv_at hl 0 rfl) ?_
      refine lv_iload_n hx hb dX0_peek_126 rfl (lv_at hl 5 rfl) ?_
      refine tn_ialdR (f := f) hx hb hK hP 3 0 rfl rfl (by omega) (by omega) dX0_peek_127 ?_
      refine lv_i2l (v := Int32.toInt64 (f j9)) hx hb dX0_peek_128 rfl ?_
      have hv9 : (Int32.toInt64 (f j9)) = (fun _ => if ti_lt (nI j9) n = true then (f (ti_cl (nI j9))).toInt64 else ti_NO) () := by rw [if_pos hin, ti_cl_nI (by omega)]
      refine W.eq (g2 := F0 m 129 ls [.long ((fun _ => if ti_lt (nI j9) n = true then (f (ti_cl (nI j9))).toInt64 else ti_NO) ())]) (congrArg (fun z => F0 m 129 ls [.long z]) hv9) ?_
      exact hret _ () _ _ _ _ (trivial) hP trivial hS (Nat.le_of_ble_eq_true rfl) (Nat.le_of_ble_eq_true rfl) (fun hq hf9 => W.lret hx hb hr hq hf9 dX0_peek_129 hlk)
    · skip
      have hinF : ti_lt j n = false := by rw [← hin9]; exact c35
      refine lv_ldc2 (v := (-9223372036854775808)) hx hb hown (hts _ q748) dX0_peek_38 ?_
      have hv9 : ((-9223372036854775808)) = (fun _ => if ti_lt j n = true then (f (ti_cl j)).toInt64 else ti_NO) () := by rw [if_neg (by rw [hinF]; decide)]; rfl
      refine W.eq (g2 := F0 m 41 ls [.long ((fun _ => if ti_lt j n = true then (f (ti_cl j)).toInt64 else ti_NO) ())]) (congrArg (fun z => F0 m 41 ls [.long z]) hv9) ?_
      exact hret _ () _ _ _ _ (trivial) hP trivial hS (Nat.le_of_ble_eq_true rfl) (Nat.le_of_ble_eq_true rfl) (fun hq hf9 => W.lret hx hb hr hq hf9 dX0_peek_41 hlk)

set_option maxHeartbeats 2000000 in
theorem met_X0_peek_3 (l : Launch) (D : va_G) (E : Nat → ClassId) (htr : l.stackTraces = false) (z0 : Nat) (ad th : Nat → Nat) (tx : Nat) (hi : Bool) (t9 : Nat) (ht9 : t9 < 6) (a n : Nat) (hn60 : n ≤ 60) (f : Nat → Int64) (j : Int32) : ti_MetX (σ := Unit) (τ := Unit) l D E yX0_peek (ws_ yX0_peek cX0_peek 6 (some .long)) 3 0 0 z0 (ti_wT3 E ad th tx hi t9 (.ref a) ++ [(a, .inl (E 3, n, .inr (.inl f)))]) [.ref (ad 0), .int (nI t9), .int j] (fun _ => True) (fun _ => ti_wT3 E ad th tx hi t9 (.ref a) ++ [(a, .inl (E 3, n, .inr (.inl f)))]) (fun u => some (.long ((fun _ => if ti_lt j n = true then f (ti_cl j) else ti_NO) u))) (fun _ => True) (fun _ _ => True) (fun w => RX14) (fun w => 0) (fun w => ti_wT3 E ad th tx hi t9 (.ref a) ++ [(a, .inl (E 3, n, .inr (.inl f)))]) (fun w => []) (fun w => False) (fun w H => True) := by
  refine ti_metX (by decide) (Nat.le_of_ble_eq_true rfl) ?_
  intro p e s m below meth c H A Q ls S hE hP hD hS hA hZ hAz hx0 htab hl hret hq
  obtain ⟨hQ, hr, hlk, hinit⟩ := hq
  have hsz0 := hS.1
  have hx := S.1
  have hb := S.2.1
  have hown := S.2.2.2.1
  have hts := S.2.2.2.2
  have hK := hE.1
  have hl : lv_has ls 6 [(0, .ref (ad 0)), (1, .int (nI t9)), (2, .int j)] := hl
  have ht5 : ti_t5 (nI t9) = true := by unfold ti_t5; rw [ti_in_nI (by omega) (by decide) (by decide)]; exact decide_eq_true ⟨Nat.zero_le _, by omega⟩
  have hin9 : ti_in j (nI 0) (nI n - nI 1) = ti_lt j n := ti_in_lt (by omega)
  refine lv_iload_n hx hb dX0_peek_0 rfl (lv_at hl 1 rfl) ?_
  refine ti_pS (As := [.int (nI t9)]) (rest := []) (v := .int (ti_b (ti_t5 (nI t9)))) S hE hP [] (met_X0_isTape l D E (nI t9)) rfl (lw_S q920 q921 q66 q922) 1 rfl (by decide +kernel) ⟨Nat.le_of_ble_eq_true rfl, Nat.le_of_ble_eq_true rfl⟩ hl.1 rfl (Nat.le_of_ble_eq_true rfl) ⟨Nat.le_refl _, Nat.le_refl _⟩ dX0_peek_1 ?_
  refine tb_eq (tgt := 38) hx hb dX0_peek_4 (by decide) (fun c4 => ?_) (fun c4 => ?_)
  · skip
    exact absurd ht5 (by rw [c4]; decide)
  · skip
    refine lv_aload_n hx hb dX0_peek_7 rfl (lv_at hl 0 rfl) ?_
    refine va_get (v := .ref (ad 35)) hx hb hts in_X0 hown hK hP 0 rfl rfl 13 (by decide) (hts _ q250) (fun _ h => h) rfl dX0_peek_8 ?_
    refine lv_iload_n hx hb dX0_peek_11 rfl (lv_at hl 1 rfl) ?_
    refine tn_aald hx hb hK hP 1 6 rfl rfl (by omega) (by decide) dX0_peek_12 ?_
    refine va_getN (v := .ref a) hx hb hts in_X6 hown hK hP 2 rfl rfl 0 (by decide) (hE.use q233 rfl rfl) (fun _ h => h) rfl dX0_peek_13 ?_
    refine lv_ifnull hx hb dX0_peek_16 ?_
    refine lv_iload_n hx hb dX0_peek_19 rfl (lv_at hl 2 rfl) ?_
    refine lv_iconst (v := nI 0) hx hb dX0_peek_20 (by decide) ?_
    refine lv_aload_n hx hb dX0_peek_21 rfl (lv_at hl 0 rfl) ?_
    refine va_get (v := .ref (ad 35)) hx hb hts in_X0 hown hK hP 0 rfl rfl 13 (by decide) (hts _ q250) (fun _ h => h) rfl dX0_peek_22 ?_
    refine lv_iload_n hx hb dX0_peek_25 rfl (lv_at hl 1 rfl) ?_
    refine tn_aald hx hb hK hP 1 6 rfl rfl (by omega) (by decide) dX0_peek_26 ?_
    refine ti_callX (ty_runVN (As := []) (rest := [.int (nI 0), .int j]) S (met_X6_size_3 l D E htr z0 (th t9) a n hn60 f H.size) ⟨va_cnB 0 S.2.2.2.2 (lw_meth q1046) rfl rfl rfl (hE.nw q1061 rfl) (S.2.2.2.2 _ q72) (by decide +kernel) ⟨Nat.le_of_ble_eq_true rfl, Nat.le_of_ble_eq_true rfl⟩, S.2.2.2.2 _ q1045, S.2.2.2.2 _ qs24⟩ (ti_preXV (xp := fun _ => True) hE hP hD hS rfl hZ hAz trivial [2, 3] rfl rfl 2 rfl rfl) rfl rfl hl.1 rfl (lv_room (Nat.le_of_ble_eq_true rfl)) dX0_peek_27 ⟨Nat.le_of_ble_eq_true rfl, Nat.le_of_ble_eq_true rfl⟩) hP hD hS hA [2, 3] rfl (fun _ => rfl) (fun _ => rfl) (fun _ H locs hu _ _ hP hD hS => ?_) (fun _ _ _ _ h9 => absurd h9 id)
    have hP : va_P D vwCl (ti_wT3 E ad th tx hi t9 (.ref a) ++ [(a, .inl (E 3, n, .inr (.inl f)))]) H := hP
    have hD : va_D A (ti_wT3 E ad th tx hi t9 (.ref a) ++ [(a, .inl (E 3, n, .inr (.inl f)))]) := hD
    refine W.eq (g2 := F0 m 30 ls [.int (nI n), .int (nI 0), .int j]) rfl ?_
    refine lv_iconst (v := nI 1) hx hb dX0_peek_30 (by decide) ?_
    refine lv_isub hx hb dX0_peek_31 ?_
    refine ti_pS (As := [.int j, .int (nI 0), .int ((nI n) - (nI 1))]) (rest := []) (v := .int (ti_b (ti_in j (nI 0) (((nI n) - (nI 1)))))) S hE hP [] (met_X0_in l D E j (nI 0) (((nI n) - (nI 1)))) rfl (lw_S q302 q303 q66 q304) 3 rfl (by decide +kernel) ⟨Nat.le_of_ble_eq_true rfl, Nat.le_of_ble_eq_true rfl⟩ hl.1 rfl (Nat.le_of_ble_eq_true rfl) ⟨Nat.le_refl _, Nat.le_refl _⟩ dX0_peek_32 ?_
    refine tb_ne (tgt := 42) hx hb dX0_peek_35 (by decide) (fun c35 => ?_) (fun c35 => ?_)
    · skip
      have hin : ti_lt j n = true := by rw [← hin9]; exact c35
      obtain ⟨j9, hj9, rfl⟩ := ti_lt_nat hin
      refine lv_aload_n hx hb dX0_peek_42 rfl (lv_at hl 0 rfl) ?_
      refine va_get (v := .ref (ad 35)) hx hb hts in_X0 hown hK hP 0 rfl rfl 13 (by decide) (hts _ q250) (fun _ h => h) rfl dX0_peek_43 ?_
      refine lv_iload_n hx hb dX0_peek_46 rfl (lv_at hl 1 rfl) ?_
      refine tn_aald hx hb hK hP 1 6 rfl rfl (by omega) (by decide) dX0_peek_47 ?_
      refine lv_astore_n (lv' := [(3, .ref (th t9)), (0, .ref (ad 0)), (1, .int (nI t9)), (2, .int (nI j9))]) hx hb dX0_peek_48 rfl hl (by decide) rfl (fun ls hl => ?_)
      refine lv_aload_n hx hb dX0_peek_49 rfl (lv_at hl 0 rfl) ?_
      refine va_getN (v := .ref a) hx hb hts in_X6 hown hK hP 2 rfl rfl 0 (by decide) (hE.use q233 rfl rfl) (fun _ h => h) rfl dX0_peek_50 ?_
      refine lv_astore (lv' := [(5, .ref a), (3, .ref (th t9)), (0, .ref (ad 0)), (1, .int (nI t9)), (2, .int (nI j9))]) hx hb dX0_peek_53 hl (by decide) rfl (fun ls hl => ?_)
      refine lv_aload hx hb dX0_peek_55 (lv_at hl 0 rfl) ?_
      refine va_instNo (C := "[J") hx hb hown (hts _ q923) (hZ.2.2.2.2 "[J" "[B" (by decide)) (ti_recvA hP 3 rfl (hK.2 3 _ rfl).2) dX0_peek_57 ?_
      refine W.eq (g2 := F0 m 60 ls [.int (nI 0)]) rfl ?_
      refine lv_if_eq (tgt := 76) hx hb dX0_peek_60 (by decide) (fun _ => ?_) (fun h9 => absurd rfl h9)
      refine lv_aload_n hx hb dX0_peek_76 rfl (lv_at hl 1 rfl) ?_
      refine va_getN (v := .ref a) hx hb hts in_X6 hown hK hP 2 rfl rfl 0 (by decide) (hE.use q233 rfl rfl) (fun _ h => h) rfl dX0_peek_77 ?_
      refine lv_astore (lv' := [(5, .ref a), (3, .ref (th t9)), (0, .ref (ad 0)), (1, .int (nI t9)), (2, .int (nI j9))]) hx hb dX0_peek_80 hl (by decide) rfl (fun ls hl => ?_)
      refine lv_aload hx hb dX0_peek_82 (lv_at hl 0 rfl) ?_
      refine va_instNo (C := "[J") hx hb hown (hts _ q1053) (hZ.2.2.2.2 "[J" "[S" (by decide)) (ti_recvA hP 3 rfl (hK.2 3 _ rfl).2) dX0_peek_84 ?_
      refine W.eq (g2 := F0 m 87 ls [.int (nI 0)]) rfl ?_
      refine lv_if_eq (tgt := 103) hx hb dX0_peek_87 (by decide) (fun _ => ?_) (fun h9 => absurd rfl h9)
      refine lv_aload_n hx hb dX0_peek_103 rfl (lv_at hl 1 rfl) ?_
      refine va_getN (v := .ref a) hx hb hts in_X6 hown hK hP 2 rfl rfl 0 (by decide) (hE.use q233 rfl rfl) (fun _ h => h) rfl dX0_peek_104 ?_
      refine lv_astore (lv' := [(5, .ref a), (3, .ref (th t9)), (0, .ref (ad 0)), (1, .int (nI t9)), (2, .int (nI j9))]) hx hb dX0_peek_107 hl (by decide) rfl (fun ls hl => ?_)
      refine lv_aload hx hb dX0_peek_109 (lv_at hl 0 rfl) ?_
      refine va_instNo (C := "[J") hx hb hown (hts _ q1054) (hZ.2.2.2.2 "[J" "[I" (by decide)) (ti_recvA hP 3 rfl (hK.2 3 _ rfl).2) dX0_peek_111 ?_
      refine W.eq (g2 := F0 m 114 ls [.int (nI 0)]) rfl ?_
      refine lv_if_eq (tgt := 130) hx hb dX0_peek_114 (by decide) (fun _ => ?_) (fun h9 => absurd rfl h9)
      refine lv_aload_n hx hb dX0_peek_130 rfl (lv_at hl 1 rfl) ?_
      refine va_getN (v := .ref a) hx hb hts in_X6 hown hK hP 2 rfl rfl 0 (by decide) (hE.use q233 rfl rfl) (fun _ h => h) rfl dX0_peek_131 ?_
      refine lv_astore (lv' := [(5, .ref a), (3, .ref (th t9)), (0, .ref (ad 0)), (1, .int (nI t9)), (2, .int (nI j9))]) hx hb dX0_peek_134 hl (by decide) rfl (fun ls hl => ?_)
      refine lv_aload hx hb dX0_peek_136 (lv_at hl 0 rfl) ?_
      refine ti_instA (nm := "[J") hx hb hown (hts _ q1055) hP 3 rfl (hK.2 3 _ rfl).2 dX0_peek_138 ?_
      refine W.eq (g2 := F0 m 141 ls [.int (nI 1)]) rfl ?_
      refine lv_if_eq (tgt := 158) hx hb dX0_peek_141 (by decide) (fun h9 => absurd h9 (by decide)) (fun _ => ?_)
      refine lv_aload hx hb dX0_peek_144 (lv_at hl 0 rfl) ?_
      refine va_castA hx hb hown (hts _ q1055) hP 3 rfl (hK.2 3 _ rfl).2 dX0_peek_146 ?_
      refine lv_astore (lv' := [(4, .ref a), (5, .ref a), (3, .ref (th t9)), (0, .ref (ad 0)), (1, .int (nI t9)), (2, .int (nI j9))]) hx hb dX0_peek_149 hl (by decide) rfl (fun ls hl => ?_)
      refine lv_aload hx hb dX0_peek_151 (lv_at hl 0 rfl) ?_
      refine lv_iload_n hx hb dX0_peek_153 rfl (lv_at hl 5 rfl) ?_
      refine tn_lald (f := f) hx hb hK hP 3 3 rfl rfl (by omega) (by omega) dX0_peek_154 ?_
      refine lv_goto (tgt := 175) hx hb dX0_peek_155 (by decide) ?_
      have hv9 : (f j9) = (fun _ => if ti_lt (nI j9) n = true then f (ti_cl (nI j9)) else ti_NO) () := by rw [if_pos hin, ti_cl_nI (by omega)]
      refine W.eq (g2 := F0 m 175 ls [.long ((fun _ => if ti_lt (nI j9) n = true then f (ti_cl (nI j9)) else ti_NO) ())]) (congrArg (fun z => F0 m 175 ls [.long z]) hv9) ?_
      exact hret _ () _ _ _ _ (trivial) hP trivial hS (Nat.le_of_ble_eq_true rfl) (Nat.le_of_ble_eq_true rfl) (fun hq hf9 => W.lret hx hb hr hq hf9 dX0_peek_175 hlk)
    · skip
      have hinF : ti_lt j n = false := by rw [← hin9]; exact c35
      refine lv_ldc2 (v := (-9223372036854775808)) hx hb hown (hts _ q748) dX0_peek_38 ?_
      have hv9 : ((-9223372036854775808)) = (fun _ => if ti_lt j n = true then f (ti_cl j) else ti_NO) () := by rw [if_neg (by rw [hinF]; decide)]; rfl
      refine W.eq (g2 := F0 m 41 ls [.long ((fun _ => if ti_lt j n = true then f (ti_cl j) else ti_NO) ())]) (congrArg (fun z => F0 m 41 ls [.long z]) hv9) ?_
      exact hret _ () _ _ _ _ (trivial) hP trivial hS (Nat.le_of_ble_eq_true rfl) (Nat.le_of_ble_eq_true rfl) (fun hq hf9 => W.lret hx hb hr hq hf9 dX0_peek_41 hlk)

set_option maxHeartbeats 2000000 in
theorem met_X0_peek_4 (l : Launch) (D : va_G) (E : Nat → ClassId) (htr : l.stackTraces = false) (z0 : Nat) (ad th : Nat → Nat) (tx : Nat) (hi : Bool) (t9 : Nat) (ht9 : t9 < 6) (a n : Nat) (hn60 : n ≤ 60) (f : Nat → Int32) (j : Int32) : ti_MetX (σ := Unit) (τ := Unit) l D E yX0_peek (ws_ yX0_peek cX0_peek 6 (some .long)) 3 0 0 z0 (ti_wT3 E ad th tx hi t9 (.ref a) ++ [(a, .inl (E 4, n, .inl f))]) [.ref (ad 0), .int (nI t9), .int j] (fun _ => True) (fun _ => ti_wT3 E ad th tx hi t9 (.ref a) ++ [(a, .inl (E 4, n, .inl f))]) (fun u => some (.long ((fun _ => if ti_lt j n = true then (if f (ti_cl j) = 0 then 0 else 1) else ti_NO) u))) (fun _ => True) (fun _ _ => True) (fun w => RX14) (fun w => 0) (fun w => ti_wT3 E ad th tx hi t9 (.ref a) ++ [(a, .inl (E 4, n, .inl f))]) (fun w => []) (fun w => False) (fun w H => True) := by
  refine ti_metX (by decide) (Nat.le_of_ble_eq_true rfl) ?_
  intro p e s m below meth c H A Q ls S hE hP hD hS hA hZ hAz hx0 htab hl hret hq
  obtain ⟨hQ, hr, hlk, hinit⟩ := hq
  have hsz0 := hS.1
  have hx := S.1
  have hb := S.2.1
  have hown := S.2.2.2.1
  have hts := S.2.2.2.2
  have hK := hE.1
  have hl : lv_has ls 6 [(0, .ref (ad 0)), (1, .int (nI t9)), (2, .int j)] := hl
  have ht5 : ti_t5 (nI t9) = true := by unfold ti_t5; rw [ti_in_nI (by omega) (by decide) (by decide)]; exact decide_eq_true ⟨Nat.zero_le _, by omega⟩
  have hin9 : ti_in j (nI 0) (nI n - nI 1) = ti_lt j n := ti_in_lt (by omega)
  refine lv_iload_n hx hb dX0_peek_0 rfl (lv_at hl 1 rfl) ?_
  refine ti_pS (As := [.int (nI t9)]) (rest := []) (v := .int (ti_b (ti_t5 (nI t9)))) S hE hP [] (met_X0_isTape l D E (nI t9)) rfl (lw_S q920 q921 q66 q922) 1 rfl (by decide +kernel) ⟨Nat.le_of_ble_eq_true rfl, Nat.le_of_ble_eq_true rfl⟩ hl.1 rfl (Nat.le_of_ble_eq_true rfl) ⟨Nat.le_refl _, Nat.le_refl _⟩ dX0_peek_1 ?_
  refine tb_eq (tgt := 38) hx hb dX0_peek_4 (by decide) (fun c4 => ?_) (fun c4 => ?_)
  · skip
    exact absurd ht5 (by rw [c4]; decide)
  · skip
    refine lv_aload_n hx hb dX0_peek_7 rfl (lv_at hl 0 rfl) ?_
    refine va_get (v := .ref (ad 35)) hx hb hts in_X0 hown hK hP 0 rfl rfl 13 (by decide) (hts _ q250) (fun _ h => h) rfl dX0_peek_8 ?_
    refine lv_iload_n hx hb dX0_peek_11 rfl (lv_at hl 1 rfl) ?_
    refine tn_aald hx hb hK hP 1 6 rfl rfl (by omega) (by decide) dX0_peek_12 ?_
    refine va_getN (v := .ref a) hx hb hts in_X6 hown hK hP 2 rfl rfl 0 (by decide) (hE.use q233 rfl rfl) (fun _ h => h) rfl dX0_peek_13 ?_
    refine lv_ifnull hx hb dX0_peek_16 ?_
    refine lv_iload_n hx hb dX0_peek_19 rfl (lv_at hl 2 rfl) ?_
    refine lv_iconst (v := nI 0) hx hb dX0_peek_20 (by decide) ?_
    refine lv_aload_n hx hb dX0_peek_21 rfl (lv_at hl 0 rfl) ?_
    refine va_get (v := .ref (ad 35)) hx hb hts in_X0 hown hK hP 0 rfl rfl 13 (by decide) (hts _ q250) (fun _ h => h) rfl dX0_peek_22 ?_
    refine lv_iload_n hx hb dX0_peek_25 rfl (lv_at hl 1 rfl) ?_
    refine tn_aald hx hb hK hP 1 6 rfl rfl (by omega) (by decide) dX0_peek_26 ?_
    refine ti_callX (ty_runVN (As := []) (rest := [.int (nI 0), .int j]) S (met_X6_size_4 l D E htr z0 (th t9) a n hn60 f H.size) ⟨va_cnB 0 S.2.2.2.2 (lw_meth q1046) rfl rfl rfl (hE.nw q1061 rfl) (S.2.2.2.2 _ q72) (by decide +kernel) ⟨Nat.le_of_ble_eq_true rfl, Nat.le_of_ble_eq_true rfl⟩, S.2.2.2.2 _ q1045, S.2.2.2.2 _ qs24⟩ (ti_preXV (xp := fun _ => True) hE hP hD hS rfl hZ hAz trivial [2, 3] rfl rfl 2 rfl rfl) rfl rfl hl.1 rfl (lv_room (Nat.le_of_ble_eq_true rfl)) dX0_peek_27 ⟨Nat.le_of_ble_eq_true rfl, Nat.le_of_ble_eq_true rfl⟩) hP hD hS hA [2, 3] rfl (fun _ => rfl) (fun _ => rfl) (fun _ H locs hu _ _ hP hD hS => ?_) (fun _ _ _ _ h9 => absurd h9 id)
    have hP : va_P D vwCl (ti_wT3 E ad th tx hi t9 (.ref a) ++ [(a, .inl (E 4, n, .inl f))]) H := hP
    have hD : va_D A (ti_wT3 E ad th tx hi t9 (.ref a) ++ [(a, .inl (E 4, n, .inl f))]) := hD
    refine W.eq (g2 := F0 m 30 ls [.int (nI n), .int (nI 0), .int j]) rfl ?_
    refine lv_iconst (v := nI 1) hx hb dX0_peek_30 (by decide) ?_
    refine lv_isub hx hb dX0_peek_31 ?_
    refine ti_pS (As := [.int j, .int (nI 0), .int ((nI n) - (nI 1))]) (rest := []) (v := .int (ti_b (ti_in j (nI 0) (((nI n) - (nI 1)))))) S hE hP [] (met_X0_in l D E j (nI 0) (((nI n) - (nI 1)))) rfl (lw_S q302 q303 q66 q304) 3 rfl (by decide +kernel) ⟨Nat.le_of_ble_eq_true rfl, Nat.le_of_ble_eq_true rfl⟩ hl.1 rfl (Nat.le_of_ble_eq_true rfl) ⟨Nat.le_refl _, Nat.le_refl _⟩ dX0_peek_32 ?_
    refine tb_ne (tgt := 42) hx hb dX0_peek_35 (by decide) (fun c35 => ?_) (fun c35 => ?_)
    · skip
      have hin : ti_lt j n = true := by rw [← hin9]; exact c35
      obtain ⟨j9, hj9, rfl⟩ := ti_lt_nat hin
      refine lv_aload_n hx hb dX0_peek_42 rfl (lv_at hl 0 rfl) ?_
      refine va_get (v := .ref (ad 35)) hx hb hts in_X0 hown hK hP 0 rfl rfl 13 (by decide) (hts _ q250) (fun _ h => h) rfl dX0_peek_43 ?_
      refine lv_iload_n hx hb dX0_peek_46 rfl (lv_at hl 1 rfl) ?_
      refine tn_aald hx hb hK hP 1 6 rfl rfl (by omega) (by decide) dX0_peek_47 ?_
      refine lv_astore_n (lv' := [(3, .ref (th t9)), (0, .ref (ad 0)), (1, .int (nI t9)), (2, .int (nI j9))]) hx hb dX0_peek_48 rfl hl (by decide) rfl (fun ls hl => ?_)
      refine lv_aload_n hx hb dX0_peek_49 rfl (lv_at hl 0 rfl) ?_
      refine va_getN (v := .ref a) hx hb hts in_X6 hown hK hP 2 rfl rfl 0 (by decide) (hE.use q233 rfl rfl) (fun _ h => h) rfl dX0_peek_50 ?_
      refine lv_astore (lv' := [(5, .ref a), (3, .ref (th t9)), (0, .ref (ad 0)), (1, .int (nI t9)), (2, .int (nI j9))]) hx hb dX0_peek_53 hl (by decide) rfl (fun ls hl => ?_)
      refine lv_aload hx hb dX0_peek_55 (lv_at hl 0 rfl) ?_
      refine va_instNo (C := "[Z") hx hb hown (hts _ q923) (hZ.2.2.2.2 "[Z" "[B" (by decide)) (ti_recvA hP 3 rfl (hK.2 4 _ rfl).2) dX0_peek_57 ?_
      refine W.eq (g2 := F0 m 60 ls [.int (nI 0)]) rfl ?_
      refine lv_if_eq (tgt := 76) hx hb dX0_peek_60 (by decide) (fun _ => ?_) (fun h9 => absurd rfl h9)
      refine lv_aload_n hx hb dX0_peek_76 rfl (lv_at hl 1 rfl) ?_
      refine va_getN (v := .ref a) hx hb hts in_X6 hown hK hP 2 rfl rfl 0 (by decide) (hE.use q233 rfl rfl) (fun _ h => h) rfl dX0_peek_77 ?_
      refine lv_astore (lv' := [(5, .ref a), (3, .ref (th t9)), (0, .ref (ad 0)), (1, .int (nI t9)), (2, .int (nI j9))]) hx hb dX0_peek_80 hl (by decide) rfl (fun ls hl => ?_)
      refine lv_aload hx hb dX0_peek_82 (lv_at hl 0 rfl) ?_
      refine va_instNo (C := "[Z") hx hb hown (hts _ q1053) (hZ.2.2.2.2 "[Z" "[S" (by decide)) (ti_recvA hP 3 rfl (hK.2 4 _ rfl).2) dX0_peek_84 ?_
      refine W.eq (g2 := F0 m 87 ls [.int (nI 0)]) rfl ?_
      refine lv_if_eq (tgt := 103) hx hb dX0_peek_87 (by decide) (fun _ => ?_) (fun h9 => absurd rfl h9)
      refine lv_aload_n hx hb dX0_peek_103 rfl (lv_at hl 1 rfl) ?_
      refine va_getN (v := .ref a) hx hb hts in_X6 hown hK hP 2 rfl rfl 0 (by decide) (hE.use q233 rfl rfl) (fun _ h => h) rfl dX0_peek_104 ?_
      refine lv_astore (lv' := [(5, .ref a), (3, .ref (th t9)), (0, .ref (ad 0)), (1, .int (nI t9)), (2, .int (nI j9))]) hx hb dX0_peek_107 hl (by decide) rfl (fun ls hl => ?_)
      refine lv_aload hx hb dX0_peek_109 (lv_at hl 0 rfl) ?_
      refine va_instNo (C := "[Z") hx hb hown (hts _ q1054) (hZ.2.2.2.2 "[Z" "[I" (by decide)) (ti_recvA hP 3 rfl (hK.2 4 _ rfl).2) dX0_peek_111 ?_
      refine W.eq (g2 := F0 m 114 ls [.int (nI 0)]) rfl ?_
      refine lv_if_eq (tgt := 130) hx hb dX0_peek_114 (by decide) (fun _ => ?_) (fun h9 => absurd rfl h9)
      refine lv_aload_n hx hb dX0_peek_130 rfl (lv_at hl 1 rfl) ?_
      refine va_getN (v := .ref a) hx hb hts in_X6 hown hK hP 2 rfl rfl 0 (by decide) (hE.use q233 rfl rfl) (fun _ h => h) rfl dX0_peek_131 ?_
      refine lv_astore (lv' := [(5, .ref a), (3, .ref (th t9)), (0, .ref (ad 0)), (1, .int (nI t9)), (2, .int (nI j9))]) hx hb dX0_peek_134 hl (by decide) rfl (fun ls hl => ?_)
      refine lv_aload hx hb dX0_peek_136 (lv_at hl 0 rfl) ?_
      refine va_instNo (C := "[Z") hx hb hown (hts _ q1055) (hZ.2.2.2.2 "[Z" "[J" (by decide)) (ti_recvA hP 3 rfl (hK.2 4 _ rfl).2) dX0_peek_138 ?_
      refine W.eq (g2 := F0 m 141 ls [.int (nI 0)]) rfl ?_
      refine lv_if_eq (tgt := 158) hx hb dX0_peek_141 (by decide) (fun _ => ?_) (fun h9 => absurd rfl h9)
      refine lv_aload_n hx hb dX0_peek_158 rfl (lv_at hl 1 rfl) ?_
      refine va_getN (v := .ref a) hx hb hts in_X6 hown hK hP 2 rfl rfl 0 (by decide) (hE.use q233 rfl rfl) (fun _ h => h) rfl dX0_peek_159 ?_
      refine va_castA hx hb hown (hts _ q1056) hP 3 rfl (hK.2 4 _ rfl).2 dX0_peek_162 ?_
      refine lv_iload_n hx hb dX0_peek_165 rfl (lv_at hl 4 rfl) ?_
      refine tn_zaldR (f := f) hx hb hK hP 3 4 rfl rfl (by omega) (by omega) dX0_peek_166 ?_
      refine lv_if_eq (tgt := 174) hx hb dX0_peek_167 (by decide) (fun c167 => ?_) (fun c167 => ?_)
      · skip
        refine lv_lconst (v := lN 0) hx hb dX0_peek_174 (by decide) ?_
        have hv9 : (lN 0) = (fun _ => if ti_lt (nI j9) n = true then (if f (ti_cl (nI j9)) = 0 then 0 else 1) else ti_NO) () := by rw [if_pos hin, ti_cl_nI (by omega), if_pos c167]; rfl
        refine W.eq (g2 := F0 m 175 ls [.long ((fun _ => if ti_lt (nI j9) n = true then (if f (ti_cl (nI j9)) = 0 then 0 else 1) else ti_NO) ())]) (congrArg (fun z => F0 m 175 ls [.long z]) hv9) ?_
        exact hret _ () _ _ _ _ (trivial) hP trivial hS (Nat.le_of_ble_eq_true rfl) (Nat.le_of_ble_eq_true rfl) (fun hq hf9 => W.lret hx hb hr hq hf9 dX0_peek_175 hlk)
      · skip
        refine lv_lconst (v := lN 1) hx hb dX0_peek_170 (by decide) ?_
        refine lv_goto (tgt := 175) hx hb dX0_peek_171 (by decide) ?_
        have hv9 : (lN 1) = (fun _ => if ti_lt (nI j9) n = true then (if f (ti_cl (nI j9)) = 0 then 0 else 1) else ti_NO) () := by rw [if_pos hin, ti_cl_nI (by omega), if_neg c167]; rfl
        refine W.eq (g2 := F0 m 175 ls [.long ((fun _ => if ti_lt (nI j9) n = true then (if f (ti_cl (nI j9)) = 0 then 0 else 1) else ti_NO) ())]) (congrArg (fun z => F0 m 175 ls [.long z]) hv9) ?_
        exact hret _ () _ _ _ _ (trivial) hP trivial hS (Nat.le_of_ble_eq_true rfl) (Nat.le_of_ble_eq_true rfl) (fun hq hf9 => W.lret hx hb hr hq hf9 dX0_peek_175 hlk)
    · skip
      have hinF : ti_lt j n = false := by rw [← hin9]; exact c35
      refine lv_ldc2 (v := (-9223372036854775808)) hx hb hown (hts _ q748) dX0_peek_38 ?_
      have hv9 : ((-9223372036854775808)) = (fun _ => if ti_lt j n = true then (if f (ti_cl j) = 0 then 0 else 1) else ti_NO) () := by rw [if_neg (by rw [hinF]; decide)]; rfl
      refine W.eq (g2 := F0 m 41 ls [.long ((fun _ => if ti_lt j n = true then (if f (ti_cl j) = 0 then 0 else 1) else ti_NO) ())]) (congrArg (fun z => F0 m 41 ls [.long z]) hv9) ?_
      exact hret _ () _ _ _ _ (trivial) hP trivial hS (Nat.le_of_ble_eq_true rfl) (Nat.le_of_ble_eq_true rfl) (fun hq hf9 => W.lret hx hb hr hq hf9 dX0_peek_41 hlk)

set_option maxHeartbeats 2000000 in
theorem met_X0_item_b (l : Launch) (D : va_G) (E : Nat → ClassId) (htr : l.stackTraces = false) (z0 : Nat) (ad : Nat → Nat) (tx : Nat) (hi : Bool) (t j : Int32) (v : Int64) (ht5 : ti_t5 t = false) : ti_MetX (σ := Unit) (τ := Unit) l D E yX0_item (wsW_ yX0_item cX0_item 11 (some .int) [(17, 23, 26, 373)]) 9 1 7 z0 ([(ad 0, .inr (0, [.ref (ad 1), .ref (ad 2), .ref (ad 5), .ref (ad 11), .ref (ad 14), .ref (ad 16), .ref (ad 18), .ref (ad 20), .ref (ad 22), .int (nI tx), .ref (ad 23), .ref (ad 27), .ref (ad 31), .ref (ad 35), .ref (ad 36), .ref (ad 37), .ref (ad 41), .ref (ad 45), .int (ti_b hi)]))]) [.ref (ad 0), .int t, .int j, .long v] (fun _ => True) (fun _ => [(ad 0, .inr (0, [.ref (ad 1), .ref (ad 2), .ref (ad 5), .ref (ad 11), .ref (ad 14), .ref (ad 16), .ref (ad 18), .ref (ad 20), .ref (ad 22), .int (nI tx), .ref (ad 23), .ref (ad 27), .ref (ad 31), .ref (ad 35), .ref (ad 36), .ref (ad 37), .ref (ad 41), .ref (ad 45), .int (ti_b hi)]))]) (fun u => some (.int ((fun _ => (-1 : Int32)) u))) (fun _ => True) (fun _ _ => True) (fun w => RX14) (fun w => 0) (fun w => [(ad 0, .inr (0, [.ref (ad 1), .ref (ad 2), .ref (ad 5), .ref (ad 11), .ref (ad 14), .ref (ad 16), .ref (ad 18), .ref (ad 20), .ref (ad 22), .int (nI tx), .ref (ad 23), .ref (ad 27), .ref (ad 31), .ref (ad 35), .ref (ad 36), .ref (ad 37), .ref (ad 41), .ref (ad 45), .int (ti_b hi)]))]) (fun w => []) (fun w => False) (fun w H => True) := by
  refine ti_metXH (by decide) (Nat.le_of_ble_eq_true rfl) ?_
  intro p e s m below meth c H A Q ls S hE hP hD hS hA hZ hAz hx0 htab hl hret hq
  obtain ⟨hQ, hr, hlk, hinit⟩ := hq
  have hsz0 := hS.1
  have hx := S.1
  have hb := S.2.1
  have hown := S.2.2.2.1
  have hts := S.2.2.2.2
  have hK := hE.1
  have hl : lv_has ls 11 [(0, .ref (ad 0)), (1, .int t), (2, .int j), (3, .long v)] := hl
  refine lv_iload_n hx hb dX0_item_0 rfl (lv_at hl 1 rfl) ?_
  refine ti_pS (As := [.int t]) (rest := []) (v := .int (ti_b (ti_t5 t))) S hE hP [] (met_X0_isTape l D E t) rfl (lw_S q920 q921 q66 q922) 1 rfl (by decide +kernel) ⟨Nat.le_of_ble_eq_true rfl, Nat.le_of_ble_eq_true rfl⟩ hl.1 rfl (Nat.le_of_ble_eq_true rfl) ⟨Nat.le_of_ble_eq_true rfl, Nat.le_of_ble_eq_true rfl⟩ dX0_item_1 ?_
  refine tb_ne (tgt := 9) hx hb dX0_item_4 (by decide) (fun c4 => ?_) (fun c4 => ?_)
  · skip
    exact absurd c4 (by rw [ht5]; decide)
  · skip
    refine lv_iconst (v := (-1)) hx hb dX0_item_7 (by decide) ?_
    have hv9 : ((-1)) = (fun _ => (-1 : Int32)) () := (rfl : (-1 : Int32) = -1)
    refine W.eq (g2 := F0 m 8 ls [.int ((fun _ => (-1 : Int32)) ())]) (congrArg (fun z => F0 m 8 ls [.int z]) hv9) ?_
    exact hret _ () _ _ _ _ (trivial) hP trivial hS (Nat.le_of_ble_eq_true rfl) (Nat.le_of_ble_eq_true rfl) (fun hq hf9 => W.iret hx hb hr hq hf9 dX0_item_8 hlk)

set_option maxHeartbeats 2000000 in
theorem met_X0_item_n (l : Launch) (D : va_G) (E : Nat → ClassId) (htr : l.stackTraces = false) (z0 : Nat) (ad th : Nat → Nat) (tx : Nat) (hi : Bool) (t9 : Nat) (ht9 : t9 < 6) (j : Int32) (v : Int64) : ti_MetX (σ := Unit) (τ := Unit) l D E yX0_item (wsW_ yX0_item cX0_item 11 (some .int) [(17, 23, 26, 373)]) 9 1 7 z0 (ti_wT3 E ad th tx hi t9 .null) [.ref (ad 0), .int (nI t9), .int j, .long v] (fun _ => True) (fun _ => ti_wT3 E ad th tx hi t9 .null) (fun u => some (.int ((fun _ => (-11 : Int32)) u))) (fun _ => True) (fun _ _ => True) (fun w => RX14) (fun w => 0) (fun w => ti_wT3 E ad th tx hi t9 .null) (fun w => []) (fun w => False) (fun w H => True) := by
  refine ti_metXH (by decide) (Nat.le_of_ble_eq_true rfl) ?_
  intro p e s m below meth c H A Q ls S hE hP hD hS hA hZ hAz hx0 htab hl hret hq
  obtain ⟨hQ, hr, hlk, hinit⟩ := hq
  have hsz0 := hS.1
  have hx := S.1
  have hb := S.2.1
  have hown := S.2.2.2.1
  have hts := S.2.2.2.2
  have hK := hE.1
  have hl : lv_has ls 11 [(0, .ref (ad 0)), (1, .int (nI t9)), (2, .int j), (3, .long v)] := hl
  have ht5 : ti_t5 (nI t9) = true := by unfold ti_t5; rw [ti_in_nI (by omega) (by decide) (by decide)]; exact decide_eq_true ⟨Nat.zero_le _, by omega⟩
  refine lv_iload_n hx hb dX0_item_0 rfl (lv_at hl 1 rfl) ?_
  refine ti_pS (As := [.int (nI t9)]) (rest := []) (v := .int (ti_b (ti_t5 (nI t9)))) S hE hP [] (met_X0_isTape l D E (nI t9)) rfl (lw_S q920 q921 q66 q922) 1 rfl (by decide +kernel) ⟨Nat.le_of_ble_eq_true rfl, Nat.le_of_ble_eq_true rfl⟩ hl.1 rfl (Nat.le_of_ble_eq_true rfl) ⟨Nat.le_of_ble_eq_true rfl, Nat.le_of_ble_eq_true rfl⟩ dX0_item_1 ?_
  refine tb_ne (tgt := 9) hx hb dX0_item_4 (by decide) (fun c4 => ?_) (fun c4 => ?_)
  · skip
    refine lv_aload_n hx hb dX0_item_9 rfl (lv_at hl 0 rfl) ?_
    refine va_get (v := .ref (ad 35)) hx hb hts in_X0 hown hK hP 0 rfl rfl 13 (by decide) (hts _ q250) (fun _ h => h) rfl dX0_item_10 ?_
    refine lv_iload_n hx hb dX0_item_13 rfl (lv_at hl 1 rfl) ?_
    refine tn_aald hx hb hK hP 1 6 rfl rfl (by omega) (by decide) dX0_item_14 ?_
    refine lv_astore (lv' := [(5, .ref (th t9)), (0, .ref (ad 0)), (1, .int (nI t9)), (2, .int j), (3, .long v)]) hx hb dX0_item_15 hl (by decide) rfl (fun ls hl => ?_)
    refine lv_aload hx hb dX0_item_17 (lv_at hl 0 rfl) ?_
    refine lv_iload_n hx hb dX0_item_19 rfl (lv_at hl 3 rfl) ?_
    refine ti_callX (ty_runVN (As := [.int j]) (rest := []) S (met_X6_has_n l D E htr z0 (th t9) j H.size) ⟨va_cnB 1 S.2.2.2.2 (lw_meth q1023) rfl rfl rfl (hE.nw q1020 rfl) (S.2.2.2.2 _ q72) (by decide +kernel) ⟨Nat.le_of_ble_eq_true rfl, Nat.le_of_ble_eq_true rfl⟩, S.2.2.2.2 _ q1022, S.2.2.2.2 _ qs23⟩ (ti_preXV (xp := fun _ => True) hE hP hD hS rfl hZ hAz trivial [2] rfl rfl 2 rfl rfl) rfl rfl hl.1 rfl (lv_room (Nat.le_of_ble_eq_true rfl)) dX0_item_20 ⟨Nat.le_of_ble_eq_true rfl, Nat.le_of_ble_eq_true rfl⟩) hP hD hS hA [2] rfl (fun _ => rfl) (fun _ => rfl) (fun _ _ _ h9 => absurd h9 id) (fun we H locs ce hpx hxx hFr hP hD hPe hnew hS hce hcv hcl => ?_)
    have hP : va_P D vwCl (ti_wT3 E ad th tx hi t9 .null) H := hP
    have hD : va_D A (ti_wT3 E ad th tx hi t9 .null) := hD
    have hPe : va_P D vwCl [(we.1, .inr (15, [.ref we.1, we.2.1, we.2.2, .null, .null, .int 0, .int (-11)]))] H := hPe
    have hP := hP.app hPe
    refine vx_catch hown [] ⟨17, 23, 26, 373⟩ [] htab (fun z hz => absurd hz List.not_mem_nil) rfl (by decide) (hts _ q1019) (hE.use q1026 rfl rfl) hce hcv hcl ?_
    refine lv_astore (lv' := [(6, .ref we.1), (5, .ref (th t9)), (0, .ref (ad 0)), (1, .int (nI t9)), (2, .int j), (3, .long v)]) hx hb dX0_item_26 hl (by decide) rfl (fun ls hl => ?_)
    refine lv_aload hx hb dX0_item_28 (lv_at hl 0 rfl) ?_
    refine va_getN (v := .int ((-11))) hx hb hts in_X15 hown hK hP 3 rfl rfl 6 (by decide) (hE.use q1038 rfl rfl) (fun _ h => h) rfl dX0_item_30 ?_
    have hP := ti_P_l hP
    have hv9 : ((-11)) = (fun _ => (-11 : Int32)) () := rfl
    refine W.eq (g2 := F0 m 33 ls [.int ((fun _ => (-11 : Int32)) ())]) (congrArg (fun z => F0 m 33 ls [.int z]) hv9) ?_
    exact hret _ () _ _ _ _ (trivial) hP trivial hS (Nat.le_of_ble_eq_true rfl) (Nat.le_of_ble_eq_true rfl) (fun hq hf9 => W.iret hx hb hr hq hf9 dX0_item_33 hlk)
  · skip
    exact absurd ht5 (by rw [c4]; decide)

set_option maxHeartbeats 2000000 in
theorem met_X0_item_0 (l : Launch) (D : va_G) (E : Nat → ClassId) (htr : l.stackTraces = false) (z0 : Nat) (ad th : Nat → Nat) (tx : Nat) (hi : Bool) (t9 : Nat) (ht9 : t9 < 6) (a n : Nat) (hn60 : n ≤ 60) (f : Nat → Int32) (j : Int32) (v : Int64) : ti_MetX (σ := Nat → Int32) (τ := Unit) l D E yX0_item (wsW_ yX0_item cX0_item 11 (some .int) [(17, 23, 26, 373)]) 9 1 7 z0 (ti_wT3 E ad th tx hi t9 (.ref a) ++ [(a, .inl (E 1, n, .inl f))]) [.ref (ad 0), .int (nI t9), .int j, .long v] (fun _ => True) (fun u => ti_wT3 E ad th tx hi t9 (.ref a) ++ [(a, .inl (E 1, n, .inl u))]) (fun u => some (.int ((fun _ => if ti_lt j n = true then (1 : Int32) else -13) u))) (fun u => u = if ti_lt j n = true then va_up f (ti_cl j) v.toInt32.toInt8.toInt32 else f) (fun _ _ => True) (fun w => RX14) (fun w => 0) (fun w => ti_wT3 E ad th tx hi t9 (.ref a) ++ [(a, .inl (E 1, n, .inl f))]) (fun w => []) (fun w => False) (fun w H => True) := by
  refine ti_metXH (by decide) (Nat.le_of_ble_eq_true rfl) ?_
  intro p e s m below meth c H A Q ls S hE hP hD hS hA hZ hAz hx0 htab hl hret hq
  obtain ⟨hQ, hr, hlk, hinit⟩ := hq
  have hsz0 := hS.1
  have hx := S.1
  have hb := S.2.1
  have hown := S.2.2.2.1
  have hts := S.2.2.2.2
  have hK := hE.1
  have hl : lv_has ls 11 [(0, .ref (ad 0)), (1, .int (nI t9)), (2, .int j), (3, .long v)] := hl
  have ht5 : ti_t5 (nI t9) = true := by unfold ti_t5; rw [ti_in_nI (by omega) (by decide) (by decide)]; exact decide_eq_true ⟨Nat.zero_le _, by omega⟩
  refine lv_iload_n hx hb dX0_item_0 rfl (lv_at hl 1 rfl) ?_
  refine ti_pS (As := [.int (nI t9)]) (rest := []) (v := .int (ti_b (ti_t5 (nI t9)))) S hE hP [] (met_X0_isTape l D E (nI t9)) rfl (lw_S q920 q921 q66 q922) 1 rfl (by decide +kernel) ⟨Nat.le_of_ble_eq_true rfl, Nat.le_of_ble_eq_true rfl⟩ hl.1 rfl (Nat.le_of_ble_eq_true rfl) ⟨Nat.le_of_ble_eq_true rfl, Nat.le_of_ble_eq_true rfl⟩ dX0_item_1 ?_
  refine tb_ne (tgt := 9) hx hb dX0_item_4 (by decide) (fun c4 => ?_) (fun c4 => ?_)
  · skip
    refine lv_aload_n hx hb dX0_item_9 rfl (lv_at hl 0 rfl) ?_
    refine va_get (v := .ref (ad 35)) hx hb hts in_X0 hown hK hP 0 rfl rfl 13 (by decide) (hts _ q250) (fun _ h => h) rfl dX0_item_10 ?_
    refine lv_iload_n hx hb dX0_item_13 rfl (lv_at hl 1 rfl) ?_
    refine tn_aald hx hb hK hP 1 6 rfl rfl (by omega) (by decide) dX0_item_14 ?_
    refine lv_astore (lv' := [(5, .ref (th t9)), (0, .ref (ad 0)), (1, .int (nI t9)), (2, .int j), (3, .long v)]) hx hb dX0_item_15 hl (by decide) rfl (fun ls hl => ?_)
    refine lv_aload hx hb dX0_item_17 (lv_at hl 0 rfl) ?_
    refine lv_iload_n hx hb dX0_item_19 rfl (lv_at hl 3 rfl) ?_
    cases hin : ti_lt j n with
    | false =>
      refine ti_callX (ty_runVN (As := [.int j]) (rest := []) S (met_X6_has_x0 l D E htr z0 (th t9) a n hn60 f j hin H.size) ⟨va_cnB 1 S.2.2.2.2 (lw_meth q1023) rfl rfl rfl (hE.nw q1020 rfl) (S.2.2.2.2 _ q72) (by decide +kernel) ⟨Nat.le_of_ble_eq_true rfl, Nat.le_of_ble_eq_true rfl⟩, S.2.2.2.2 _ q1022, S.2.2.2.2 _ qs23⟩ (ti_preXV (xp := fun _ => True) hE hP hD hS rfl hZ hAz trivial [2, 3] rfl rfl 2 rfl rfl) rfl rfl hl.1 rfl (lv_room (Nat.le_of_ble_eq_true rfl)) dX0_item_20 ⟨Nat.le_of_ble_eq_true rfl, Nat.le_of_ble_eq_true rfl⟩) hP hD hS hA [2, 3] rfl (fun _ => rfl) (fun _ => rfl) (fun _ _ _ h9 => absurd h9 id) (fun we H locs ce hpx hxx hFr hP hD hPe hnew hS hce hcv hcl => ?_)
      have hP : va_P D vwCl (ti_wT3 E ad th tx hi t9 (.ref a) ++ [(a, .inl (E 1, n, .inl f))]) H := hP
      have hD : va_D A (ti_wT3 E ad th tx hi t9 (.ref a) ++ [(a, .inl (E 1, n, .inl f))]) := hD
      have hPe : va_P D vwCl [(we.1, .inr (15, [.ref we.1, we.2.1, we.2.2, .null, .null, .int 0, .int (-13)]))] H := hPe
      have hP := hP.app hPe
      refine vx_catch hown [] ⟨17, 23, 26, 373⟩ [] htab (fun z hz => absurd hz List.not_mem_nil) rfl (by decide) (hts _ q1019) (hE.use q1026 rfl rfl) hce hcv hcl ?_
      refine lv_astore (lv' := [(6, .ref we.1), (5, .ref (th t9)), (0, .ref (ad 0)), (1, .int (nI t9)), (2, .int j), (3, .long v)]) hx hb dX0_item_26 hl (by decide) rfl (fun ls hl => ?_)
      refine lv_aload hx hb dX0_item_28 (lv_at hl 0 rfl) ?_
      refine va_getN (v := .int ((-13))) hx hb hts in_X15 hown hK hP 4 rfl rfl 6 (by decide) (hE.use q1038 rfl rfl) (fun _ h => h) rfl dX0_item_30 ?_
      have hP := ti_P_l hP
      have hv9 : ((-13)) = (fun _ => if ti_lt j n = true then (1 : Int32) else -13) f := by rw [if_neg (by rw [hin]; decide)]
      refine W.eq (g2 := F0 m 33 ls [.int ((fun _ => if ti_lt j n = true then (1 : Int32) else -13) f)]) (congrArg (fun z => F0 m 33 ls [.int z]) hv9) ?_
      exact hret _ f _ _ _ _ (by rw [if_neg (by rw [hin]; decide)]) hP trivial hS (Nat.le_of_ble_eq_true rfl) (Nat.le_of_ble_eq_true rfl) (fun hq hf9 => W.iret hx hb hr hq hf9 dX0_item_33 hlk)
    | true =>
      refine ti_callX (ty_runVN (As := [.int j]) (rest := []) S (met_X6_has_0 l D E htr z0 (th t9) a n hn60 f j hin H.size) ⟨va_cnB 1 S.2.2.2.2 (lw_meth q1023) rfl rfl rfl (hE.nw q1020 rfl) (S.2.2.2.2 _ q72) (by decide +kernel) ⟨Nat.le_of_ble_eq_true rfl, Nat.le_of_ble_eq_true rfl⟩, S.2.2.2.2 _ q1022, S.2.2.2.2 _ qs23⟩ (ti_preXV (xp := fun _ => True) hE hP hD hS rfl hZ hAz trivial [2, 3] rfl rfl 2 rfl rfl) rfl rfl hl.1 rfl (lv_room (Nat.le_of_ble_eq_true rfl)) dX0_item_20 ⟨Nat.le_of_ble_eq_true rfl, Nat.le_of_ble_eq_true rfl⟩) hP hD hS hA [2, 3] rfl (fun _ => rfl) (fun _ => rfl) (fun _ H locs _ _ _ hP hD hS => ?_) (fun _ _ _ _ h9 => absurd h9 id)
      have hP : va_P D vwCl (ti_wT3 E ad th tx hi t9 (.ref a) ++ [(a, .inl (E 1, n, .inl f))]) H := hP
      have hD : va_D A (ti_wT3 E ad th tx hi t9 (.ref a) ++ [(a, .inl (E 1, n, .inl f))]) := hD
      refine W.eq (g2 := F0 m 23 ls []) rfl ?_
      obtain ⟨j9, hj9, rfl⟩ := ti_lt_nat hin
      have hcj : ti_cl (nI j9) = j9 := ti_cl_nI (by omega)
      have hl : lv_has ls 11 [(5, .ref (th t9)), (0, .ref (ad 0)), (1, .int (nI t9)), (2, .int (nI j9)), (3, .long v)] := hl
      refine lv_goto (tgt := 34) hx hb dX0_item_23 (by decide) ?_
      refine lv_aload hx hb dX0_item_34 (lv_at hl 0 rfl) ?_
      refine va_getN (v := .ref a) hx hb hts in_X6 hown hK hP 2 rfl rfl 0 (by decide) (hE.use q233 rfl rfl) (fun _ h => h) rfl dX0_item_36 ?_
      refine lv_astore (lv' := [(10, .ref a), (5, .ref (th t9)), (0, .ref (ad 0)), (1, .int (nI t9)), (2, .int (nI j9)), (3, .long v)]) hx hb dX0_item_39 hl (by decide) rfl (fun ls hl => ?_)
      refine lv_aload hx hb dX0_item_41 (lv_at hl 0 rfl) ?_
      refine ti_instA (nm := "[B") hx hb hown (hts _ q923) hP 3 rfl (hK.2 1 _ rfl).2 dX0_item_43 ?_
      refine W.eq (g2 := F0 m 46 ls [.int (nI 1)]) rfl ?_
      refine lv_if_eq (tgt := 66) hx hb dX0_item_46 (by decide) (fun h9 => absurd h9 (by decide)) (fun _ => ?_)
      refine lv_aload hx hb dX0_item_49 (lv_at hl 0 rfl) ?_
      refine va_castA hx hb hown (hts _ q923) hP 3 rfl (hK.2 1 _ rfl).2 dX0_item_51 ?_
      refine lv_astore (lv' := [(6, .ref a), (10, .ref a), (5, .ref (th t9)), (0, .ref (ad 0)), (1, .int (nI t9)), (2, .int (nI j9)), (3, .long v)]) hx hb dX0_item_54 hl (by decide) rfl (fun ls hl => ?_)
      refine lv_aload hx hb dX0_item_56 (lv_at hl 0 rfl) ?_
      refine lv_iload_n hx hb dX0_item_58 rfl (lv_at hl 5 rfl) ?_
      refine lv_lload_n hx hb dX0_item_59 rfl (lv_at hl 6 rfl) ?_
      refine lv_l2i (v := Int64.toInt32 v) hx hb dX0_item_60 rfl ?_
      refine lv_i2b (v := ((Int64.toInt32 v)).toInt8.toInt32) hx hb dX0_item_61 rfl ?_
      refine tn_bastR (f := f) (y := (((Int64.toInt32 v)).toInt8.toInt32)) hx hb hK hP hD hS 3 1 rfl rfl (by omega) (by omega) (ti_nrB _) dX0_item_62 (fun H locs hP hD hS => ?_)
      have hP : va_P D vwCl (ti_wT3 E ad th tx hi t9 (.ref a) ++ [(a, .inl (E 1, n, .inl (va_up f j9 ((((Int64.toInt32 v)).toInt8.toInt32)))))]) H := hP
      have hD : va_D A (ti_wT3 E ad th tx hi t9 (.ref a) ++ [(a, .inl (E 1, n, .inl (va_up f j9 ((((Int64.toInt32 v)).toInt8.toInt32)))))]) := hD
      refine lv_goto (tgt := 180) hx hb dX0_item_63 (by decide) ?_
      refine lv_iconst (v := nI 1) hx hb dX0_item_180 (by decide) ?_
      have hv9 : (nI 1) = (fun _ => if ti_lt (nI j9) n = true then (1 : Int32) else -13) (va_up f j9 ((((Int64.toInt32 v)).toInt8.toInt32))) := by rw [if_pos hin]; rfl
      refine W.eq (g2 := F0 m 181 ls [.int ((fun _ => if ti_lt (nI j9) n = true then (1 : Int32) else -13) (va_up f j9 ((((Int64.toInt32 v)).toInt8.toInt32))))]) (congrArg (fun z => F0 m 181 ls [.int z]) hv9) ?_
      exact hret _ (va_up f j9 ((((Int64.toInt32 v)).toInt8.toInt32))) _ _ _ _ (by rw [if_pos hin, hcj]) hP trivial hS (Nat.le_of_ble_eq_true rfl) (Nat.le_of_ble_eq_true rfl) (fun hq hf9 => W.iret hx hb hr hq hf9 dX0_item_181 hlk)
  · skip
    exact absurd ht5 (by rw [c4]; decide)

set_option maxHeartbeats 2000000 in
theorem met_X0_item_1 (l : Launch) (D : va_G) (E : Nat → ClassId) (htr : l.stackTraces = false) (z0 : Nat) (ad th : Nat → Nat) (tx : Nat) (hi : Bool) (t9 : Nat) (ht9 : t9 < 6) (a n : Nat) (hn60 : n ≤ 60) (f : Nat → Int32) (j : Int32) (v : Int64) : ti_MetX (σ := Nat → Int32) (τ := Unit) l D E yX0_item (wsW_ yX0_item cX0_item 11 (some .int) [(17, 23, 26, 373)]) 9 1 7 z0 (ti_wT3 E ad th tx hi t9 (.ref a) ++ [(a, .inl (E 2, n, .inl f))]) [.ref (ad 0), .int (nI t9), .int j, .long v] (fun _ => True) (fun u => ti_wT3 E ad th tx hi t9 (.ref a) ++ [(a, .inl (E 2, n, .inl u))]) (fun u => some (.int ((fun _ => if ti_lt j n = true then (1 : Int32) else -13) u))) (fun u => u = if ti_lt j n = true then va_up f (ti_cl j) v.toInt32.toInt16.toInt32 else f) (fun _ _ => True) (fun w => RX14) (fun w => 0) (fun w => ti_wT3 E ad th tx hi t9 (.ref a) ++ [(a, .inl (E 2, n, .inl f))]) (fun w => []) (fun w => False) (fun w H => True) := by
  refine ti_metXH (by decide) (Nat.le_of_ble_eq_true rfl) ?_
  intro p e s m below meth c H A Q ls S hE hP hD hS hA hZ hAz hx0 htab hl hret hq
  obtain ⟨hQ, hr, hlk, hinit⟩ := hq
  have hsz0 := hS.1
  have hx := S.1
  have hb := S.2.1
  have hown := S.2.2.2.1
  have hts := S.2.2.2.2
  have hK := hE.1
  have hl : lv_has ls 11 [(0, .ref (ad 0)), (1, .int (nI t9)), (2, .int j), (3, .long v)] := hl
  have ht5 : ti_t5 (nI t9) = true := by unfold ti_t5; rw [ti_in_nI (by omega) (by decide) (by decide)]; exact decide_eq_true ⟨Nat.zero_le _, by omega⟩
  refine lv_iload_n hx hb dX0_item_0 rfl (lv_at hl 1 rfl) ?_
  refine ti_pS (As := [.int (nI t9)]) (rest := []) (v := .int (ti_b (ti_t5 (nI t9)))) S hE hP [] (met_X0_isTape l D E (nI t9)) rfl (lw_S q920 q921 q66 q922) 1 rfl (by decide +kernel) ⟨Nat.le_of_ble_eq_true rfl, Nat.le_of_ble_eq_true rfl⟩ hl.1 rfl (Nat.le_of_ble_eq_true rfl) ⟨Nat.le_of_ble_eq_true rfl, Nat.le_of_ble_eq_true rfl⟩ dX0_item_1 ?_
  refine tb_ne (tgt := 9) hx hb dX0_item_4 (by decide) (fun c4 => ?_) (fun c4 => ?_)
  · skip
    refine lv_aload_n hx hb dX0_item_9 rfl (lv_at hl 0 rfl) ?_
    refine va_get (v := .ref (ad 35)) hx hb hts in_X0 hown hK hP 0 rfl rfl 13 (by decide) (hts _ q250) (fun _ h => h) rfl dX0_item_10 ?_
    refine lv_iload_n hx hb dX0_item_13 rfl (lv_at hl 1 rfl) ?_
    refine tn_aald hx hb hK hP 1 6 rfl rfl (by omega) (by decide) dX0_item_14 ?_
    refine lv_astore (lv' := [(5, .ref (th t9)), (0, .ref (ad 0)), (1, .int (nI t9)), (2, .int j), (3, .long v)]) hx hb dX0_item_15 hl (by decide) rfl (fun ls hl => ?_)
    refine lv_aload hx hb dX0_item_17 (lv_at hl 0 rfl) ?_
    refine lv_iload_n hx hb dX0_item_19 rfl (lv_at hl 3 rfl) ?_
    cases hin : ti_lt j n with
    | false =>
      refine ti_callX (ty_runVN (As := [.int j]) (rest := []) S (met_X6_has_x1 l D E htr z0 (th t9) a n hn60 f j hin H.size) ⟨va_cnB 1 S.2.2.2.2 (lw_meth q1023) rfl rfl rfl (hE.nw q1020 rfl) (S.2.2.2.2 _ q72) (by decide +kernel) ⟨Nat.le_of_ble_eq_true rfl, Nat.le_of_ble_eq_true rfl⟩, S.2.2.2.2 _ q1022, S.2.2.2.2 _ qs23⟩ (ti_preXV (xp := fun _ => True) hE hP hD hS rfl hZ hAz trivial [2, 3] rfl rfl 2 rfl rfl) rfl rfl hl.1 rfl (lv_room (Nat.le_of_ble_eq_true rfl)) dX0_item_20 ⟨Nat.le_of_ble_eq_true rfl, Nat.le_of_ble_eq_true rfl⟩) hP hD hS hA [2, 3] rfl (fun _ => rfl) (fun _ => rfl) (fun _ _ _ h9 => absurd h9 id) (fun we H locs ce hpx hxx hFr hP hD hPe hnew hS hce hcv hcl => ?_)
      have hP : va_P D vwCl (ti_wT3 E ad th tx hi t9 (.ref a) ++ [(a, .inl (E 2, n, .inl f))]) H := hP
      have hD : va_D A (ti_wT3 E ad th tx hi t9 (.ref a) ++ [(a, .inl (E 2, n, .inl f))]) := hD
      have hPe : va_P D vwCl [(we.1, .inr (15, [.ref we.1, we.2.1, we.2.2, .null, .null, .int 0, .int (-13)]))] H := hPe
      have hP := hP.app hPe
      refine vx_catch hown [] ⟨17, 23, 26, 373⟩ [] htab (fun z hz => absurd hz List.not_mem_nil) rfl (by decide) (hts _ q1019) (hE.use q1026 rfl rfl) hce hcv hcl ?_
      refine lv_astore (lv' := [(6, .ref we.1), (5, .ref (th t9)), (0, .ref (ad 0)), (1, .int (nI t9)), (2, .int j), (3, .long v)]) hx hb dX0_item_26 hl (by decide) rfl (fun ls hl => ?_)
      refine lv_aload hx hb dX0_item_28 (lv_at hl 0 rfl) ?_
      refine va_getN (v := .int ((-13))) hx hb hts in_X15 hown hK hP 4 rfl rfl 6 (by decide) (hE.use q1038 rfl rfl) (fun _ h => h) rfl dX0_item_30 ?_
      have hP := ti_P_l hP
      have hv9 : ((-13)) = (fun _ => if ti_lt j n = true then (1 : Int32) else -13) f := by rw [if_neg (by rw [hin]; decide)]
      refine W.eq (g2 := F0 m 33 ls [.int ((fun _ => if ti_lt j n = true then (1 : Int32) else -13) f)]) (congrArg (fun z => F0 m 33 ls [.int z]) hv9) ?_
      exact hret _ f _ _ _ _ (by rw [if_neg (by rw [hin]; decide)]) hP trivial hS (Nat.le_of_ble_eq_true rfl) (Nat.le_of_ble_eq_true rfl) (fun hq hf9 => W.iret hx hb hr hq hf9 dX0_item_33 hlk)
    | true =>
      refine ti_callX (ty_runVN (As := [.int j]) (rest := []) S (met_X6_has_1 l D E htr z0 (th t9) a n hn60 f j hin H.size) ⟨va_cnB 1 S.2.2.2.2 (lw_meth q1023) rfl rfl rfl (hE.nw q1020 rfl) (S.2.2.2.2 _ q72) (by decide +kernel) ⟨Nat.le_of_ble_eq_true rfl, Nat.le_of_ble_eq_true rfl⟩, S.2.2.2.2 _ q1022, S.2.2.2.2 _ qs23⟩ (ti_preXV (xp := fun _ => True) hE hP hD hS rfl hZ hAz trivial [2, 3] rfl rfl 2 rfl rfl) rfl rfl hl.1 rfl (lv_room (Nat.le_of_ble_eq_true rfl)) dX0_item_20 ⟨Nat.le_of_ble_eq_true rfl, Nat.le_of_ble_eq_true rfl⟩) hP hD hS hA [2, 3] rfl (fun _ => rfl) (fun _ => rfl) (fun _ H locs _ _ _ hP hD hS => ?_) (fun _ _ _ _ h9 => absurd h9 id)
      have hP : va_P D vwCl (ti_wT3 E ad th tx hi t9 (.ref a) ++ [(a, .inl (E 2, n, .inl f))]) H := hP
      have hD : va_D A (ti_wT3 E ad th tx hi t9 (.ref a) ++ [(a, .inl (E 2, n, .inl f))]) := hD
      refine W.eq (g2 := F0 m 23 ls []) rfl ?_
      obtain ⟨j9, hj9, rfl⟩ := ti_lt_nat hin
      have hcj : ti_cl (nI j9) = j9 := ti_cl_nI (by omega)
      have hl : lv_has ls 11 [(5, .ref (th t9)), (0, .ref (ad 0)), (1, .int (nI t9)), (2, .int (nI j9)), (3, .long v)] := hl
      refine lv_goto (tgt := 34) hx hb dX0_item_23 (by decide) ?_
      refine lv_aload hx hb dX0_item_34 (lv_at hl 0 rfl) ?_
      refine va_getN (v := .ref a) hx hb hts in_X6 hown hK hP 2 rfl rfl 0 (by decide) (hE.use q233 rfl rfl) (fun _ h => h) rfl dX0_item_36 ?_
      refine lv_astore (lv' := [(10, .ref a), (5, .ref (th t9)), (0, .ref (ad 0)), (1, .int (nI t9)), (2, .int (nI j9)), (3, .long v)]) hx hb dX0_item_39 hl (by decide) rfl (fun ls hl => ?_)
      refine lv_aload hx hb dX0_item_41 (lv_at hl 0 rfl) ?_
      refine va_instNo (C := "[S") hx hb hown (hts _ q923) (hZ.2.2.2.2 "[S" "[B" (by decide)) (ti_recvA hP 3 rfl (hK.2 2 _ rfl).2) dX0_item_43 ?_
      refine W.eq (g2 := F0 m 46 ls [.int (nI 0)]) rfl ?_
      refine lv_if_eq (tgt := 66) hx hb dX0_item_46 (by decide) (fun _ => ?_) (fun h9 => absurd rfl h9)
      refine lv_aload hx hb dX0_item_66 (lv_at hl 1 rfl) ?_
      refine va_getN (v := .ref a) hx hb hts in_X6 hown hK hP 2 rfl rfl 0 (by decide) (hE.use q233 rfl rfl) (fun _ h => h) rfl dX0_item_68 ?_
      refine lv_astore (lv' := [(10, .ref a), (5, .ref (th t9)), (0, .ref (ad 0)), (1, .int (nI t9)), (2, .int (nI j9)), (3, .long v)]) hx hb dX0_item_71 hl (by decide) rfl (fun ls hl => ?_)
      refine lv_aload hx hb dX0_item_73 (lv_at hl 0 rfl) ?_
      refine ti_instA (nm := "[S") hx hb hown (hts _ q1053) hP 3 rfl (hK.2 2 _ rfl).2 dX0_item_75 ?_
      refine W.eq (g2 := F0 m 78 ls [.int (nI 1)]) rfl ?_
      refine lv_if_eq (tgt := 98) hx hb dX0_item_78 (by decide) (fun h9 => absurd h9 (by decide)) (fun _ => ?_)
      refine lv_aload hx hb dX0_item_81 (lv_at hl 0 rfl) ?_
      refine va_castA hx hb hown (hts _ q1053) hP 3 rfl (hK.2 2 _ rfl).2 dX0_item_83 ?_
      refine lv_astore (lv' := [(7, .ref a), (10, .ref a), (5, .ref (th t9)), (0, .ref (ad 0)), (1, .int (nI t9)), (2, .int (nI j9)), (3, .long v)]) hx hb dX0_item_86 hl (by decide) rfl (fun ls hl => ?_)
      refine lv_aload hx hb dX0_item_88 (lv_at hl 0 rfl) ?_
      refine lv_iload_n hx hb dX0_item_90 rfl (lv_at hl 5 rfl) ?_
      refine lv_lload_n hx hb dX0_item_91 rfl (lv_at hl 6 rfl) ?_
      refine lv_l2i (v := Int64.toInt32 v) hx hb dX0_item_92 rfl ?_
      refine lv_i2s (v := ((Int64.toInt32 v)).toInt16.toInt32) hx hb dX0_item_93 rfl ?_
      refine tn_sastR (f := f) (y := (((Int64.toInt32 v)).toInt16.toInt32)) hx hb hK hP hD hS 3 2 rfl rfl (by omega) (by omega) (ti_nrS _) dX0_item_94 (fun H locs hP hD hS => ?_)
      have hP : va_P D vwCl (ti_wT3 E ad th tx hi t9 (.ref a) ++ [(a, .inl (E 2, n, .inl (va_up f j9 ((((Int64.toInt32 v)).toInt16.toInt32)))))]) H := hP
      have hD : va_D A (ti_wT3 E ad th tx hi t9 (.ref a) ++ [(a, .inl (E 2, n, .inl (va_up f j9 ((((Int64.toInt32 v)).toInt16.toInt32)))))]) := hD
      refine lv_goto (tgt := 180) hx hb dX0_item_95 (by decide) ?_
      refine lv_iconst (v := nI 1) hx hb dX0_item_180 (by decide) ?_
      have hv9 : (nI 1) = (fun _ => if ti_lt (nI j9) n = true then (1 : Int32) else -13) (va_up f j9 ((((Int64.toInt32 v)).toInt16.toInt32))) := by rw [if_pos hin]; rfl
      refine W.eq (g2 := F0 m 181 ls [.int ((fun _ => if ti_lt (nI j9) n = true then (1 : Int32) else -13) (va_up f j9 ((((Int64.toInt32 v)).toInt16.toInt32))))]) (congrArg (fun z => F0 m 181 ls [.int z]) hv9) ?_
      exact hret _ (va_up f j9 ((((Int64.toInt32 v)).toInt16.toInt32))) _ _ _ _ (by rw [if_pos hin, hcj]) hP trivial hS (Nat.le_of_ble_eq_true rfl) (Nat.le_of_ble_eq_true rfl) (fun hq hf9 => W.iret hx hb hr hq hf9 dX0_item_181 hlk)
  · skip
    exact absurd ht5 (by rw [c4]; decide)

set_option maxHeartbeats 2000000 in
theorem met_X0_item_2 (l : Launch) (D : va_G) (E : Nat → ClassId) (htr : l.stackTraces = false) (z0 : Nat) (ad th : Nat → Nat) (tx : Nat) (hi : Bool) (t9 : Nat) (ht9 : t9 < 6) (a n : Nat) (hn60 : n ≤ 60) (f : Nat → Int32) (j : Int32) (v : Int64) : ti_MetX (σ := Nat → Int32) (τ := Unit) l D E yX0_item (wsW_ yX0_item cX0_item 11 (some .int) [(17, 23, 26, 373)]) 9 1 7 z0 (ti_wT3 E ad th tx hi t9 (.ref a) ++ [(a, .inl (E 0, n, .inl f))]) [.ref (ad 0), .int (nI t9), .int j, .long v] (fun _ => True) (fun u => ti_wT3 E ad th tx hi t9 (.ref a) ++ [(a, .inl (E 0, n, .inl u))]) (fun u => some (.int ((fun _ => if ti_lt j n = true then (1 : Int32) else -13) u))) (fun u => u = if ti_lt j n = true then va_up f (ti_cl j) v.toInt32 else f) (fun _ _ => True) (fun w => RX14) (fun w => 0) (fun w => ti_wT3 E ad th tx hi t9 (.ref a) ++ [(a, .inl (E 0, n, .inl f))]) (fun w => []) (fun w => False) (fun w H => True) := by
  refine ti_metXH (by decide) (Nat.le_of_ble_eq_true rfl) ?_
  intro p e s m below meth c H A Q ls S hE hP hD hS hA hZ hAz hx0 htab hl hret hq
  obtain ⟨hQ, hr, hlk, hinit⟩ := hq
  have hsz0 := hS.1
  have hx := S.1
  have hb := S.2.1
  have hown := S.2.2.2.1
  have hts := S.2.2.2.2
  have hK := hE.1
  have hl : lv_has ls 11 [(0, .ref (ad 0)), (1, .int (nI t9)), (2, .int j), (3, .long v)] := hl
  have ht5 : ti_t5 (nI t9) = true := by unfold ti_t5; rw [ti_in_nI (by omega) (by decide) (by decide)]; exact decide_eq_true ⟨Nat.zero_le _, by omega⟩
  refine lv_iload_n hx hb dX0_item_0 rfl (lv_at hl 1 rfl) ?_
  refine ti_pS (As := [.int (nI t9)]) (rest := []) (v := .int (ti_b (ti_t5 (nI t9)))) S hE hP [] (met_X0_isTape l D E (nI t9)) rfl (lw_S q920 q921 q66 q922) 1 rfl (by decide +kernel) ⟨Nat.le_of_ble_eq_true rfl, Nat.le_of_ble_eq_true rfl⟩ hl.1 rfl (Nat.le_of_ble_eq_true rfl) ⟨Nat.le_of_ble_eq_true rfl, Nat.le_of_ble_eq_true rfl⟩ dX0_item_1 ?_
  refine tb_ne (tgt := 9) hx hb dX0_item_4 (by decide) (fun c4 => ?_) (fun c4 => ?_)
  · skip
    refine lv_aload_n hx hb dX0_item_9 rfl (lv_at hl 0 rfl) ?_
    refine va_get (v := .ref (ad 35)) hx hb hts in_X0 hown hK hP 0 rfl rfl 13 (by decide) (hts _ q250) (fun _ h => h) rfl dX0_item_10 ?_
    refine lv_iload_n hx hb dX0_item_13 rfl (lv_at hl 1 rfl) ?_
    refine tn_aald hx hb hK hP 1 6 rfl rfl (by omega) (by decide) dX0_item_14 ?_
    refine lv_astore (lv' := [(5, .ref (th t9)), (0, .ref (ad 0)), (1, .int (nI t9)), (2, .int j), (3, .long v)]) hx hb dX0_item_15 hl (by decide) rfl (fun ls hl => ?_)
    refine lv_aload hx hb dX0_item_17 (lv_at hl 0 rfl) ?_
    refine lv_iload_n hx hb dX0_item_19 rfl (lv_at hl 3 rfl) ?_
    cases hin : ti_lt j n with
    | false =>
      refine ti_callX (ty_runVN (As := [.int j]) (rest := []) S (met_X6_has_x2 l D E htr z0 (th t9) a n hn60 f j hin H.size) ⟨va_cnB 1 S.2.2.2.2 (lw_meth q1023) rfl rfl rfl (hE.nw q1020 rfl) (S.2.2.2.2 _ q72) (by decide +kernel) ⟨Nat.le_of_ble_eq_true rfl, Nat.le_of_ble_eq_true rfl⟩, S.2.2.2.2 _ q1022, S.2.2.2.2 _ qs23⟩ (ti_preXV (xp := fun _ => True) hE hP hD hS rfl hZ hAz trivial [2, 3] rfl rfl 2 rfl rfl) rfl rfl hl.1 rfl (lv_room (Nat.le_of_ble_eq_true rfl)) dX0_item_20 ⟨Nat.le_of_ble_eq_true rfl, Nat.le_of_ble_eq_true rfl⟩) hP hD hS hA [2, 3] rfl (fun _ => rfl) (fun _ => rfl) (fun _ _ _ h9 => absurd h9 id) (fun we H locs ce hpx hxx hFr hP hD hPe hnew hS hce hcv hcl => ?_)
      have hP : va_P D vwCl (ti_wT3 E ad th tx hi t9 (.ref a) ++ [(a, .inl (E 0, n, .inl f))]) H := hP
      have hD : va_D A (ti_wT3 E ad th tx hi t9 (.ref a) ++ [(a, .inl (E 0, n, .inl f))]) := hD
      have hPe : va_P D vwCl [(we.1, .inr (15, [.ref we.1, we.2.1, we.2.2, .null, .null, .int 0, .int (-13)]))] H := hPe
      have hP := hP.app hPe
      refine vx_catch hown [] ⟨17, 23, 26, 373⟩ [] htab (fun z hz => absurd hz List.not_mem_nil) rfl (by decide) (hts _ q1019) (hE.use q1026 rfl rfl) hce hcv hcl ?_
      refine lv_astore (lv' := [(6, .ref we.1), (5, .ref (th t9)), (0, .ref (ad 0)), (1, .int (nI t9)), (2, .int j), (3, .long v)]) hx hb dX0_item_26 hl (by decide) rfl (fun ls hl => ?_)
      refine lv_aload hx hb dX0_item_28 (lv_at hl 0 rfl) ?_
      refine va_getN (v := .int ((-13))) hx hb hts in_X15 hown hK hP 4 rfl rfl 6 (by decide) (hE.use q1038 rfl rfl) (fun _ h => h) rfl dX0_item_30 ?_
      have hP := ti_P_l hP
      have hv9 : ((-13)) = (fun _ => if ti_lt j n = true then (1 : Int32) else -13) f := by rw [if_neg (by rw [hin]; decide)]
      refine W.eq (g2 := F0 m 33 ls [.int ((fun _ => if ti_lt j n = true then (1 : Int32) else -13) f)]) (congrArg (fun z => F0 m 33 ls [.int z]) hv9) ?_
      exact hret _ f _ _ _ _ (by rw [if_neg (by rw [hin]; decide)]) hP trivial hS (Nat.le_of_ble_eq_true rfl) (Nat.le_of_ble_eq_true rfl) (fun hq hf9 => W.iret hx hb hr hq hf9 dX0_item_33 hlk)
    | true =>
      refine ti_callX (ty_runVN (As := [.int j]) (rest := []) S (met_X6_has_2 l D E htr z0 (th t9) a n hn60 f j hin H.size) ⟨va_cnB 1 S.2.2.2.2 (lw_meth q1023) rfl rfl rfl (hE.nw q1020 rfl) (S.2.2.2.2 _ q72) (by decide +kernel) ⟨Nat.le_of_ble_eq_true rfl, Nat.le_of_ble_eq_true rfl⟩, S.2.2.2.2 _ q1022, S.2.2.2.2 _ qs23⟩ (ti_preXV (xp := fun _ => True) hE hP hD hS rfl hZ hAz trivial [2, 3] rfl rfl 2 rfl rfl) rfl rfl hl.1 rfl (lv_room (Nat.le_of_ble_eq_true rfl)) dX0_item_20 ⟨Nat.le_of_ble_eq_true rfl, Nat.le_of_ble_eq_true rfl⟩) hP hD hS hA [2, 3] rfl (fun _ => rfl) (fun _ => rfl) (fun _ H locs _ _ _ hP hD hS => ?_) (fun _ _ _ _ h9 => absurd h9 id)
      have hP : va_P D vwCl (ti_wT3 E ad th tx hi t9 (.ref a) ++ [(a, .inl (E 0, n, .inl f))]) H := hP
      have hD : va_D A (ti_wT3 E ad th tx hi t9 (.ref a) ++ [(a, .inl (E 0, n, .inl f))]) := hD
      refine W.eq (g2 := F0 m 23 ls []) rfl ?_
      obtain ⟨j9, hj9, rfl⟩ := ti_lt_nat hin
      have hcj : ti_cl (nI j9) = j9 := ti_cl_nI (by omega)
      have hl : lv_has ls 11 [(5, .ref (th t9)), (0, .ref (ad 0)), (1, .int (nI t9)), (2, .int (nI j9)), (3, .long v)] := hl
      refine lv_goto (tgt := 34) hx hb dX0_item_23 (by decide) ?_
      refine lv_aload hx hb dX0_item_34 (lv_at hl 0 rfl) ?_
      refine va_getN (v := .ref a) hx hb hts in_X6 hown hK hP 2 rfl rfl 0 (by decide) (hE.use q233 rfl rfl) (fun _ h => h) rfl dX0_item_36 ?_
      refine lv_astore (lv' := [(10, .ref a), (5, .ref (th t9)), (0, .ref (ad 0)), (1, .int (nI t9)), (2, .int (nI j9)), (3, .long v)]) hx hb dX0_item_39 hl (by decide) rfl (fun ls hl => ?_)
      refine lv_aload hx hb dX0_item_41 (lv_at hl 0 rfl) ?_
      refine va_instNo (C := "[I") hx hb hown (hts _ q923) (hZ.2.2.2.2 "[I" "[B" (by decide)) (ti_recvA hP 3 rfl (hK.2 0 _ rfl).2) dX0_item_43 ?_
      refine W.eq (g2 := F0 m 46 ls [.int (nI 0)]) rfl ?_
      refine lv_if_eq (tgt := 66) hx hb dX0_item_46 (by decide) (fun _ => ?_) (fun h9 => absurd rfl h9)
      refine lv_aload hx hb dX0_item_66 (lv_at hl 1 rfl) ?_
      refine va_getN (v := .ref a) hx hb hts in_X6 hown hK hP 2 rfl rfl 0 (by decide) (hE.use q233 rfl rfl) (fun _ h => h) rfl dX0_item_68 ?_
      refine lv_astore (lv' := [(10, .ref a), (5, .ref (th t9)), (0, .ref (ad 0)), (1, .int (nI t9)), (2, .int (nI j9)), (3, .long v)]) hx hb dX0_item_71 hl (by decide) rfl (fun ls hl => ?_)
      refine lv_aload hx hb dX0_item_73 (lv_at hl 0 rfl) ?_
      refine va_instNo (C := "[I") hx hb hown (hts _ q1053) (hZ.2.2.2.2 "[I" "[S" (by decide)) (ti_recvA hP 3 rfl (hK.2 0 _ rfl).2) dX0_item_75 ?_
      refine W.eq (g2 := F0 m 78 ls [.int (nI 0)]) rfl ?_
      refine lv_if_eq (tgt := 98) hx hb dX0_item_78 (by decide) (fun _ => ?_) (fun h9 => absurd rfl h9)
      refine lv_aload hx hb dX0_item_98 (lv_at hl 1 rfl) ?_
      refine va_getN (v := .ref a) hx hb hts in_X6 hown hK hP 2 rfl rfl 0 (by decide) (hE.use q233 rfl rfl) (fun _ h => h) rfl dX0_item_100 ?_
      refine lv_astore (lv' := [(10, .ref a), (5, .ref (th t9)), (0, .ref (ad 0)), (1, .int (nI t9)), (2, .int (nI j9)), (3, .long v)]) hx hb dX0_item_103 hl (by decide) rfl (fun ls hl => ?_)
      refine lv_aload hx hb dX0_item_105 (lv_at hl 0 rfl) ?_
      refine ti_instA (nm := "[I") hx hb hown (hts _ q1054) hP 3 rfl (hK.2 0 _ rfl).2 dX0_item_107 ?_
      refine W.eq (g2 := F0 m 110 ls [.int (nI 1)]) rfl ?_
      refine lv_if_eq (tgt := 129) hx hb dX0_item_110 (by decide) (fun h9 => absurd h9 (by decide)) (fun _ => ?_)
      refine lv_aload hx hb dX0_item_113 (lv_at hl 0 rfl) ?_
      refine va_castA hx hb hown (hts _ q1054) hP 3 rfl (hK.2 0 _ rfl).2 dX0_item_115 ?_
      refine lv_astore (lv' := [(8, .ref a), (10, .ref a), (5, .ref (th t9)), (0, .ref (ad 0)), (1, .int (nI t9)), (2, .int (nI j9)), (3, .long v)]) hx hb dX0_item_118 hl (by decide) rfl (fun ls hl => ?_)
      refine lv_aload hx hb dX0_item_120 (lv_at hl 0 rfl) ?_
      refine lv_iload_n hx hb dX0_item_122 rfl (lv_at hl 5 rfl) ?_
      refine lv_lload_n hx hb dX0_item_123 rfl (lv_at hl 6 rfl) ?_
      refine lv_l2i (v := Int64.toInt32 v) hx hb dX0_item_124 rfl ?_
      refine tn_iastR (f := f) hx hb hK hP hD hS 3 0 rfl rfl (by omega) (by omega) dX0_item_125 (fun H locs hP hD hS => ?_)
      have hP : va_P D vwCl (ti_wT3 E ad th tx hi t9 (.ref a) ++ [(a, .inl (E 0, n, .inl (va_up f j9 (Int64.toInt32 v))))]) H := hP
      have hD : va_D A (ti_wT3 E ad th tx hi t9 (.ref a) ++ [(a, .inl (E 0, n, .inl (va_up f j9 (Int64.toInt32 v))))]) := hD
      refine lv_goto (tgt := 180) hx hb dX0_item_126 (by decide) ?_
      refine lv_iconst (v := nI 1) hx hb dX0_item_180 (by decide) ?_
      have hv9 : (nI 1) = (fun _ => if ti_lt (nI j9) n = true then (1 : Int32) else -13) (va_up f j9 (Int64.toInt32 v)) := by rw [if_pos hin]; rfl
      refine W.eq (g2 := F0 m 181 ls [.int ((fun _ => if ti_lt (nI j9) n = true then (1 : Int32) else -13) (va_up f j9 (Int64.toInt32 v)))]) (congrArg (fun z => F0 m 181 ls [.int z]) hv9) ?_
      exact hret _ (va_up f j9 (Int64.toInt32 v)) _ _ _ _ (by rw [if_pos hin, hcj]) hP trivial hS (Nat.le_of_ble_eq_true rfl) (Nat.le_of_ble_eq_true rfl) (fun hq hf9 => W.iret hx hb hr hq hf9 dX0_item_181 hlk)
  · skip
    exact absurd ht5 (by rw [c4]; decide)

set_option maxHeartbeats 2000000 in
theorem met_X0_item_3 (l : Launch) (D : va_G) (E : Nat → ClassId) (htr : l.stackTraces = false) (z0 : Nat) (ad th : Nat → Nat) (tx : Nat) (hi : Bool) (t9 : Nat) (ht9 : t9 < 6) (a n : Nat) (hn60 : n ≤ 60) (f : Nat → Int64) (j : Int32) (v : Int64) : ti_MetX (σ := Nat → Int64) (τ := Unit) l D E yX0_item (wsW_ yX0_item cX0_item 11 (some .int) [(17, 23, 26, 373)]) 9 1 7 z0 (ti_wT3 E ad th tx hi t9 (.ref a) ++ [(a, .inl (E 3, n, .inr (.inl f)))]) [.ref (ad 0), .int (nI t9), .int j, .long v] (fun _ => True) (fun u => ti_wT3 E ad th tx hi t9 (.ref a) ++ [(a, .inl (E 3, n, .inr (.inl u)))]) (fun u => some (.int ((fun _ => if ti_lt j n = true then (1 : Int32) else -13) u))) (fun u => u = if ti_lt j n = true then va_up f (ti_cl j) v else f) (fun _ _ => True) (fun w => RX14) (fun w => 0) (fun w => ti_wT3 E ad th tx hi t9 (.ref a) ++ [(a, .inl (E 3, n, .inr (.inl f)))]) (fun w => []) (fun w => False) (fun w H => True) := by
  refine ti_metXH (by decide) (Nat.le_of_ble_eq_true rfl) ?_
  intro p e s m below meth c H A Q ls S hE hP hD hS hA hZ hAz hx0 htab hl hret hq
  obtain ⟨hQ, hr, hlk, hinit⟩ := hq
  have hsz0 := hS.1
  have hx := S.1
  have hb := S.2.1
  have hown := S.2.2.2.1
  have hts := S.2.2.2.2
  have hK := hE.1
  have hl : lv_has ls 11 [(0, .ref (ad 0)), (1, .int (nI t9)), (2, .int j), (3, .long v)] := hl
  have ht5 : ti_t5 (nI t9) = true := by unfold ti_t5; rw [ti_in_nI (by omega) (by decide) (by decide)]; exact decide_eq_true ⟨Nat.zero_le _, by omega⟩
  refine lv_iload_n hx hb dX0_item_0 rfl (lv_at hl 1 rfl) ?_
  refine ti_pS (As := [.int (nI t9)]) (rest := []) (v := .int (ti_b (ti_t5 (nI t9)))) S hE hP [] (met_X0_isTape l D E (nI t9)) rfl (lw_S q920 q921 q66 q922) 1 rfl (by decide +kernel) ⟨Nat.le_of_ble_eq_true rfl, Nat.le_of_ble_eq_true rfl⟩ hl.1 rfl (Nat.le_of_ble_eq_true rfl) ⟨Nat.le_of_ble_eq_true rfl, Nat.le_of_ble_eq_true rfl⟩ dX0_item_1 ?_
  refine tb_ne (tgt := 9) hx hb dX0_item_4 (by decide) (fun c4 => ?_) (fun c4 => ?_)
  · skip
    refine lv_aload_n hx hb dX0_item_9 rfl (lv_at hl 0 rfl) ?_
    refine va_get (v := .ref (ad 35)) hx hb hts in_X0 hown hK hP 0 rfl rfl 13 (by decide) (hts _ q250) (fun _ h => h) rfl dX0_item_10 ?_
    refine lv_iload_n hx hb dX0_item_13 rfl (lv_at hl 1 rfl) ?_
    refine tn_aald hx hb hK hP 1 6 rfl rfl (by omega) (by decide) dX0_item_14 ?_
    refine lv_astore (lv' := [(5, .ref (th t9)), (0, .ref (ad 0)), (1, .int (nI t9)), (2, .int j), (3, .long v)]) hx hb dX0_item_15 hl (by decide) rfl (fun ls hl => ?_)
    refine lv_aload hx hb dX0_item_17 (lv_at hl 0 rfl) ?_
    refine lv_iload_n hx hb dX0_item_19 rfl (lv_at hl 3 rfl) ?_
    cases hin : ti_lt j n with
    | false =>
      refine ti_callX (ty_runVN (As := [.int j]) (rest := []) S (met_X6_has_x3 l D E htr z0 (th t9) a n hn60 f j hin H.size) ⟨va_cnB 1 S.2.2.2.2 (lw_meth q1023) rfl rfl rfl (hE.nw q1020 rfl) (S.2.2.2.2 _ q72) (by decide +kernel) ⟨Nat.le_of_ble_eq_true rfl, Nat.le_of_ble_eq_true rfl⟩, S.2.2.2.2 _ q1022, S.2.2.2.2 _ qs23⟩ (ti_preXV (xp := fun _ => True) hE hP hD hS rfl hZ hAz trivial [2, 3] rfl rfl 2 rfl rfl) rfl rfl hl.1 rfl (lv_room (Nat.le_of_ble_eq_true rfl)) dX0_item_20 ⟨Nat.le_of_ble_eq_true rfl, Nat.le_of_ble_eq_true rfl⟩) hP hD hS hA [2, 3] rfl (fun _ => rfl) (fun _ => rfl) (fun _ _ _ h9 => absurd h9 id) (fun we H locs ce hpx hxx hFr hP hD hPe hnew hS hce hcv hcl => ?_)
      have hP : va_P D vwCl (ti_wT3 E ad th tx hi t9 (.ref a) ++ [(a, .inl (E 3, n, .inr (.inl f)))]) H := hP
      have hD : va_D A (ti_wT3 E ad th tx hi t9 (.ref a) ++ [(a, .inl (E 3, n, .inr (.inl f)))]) := hD
      have hPe : va_P D vwCl [(we.1, .inr (15, [.ref we.1, we.2.1, we.2.2, .null, .null, .int 0, .int (-13)]))] H := hPe
      have hP := hP.app hPe
      refine vx_catch hown [] ⟨17, 23, 26, 373⟩ [] htab (fun z hz => absurd hz List.not_mem_nil) rfl (by decide) (hts _ q1019) (hE.use q1026 rfl rfl) hce hcv hcl ?_
      refine lv_astore (lv' := [(6, .ref we.1), (5, .ref (th t9)), (0, .ref (ad 0)), (1, .int (nI t9)), (2, .int j), (3, .long v)]) hx hb dX0_item_26 hl (by decide) rfl (fun ls hl => ?_)
      refine lv_aload hx hb dX0_item_28 (lv_at hl 0 rfl) ?_
      refine va_getN (v := .int ((-13))) hx hb hts in_X15 hown hK hP 4 rfl rfl 6 (by decide) (hE.use q1038 rfl rfl) (fun _ h => h) rfl dX0_item_30 ?_
      have hP := ti_P_l hP
      have hv9 : ((-13)) = (fun _ => if ti_lt j n = true then (1 : Int32) else -13) f := by rw [if_neg (by rw [hin]; decide)]
      refine W.eq (g2 := F0 m 33 ls [.int ((fun _ => if ti_lt j n = true then (1 : Int32) else -13) f)]) (congrArg (fun z => F0 m 33 ls [.int z]) hv9) ?_
      exact hret _ f _ _ _ _ (by rw [if_neg (by rw [hin]; decide)]) hP trivial hS (Nat.le_of_ble_eq_true rfl) (Nat.le_of_ble_eq_true rfl) (fun hq hf9 => W.iret hx hb hr hq hf9 dX0_item_33 hlk)
    | true =>
      refine ti_callX (ty_runVN (As := [.int j]) (rest := []) S (met_X6_has_3 l D E htr z0 (th t9) a n hn60 f j hin H.size) ⟨va_cnB 1 S.2.2.2.2 (lw_meth q1023) rfl rfl rfl (hE.nw q1020 rfl) (S.2.2.2.2 _ q72) (by decide +kernel) ⟨Nat.le_of_ble_eq_true rfl, Nat.le_of_ble_eq_true rfl⟩, S.2.2.2.2 _ q1022, S.2.2.2.2 _ qs23⟩ (ti_preXV (xp := fun _ => True) hE hP hD hS rfl hZ hAz trivial [2, 3] rfl rfl 2 rfl rfl) rfl rfl hl.1 rfl (lv_room (Nat.le_of_ble_eq_true rfl)) dX0_item_20 ⟨Nat.le_of_ble_eq_true rfl, Nat.le_of_ble_eq_true rfl⟩) hP hD hS hA [2, 3] rfl (fun _ => rfl) (fun _ => rfl) (fun _ H locs _ _ _ hP hD hS => ?_) (fun _ _ _ _ h9 => absurd h9 id)
      have hP : va_P D vwCl (ti_wT3 E ad th tx hi t9 (.ref a) ++ [(a, .inl (E 3, n, .inr (.inl f)))]) H := hP
      have hD : va_D A (ti_wT3 E ad th tx hi t9 (.ref a) ++ [(a, .inl (E 3, n, .inr (.inl f)))]) := hD
      refine W.eq (g2 := F0 m 23 ls []) rfl ?_
      obtain ⟨j9, hj9, rfl⟩ := ti_lt_nat hin
      have hcj : ti_cl (nI j9) = j9 := ti_cl_nI (by omega)
      have hl : lv_has ls 11 [(5, .ref (th t9)), (0, .ref (ad 0)), (1, .int (nI t9)), (2, .int (nI j9)), (3, .long v)] := hl
      refine lv_goto (tgt := 34) hx hb dX0_item_23 (by decide) ?_
      refine lv_aload hx hb dX0_item_34 (lv_at hl 0 rfl) ?_
      refine va_getN (v := .ref a) hx hb hts in_X6 hown hK hP 2 rfl rfl 0 (by decide) (hE.use q233 rfl rfl) (fun _ h => h) rfl dX0_item_36 ?_
      refine lv_astore (lv' := [(10, .ref a), (5, .ref (th t9)), (0, .ref (ad 0)), (1, .int (nI t9)), (2, .int (nI j9)), (3, .long v)]) hx hb dX0_item_39 hl (by decide) rfl (fun ls hl => ?_)
      refine lv_aload hx hb dX0_item_41 (lv_at hl 0 rfl) ?_
      refine va_instNo (C := "[J") hx hb hown (hts _ q923) (hZ.2.2.2.2 "[J" "[B" (by decide)) (ti_recvA hP 3 rfl (hK.2 3 _ rfl).2) dX0_item_43 ?_
      refine W.eq (g2 := F0 m 46 ls [.int (nI 0)]) rfl ?_
      refine lv_if_eq (tgt := 66) hx hb dX0_item_46 (by decide) (fun _ => ?_) (fun h9 => absurd rfl h9)
      refine lv_aload hx hb dX0_item_66 (lv_at hl 1 rfl) ?_
      refine va_getN (v := .ref a) hx hb hts in_X6 hown hK hP 2 rfl rfl 0 (by decide) (hE.use q233 rfl rfl) (fun _ h => h) rfl dX0_item_68 ?_
      refine lv_astore (lv' := [(10, .ref a), (5, .ref (th t9)), (0, .ref (ad 0)), (1, .int (nI t9)), (2, .int (nI j9)), (3, .long v)]) hx hb dX0_item_71 hl (by decide) rfl (fun ls hl => ?_)
      refine lv_aload hx hb dX0_item_73 (lv_at hl 0 rfl) ?_
      refine va_instNo (C := "[J") hx hb hown (hts _ q1053) (hZ.2.2.2.2 "[J" "[S" (by decide)) (ti_recvA hP 3 rfl (hK.2 3 _ rfl).2) dX0_item_75 ?_
      refine W.eq (g2 := F0 m 78 ls [.int (nI 0)]) rfl ?_
      refine lv_if_eq (tgt := 98) hx hb dX0_item_78 (by decide) (fun _ => ?_) (fun h9 => absurd rfl h9)
      refine lv_aload hx hb dX0_item_98 (lv_at hl 1 rfl) ?_
      refine va_getN (v := .ref a) hx hb hts in_X6 hown hK hP 2 rfl rfl 0 (by decide) (hE.use q233 rfl rfl) (fun _ h => h) rfl dX0_item_100 ?_
      refine lv_astore (lv' := [(10, .ref a), (5, .ref (th t9)), (0, .ref (ad 0)), (1, .int (nI t9)), (2, .int (nI j9)), (3, .long v)]) hx hb dX0_item_103 hl (by decide) rfl (fun ls hl => ?_)
      refine lv_aload hx hb dX0_item_105 (lv_at hl 0 rfl) ?_
      refine va_instNo (C := "[J") hx hb hown (hts _ q1054) (hZ.2.2.2.2 "[J" "[I" (by decide)) (ti_recvA hP 3 rfl (hK.2 3 _ rfl).2) dX0_item_107 ?_
      refine W.eq (g2 := F0 m 110 ls [.int (nI 0)]) rfl ?_
      refine lv_if_eq (tgt := 129) hx hb dX0_item_110 (by decide) (fun _ => ?_) (fun h9 => absurd rfl h9)
      refine lv_aload hx hb dX0_item_129 (lv_at hl 1 rfl) ?_
      refine va_getN (v := .ref a) hx hb hts in_X6 hown hK hP 2 rfl rfl 0 (by decide) (hE.use q233 rfl rfl) (fun _ h => h) rfl dX0_item_131 ?_
      refine lv_astore (lv' := [(10, .ref a), (5, .ref (th t9)), (0, .ref (ad 0)), (1, .int (nI t9)), (2, .int (nI j9)), (3, .long v)]) hx hb dX0_item_134 hl (by decide) rfl (fun ls hl => ?_)
      refine lv_aload hx hb dX0_item_136 (lv_at hl 0 rfl) ?_
      refine ti_instA (nm := "[J") hx hb hown (hts _ q1055) hP 3 rfl (hK.2 3 _ rfl).2 dX0_item_138 ?_
      refine W.eq (g2 := F0 m 141 ls [.int (nI 1)]) rfl ?_
      refine lv_if_eq (tgt := 159) hx hb dX0_item_141 (by decide) (fun h9 => absurd h9 (by decide)) (fun _ => ?_)
      refine lv_aload hx hb dX0_item_144 (lv_at hl 0 rfl) ?_
      refine va_castA hx hb hown (hts _ q1055) hP 3 rfl (hK.2 3 _ rfl).2 dX0_item_146 ?_
      refine lv_astore (lv' := [(9, .ref a), (10, .ref a), (5, .ref (th t9)), (0, .ref (ad 0)), (1, .int (nI t9)), (2, .int (nI j9)), (3, .long v)]) hx hb dX0_item_149 hl (by decide) rfl (fun ls hl => ?_)
      refine lv_aload hx hb dX0_item_151 (lv_at hl 0 rfl) ?_
      refine lv_iload_n hx hb dX0_item_153 rfl (lv_at hl 5 rfl) ?_
      refine lv_lload_n hx hb dX0_item_154 rfl (lv_at hl 6 rfl) ?_
      refine tn_last (f := f) hx hb hK hP hD hS 3 3 rfl rfl (by omega) (by omega) dX0_item_155 (fun H locs hP hD hS => ?_)
      have hP : va_P D vwCl (ti_wT3 E ad th tx hi t9 (.ref a) ++ [(a, .inl (E 3, n, .inr (.inl (va_up f j9 v))))]) H := hP
      have hD : va_D A (ti_wT3 E ad th tx hi t9 (.ref a) ++ [(a, .inl (E 3, n, .inr (.inl (va_up f j9 v))))]) := hD
      refine lv_goto (tgt := 180) hx hb dX0_item_156 (by decide) ?_
      refine lv_iconst (v := nI 1) hx hb dX0_item_180 (by decide) ?_
      have hv9 : (nI 1) = (fun _ => if ti_lt (nI j9) n = true then (1 : Int32) else -13) (va_up f j9 v) := by rw [if_pos hin]; rfl
      refine W.eq (g2 := F0 m 181 ls [.int ((fun _ => if ti_lt (nI j9) n = true then (1 : Int32) else -13) (va_up f j9 v))]) (congrArg (fun z => F0 m 181 ls [.int z]) hv9) ?_
      exact hret _ (va_up f j9 v) _ _ _ _ (by rw [if_pos hin, hcj]) hP trivial hS (Nat.le_of_ble_eq_true rfl) (Nat.le_of_ble_eq_true rfl) (fun hq hf9 => W.iret hx hb hr hq hf9 dX0_item_181 hlk)
  · skip
    exact absurd ht5 (by rw [c4]; decide)

set_option maxHeartbeats 2000000 in
theorem met_X0_item_4 (l : Launch) (D : va_G) (E : Nat → ClassId) (htr : l.stackTraces = false) (z0 : Nat) (ad th : Nat → Nat) (tx : Nat) (hi : Bool) (t9 : Nat) (ht9 : t9 < 6) (a n : Nat) (hn60 : n ≤ 60) (f : Nat → Int32) (j : Int32) (v : Int64) : ti_MetX (σ := Nat → Int32) (τ := Unit) l D E yX0_item (wsW_ yX0_item cX0_item 11 (some .int) [(17, 23, 26, 373)]) 9 1 7 z0 (ti_wT3 E ad th tx hi t9 (.ref a) ++ [(a, .inl (E 4, n, .inl f))]) [.ref (ad 0), .int (nI t9), .int j, .long v] (fun _ => True) (fun u => ti_wT3 E ad th tx hi t9 (.ref a) ++ [(a, .inl (E 4, n, .inl u))]) (fun u => some (.int ((fun _ => if ti_lt j n = true then (1 : Int32) else -13) u))) (fun u => u = if ti_lt j n = true then va_up f (ti_cl j) (if v = 0 then 0 else 1) else f) (fun _ _ => True) (fun w => RX14) (fun w => 0) (fun w => ti_wT3 E ad th tx hi t9 (.ref a) ++ [(a, .inl (E 4, n, .inl f))]) (fun w => []) (fun w => False) (fun w H => True) := by
  refine ti_metXH (by decide) (Nat.le_of_ble_eq_true rfl) ?_
  intro p e s m below meth c H A Q ls S hE hP hD hS hA hZ hAz hx0 htab hl hret hq
  obtain ⟨hQ, hr, hlk, hinit⟩ := hq
  have hsz0 := hS.1
  have hx := S.1
  have hb := S.2.1
  have hown := S.2.2.2.1
  have hts := S.2.2.2.2
  have hK := hE.1
  have hl : lv_has ls 11 [(0, .ref (ad 0)), (1, .int (nI t9)), (2, .int j), (3, .long v)] := hl
  have ht5 : ti_t5 (nI t9) = true := by unfold ti_t5; rw [ti_in_nI (by omega) (by decide) (by decide)]; exact decide_eq_true ⟨Nat.zero_le _, by omega⟩
  refine lv_iload_n hx hb dX0_item_0 rfl (lv_at hl 1 rfl) ?_
  refine ti_pS (As := [.int (nI t9)]) (rest := []) (v := .int (ti_b (ti_t5 (nI t9)))) S hE hP [] (met_X0_isTape l D E (nI t9)) rfl (lw_S q920 q921 q66 q922) 1 rfl (by decide +kernel) ⟨Nat.le_of_ble_eq_true rfl, Nat.le_of_ble_eq_true rfl⟩ hl.1 rfl (Nat.le_of_ble_eq_true rfl) ⟨Nat.le_of_ble_eq_true rfl, Nat.le_of_ble_eq_true rfl⟩ dX0_item_1 ?_
  refine tb_ne (tgt := 9) hx hb dX0_item_4 (by decide) (fun c4 => ?_) (fun c4 => ?_)
  · skip
    refine lv_aload_n hx hb dX0_item_9 rfl (lv_at hl 0 rfl) ?_
    refine va_get (v := .ref (ad 35)) hx hb hts in_X0 hown hK hP 0 rfl rfl 13 (by decide) (hts _ q250) (fun _ h => h) rfl dX0_item_10 ?_
    refine lv_iload_n hx hb dX0_item_13 rfl (lv_at hl 1 rfl) ?_
    refine tn_aald hx hb hK hP 1 6 rfl rfl (by omega) (by decide) dX0_item_14 ?_
    refine lv_astore (lv' := [(5, .ref (th t9)), (0, .ref (ad 0)), (1, .int (nI t9)), (2, .int j), (3, .long v)]) hx hb dX0_item_15 hl (by decide) rfl (fun ls hl => ?_)
    refine lv_aload hx hb dX0_item_17 (lv_at hl 0 rfl) ?_
    refine lv_iload_n hx hb dX0_item_19 rfl (lv_at hl 3 rfl) ?_
    cases hin : ti_lt j n with
    | false =>
      refine ti_callX (ty_runVN (As := [.int j]) (rest := []) S (met_X6_has_x4 l D E htr z0 (th t9) a n hn60 f j hin H.size) ⟨va_cnB 1 S.2.2.2.2 (lw_meth q1023) rfl rfl rfl (hE.nw q1020 rfl) (S.2.2.2.2 _ q72) (by decide +kernel) ⟨Nat.le_of_ble_eq_true rfl, Nat.le_of_ble_eq_true rfl⟩, S.2.2.2.2 _ q1022, S.2.2.2.2 _ qs23⟩ (ti_preXV (xp := fun _ => True) hE hP hD hS rfl hZ hAz trivial [2, 3] rfl rfl 2 rfl rfl) rfl rfl hl.1 rfl (lv_room (Nat.le_of_ble_eq_true rfl)) dX0_item_20 ⟨Nat.le_of_ble_eq_true rfl, Nat.le_of_ble_eq_true rfl⟩) hP hD hS hA [2, 3] rfl (fun _ => rfl) (fun _ => rfl) (fun _ _ _ h9 => absurd h9 id) (fun we H locs ce hpx hxx hFr hP hD hPe hnew hS hce hcv hcl => ?_)
      have hP : va_P D vwCl (ti_wT3 E ad th tx hi t9 (.ref a) ++ [(a, .inl (E 4, n, .inl f))]) H := hP
      have hD : va_D A (ti_wT3 E ad th tx hi t9 (.ref a) ++ [(a, .inl (E 4, n, .inl f))]) := hD
      have hPe : va_P D vwCl [(we.1, .inr (15, [.ref we.1, we.2.1, we.2.2, .null, .null, .int 0, .int (-13)]))] H := hPe
      have hP := hP.app hPe
      refine vx_catch hown [] ⟨17, 23, 26, 373⟩ [] htab (fun z hz => absurd hz List.not_mem_nil) rfl (by decide) (hts _ q1019) (hE.use q1026 rfl rfl) hce hcv hcl ?_
      refine lv_astore (lv' := [(6, .ref we.1), (5, .ref (th t9)), (0, .ref (ad 0)), (1, .int (nI t9)), (2, .int j), (3, .long v)]) hx hb dX0_item_26 hl (by decide) rfl (fun ls hl => ?_)
      refine lv_aload hx hb dX0_item_28 (lv_at hl 0 rfl) ?_
      refine va_getN (v := .int ((-13))) hx hb hts in_X15 hown hK hP 4 rfl rfl 6 (by decide) (hE.use q1038 rfl rfl) (fun _ h => h) rfl dX0_item_30 ?_
      have hP := ti_P_l hP
      have hv9 : ((-13)) = (fun _ => if ti_lt j n = true then (1 : Int32) else -13) f := by rw [if_neg (by rw [hin]; decide)]
      refine W.eq (g2 := F0 m 33 ls [.int ((fun _ => if ti_lt j n = true then (1 : Int32) else -13) f)]) (congrArg (fun z => F0 m 33 ls [.int z]) hv9) ?_
      exact hret _ f _ _ _ _ (by rw [if_neg (by rw [hin]; decide)]) hP trivial hS (Nat.le_of_ble_eq_true rfl) (Nat.le_of_ble_eq_true rfl) (fun hq hf9 => W.iret hx hb hr hq hf9 dX0_item_33 hlk)
    | true =>
      refine ti_callX (ty_runVN (As := [.int j]) (rest := []) S (met_X6_has_4 l D E htr z0 (th t9) a n hn60 f j hin H.size) ⟨va_cnB 1 S.2.2.2.2 (lw_meth q1023) rfl rfl rfl (hE.nw q1020 rfl) (S.2.2.2.2 _ q72) (by decide +kernel) ⟨Nat.le_of_ble_eq_true rfl, Nat.le_of_ble_eq_true rfl⟩, S.2.2.2.2 _ q1022, S.2.2.2.2 _ qs23⟩ (ti_preXV (xp := fun _ => True) hE hP hD hS rfl hZ hAz trivial [2, 3] rfl rfl 2 rfl rfl) rfl rfl hl.1 rfl (lv_room (Nat.le_of_ble_eq_true rfl)) dX0_item_20 ⟨Nat.le_of_ble_eq_true rfl, Nat.le_of_ble_eq_true rfl⟩) hP hD hS hA [2, 3] rfl (fun _ => rfl) (fun _ => rfl) (fun _ H locs _ _ _ hP hD hS => ?_) (fun _ _ _ _ h9 => absurd h9 id)
      have hP : va_P D vwCl (ti_wT3 E ad th tx hi t9 (.ref a) ++ [(a, .inl (E 4, n, .inl f))]) H := hP
      have hD : va_D A (ti_wT3 E ad th tx hi t9 (.ref a) ++ [(a, .inl (E 4, n, .inl f))]) := hD
      refine W.eq (g2 := F0 m 23 ls []) rfl ?_
      obtain ⟨j9, hj9, rfl⟩ := ti_lt_nat hin
      have hcj : ti_cl (nI j9) = j9 := ti_cl_nI (by omega)
      have hl : lv_has ls 11 [(5, .ref (th t9)), (0, .ref (ad 0)), (1, .int (nI t9)), (2, .int (nI j9)), (3, .long v)] := hl
      refine lv_goto (tgt := 34) hx hb dX0_item_23 (by decide) ?_
      refine lv_aload hx hb dX0_item_34 (lv_at hl 0 rfl) ?_
      refine va_getN (v := .ref a) hx hb hts in_X6 hown hK hP 2 rfl rfl 0 (by decide) (hE.use q233 rfl rfl) (fun _ h => h) rfl dX0_item_36 ?_
      refine lv_astore (lv' := [(10, .ref a), (5, .ref (th t9)), (0, .ref (ad 0)), (1, .int (nI t9)), (2, .int (nI j9)), (3, .long v)]) hx hb dX0_item_39 hl (by decide) rfl (fun ls hl => ?_)
      refine lv_aload hx hb dX0_item_41 (lv_at hl 0 rfl) ?_
      refine va_instNo (C := "[Z") hx hb hown (hts _ q923) (hZ.2.2.2.2 "[Z" "[B" (by decide)) (ti_recvA hP 3 rfl (hK.2 4 _ rfl).2) dX0_item_43 ?_
      refine W.eq (g2 := F0 m 46 ls [.int (nI 0)]) rfl ?_
      refine lv_if_eq (tgt := 66) hx hb dX0_item_46 (by decide) (fun _ => ?_) (fun h9 => absurd rfl h9)
      refine lv_aload hx hb dX0_item_66 (lv_at hl 1 rfl) ?_
      refine va_getN (v := .ref a) hx hb hts in_X6 hown hK hP 2 rfl rfl 0 (by decide) (hE.use q233 rfl rfl) (fun _ h => h) rfl dX0_item_68 ?_
      refine lv_astore (lv' := [(10, .ref a), (5, .ref (th t9)), (0, .ref (ad 0)), (1, .int (nI t9)), (2, .int (nI j9)), (3, .long v)]) hx hb dX0_item_71 hl (by decide) rfl (fun ls hl => ?_)
      refine lv_aload hx hb dX0_item_73 (lv_at hl 0 rfl) ?_
      refine va_instNo (C := "[Z") hx hb hown (hts _ q1053) (hZ.2.2.2.2 "[Z" "[S" (by decide)) (ti_recvA hP 3 rfl (hK.2 4 _ rfl).2) dX0_item_75 ?_
      refine W.eq (g2 := F0 m 78 ls [.int (nI 0)]) rfl ?_
      refine lv_if_eq (tgt := 98) hx hb dX0_item_78 (by decide) (fun _ => ?_) (fun h9 => absurd rfl h9)
      refine lv_aload hx hb dX0_item_98 (lv_at hl 1 rfl) ?_
      refine va_getN (v := .ref a) hx hb hts in_X6 hown hK hP 2 rfl rfl 0 (by decide) (hE.use q233 rfl rfl) (fun _ h => h) rfl dX0_item_100 ?_
      refine lv_astore (lv' := [(10, .ref a), (5, .ref (th t9)), (0, .ref (ad 0)), (1, .int (nI t9)), (2, .int (nI j9)), (3, .long v)]) hx hb dX0_item_103 hl (by decide) rfl (fun ls hl => ?_)
      refine lv_aload hx hb dX0_item_105 (lv_at hl 0 rfl) ?_
      refine va_instNo (C := "[Z") hx hb hown (hts _ q1054) (hZ.2.2.2.2 "[Z" "[I" (by decide)) (ti_recvA hP 3 rfl (hK.2 4 _ rfl).2) dX0_item_107 ?_
      refine W.eq (g2 := F0 m 110 ls [.int (nI 0)]) rfl ?_
      refine lv_if_eq (tgt := 129) hx hb dX0_item_110 (by decide) (fun _ => ?_) (fun h9 => absurd rfl h9)
      refine lv_aload hx hb dX0_item_129 (lv_at hl 1 rfl) ?_
      refine va_getN (v := .ref a) hx hb hts in_X6 hown hK hP 2 rfl rfl 0 (by decide) (hE.use q233 rfl rfl) (fun _ h => h) rfl dX0_item_131 ?_
      refine lv_astore (lv' := [(10, .ref a), (5, .ref (th t9)), (0, .ref (ad 0)), (1, .int (nI t9)), (2, .int (nI j9)), (3, .long v)]) hx hb dX0_item_134 hl (by decide) rfl (fun ls hl => ?_)
      refine lv_aload hx hb dX0_item_136 (lv_at hl 0 rfl) ?_
      refine va_instNo (C := "[Z") hx hb hown (hts _ q1055) (hZ.2.2.2.2 "[Z" "[J" (by decide)) (ti_recvA hP 3 rfl (hK.2 4 _ rfl).2) dX0_item_138 ?_
      refine W.eq (g2 := F0 m 141 ls [.int (nI 0)]) rfl ?_
      refine lv_if_eq (tgt := 159) hx hb dX0_item_141 (by decide) (fun _ => ?_) (fun h9 => absurd rfl h9)
      refine lv_aload hx hb dX0_item_159 (lv_at hl 1 rfl) ?_
      refine va_getN (v := .ref a) hx hb hts in_X6 hown hK hP 2 rfl rfl 0 (by decide) (hE.use q233 rfl rfl) (fun _ h => h) rfl dX0_item_161 ?_
      refine va_castA hx hb hown (hts _ q1056) hP 3 rfl (hK.2 4 _ rfl).2 dX0_item_164 ?_
      refine lv_iload_n hx hb dX0_item_167 rfl (lv_at hl 4 rfl) ?_
      refine lv_lload_n hx hb dX0_item_168 rfl (lv_at hl 5 rfl) ?_
      refine lv_lconst (v := lN 0) hx hb dX0_item_169 (by decide) ?_
      refine W.lcmp hx hb dX0_item_170 ?_
      refine tc_eq (tgt := 178) hx hb dX0_item_171 (by decide) (fun c171 => ?_) (fun c171 => ?_)
      · skip
        refine lv_iconst (v := nI 0) hx hb dX0_item_178 (by decide) ?_
        refine tn_zastR (f := f) (y := (nI 0)) hx hb hK hP hD hS 3 4 rfl rfl (by omega) (by omega) (by decide) dX0_item_179 (fun H locs hP hD hS => ?_)
        have hP : va_P D vwCl (ti_wT3 E ad th tx hi t9 (.ref a) ++ [(a, .inl (E 4, n, .inl (va_up f j9 (nI 0))))]) H := hP
        have hD : va_D A (ti_wT3 E ad th tx hi t9 (.ref a) ++ [(a, .inl (E 4, n, .inl (va_up f j9 (nI 0))))]) := hD
        refine lv_iconst (v := nI 1) hx hb dX0_item_180 (by decide) ?_
        have hv9 : (nI 1) = (fun _ => if ti_lt (nI j9) n = true then (1 : Int32) else -13) (va_up f j9 (nI 0)) := by rw [if_pos hin]; rfl
        refine W.eq (g2 := F0 m 181 ls [.int ((fun _ => if ti_lt (nI j9) n = true then (1 : Int32) else -13) (va_up f j9 (nI 0)))]) (congrArg (fun z => F0 m 181 ls [.int z]) hv9) ?_
        exact hret _ (va_up f j9 (nI 0)) _ _ _ _ (by rw [if_pos hin, hcj]; rw [if_pos (show v = 0 from c171)]; rfl) hP trivial hS (Nat.le_of_ble_eq_true rfl) (Nat.le_of_ble_eq_true rfl) (fun hq hf9 => W.iret hx hb hr hq hf9 dX0_item_181 hlk)
      · skip
        refine lv_iconst (v := nI 1) hx hb dX0_item_174 (by decide) ?_
        refine lv_goto (tgt := 179) hx hb dX0_item_175 (by decide) ?_
        refine tn_zastR (f := f) (y := (nI 1)) hx hb hK hP hD hS 3 4 rfl rfl (by omega) (by omega) (by decide) dX0_item_179 (fun H locs hP hD hS => ?_)
        have hP : va_P D vwCl (ti_wT3 E ad th tx hi t9 (.ref a) ++ [(a, .inl (E 4, n, .inl (va_up f j9 (nI 1))))]) H := hP
        have hD : va_D A (ti_wT3 E ad th tx hi t9 (.ref a) ++ [(a, .inl (E 4, n, .inl (va_up f j9 (nI 1))))]) := hD
        refine lv_iconst (v := nI 1) hx hb dX0_item_180 (by decide) ?_
        have hv9 : (nI 1) = (fun _ => if ti_lt (nI j9) n = true then (1 : Int32) else -13) (va_up f j9 (nI 1)) := by rw [if_pos hin]; rfl
        refine W.eq (g2 := F0 m 181 ls [.int ((fun _ => if ti_lt (nI j9) n = true then (1 : Int32) else -13) (va_up f j9 (nI 1)))]) (congrArg (fun z => F0 m 181 ls [.int z]) hv9) ?_
        exact hret _ (va_up f j9 (nI 1)) _ _ _ _ (by rw [if_pos hin, hcj]; rw [if_neg (show ¬ v = 0 from c171)]; rfl) hP trivial hS (Nat.le_of_ble_eq_true rfl) (Nat.le_of_ble_eq_true rfl) (fun hq hf9 => W.iret hx hb hr hq hf9 dX0_item_181 hlk)
  · skip
    exact absurd ht5 (by rw [c4]; decide)
