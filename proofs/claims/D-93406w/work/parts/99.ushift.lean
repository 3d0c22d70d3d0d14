/-! TermIdeals: shift (printed by w_shift.py) -/
set_option maxRecDepth 100000
section TSH
variable {p : Program} {l : Launch} {e : Env} {R : Room} {s : State} {m : MethodId} {args : Array Value} {below : List Frame} {meth : Method} {c : Code} {H H0 : Heap} {locs : List Loc} {cells slots : Nat} {Q : State → Prop}
variable {cc : ByteArray} {pc nL index : Nat} {ls : Array Slot} {rest : List Value} {D : va_G} {E : Nat → ClassId} {ws : va_W} {A : Nat → Prop} {own : String} {a0 a : Nat}

theorem tn_copyRI (S : CallFix p m c cc nL s args lw_all own) (hE : ti_E D E s) (hP : va_P D vwCl ws H) (hD : va_D A ws) (hS : va_S A H0 H locs) (hsz : ls.size = nL) (q0 q1 t0 : Nat) {c0 : ClassId} {n0 n1 i j n : Nat} {f g : Nat → Int32} {ty : FieldType} (ha0 : ws[q0]? = some (a0, .inl (c0, n0, .inl f))) (ha1 : ws[q1]? = some (a, .inl (c0, n1, .inl g))) (ht0 : (ti_tys E)[t0]? = some (c0, ty)) (hprim : refKind ty = false) (hi : i + n ≤ n0) (hj : j + n ≤ n1) (h0 : n0 < 2 ^ 31) (h1 : n1 < 2 ^ 31) (hfit : ∀ k, k < n0 → fits ty (.int (f k)) = true)
    (hlink : Cond.methodLink own index arraycopyName ∈ lw_all) (hf : 1 ≤ R.frames) (hlo : (rest.map fun v => v.category).sum + (nativeFrameWords "java/lang/System" "arraycopy" 5 + 11) ≤ R.locals) (hdg : decode cc pc = .ok (.invokestatic index, 3))
    (kk : ∀ (H : Heap) (locs : List Loc), va_P D vwCl (ws.set q1 (a, .inl (c0, n1, .inl (va_cpy f g i j n)))) H → va_D A (ws.set q1 (a, .inl (c0, n1, .inl (va_cpy f g i j n)))) → va_S A H0 H locs → W p l e R s m args below meth c H locs cells slots Q (F0 m (pc + 3) ls rest)) : W p l e R s m args below meth c H locs cells slots Q (F0 m pc ls (.int (nI n) :: .int (nI j) :: .ref a :: .int (nI i) :: .ref a0 :: rest)) := by
  have e1 : (nI i).toNatClampNeg = i := nI_clamp (by omega)
  have e2 : (nI j).toNatClampNeg = j := nI_clamp (by omega)
  have e3 : (nI n).toNatClampNeg = n := nI_clamp (by omega)
  refine va_copyi S.1 S.2.1 (by rw [S.2.2.1, hsz]) S.2.2.2.1 (S.2.2.2.2 _ hlink) (S.2.2.2.2 _ q322) (S.2.2.2.2 _ q321) (S.2.2.2.2 _ q74) hE.1 hP hD hS q0 q1 t0 t0 ha0 ha1 ht0 ht0 hprim (nI_pos (by omega)) (nI_pos (by omega)) (nI_pos (by omega)) (by rw [e1, e3]; exact hi) (by rw [e2, e3]; exact hj) (fun k hk => by rw [e1]; exact hfit _ (by rw [e3] at hk; omega)) hf hlo hdg ?_
  intro H1 locs1 hP1 hD1 hS1
  rw [e1, e2, e3] at hP1 hD1
  exact kk H1 locs1 hP1 hD1 hS1
theorem tn_copyRL (S : CallFix p m c cc nL s args lw_all own) (hE : ti_E D E s) (hP : va_P D vwCl ws H) (hD : va_D A ws) (hS : va_S A H0 H locs) (hsz : ls.size = nL) (q0 q1 t0 : Nat) {c0 : ClassId} {n0 n1 i j n : Nat} {f g : Nat → Int64} (ha0 : ws[q0]? = some (a0, .inl (c0, n0, .inr (.inl f)))) (ha1 : ws[q1]? = some (a, .inl (c0, n1, .inr (.inl g)))) (ht0 : (ti_tys E)[t0]? = some (c0, .long)) (hi : i + n ≤ n0) (hj : j + n ≤ n1) (h0 : n0 < 2 ^ 31) (h1 : n1 < 2 ^ 31)
    (hlink : Cond.methodLink own index arraycopyName ∈ lw_all) (hf : 1 ≤ R.frames) (hlo : (rest.map fun v => v.category).sum + (nativeFrameWords "java/lang/System" "arraycopy" 5 + 11) ≤ R.locals) (hdg : decode cc pc = .ok (.invokestatic index, 3))
    (kk : ∀ (H : Heap) (locs : List Loc), va_P D vwCl (ws.set q1 (a, .inl (c0, n1, .inr (.inl (va_cpy f g i j n))))) H → va_D A (ws.set q1 (a, .inl (c0, n1, .inr (.inl (va_cpy f g i j n))))) → va_S A H0 H locs → W p l e R s m args below meth c H locs cells slots Q (F0 m (pc + 3) ls rest)) : W p l e R s m args below meth c H locs cells slots Q (F0 m pc ls (.int (nI n) :: .int (nI j) :: .ref a :: .int (nI i) :: .ref a0 :: rest)) := by
  have e1 : (nI i).toNatClampNeg = i := nI_clamp (by omega)
  have e2 : (nI j).toNatClampNeg = j := nI_clamp (by omega)
  have e3 : (nI n).toNatClampNeg = n := nI_clamp (by omega)
  refine va_copyl S.1 S.2.1 (by rw [S.2.2.1, hsz]) S.2.2.2.1 (S.2.2.2.2 _ hlink) (S.2.2.2.2 _ q322) (S.2.2.2.2 _ q321) (S.2.2.2.2 _ q74) hE.1 hP hD hS q0 q1 t0 t0 ha0 ha1 ht0 ht0 rfl (nI_pos (by omega)) (nI_pos (by omega)) (nI_pos (by omega)) (by rw [e1, e3]; exact hi) (by rw [e2, e3]; exact hj) (fun _ _ => rfl) hf hlo hdg ?_
  intro H1 locs1 hP1 hD1 hS1
  rw [e1, e2, e3] at hP1 hD1
  exact kk H1 locs1 hP1 hD1 hS1
end TSH

abbrev ti_wT4 (E : Nat → ClassId) (ad th : Nat → Nat) (tx : Nat) (hi : Bool) (t9 o9 : Nat) (v w : Value) : va_W := [(ad 0, .inr (0, [.ref (ad 1), .ref (ad 2), .ref (ad 5), .ref (ad 11), .ref (ad 14), .ref (ad 16), .ref (ad 18), .ref (ad 20), .ref (ad 22), .int (nI tx), .ref (ad 23), .ref (ad 27), .ref (ad 31), .ref (ad 35), .ref (ad 36), .ref (ad 37), .ref (ad 41), .ref (ad 45), .int (ti_b hi)])), (ad 35, .inl (E 6, 6, .inr (.inr (.inr (.inr (ti_o th (fun j => j))))))), (th t9, .inr (6, [v])), (th o9, .inr (6, [w]))]

set_option maxHeartbeats 2000000 in
theorem met_X0_shift_b (l : Launch) (D : va_G) (E : Nat → ClassId) (htr : l.stackTraces = false) (z0 : Nat) (ad : Nat → Nat) (tx : Nat) (hi : Bool) (t ii ot jj nn : Int32) (hno : (ti_t5 t && ti_t5 ot) = false) : ti_MetB (σ := Unit) (τ := Unit) l D E yX0_shift (wsW_ yX0_shift cX0_shift 7 (some .int) [(16, 44, 45, 338), (16, 44, 50, 392), (16, 44, 55, 394)]) 10 3 454 z0 ([(ad 0, .inr (0, [.ref (ad 1), .ref (ad 2), .ref (ad 5), .ref (ad 11), .ref (ad 14), .ref (ad 16), .ref (ad 18), .ref (ad 20), .ref (ad 22), .int (nI tx), .ref (ad 23), .ref (ad 27), .ref (ad 31), .ref (ad 35), .ref (ad 36), .ref (ad 37), .ref (ad 41), .ref (ad 45), .int (ti_b hi)]))]) [.ref (ad 0), .int t, .int ii, .int ot, .int jj, .int nn] (fun _ => True) (fun _ => [(ad 0, .inr (0, [.ref (ad 1), .ref (ad 2), .ref (ad 5), .ref (ad 11), .ref (ad 14), .ref (ad 16), .ref (ad 18), .ref (ad 20), .ref (ad 22), .int (nI tx), .ref (ad 23), .ref (ad 27), .ref (ad 31), .ref (ad 35), .ref (ad 36), .ref (ad 37), .ref (ad 41), .ref (ad 45), .int (ti_b hi)]))]) (fun u => some (.int ((fun _ => (-1 : Int32)) u))) (fun _ => True) (fun _ _ => True) (fun w => RX14) (fun w => 0) (fun w => [(ad 0, .inr (0, [.ref (ad 1), .ref (ad 2), .ref (ad 5), .ref (ad 11), .ref (ad 14), .ref (ad 16), .ref (ad 18), .ref (ad 20), .ref (ad 22), .int (nI tx), .ref (ad 23), .ref (ad 27), .ref (ad 31), .ref (ad 35), .ref (ad 36), .ref (ad 37), .ref (ad 41), .ref (ad 45), .int (ti_b hi)]))]) (fun w => []) (fun w => False) (fun w H => True) := by
  refine ti_metBH (by decide) (Nat.le_of_ble_eq_true rfl) ?_
  intro p e s m below meth c H A Q ls S hE hP hD hS hA hZ hAz hx0 htab hl hret hq
  obtain ⟨hQ, hr, hlk, hinit⟩ := hq
  have hsz0 := hS.1
  have hx := S.1
  have hb := S.2.1
  have hown := S.2.2.2.1
  have hts := S.2.2.2.2
  have hK := hE.1
  have hl : lv_has ls 7 [(0, .ref (ad 0)), (1, .int t), (2, .int ii), (3, .int ot), (4, .int jj), (5, .int nn)] := hl
  refine lv_iload_n hx hb dX0_shift_0 rfl (lv_at hl 1 rfl) ?_
  refine ti_pS (As := [.int t]) (rest := []) (v := .int (ti_b (ti_t5 t))) S hE hP [] (met_X0_isTape l D E t) rfl (lw_S q920 q921 q66 q922) 1 rfl (by decide +kernel) ⟨Nat.le_of_ble_eq_true rfl, Nat.le_of_ble_eq_true rfl⟩ hl.1 rfl (Nat.le_of_ble_eq_true rfl) ⟨Nat.le_of_ble_eq_true rfl, Nat.le_of_ble_eq_true rfl⟩ dX0_shift_1 ?_
  refine tb_eq (tgt := 14) hx hb dX0_shift_4 (by decide) (fun c4 => ?_) (fun c4 => ?_)
  · skip
    refine lv_iconst (v := (-1)) hx hb dX0_shift_14 (by decide) ?_
    have hv9 : ((-1)) = (fun _ => (-1 : Int32)) () := (rfl : (-1 : Int32) = -1)
    refine W.eq (g2 := F0 m 15 ls [.int ((fun _ => (-1 : Int32)) ())]) (congrArg (fun z => F0 m 15 ls [.int z]) hv9) ?_
    exact hret _ () _ _ _ _ (trivial) hP trivial hS (Nat.le_of_ble_eq_true rfl) (Nat.le_of_ble_eq_true rfl) (fun hq hf9 => W.iret hx hb hr hq hf9 dX0_shift_15 hlk)
  · skip
    refine lv_iload_n hx hb dX0_shift_7 rfl (lv_at hl 3 rfl) ?_
    refine ti_pS (As := [.int ot]) (rest := []) (v := .int (ti_b (ti_t5 ot))) S hE hP [] (met_X0_isTape l D E ot) rfl (lw_S q920 q921 q66 q922) 1 rfl (by decide +kernel) ⟨Nat.le_of_ble_eq_true rfl, Nat.le_of_ble_eq_true rfl⟩ hl.1 rfl (Nat.le_of_ble_eq_true rfl) ⟨Nat.le_of_ble_eq_true rfl, Nat.le_of_ble_eq_true rfl⟩ dX0_shift_8 ?_
    refine tb_ne (tgt := 16) hx hb dX0_shift_11 (by decide) (fun c11 => ?_) (fun c11 => ?_)
    · skip
      exact absurd hno (by rw [c4, c11]; decide)
    · skip
      refine lv_iconst (v := (-1)) hx hb dX0_shift_14 (by decide) ?_
      have hv9 : ((-1)) = (fun _ => (-1 : Int32)) () := (rfl : (-1 : Int32) = -1)
      refine W.eq (g2 := F0 m 15 ls [.int ((fun _ => (-1 : Int32)) ())]) (congrArg (fun z => F0 m 15 ls [.int z]) hv9) ?_
      exact hret _ () _ _ _ _ (trivial) hP trivial hS (Nat.le_of_ble_eq_true rfl) (Nat.le_of_ble_eq_true rfl) (fun hq hf9 => W.iret hx hb hr hq hf9 dX0_shift_15 hlk)

set_option maxHeartbeats 2000000 in
theorem met_X0_shift_ty (l : Launch) (D : va_G) (E : Nat → ClassId) (htr : l.stackTraces = false) (z0 : Nat) (ad th : Nat → Nat) (tx : Nat) (hi : Bool) (t9 : Nat) (ht9 : t9 < 6) (o9 : Nat) (ho9 : o9 < 6) (a b k0 k1 : Nat) (x0 x1 : vp_A) (ty tz : FieldType) (hk0 : (ti_tys E)[k0]? = some (E k0, ty)) (hk1 : (ti_tys E)[k1]? = some (E k1, tz)) (hty : ((refKind ty != refKind tz) || (!refKind ty && ty != tz)) = true) (htext : (ti_tyT ty tz == notModelled) = false) (hnb : (stringBytes (stringToUtf16 (ti_tyT ty tz))).size ≤ 444) (ii jj nn : Int32) : ti_MetB (σ := Unit) (τ := Unit) l D E yX0_shift (wsW_ yX0_shift cX0_shift 7 (some .int) [(16, 44, 45, 338), (16, 44, 50, 392), (16, 44, 55, 394)]) 10 3 454 z0 (ti_wT4 E ad th tx hi t9 o9 (.ref a) (.ref b) ++ [(a, .inl (E k0, x0)), (b, .inl (E k1, x1))]) [.ref (ad 0), .int (nI t9), .int ii, .int (nI o9), .int jj, .int nn] (fun _ => True) (fun _ => ti_wT4 E ad th tx hi t9 o9 (.ref a) (.ref b) ++ [(a, .inl (E k0, x0)), (b, .inl (E k1, x1))]) (fun u => some (.int ((fun _ => (-12 : Int32)) u))) (fun _ => True) (fun _ _ => True) (fun w => RX14) (fun w => 0) (fun w => ti_wT4 E ad th tx hi t9 o9 (.ref a) (.ref b) ++ [(a, .inl (E k0, x0)), (b, .inl (E k1, x1))]) (fun w => []) (fun w => False) (fun w H => True) := by
  refine ti_metBH (by decide) (Nat.le_of_ble_eq_true rfl) ?_
  intro p e s m below meth c H A Q ls S hE hP hD hS hA hZ hAz hx0 htab hl hret hq
  obtain ⟨hQ, hr, hlk, hinit⟩ := hq
  have hsz0 := hS.1
  have hx := S.1
  have hb := S.2.1
  have hown := S.2.2.2.1
  have hts := S.2.2.2.2
  have hK := hE.1
  have hl : lv_has ls 7 [(0, .ref (ad 0)), (1, .int (nI t9)), (2, .int ii), (3, .int (nI o9)), (4, .int jj), (5, .int nn)] := hl
  have ht5t9 : ti_t5 (nI t9) = true := by unfold ti_t5; rw [ti_in_nI (by omega) (by decide) (by decide)]; exact decide_eq_true ⟨Nat.zero_le _, by omega⟩
  have ht5o9 : ti_t5 (nI o9) = true := by unfold ti_t5; rw [ti_in_nI (by omega) (by decide) (by decide)]; exact decide_eq_true ⟨Nat.zero_le _, by omega⟩
  refine lv_iload_n hx hb dX0_shift_0 rfl (lv_at hl 1 rfl) ?_
  refine ti_pS (As := [.int (nI t9)]) (rest := []) (v := .int (ti_b (ti_t5 (nI t9)))) S hE hP [] (met_X0_isTape l D E (nI t9)) rfl (lw_S q920 q921 q66 q922) 1 rfl (by decide +kernel) ⟨Nat.le_of_ble_eq_true rfl, Nat.le_of_ble_eq_true rfl⟩ hl.1 rfl (Nat.le_of_ble_eq_true rfl) ⟨Nat.le_of_ble_eq_true rfl, Nat.le_of_ble_eq_true rfl⟩ dX0_shift_1 ?_
  refine tb_eq (tgt := 14) hx hb dX0_shift_4 (by decide) (fun c4 => ?_) (fun c4 => ?_)
  · skip
    exact absurd ht5t9 (by rw [c4]; decide)
  · skip
    refine lv_iload_n hx hb dX0_shift_7 rfl (lv_at hl 3 rfl) ?_
    refine ti_pS (As := [.int (nI o9)]) (rest := []) (v := .int (ti_b (ti_t5 (nI o9)))) S hE hP [] (met_X0_isTape l D E (nI o9)) rfl (lw_S q920 q921 q66 q922) 1 rfl (by decide +kernel) ⟨Nat.le_of_ble_eq_true rfl, Nat.le_of_ble_eq_true rfl⟩ hl.1 rfl (Nat.le_of_ble_eq_true rfl) ⟨Nat.le_of_ble_eq_true rfl, Nat.le_of_ble_eq_true rfl⟩ dX0_shift_8 ?_
    refine tb_ne (tgt := 16) hx hb dX0_shift_11 (by decide) (fun c11 => ?_) (fun c11 => ?_)
    · skip
      refine lv_aload_n hx hb dX0_shift_16 rfl (lv_at hl 0 rfl) ?_
      refine va_get (v := .ref (ad 35)) hx hb hts in_X0 hown hK hP 0 rfl rfl 13 (by decide) (hts _ q250) (fun _ h => h) rfl dX0_shift_17 ?_
      refine lv_iload_n hx hb dX0_shift_20 rfl (lv_at hl 1 rfl) ?_
      refine tn_aald hx hb hK hP 1 6 rfl rfl (by omega) (by decide) dX0_shift_21 ?_
      refine va_getN (v := .ref a) hx hb hts in_X6 hown hK hP 2 rfl rfl 0 (by decide) (hE.use q233 rfl rfl) (fun _ h => h) rfl dX0_shift_22 ?_
      refine lv_iload_n hx hb dX0_shift_25 rfl (lv_at hl 2 rfl) ?_
      refine lv_aload_n hx hb dX0_shift_26 rfl (lv_at hl 0 rfl) ?_
      refine va_get (v := .ref (ad 35)) hx hb hts in_X0 hown hK hP 0 rfl rfl 13 (by decide) (hts _ q250) (fun _ h => h) rfl dX0_shift_27 ?_
      refine lv_iload_n hx hb dX0_shift_30 rfl (lv_at hl 3 rfl) ?_
      refine tn_aald hx hb hK hP 1 6 rfl rfl (by omega) (by decide) dX0_shift_31 ?_
      refine va_getN (v := .ref b) hx hb hts in_X6 hown hK hP 3 rfl rfl 0 (by decide) (hE.use q233 rfl rfl) (fun _ h => h) rfl dX0_shift_32 ?_
      refine lv_iload hx hb dX0_shift_35 (lv_at hl 4 rfl) ?_
      refine lv_iload hx hb dX0_shift_37 (lv_at hl 5 rfl) ?_
      refine ti_acTy (nb := 0) S hE htr hP hZ hAz hS hl.1 4 5 k0 k1 rfl rfl hk0 hk1 hty htext hnb (Nat.le_of_ble_eq_true rfl) (Nat.le_of_ble_eq_true rfl) (Nat.le_of_ble_eq_true rfl) (Nat.le_of_ble_eq_true rfl) (Nat.le_of_ble_eq_true rfl) q1081 dX0_shift_39 (fun H1 q9 ce hk9 hS hce hcv hcl => ?_)
      have hP := hP.kept (fun k x hx => hk9 x.1 (hP k x hx).lt)
      refine vx_catch hown [⟨16, 44, 45, 338⟩] ⟨16, 44, 50, 392⟩ [⟨16, 44, 55, 394⟩] htab (fun z hz => by rw [List.mem_singleton.mp hz]; exact Or.inr ⟨by decide, _, hts _ q947, hZ.2.2.2.2 _ _ (by decide)⟩) rfl (by decide) (hts _ q1066) (hE.use q1078 rfl rfl) hce hcv hcl ?_
      refine lv_astore (lv' := [(6, .ref q9), (0, .ref (ad 0)), (1, .int (nI t9)), (2, .int ii), (3, .int (nI o9)), (4, .int jj), (5, .int nn)]) hx hb dX0_shift_50 hl (by decide) rfl (fun ls hl => ?_)
      refine lv_bipush (v := (-12)) hx hb dX0_shift_52 (by decide) ?_
      have hv9 : ((-12)) = (fun _ => (-12 : Int32)) () := (rfl : (-12 : Int32) = -12)
      refine W.eq (g2 := F0 m 54 ls [.int ((fun _ => (-12 : Int32)) ())]) (congrArg (fun z => F0 m 54 ls [.int z]) hv9) ?_
      exact hret _ () _ _ _ _ (trivial) hP trivial hS (Nat.le_of_ble_eq_true rfl) (Nat.le_of_ble_eq_true rfl) (fun hq hf9 => W.iret hx hb hr hq hf9 dX0_shift_54 hlk)
    · skip
      exact absurd ht5o9 (by rw [c11]; decide)

set_option maxHeartbeats 2000000 in
theorem met_X0_shift_x (l : Launch) (D : va_G) (E : Nat → ClassId) (htr : l.stackTraces = false) (z0 : Nat) (ad th : Nat → Nat) (tx : Nat) (hi : Bool) (t9 : Nat) (ht9 : t9 < 6) (o9 : Nat) (ho9 : o9 < 6) (a b k0 : Nat) (x0 x1 : vp_A) (ty : FieldType) (hk0 : (ti_tys E)[k0]? = some (E k0, ty)) (hty : ((refKind ty != refKind ty) || (!refKind ty && ty != ty)) = false) (hn0 : x0.1 < 2 ^ 31) (hn1 : x1.1 < 2 ^ 31) (ii jj nn : Int32) (w : String) (hf : copyFault ty ty x0.1 x1.1 ii jj nn = some w) : ti_MetB (σ := Unit) (τ := Unit) l D E yX0_shift (wsW_ yX0_shift cX0_shift 7 (some .int) [(16, 44, 45, 338), (16, 44, 50, 392), (16, 44, 55, 394)]) 10 3 454 z0 (ti_wT4 E ad th tx hi t9 o9 (.ref a) (.ref b) ++ [(a, .inl (E k0, x0)), (b, .inl (E k0, x1))]) [.ref (ad 0), .int (nI t9), .int ii, .int (nI o9), .int jj, .int nn] (fun _ => True) (fun _ => ti_wT4 E ad th tx hi t9 o9 (.ref a) (.ref b) ++ [(a, .inl (E k0, x0)), (b, .inl (E k0, x1))]) (fun u => some (.int ((fun _ => (-13 : Int32)) u))) (fun _ => True) (fun _ _ => True) (fun w => RX14) (fun w => 0) (fun w => ti_wT4 E ad th tx hi t9 o9 (.ref a) (.ref b) ++ [(a, .inl (E k0, x0)), (b, .inl (E k0, x1))]) (fun w => []) (fun w => False) (fun w H => True) := by
  refine ti_metBH (by decide) (Nat.le_of_ble_eq_true rfl) ?_
  intro p e s m below meth c H A Q ls S hE hP hD hS hA hZ hAz hx0 htab hl hret hq
  obtain ⟨hQ, hr, hlk, hinit⟩ := hq
  have hsz0 := hS.1
  have hx := S.1
  have hb := S.2.1
  have hown := S.2.2.2.1
  have hts := S.2.2.2.2
  have hK := hE.1
  have hl : lv_has ls 7 [(0, .ref (ad 0)), (1, .int (nI t9)), (2, .int ii), (3, .int (nI o9)), (4, .int jj), (5, .int nn)] := hl
  have ht5t9 : ti_t5 (nI t9) = true := by unfold ti_t5; rw [ti_in_nI (by omega) (by decide) (by decide)]; exact decide_eq_true ⟨Nat.zero_le _, by omega⟩
  have ht5o9 : ti_t5 (nI o9) = true := by unfold ti_t5; rw [ti_in_nI (by omega) (by decide) (by decide)]; exact decide_eq_true ⟨Nat.zero_le _, by omega⟩
  refine lv_iload_n hx hb dX0_shift_0 rfl (lv_at hl 1 rfl) ?_
  refine ti_pS (As := [.int (nI t9)]) (rest := []) (v := .int (ti_b (ti_t5 (nI t9)))) S hE hP [] (met_X0_isTape l D E (nI t9)) rfl (lw_S q920 q921 q66 q922) 1 rfl (by decide +kernel) ⟨Nat.le_of_ble_eq_true rfl, Nat.le_of_ble_eq_true rfl⟩ hl.1 rfl (Nat.le_of_ble_eq_true rfl) ⟨Nat.le_of_ble_eq_true rfl, Nat.le_of_ble_eq_true rfl⟩ dX0_shift_1 ?_
  refine tb_eq (tgt := 14) hx hb dX0_shift_4 (by decide) (fun c4 => ?_) (fun c4 => ?_)
  · skip
    exact absurd ht5t9 (by rw [c4]; decide)
  · skip
    refine lv_iload_n hx hb dX0_shift_7 rfl (lv_at hl 3 rfl) ?_
    refine ti_pS (As := [.int (nI o9)]) (rest := []) (v := .int (ti_b (ti_t5 (nI o9)))) S hE hP [] (met_X0_isTape l D E (nI o9)) rfl (lw_S q920 q921 q66 q922) 1 rfl (by decide +kernel) ⟨Nat.le_of_ble_eq_true rfl, Nat.le_of_ble_eq_true rfl⟩ hl.1 rfl (Nat.le_of_ble_eq_true rfl) ⟨Nat.le_of_ble_eq_true rfl, Nat.le_of_ble_eq_true rfl⟩ dX0_shift_8 ?_
    refine tb_ne (tgt := 16) hx hb dX0_shift_11 (by decide) (fun c11 => ?_) (fun c11 => ?_)
    · skip
      refine lv_aload_n hx hb dX0_shift_16 rfl (lv_at hl 0 rfl) ?_
      refine va_get (v := .ref (ad 35)) hx hb hts in_X0 hown hK hP 0 rfl rfl 13 (by decide) (hts _ q250) (fun _ h => h) rfl dX0_shift_17 ?_
      refine lv_iload_n hx hb dX0_shift_20 rfl (lv_at hl 1 rfl) ?_
      refine tn_aald hx hb hK hP 1 6 rfl rfl (by omega) (by decide) dX0_shift_21 ?_
      refine va_getN (v := .ref a) hx hb hts in_X6 hown hK hP 2 rfl rfl 0 (by decide) (hE.use q233 rfl rfl) (fun _ h => h) rfl dX0_shift_22 ?_
      refine lv_iload_n hx hb dX0_shift_25 rfl (lv_at hl 2 rfl) ?_
      refine lv_aload_n hx hb dX0_shift_26 rfl (lv_at hl 0 rfl) ?_
      refine va_get (v := .ref (ad 35)) hx hb hts in_X0 hown hK hP 0 rfl rfl 13 (by decide) (hts _ q250) (fun _ h => h) rfl dX0_shift_27 ?_
      refine lv_iload_n hx hb dX0_shift_30 rfl (lv_at hl 3 rfl) ?_
      refine tn_aald hx hb hK hP 1 6 rfl rfl (by omega) (by decide) dX0_shift_31 ?_
      refine va_getN (v := .ref b) hx hb hts in_X6 hown hK hP 3 rfl rfl 0 (by decide) (hE.use q233 rfl rfl) (fun _ h => h) rfl dX0_shift_32 ?_
      refine lv_iload hx hb dX0_shift_35 (lv_at hl 4 rfl) ?_
      refine lv_iload hx hb dX0_shift_37 (lv_at hl 5 rfl) ?_
      refine ti_acBd S hE htr hP hZ hAz hS hl.1 4 5 k0 rfl rfl hk0 hty hn0 hn1 hf (Nat.le_of_ble_eq_true rfl) (Nat.le_of_ble_eq_true rfl) (Nat.le_of_ble_eq_true rfl) (Nat.le_of_ble_eq_true rfl) (Nat.le_of_ble_eq_true rfl) q1081 dX0_shift_39 (fun H1 q9 ce hk9 hS hce hcv hcl => ?_)
      have hP := hP.kept (fun k x hx => hk9 x.1 (hP k x hx).lt)
      refine vx_catch hown [⟨16, 44, 45, 338⟩, ⟨16, 44, 50, 392⟩] ⟨16, 44, 55, 394⟩ [] htab (fun z hz => (List.mem_cons.mp hz).elim (fun h9 => by rw [h9]; exact Or.inr ⟨by decide, _, hts _ q947, hZ.2.2.2.2 _ _ (by decide)⟩) (fun h9 => by rw [List.mem_singleton.mp h9]; exact Or.inr ⟨by decide, _, hts _ q1066, hZ.2.2.2.2 _ _ (by decide)⟩)) rfl (by decide) (hts _ q1080) (hE.use q1578 rfl rfl) hce hcv hcl ?_
      refine lv_astore (lv' := [(6, .ref q9), (0, .ref (ad 0)), (1, .int (nI t9)), (2, .int ii), (3, .int (nI o9)), (4, .int jj), (5, .int nn)]) hx hb dX0_shift_55 hl (by decide) rfl (fun ls hl => ?_)
      refine lv_bipush (v := (-13)) hx hb dX0_shift_57 (by decide) ?_
      have hv9 : ((-13)) = (fun _ => (-13 : Int32)) () := (rfl : (-13 : Int32) = -13)
      refine W.eq (g2 := F0 m 59 ls [.int ((fun _ => (-13 : Int32)) ())]) (congrArg (fun z => F0 m 59 ls [.int z]) hv9) ?_
      exact hret _ () _ _ _ _ (trivial) hP trivial hS (Nat.le_of_ble_eq_true rfl) (Nat.le_of_ble_eq_true rfl) (fun hq hf9 => W.iret hx hb hr hq hf9 dX0_shift_59 hlk)
    · skip
      exact absurd ht5o9 (by rw [c11]; decide)

set_option maxHeartbeats 2000000 in
theorem met_X0_shift_xs (l : Launch) (D : va_G) (E : Nat → ClassId) (htr : l.stackTraces = false) (z0 : Nat) (ad th : Nat → Nat) (tx : Nat) (hi : Bool) (t9 : Nat) (ht9 : t9 < 6) (a k0 : Nat) (x0 : vp_A) (ty : FieldType) (hk0 : (ti_tys E)[k0]? = some (E k0, ty)) (hty : ((refKind ty != refKind ty) || (!refKind ty && ty != ty)) = false) (hn0 : x0.1 < 2 ^ 31) (ii jj nn : Int32) (w : String) (hf : copyFault ty ty x0.1 x0.1 ii jj nn = some w) : ti_MetB (σ := Unit) (τ := Unit) l D E yX0_shift (wsW_ yX0_shift cX0_shift 7 (some .int) [(16, 44, 45, 338), (16, 44, 50, 392), (16, 44, 55, 394)]) 10 3 454 z0 (ti_wT3 E ad th tx hi t9 (.ref a) ++ [(a, .inl (E k0, x0))]) [.ref (ad 0), .int (nI t9), .int ii, .int (nI t9), .int jj, .int nn] (fun _ => True) (fun _ => ti_wT3 E ad th tx hi t9 (.ref a) ++ [(a, .inl (E k0, x0))]) (fun u => some (.int ((fun _ => (-13 : Int32)) u))) (fun _ => True) (fun _ _ => True) (fun w => RX14) (fun w => 0) (fun w => ti_wT3 E ad th tx hi t9 (.ref a) ++ [(a, .inl (E k0, x0))]) (fun w => []) (fun w => False) (fun w H => True) := by
  refine ti_metBH (by decide) (Nat.le_of_ble_eq_true rfl) ?_
  intro p e s m below meth c H A Q ls S hE hP hD hS hA hZ hAz hx0 htab hl hret hq
  obtain ⟨hQ, hr, hlk, hinit⟩ := hq
  have hsz0 := hS.1
  have hx := S.1
  have hb := S.2.1
  have hown := S.2.2.2.1
  have hts := S.2.2.2.2
  have hK := hE.1
  have hl : lv_has ls 7 [(0, .ref (ad 0)), (1, .int (nI t9)), (2, .int ii), (3, .int (nI t9)), (4, .int jj), (5, .int nn)] := hl
  have ht5t9 : ti_t5 (nI t9) = true := by unfold ti_t5; rw [ti_in_nI (by omega) (by decide) (by decide)]; exact decide_eq_true ⟨Nat.zero_le _, by omega⟩
  refine lv_iload_n hx hb dX0_shift_0 rfl (lv_at hl 1 rfl) ?_
  refine ti_pS (As := [.int (nI t9)]) (rest := []) (v := .int (ti_b (ti_t5 (nI t9)))) S hE hP [] (met_X0_isTape l D E (nI t9)) rfl (lw_S q920 q921 q66 q922) 1 rfl (by decide +kernel) ⟨Nat.le_of_ble_eq_true rfl, Nat.le_of_ble_eq_true rfl⟩ hl.1 rfl (Nat.le_of_ble_eq_true rfl) ⟨Nat.le_of_ble_eq_true rfl, Nat.le_of_ble_eq_true rfl⟩ dX0_shift_1 ?_
  refine tb_eq (tgt := 14) hx hb dX0_shift_4 (by decide) (fun c4 => ?_) (fun c4 => ?_)
  · skip
    exact absurd ht5t9 (by rw [c4]; decide)
  · skip
    refine lv_iload_n hx hb dX0_shift_7 rfl (lv_at hl 3 rfl) ?_
    refine ti_pS (As := [.int (nI t9)]) (rest := []) (v := .int (ti_b (ti_t5 (nI t9)))) S hE hP [] (met_X0_isTape l D E (nI t9)) rfl (lw_S q920 q921 q66 q922) 1 rfl (by decide +kernel) ⟨Nat.le_of_ble_eq_true rfl, Nat.le_of_ble_eq_true rfl⟩ hl.1 rfl (Nat.le_of_ble_eq_true rfl) ⟨Nat.le_of_ble_eq_true rfl, Nat.le_of_ble_eq_true rfl⟩ dX0_shift_8 ?_
    refine tb_ne (tgt := 16) hx hb dX0_shift_11 (by decide) (fun c11 => ?_) (fun c11 => ?_)
    · skip
      refine lv_aload_n hx hb dX0_shift_16 rfl (lv_at hl 0 rfl) ?_
      refine va_get (v := .ref (ad 35)) hx hb hts in_X0 hown hK hP 0 rfl rfl 13 (by decide) (hts _ q250) (fun _ h => h) rfl dX0_shift_17 ?_
      refine lv_iload_n hx hb dX0_shift_20 rfl (lv_at hl 1 rfl) ?_
      refine tn_aald hx hb hK hP 1 6 rfl rfl (by omega) (by decide) dX0_shift_21 ?_
      refine va_getN (v := .ref a) hx hb hts in_X6 hown hK hP 2 rfl rfl 0 (by decide) (hE.use q233 rfl rfl) (fun _ h => h) rfl dX0_shift_22 ?_
      refine lv_iload_n hx hb dX0_shift_25 rfl (lv_at hl 2 rfl) ?_
      refine lv_aload_n hx hb dX0_shift_26 rfl (lv_at hl 0 rfl) ?_
      refine va_get (v := .ref (ad 35)) hx hb hts in_X0 hown hK hP 0 rfl rfl 13 (by decide) (hts _ q250) (fun _ h => h) rfl dX0_shift_27 ?_
      refine lv_iload_n hx hb dX0_shift_30 rfl (lv_at hl 3 rfl) ?_
      refine tn_aald hx hb hK hP 1 6 rfl rfl (by omega) (by decide) dX0_shift_31 ?_
      refine va_getN (v := .ref a) hx hb hts in_X6 hown hK hP 2 rfl rfl 0 (by decide) (hE.use q233 rfl rfl) (fun _ h => h) rfl dX0_shift_32 ?_
      refine lv_iload hx hb dX0_shift_35 (lv_at hl 4 rfl) ?_
      refine lv_iload hx hb dX0_shift_37 (lv_at hl 5 rfl) ?_
      refine ti_acBd S hE htr hP hZ hAz hS hl.1 3 3 k0 rfl rfl hk0 hty hn0 hn0 hf (Nat.le_of_ble_eq_true rfl) (Nat.le_of_ble_eq_true rfl) (Nat.le_of_ble_eq_true rfl) (Nat.le_of_ble_eq_true rfl) (Nat.le_of_ble_eq_true rfl) q1081 dX0_shift_39 (fun H1 q9 ce hk9 hS hce hcv hcl => ?_)
      have hP := hP.kept (fun k x hx => hk9 x.1 (hP k x hx).lt)
      refine vx_catch hown [⟨16, 44, 45, 338⟩, ⟨16, 44, 50, 392⟩] ⟨16, 44, 55, 394⟩ [] htab (fun z hz => (List.mem_cons.mp hz).elim (fun h9 => by rw [h9]; exact Or.inr ⟨by decide, _, hts _ q947, hZ.2.2.2.2 _ _ (by decide)⟩) (fun h9 => by rw [List.mem_singleton.mp h9]; exact Or.inr ⟨by decide, _, hts _ q1066, hZ.2.2.2.2 _ _ (by decide)⟩)) rfl (by decide) (hts _ q1080) (hE.use q1578 rfl rfl) hce hcv hcl ?_
      refine lv_astore (lv' := [(6, .ref q9), (0, .ref (ad 0)), (1, .int (nI t9)), (2, .int ii), (3, .int (nI t9)), (4, .int jj), (5, .int nn)]) hx hb dX0_shift_55 hl (by decide) rfl (fun ls hl => ?_)
      refine lv_bipush (v := (-13)) hx hb dX0_shift_57 (by decide) ?_
      have hv9 : ((-13)) = (fun _ => (-13 : Int32)) () := (rfl : (-13 : Int32) = -13)
      refine W.eq (g2 := F0 m 59 ls [.int ((fun _ => (-13 : Int32)) ())]) (congrArg (fun z => F0 m 59 ls [.int z]) hv9) ?_
      exact hret _ () _ _ _ _ (trivial) hP trivial hS (Nat.le_of_ble_eq_true rfl) (Nat.le_of_ble_eq_true rfl) (fun hq hf9 => W.iret hx hb hr hq hf9 dX0_shift_59 hlk)
    · skip
      exact absurd ht5t9 (by rw [c11]; decide)

set_option maxHeartbeats 2000000 in
theorem met_X0_shift_i (l : Launch) (D : va_G) (E : Nat → ClassId) (htr : l.stackTraces = false) (z0 : Nat) (ad th : Nat → Nat) (tx : Nat) (hi : Bool) (t9 : Nat) (ht9 : t9 < 6) (o9 : Nat) (ho9 : o9 < 6) (a b n0 n1 i9 j9 m9 : Nat) (f g : Nat → Int32) (k0 : Nat) (ty : FieldType) (hk0 : (ti_tys E)[k0]? = some (E k0, ty)) (hprim : refKind ty = false) (hfit : ∀ k, k < n0 → fits ty (.int (f k)) = true) (h60 : n0 ≤ 60) (h61 : n1 ≤ 60) (hin : i9 + m9 ≤ n0) (hjn : j9 + m9 ≤ n1) : ti_MetB (σ := Unit) (τ := Unit) l D E yX0_shift (wsW_ yX0_shift cX0_shift 7 (some .int) [(16, 44, 45, 338), (16, 44, 50, 392), (16, 44, 55, 394)]) 10 3 454 z0 (ti_wT4 E ad th tx hi t9 o9 (.ref a) (.ref b) ++ [(a, .inl (E k0, n0, .inl (f))), (b, .inl (E k0, n1, .inl (g)))]) [.ref (ad 0), .int (nI t9), .int (nI i9), .int (nI o9), .int (nI j9), .int (nI m9)] (fun _ => True) (fun _ => ti_wT4 E ad th tx hi t9 o9 (.ref a) (.ref b) ++ [(a, .inl (E k0, n0, .inl (f))), (b, .inl (E k0, n1, .inl (va_cpy f g i9 j9 m9)))]) (fun u => some (.int ((fun _ => nI m9) u))) (fun _ => True) (fun _ _ => True) (fun w => RX14) (fun w => 0) (fun w => ti_wT4 E ad th tx hi t9 o9 (.ref a) (.ref b) ++ [(a, .inl (E k0, n0, .inl (f))), (b, .inl (E k0, n1, .inl (g)))]) (fun w => []) (fun w => False) (fun w H => True) := by
  refine ti_metBH (by decide) (Nat.le_of_ble_eq_true rfl) ?_
  intro p e s m below meth c H A Q ls S hE hP hD hS hA hZ hAz hx0 htab hl hret hq
  obtain ⟨hQ, hr, hlk, hinit⟩ := hq
  have hsz0 := hS.1
  have hx := S.1
  have hb := S.2.1
  have hown := S.2.2.2.1
  have hts := S.2.2.2.2
  have hK := hE.1
  have hl : lv_has ls 7 [(0, .ref (ad 0)), (1, .int (nI t9)), (2, .int (nI i9)), (3, .int (nI o9)), (4, .int (nI j9)), (5, .int (nI m9))] := hl
  have ht5t9 : ti_t5 (nI t9) = true := by unfold ti_t5; rw [ti_in_nI (by omega) (by decide) (by decide)]; exact decide_eq_true ⟨Nat.zero_le _, by omega⟩
  have ht5o9 : ti_t5 (nI o9) = true := by unfold ti_t5; rw [ti_in_nI (by omega) (by decide) (by decide)]; exact decide_eq_true ⟨Nat.zero_le _, by omega⟩
  refine lv_iload_n hx hb dX0_shift_0 rfl (lv_at hl 1 rfl) ?_
  refine ti_pS (As := [.int (nI t9)]) (rest := []) (v := .int (ti_b (ti_t5 (nI t9)))) S hE hP [] (met_X0_isTape l D E (nI t9)) rfl (lw_S q920 q921 q66 q922) 1 rfl (by decide +kernel) ⟨Nat.le_of_ble_eq_true rfl, Nat.le_of_ble_eq_true rfl⟩ hl.1 rfl (Nat.le_of_ble_eq_true rfl) ⟨Nat.le_of_ble_eq_true rfl, Nat.le_of_ble_eq_true rfl⟩ dX0_shift_1 ?_
  refine tb_eq (tgt := 14) hx hb dX0_shift_4 (by decide) (fun c4 => ?_) (fun c4 => ?_)
  · skip
    exact absurd ht5t9 (by rw [c4]; decide)
  · skip
    refine lv_iload_n hx hb dX0_shift_7 rfl (lv_at hl 3 rfl) ?_
    refine ti_pS (As := [.int (nI o9)]) (rest := []) (v := .int (ti_b (ti_t5 (nI o9)))) S hE hP [] (met_X0_isTape l D E (nI o9)) rfl (lw_S q920 q921 q66 q922) 1 rfl (by decide +kernel) ⟨Nat.le_of_ble_eq_true rfl, Nat.le_of_ble_eq_true rfl⟩ hl.1 rfl (Nat.le_of_ble_eq_true rfl) ⟨Nat.le_of_ble_eq_true rfl, Nat.le_of_ble_eq_true rfl⟩ dX0_shift_8 ?_
    refine tb_ne (tgt := 16) hx hb dX0_shift_11 (by decide) (fun c11 => ?_) (fun c11 => ?_)
    · skip
      refine lv_aload_n hx hb dX0_shift_16 rfl (lv_at hl 0 rfl) ?_
      refine va_get (v := .ref (ad 35)) hx hb hts in_X0 hown hK hP 0 rfl rfl 13 (by decide) (hts _ q250) (fun _ h => h) rfl dX0_shift_17 ?_
      refine lv_iload_n hx hb dX0_shift_20 rfl (lv_at hl 1 rfl) ?_
      refine tn_aald hx hb hK hP 1 6 rfl rfl (by omega) (by decide) dX0_shift_21 ?_
      refine va_getN (v := .ref a) hx hb hts in_X6 hown hK hP 2 rfl rfl 0 (by decide) (hE.use q233 rfl rfl) (fun _ h => h) rfl dX0_shift_22 ?_
      refine lv_iload_n hx hb dX0_shift_25 rfl (lv_at hl 2 rfl) ?_
      refine lv_aload_n hx hb dX0_shift_26 rfl (lv_at hl 0 rfl) ?_
      refine va_get (v := .ref (ad 35)) hx hb hts in_X0 hown hK hP 0 rfl rfl 13 (by decide) (hts _ q250) (fun _ h => h) rfl dX0_shift_27 ?_
      refine lv_iload_n hx hb dX0_shift_30 rfl (lv_at hl 3 rfl) ?_
      refine tn_aald hx hb hK hP 1 6 rfl rfl (by omega) (by decide) dX0_shift_31 ?_
      refine va_getN (v := .ref b) hx hb hts in_X6 hown hK hP 3 rfl rfl 0 (by decide) (hE.use q233 rfl rfl) (fun _ h => h) rfl dX0_shift_32 ?_
      refine lv_iload hx hb dX0_shift_35 (lv_at hl 4 rfl) ?_
      refine lv_iload hx hb dX0_shift_37 (lv_at hl 5 rfl) ?_
      refine tn_copyRI S hE hP hD hS hl.1 4 5 k0 rfl rfl hk0 hprim hin hjn (by omega) (by omega) hfit q1081 (Nat.le_of_ble_eq_true rfl) (by decide +kernel) dX0_shift_39 (fun H locs hP hD hS => ?_)
      have hP : va_P D vwCl (ti_wT4 E ad th tx hi t9 o9 (.ref a) (.ref b) ++ [(a, .inl (E k0, n0, .inl (f))), (b, .inl (E k0, n1, .inl (va_cpy f g i9 j9 m9)))]) H := hP
      have hD : va_D A (ti_wT4 E ad th tx hi t9 o9 (.ref a) (.ref b) ++ [(a, .inl (E k0, n0, .inl (f))), (b, .inl (E k0, n1, .inl (va_cpy f g i9 j9 m9)))]) := hD
      refine lv_iload hx hb dX0_shift_42 (lv_at hl 5 rfl) ?_
      have hv9 : (nI m9) = (fun _ => nI m9) () := rfl
      refine W.eq (g2 := F0 m 44 ls [.int ((fun _ => nI m9) ())]) (congrArg (fun z => F0 m 44 ls [.int z]) hv9) ?_
      exact hret _ () _ _ _ _ (trivial) hP trivial hS (Nat.le_of_ble_eq_true rfl) (Nat.le_of_ble_eq_true rfl) (fun hq hf9 => W.iret hx hb hr hq hf9 dX0_shift_44 hlk)
    · skip
      exact absurd ht5o9 (by rw [c11]; decide)

set_option maxHeartbeats 2000000 in
theorem met_X0_shift_is (l : Launch) (D : va_G) (E : Nat → ClassId) (htr : l.stackTraces = false) (z0 : Nat) (ad th : Nat → Nat) (tx : Nat) (hi : Bool) (t9 : Nat) (ht9 : t9 < 6) (a n0 i9 j9 m9 : Nat) (f : Nat → Int32) (k0 : Nat) (ty : FieldType) (hk0 : (ti_tys E)[k0]? = some (E k0, ty)) (hprim : refKind ty = false) (hfit : ∀ k, k < n0 → fits ty (.int (f k)) = true) (h60 : n0 ≤ 60) (hin : i9 + m9 ≤ n0) (hjn : j9 + m9 ≤ n0) : ti_MetB (σ := Unit) (τ := Unit) l D E yX0_shift (wsW_ yX0_shift cX0_shift 7 (some .int) [(16, 44, 45, 338), (16, 44, 50, 392), (16, 44, 55, 394)]) 10 3 454 z0 (ti_wT3 E ad th tx hi t9 (.ref a) ++ [(a, .inl (E k0, n0, .inl (f)))]) [.ref (ad 0), .int (nI t9), .int (nI i9), .int (nI t9), .int (nI j9), .int (nI m9)] (fun _ => True) (fun _ => ti_wT3 E ad th tx hi t9 (.ref a) ++ [(a, .inl (E k0, n0, .inl (va_cpy f f i9 j9 m9)))]) (fun u => some (.int ((fun _ => nI m9) u))) (fun _ => True) (fun _ _ => True) (fun w => RX14) (fun w => 0) (fun w => ti_wT3 E ad th tx hi t9 (.ref a) ++ [(a, .inl (E k0, n0, .inl (f)))]) (fun w => []) (fun w => False) (fun w H => True) := by
  refine ti_metBH (by decide) (Nat.le_of_ble_eq_true rfl) ?_
  intro p e s m below meth c H A Q ls S hE hP hD hS hA hZ hAz hx0 htab hl hret hq
  obtain ⟨hQ, hr, hlk, hinit⟩ := hq
  have hsz0 := hS.1
  have hx := S.1
  have hb := S.2.1
  have hown := S.2.2.2.1
  have hts := S.2.2.2.2
  have hK := hE.1
  have hl : lv_has ls 7 [(0, .ref (ad 0)), (1, .int (nI t9)), (2, .int (nI i9)), (3, .int (nI t9)), (4, .int (nI j9)), (5, .int (nI m9))] := hl
  have ht5t9 : ti_t5 (nI t9) = true := by unfold ti_t5; rw [ti_in_nI (by omega) (by decide) (by decide)]; exact decide_eq_true ⟨Nat.zero_le _, by omega⟩
  refine lv_iload_n hx hb dX0_shift_0 rfl (lv_at hl 1 rfl) ?_
  refine ti_pS (As := [.int (nI t9)]) (rest := []) (v := .int (ti_b (ti_t5 (nI t9)))) S hE hP [] (met_X0_isTape l D E (nI t9)) rfl (lw_S q920 q921 q66 q922) 1 rfl (by decide +kernel) ⟨Nat.le_of_ble_eq_true rfl, Nat.le_of_ble_eq_true rfl⟩ hl.1 rfl (Nat.le_of_ble_eq_true rfl) ⟨Nat.le_of_ble_eq_true rfl, Nat.le_of_ble_eq_true rfl⟩ dX0_shift_1 ?_
  refine tb_eq (tgt := 14) hx hb dX0_shift_4 (by decide) (fun c4 => ?_) (fun c4 => ?_)
  · skip
    exact absurd ht5t9 (by rw [c4]; decide)
  · skip
    refine lv_iload_n hx hb dX0_shift_7 rfl (lv_at hl 3 rfl) ?_
    refine ti_pS (As := [.int (nI t9)]) (rest := []) (v := .int (ti_b (ti_t5 (nI t9)))) S hE hP [] (met_X0_isTape l D E (nI t9)) rfl (lw_S q920 q921 q66 q922) 1 rfl (by decide +kernel) ⟨Nat.le_of_ble_eq_true rfl, Nat.le_of_ble_eq_true rfl⟩ hl.1 rfl (Nat.le_of_ble_eq_true rfl) ⟨Nat.le_of_ble_eq_true rfl, Nat.le_of_ble_eq_true rfl⟩ dX0_shift_8 ?_
    refine tb_ne (tgt := 16) hx hb dX0_shift_11 (by decide) (fun c11 => ?_) (fun c11 => ?_)
    · skip
      refine lv_aload_n hx hb dX0_shift_16 rfl (lv_at hl 0 rfl) ?_
      refine va_get (v := .ref (ad 35)) hx hb hts in_X0 hown hK hP 0 rfl rfl 13 (by decide) (hts _ q250) (fun _ h => h) rfl dX0_shift_17 ?_
      refine lv_iload_n hx hb dX0_shift_20 rfl (lv_at hl 1 rfl) ?_
      refine tn_aald hx hb hK hP 1 6 rfl rfl (by omega) (by decide) dX0_shift_21 ?_
      refine va_getN (v := .ref a) hx hb hts in_X6 hown hK hP 2 rfl rfl 0 (by decide) (hE.use q233 rfl rfl) (fun _ h => h) rfl dX0_shift_22 ?_
      refine lv_iload_n hx hb dX0_shift_25 rfl (lv_at hl 2 rfl) ?_
      refine lv_aload_n hx hb dX0_shift_26 rfl (lv_at hl 0 rfl) ?_
      refine va_get (v := .ref (ad 35)) hx hb hts in_X0 hown hK hP 0 rfl rfl 13 (by decide) (hts _ q250) (fun _ h => h) rfl dX0_shift_27 ?_
      refine lv_iload_n hx hb dX0_shift_30 rfl (lv_at hl 3 rfl) ?_
      refine tn_aald hx hb hK hP 1 6 rfl rfl (by omega) (by decide) dX0_shift_31 ?_
      refine va_getN (v := .ref a) hx hb hts in_X6 hown hK hP 2 rfl rfl 0 (by decide) (hE.use q233 rfl rfl) (fun _ h => h) rfl dX0_shift_32 ?_
      refine lv_iload hx hb dX0_shift_35 (lv_at hl 4 rfl) ?_
      refine lv_iload hx hb dX0_shift_37 (lv_at hl 5 rfl) ?_
      refine tn_copyRI S hE hP hD hS hl.1 3 3 k0 rfl rfl hk0 hprim hin hjn (by omega) (by omega) hfit q1081 (Nat.le_of_ble_eq_true rfl) (by decide +kernel) dX0_shift_39 (fun H locs hP hD hS => ?_)
      have hP : va_P D vwCl (ti_wT3 E ad th tx hi t9 (.ref a) ++ [(a, .inl (E k0, n0, .inl (va_cpy f f i9 j9 m9)))]) H := hP
      have hD : va_D A (ti_wT3 E ad th tx hi t9 (.ref a) ++ [(a, .inl (E k0, n0, .inl (va_cpy f f i9 j9 m9)))]) := hD
      refine lv_iload hx hb dX0_shift_42 (lv_at hl 5 rfl) ?_
      have hv9 : (nI m9) = (fun _ => nI m9) () := rfl
      refine W.eq (g2 := F0 m 44 ls [.int ((fun _ => nI m9) ())]) (congrArg (fun z => F0 m 44 ls [.int z]) hv9) ?_
      exact hret _ () _ _ _ _ (trivial) hP trivial hS (Nat.le_of_ble_eq_true rfl) (Nat.le_of_ble_eq_true rfl) (fun hq hf9 => W.iret hx hb hr hq hf9 dX0_shift_44 hlk)
    · skip
      exact absurd ht5t9 (by rw [c11]; decide)

set_option maxHeartbeats 2000000 in
theorem met_X0_shift_l (l : Launch) (D : va_G) (E : Nat → ClassId) (htr : l.stackTraces = false) (z0 : Nat) (ad th : Nat → Nat) (tx : Nat) (hi : Bool) (t9 : Nat) (ht9 : t9 < 6) (o9 : Nat) (ho9 : o9 < 6) (a b n0 n1 i9 j9 m9 : Nat) (f g : Nat → Int64) (h60 : n0 ≤ 60) (h61 : n1 ≤ 60) (hin : i9 + m9 ≤ n0) (hjn : j9 + m9 ≤ n1) : ti_MetB (σ := Unit) (τ := Unit) l D E yX0_shift (wsW_ yX0_shift cX0_shift 7 (some .int) [(16, 44, 45, 338), (16, 44, 50, 392), (16, 44, 55, 394)]) 10 3 454 z0 (ti_wT4 E ad th tx hi t9 o9 (.ref a) (.ref b) ++ [(a, .inl (E 3, n0, .inr (.inl (f)))), (b, .inl (E 3, n1, .inr (.inl (g))))]) [.ref (ad 0), .int (nI t9), .int (nI i9), .int (nI o9), .int (nI j9), .int (nI m9)] (fun _ => True) (fun _ => ti_wT4 E ad th tx hi t9 o9 (.ref a) (.ref b) ++ [(a, .inl (E 3, n0, .inr (.inl (f)))), (b, .inl (E 3, n1, .inr (.inl (va_cpy f g i9 j9 m9))))]) (fun u => some (.int ((fun _ => nI m9) u))) (fun _ => True) (fun _ _ => True) (fun w => RX14) (fun w => 0) (fun w => ti_wT4 E ad th tx hi t9 o9 (.ref a) (.ref b) ++ [(a, .inl (E 3, n0, .inr (.inl (f)))), (b, .inl (E 3, n1, .inr (.inl (g))))]) (fun w => []) (fun w => False) (fun w H => True) := by
  refine ti_metBH (by decide) (Nat.le_of_ble_eq_true rfl) ?_
  intro p e s m below meth c H A Q ls S hE hP hD hS hA hZ hAz hx0 htab hl hret hq
  obtain ⟨hQ, hr, hlk, hinit⟩ := hq
  have hsz0 := hS.1
  have hx := S.1
  have hb := S.2.1
  have hown := S.2.2.2.1
  have hts := S.2.2.2.2
  have hK := hE.1
  have hl : lv_has ls 7 [(0, .ref (ad 0)), (1, .int (nI t9)), (2, .int (nI i9)), (3, .int (nI o9)), (4, .int (nI j9)), (5, .int (nI m9))] := hl
  have ht5t9 : ti_t5 (nI t9) = true := by unfold ti_t5; rw [ti_in_nI (by omega) (by decide) (by decide)]; exact decide_eq_true ⟨Nat.zero_le _, by omega⟩
  have ht5o9 : ti_t5 (nI o9) = true := by unfold ti_t5; rw [ti_in_nI (by omega) (by decide) (by decide)]; exact decide_eq_true ⟨Nat.zero_le _, by omega⟩
  refine lv_iload_n hx hb dX0_shift_0 rfl (lv_at hl 1 rfl) ?_
  refine ti_pS (As := [.int (nI t9)]) (rest := []) (v := .int (ti_b (ti_t5 (nI t9)))) S hE hP [] (met_X0_isTape l D E (nI t9)) rfl (lw_S q920 q921 q66 q922) 1 rfl (by decide +kernel) ⟨Nat.le_of_ble_eq_true rfl, Nat.le_of_ble_eq_true rfl⟩ hl.1 rfl (Nat.le_of_ble_eq_true rfl) ⟨Nat.le_of_ble_eq_true rfl, Nat.le_of_ble_eq_true rfl⟩ dX0_shift_1 ?_
  refine tb_eq (tgt := 14) hx hb dX0_shift_4 (by decide) (fun c4 => ?_) (fun c4 => ?_)
  · skip
    exact absurd ht5t9 (by rw [c4]; decide)
  · skip
    refine lv_iload_n hx hb dX0_shift_7 rfl (lv_at hl 3 rfl) ?_
    refine ti_pS (As := [.int (nI o9)]) (rest := []) (v := .int (ti_b (ti_t5 (nI o9)))) S hE hP [] (met_X0_isTape l D E (nI o9)) rfl (lw_S q920 q921 q66 q922) 1 rfl (by decide +kernel) ⟨Nat.le_of_ble_eq_true rfl, Nat.le_of_ble_eq_true rfl⟩ hl.1 rfl (Nat.le_of_ble_eq_true rfl) ⟨Nat.le_of_ble_eq_true rfl, Nat.le_of_ble_eq_true rfl⟩ dX0_shift_8 ?_
    refine tb_ne (tgt := 16) hx hb dX0_shift_11 (by decide) (fun c11 => ?_) (fun c11 => ?_)
    · skip
      refine lv_aload_n hx hb dX0_shift_16 rfl (lv_at hl 0 rfl) ?_
      refine va_get (v := .ref (ad 35)) hx hb hts in_X0 hown hK hP 0 rfl rfl 13 (by decide) (hts _ q250) (fun _ h => h) rfl dX0_shift_17 ?_
      refine lv_iload_n hx hb dX0_shift_20 rfl (lv_at hl 1 rfl) ?_
      refine tn_aald hx hb hK hP 1 6 rfl rfl (by omega) (by decide) dX0_shift_21 ?_
      refine va_getN (v := .ref a) hx hb hts in_X6 hown hK hP 2 rfl rfl 0 (by decide) (hE.use q233 rfl rfl) (fun _ h => h) rfl dX0_shift_22 ?_
      refine lv_iload_n hx hb dX0_shift_25 rfl (lv_at hl 2 rfl) ?_
      refine lv_aload_n hx hb dX0_shift_26 rfl (lv_at hl 0 rfl) ?_
      refine va_get (v := .ref (ad 35)) hx hb hts in_X0 hown hK hP 0 rfl rfl 13 (by decide) (hts _ q250) (fun _ h => h) rfl dX0_shift_27 ?_
      refine lv_iload_n hx hb dX0_shift_30 rfl (lv_at hl 3 rfl) ?_
      refine tn_aald hx hb hK hP 1 6 rfl rfl (by omega) (by decide) dX0_shift_31 ?_
      refine va_getN (v := .ref b) hx hb hts in_X6 hown hK hP 3 rfl rfl 0 (by decide) (hE.use q233 rfl rfl) (fun _ h => h) rfl dX0_shift_32 ?_
      refine lv_iload hx hb dX0_shift_35 (lv_at hl 4 rfl) ?_
      refine lv_iload hx hb dX0_shift_37 (lv_at hl 5 rfl) ?_
      refine tn_copyRL S hE hP hD hS hl.1 4 5 3 rfl rfl rfl hin hjn (by omega) (by omega) q1081 (Nat.le_of_ble_eq_true rfl) (by decide +kernel) dX0_shift_39 (fun H locs hP hD hS => ?_)
      have hP : va_P D vwCl (ti_wT4 E ad th tx hi t9 o9 (.ref a) (.ref b) ++ [(a, .inl (E 3, n0, .inr (.inl (f)))), (b, .inl (E 3, n1, .inr (.inl (va_cpy f g i9 j9 m9))))]) H := hP
      have hD : va_D A (ti_wT4 E ad th tx hi t9 o9 (.ref a) (.ref b) ++ [(a, .inl (E 3, n0, .inr (.inl (f)))), (b, .inl (E 3, n1, .inr (.inl (va_cpy f g i9 j9 m9))))]) := hD
      refine lv_iload hx hb dX0_shift_42 (lv_at hl 5 rfl) ?_
      have hv9 : (nI m9) = (fun _ => nI m9) () := rfl
      refine W.eq (g2 := F0 m 44 ls [.int ((fun _ => nI m9) ())]) (congrArg (fun z => F0 m 44 ls [.int z]) hv9) ?_
      exact hret _ () _ _ _ _ (trivial) hP trivial hS (Nat.le_of_ble_eq_true rfl) (Nat.le_of_ble_eq_true rfl) (fun hq hf9 => W.iret hx hb hr hq hf9 dX0_shift_44 hlk)
    · skip
      exact absurd ht5o9 (by rw [c11]; decide)

set_option maxHeartbeats 2000000 in
theorem met_X0_shift_ls (l : Launch) (D : va_G) (E : Nat → ClassId) (htr : l.stackTraces = false) (z0 : Nat) (ad th : Nat → Nat) (tx : Nat) (hi : Bool) (t9 : Nat) (ht9 : t9 < 6) (a n0 i9 j9 m9 : Nat) (f : Nat → Int64) (h60 : n0 ≤ 60) (hin : i9 + m9 ≤ n0) (hjn : j9 + m9 ≤ n0) : ti_MetB (σ := Unit) (τ := Unit) l D E yX0_shift (wsW_ yX0_shift cX0_shift 7 (some .int) [(16, 44, 45, 338), (16, 44, 50, 392), (16, 44, 55, 394)]) 10 3 454 z0 (ti_wT3 E ad th tx hi t9 (.ref a) ++ [(a, .inl (E 3, n0, .inr (.inl (f))))]) [.ref (ad 0), .int (nI t9), .int (nI i9), .int (nI t9), .int (nI j9), .int (nI m9)] (fun _ => True) (fun _ => ti_wT3 E ad th tx hi t9 (.ref a) ++ [(a, .inl (E 3, n0, .inr (.inl (va_cpy f f i9 j9 m9))))]) (fun u => some (.int ((fun _ => nI m9) u))) (fun _ => True) (fun _ _ => True) (fun w => RX14) (fun w => 0) (fun w => ti_wT3 E ad th tx hi t9 (.ref a) ++ [(a, .inl (E 3, n0, .inr (.inl (f))))]) (fun w => []) (fun w => False) (fun w H => True) := by
  refine ti_metBH (by decide) (Nat.le_of_ble_eq_true rfl) ?_
  intro p e s m below meth c H A Q ls S hE hP hD hS hA hZ hAz hx0 htab hl hret hq
  obtain ⟨hQ, hr, hlk, hinit⟩ := hq
  have hsz0 := hS.1
  have hx := S.1
  have hb := S.2.1
  have hown := S.2.2.2.1
  have hts := S.2.2.2.2
  have hK := hE.1
  have hl : lv_has ls 7 [(0, .ref (ad 0)), (1, .int (nI t9)), (2, .int (nI i9)), (3, .int (nI t9)), (4, .int (nI j9)), (5, .int (nI m9))] := hl
  have ht5t9 : ti_t5 (nI t9) = true := by unfold ti_t5; rw [ti_in_nI (by omega) (by decide) (by decide)]; exact decide_eq_true ⟨Nat.zero_le _, by omega⟩
  refine lv_iload_n hx hb dX0_shift_0 rfl (lv_at hl 1 rfl) ?_
  refine ti_pS (As := [.int (nI t9)]) (rest := []) (v := .int (ti_b (ti_t5 (nI t9)))) S hE hP [] (met_X0_isTape l D E (nI t9)) rfl (lw_S q920 q921 q66 q922) 1 rfl (by decide +kernel) ⟨Nat.le_of_ble_eq_true rfl, Nat.le_of_ble_eq_true rfl⟩ hl.1 rfl (Nat.le_of_ble_eq_true rfl) ⟨Nat.le_of_ble_eq_true rfl, Nat.le_of_ble_eq_true rfl⟩ dX0_shift_1 ?_
  refine tb_eq (tgt := 14) hx hb dX0_shift_4 (by decide) (fun c4 => ?_) (fun c4 => ?_)
  · skip
    exact absurd ht5t9 (by rw [c4]; decide)
  · skip
    refine lv_iload_n hx hb dX0_shift_7 rfl (lv_at hl 3 rfl) ?_
    refine ti_pS (As := [.int (nI t9)]) (rest := []) (v := .int (ti_b (ti_t5 (nI t9)))) S hE hP [] (met_X0_isTape l D E (nI t9)) rfl (lw_S q920 q921 q66 q922) 1 rfl (by decide +kernel) ⟨Nat.le_of_ble_eq_true rfl, Nat.le_of_ble_eq_true rfl⟩ hl.1 rfl (Nat.le_of_ble_eq_true rfl) ⟨Nat.le_of_ble_eq_true rfl, Nat.le_of_ble_eq_true rfl⟩ dX0_shift_8 ?_
    refine tb_ne (tgt := 16) hx hb dX0_shift_11 (by decide) (fun c11 => ?_) (fun c11 => ?_)
    · skip
      refine lv_aload_n hx hb dX0_shift_16 rfl (lv_at hl 0 rfl) ?_
      refine va_get (v := .ref (ad 35)) hx hb hts in_X0 hown hK hP 0 rfl rfl 13 (by decide) (hts _ q250) (fun _ h => h) rfl dX0_shift_17 ?_
      refine lv_iload_n hx hb dX0_shift_20 rfl (lv_at hl 1 rfl) ?_
      refine tn_aald hx hb hK hP 1 6 rfl rfl (by omega) (by decide) dX0_shift_21 ?_
      refine va_getN (v := .ref a) hx hb hts in_X6 hown hK hP 2 rfl rfl 0 (by decide) (hE.use q233 rfl rfl) (fun _ h => h) rfl dX0_shift_22 ?_
      refine lv_iload_n hx hb dX0_shift_25 rfl (lv_at hl 2 rfl) ?_
      refine lv_aload_n hx hb dX0_shift_26 rfl (lv_at hl 0 rfl) ?_
      refine va_get (v := .ref (ad 35)) hx hb hts in_X0 hown hK hP 0 rfl rfl 13 (by decide) (hts _ q250) (fun _ h => h) rfl dX0_shift_27 ?_
      refine lv_iload_n hx hb dX0_shift_30 rfl (lv_at hl 3 rfl) ?_
      refine tn_aald hx hb hK hP 1 6 rfl rfl (by omega) (by decide) dX0_shift_31 ?_
      refine va_getN (v := .ref a) hx hb hts in_X6 hown hK hP 2 rfl rfl 0 (by decide) (hE.use q233 rfl rfl) (fun _ h => h) rfl dX0_shift_32 ?_
      refine lv_iload hx hb dX0_shift_35 (lv_at hl 4 rfl) ?_
      refine lv_iload hx hb dX0_shift_37 (lv_at hl 5 rfl) ?_
      refine tn_copyRL S hE hP hD hS hl.1 3 3 3 rfl rfl rfl hin hjn (by omega) (by omega) q1081 (Nat.le_of_ble_eq_true rfl) (by decide +kernel) dX0_shift_39 (fun H locs hP hD hS => ?_)
      have hP : va_P D vwCl (ti_wT3 E ad th tx hi t9 (.ref a) ++ [(a, .inl (E 3, n0, .inr (.inl (va_cpy f f i9 j9 m9))))]) H := hP
      have hD : va_D A (ti_wT3 E ad th tx hi t9 (.ref a) ++ [(a, .inl (E 3, n0, .inr (.inl (va_cpy f f i9 j9 m9))))]) := hD
      refine lv_iload hx hb dX0_shift_42 (lv_at hl 5 rfl) ?_
      have hv9 : (nI m9) = (fun _ => nI m9) () := rfl
      refine W.eq (g2 := F0 m 44 ls [.int ((fun _ => nI m9) ())]) (congrArg (fun z => F0 m 44 ls [.int z]) hv9) ?_
      exact hret _ () _ _ _ _ (trivial) hP trivial hS (Nat.le_of_ble_eq_true rfl) (Nat.le_of_ble_eq_true rfl) (fun hq hf9 => W.iret hx hb hr hq hf9 dX0_shift_44 hlk)
    · skip
      exact absurd ht5t9 (by rw [c11]; decide)
