/-! TermIdeals: jump, jumps, lacks, odds, mean, both, looked (printed by w_own4.py) -/
set_option maxRecDepth 100000

abbrev ti_wMJB (E : Nat → ClassId) (ad dh du dv jh ju jv kh ku kv : Nat → Nat) (tx : Nat) (hi : Bool) (xi : ti_Ti) (xb : ti_Tw) : va_W := [(ad 0, .inr (0, [.ref (ad 1), .ref (ad 2), .ref (ad 5), .ref (ad 11), .ref (ad 14), .ref (ad 16), .ref (ad 18), .ref (ad 20), .ref (ad 22), .int (nI tx), .ref (ad 23), .ref (ad 27), .ref (ad 31), .ref (ad 35), .ref (ad 36), .ref (ad 37), .ref (ad 41), .ref (ad 45), .int (ti_b hi)])), (ad 1, .inl (E 5, 2, .inr (.inr (.inr (.inr (ti_o jh (fun j => j))))))), (jh 0, .inr (1, [.ref (ju 0), .ref (jv 0), .int (nI (xi.2.2 0))])), (ju 0, .inl (E 0, 6, .inl (ti_n (xi.1 0)))), (jv 0, .inl (E 0, 6, .inl (ti_n (xi.2.1 0)))), (jh 1, .inr (1, [.ref (ju 1), .ref (jv 1), .int (nI (xi.2.2 1))])), (ju 1, .inl (E 0, 6, .inl (ti_n (xi.1 1)))), (jv 1, .inl (E 0, 6, .inl (ti_n (xi.2.1 1)))), (ad 31, .inr (5, [.ref (ad 32), .ref (ad 33), .ref (ad 34), .int (nI xb.2.2.2)])), (ad 32, .inl (E 0, 8, .inl (ti_n xb.1))), (ad 33, .inl (E 0, 8, .inl (ti_n xb.2.1))), (ad 34, .inl (E 0, 8, .inl (ti_n xb.2.2.1)))]

theorem ti_lowp {p : Int32} {x : Nat × Nat} : (if p = 0 then lN (ti_low x).1 else lN (ti_low x).2) = lN ((if p = 0 then x.1 else x.2) / Nat.gcd x.1 x.2) := by
  by_cases h : p = 0
  · rw [if_pos h, if_pos h]; rfl
  · rw [if_neg h, if_neg h]; rfl

set_option maxHeartbeats 2000000 in
theorem met_X0_jump (l : Launch) (D : va_G) (E : Nat → ClassId) (htr : l.stackTraces = false) (z0 : Nat) (ad dh du dv jh ju jv kh ku kv : Nat → Nat) (tx : Nat) (hi : Bool) (xi : ti_Ti) (xf : ti_Tf) (hxi : ti_Jok xi) (I : Nat → ti_GL) (hJ : ti_JI xi I) (hxf : ti_Fok xf) (hnd : ∀ i, i < 2 → (I i).Nodup) (v a b pt : Int32) : ti_MetX (σ := ti_Tf) (τ := Unit) l D E yX0_jump (wsW_ yX0_jump cX0_jump 6 (some .long) [(29, 77, 78, 150)]) 7 1 6 z0 (ti_wMJF E ad dh du dv jh ju jv kh ku kv tx hi xi xf) [.ref (ad 0), .int v, .int a, .int b, .int pt] (fun _ => True) (fun u => ti_wMJF E ad dh du dv jh ju jv kh ku kv tx hi xi u) (fun u => some (.long ((fun _ => ti_Sjump I v a b pt) u))) (fun u => ti_Fok u) (fun _ _ => True) (fun w => RX14) (fun w => 0) (fun w => ti_wMJF E ad dh du dv jh ju jv kh ku kv tx hi xi xf) (fun w => []) (fun w => False) (fun w H => True) := by
  refine ti_metXH (by decide) (Nat.le_of_ble_eq_true rfl) ?_
  intro p e s m below meth c H A Q ls S hE hP hD hS hA hZ hAz hx0 htab hl hret hq
  obtain ⟨hQ, hr, hlk, hinit⟩ := hq
  have hsz0 := hS.1
  have hx := S.1
  have hb := S.2.1
  have hown := S.2.2.2.1
  have hts := S.2.2.2.2
  have hK := hE.1
  have hl : lv_has ls 6 [(0, .ref (ad 0)), (1, .int v), (2, .int a), (3, .int b), (4, .int pt)] := hl
  refine lv_iload_n hx hb dX0_jump_0 rfl (lv_at hl 1 rfl) ?_
  refine ti_pS (As := [.int v]) (rest := []) (v := .int (ti_b (ti_bt v))) S hE hP [] (met_X0_isIdeal l D E v) rfl (lw_S q299 q300 q66 q301) 1 rfl (by decide +kernel) ⟨Nat.le_of_ble_eq_true rfl, Nat.le_of_ble_eq_true rfl⟩ hl.1 rfl (Nat.le_of_ble_eq_true rfl) ⟨Nat.le_of_ble_eq_true rfl, Nat.le_of_ble_eq_true rfl⟩ dX0_jump_1 ?_
  refine tb_eq (tgt := 25) hx hb dX0_jump_4 (by decide) (fun c4 => ?_) (fun c4 => ?_)
  · skip
    refine lv_ldc2 (v := (-9223372036854775808)) hx hb hown (hts _ q748) dX0_jump_25 ?_
    have hv9 : ((-9223372036854775808)) = (fun _ => ti_Sjump I v a b pt) xf := by rw [ti_Sjump, if_pos (by rw [c4]; rfl)]; rfl
    refine W.eq (g2 := F0 m 28 ls [.long ((fun _ => ti_Sjump I v a b pt) xf)]) (congrArg (fun z => F0 m 28 ls [.long z]) hv9) ?_
    exact hret _ xf _ _ _ _ (hxf) hP trivial hS (Nat.le_of_ble_eq_true rfl) (Nat.le_of_ble_eq_true rfl) (fun hq hf9 => W.lret hx hb hr hq hf9 dX0_jump_28 hlk)
  · skip
    obtain ⟨i, hi2, rfl⟩ := ti_bt_nat c4
    refine lv_iload_n hx hb dX0_jump_7 rfl (lv_at hl 2 rfl) ?_
    refine lv_iload_n hx hb dX0_jump_8 rfl (lv_at hl 3 rfl) ?_
    refine ti_pS (As := [.int a, .int b]) (rest := []) (v := .int (ti_b (ti_b9 a && ti_b9 b))) S hE hP [] (met_X0_isTerm l D E a b) rfl (lw_S q305 q306 q66 q307) 2 rfl (by decide +kernel) ⟨Nat.le_of_ble_eq_true rfl, Nat.le_of_ble_eq_true rfl⟩ hl.1 rfl (Nat.le_of_ble_eq_true rfl) ⟨Nat.le_of_ble_eq_true rfl, Nat.le_of_ble_eq_true rfl⟩ dX0_jump_9 ?_
    refine tb_eq (tgt := 25) hx hb dX0_jump_12 (by decide) (fun c12 => ?_) (fun c12 => ?_)
    · skip
      refine lv_ldc2 (v := (-9223372036854775808)) hx hb hown (hts _ q748) dX0_jump_25 ?_
      have hv9 : ((-9223372036854775808)) = (fun _ => ti_Sjump I (nI i) a b pt) xf := by rw [ti_Sjump, if_pos (by rw [c4]; cases ha : ti_b9 a <;> cases hb : ti_b9 b <;> simp_all)]; rfl
      refine W.eq (g2 := F0 m 28 ls [.long ((fun _ => ti_Sjump I (nI i) a b pt) xf)]) (congrArg (fun z => F0 m 28 ls [.long z]) hv9) ?_
      exact hret _ xf _ _ _ _ (hxf) hP trivial hS (Nat.le_of_ble_eq_true rfl) (Nat.le_of_ble_eq_true rfl) (fun hq hf9 => W.lret hx hb hr hq hf9 dX0_jump_28 hlk)
    · skip
      have hb9 : ti_b9 a = true ∧ ti_b9 b = true := by simpa using c12
      obtain ⟨a9, ha9, rfl⟩ := ti_b9_nat hb9.1
      obtain ⟨b9, hb99, rfl⟩ := ti_b9_nat hb9.2
      have hca : ti_cl (nI a9) = a9 := ti_cl_nI (by omega)
      have hcb : ti_cl (nI b9) = b9 := ti_cl_nI (by omega)
      refine lv_iload hx hb dX0_jump_15 (lv_at hl 4 rfl) ?_
      refine lv_iconst (v := nI 0) hx hb dX0_jump_17 (by decide) ?_
      refine lv_iconst (v := nI 1) hx hb dX0_jump_18 (by decide) ?_
      refine ti_pS (As := [.int pt, .int (nI 0), .int (nI 1)]) (rest := []) (v := .int (ti_b (ti_in pt (nI 0) (nI 1)))) S hE hP [] (met_X0_in l D E pt (nI 0) (nI 1)) rfl (lw_S q302 q303 q66 q304) 3 rfl (by decide +kernel) ⟨Nat.le_of_ble_eq_true rfl, Nat.le_of_ble_eq_true rfl⟩ hl.1 rfl (Nat.le_of_ble_eq_true rfl) ⟨Nat.le_of_ble_eq_true rfl, Nat.le_of_ble_eq_true rfl⟩ dX0_jump_19 ?_
      refine tb_ne (tgt := 29) hx hb dX0_jump_22 (by decide) (fun c22 => ?_) (fun c22 => ?_)
      · skip
        rcases (show i = 0 ∨ i = 1 by omega) with rfl | rfl
        · skip
          have hg := hJ 0 (by decide)
          have hlen := ti_JI_len hJ (show 0 < 2 by decide)
          have h6 := hxi.2.2 0
          have hci : ti_cl (nI 0) = 0 := ti_cl_nI (by decide)
          refine lv_aload_n hx hb dX0_jump_29 rfl (lv_at hl 0 rfl) ?_
          refine va_get (v := .ref (ad 5)) hx hb hts in_X0 hown hK hP 0 rfl rfl 2 (by decide) (hts _ q239) (fun _ h => h) rfl dX0_jump_30 ?_
          refine lv_aload_n hx hb dX0_jump_33 rfl (lv_at hl 0 rfl) ?_
          refine va_get (v := .ref (ad 1)) hx hb hts in_X0 hown hK hP 0 rfl rfl 0 (by decide) (hts _ q237) (fun _ h => h) rfl dX0_jump_34 ?_
          refine lv_iload_n hx hb dX0_jump_37 rfl (lv_at hl 1 rfl) ?_
          refine tn_aald hx hb hK hP 1 5 rfl rfl (by omega) (by decide) dX0_jump_38 ?_
          by_cases hz39 : xi.2.2 0 = 0
          · skip
            refine ti_callX (ty_runV (As := [.ref (jh 0)]) (rest := []) S (met_X2_looks_z l D E htr z0 (ad 5) (ad 6) (ad 7) (ad 8) (ad 9) (ad 10) xf.1 xf.2.1 xf.2.2.1 xf.2.2.2.1 xf.2.2.2.2.1 xf.2.2.2.2.2.1 xf.2.2.2.2.2.2.1 xf.2.2.2.2.2.2.2.1 xf.2.2.2.2.2.2.2.2.1 xf.2.2.2.2.2.2.2.2.2 (jh 0) (ju 0) (jv 0) (xi.1 0) (xi.2.1 0) (xi.2.2 0) hz39 H.size) (cwV 1 S.2.2.2.2 (lw_V q357 q358 q359 q68 q360) rfl rfl rfl (by decide +kernel) ⟨Nat.le_of_ble_eq_true rfl, Nat.le_of_ble_eq_true rfl⟩) (ti_preXV (xp := fun _ => True) hE hP hD hS rfl hZ hAz trivial [8, 9, 10, 11, 12, 13, 2, 3, 4] rfl rfl 8 rfl rfl) rfl rfl hl.1 rfl (lv_room (Nat.le_of_ble_eq_true rfl)) dX0_jump_39 ⟨Nat.le_of_ble_eq_true rfl, Nat.le_of_ble_eq_true rfl⟩) hP hD hS hA [8, 9, 10, 11, 12, 13, 2, 3, 4] rfl (fun _ => rfl) (fun _ => rfl) (fun _ _ _ h9 => absurd h9 id) (fun we H locs ce hpx hxx hFr hP hD hPe hnew hS hce hcv hcl => ?_)
            have hP : va_P D vwCl (ti_wMJF E ad dh du dv jh ju jv kh ku kv tx hi xi xf) H := ti_asP hP [.inl 0, .inl 1, .inr 6, .inr 7, .inr 8, .inl 5, .inl 6, .inl 7, .inr 0, .inr 1, .inr 2, .inr 3, .inr 4, .inr 5] rfl rfl rfl rfl
            have hD : va_D A (ti_wMJF E ad dh du dv jh ju jv kh ku kv tx hi xi xf) := ti_asD hD [.inl 0, .inl 1, .inr 6, .inr 7, .inr 8, .inl 5, .inl 6, .inl 7, .inr 0, .inr 1, .inr 2, .inr 3, .inr 4, .inr 5] rfl rfl rfl rfl
            refine vx_catch hown [] ⟨29, 77, 78, 150⟩ [] htab (fun z hz => absurd hz List.not_mem_nil) rfl (by decide) (hts _ q356) (hE.use q363 rfl rfl) hce hcv hcl ?_
            refine lv_astore (lv' := [(5, .ref we.1), (0, .ref (ad 0)), (1, .int (nI 0)), (2, .int (nI a9)), (3, .int (nI b9)), (4, .int pt)]) hx hb dX0_jump_78 hl (by decide) rfl (fun ls hl => ?_)
            refine lv_ldc2 (v := (-9223372036854775808)) hx hb hown (hts _ q748) dX0_jump_80 ?_
            have hv9 : ((-9223372036854775808)) = (fun _ => ti_Sjump I (nI 0) (nI a9) (nI b9) pt) xf := by rw [ti_Sjump, if_neg (by rw [c4, hb9.1, hb9.2, show ti_bt pt = true from c22]; decide), hci, hca, hcb, if_pos (by rw [hlen]; exact hz39)]; rfl
            refine W.eq (g2 := F0 m 83 ls [.long ((fun _ => ti_Sjump I (nI 0) (nI a9) (nI b9) pt) xf)]) (congrArg (fun z => F0 m 83 ls [.long z]) hv9) ?_
            exact hret _ xf _ _ _ _ (hxf) hP trivial hS (Nat.le_of_ble_eq_true rfl) (Nat.le_of_ble_eq_true rfl) (fun hq hf9 => W.lret hx hb hr hq hf9 dX0_jump_83 hlk)
          · skip
            have hz1 : 0 < xi.2.2 0 := Nat.pos_of_ne_zero hz39
            have hnd9 : (ti_gr (xi.1 0) (xi.2.1 0) 0 (xi.2.2 0)).Nodup := by have h9 := hnd 0 (by decide); rw [← hJ 0 (by decide)] at h9; exact h9
            have hN9 : ti_r2 (ti_gr (xi.1 0) (xi.2.1 0) 0 (xi.2.2 0)) 9999 (List.range' 1 9) ≤ 6 := Nat.le_trans (ti_r2_le hnd9 9999) (by rw [ti_gr_len]; exact (hxi.2.2 0))
            refine ti_mV (As := [.ref (jh 0)]) (rest := []) S hE hP hD hS hA [8, 9, 10, 11, 12, 13, 2, 3, 4] rfl (met_X2_looks l D E (ad 5) (ad 6) (ad 7) (ad 8) (ad 9) (ad 10) xf.1 xf.2.1 xf.2.2.1 xf.2.2.2.1 xf.2.2.2.2.1 xf.2.2.2.2.2.1 xf.2.2.2.2.2.2.1 xf.2.2.2.2.2.2.2.1 xf.2.2.2.2.2.2.2.2.1 xf.2.2.2.2.2.2.2.2.2 (jh 0) (ju 0) (jv 0) (xi.1 0) (xi.2.1 0) (xi.2.2 0) (hxi.2.2 0) (hxi.1 0) (hxi.2.1 0) hxf.1 hxf.2.1 hxf.2.2.1 hxf.2.2.2.1 hz1 hN9) rfl (fun _ => rfl) (lw_V q357 q358 q359 q68 q360) 1 rfl 8 rfl rfl (by decide +kernel) ⟨Nat.le_of_ble_eq_true rfl, Nat.le_of_ble_eq_true rfl⟩ hl.1 rfl (Nat.le_of_ble_eq_true rfl) ⟨Nat.le_of_ble_eq_true rfl, Nat.le_of_ble_eq_true rfl⟩ dX0_jump_39 (fun u1 H locs hu hP hD hS => ?_)
            obtain ⟨hF1, hF2, hF3, hF4, hF5⟩ := hu
            have hFF : ti_fr u1.1 u1.2.1 u1.2.2.1 0 u1.2.2.2 = ti_FF (ti_gr (xi.1 0) (xi.2.1 0) 0 (xi.2.2 0)) := by rw [hF1]; exact ti_fxm (by rw [ti_gr_len]; exact hz1) (ti_gr_9 (hxi.1 0) (hxi.2.1 0) 0 _)
            have hFo : ti_Fok (Value.ref (jh 0), u1.1, u1.2.1, u1.2.2.1, u1.2.2.2, xf.2.2.2.2.2.1, xf.2.2.2.2.2.2.1, xf.2.2.2.2.2.2.2.1, xf.2.2.2.2.2.2.2.2.1, xf.2.2.2.2.2.2.2.2.2) := ⟨hF2, hF3, hF4, hF5, hxf.2.2.2.2⟩
            have hP : va_P D vwCl (ti_wMJF E ad dh du dv jh ju jv kh ku kv tx hi xi (Value.ref (jh 0), u1.1, u1.2.1, u1.2.2.1, u1.2.2.2, xf.2.2.2.2.2.1, xf.2.2.2.2.2.2.1, xf.2.2.2.2.2.2.2.1, xf.2.2.2.2.2.2.2.2.1, xf.2.2.2.2.2.2.2.2.2)) H := ti_asP hP [.inl 0, .inl 1, .inr 6, .inr 7, .inr 8, .inl 5, .inl 6, .inl 7, .inr 0, .inr 1, .inr 2, .inr 3, .inr 4, .inr 5] rfl rfl rfl rfl
            have hD : va_D A (ti_wMJF E ad dh du dv jh ju jv kh ku kv tx hi xi (Value.ref (jh 0), u1.1, u1.2.1, u1.2.2.1, u1.2.2.2, xf.2.2.2.2.2.1, xf.2.2.2.2.2.2.1, xf.2.2.2.2.2.2.2.1, xf.2.2.2.2.2.2.2.2.1, xf.2.2.2.2.2.2.2.2.2)) := ti_asD hD [.inl 0, .inl 1, .inr 6, .inr 7, .inr 8, .inl 5, .inl 6, .inl 7, .inr 0, .inr 1, .inr 2, .inr 3, .inr 4, .inr 5] rfl rfl rfl rfl
            refine W.eq (g2 := F0 m 42 ls [.ref (ad 5)]) rfl ?_
            refine lv_iload_n hx hb dX0_jump_42 rfl (lv_at hl 2 rfl) ?_
            refine lv_iload_n hx hb dX0_jump_43 rfl (lv_at hl 3 rfl) ?_
            refine ti_mV (As := [.int (nI a9), .int (nI b9)]) (rest := []) S hE hP hD hS hA [8, 9, 10, 11, 12, 13] rfl (met_X2_jumps l D E (ad 5) (ad 6) (ad 7) (ad 8) (ad 9) (ad 10) (Value.ref (jh 0)) u1.1 u1.2.1 u1.2.2.1 u1.2.2.2 xf.2.2.2.2.2.1 xf.2.2.2.2.2.2.1 xf.2.2.2.2.2.2.2.1 xf.2.2.2.2.2.2.2.2.1 xf.2.2.2.2.2.2.2.2.2 hFo.1 hFo.2.1 hFo.2.2.1 hFo.2.2.2.1 a9 b9 ha9 hb99 hFo.2.2.2.2.1 hFo.2.2.2.2.2.1) rfl (fun _ => rfl) (lw_V q749 q611 q612 q68 q613) 2 rfl 8 rfl rfl (by decide +kernel) ⟨Nat.le_of_ble_eq_true rfl, Nat.le_of_ble_eq_true rfl⟩ hl.1 rfl (Nat.le_of_ble_eq_true rfl) ⟨Nat.le_of_ble_eq_true rfl, Nat.le_of_ble_eq_true rfl⟩ dX0_jump_44 (fun u3 H locs hu hP hD hS => ?_)
            have hu3 : u3 = ti_jf a9 b9 (ti_fr u1.1 u1.2.1 u1.2.2.1 0 u1.2.2.2) (xf.2.2.2.2.2.1, 0) := hu
            have hj0 := ti_jf_start a9 b9 (ti_fr u1.1 u1.2.1 u1.2.2.1 0 u1.2.2.2) xf.2.2.2.2.2.1
            rw [← hu3] at hj0
            have hjb := ti_jf_le a9 b9 ha9 hb99 (ti_fr u1.1 u1.2.1 u1.2.2.1 0 u1.2.2.2) (xf.2.2.2.2.2.1, 0) (ti_fr_le hFo.2.1 hFo.2.2.1 hFo.2.2.2.1 0 _) hFo.2.2.2.2.1 (Nat.zero_le _)
            rw [← hu3] at hjb
            have hFj : ti_Fok (Value.ref (jh 0), u1.1, u1.2.1, u1.2.2.1, u1.2.2.2, u3.1, u3.2, xf.2.2.2.2.2.2.2.1, xf.2.2.2.2.2.2.2.2.1, xf.2.2.2.2.2.2.2.2.2) := ⟨hFo.1, hFo.2.1, hFo.2.2.1, hFo.2.2.2.1, hjb.1, hjb.2, hFo.2.2.2.2.2.2⟩
            have hP : va_P D vwCl (ti_wMJF E ad dh du dv jh ju jv kh ku kv tx hi xi (Value.ref (jh 0), u1.1, u1.2.1, u1.2.2.1, u1.2.2.2, u3.1, u3.2, xf.2.2.2.2.2.2.2.1, xf.2.2.2.2.2.2.2.2.1, xf.2.2.2.2.2.2.2.2.2)) H := hP
            have hD : va_D A (ti_wMJF E ad dh du dv jh ju jv kh ku kv tx hi xi (Value.ref (jh 0), u1.1, u1.2.1, u1.2.2.1, u1.2.2.2, u3.1, u3.2, xf.2.2.2.2.2.2.2.1, xf.2.2.2.2.2.2.2.2.1, xf.2.2.2.2.2.2.2.2.2)) := hD
            refine W.eq (g2 := F0 m 47 ls [.int (ti_b (decide (u3.2 ≠ 0)))]) rfl ?_
            refine tb_eq (tgt := 74) hx hb dX0_jump_47 (by decide) (fun c47 => ?_) (fun c47 => ?_)
            · skip
              have hz0 : u3.2 = 0 := Classical.not_not.mp (of_decide_eq_false c47)
              refine lv_ldc2 (v := (-9223372036854775808)) hx hb hown (hts _ q748) dX0_jump_74 ?_
              have hv9 : ((-9223372036854775808)) = (fun _ => ti_Sjump I (nI 0) (nI a9) (nI b9) pt) ((Value.ref (jh 0), u1.1, u1.2.1, u1.2.2.1, u1.2.2.2, u3.1, u3.2, xf.2.2.2.2.2.2.2.1, xf.2.2.2.2.2.2.2.2.1, xf.2.2.2.2.2.2.2.2.2)) := by rw [ti_Sjump, if_neg (by rw [c4, hb9.1, hb9.2, show ti_bt pt = true from c22]; decide), hci, hca, hcb, if_neg (by rw [hlen]; exact hz39), ← show (ti_gr (xi.1 0) (xi.2.1 0) 0 (xi.2.2 0)) = I 0 from hg, ← hFF, if_pos (by rw [← hj0.1]; exact hz0)]; rfl
              refine W.eq (g2 := F0 m 77 ls [.long ((fun _ => ti_Sjump I (nI 0) (nI a9) (nI b9) pt) ((Value.ref (jh 0), u1.1, u1.2.1, u1.2.2.1, u1.2.2.2, u3.1, u3.2, xf.2.2.2.2.2.2.2.1, xf.2.2.2.2.2.2.2.2.1, xf.2.2.2.2.2.2.2.2.2)))]) (congrArg (fun z => F0 m 77 ls [.long z]) hv9) ?_
              exact hret _ ((Value.ref (jh 0), u1.1, u1.2.1, u1.2.2.1, u1.2.2.2, u3.1, u3.2, xf.2.2.2.2.2.2.2.1, xf.2.2.2.2.2.2.2.2.1, xf.2.2.2.2.2.2.2.2.2)) _ _ _ _ (hFj) hP trivial hS (Nat.le_of_ble_eq_true rfl) (Nat.le_of_ble_eq_true rfl) (fun hq hf9 => W.lret hx hb hr hq hf9 dX0_jump_77 hlk)
            · skip
              have hz0 : u3.2 ≠ 0 := of_decide_eq_true c47
              refine lv_aload_n hx hb dX0_jump_50 rfl (lv_at hl 0 rfl) ?_
              refine va_get (v := .ref (ad 5)) hx hb hts in_X0 hown hK hP 0 rfl rfl 2 (by decide) (hts _ q239) (fun _ h => h) rfl dX0_jump_51 ?_
              refine va_getN (v := .int (nI u3.1)) hx hb hts in_X2 hown hK hP 8 rfl rfl 5 (by decide) (hE.use q142 rfl rfl) (fun _ h => h) rfl dX0_jump_54 ?_
              refine lv_i2l (v := lN u3.1) hx hb dX0_jump_57 (nI_l (by omega)) ?_
              refine lv_aload_n hx hb dX0_jump_58 rfl (lv_at hl 0 rfl) ?_
              refine va_get (v := .ref (ad 5)) hx hb hts in_X0 hown hK hP 0 rfl rfl 2 (by decide) (hts _ q239) (fun _ h => h) rfl dX0_jump_59 ?_
              refine va_getN (v := .int (nI u3.2)) hx hb hts in_X2 hown hK hP 8 rfl rfl 6 (by decide) (hE.use q144 rfl rfl) (fun _ h => h) rfl dX0_jump_62 ?_
              refine lv_i2l (v := lN u3.2) hx hb dX0_jump_65 (nI_l (by omega)) ?_
              refine lv_iload hx hb dX0_jump_66 (lv_at hl 4 rfl) ?_
              refine ti_pS (As := [.long (lN u3.1), .long (lN u3.2), .int pt]) (rest := []) (v := .long (lN ((if pt = 0 then u3.1 else u3.2) / Nat.gcd u3.1 u3.2))) S hE hP [] (met_X0_lowest l D E u3.1 u3.2 (by omega) (by omega) (by omega) pt) rfl (lw_S q750 q751 q66 q752) 3 rfl (by decide +kernel) ⟨Nat.le_of_ble_eq_true rfl, Nat.le_of_ble_eq_true rfl⟩ hl.1 rfl (Nat.le_of_ble_eq_true rfl) ⟨Nat.le_of_ble_eq_true rfl, Nat.le_of_ble_eq_true rfl⟩ dX0_jump_68 ?_
              refine lv_goto (tgt := 77) hx hb dX0_jump_71 (by decide) ?_
              have hv9 : (lN ((if pt = 0 then u3.1 else u3.2) / Nat.gcd u3.1 u3.2)) = (fun _ => ti_Sjump I (nI 0) (nI a9) (nI b9) pt) ((Value.ref (jh 0), u1.1, u1.2.1, u1.2.2.1, u1.2.2.2, u3.1, u3.2, xf.2.2.2.2.2.2.2.1, xf.2.2.2.2.2.2.2.2.1, xf.2.2.2.2.2.2.2.2.2)) := by refine Eq.symm ?_; rw [ti_Sjump, if_neg (by rw [c4, hb9.1, hb9.2, show ti_bt pt = true from c22]; decide), hci, hca, hcb, if_neg (by rw [hlen]; exact hz39), ← show (ti_gr (xi.1 0) (xi.2.1 0) 0 (xi.2.2 0)) = I 0 from hg, ← hFF, if_neg (by rw [← hj0.1]; exact hz0), ← hj0.2 (by rw [← hj0.1]; exact hz0), ti_lowp]
              refine W.eq (g2 := F0 m 77 ls [.long ((fun _ => ti_Sjump I (nI 0) (nI a9) (nI b9) pt) ((Value.ref (jh 0), u1.1, u1.2.1, u1.2.2.1, u1.2.2.2, u3.1, u3.2, xf.2.2.2.2.2.2.2.1, xf.2.2.2.2.2.2.2.2.1, xf.2.2.2.2.2.2.2.2.2)))]) (congrArg (fun z => F0 m 77 ls [.long z]) hv9) ?_
              exact hret _ ((Value.ref (jh 0), u1.1, u1.2.1, u1.2.2.1, u1.2.2.2, u3.1, u3.2, xf.2.2.2.2.2.2.2.1, xf.2.2.2.2.2.2.2.2.1, xf.2.2.2.2.2.2.2.2.2)) _ _ _ _ (hFj) hP trivial hS (Nat.le_of_ble_eq_true rfl) (Nat.le_of_ble_eq_true rfl) (fun hq hf9 => W.lret hx hb hr hq hf9 dX0_jump_77 hlk)
        · skip
          have hg := hJ 1 (by decide)
          have hlen := ti_JI_len hJ (show 1 < 2 by decide)
          have h6 := hxi.2.2 1
          have hci : ti_cl (nI 1) = 1 := ti_cl_nI (by decide)
          refine lv_aload_n hx hb dX0_jump_29 rfl (lv_at hl 0 rfl) ?_
          refine va_get (v := .ref (ad 5)) hx hb hts in_X0 hown hK hP 0 rfl rfl 2 (by decide) (hts _ q239) (fun _ h => h) rfl dX0_jump_30 ?_
          refine lv_aload_n hx hb dX0_jump_33 rfl (lv_at hl 0 rfl) ?_
          refine va_get (v := .ref (ad 1)) hx hb hts in_X0 hown hK hP 0 rfl rfl 0 (by decide) (hts _ q237) (fun _ h => h) rfl dX0_jump_34 ?_
          refine lv_iload_n hx hb dX0_jump_37 rfl (lv_at hl 1 rfl) ?_
          refine tn_aald hx hb hK hP 1 5 rfl rfl (by omega) (by decide) dX0_jump_38 ?_
          by_cases hz39 : xi.2.2 1 = 0
          · skip
            refine ti_callX (ty_runV (As := [.ref (jh 1)]) (rest := []) S (met_X2_looks_z l D E htr z0 (ad 5) (ad 6) (ad 7) (ad 8) (ad 9) (ad 10) xf.1 xf.2.1 xf.2.2.1 xf.2.2.2.1 xf.2.2.2.2.1 xf.2.2.2.2.2.1 xf.2.2.2.2.2.2.1 xf.2.2.2.2.2.2.2.1 xf.2.2.2.2.2.2.2.2.1 xf.2.2.2.2.2.2.2.2.2 (jh 1) (ju 1) (jv 1) (xi.1 1) (xi.2.1 1) (xi.2.2 1) hz39 H.size) (cwV 1 S.2.2.2.2 (lw_V q357 q358 q359 q68 q360) rfl rfl rfl (by decide +kernel) ⟨Nat.le_of_ble_eq_true rfl, Nat.le_of_ble_eq_true rfl⟩) (ti_preXV (xp := fun _ => True) hE hP hD hS rfl hZ hAz trivial [8, 9, 10, 11, 12, 13, 5, 6, 7] rfl rfl 8 rfl rfl) rfl rfl hl.1 rfl (lv_room (Nat.le_of_ble_eq_true rfl)) dX0_jump_39 ⟨Nat.le_of_ble_eq_true rfl, Nat.le_of_ble_eq_true rfl⟩) hP hD hS hA [8, 9, 10, 11, 12, 13, 5, 6, 7] rfl (fun _ => rfl) (fun _ => rfl) (fun _ _ _ h9 => absurd h9 id) (fun we H locs ce hpx hxx hFr hP hD hPe hnew hS hce hcv hcl => ?_)
            have hP : va_P D vwCl (ti_wMJF E ad dh du dv jh ju jv kh ku kv tx hi xi xf) H := ti_asP hP [.inl 0, .inl 1, .inl 2, .inl 3, .inl 4, .inr 6, .inr 7, .inr 8, .inr 0, .inr 1, .inr 2, .inr 3, .inr 4, .inr 5] rfl rfl rfl rfl
            have hD : va_D A (ti_wMJF E ad dh du dv jh ju jv kh ku kv tx hi xi xf) := ti_asD hD [.inl 0, .inl 1, .inl 2, .inl 3, .inl 4, .inr 6, .inr 7, .inr 8, .inr 0, .inr 1, .inr 2, .inr 3, .inr 4, .inr 5] rfl rfl rfl rfl
            refine vx_catch hown [] ⟨29, 77, 78, 150⟩ [] htab (fun z hz => absurd hz List.not_mem_nil) rfl (by decide) (hts _ q356) (hE.use q363 rfl rfl) hce hcv hcl ?_
            refine lv_astore (lv' := [(5, .ref we.1), (0, .ref (ad 0)), (1, .int (nI 1)), (2, .int (nI a9)), (3, .int (nI b9)), (4, .int pt)]) hx hb dX0_jump_78 hl (by decide) rfl (fun ls hl => ?_)
            refine lv_ldc2 (v := (-9223372036854775808)) hx hb hown (hts _ q748) dX0_jump_80 ?_
            have hv9 : ((-9223372036854775808)) = (fun _ => ti_Sjump I (nI 1) (nI a9) (nI b9) pt) xf := by rw [ti_Sjump, if_neg (by rw [c4, hb9.1, hb9.2, show ti_bt pt = true from c22]; decide), hci, hca, hcb, if_pos (by rw [hlen]; exact hz39)]; rfl
            refine W.eq (g2 := F0 m 83 ls [.long ((fun _ => ti_Sjump I (nI 1) (nI a9) (nI b9) pt) xf)]) (congrArg (fun z => F0 m 83 ls [.long z]) hv9) ?_
            exact hret _ xf _ _ _ _ (hxf) hP trivial hS (Nat.le_of_ble_eq_true rfl) (Nat.le_of_ble_eq_true rfl) (fun hq hf9 => W.lret hx hb hr hq hf9 dX0_jump_83 hlk)
          · skip
            have hz1 : 0 < xi.2.2 1 := Nat.pos_of_ne_zero hz39
            have hnd9 : (ti_gr (xi.1 1) (xi.2.1 1) 0 (xi.2.2 1)).Nodup := by have h9 := hnd 1 (by decide); rw [← hJ 1 (by decide)] at h9; exact h9
            have hN9 : ti_r2 (ti_gr (xi.1 1) (xi.2.1 1) 0 (xi.2.2 1)) 9999 (List.range' 1 9) ≤ 6 := Nat.le_trans (ti_r2_le hnd9 9999) (by rw [ti_gr_len]; exact (hxi.2.2 1))
            refine ti_mV (As := [.ref (jh 1)]) (rest := []) S hE hP hD hS hA [8, 9, 10, 11, 12, 13, 5, 6, 7] rfl (met_X2_looks l D E (ad 5) (ad 6) (ad 7) (ad 8) (ad 9) (ad 10) xf.1 xf.2.1 xf.2.2.1 xf.2.2.2.1 xf.2.2.2.2.1 xf.2.2.2.2.2.1 xf.2.2.2.2.2.2.1 xf.2.2.2.2.2.2.2.1 xf.2.2.2.2.2.2.2.2.1 xf.2.2.2.2.2.2.2.2.2 (jh 1) (ju 1) (jv 1) (xi.1 1) (xi.2.1 1) (xi.2.2 1) (hxi.2.2 1) (hxi.1 1) (hxi.2.1 1) hxf.1 hxf.2.1 hxf.2.2.1 hxf.2.2.2.1 hz1 hN9) rfl (fun _ => rfl) (lw_V q357 q358 q359 q68 q360) 1 rfl 8 rfl rfl (by decide +kernel) ⟨Nat.le_of_ble_eq_true rfl, Nat.le_of_ble_eq_true rfl⟩ hl.1 rfl (Nat.le_of_ble_eq_true rfl) ⟨Nat.le_of_ble_eq_true rfl, Nat.le_of_ble_eq_true rfl⟩ dX0_jump_39 (fun u1 H locs hu hP hD hS => ?_)
            obtain ⟨hF1, hF2, hF3, hF4, hF5⟩ := hu
            have hFF : ti_fr u1.1 u1.2.1 u1.2.2.1 0 u1.2.2.2 = ti_FF (ti_gr (xi.1 1) (xi.2.1 1) 0 (xi.2.2 1)) := by rw [hF1]; exact ti_fxm (by rw [ti_gr_len]; exact hz1) (ti_gr_9 (hxi.1 1) (hxi.2.1 1) 0 _)
            have hFo : ti_Fok (Value.ref (jh 1), u1.1, u1.2.1, u1.2.2.1, u1.2.2.2, xf.2.2.2.2.2.1, xf.2.2.2.2.2.2.1, xf.2.2.2.2.2.2.2.1, xf.2.2.2.2.2.2.2.2.1, xf.2.2.2.2.2.2.2.2.2) := ⟨hF2, hF3, hF4, hF5, hxf.2.2.2.2⟩
            have hP : va_P D vwCl (ti_wMJF E ad dh du dv jh ju jv kh ku kv tx hi xi (Value.ref (jh 1), u1.1, u1.2.1, u1.2.2.1, u1.2.2.2, xf.2.2.2.2.2.1, xf.2.2.2.2.2.2.1, xf.2.2.2.2.2.2.2.1, xf.2.2.2.2.2.2.2.2.1, xf.2.2.2.2.2.2.2.2.2)) H := ti_asP hP [.inl 0, .inl 1, .inl 2, .inl 3, .inl 4, .inr 6, .inr 7, .inr 8, .inr 0, .inr 1, .inr 2, .inr 3, .inr 4, .inr 5] rfl rfl rfl rfl
            have hD : va_D A (ti_wMJF E ad dh du dv jh ju jv kh ku kv tx hi xi (Value.ref (jh 1), u1.1, u1.2.1, u1.2.2.1, u1.2.2.2, xf.2.2.2.2.2.1, xf.2.2.2.2.2.2.1, xf.2.2.2.2.2.2.2.1, xf.2.2.2.2.2.2.2.2.1, xf.2.2.2.2.2.2.2.2.2)) := ti_asD hD [.inl 0, .inl 1, .inl 2, .inl 3, .inl 4, .inr 6, .inr 7, .inr 8, .inr 0, .inr 1, .inr 2, .inr 3, .inr 4, .inr 5] rfl rfl rfl rfl
            refine W.eq (g2 := F0 m 42 ls [.ref (ad 5)]) rfl ?_
            refine lv_iload_n hx hb dX0_jump_42 rfl (lv_at hl 2 rfl) ?_
            refine lv_iload_n hx hb dX0_jump_43 rfl (lv_at hl 3 rfl) ?_
            refine ti_mV (As := [.int (nI a9), .int (nI b9)]) (rest := []) S hE hP hD hS hA [8, 9, 10, 11, 12, 13] rfl (met_X2_jumps l D E (ad 5) (ad 6) (ad 7) (ad 8) (ad 9) (ad 10) (Value.ref (jh 1)) u1.1 u1.2.1 u1.2.2.1 u1.2.2.2 xf.2.2.2.2.2.1 xf.2.2.2.2.2.2.1 xf.2.2.2.2.2.2.2.1 xf.2.2.2.2.2.2.2.2.1 xf.2.2.2.2.2.2.2.2.2 hFo.1 hFo.2.1 hFo.2.2.1 hFo.2.2.2.1 a9 b9 ha9 hb99 hFo.2.2.2.2.1 hFo.2.2.2.2.2.1) rfl (fun _ => rfl) (lw_V q749 q611 q612 q68 q613) 2 rfl 8 rfl rfl (by decide +kernel) ⟨Nat.le_of_ble_eq_true rfl, Nat.le_of_ble_eq_true rfl⟩ hl.1 rfl (Nat.le_of_ble_eq_true rfl) ⟨Nat.le_of_ble_eq_true rfl, Nat.le_of_ble_eq_true rfl⟩ dX0_jump_44 (fun u3 H locs hu hP hD hS => ?_)
            have hu3 : u3 = ti_jf a9 b9 (ti_fr u1.1 u1.2.1 u1.2.2.1 0 u1.2.2.2) (xf.2.2.2.2.2.1, 0) := hu
            have hj0 := ti_jf_start a9 b9 (ti_fr u1.1 u1.2.1 u1.2.2.1 0 u1.2.2.2) xf.2.2.2.2.2.1
            rw [← hu3] at hj0
            have hjb := ti_jf_le a9 b9 ha9 hb99 (ti_fr u1.1 u1.2.1 u1.2.2.1 0 u1.2.2.2) (xf.2.2.2.2.2.1, 0) (ti_fr_le hFo.2.1 hFo.2.2.1 hFo.2.2.2.1 0 _) hFo.2.2.2.2.1 (Nat.zero_le _)
            rw [← hu3] at hjb
            have hFj : ti_Fok (Value.ref (jh 1), u1.1, u1.2.1, u1.2.2.1, u1.2.2.2, u3.1, u3.2, xf.2.2.2.2.2.2.2.1, xf.2.2.2.2.2.2.2.2.1, xf.2.2.2.2.2.2.2.2.2) := ⟨hFo.1, hFo.2.1, hFo.2.2.1, hFo.2.2.2.1, hjb.1, hjb.2, hFo.2.2.2.2.2.2⟩
            have hP : va_P D vwCl (ti_wMJF E ad dh du dv jh ju jv kh ku kv tx hi xi (Value.ref (jh 1), u1.1, u1.2.1, u1.2.2.1, u1.2.2.2, u3.1, u3.2, xf.2.2.2.2.2.2.2.1, xf.2.2.2.2.2.2.2.2.1, xf.2.2.2.2.2.2.2.2.2)) H := hP
            have hD : va_D A (ti_wMJF E ad dh du dv jh ju jv kh ku kv tx hi xi (Value.ref (jh 1), u1.1, u1.2.1, u1.2.2.1, u1.2.2.2, u3.1, u3.2, xf.2.2.2.2.2.2.2.1, xf.2.2.2.2.2.2.2.2.1, xf.2.2.2.2.2.2.2.2.2)) := hD
            refine W.eq (g2 := F0 m 47 ls [.int (ti_b (decide (u3.2 ≠ 0)))]) rfl ?_
            refine tb_eq (tgt := 74) hx hb dX0_jump_47 (by decide) (fun c47 => ?_) (fun c47 => ?_)
            · skip
              have hz0 : u3.2 = 0 := Classical.not_not.mp (of_decide_eq_false c47)
              refine lv_ldc2 (v := (-9223372036854775808)) hx hb hown (hts _ q748) dX0_jump_74 ?_
              have hv9 : ((-9223372036854775808)) = (fun _ => ti_Sjump I (nI 1) (nI a9) (nI b9) pt) ((Value.ref (jh 1), u1.1, u1.2.1, u1.2.2.1, u1.2.2.2, u3.1, u3.2, xf.2.2.2.2.2.2.2.1, xf.2.2.2.2.2.2.2.2.1, xf.2.2.2.2.2.2.2.2.2)) := by rw [ti_Sjump, if_neg (by rw [c4, hb9.1, hb9.2, show ti_bt pt = true from c22]; decide), hci, hca, hcb, if_neg (by rw [hlen]; exact hz39), ← show (ti_gr (xi.1 1) (xi.2.1 1) 0 (xi.2.2 1)) = I 1 from hg, ← hFF, if_pos (by rw [← hj0.1]; exact hz0)]; rfl
              refine W.eq (g2 := F0 m 77 ls [.long ((fun _ => ti_Sjump I (nI 1) (nI a9) (nI b9) pt) ((Value.ref (jh 1), u1.1, u1.2.1, u1.2.2.1, u1.2.2.2, u3.1, u3.2, xf.2.2.2.2.2.2.2.1, xf.2.2.2.2.2.2.2.2.1, xf.2.2.2.2.2.2.2.2.2)))]) (congrArg (fun z => F0 m 77 ls [.long z]) hv9) ?_
              exact hret _ ((Value.ref (jh 1), u1.1, u1.2.1, u1.2.2.1, u1.2.2.2, u3.1, u3.2, xf.2.2.2.2.2.2.2.1, xf.2.2.2.2.2.2.2.2.1, xf.2.2.2.2.2.2.2.2.2)) _ _ _ _ (hFj) hP trivial hS (Nat.le_of_ble_eq_true rfl) (Nat.le_of_ble_eq_true rfl) (fun hq hf9 => W.lret hx hb hr hq hf9 dX0_jump_77 hlk)
            · skip
              have hz0 : u3.2 ≠ 0 := of_decide_eq_true c47
              refine lv_aload_n hx hb dX0_jump_50 rfl (lv_at hl 0 rfl) ?_
              refine va_get (v := .ref (ad 5)) hx hb hts in_X0 hown hK hP 0 rfl rfl 2 (by decide) (hts _ q239) (fun _ h => h) rfl dX0_jump_51 ?_
              refine va_getN (v := .int (nI u3.1)) hx hb hts in_X2 hown hK hP 8 rfl rfl 5 (by decide) (hE.use q142 rfl rfl) (fun _ h => h) rfl dX0_jump_54 ?_
              refine lv_i2l (v := lN u3.1) hx hb dX0_jump_57 (nI_l (by omega)) ?_
              refine lv_aload_n hx hb dX0_jump_58 rfl (lv_at hl 0 rfl) ?_
              refine va_get (v := .ref (ad 5)) hx hb hts in_X0 hown hK hP 0 rfl rfl 2 (by decide) (hts _ q239) (fun _ h => h) rfl dX0_jump_59 ?_
              refine va_getN (v := .int (nI u3.2)) hx hb hts in_X2 hown hK hP 8 rfl rfl 6 (by decide) (hE.use q144 rfl rfl) (fun _ h => h) rfl dX0_jump_62 ?_
              refine lv_i2l (v := lN u3.2) hx hb dX0_jump_65 (nI_l (by omega)) ?_
              refine lv_iload hx hb dX0_jump_66 (lv_at hl 4 rfl) ?_
              refine ti_pS (As := [.long (lN u3.1), .long (lN u3.2), .int pt]) (rest := []) (v := .long (lN ((if pt = 0 then u3.1 else u3.2) / Nat.gcd u3.1 u3.2))) S hE hP [] (met_X0_lowest l D E u3.1 u3.2 (by omega) (by omega) (by omega) pt) rfl (lw_S q750 q751 q66 q752) 3 rfl (by decide +kernel) ⟨Nat.le_of_ble_eq_true rfl, Nat.le_of_ble_eq_true rfl⟩ hl.1 rfl (Nat.le_of_ble_eq_true rfl) ⟨Nat.le_of_ble_eq_true rfl, Nat.le_of_ble_eq_true rfl⟩ dX0_jump_68 ?_
              refine lv_goto (tgt := 77) hx hb dX0_jump_71 (by decide) ?_
              have hv9 : (lN ((if pt = 0 then u3.1 else u3.2) / Nat.gcd u3.1 u3.2)) = (fun _ => ti_Sjump I (nI 1) (nI a9) (nI b9) pt) ((Value.ref (jh 1), u1.1, u1.2.1, u1.2.2.1, u1.2.2.2, u3.1, u3.2, xf.2.2.2.2.2.2.2.1, xf.2.2.2.2.2.2.2.2.1, xf.2.2.2.2.2.2.2.2.2)) := by refine Eq.symm ?_; rw [ti_Sjump, if_neg (by rw [c4, hb9.1, hb9.2, show ti_bt pt = true from c22]; decide), hci, hca, hcb, if_neg (by rw [hlen]; exact hz39), ← show (ti_gr (xi.1 1) (xi.2.1 1) 0 (xi.2.2 1)) = I 1 from hg, ← hFF, if_neg (by rw [← hj0.1]; exact hz0), ← hj0.2 (by rw [← hj0.1]; exact hz0), ti_lowp]
              refine W.eq (g2 := F0 m 77 ls [.long ((fun _ => ti_Sjump I (nI 1) (nI a9) (nI b9) pt) ((Value.ref (jh 1), u1.1, u1.2.1, u1.2.2.1, u1.2.2.2, u3.1, u3.2, xf.2.2.2.2.2.2.2.1, xf.2.2.2.2.2.2.2.2.1, xf.2.2.2.2.2.2.2.2.2)))]) (congrArg (fun z => F0 m 77 ls [.long z]) hv9) ?_
              exact hret _ ((Value.ref (jh 1), u1.1, u1.2.1, u1.2.2.1, u1.2.2.2, u3.1, u3.2, xf.2.2.2.2.2.2.2.1, xf.2.2.2.2.2.2.2.2.1, xf.2.2.2.2.2.2.2.2.2)) _ _ _ _ (hFj) hP trivial hS (Nat.le_of_ble_eq_true rfl) (Nat.le_of_ble_eq_true rfl) (fun hq hf9 => W.lret hx hb hr hq hf9 dX0_jump_77 hlk)
      · skip
        refine lv_ldc2 (v := (-9223372036854775808)) hx hb hown (hts _ q748) dX0_jump_25 ?_
        have hv9 : ((-9223372036854775808)) = (fun _ => ti_Sjump I (nI i) (nI a9) (nI b9) pt) xf := by rw [ti_Sjump, if_pos (by rw [show ti_bt pt = false from c22]; simp)]; rfl
        refine W.eq (g2 := F0 m 28 ls [.long ((fun _ => ti_Sjump I (nI i) (nI a9) (nI b9) pt) xf)]) (congrArg (fun z => F0 m 28 ls [.long z]) hv9) ?_
        exact hret _ xf _ _ _ _ (hxf) hP trivial hS (Nat.le_of_ble_eq_true rfl) (Nat.le_of_ble_eq_true rfl) (fun hq hf9 => W.lret hx hb hr hq hf9 dX0_jump_28 hlk)

set_option maxHeartbeats 2000000 in
theorem met_X0_jumps (l : Launch) (D : va_G) (E : Nat → ClassId) (htr : l.stackTraces = false) (z0 : Nat) (ad dh du dv jh ju jv kh ku kv : Nat → Nat) (tx : Nat) (hi : Bool) (xi : ti_Ti) (xf : ti_Tf) (hxi : ti_Jok xi) (I : Nat → ti_GL) (hJ : ti_JI xi I) (hxf : ti_Fok xf) (hnd : ∀ i, i < 2 → (I i).Nodup) (v j pt : Int32) : ti_MetX (σ := ti_Tf) (τ := Unit) l D E yX0_jumps (wsW_ yX0_jumps cX0_jumps 5 (some .long) [(20, 80, 81, 150)]) 7 1 6 z0 (ti_wMJF E ad dh du dv jh ju jv kh ku kv tx hi xi xf) [.ref (ad 0), .int v, .int j, .int pt] (fun _ => True) (fun u => ti_wMJF E ad dh du dv jh ju jv kh ku kv tx hi xi u) (fun u => some (.long ((fun _ => ti_Sjumps I v j pt) u))) (fun u => ti_Fok u) (fun _ _ => True) (fun w => RX14) (fun w => 0) (fun w => ti_wMJF E ad dh du dv jh ju jv kh ku kv tx hi xi xf) (fun w => []) (fun w => False) (fun w H => True) := by
  refine ti_metXH (by decide) (Nat.le_of_ble_eq_true rfl) ?_
  intro p e s m below meth c H A Q ls S hE hP hD hS hA hZ hAz hx0 htab hl hret hq
  obtain ⟨hQ, hr, hlk, hinit⟩ := hq
  have hsz0 := hS.1
  have hx := S.1
  have hb := S.2.1
  have hown := S.2.2.2.1
  have hts := S.2.2.2.2
  have hK := hE.1
  have hl : lv_has ls 5 [(0, .ref (ad 0)), (1, .int v), (2, .int j), (3, .int pt)] := hl
  refine lv_iload_n hx hb dX0_jumps_0 rfl (lv_at hl 1 rfl) ?_
  refine ti_pS (As := [.int v]) (rest := []) (v := .int (ti_b (ti_bt v))) S hE hP [] (met_X0_isIdeal l D E v) rfl (lw_S q299 q300 q66 q301) 1 rfl (by decide +kernel) ⟨Nat.le_of_ble_eq_true rfl, Nat.le_of_ble_eq_true rfl⟩ hl.1 rfl (Nat.le_of_ble_eq_true rfl) ⟨Nat.le_of_ble_eq_true rfl, Nat.le_of_ble_eq_true rfl⟩ dX0_jumps_1 ?_
  refine tb_eq (tgt := 16) hx hb dX0_jumps_4 (by decide) (fun c4 => ?_) (fun c4 => ?_)
  · skip
    refine lv_ldc2 (v := (-9223372036854775808)) hx hb hown (hts _ q748) dX0_jumps_16 ?_
    have hv9 : ((-9223372036854775808)) = (fun _ => ti_Sjumps I v j pt) xf := by rw [ti_Sjumps, if_pos (by rw [c4]; rfl)]; rfl
    refine W.eq (g2 := F0 m 19 ls [.long ((fun _ => ti_Sjumps I v j pt) xf)]) (congrArg (fun z => F0 m 19 ls [.long z]) hv9) ?_
    exact hret _ xf _ _ _ _ (hxf) hP trivial hS (Nat.le_of_ble_eq_true rfl) (Nat.le_of_ble_eq_true rfl) (fun hq hf9 => W.lret hx hb hr hq hf9 dX0_jumps_19 hlk)
  · skip
    obtain ⟨i, hi2, rfl⟩ := ti_bt_nat c4
    refine lv_iload_n hx hb dX0_jumps_7 rfl (lv_at hl 3 rfl) ?_
    refine lv_iconst (v := nI 0) hx hb dX0_jumps_8 (by decide) ?_
    refine lv_iconst (v := nI 1) hx hb dX0_jumps_9 (by decide) ?_
    refine ti_pS (As := [.int pt, .int (nI 0), .int (nI 1)]) (rest := []) (v := .int (ti_b (ti_in pt (nI 0) (nI 1)))) S hE hP [] (met_X0_in l D E pt (nI 0) (nI 1)) rfl (lw_S q302 q303 q66 q304) 3 rfl (by decide +kernel) ⟨Nat.le_of_ble_eq_true rfl, Nat.le_of_ble_eq_true rfl⟩ hl.1 rfl (Nat.le_of_ble_eq_true rfl) ⟨Nat.le_of_ble_eq_true rfl, Nat.le_of_ble_eq_true rfl⟩ dX0_jumps_10 ?_
    refine tb_ne (tgt := 20) hx hb dX0_jumps_13 (by decide) (fun c13 => ?_) (fun c13 => ?_)
    · skip
      rcases (show i = 0 ∨ i = 1 by omega) with rfl | rfl
      · skip
        have hg := hJ 0 (by decide)
        have hlen := ti_JI_len hJ (show 0 < 2 by decide)
        have h6 := hxi.2.2 0
        have hci : ti_cl (nI 0) = 0 := ti_cl_nI (by decide)
        refine lv_aload_n hx hb dX0_jumps_20 rfl (lv_at hl 0 rfl) ?_
        refine va_get (v := .ref (ad 5)) hx hb hts in_X0 hown hK hP 0 rfl rfl 2 (by decide) (hts _ q239) (fun _ h => h) rfl dX0_jumps_21 ?_
        refine lv_aload_n hx hb dX0_jumps_24 rfl (lv_at hl 0 rfl) ?_
        refine va_get (v := .ref (ad 1)) hx hb hts in_X0 hown hK hP 0 rfl rfl 0 (by decide) (hts _ q237) (fun _ h => h) rfl dX0_jumps_25 ?_
        refine lv_iload_n hx hb dX0_jumps_28 rfl (lv_at hl 1 rfl) ?_
        refine tn_aald hx hb hK hP 1 5 rfl rfl (by omega) (by decide) dX0_jumps_29 ?_
        by_cases hz30 : xi.2.2 0 = 0
        · skip
          refine ti_callX (ty_runV (As := [.ref (jh 0)]) (rest := []) S (met_X2_looks_z l D E htr z0 (ad 5) (ad 6) (ad 7) (ad 8) (ad 9) (ad 10) xf.1 xf.2.1 xf.2.2.1 xf.2.2.2.1 xf.2.2.2.2.1 xf.2.2.2.2.2.1 xf.2.2.2.2.2.2.1 xf.2.2.2.2.2.2.2.1 xf.2.2.2.2.2.2.2.2.1 xf.2.2.2.2.2.2.2.2.2 (jh 0) (ju 0) (jv 0) (xi.1 0) (xi.2.1 0) (xi.2.2 0) hz30 H.size) (cwV 1 S.2.2.2.2 (lw_V q357 q358 q359 q68 q360) rfl rfl rfl (by decide +kernel) ⟨Nat.le_of_ble_eq_true rfl, Nat.le_of_ble_eq_true rfl⟩) (ti_preXV (xp := fun _ => True) hE hP hD hS rfl hZ hAz trivial [8, 9, 10, 11, 12, 13, 2, 3, 4] rfl rfl 8 rfl rfl) rfl rfl hl.1 rfl (lv_room (Nat.le_of_ble_eq_true rfl)) dX0_jumps_30 ⟨Nat.le_of_ble_eq_true rfl, Nat.le_of_ble_eq_true rfl⟩) hP hD hS hA [8, 9, 10, 11, 12, 13, 2, 3, 4] rfl (fun _ => rfl) (fun _ => rfl) (fun _ _ _ h9 => absurd h9 id) (fun we H locs ce hpx hxx hFr hP hD hPe hnew hS hce hcv hcl => ?_)
          have hP : va_P D vwCl (ti_wMJF E ad dh du dv jh ju jv kh ku kv tx hi xi xf) H := ti_asP hP [.inl 0, .inl 1, .inr 6, .inr 7, .inr 8, .inl 5, .inl 6, .inl 7, .inr 0, .inr 1, .inr 2, .inr 3, .inr 4, .inr 5] rfl rfl rfl rfl
          have hD : va_D A (ti_wMJF E ad dh du dv jh ju jv kh ku kv tx hi xi xf) := ti_asD hD [.inl 0, .inl 1, .inr 6, .inr 7, .inr 8, .inl 5, .inl 6, .inl 7, .inr 0, .inr 1, .inr 2, .inr 3, .inr 4, .inr 5] rfl rfl rfl rfl
          refine vx_catch hown [] ⟨20, 80, 81, 150⟩ [] htab (fun z hz => absurd hz List.not_mem_nil) rfl (by decide) (hts _ q356) (hE.use q363 rfl rfl) hce hcv hcl ?_
          refine lv_astore (lv' := [(4, .ref we.1), (0, .ref (ad 0)), (1, .int (nI 0)), (2, .int j), (3, .int pt)]) hx hb dX0_jumps_81 hl (by decide) rfl (fun ls hl => ?_)
          refine lv_ldc2 (v := (-9223372036854775808)) hx hb hown (hts _ q748) dX0_jumps_83 ?_
          have hv9 : ((-9223372036854775808)) = (fun _ => ti_Sjumps I (nI 0) j pt) xf := by rw [ti_Sjumps, if_neg (by rw [c4, show ti_bt pt = true from c13]; decide), hci, if_pos (by rw [hlen]; exact hz30)]; rfl
          refine W.eq (g2 := F0 m 86 ls [.long ((fun _ => ti_Sjumps I (nI 0) j pt) xf)]) (congrArg (fun z => F0 m 86 ls [.long z]) hv9) ?_
          exact hret _ xf _ _ _ _ (hxf) hP trivial hS (Nat.le_of_ble_eq_true rfl) (Nat.le_of_ble_eq_true rfl) (fun hq hf9 => W.lret hx hb hr hq hf9 dX0_jumps_86 hlk)
        · skip
          have hz1 : 0 < xi.2.2 0 := Nat.pos_of_ne_zero hz30
          have hnd9 : (ti_gr (xi.1 0) (xi.2.1 0) 0 (xi.2.2 0)).Nodup := by have h9 := hnd 0 (by decide); rw [← hJ 0 (by decide)] at h9; exact h9
          have hN9 : ti_r2 (ti_gr (xi.1 0) (xi.2.1 0) 0 (xi.2.2 0)) 9999 (List.range' 1 9) ≤ 6 := Nat.le_trans (ti_r2_le hnd9 9999) (by rw [ti_gr_len]; exact (hxi.2.2 0))
          refine ti_mV (As := [.ref (jh 0)]) (rest := []) S hE hP hD hS hA [8, 9, 10, 11, 12, 13, 2, 3, 4] rfl (met_X2_looks l D E (ad 5) (ad 6) (ad 7) (ad 8) (ad 9) (ad 10) xf.1 xf.2.1 xf.2.2.1 xf.2.2.2.1 xf.2.2.2.2.1 xf.2.2.2.2.2.1 xf.2.2.2.2.2.2.1 xf.2.2.2.2.2.2.2.1 xf.2.2.2.2.2.2.2.2.1 xf.2.2.2.2.2.2.2.2.2 (jh 0) (ju 0) (jv 0) (xi.1 0) (xi.2.1 0) (xi.2.2 0) (hxi.2.2 0) (hxi.1 0) (hxi.2.1 0) hxf.1 hxf.2.1 hxf.2.2.1 hxf.2.2.2.1 hz1 hN9) rfl (fun _ => rfl) (lw_V q357 q358 q359 q68 q360) 1 rfl 8 rfl rfl (by decide +kernel) ⟨Nat.le_of_ble_eq_true rfl, Nat.le_of_ble_eq_true rfl⟩ hl.1 rfl (Nat.le_of_ble_eq_true rfl) ⟨Nat.le_of_ble_eq_true rfl, Nat.le_of_ble_eq_true rfl⟩ dX0_jumps_30 (fun u1 H locs hu hP hD hS => ?_)
          obtain ⟨hF1, hF2, hF3, hF4, hF5⟩ := hu
          have hFF : ti_fr u1.1 u1.2.1 u1.2.2.1 0 u1.2.2.2 = ti_FF (ti_gr (xi.1 0) (xi.2.1 0) 0 (xi.2.2 0)) := by rw [hF1]; exact ti_fxm (by rw [ti_gr_len]; exact hz1) (ti_gr_9 (hxi.1 0) (hxi.2.1 0) 0 _)
          have hFo : ti_Fok (Value.ref (jh 0), u1.1, u1.2.1, u1.2.2.1, u1.2.2.2, xf.2.2.2.2.2.1, xf.2.2.2.2.2.2.1, xf.2.2.2.2.2.2.2.1, xf.2.2.2.2.2.2.2.2.1, xf.2.2.2.2.2.2.2.2.2) := ⟨hF2, hF3, hF4, hF5, hxf.2.2.2.2⟩
          have hP : va_P D vwCl (ti_wMJF E ad dh du dv jh ju jv kh ku kv tx hi xi (Value.ref (jh 0), u1.1, u1.2.1, u1.2.2.1, u1.2.2.2, xf.2.2.2.2.2.1, xf.2.2.2.2.2.2.1, xf.2.2.2.2.2.2.2.1, xf.2.2.2.2.2.2.2.2.1, xf.2.2.2.2.2.2.2.2.2)) H := ti_asP hP [.inl 0, .inl 1, .inr 6, .inr 7, .inr 8, .inl 5, .inl 6, .inl 7, .inr 0, .inr 1, .inr 2, .inr 3, .inr 4, .inr 5] rfl rfl rfl rfl
          have hD : va_D A (ti_wMJF E ad dh du dv jh ju jv kh ku kv tx hi xi (Value.ref (jh 0), u1.1, u1.2.1, u1.2.2.1, u1.2.2.2, xf.2.2.2.2.2.1, xf.2.2.2.2.2.2.1, xf.2.2.2.2.2.2.2.1, xf.2.2.2.2.2.2.2.2.1, xf.2.2.2.2.2.2.2.2.2)) := ti_asD hD [.inl 0, .inl 1, .inr 6, .inr 7, .inr 8, .inl 5, .inl 6, .inl 7, .inr 0, .inr 1, .inr 2, .inr 3, .inr 4, .inr 5] rfl rfl rfl rfl
          refine W.eq (g2 := F0 m 33 ls [.ref (ad 5)]) rfl ?_
          refine ti_mV (As := []) (rest := []) S hE hP hD hS hA [8, 9, 10, 11, 12, 13] rfl (met_X2_lists l D E (ad 5) (ad 6) (ad 7) (ad 8) (ad 9) (ad 10) (Value.ref (jh 0)) u1.1 u1.2.1 u1.2.2.1 u1.2.2.2 xf.2.2.2.2.2.1 xf.2.2.2.2.2.2.1 xf.2.2.2.2.2.2.2.1 xf.2.2.2.2.2.2.2.2.1 xf.2.2.2.2.2.2.2.2.2 hFo.1 hFo.2.1 hFo.2.2.1 hFo.2.2.2.1 hFo.2.2.2.2.1 hFo.2.2.2.2.2.1 hFo.2.2.2.2.2.2.1 hFo.2.2.2.2.2.2.2) rfl (fun _ => rfl) (lw_V q606 q607 q608 q68 q609) 0 rfl 8 rfl rfl (by decide +kernel) ⟨Nat.le_of_ble_eq_true rfl, Nat.le_of_ble_eq_true rfl⟩ hl.1 rfl (Nat.le_of_ble_eq_true rfl) ⟨Nat.le_of_ble_eq_true rfl, Nat.le_of_ble_eq_true rfl⟩ dX0_jumps_33 (fun u2 H locs hu hP hD hS => ?_)
          obtain ⟨hL1, hL2, hL3, hL4, hL5, hL6⟩ := hu
          have hFl : ti_Fok (Value.ref (jh 0), u1.1, u1.2.1, u1.2.2.1, u1.2.2.2, u2.1, u2.2.1, u2.2.2.1, u2.2.2.2.1, u2.2.2.2.2) := ⟨hFo.1, hFo.2.1, hFo.2.2.1, hFo.2.2.2.1, hL3, hL4, hL5, hL6⟩
          obtain ⟨hR1, hR2⟩ := ti_jr hL1
          have hP : va_P D vwCl (ti_wMJF E ad dh du dv jh ju jv kh ku kv tx hi xi (Value.ref (jh 0), u1.1, u1.2.1, u1.2.2.1, u1.2.2.2, u2.1, u2.2.1, u2.2.2.1, u2.2.2.2.1, u2.2.2.2.2)) H := hP
          have hD : va_D A (ti_wMJF E ad dh du dv jh ju jv kh ku kv tx hi xi (Value.ref (jh 0), u1.1, u1.2.1, u1.2.2.1, u1.2.2.2, u2.1, u2.2.1, u2.2.2.1, u2.2.2.2.1, u2.2.2.2.2)) := hD
          refine W.eq (g2 := F0 m 36 ls [.int (nI u2.2.2.2.2)]) rfl ?_
          refine lv_istore (lv' := [(4, .int (nI u2.2.2.2.2)), (0, .ref (ad 0)), (1, .int (nI 0)), (2, .int j), (3, .int pt)]) hx hb dX0_jumps_36 hl (by decide) rfl (fun ls hl => ?_)
          refine lv_iload_n hx hb dX0_jumps_38 rfl (lv_at hl 3 rfl) ?_
          refine lv_iconst (v := nI 0) hx hb dX0_jumps_39 (by decide) ?_
          refine lv_iload hx hb dX0_jumps_40 (lv_at hl 0 rfl) ?_
          refine lv_iconst (v := nI 1) hx hb dX0_jumps_42 (by decide) ?_
          refine lv_isub hx hb dX0_jumps_43 ?_
          refine ti_pS (As := [.int j, .int (nI 0), .int ((nI u2.2.2.2.2) - (nI 1))]) (rest := []) (v := .int (ti_b (ti_in j (nI 0) (((nI u2.2.2.2.2) - (nI 1)))))) S hE hP [] (met_X0_in l D E j (nI 0) (((nI u2.2.2.2.2) - (nI 1)))) rfl (lw_S q302 q303 q66 q304) 3 rfl (by decide +kernel) ⟨Nat.le_of_ble_eq_true rfl, Nat.le_of_ble_eq_true rfl⟩ hl.1 rfl (Nat.le_of_ble_eq_true rfl) ⟨Nat.le_of_ble_eq_true rfl, Nat.le_of_ble_eq_true rfl⟩ dX0_jumps_44 ?_
          refine tb_eq (tgt := 77) hx hb dX0_jumps_47 (by decide) (fun c47 => ?_) (fun c47 => ?_)
          · skip
            have hc47 : ti_lt j (ti_ml (ti_FF (I 0)) (List.range' 0 100) []).length = false := by rw [← show (ti_gr (xi.1 0) (xi.2.1 0) 0 (xi.2.2 0)) = I 0 from hg, ← hFF, hR1, ← ti_in_lt (by omega)]; exact c47
            refine lv_ldc2 (v := (-9223372036854775808)) hx hb hown (hts _ q748) dX0_jumps_77 ?_
            have hv9 : ((-9223372036854775808)) = (fun _ => ti_Sjumps I (nI 0) j pt) ((Value.ref (jh 0), u1.1, u1.2.1, u1.2.2.1, u1.2.2.2, u2.1, u2.2.1, u2.2.2.1, u2.2.2.2.1, u2.2.2.2.2)) := by rw [ti_Sjumps, if_neg (by rw [c4, show ti_bt pt = true from c13]; decide), hci, if_neg (by rw [hlen]; exact hz30), if_pos hc47]; rfl
            refine W.eq (g2 := F0 m 80 ls [.long ((fun _ => ti_Sjumps I (nI 0) j pt) ((Value.ref (jh 0), u1.1, u1.2.1, u1.2.2.1, u1.2.2.2, u2.1, u2.2.1, u2.2.2.1, u2.2.2.2.1, u2.2.2.2.2)))]) (congrArg (fun z => F0 m 80 ls [.long z]) hv9) ?_
            exact hret _ ((Value.ref (jh 0), u1.1, u1.2.1, u1.2.2.1, u1.2.2.2, u2.1, u2.2.1, u2.2.2.1, u2.2.2.2.1, u2.2.2.2.2)) _ _ _ _ (hFl) hP trivial hS (Nat.le_of_ble_eq_true rfl) (Nat.le_of_ble_eq_true rfl) (fun hq hf9 => W.lret hx hb hr hq hf9 dX0_jumps_80 hlk)
          · skip
            rw [ti_in_lt (by omega)] at c47
            have hc47 : ti_lt j (ti_ml (ti_FF (I 0)) (List.range' 0 100) []).length = true := by rw [← show (ti_gr (xi.1 0) (xi.2.1 0) 0 (xi.2.2 0)) = I 0 from hg, ← hFF, hR1]; exact c47
            obtain ⟨j9, hj9, rfl⟩ := ti_lt_nat c47
            have hcj : ti_cl (nI j9) = j9 := ti_cl_nI (by omega)
            have hjd := hR2 j9 hj9
            have hu9 := hL5 j9
            have hl9 := hL6 j9
            refine lv_aload_n hx hb dX0_jumps_50 rfl (lv_at hl 1 rfl) ?_
            refine va_get (v := .ref (ad 5)) hx hb hts in_X0 hown hK hP 0 rfl rfl 2 (by decide) (hts _ q239) (fun _ h => h) rfl dX0_jumps_51 ?_
            refine va_getN (v := .ref (ad 9)) hx hb hts in_X2 hown hK hP 8 rfl rfl 7 (by decide) (hE.use q146 rfl rfl) (fun _ h => h) rfl dX0_jumps_54 ?_
            refine lv_iload_n hx hb dX0_jumps_57 rfl (lv_at hl 3 rfl) ?_
            refine tn_iald (f := u2.2.2.1) hx hb hK hP 12 0 rfl rfl (by omega) (by decide) dX0_jumps_58 ?_
            have b58 := hFl.2.2.2.2.2.2.1 j9
            refine lv_i2l (v := lN (u2.2.2.1 j9)) hx hb dX0_jumps_59 (nI_l (by omega)) ?_
            refine lv_aload_n hx hb dX0_jumps_60 rfl (lv_at hl 1 rfl) ?_
            refine va_get (v := .ref (ad 5)) hx hb hts in_X0 hown hK hP 0 rfl rfl 2 (by decide) (hts _ q239) (fun _ h => h) rfl dX0_jumps_61 ?_
            refine va_getN (v := .ref (ad 10)) hx hb hts in_X2 hown hK hP 8 rfl rfl 8 (by decide) (hE.use q148 rfl rfl) (fun _ h => h) rfl dX0_jumps_64 ?_
            refine lv_iload_n hx hb dX0_jumps_67 rfl (lv_at hl 3 rfl) ?_
            refine tn_iald (f := u2.2.2.2.1) hx hb hK hP 13 0 rfl rfl (by omega) (by decide) dX0_jumps_68 ?_
            have b68 := hFl.2.2.2.2.2.2.2 j9
            refine lv_i2l (v := lN (u2.2.2.2.1 j9)) hx hb dX0_jumps_69 (nI_l (by omega)) ?_
            refine lv_iload_n hx hb dX0_jumps_70 rfl (lv_at hl 4 rfl) ?_
            refine ti_pS (As := [.long (lN (u2.2.2.1 j9)), .long (lN (u2.2.2.2.1 j9)), .int pt]) (rest := []) (v := .long (lN ((if pt = 0 then u2.2.2.1 j9 else u2.2.2.2.1 j9) / Nat.gcd (u2.2.2.1 j9) (u2.2.2.2.1 j9)))) S hE hP [] (met_X0_lowest l D E (u2.2.2.1 j9) (u2.2.2.2.1 j9) (by omega) (by omega) hjd.2 pt) rfl (lw_S q750 q751 q66 q752) 3 rfl (by decide +kernel) ⟨Nat.le_of_ble_eq_true rfl, Nat.le_of_ble_eq_true rfl⟩ hl.1 rfl (Nat.le_of_ble_eq_true rfl) ⟨Nat.le_of_ble_eq_true rfl, Nat.le_of_ble_eq_true rfl⟩ dX0_jumps_71 ?_
            refine lv_goto (tgt := 80) hx hb dX0_jumps_74 (by decide) ?_
            have hv9 : (lN ((if pt = 0 then u2.2.2.1 j9 else u2.2.2.2.1 j9) / Nat.gcd (u2.2.2.1 j9) (u2.2.2.2.1 j9))) = (fun _ => ti_Sjumps I (nI 0) (nI j9) pt) ((Value.ref (jh 0), u1.1, u1.2.1, u1.2.2.1, u1.2.2.2, u2.1, u2.2.1, u2.2.2.1, u2.2.2.2.1, u2.2.2.2.2)) := by refine Eq.symm ?_; rw [ti_Sjumps, if_neg (by rw [c4, show ti_bt pt = true from c13]; decide), hci, if_neg (by rw [hlen]; exact hz30), if_neg (by rw [hc47]; decide), hcj, ← show (ti_gr (xi.1 0) (xi.2.1 0) 0 (xi.2.2 0)) = I 0 from hg, ← hFF, hjd.1, ti_lowp]
            refine W.eq (g2 := F0 m 80 ls [.long ((fun _ => ti_Sjumps I (nI 0) (nI j9) pt) ((Value.ref (jh 0), u1.1, u1.2.1, u1.2.2.1, u1.2.2.2, u2.1, u2.2.1, u2.2.2.1, u2.2.2.2.1, u2.2.2.2.2)))]) (congrArg (fun z => F0 m 80 ls [.long z]) hv9) ?_
            exact hret _ ((Value.ref (jh 0), u1.1, u1.2.1, u1.2.2.1, u1.2.2.2, u2.1, u2.2.1, u2.2.2.1, u2.2.2.2.1, u2.2.2.2.2)) _ _ _ _ (hFl) hP trivial hS (Nat.le_of_ble_eq_true rfl) (Nat.le_of_ble_eq_true rfl) (fun hq hf9 => W.lret hx hb hr hq hf9 dX0_jumps_80 hlk)
      · skip
        have hg := hJ 1 (by decide)
        have hlen := ti_JI_len hJ (show 1 < 2 by decide)
        have h6 := hxi.2.2 1
        have hci : ti_cl (nI 1) = 1 := ti_cl_nI (by decide)
        refine lv_aload_n hx hb dX0_jumps_20 rfl (lv_at hl 0 rfl) ?_
        refine va_get (v := .ref (ad 5)) hx hb hts in_X0 hown hK hP 0 rfl rfl 2 (by decide) (hts _ q239) (fun _ h => h) rfl dX0_jumps_21 ?_
        refine lv_aload_n hx hb dX0_jumps_24 rfl (lv_at hl 0 rfl) ?_
        refine va_get (v := .ref (ad 1)) hx hb hts in_X0 hown hK hP 0 rfl rfl 0 (by decide) (hts _ q237) (fun _ h => h) rfl dX0_jumps_25 ?_
        refine lv_iload_n hx hb dX0_jumps_28 rfl (lv_at hl 1 rfl) ?_
        refine tn_aald hx hb hK hP 1 5 rfl rfl (by omega) (by decide) dX0_jumps_29 ?_
        by_cases hz30 : xi.2.2 1 = 0
        · skip
          refine ti_callX (ty_runV (As := [.ref (jh 1)]) (rest := []) S (met_X2_looks_z l D E htr z0 (ad 5) (ad 6) (ad 7) (ad 8) (ad 9) (ad 10) xf.1 xf.2.1 xf.2.2.1 xf.2.2.2.1 xf.2.2.2.2.1 xf.2.2.2.2.2.1 xf.2.2.2.2.2.2.1 xf.2.2.2.2.2.2.2.1 xf.2.2.2.2.2.2.2.2.1 xf.2.2.2.2.2.2.2.2.2 (jh 1) (ju 1) (jv 1) (xi.1 1) (xi.2.1 1) (xi.2.2 1) hz30 H.size) (cwV 1 S.2.2.2.2 (lw_V q357 q358 q359 q68 q360) rfl rfl rfl (by decide +kernel) ⟨Nat.le_of_ble_eq_true rfl, Nat.le_of_ble_eq_true rfl⟩) (ti_preXV (xp := fun _ => True) hE hP hD hS rfl hZ hAz trivial [8, 9, 10, 11, 12, 13, 5, 6, 7] rfl rfl 8 rfl rfl) rfl rfl hl.1 rfl (lv_room (Nat.le_of_ble_eq_true rfl)) dX0_jumps_30 ⟨Nat.le_of_ble_eq_true rfl, Nat.le_of_ble_eq_true rfl⟩) hP hD hS hA [8, 9, 10, 11, 12, 13, 5, 6, 7] rfl (fun _ => rfl) (fun _ => rfl) (fun _ _ _ h9 => absurd h9 id) (fun we H locs ce hpx hxx hFr hP hD hPe hnew hS hce hcv hcl => ?_)
          have hP : va_P D vwCl (ti_wMJF E ad dh du dv jh ju jv kh ku kv tx hi xi xf) H := ti_asP hP [.inl 0, .inl 1, .inl 2, .inl 3, .inl 4, .inr 6, .inr 7, .inr 8, .inr 0, .inr 1, .inr 2, .inr 3, .inr 4, .inr 5] rfl rfl rfl rfl
          have hD : va_D A (ti_wMJF E ad dh du dv jh ju jv kh ku kv tx hi xi xf) := ti_asD hD [.inl 0, .inl 1, .inl 2, .inl 3, .inl 4, .inr 6, .inr 7, .inr 8, .inr 0, .inr 1, .inr 2, .inr 3, .inr 4, .inr 5] rfl rfl rfl rfl
          refine vx_catch hown [] ⟨20, 80, 81, 150⟩ [] htab (fun z hz => absurd hz List.not_mem_nil) rfl (by decide) (hts _ q356) (hE.use q363 rfl rfl) hce hcv hcl ?_
          refine lv_astore (lv' := [(4, .ref we.1), (0, .ref (ad 0)), (1, .int (nI 1)), (2, .int j), (3, .int pt)]) hx hb dX0_jumps_81 hl (by decide) rfl (fun ls hl => ?_)
          refine lv_ldc2 (v := (-9223372036854775808)) hx hb hown (hts _ q748) dX0_jumps_83 ?_
          have hv9 : ((-9223372036854775808)) = (fun _ => ti_Sjumps I (nI 1) j pt) xf := by rw [ti_Sjumps, if_neg (by rw [c4, show ti_bt pt = true from c13]; decide), hci, if_pos (by rw [hlen]; exact hz30)]; rfl
          refine W.eq (g2 := F0 m 86 ls [.long ((fun _ => ti_Sjumps I (nI 1) j pt) xf)]) (congrArg (fun z => F0 m 86 ls [.long z]) hv9) ?_
          exact hret _ xf _ _ _ _ (hxf) hP trivial hS (Nat.le_of_ble_eq_true rfl) (Nat.le_of_ble_eq_true rfl) (fun hq hf9 => W.lret hx hb hr hq hf9 dX0_jumps_86 hlk)
        · skip
          have hz1 : 0 < xi.2.2 1 := Nat.pos_of_ne_zero hz30
          have hnd9 : (ti_gr (xi.1 1) (xi.2.1 1) 0 (xi.2.2 1)).Nodup := by have h9 := hnd 1 (by decide); rw [← hJ 1 (by decide)] at h9; exact h9
          have hN9 : ti_r2 (ti_gr (xi.1 1) (xi.2.1 1) 0 (xi.2.2 1)) 9999 (List.range' 1 9) ≤ 6 := Nat.le_trans (ti_r2_le hnd9 9999) (by rw [ti_gr_len]; exact (hxi.2.2 1))
          refine ti_mV (As := [.ref (jh 1)]) (rest := []) S hE hP hD hS hA [8, 9, 10, 11, 12, 13, 5, 6, 7] rfl (met_X2_looks l D E (ad 5) (ad 6) (ad 7) (ad 8) (ad 9) (ad 10) xf.1 xf.2.1 xf.2.2.1 xf.2.2.2.1 xf.2.2.2.2.1 xf.2.2.2.2.2.1 xf.2.2.2.2.2.2.1 xf.2.2.2.2.2.2.2.1 xf.2.2.2.2.2.2.2.2.1 xf.2.2.2.2.2.2.2.2.2 (jh 1) (ju 1) (jv 1) (xi.1 1) (xi.2.1 1) (xi.2.2 1) (hxi.2.2 1) (hxi.1 1) (hxi.2.1 1) hxf.1 hxf.2.1 hxf.2.2.1 hxf.2.2.2.1 hz1 hN9) rfl (fun _ => rfl) (lw_V q357 q358 q359 q68 q360) 1 rfl 8 rfl rfl (by decide +kernel) ⟨Nat.le_of_ble_eq_true rfl, Nat.le_of_ble_eq_true rfl⟩ hl.1 rfl (Nat.le_of_ble_eq_true rfl) ⟨Nat.le_of_ble_eq_true rfl, Nat.le_of_ble_eq_true rfl⟩ dX0_jumps_30 (fun u1 H locs hu hP hD hS => ?_)
          obtain ⟨hF1, hF2, hF3, hF4, hF5⟩ := hu
          have hFF : ti_fr u1.1 u1.2.1 u1.2.2.1 0 u1.2.2.2 = ti_FF (ti_gr (xi.1 1) (xi.2.1 1) 0 (xi.2.2 1)) := by rw [hF1]; exact ti_fxm (by rw [ti_gr_len]; exact hz1) (ti_gr_9 (hxi.1 1) (hxi.2.1 1) 0 _)
          have hFo : ti_Fok (Value.ref (jh 1), u1.1, u1.2.1, u1.2.2.1, u1.2.2.2, xf.2.2.2.2.2.1, xf.2.2.2.2.2.2.1, xf.2.2.2.2.2.2.2.1, xf.2.2.2.2.2.2.2.2.1, xf.2.2.2.2.2.2.2.2.2) := ⟨hF2, hF3, hF4, hF5, hxf.2.2.2.2⟩
          have hP : va_P D vwCl (ti_wMJF E ad dh du dv jh ju jv kh ku kv tx hi xi (Value.ref (jh 1), u1.1, u1.2.1, u1.2.2.1, u1.2.2.2, xf.2.2.2.2.2.1, xf.2.2.2.2.2.2.1, xf.2.2.2.2.2.2.2.1, xf.2.2.2.2.2.2.2.2.1, xf.2.2.2.2.2.2.2.2.2)) H := ti_asP hP [.inl 0, .inl 1, .inl 2, .inl 3, .inl 4, .inr 6, .inr 7, .inr 8, .inr 0, .inr 1, .inr 2, .inr 3, .inr 4, .inr 5] rfl rfl rfl rfl
          have hD : va_D A (ti_wMJF E ad dh du dv jh ju jv kh ku kv tx hi xi (Value.ref (jh 1), u1.1, u1.2.1, u1.2.2.1, u1.2.2.2, xf.2.2.2.2.2.1, xf.2.2.2.2.2.2.1, xf.2.2.2.2.2.2.2.1, xf.2.2.2.2.2.2.2.2.1, xf.2.2.2.2.2.2.2.2.2)) := ti_asD hD [.inl 0, .inl 1, .inl 2, .inl 3, .inl 4, .inr 6, .inr 7, .inr 8, .inr 0, .inr 1, .inr 2, .inr 3, .inr 4, .inr 5] rfl rfl rfl rfl
          refine W.eq (g2 := F0 m 33 ls [.ref (ad 5)]) rfl ?_
          refine ti_mV (As := []) (rest := []) S hE hP hD hS hA [8, 9, 10, 11, 12, 13] rfl (met_X2_lists l D E (ad 5) (ad 6) (ad 7) (ad 8) (ad 9) (ad 10) (Value.ref (jh 1)) u1.1 u1.2.1 u1.2.2.1 u1.2.2.2 xf.2.2.2.2.2.1 xf.2.2.2.2.2.2.1 xf.2.2.2.2.2.2.2.1 xf.2.2.2.2.2.2.2.2.1 xf.2.2.2.2.2.2.2.2.2 hFo.1 hFo.2.1 hFo.2.2.1 hFo.2.2.2.1 hFo.2.2.2.2.1 hFo.2.2.2.2.2.1 hFo.2.2.2.2.2.2.1 hFo.2.2.2.2.2.2.2) rfl (fun _ => rfl) (lw_V q606 q607 q608 q68 q609) 0 rfl 8 rfl rfl (by decide +kernel) ⟨Nat.le_of_ble_eq_true rfl, Nat.le_of_ble_eq_true rfl⟩ hl.1 rfl (Nat.le_of_ble_eq_true rfl) ⟨Nat.le_of_ble_eq_true rfl, Nat.le_of_ble_eq_true rfl⟩ dX0_jumps_33 (fun u2 H locs hu hP hD hS => ?_)
          obtain ⟨hL1, hL2, hL3, hL4, hL5, hL6⟩ := hu
          have hFl : ti_Fok (Value.ref (jh 1), u1.1, u1.2.1, u1.2.2.1, u1.2.2.2, u2.1, u2.2.1, u2.2.2.1, u2.2.2.2.1, u2.2.2.2.2) := ⟨hFo.1, hFo.2.1, hFo.2.2.1, hFo.2.2.2.1, hL3, hL4, hL5, hL6⟩
          obtain ⟨hR1, hR2⟩ := ti_jr hL1
          have hP : va_P D vwCl (ti_wMJF E ad dh du dv jh ju jv kh ku kv tx hi xi (Value.ref (jh 1), u1.1, u1.2.1, u1.2.2.1, u1.2.2.2, u2.1, u2.2.1, u2.2.2.1, u2.2.2.2.1, u2.2.2.2.2)) H := hP
          have hD : va_D A (ti_wMJF E ad dh du dv jh ju jv kh ku kv tx hi xi (Value.ref (jh 1), u1.1, u1.2.1, u1.2.2.1, u1.2.2.2, u2.1, u2.2.1, u2.2.2.1, u2.2.2.2.1, u2.2.2.2.2)) := hD
          refine W.eq (g2 := F0 m 36 ls [.int (nI u2.2.2.2.2)]) rfl ?_
          refine lv_istore (lv' := [(4, .int (nI u2.2.2.2.2)), (0, .ref (ad 0)), (1, .int (nI 1)), (2, .int j), (3, .int pt)]) hx hb dX0_jumps_36 hl (by decide) rfl (fun ls hl => ?_)
          refine lv_iload_n hx hb dX0_jumps_38 rfl (lv_at hl 3 rfl) ?_
          refine lv_iconst (v := nI 0) hx hb dX0_jumps_39 (by decide) ?_
          refine lv_iload hx hb dX0_jumps_40 (lv_at hl 0 rfl) ?_
          refine lv_iconst (v := nI 1) hx hb dX0_jumps_42 (by decide) ?_
          refine lv_isub hx hb dX0_jumps_43 ?_
          refine ti_pS (As := [.int j, .int (nI 0), .int ((nI u2.2.2.2.2) - (nI 1))]) (rest := []) (v := .int (ti_b (ti_in j (nI 0) (((nI u2.2.2.2.2) - (nI 1)))))) S hE hP [] (met_X0_in l D E j (nI 0) (((nI u2.2.2.2.2) - (nI 1)))) rfl (lw_S q302 q303 q66 q304) 3 rfl (by decide +kernel) ⟨Nat.le_of_ble_eq_true rfl, Nat.le_of_ble_eq_true rfl⟩ hl.1 rfl (Nat.le_of_ble_eq_true rfl) ⟨Nat.le_of_ble_eq_true rfl, Nat.le_of_ble_eq_true rfl⟩ dX0_jumps_44 ?_
          refine tb_eq (tgt := 77) hx hb dX0_jumps_47 (by decide) (fun c47 => ?_) (fun c47 => ?_)
          · skip
            have hc47 : ti_lt j (ti_ml (ti_FF (I 1)) (List.range' 0 100) []).length = false := by rw [← show (ti_gr (xi.1 1) (xi.2.1 1) 0 (xi.2.2 1)) = I 1 from hg, ← hFF, hR1, ← ti_in_lt (by omega)]; exact c47
            refine lv_ldc2 (v := (-9223372036854775808)) hx hb hown (hts _ q748) dX0_jumps_77 ?_
            have hv9 : ((-9223372036854775808)) = (fun _ => ti_Sjumps I (nI 1) j pt) ((Value.ref (jh 1), u1.1, u1.2.1, u1.2.2.1, u1.2.2.2, u2.1, u2.2.1, u2.2.2.1, u2.2.2.2.1, u2.2.2.2.2)) := by rw [ti_Sjumps, if_neg (by rw [c4, show ti_bt pt = true from c13]; decide), hci, if_neg (by rw [hlen]; exact hz30), if_pos hc47]; rfl
            refine W.eq (g2 := F0 m 80 ls [.long ((fun _ => ti_Sjumps I (nI 1) j pt) ((Value.ref (jh 1), u1.1, u1.2.1, u1.2.2.1, u1.2.2.2, u2.1, u2.2.1, u2.2.2.1, u2.2.2.2.1, u2.2.2.2.2)))]) (congrArg (fun z => F0 m 80 ls [.long z]) hv9) ?_
            exact hret _ ((Value.ref (jh 1), u1.1, u1.2.1, u1.2.2.1, u1.2.2.2, u2.1, u2.2.1, u2.2.2.1, u2.2.2.2.1, u2.2.2.2.2)) _ _ _ _ (hFl) hP trivial hS (Nat.le_of_ble_eq_true rfl) (Nat.le_of_ble_eq_true rfl) (fun hq hf9 => W.lret hx hb hr hq hf9 dX0_jumps_80 hlk)
          · skip
            rw [ti_in_lt (by omega)] at c47
            have hc47 : ti_lt j (ti_ml (ti_FF (I 1)) (List.range' 0 100) []).length = true := by rw [← show (ti_gr (xi.1 1) (xi.2.1 1) 0 (xi.2.2 1)) = I 1 from hg, ← hFF, hR1]; exact c47
            obtain ⟨j9, hj9, rfl⟩ := ti_lt_nat c47
            have hcj : ti_cl (nI j9) = j9 := ti_cl_nI (by omega)
            have hjd := hR2 j9 hj9
            have hu9 := hL5 j9
            have hl9 := hL6 j9
            refine lv_aload_n hx hb dX0_jumps_50 rfl (lv_at hl 1 rfl) ?_
            refine va_get (v := .ref (ad 5)) hx hb hts in_X0 hown hK hP 0 rfl rfl 2 (by decide) (hts _ q239) (fun _ h => h) rfl dX0_jumps_51 ?_
            refine va_getN (v := .ref (ad 9)) hx hb hts in_X2 hown hK hP 8 rfl rfl 7 (by decide) (hE.use q146 rfl rfl) (fun _ h => h) rfl dX0_jumps_54 ?_
            refine lv_iload_n hx hb dX0_jumps_57 rfl (lv_at hl 3 rfl) ?_
            refine tn_iald (f := u2.2.2.1) hx hb hK hP 12 0 rfl rfl (by omega) (by decide) dX0_jumps_58 ?_
            have b58 := hFl.2.2.2.2.2.2.1 j9
            refine lv_i2l (v := lN (u2.2.2.1 j9)) hx hb dX0_jumps_59 (nI_l (by omega)) ?_
            refine lv_aload_n hx hb dX0_jumps_60 rfl (lv_at hl 1 rfl) ?_
            refine va_get (v := .ref (ad 5)) hx hb hts in_X0 hown hK hP 0 rfl rfl 2 (by decide) (hts _ q239) (fun _ h => h) rfl dX0_jumps_61 ?_
            refine va_getN (v := .ref (ad 10)) hx hb hts in_X2 hown hK hP 8 rfl rfl 8 (by decide) (hE.use q148 rfl rfl) (fun _ h => h) rfl dX0_jumps_64 ?_
            refine lv_iload_n hx hb dX0_jumps_67 rfl (lv_at hl 3 rfl) ?_
            refine tn_iald (f := u2.2.2.2.1) hx hb hK hP 13 0 rfl rfl (by omega) (by decide) dX0_jumps_68 ?_
            have b68 := hFl.2.2.2.2.2.2.2 j9
            refine lv_i2l (v := lN (u2.2.2.2.1 j9)) hx hb dX0_jumps_69 (nI_l (by omega)) ?_
            refine lv_iload_n hx hb dX0_jumps_70 rfl (lv_at hl 4 rfl) ?_
            refine ti_pS (As := [.long (lN (u2.2.2.1 j9)), .long (lN (u2.2.2.2.1 j9)), .int pt]) (rest := []) (v := .long (lN ((if pt = 0 then u2.2.2.1 j9 else u2.2.2.2.1 j9) / Nat.gcd (u2.2.2.1 j9) (u2.2.2.2.1 j9)))) S hE hP [] (met_X0_lowest l D E (u2.2.2.1 j9) (u2.2.2.2.1 j9) (by omega) (by omega) hjd.2 pt) rfl (lw_S q750 q751 q66 q752) 3 rfl (by decide +kernel) ⟨Nat.le_of_ble_eq_true rfl, Nat.le_of_ble_eq_true rfl⟩ hl.1 rfl (Nat.le_of_ble_eq_true rfl) ⟨Nat.le_of_ble_eq_true rfl, Nat.le_of_ble_eq_true rfl⟩ dX0_jumps_71 ?_
            refine lv_goto (tgt := 80) hx hb dX0_jumps_74 (by decide) ?_
            have hv9 : (lN ((if pt = 0 then u2.2.2.1 j9 else u2.2.2.2.1 j9) / Nat.gcd (u2.2.2.1 j9) (u2.2.2.2.1 j9))) = (fun _ => ti_Sjumps I (nI 1) (nI j9) pt) ((Value.ref (jh 1), u1.1, u1.2.1, u1.2.2.1, u1.2.2.2, u2.1, u2.2.1, u2.2.2.1, u2.2.2.2.1, u2.2.2.2.2)) := by refine Eq.symm ?_; rw [ti_Sjumps, if_neg (by rw [c4, show ti_bt pt = true from c13]; decide), hci, if_neg (by rw [hlen]; exact hz30), if_neg (by rw [hc47]; decide), hcj, ← show (ti_gr (xi.1 1) (xi.2.1 1) 0 (xi.2.2 1)) = I 1 from hg, ← hFF, hjd.1, ti_lowp]
            refine W.eq (g2 := F0 m 80 ls [.long ((fun _ => ti_Sjumps I (nI 1) (nI j9) pt) ((Value.ref (jh 1), u1.1, u1.2.1, u1.2.2.1, u1.2.2.2, u2.1, u2.2.1, u2.2.2.1, u2.2.2.2.1, u2.2.2.2.2)))]) (congrArg (fun z => F0 m 80 ls [.long z]) hv9) ?_
            exact hret _ ((Value.ref (jh 1), u1.1, u1.2.1, u1.2.2.1, u1.2.2.2, u2.1, u2.2.1, u2.2.2.1, u2.2.2.2.1, u2.2.2.2.2)) _ _ _ _ (hFl) hP trivial hS (Nat.le_of_ble_eq_true rfl) (Nat.le_of_ble_eq_true rfl) (fun hq hf9 => W.lret hx hb hr hq hf9 dX0_jumps_80 hlk)
    · skip
      refine lv_ldc2 (v := (-9223372036854775808)) hx hb hown (hts _ q748) dX0_jumps_16 ?_
      have hv9 : ((-9223372036854775808)) = (fun _ => ti_Sjumps I (nI i) j pt) xf := by rw [ti_Sjumps, if_pos (by rw [c4, show ti_bt pt = false from c13]; rfl)]; rfl
      refine W.eq (g2 := F0 m 19 ls [.long ((fun _ => ti_Sjumps I (nI i) j pt) xf)]) (congrArg (fun z => F0 m 19 ls [.long z]) hv9) ?_
      exact hret _ xf _ _ _ _ (hxf) hP trivial hS (Nat.le_of_ble_eq_true rfl) (Nat.le_of_ble_eq_true rfl) (fun hq hf9 => W.lret hx hb hr hq hf9 dX0_jumps_19 hlk)

set_option maxHeartbeats 2000000 in
theorem met_X0_lacks (l : Launch) (D : va_G) (E : Nat → ClassId) (htr : l.stackTraces = false) (z0 : Nat) (ad dh du dv jh ju jv kh ku kv : Nat → Nat) (tx : Nat) (hi : Bool) (xi : ti_Ti) (xf : ti_Tf) (hxi : ti_Jok xi) (I : Nat → ti_GL) (hJ : ti_JI xi I) (hxf : ti_Fok xf) (hnd : ∀ i, i < 2 → (I i).Nodup) (v num den : Int32) : ti_MetX (σ := ti_Tf) (τ := Unit) l D E yX0_lacks (wsW_ yX0_lacks cX0_lacks 5 (some .int) [(20, 38, 39, 150)]) 7 1 6 z0 (ti_wMJF E ad dh du dv jh ju jv kh ku kv tx hi xi xf) [.ref (ad 0), .int v, .int num, .int den] (fun _ => True) (fun u => ti_wMJF E ad dh du dv jh ju jv kh ku kv tx hi xi u) (fun u => some (.int ((fun _ => ti_Slacks I v num den) u))) (fun u => ti_Fok u) (fun _ _ => True) (fun w => RX14) (fun w => 0) (fun w => ti_wMJF E ad dh du dv jh ju jv kh ku kv tx hi xi xf) (fun w => []) (fun w => False) (fun w H => True) := by
  refine ti_metXH (by decide) (Nat.le_of_ble_eq_true rfl) ?_
  intro p e s m below meth c H A Q ls S hE hP hD hS hA hZ hAz hx0 htab hl hret hq
  obtain ⟨hQ, hr, hlk, hinit⟩ := hq
  have hsz0 := hS.1
  have hx := S.1
  have hb := S.2.1
  have hown := S.2.2.2.1
  have hts := S.2.2.2.2
  have hK := hE.1
  have hl : lv_has ls 5 [(0, .ref (ad 0)), (1, .int v), (2, .int num), (3, .int den)] := hl
  refine lv_iload_n hx hb dX0_lacks_0 rfl (lv_at hl 1 rfl) ?_
  refine ti_pS (As := [.int v]) (rest := []) (v := .int (ti_b (ti_bt v))) S hE hP [] (met_X0_isIdeal l D E v) rfl (lw_S q299 q300 q66 q301) 1 rfl (by decide +kernel) ⟨Nat.le_of_ble_eq_true rfl, Nat.le_of_ble_eq_true rfl⟩ hl.1 rfl (Nat.le_of_ble_eq_true rfl) ⟨Nat.le_of_ble_eq_true rfl, Nat.le_of_ble_eq_true rfl⟩ dX0_lacks_1 ?_
  refine tb_ne (tgt := 9) hx hb dX0_lacks_4 (by decide) (fun c4 => ?_) (fun c4 => ?_)
  · skip
    obtain ⟨i, hi2, rfl⟩ := ti_bt_nat c4
    refine lv_iload_n hx hb dX0_lacks_9 rfl (lv_at hl 2 rfl) ?_
    refine lv_iload_n hx hb dX0_lacks_10 rfl (lv_at hl 3 rfl) ?_
    refine ti_pS (As := [.int num, .int den]) (rest := []) (v := .int (ti_b (ti_bf num && ti_bf den))) S hE hP [] (met_X0_isFraction l D E num den) rfl (lw_S q636 q637 q66 q638) 2 rfl (by decide +kernel) ⟨Nat.le_of_ble_eq_true rfl, Nat.le_of_ble_eq_true rfl⟩ hl.1 rfl (Nat.le_of_ble_eq_true rfl) ⟨Nat.le_of_ble_eq_true rfl, Nat.le_of_ble_eq_true rfl⟩ dX0_lacks_11 ?_
    refine tb_ne (tgt := 20) hx hb dX0_lacks_14 (by decide) (fun c14 => ?_) (fun c14 => ?_)
    · skip
      have hb9 : ti_bf num = true ∧ ti_bf den = true := by simpa using c14
      obtain ⟨nu, hnu1, hnu, rfl⟩ := ti_bf_nat hb9.1
      obtain ⟨de, hde1, hde, rfl⟩ := ti_bf_nat hb9.2
      have hcn : ti_cl (nI nu) = nu := ti_cl_nI (by omega)
      have hcd : ti_cl (nI de) = de := ti_cl_nI (by omega)
      rcases (show i = 0 ∨ i = 1 by omega) with rfl | rfl
      · skip
        have hg := hJ 0 (by decide)
        have hlen := ti_JI_len hJ (show 0 < 2 by decide)
        have h6 := hxi.2.2 0
        have hci : ti_cl (nI 0) = 0 := ti_cl_nI (by decide)
        refine lv_aload_n hx hb dX0_lacks_20 rfl (lv_at hl 0 rfl) ?_
        refine va_get (v := .ref (ad 5)) hx hb hts in_X0 hown hK hP 0 rfl rfl 2 (by decide) (hts _ q239) (fun _ h => h) rfl dX0_lacks_21 ?_
        refine lv_aload_n hx hb dX0_lacks_24 rfl (lv_at hl 0 rfl) ?_
        refine va_get (v := .ref (ad 1)) hx hb hts in_X0 hown hK hP 0 rfl rfl 0 (by decide) (hts _ q237) (fun _ h => h) rfl dX0_lacks_25 ?_
        refine lv_iload_n hx hb dX0_lacks_28 rfl (lv_at hl 1 rfl) ?_
        refine tn_aald hx hb hK hP 1 5 rfl rfl (by omega) (by decide) dX0_lacks_29 ?_
        by_cases hz30 : xi.2.2 0 = 0
        · skip
          refine ti_callX (ty_runV (As := [.ref (jh 0)]) (rest := []) S (met_X2_looks_z l D E htr z0 (ad 5) (ad 6) (ad 7) (ad 8) (ad 9) (ad 10) xf.1 xf.2.1 xf.2.2.1 xf.2.2.2.1 xf.2.2.2.2.1 xf.2.2.2.2.2.1 xf.2.2.2.2.2.2.1 xf.2.2.2.2.2.2.2.1 xf.2.2.2.2.2.2.2.2.1 xf.2.2.2.2.2.2.2.2.2 (jh 0) (ju 0) (jv 0) (xi.1 0) (xi.2.1 0) (xi.2.2 0) hz30 H.size) (cwV 1 S.2.2.2.2 (lw_V q357 q358 q359 q68 q360) rfl rfl rfl (by decide +kernel) ⟨Nat.le_of_ble_eq_true rfl, Nat.le_of_ble_eq_true rfl⟩) (ti_preXV (xp := fun _ => True) hE hP hD hS rfl hZ hAz trivial [8, 9, 10, 11, 12, 13, 2, 3, 4] rfl rfl 8 rfl rfl) rfl rfl hl.1 rfl (lv_room (Nat.le_of_ble_eq_true rfl)) dX0_lacks_30 ⟨Nat.le_of_ble_eq_true rfl, Nat.le_of_ble_eq_true rfl⟩) hP hD hS hA [8, 9, 10, 11, 12, 13, 2, 3, 4] rfl (fun _ => rfl) (fun _ => rfl) (fun _ _ _ h9 => absurd h9 id) (fun we H locs ce hpx hxx hFr hP hD hPe hnew hS hce hcv hcl => ?_)
          have hP : va_P D vwCl (ti_wMJF E ad dh du dv jh ju jv kh ku kv tx hi xi xf) H := ti_asP hP [.inl 0, .inl 1, .inr 6, .inr 7, .inr 8, .inl 5, .inl 6, .inl 7, .inr 0, .inr 1, .inr 2, .inr 3, .inr 4, .inr 5] rfl rfl rfl rfl
          have hD : va_D A (ti_wMJF E ad dh du dv jh ju jv kh ku kv tx hi xi xf) := ti_asD hD [.inl 0, .inl 1, .inr 6, .inr 7, .inr 8, .inl 5, .inl 6, .inl 7, .inr 0, .inr 1, .inr 2, .inr 3, .inr 4, .inr 5] rfl rfl rfl rfl
          refine vx_catch hown [] ⟨20, 38, 39, 150⟩ [] htab (fun z hz => absurd hz List.not_mem_nil) rfl (by decide) (hts _ q356) (hE.use q363 rfl rfl) hce hcv hcl ?_
          refine lv_astore (lv' := [(4, .ref we.1), (0, .ref (ad 0)), (1, .int (nI 0)), (2, .int (nI nu)), (3, .int (nI de))]) hx hb dX0_lacks_39 hl (by decide) rfl (fun ls hl => ?_)
          refine lv_bipush (v := (-3)) hx hb dX0_lacks_41 (by decide) ?_
          have hv9 : ((-3)) = (fun _ => ti_Slacks I (nI 0) (nI nu) (nI de)) xf := by rw [ti_Slacks, if_neg (by rw [c4]; decide), if_neg (by rw [c14]; decide), hci, hcn, hcd, if_pos (by rw [hlen]; exact hz30)]
          refine W.eq (g2 := F0 m 43 ls [.int ((fun _ => ti_Slacks I (nI 0) (nI nu) (nI de)) xf)]) (congrArg (fun z => F0 m 43 ls [.int z]) hv9) ?_
          exact hret _ xf _ _ _ _ (hxf) hP trivial hS (Nat.le_of_ble_eq_true rfl) (Nat.le_of_ble_eq_true rfl) (fun hq hf9 => W.iret hx hb hr hq hf9 dX0_lacks_43 hlk)
        · skip
          have hz1 : 0 < xi.2.2 0 := Nat.pos_of_ne_zero hz30
          have hnd9 : (ti_gr (xi.1 0) (xi.2.1 0) 0 (xi.2.2 0)).Nodup := by have h9 := hnd 0 (by decide); rw [← hJ 0 (by decide)] at h9; exact h9
          have hN9 : ti_r2 (ti_gr (xi.1 0) (xi.2.1 0) 0 (xi.2.2 0)) 9999 (List.range' 1 9) ≤ 6 := Nat.le_trans (ti_r2_le hnd9 9999) (by rw [ti_gr_len]; exact (hxi.2.2 0))
          refine ti_mV (As := [.ref (jh 0)]) (rest := []) S hE hP hD hS hA [8, 9, 10, 11, 12, 13, 2, 3, 4] rfl (met_X2_looks l D E (ad 5) (ad 6) (ad 7) (ad 8) (ad 9) (ad 10) xf.1 xf.2.1 xf.2.2.1 xf.2.2.2.1 xf.2.2.2.2.1 xf.2.2.2.2.2.1 xf.2.2.2.2.2.2.1 xf.2.2.2.2.2.2.2.1 xf.2.2.2.2.2.2.2.2.1 xf.2.2.2.2.2.2.2.2.2 (jh 0) (ju 0) (jv 0) (xi.1 0) (xi.2.1 0) (xi.2.2 0) (hxi.2.2 0) (hxi.1 0) (hxi.2.1 0) hxf.1 hxf.2.1 hxf.2.2.1 hxf.2.2.2.1 hz1 hN9) rfl (fun _ => rfl) (lw_V q357 q358 q359 q68 q360) 1 rfl 8 rfl rfl (by decide +kernel) ⟨Nat.le_of_ble_eq_true rfl, Nat.le_of_ble_eq_true rfl⟩ hl.1 rfl (Nat.le_of_ble_eq_true rfl) ⟨Nat.le_of_ble_eq_true rfl, Nat.le_of_ble_eq_true rfl⟩ dX0_lacks_30 (fun u1 H locs hu hP hD hS => ?_)
          obtain ⟨hF1, hF2, hF3, hF4, hF5⟩ := hu
          have hFF : ti_fr u1.1 u1.2.1 u1.2.2.1 0 u1.2.2.2 = ti_FF (ti_gr (xi.1 0) (xi.2.1 0) 0 (xi.2.2 0)) := by rw [hF1]; exact ti_fxm (by rw [ti_gr_len]; exact hz1) (ti_gr_9 (hxi.1 0) (hxi.2.1 0) 0 _)
          have hFo : ti_Fok (Value.ref (jh 0), u1.1, u1.2.1, u1.2.2.1, u1.2.2.2, xf.2.2.2.2.2.1, xf.2.2.2.2.2.2.1, xf.2.2.2.2.2.2.2.1, xf.2.2.2.2.2.2.2.2.1, xf.2.2.2.2.2.2.2.2.2) := ⟨hF2, hF3, hF4, hF5, hxf.2.2.2.2⟩
          have hP : va_P D vwCl (ti_wMJF E ad dh du dv jh ju jv kh ku kv tx hi xi (Value.ref (jh 0), u1.1, u1.2.1, u1.2.2.1, u1.2.2.2, xf.2.2.2.2.2.1, xf.2.2.2.2.2.2.1, xf.2.2.2.2.2.2.2.1, xf.2.2.2.2.2.2.2.2.1, xf.2.2.2.2.2.2.2.2.2)) H := ti_asP hP [.inl 0, .inl 1, .inr 6, .inr 7, .inr 8, .inl 5, .inl 6, .inl 7, .inr 0, .inr 1, .inr 2, .inr 3, .inr 4, .inr 5] rfl rfl rfl rfl
          have hD : va_D A (ti_wMJF E ad dh du dv jh ju jv kh ku kv tx hi xi (Value.ref (jh 0), u1.1, u1.2.1, u1.2.2.1, u1.2.2.2, xf.2.2.2.2.2.1, xf.2.2.2.2.2.2.1, xf.2.2.2.2.2.2.2.1, xf.2.2.2.2.2.2.2.2.1, xf.2.2.2.2.2.2.2.2.2)) := ti_asD hD [.inl 0, .inl 1, .inr 6, .inr 7, .inr 8, .inl 5, .inl 6, .inl 7, .inr 0, .inr 1, .inr 2, .inr 3, .inr 4, .inr 5] rfl rfl rfl rfl
          refine W.eq (g2 := F0 m 33 ls [.ref (ad 5)]) rfl ?_
          refine lv_iload_n hx hb dX0_lacks_33 rfl (lv_at hl 2 rfl) ?_
          refine lv_iload_n hx hb dX0_lacks_34 rfl (lv_at hl 3 rfl) ?_
          refine ti_pV (As := [.int (nI nu), .int (nI de)]) (rest := []) (v := .int (nI (ti_lk (ti_fr u1.1 u1.2.1 u1.2.2.1 0 u1.2.2.2) nu de (List.range' 0 100) 0))) S hE hP [8, 9, 10, 11, 12, 13] (met_X2_lacks l D E (ad 5) (ad 6) (ad 7) (ad 8) (ad 9) (ad 10) (Value.ref (jh 0)) u1.1 u1.2.1 u1.2.2.1 u1.2.2.2 xf.2.2.2.2.2.1 xf.2.2.2.2.2.2.1 xf.2.2.2.2.2.2.2.1 xf.2.2.2.2.2.2.2.2.1 xf.2.2.2.2.2.2.2.2.2 hFo.1 hFo.2.1 hFo.2.2.1 hFo.2.2.2.1 nu de hnu hde) rfl (lw_V q762 q763 q764 q68 q765) 2 rfl 8 rfl rfl (by decide +kernel) ⟨Nat.le_of_ble_eq_true rfl, Nat.le_of_ble_eq_true rfl⟩ hl.1 rfl (Nat.le_of_ble_eq_true rfl) ⟨Nat.le_of_ble_eq_true rfl, Nat.le_of_ble_eq_true rfl⟩ dX0_lacks_35 ?_
          have hlq := ti_lk_le (ti_fr u1.1 u1.2.1 u1.2.2.1 0 u1.2.2.2) nu de (List.range' 0 100) 0
          rw [List.length_range'] at hlq
          have hv9 : (nI (ti_lk (ti_fr u1.1 u1.2.1 u1.2.2.1 0 u1.2.2.2) nu de (List.range' 0 100) 0)) = (fun _ => ti_Slacks I (nI 0) (nI nu) (nI de)) ((Value.ref (jh 0), u1.1, u1.2.1, u1.2.2.1, u1.2.2.2, xf.2.2.2.2.2.1, xf.2.2.2.2.2.2.1, xf.2.2.2.2.2.2.2.1, xf.2.2.2.2.2.2.2.2.1, xf.2.2.2.2.2.2.2.2.2)) := by rw [ti_Slacks, if_neg (by rw [c4]; decide), if_neg (by rw [c14]; decide), hci, hcn, hcd, if_neg (by rw [hlen]; exact hz30), ← show (ti_gr (xi.1 0) (xi.2.1 0) 0 (xi.2.2 0)) = I 0 from hg, ← hFF]
          refine W.eq (g2 := F0 m 38 ls [.int ((fun _ => ti_Slacks I (nI 0) (nI nu) (nI de)) ((Value.ref (jh 0), u1.1, u1.2.1, u1.2.2.1, u1.2.2.2, xf.2.2.2.2.2.1, xf.2.2.2.2.2.2.1, xf.2.2.2.2.2.2.2.1, xf.2.2.2.2.2.2.2.2.1, xf.2.2.2.2.2.2.2.2.2)))]) (congrArg (fun z => F0 m 38 ls [.int z]) hv9) ?_
          exact hret _ ((Value.ref (jh 0), u1.1, u1.2.1, u1.2.2.1, u1.2.2.2, xf.2.2.2.2.2.1, xf.2.2.2.2.2.2.1, xf.2.2.2.2.2.2.2.1, xf.2.2.2.2.2.2.2.2.1, xf.2.2.2.2.2.2.2.2.2)) _ _ _ _ (hFo) hP trivial hS (Nat.le_of_ble_eq_true rfl) (Nat.le_of_ble_eq_true rfl) (fun hq hf9 => W.iret hx hb hr hq hf9 dX0_lacks_38 hlk)
      · skip
        have hg := hJ 1 (by decide)
        have hlen := ti_JI_len hJ (show 1 < 2 by decide)
        have h6 := hxi.2.2 1
        have hci : ti_cl (nI 1) = 1 := ti_cl_nI (by decide)
        refine lv_aload_n hx hb dX0_lacks_20 rfl (lv_at hl 0 rfl) ?_
        refine va_get (v := .ref (ad 5)) hx hb hts in_X0 hown hK hP 0 rfl rfl 2 (by decide) (hts _ q239) (fun _ h => h) rfl dX0_lacks_21 ?_
        refine lv_aload_n hx hb dX0_lacks_24 rfl (lv_at hl 0 rfl) ?_
        refine va_get (v := .ref (ad 1)) hx hb hts in_X0 hown hK hP 0 rfl rfl 0 (by decide) (hts _ q237) (fun _ h => h) rfl dX0_lacks_25 ?_
        refine lv_iload_n hx hb dX0_lacks_28 rfl (lv_at hl 1 rfl) ?_
        refine tn_aald hx hb hK hP 1 5 rfl rfl (by omega) (by decide) dX0_lacks_29 ?_
        by_cases hz30 : xi.2.2 1 = 0
        · skip
          refine ti_callX (ty_runV (As := [.ref (jh 1)]) (rest := []) S (met_X2_looks_z l D E htr z0 (ad 5) (ad 6) (ad 7) (ad 8) (ad 9) (ad 10) xf.1 xf.2.1 xf.2.2.1 xf.2.2.2.1 xf.2.2.2.2.1 xf.2.2.2.2.2.1 xf.2.2.2.2.2.2.1 xf.2.2.2.2.2.2.2.1 xf.2.2.2.2.2.2.2.2.1 xf.2.2.2.2.2.2.2.2.2 (jh 1) (ju 1) (jv 1) (xi.1 1) (xi.2.1 1) (xi.2.2 1) hz30 H.size) (cwV 1 S.2.2.2.2 (lw_V q357 q358 q359 q68 q360) rfl rfl rfl (by decide +kernel) ⟨Nat.le_of_ble_eq_true rfl, Nat.le_of_ble_eq_true rfl⟩) (ti_preXV (xp := fun _ => True) hE hP hD hS rfl hZ hAz trivial [8, 9, 10, 11, 12, 13, 5, 6, 7] rfl rfl 8 rfl rfl) rfl rfl hl.1 rfl (lv_room (Nat.le_of_ble_eq_true rfl)) dX0_lacks_30 ⟨Nat.le_of_ble_eq_true rfl, Nat.le_of_ble_eq_true rfl⟩) hP hD hS hA [8, 9, 10, 11, 12, 13, 5, 6, 7] rfl (fun _ => rfl) (fun _ => rfl) (fun _ _ _ h9 => absurd h9 id) (fun we H locs ce hpx hxx hFr hP hD hPe hnew hS hce hcv hcl => ?_)
          have hP : va_P D vwCl (ti_wMJF E ad dh du dv jh ju jv kh ku kv tx hi xi xf) H := ti_asP hP [.inl 0, .inl 1, .inl 2, .inl 3, .inl 4, .inr 6, .inr 7, .inr 8, .inr 0, .inr 1, .inr 2, .inr 3, .inr 4, .inr 5] rfl rfl rfl rfl
          have hD : va_D A (ti_wMJF E ad dh du dv jh ju jv kh ku kv tx hi xi xf) := ti_asD hD [.inl 0, .inl 1, .inl 2, .inl 3, .inl 4, .inr 6, .inr 7, .inr 8, .inr 0, .inr 1, .inr 2, .inr 3, .inr 4, .inr 5] rfl rfl rfl rfl
          refine vx_catch hown [] ⟨20, 38, 39, 150⟩ [] htab (fun z hz => absurd hz List.not_mem_nil) rfl (by decide) (hts _ q356) (hE.use q363 rfl rfl) hce hcv hcl ?_
          refine lv_astore (lv' := [(4, .ref we.1), (0, .ref (ad 0)), (1, .int (nI 1)), (2, .int (nI nu)), (3, .int (nI de))]) hx hb dX0_lacks_39 hl (by decide) rfl (fun ls hl => ?_)
          refine lv_bipush (v := (-3)) hx hb dX0_lacks_41 (by decide) ?_
          have hv9 : ((-3)) = (fun _ => ti_Slacks I (nI 1) (nI nu) (nI de)) xf := by rw [ti_Slacks, if_neg (by rw [c4]; decide), if_neg (by rw [c14]; decide), hci, hcn, hcd, if_pos (by rw [hlen]; exact hz30)]
          refine W.eq (g2 := F0 m 43 ls [.int ((fun _ => ti_Slacks I (nI 1) (nI nu) (nI de)) xf)]) (congrArg (fun z => F0 m 43 ls [.int z]) hv9) ?_
          exact hret _ xf _ _ _ _ (hxf) hP trivial hS (Nat.le_of_ble_eq_true rfl) (Nat.le_of_ble_eq_true rfl) (fun hq hf9 => W.iret hx hb hr hq hf9 dX0_lacks_43 hlk)
        · skip
          have hz1 : 0 < xi.2.2 1 := Nat.pos_of_ne_zero hz30
          have hnd9 : (ti_gr (xi.1 1) (xi.2.1 1) 0 (xi.2.2 1)).Nodup := by have h9 := hnd 1 (by decide); rw [← hJ 1 (by decide)] at h9; exact h9
          have hN9 : ti_r2 (ti_gr (xi.1 1) (xi.2.1 1) 0 (xi.2.2 1)) 9999 (List.range' 1 9) ≤ 6 := Nat.le_trans (ti_r2_le hnd9 9999) (by rw [ti_gr_len]; exact (hxi.2.2 1))
          refine ti_mV (As := [.ref (jh 1)]) (rest := []) S hE hP hD hS hA [8, 9, 10, 11, 12, 13, 5, 6, 7] rfl (met_X2_looks l D E (ad 5) (ad 6) (ad 7) (ad 8) (ad 9) (ad 10) xf.1 xf.2.1 xf.2.2.1 xf.2.2.2.1 xf.2.2.2.2.1 xf.2.2.2.2.2.1 xf.2.2.2.2.2.2.1 xf.2.2.2.2.2.2.2.1 xf.2.2.2.2.2.2.2.2.1 xf.2.2.2.2.2.2.2.2.2 (jh 1) (ju 1) (jv 1) (xi.1 1) (xi.2.1 1) (xi.2.2 1) (hxi.2.2 1) (hxi.1 1) (hxi.2.1 1) hxf.1 hxf.2.1 hxf.2.2.1 hxf.2.2.2.1 hz1 hN9) rfl (fun _ => rfl) (lw_V q357 q358 q359 q68 q360) 1 rfl 8 rfl rfl (by decide +kernel) ⟨Nat.le_of_ble_eq_true rfl, Nat.le_of_ble_eq_true rfl⟩ hl.1 rfl (Nat.le_of_ble_eq_true rfl) ⟨Nat.le_of_ble_eq_true rfl, Nat.le_of_ble_eq_true rfl⟩ dX0_lacks_30 (fun u1 H locs hu hP hD hS => ?_)
          obtain ⟨hF1, hF2, hF3, hF4, hF5⟩ := hu
          have hFF : ti_fr u1.1 u1.2.1 u1.2.2.1 0 u1.2.2.2 = ti_FF (ti_gr (xi.1 1) (xi.2.1 1) 0 (xi.2.2 1)) := by rw [hF1]; exact ti_fxm (by rw [ti_gr_len]; exact hz1) (ti_gr_9 (hxi.1 1) (hxi.2.1 1) 0 _)
          have hFo : ti_Fok (Value.ref (jh 1), u1.1, u1.2.1, u1.2.2.1, u1.2.2.2, xf.2.2.2.2.2.1, xf.2.2.2.2.2.2.1, xf.2.2.2.2.2.2.2.1, xf.2.2.2.2.2.2.2.2.1, xf.2.2.2.2.2.2.2.2.2) := ⟨hF2, hF3, hF4, hF5, hxf.2.2.2.2⟩
          have hP : va_P D vwCl (ti_wMJF E ad dh du dv jh ju jv kh ku kv tx hi xi (Value.ref (jh 1), u1.1, u1.2.1, u1.2.2.1, u1.2.2.2, xf.2.2.2.2.2.1, xf.2.2.2.2.2.2.1, xf.2.2.2.2.2.2.2.1, xf.2.2.2.2.2.2.2.2.1, xf.2.2.2.2.2.2.2.2.2)) H := ti_asP hP [.inl 0, .inl 1, .inl 2, .inl 3, .inl 4, .inr 6, .inr 7, .inr 8, .inr 0, .inr 1, .inr 2, .inr 3, .inr 4, .inr 5] rfl rfl rfl rfl
          have hD : va_D A (ti_wMJF E ad dh du dv jh ju jv kh ku kv tx hi xi (Value.ref (jh 1), u1.1, u1.2.1, u1.2.2.1, u1.2.2.2, xf.2.2.2.2.2.1, xf.2.2.2.2.2.2.1, xf.2.2.2.2.2.2.2.1, xf.2.2.2.2.2.2.2.2.1, xf.2.2.2.2.2.2.2.2.2)) := ti_asD hD [.inl 0, .inl 1, .inl 2, .inl 3, .inl 4, .inr 6, .inr 7, .inr 8, .inr 0, .inr 1, .inr 2, .inr 3, .inr 4, .inr 5] rfl rfl rfl rfl
          refine W.eq (g2 := F0 m 33 ls [.ref (ad 5)]) rfl ?_
          refine lv_iload_n hx hb dX0_lacks_33 rfl (lv_at hl 2 rfl) ?_
          refine lv_iload_n hx hb dX0_lacks_34 rfl (lv_at hl 3 rfl) ?_
          refine ti_pV (As := [.int (nI nu), .int (nI de)]) (rest := []) (v := .int (nI (ti_lk (ti_fr u1.1 u1.2.1 u1.2.2.1 0 u1.2.2.2) nu de (List.range' 0 100) 0))) S hE hP [8, 9, 10, 11, 12, 13] (met_X2_lacks l D E (ad 5) (ad 6) (ad 7) (ad 8) (ad 9) (ad 10) (Value.ref (jh 1)) u1.1 u1.2.1 u1.2.2.1 u1.2.2.2 xf.2.2.2.2.2.1 xf.2.2.2.2.2.2.1 xf.2.2.2.2.2.2.2.1 xf.2.2.2.2.2.2.2.2.1 xf.2.2.2.2.2.2.2.2.2 hFo.1 hFo.2.1 hFo.2.2.1 hFo.2.2.2.1 nu de hnu hde) rfl (lw_V q762 q763 q764 q68 q765) 2 rfl 8 rfl rfl (by decide +kernel) ⟨Nat.le_of_ble_eq_true rfl, Nat.le_of_ble_eq_true rfl⟩ hl.1 rfl (Nat.le_of_ble_eq_true rfl) ⟨Nat.le_of_ble_eq_true rfl, Nat.le_of_ble_eq_true rfl⟩ dX0_lacks_35 ?_
          have hlq := ti_lk_le (ti_fr u1.1 u1.2.1 u1.2.2.1 0 u1.2.2.2) nu de (List.range' 0 100) 0
          rw [List.length_range'] at hlq
          have hv9 : (nI (ti_lk (ti_fr u1.1 u1.2.1 u1.2.2.1 0 u1.2.2.2) nu de (List.range' 0 100) 0)) = (fun _ => ti_Slacks I (nI 1) (nI nu) (nI de)) ((Value.ref (jh 1), u1.1, u1.2.1, u1.2.2.1, u1.2.2.2, xf.2.2.2.2.2.1, xf.2.2.2.2.2.2.1, xf.2.2.2.2.2.2.2.1, xf.2.2.2.2.2.2.2.2.1, xf.2.2.2.2.2.2.2.2.2)) := by rw [ti_Slacks, if_neg (by rw [c4]; decide), if_neg (by rw [c14]; decide), hci, hcn, hcd, if_neg (by rw [hlen]; exact hz30), ← show (ti_gr (xi.1 1) (xi.2.1 1) 0 (xi.2.2 1)) = I 1 from hg, ← hFF]
          refine W.eq (g2 := F0 m 38 ls [.int ((fun _ => ti_Slacks I (nI 1) (nI nu) (nI de)) ((Value.ref (jh 1), u1.1, u1.2.1, u1.2.2.1, u1.2.2.2, xf.2.2.2.2.2.1, xf.2.2.2.2.2.2.1, xf.2.2.2.2.2.2.2.1, xf.2.2.2.2.2.2.2.2.1, xf.2.2.2.2.2.2.2.2.2)))]) (congrArg (fun z => F0 m 38 ls [.int z]) hv9) ?_
          exact hret _ ((Value.ref (jh 1), u1.1, u1.2.1, u1.2.2.1, u1.2.2.2, xf.2.2.2.2.2.1, xf.2.2.2.2.2.2.1, xf.2.2.2.2.2.2.2.1, xf.2.2.2.2.2.2.2.2.1, xf.2.2.2.2.2.2.2.2.2)) _ _ _ _ (hFo) hP trivial hS (Nat.le_of_ble_eq_true rfl) (Nat.le_of_ble_eq_true rfl) (fun hq hf9 => W.iret hx hb hr hq hf9 dX0_lacks_38 hlk)
    · skip
      refine lv_bipush (v := (-2)) hx hb dX0_lacks_17 (by decide) ?_
      have hv9 : ((-2)) = (fun _ => ti_Slacks I (nI i) num den) xf := by rw [ti_Slacks, if_neg (by rw [c4]; decide), if_pos c14]
      refine W.eq (g2 := F0 m 19 ls [.int ((fun _ => ti_Slacks I (nI i) num den) xf)]) (congrArg (fun z => F0 m 19 ls [.int z]) hv9) ?_
      exact hret _ xf _ _ _ _ (hxf) hP trivial hS (Nat.le_of_ble_eq_true rfl) (Nat.le_of_ble_eq_true rfl) (fun hq hf9 => W.iret hx hb hr hq hf9 dX0_lacks_19 hlk)
  · skip
    refine lv_iconst (v := (-1)) hx hb dX0_lacks_7 (by decide) ?_
    have hv9 : ((-1)) = (fun _ => ti_Slacks I v num den) xf := by rw [ti_Slacks, if_pos c4]
    refine W.eq (g2 := F0 m 8 ls [.int ((fun _ => ti_Slacks I v num den) xf)]) (congrArg (fun z => F0 m 8 ls [.int z]) hv9) ?_
    exact hret _ xf _ _ _ _ (hxf) hP trivial hS (Nat.le_of_ble_eq_true rfl) (Nat.le_of_ble_eq_true rfl) (fun hq hf9 => W.iret hx hb hr hq hf9 dX0_lacks_8 hlk)

set_option maxHeartbeats 2000000 in
theorem met_X0_odds (l : Launch) (D : va_G) (E : Nat → ClassId) (htr : l.stackTraces = false) (z0 : Nat) (ad dh du dv jh ju jv kh ku kv : Nat → Nat) (tx : Nat) (hi : Bool) (xi : ti_Ti) (xf : ti_Tf) (hxi : ti_Jok xi) (I : Nat → ti_GL) (hJ : ti_JI xi I) (hxf : ti_Fok xf) (hnd : ∀ i, i < 2 → (I i).Nodup) (v num den pt : Int32) : ti_MetX (σ := ti_Tf) (τ := Unit) l D E yX0_odds (wsW_ yX0_odds cX0_odds 6 (some .long) [(29, 59, 60, 150)]) 7 1 6 z0 (ti_wMJF E ad dh du dv jh ju jv kh ku kv tx hi xi xf) [.ref (ad 0), .int v, .int num, .int den, .int pt] (fun _ => True) (fun u => ti_wMJF E ad dh du dv jh ju jv kh ku kv tx hi xi u) (fun u => some (.long ((fun _ => ti_Sodds I v num den pt) u))) (fun u => ti_Fok u) (fun _ _ => True) (fun w => RX14) (fun w => 0) (fun w => ti_wMJF E ad dh du dv jh ju jv kh ku kv tx hi xi xf) (fun w => []) (fun w => False) (fun w H => True) := by
  refine ti_metXH (by decide) (Nat.le_of_ble_eq_true rfl) ?_
  intro p e s m below meth c H A Q ls S hE hP hD hS hA hZ hAz hx0 htab hl hret hq
  obtain ⟨hQ, hr, hlk, hinit⟩ := hq
  have hsz0 := hS.1
  have hx := S.1
  have hb := S.2.1
  have hown := S.2.2.2.1
  have hts := S.2.2.2.2
  have hK := hE.1
  have hl : lv_has ls 6 [(0, .ref (ad 0)), (1, .int v), (2, .int num), (3, .int den), (4, .int pt)] := hl
  refine lv_iload_n hx hb dX0_odds_0 rfl (lv_at hl 1 rfl) ?_
  refine ti_pS (As := [.int v]) (rest := []) (v := .int (ti_b (ti_bt v))) S hE hP [] (met_X0_isIdeal l D E v) rfl (lw_S q299 q300 q66 q301) 1 rfl (by decide +kernel) ⟨Nat.le_of_ble_eq_true rfl, Nat.le_of_ble_eq_true rfl⟩ hl.1 rfl (Nat.le_of_ble_eq_true rfl) ⟨Nat.le_of_ble_eq_true rfl, Nat.le_of_ble_eq_true rfl⟩ dX0_odds_1 ?_
  refine tb_eq (tgt := 25) hx hb dX0_odds_4 (by decide) (fun c4 => ?_) (fun c4 => ?_)
  · skip
    refine lv_ldc2 (v := (-9223372036854775808)) hx hb hown (hts _ q748) dX0_odds_25 ?_
    have hv9 : ((-9223372036854775808)) = (fun _ => ti_Sodds I v num den pt) xf := by rw [ti_Sodds, if_pos (by rw [c4]; rfl)]; rfl
    refine W.eq (g2 := F0 m 28 ls [.long ((fun _ => ti_Sodds I v num den pt) xf)]) (congrArg (fun z => F0 m 28 ls [.long z]) hv9) ?_
    exact hret _ xf _ _ _ _ (hxf) hP trivial hS (Nat.le_of_ble_eq_true rfl) (Nat.le_of_ble_eq_true rfl) (fun hq hf9 => W.lret hx hb hr hq hf9 dX0_odds_28 hlk)
  · skip
    obtain ⟨i, hi2, rfl⟩ := ti_bt_nat c4
    refine lv_iload_n hx hb dX0_odds_7 rfl (lv_at hl 2 rfl) ?_
    refine lv_iload_n hx hb dX0_odds_8 rfl (lv_at hl 3 rfl) ?_
    refine ti_pS (As := [.int num, .int den]) (rest := []) (v := .int (ti_b (ti_bf num && ti_bf den))) S hE hP [] (met_X0_isFraction l D E num den) rfl (lw_S q636 q637 q66 q638) 2 rfl (by decide +kernel) ⟨Nat.le_of_ble_eq_true rfl, Nat.le_of_ble_eq_true rfl⟩ hl.1 rfl (Nat.le_of_ble_eq_true rfl) ⟨Nat.le_of_ble_eq_true rfl, Nat.le_of_ble_eq_true rfl⟩ dX0_odds_9 ?_
    refine tb_eq (tgt := 25) hx hb dX0_odds_12 (by decide) (fun c12 => ?_) (fun c12 => ?_)
    · skip
      refine lv_ldc2 (v := (-9223372036854775808)) hx hb hown (hts _ q748) dX0_odds_25 ?_
      have hv9 : ((-9223372036854775808)) = (fun _ => ti_Sodds I (nI i) num den pt) xf := by rw [ti_Sodds, if_pos (by rw [c4, c12]; rfl)]; rfl
      refine W.eq (g2 := F0 m 28 ls [.long ((fun _ => ti_Sodds I (nI i) num den pt) xf)]) (congrArg (fun z => F0 m 28 ls [.long z]) hv9) ?_
      exact hret _ xf _ _ _ _ (hxf) hP trivial hS (Nat.le_of_ble_eq_true rfl) (Nat.le_of_ble_eq_true rfl) (fun hq hf9 => W.lret hx hb hr hq hf9 dX0_odds_28 hlk)
    · skip
      have hb9 : ti_bf num = true ∧ ti_bf den = true := by simpa using c12
      obtain ⟨nu, hnu1, hnu, rfl⟩ := ti_bf_nat hb9.1
      obtain ⟨de, hde1, hde, rfl⟩ := ti_bf_nat hb9.2
      have hcn : ti_cl (nI nu) = nu := ti_cl_nI (by omega)
      have hcd : ti_cl (nI de) = de := ti_cl_nI (by omega)
      refine lv_iload hx hb dX0_odds_15 (lv_at hl 4 rfl) ?_
      refine lv_iconst (v := nI 0) hx hb dX0_odds_17 (by decide) ?_
      refine lv_iconst (v := nI 1) hx hb dX0_odds_18 (by decide) ?_
      refine ti_pS (As := [.int pt, .int (nI 0), .int (nI 1)]) (rest := []) (v := .int (ti_b (ti_in pt (nI 0) (nI 1)))) S hE hP [] (met_X0_in l D E pt (nI 0) (nI 1)) rfl (lw_S q302 q303 q66 q304) 3 rfl (by decide +kernel) ⟨Nat.le_of_ble_eq_true rfl, Nat.le_of_ble_eq_true rfl⟩ hl.1 rfl (Nat.le_of_ble_eq_true rfl) ⟨Nat.le_of_ble_eq_true rfl, Nat.le_of_ble_eq_true rfl⟩ dX0_odds_19 ?_
      refine tb_ne (tgt := 29) hx hb dX0_odds_22 (by decide) (fun c22 => ?_) (fun c22 => ?_)
      · skip
        rcases (show i = 0 ∨ i = 1 by omega) with rfl | rfl
        · skip
          have hg := hJ 0 (by decide)
          have hlen := ti_JI_len hJ (show 0 < 2 by decide)
          have h6 := hxi.2.2 0
          have hci : ti_cl (nI 0) = 0 := ti_cl_nI (by decide)
          refine lv_bipush (v := nI 100) hx hb dX0_odds_29 (by decide) ?_
          refine lv_aload_n hx hb dX0_odds_31 rfl (lv_at hl 0 rfl) ?_
          refine va_get (v := .ref (ad 5)) hx hb hts in_X0 hown hK hP 0 rfl rfl 2 (by decide) (hts _ q239) (fun _ h => h) rfl dX0_odds_32 ?_
          refine lv_aload_n hx hb dX0_odds_35 rfl (lv_at hl 0 rfl) ?_
          refine va_get (v := .ref (ad 1)) hx hb hts in_X0 hown hK hP 0 rfl rfl 0 (by decide) (hts _ q237) (fun _ h => h) rfl dX0_odds_36 ?_
          refine lv_iload_n hx hb dX0_odds_39 rfl (lv_at hl 1 rfl) ?_
          refine tn_aald hx hb hK hP 1 5 rfl rfl (by omega) (by decide) dX0_odds_40 ?_
          by_cases hz41 : xi.2.2 0 = 0
          · skip
            refine ti_callX (ty_runV (As := [.ref (jh 0)]) (rest := [.int (nI 100)]) S (met_X2_looks_z l D E htr z0 (ad 5) (ad 6) (ad 7) (ad 8) (ad 9) (ad 10) xf.1 xf.2.1 xf.2.2.1 xf.2.2.2.1 xf.2.2.2.2.1 xf.2.2.2.2.2.1 xf.2.2.2.2.2.2.1 xf.2.2.2.2.2.2.2.1 xf.2.2.2.2.2.2.2.2.1 xf.2.2.2.2.2.2.2.2.2 (jh 0) (ju 0) (jv 0) (xi.1 0) (xi.2.1 0) (xi.2.2 0) hz41 H.size) (cwV 1 S.2.2.2.2 (lw_V q357 q358 q359 q68 q360) rfl rfl rfl (by decide +kernel) ⟨Nat.le_of_ble_eq_true rfl, Nat.le_of_ble_eq_true rfl⟩) (ti_preXV (xp := fun _ => True) hE hP hD hS rfl hZ hAz trivial [8, 9, 10, 11, 12, 13, 2, 3, 4] rfl rfl 8 rfl rfl) rfl rfl hl.1 rfl (lv_room (Nat.le_of_ble_eq_true rfl)) dX0_odds_41 ⟨Nat.le_of_ble_eq_true rfl, Nat.le_of_ble_eq_true rfl⟩) hP hD hS hA [8, 9, 10, 11, 12, 13, 2, 3, 4] rfl (fun _ => rfl) (fun _ => rfl) (fun _ _ _ h9 => absurd h9 id) (fun we H locs ce hpx hxx hFr hP hD hPe hnew hS hce hcv hcl => ?_)
            have hP : va_P D vwCl (ti_wMJF E ad dh du dv jh ju jv kh ku kv tx hi xi xf) H := ti_asP hP [.inl 0, .inl 1, .inr 6, .inr 7, .inr 8, .inl 5, .inl 6, .inl 7, .inr 0, .inr 1, .inr 2, .inr 3, .inr 4, .inr 5] rfl rfl rfl rfl
            have hD : va_D A (ti_wMJF E ad dh du dv jh ju jv kh ku kv tx hi xi xf) := ti_asD hD [.inl 0, .inl 1, .inr 6, .inr 7, .inr 8, .inl 5, .inl 6, .inl 7, .inr 0, .inr 1, .inr 2, .inr 3, .inr 4, .inr 5] rfl rfl rfl rfl
            refine vx_catch hown [] ⟨29, 59, 60, 150⟩ [] htab (fun z hz => absurd hz List.not_mem_nil) rfl (by decide) (hts _ q356) (hE.use q363 rfl rfl) hce hcv hcl ?_
            refine lv_astore (lv' := [(5, .ref we.1), (0, .ref (ad 0)), (1, .int (nI 0)), (2, .int (nI nu)), (3, .int (nI de)), (4, .int pt)]) hx hb dX0_odds_60 hl (by decide) rfl (fun ls hl => ?_)
            refine lv_ldc2 (v := (-9223372036854775808)) hx hb hown (hts _ q748) dX0_odds_62 ?_
            have hv9 : ((-9223372036854775808)) = (fun _ => ti_Sodds I (nI 0) (nI nu) (nI de) pt) xf := by rw [ti_Sodds, if_neg (by rw [c4, c12, show ti_bt pt = true from c22]; decide), hci, hcn, hcd, if_pos (by rw [hlen]; exact hz41)]; rfl
            refine W.eq (g2 := F0 m 65 ls [.long ((fun _ => ti_Sodds I (nI 0) (nI nu) (nI de) pt) xf)]) (congrArg (fun z => F0 m 65 ls [.long z]) hv9) ?_
            exact hret _ xf _ _ _ _ (hxf) hP trivial hS (Nat.le_of_ble_eq_true rfl) (Nat.le_of_ble_eq_true rfl) (fun hq hf9 => W.lret hx hb hr hq hf9 dX0_odds_65 hlk)
          · skip
            have hz1 : 0 < xi.2.2 0 := Nat.pos_of_ne_zero hz41
            have hnd9 : (ti_gr (xi.1 0) (xi.2.1 0) 0 (xi.2.2 0)).Nodup := by have h9 := hnd 0 (by decide); rw [← hJ 0 (by decide)] at h9; exact h9
            have hN9 : ti_r2 (ti_gr (xi.1 0) (xi.2.1 0) 0 (xi.2.2 0)) 9999 (List.range' 1 9) ≤ 6 := Nat.le_trans (ti_r2_le hnd9 9999) (by rw [ti_gr_len]; exact (hxi.2.2 0))
            refine ti_mV (As := [.ref (jh 0)]) (rest := [.int (nI 100)]) S hE hP hD hS hA [8, 9, 10, 11, 12, 13, 2, 3, 4] rfl (met_X2_looks l D E (ad 5) (ad 6) (ad 7) (ad 8) (ad 9) (ad 10) xf.1 xf.2.1 xf.2.2.1 xf.2.2.2.1 xf.2.2.2.2.1 xf.2.2.2.2.2.1 xf.2.2.2.2.2.2.1 xf.2.2.2.2.2.2.2.1 xf.2.2.2.2.2.2.2.2.1 xf.2.2.2.2.2.2.2.2.2 (jh 0) (ju 0) (jv 0) (xi.1 0) (xi.2.1 0) (xi.2.2 0) (hxi.2.2 0) (hxi.1 0) (hxi.2.1 0) hxf.1 hxf.2.1 hxf.2.2.1 hxf.2.2.2.1 hz1 hN9) rfl (fun _ => rfl) (lw_V q357 q358 q359 q68 q360) 1 rfl 8 rfl rfl (by decide +kernel) ⟨Nat.le_of_ble_eq_true rfl, Nat.le_of_ble_eq_true rfl⟩ hl.1 rfl (Nat.le_of_ble_eq_true rfl) ⟨Nat.le_of_ble_eq_true rfl, Nat.le_of_ble_eq_true rfl⟩ dX0_odds_41 (fun u1 H locs hu hP hD hS => ?_)
            obtain ⟨hF1, hF2, hF3, hF4, hF5⟩ := hu
            have hFF : ti_fr u1.1 u1.2.1 u1.2.2.1 0 u1.2.2.2 = ti_FF (ti_gr (xi.1 0) (xi.2.1 0) 0 (xi.2.2 0)) := by rw [hF1]; exact ti_fxm (by rw [ti_gr_len]; exact hz1) (ti_gr_9 (hxi.1 0) (hxi.2.1 0) 0 _)
            have hFo : ti_Fok (Value.ref (jh 0), u1.1, u1.2.1, u1.2.2.1, u1.2.2.2, xf.2.2.2.2.2.1, xf.2.2.2.2.2.2.1, xf.2.2.2.2.2.2.2.1, xf.2.2.2.2.2.2.2.2.1, xf.2.2.2.2.2.2.2.2.2) := ⟨hF2, hF3, hF4, hF5, hxf.2.2.2.2⟩
            have hP : va_P D vwCl (ti_wMJF E ad dh du dv jh ju jv kh ku kv tx hi xi (Value.ref (jh 0), u1.1, u1.2.1, u1.2.2.1, u1.2.2.2, xf.2.2.2.2.2.1, xf.2.2.2.2.2.2.1, xf.2.2.2.2.2.2.2.1, xf.2.2.2.2.2.2.2.2.1, xf.2.2.2.2.2.2.2.2.2)) H := ti_asP hP [.inl 0, .inl 1, .inr 6, .inr 7, .inr 8, .inl 5, .inl 6, .inl 7, .inr 0, .inr 1, .inr 2, .inr 3, .inr 4, .inr 5] rfl rfl rfl rfl
            have hD : va_D A (ti_wMJF E ad dh du dv jh ju jv kh ku kv tx hi xi (Value.ref (jh 0), u1.1, u1.2.1, u1.2.2.1, u1.2.2.2, xf.2.2.2.2.2.1, xf.2.2.2.2.2.2.1, xf.2.2.2.2.2.2.2.1, xf.2.2.2.2.2.2.2.2.1, xf.2.2.2.2.2.2.2.2.2)) := ti_asD hD [.inl 0, .inl 1, .inr 6, .inr 7, .inr 8, .inl 5, .inl 6, .inl 7, .inr 0, .inr 1, .inr 2, .inr 3, .inr 4, .inr 5] rfl rfl rfl rfl
            refine W.eq (g2 := F0 m 44 ls [.ref (ad 5), .int (nI 100)]) rfl ?_
            refine lv_iload_n hx hb dX0_odds_44 rfl (lv_at hl 2 rfl) ?_
            refine lv_iload_n hx hb dX0_odds_45 rfl (lv_at hl 3 rfl) ?_
            refine ti_pV (As := [.int (nI nu), .int (nI de)]) (rest := [.int (nI 100)]) (v := .int (nI (ti_lk (ti_fr u1.1 u1.2.1 u1.2.2.1 0 u1.2.2.2) nu de (List.range' 0 100) 0))) S hE hP [8, 9, 10, 11, 12, 13] (met_X2_lacks l D E (ad 5) (ad 6) (ad 7) (ad 8) (ad 9) (ad 10) (Value.ref (jh 0)) u1.1 u1.2.1 u1.2.2.1 u1.2.2.2 xf.2.2.2.2.2.1 xf.2.2.2.2.2.2.1 xf.2.2.2.2.2.2.2.1 xf.2.2.2.2.2.2.2.2.1 xf.2.2.2.2.2.2.2.2.2 hFo.1 hFo.2.1 hFo.2.2.1 hFo.2.2.2.1 nu de hnu hde) rfl (lw_V q762 q763 q764 q68 q765) 2 rfl 8 rfl rfl (by decide +kernel) ⟨Nat.le_of_ble_eq_true rfl, Nat.le_of_ble_eq_true rfl⟩ hl.1 rfl (Nat.le_of_ble_eq_true rfl) ⟨Nat.le_of_ble_eq_true rfl, Nat.le_of_ble_eq_true rfl⟩ dX0_odds_46 ?_
            have hlq := ti_lk_le (ti_fr u1.1 u1.2.1 u1.2.2.1 0 u1.2.2.2) nu de (List.range' 0 100) 0
            rw [List.length_range'] at hlq
            refine tn_sub hx hb dX0_odds_49 (by omega) ?_
            refine lv_i2l (v := lN (100 - (ti_lk (ti_fr u1.1 u1.2.1 u1.2.2.1 0 u1.2.2.2) nu de (List.range' 0 100) 0))) hx hb dX0_odds_50 (nI_l (by omega)) ?_
            refine lv_ldc2 (v := lN 100) hx hb hown (hts _ q849) dX0_odds_51 ?_
            refine lv_iload hx hb dX0_odds_54 (lv_at hl 4 rfl) ?_
            refine ti_pS (As := [.long (lN (100 - (ti_lk (ti_fr u1.1 u1.2.1 u1.2.2.1 0 u1.2.2.2) nu de (List.range' 0 100) 0))), .long (lN 100), .int pt]) (rest := []) (v := .long (lN ((if pt = 0 then 100 - (ti_lk (ti_fr u1.1 u1.2.1 u1.2.2.1 0 u1.2.2.2) nu de (List.range' 0 100) 0) else 100) / Nat.gcd (100 - (ti_lk (ti_fr u1.1 u1.2.1 u1.2.2.1 0 u1.2.2.2) nu de (List.range' 0 100) 0)) 100))) S hE hP [] (met_X0_lowest l D E (100 - (ti_lk (ti_fr u1.1 u1.2.1 u1.2.2.1 0 u1.2.2.2) nu de (List.range' 0 100) 0)) 100 (by omega) (by omega) (by omega) pt) rfl (lw_S q750 q751 q66 q752) 3 rfl (by decide +kernel) ⟨Nat.le_of_ble_eq_true rfl, Nat.le_of_ble_eq_true rfl⟩ hl.1 rfl (Nat.le_of_ble_eq_true rfl) ⟨Nat.le_of_ble_eq_true rfl, Nat.le_of_ble_eq_true rfl⟩ dX0_odds_56 ?_
            have hv9 : (lN ((if pt = 0 then 100 - (ti_lk (ti_fr u1.1 u1.2.1 u1.2.2.1 0 u1.2.2.2) nu de (List.range' 0 100) 0) else 100) / Nat.gcd (100 - (ti_lk (ti_fr u1.1 u1.2.1 u1.2.2.1 0 u1.2.2.2) nu de (List.range' 0 100) 0)) 100)) = (fun _ => ti_Sodds I (nI 0) (nI nu) (nI de) pt) ((Value.ref (jh 0), u1.1, u1.2.1, u1.2.2.1, u1.2.2.2, xf.2.2.2.2.2.1, xf.2.2.2.2.2.2.1, xf.2.2.2.2.2.2.2.1, xf.2.2.2.2.2.2.2.2.1, xf.2.2.2.2.2.2.2.2.2)) := by refine Eq.symm ?_; rw [ti_Sodds, if_neg (by rw [c4, c12, show ti_bt pt = true from c22]; decide), hci, hcn, hcd, if_neg (by rw [hlen]; exact hz41), ← show (ti_gr (xi.1 0) (xi.2.1 0) 0 (xi.2.2 0)) = I 0 from hg, ← hFF, ti_lowp]
            refine W.eq (g2 := F0 m 59 ls [.long ((fun _ => ti_Sodds I (nI 0) (nI nu) (nI de) pt) ((Value.ref (jh 0), u1.1, u1.2.1, u1.2.2.1, u1.2.2.2, xf.2.2.2.2.2.1, xf.2.2.2.2.2.2.1, xf.2.2.2.2.2.2.2.1, xf.2.2.2.2.2.2.2.2.1, xf.2.2.2.2.2.2.2.2.2)))]) (congrArg (fun z => F0 m 59 ls [.long z]) hv9) ?_
            exact hret _ ((Value.ref (jh 0), u1.1, u1.2.1, u1.2.2.1, u1.2.2.2, xf.2.2.2.2.2.1, xf.2.2.2.2.2.2.1, xf.2.2.2.2.2.2.2.1, xf.2.2.2.2.2.2.2.2.1, xf.2.2.2.2.2.2.2.2.2)) _ _ _ _ (hFo) hP trivial hS (Nat.le_of_ble_eq_true rfl) (Nat.le_of_ble_eq_true rfl) (fun hq hf9 => W.lret hx hb hr hq hf9 dX0_odds_59 hlk)
        · skip
          have hg := hJ 1 (by decide)
          have hlen := ti_JI_len hJ (show 1 < 2 by decide)
          have h6 := hxi.2.2 1
          have hci : ti_cl (nI 1) = 1 := ti_cl_nI (by decide)
          refine lv_bipush (v := nI 100) hx hb dX0_odds_29 (by decide) ?_
          refine lv_aload_n hx hb dX0_odds_31 rfl (lv_at hl 0 rfl) ?_
          refine va_get (v := .ref (ad 5)) hx hb hts in_X0 hown hK hP 0 rfl rfl 2 (by decide) (hts _ q239) (fun _ h => h) rfl dX0_odds_32 ?_
          refine lv_aload_n hx hb dX0_odds_35 rfl (lv_at hl 0 rfl) ?_
          refine va_get (v := .ref (ad 1)) hx hb hts in_X0 hown hK hP 0 rfl rfl 0 (by decide) (hts _ q237) (fun _ h => h) rfl dX0_odds_36 ?_
          refine lv_iload_n hx hb dX0_odds_39 rfl (lv_at hl 1 rfl) ?_
          refine tn_aald hx hb hK hP 1 5 rfl rfl (by omega) (by decide) dX0_odds_40 ?_
          by_cases hz41 : xi.2.2 1 = 0
          · skip
            refine ti_callX (ty_runV (As := [.ref (jh 1)]) (rest := [.int (nI 100)]) S (met_X2_looks_z l D E htr z0 (ad 5) (ad 6) (ad 7) (ad 8) (ad 9) (ad 10) xf.1 xf.2.1 xf.2.2.1 xf.2.2.2.1 xf.2.2.2.2.1 xf.2.2.2.2.2.1 xf.2.2.2.2.2.2.1 xf.2.2.2.2.2.2.2.1 xf.2.2.2.2.2.2.2.2.1 xf.2.2.2.2.2.2.2.2.2 (jh 1) (ju 1) (jv 1) (xi.1 1) (xi.2.1 1) (xi.2.2 1) hz41 H.size) (cwV 1 S.2.2.2.2 (lw_V q357 q358 q359 q68 q360) rfl rfl rfl (by decide +kernel) ⟨Nat.le_of_ble_eq_true rfl, Nat.le_of_ble_eq_true rfl⟩) (ti_preXV (xp := fun _ => True) hE hP hD hS rfl hZ hAz trivial [8, 9, 10, 11, 12, 13, 5, 6, 7] rfl rfl 8 rfl rfl) rfl rfl hl.1 rfl (lv_room (Nat.le_of_ble_eq_true rfl)) dX0_odds_41 ⟨Nat.le_of_ble_eq_true rfl, Nat.le_of_ble_eq_true rfl⟩) hP hD hS hA [8, 9, 10, 11, 12, 13, 5, 6, 7] rfl (fun _ => rfl) (fun _ => rfl) (fun _ _ _ h9 => absurd h9 id) (fun we H locs ce hpx hxx hFr hP hD hPe hnew hS hce hcv hcl => ?_)
            have hP : va_P D vwCl (ti_wMJF E ad dh du dv jh ju jv kh ku kv tx hi xi xf) H := ti_asP hP [.inl 0, .inl 1, .inl 2, .inl 3, .inl 4, .inr 6, .inr 7, .inr 8, .inr 0, .inr 1, .inr 2, .inr 3, .inr 4, .inr 5] rfl rfl rfl rfl
            have hD : va_D A (ti_wMJF E ad dh du dv jh ju jv kh ku kv tx hi xi xf) := ti_asD hD [.inl 0, .inl 1, .inl 2, .inl 3, .inl 4, .inr 6, .inr 7, .inr 8, .inr 0, .inr 1, .inr 2, .inr 3, .inr 4, .inr 5] rfl rfl rfl rfl
            refine vx_catch hown [] ⟨29, 59, 60, 150⟩ [] htab (fun z hz => absurd hz List.not_mem_nil) rfl (by decide) (hts _ q356) (hE.use q363 rfl rfl) hce hcv hcl ?_
            refine lv_astore (lv' := [(5, .ref we.1), (0, .ref (ad 0)), (1, .int (nI 1)), (2, .int (nI nu)), (3, .int (nI de)), (4, .int pt)]) hx hb dX0_odds_60 hl (by decide) rfl (fun ls hl => ?_)
            refine lv_ldc2 (v := (-9223372036854775808)) hx hb hown (hts _ q748) dX0_odds_62 ?_
            have hv9 : ((-9223372036854775808)) = (fun _ => ti_Sodds I (nI 1) (nI nu) (nI de) pt) xf := by rw [ti_Sodds, if_neg (by rw [c4, c12, show ti_bt pt = true from c22]; decide), hci, hcn, hcd, if_pos (by rw [hlen]; exact hz41)]; rfl
            refine W.eq (g2 := F0 m 65 ls [.long ((fun _ => ti_Sodds I (nI 1) (nI nu) (nI de) pt) xf)]) (congrArg (fun z => F0 m 65 ls [.long z]) hv9) ?_
            exact hret _ xf _ _ _ _ (hxf) hP trivial hS (Nat.le_of_ble_eq_true rfl) (Nat.le_of_ble_eq_true rfl) (fun hq hf9 => W.lret hx hb hr hq hf9 dX0_odds_65 hlk)
          · skip
            have hz1 : 0 < xi.2.2 1 := Nat.pos_of_ne_zero hz41
            have hnd9 : (ti_gr (xi.1 1) (xi.2.1 1) 0 (xi.2.2 1)).Nodup := by have h9 := hnd 1 (by decide); rw [← hJ 1 (by decide)] at h9; exact h9
            have hN9 : ti_r2 (ti_gr (xi.1 1) (xi.2.1 1) 0 (xi.2.2 1)) 9999 (List.range' 1 9) ≤ 6 := Nat.le_trans (ti_r2_le hnd9 9999) (by rw [ti_gr_len]; exact (hxi.2.2 1))
            refine ti_mV (As := [.ref (jh 1)]) (rest := [.int (nI 100)]) S hE hP hD hS hA [8, 9, 10, 11, 12, 13, 5, 6, 7] rfl (met_X2_looks l D E (ad 5) (ad 6) (ad 7) (ad 8) (ad 9) (ad 10) xf.1 xf.2.1 xf.2.2.1 xf.2.2.2.1 xf.2.2.2.2.1 xf.2.2.2.2.2.1 xf.2.2.2.2.2.2.1 xf.2.2.2.2.2.2.2.1 xf.2.2.2.2.2.2.2.2.1 xf.2.2.2.2.2.2.2.2.2 (jh 1) (ju 1) (jv 1) (xi.1 1) (xi.2.1 1) (xi.2.2 1) (hxi.2.2 1) (hxi.1 1) (hxi.2.1 1) hxf.1 hxf.2.1 hxf.2.2.1 hxf.2.2.2.1 hz1 hN9) rfl (fun _ => rfl) (lw_V q357 q358 q359 q68 q360) 1 rfl 8 rfl rfl (by decide +kernel) ⟨Nat.le_of_ble_eq_true rfl, Nat.le_of_ble_eq_true rfl⟩ hl.1 rfl (Nat.le_of_ble_eq_true rfl) ⟨Nat.le_of_ble_eq_true rfl, Nat.le_of_ble_eq_true rfl⟩ dX0_odds_41 (fun u1 H locs hu hP hD hS => ?_)
            obtain ⟨hF1, hF2, hF3, hF4, hF5⟩ := hu
            have hFF : ti_fr u1.1 u1.2.1 u1.2.2.1 0 u1.2.2.2 = ti_FF (ti_gr (xi.1 1) (xi.2.1 1) 0 (xi.2.2 1)) := by rw [hF1]; exact ti_fxm (by rw [ti_gr_len]; exact hz1) (ti_gr_9 (hxi.1 1) (hxi.2.1 1) 0 _)
            have hFo : ti_Fok (Value.ref (jh 1), u1.1, u1.2.1, u1.2.2.1, u1.2.2.2, xf.2.2.2.2.2.1, xf.2.2.2.2.2.2.1, xf.2.2.2.2.2.2.2.1, xf.2.2.2.2.2.2.2.2.1, xf.2.2.2.2.2.2.2.2.2) := ⟨hF2, hF3, hF4, hF5, hxf.2.2.2.2⟩
            have hP : va_P D vwCl (ti_wMJF E ad dh du dv jh ju jv kh ku kv tx hi xi (Value.ref (jh 1), u1.1, u1.2.1, u1.2.2.1, u1.2.2.2, xf.2.2.2.2.2.1, xf.2.2.2.2.2.2.1, xf.2.2.2.2.2.2.2.1, xf.2.2.2.2.2.2.2.2.1, xf.2.2.2.2.2.2.2.2.2)) H := ti_asP hP [.inl 0, .inl 1, .inl 2, .inl 3, .inl 4, .inr 6, .inr 7, .inr 8, .inr 0, .inr 1, .inr 2, .inr 3, .inr 4, .inr 5] rfl rfl rfl rfl
            have hD : va_D A (ti_wMJF E ad dh du dv jh ju jv kh ku kv tx hi xi (Value.ref (jh 1), u1.1, u1.2.1, u1.2.2.1, u1.2.2.2, xf.2.2.2.2.2.1, xf.2.2.2.2.2.2.1, xf.2.2.2.2.2.2.2.1, xf.2.2.2.2.2.2.2.2.1, xf.2.2.2.2.2.2.2.2.2)) := ti_asD hD [.inl 0, .inl 1, .inl 2, .inl 3, .inl 4, .inr 6, .inr 7, .inr 8, .inr 0, .inr 1, .inr 2, .inr 3, .inr 4, .inr 5] rfl rfl rfl rfl
            refine W.eq (g2 := F0 m 44 ls [.ref (ad 5), .int (nI 100)]) rfl ?_
            refine lv_iload_n hx hb dX0_odds_44 rfl (lv_at hl 2 rfl) ?_
            refine lv_iload_n hx hb dX0_odds_45 rfl (lv_at hl 3 rfl) ?_
            refine ti_pV (As := [.int (nI nu), .int (nI de)]) (rest := [.int (nI 100)]) (v := .int (nI (ti_lk (ti_fr u1.1 u1.2.1 u1.2.2.1 0 u1.2.2.2) nu de (List.range' 0 100) 0))) S hE hP [8, 9, 10, 11, 12, 13] (met_X2_lacks l D E (ad 5) (ad 6) (ad 7) (ad 8) (ad 9) (ad 10) (Value.ref (jh 1)) u1.1 u1.2.1 u1.2.2.1 u1.2.2.2 xf.2.2.2.2.2.1 xf.2.2.2.2.2.2.1 xf.2.2.2.2.2.2.2.1 xf.2.2.2.2.2.2.2.2.1 xf.2.2.2.2.2.2.2.2.2 hFo.1 hFo.2.1 hFo.2.2.1 hFo.2.2.2.1 nu de hnu hde) rfl (lw_V q762 q763 q764 q68 q765) 2 rfl 8 rfl rfl (by decide +kernel) ⟨Nat.le_of_ble_eq_true rfl, Nat.le_of_ble_eq_true rfl⟩ hl.1 rfl (Nat.le_of_ble_eq_true rfl) ⟨Nat.le_of_ble_eq_true rfl, Nat.le_of_ble_eq_true rfl⟩ dX0_odds_46 ?_
            have hlq := ti_lk_le (ti_fr u1.1 u1.2.1 u1.2.2.1 0 u1.2.2.2) nu de (List.range' 0 100) 0
            rw [List.length_range'] at hlq
            refine tn_sub hx hb dX0_odds_49 (by omega) ?_
            refine lv_i2l (v := lN (100 - (ti_lk (ti_fr u1.1 u1.2.1 u1.2.2.1 0 u1.2.2.2) nu de (List.range' 0 100) 0))) hx hb dX0_odds_50 (nI_l (by omega)) ?_
            refine lv_ldc2 (v := lN 100) hx hb hown (hts _ q849) dX0_odds_51 ?_
            refine lv_iload hx hb dX0_odds_54 (lv_at hl 4 rfl) ?_
            refine ti_pS (As := [.long (lN (100 - (ti_lk (ti_fr u1.1 u1.2.1 u1.2.2.1 0 u1.2.2.2) nu de (List.range' 0 100) 0))), .long (lN 100), .int pt]) (rest := []) (v := .long (lN ((if pt = 0 then 100 - (ti_lk (ti_fr u1.1 u1.2.1 u1.2.2.1 0 u1.2.2.2) nu de (List.range' 0 100) 0) else 100) / Nat.gcd (100 - (ti_lk (ti_fr u1.1 u1.2.1 u1.2.2.1 0 u1.2.2.2) nu de (List.range' 0 100) 0)) 100))) S hE hP [] (met_X0_lowest l D E (100 - (ti_lk (ti_fr u1.1 u1.2.1 u1.2.2.1 0 u1.2.2.2) nu de (List.range' 0 100) 0)) 100 (by omega) (by omega) (by omega) pt) rfl (lw_S q750 q751 q66 q752) 3 rfl (by decide +kernel) ⟨Nat.le_of_ble_eq_true rfl, Nat.le_of_ble_eq_true rfl⟩ hl.1 rfl (Nat.le_of_ble_eq_true rfl) ⟨Nat.le_of_ble_eq_true rfl, Nat.le_of_ble_eq_true rfl⟩ dX0_odds_56 ?_
            have hv9 : (lN ((if pt = 0 then 100 - (ti_lk (ti_fr u1.1 u1.2.1 u1.2.2.1 0 u1.2.2.2) nu de (List.range' 0 100) 0) else 100) / Nat.gcd (100 - (ti_lk (ti_fr u1.1 u1.2.1 u1.2.2.1 0 u1.2.2.2) nu de (List.range' 0 100) 0)) 100)) = (fun _ => ti_Sodds I (nI 1) (nI nu) (nI de) pt) ((Value.ref (jh 1), u1.1, u1.2.1, u1.2.2.1, u1.2.2.2, xf.2.2.2.2.2.1, xf.2.2.2.2.2.2.1, xf.2.2.2.2.2.2.2.1, xf.2.2.2.2.2.2.2.2.1, xf.2.2.2.2.2.2.2.2.2)) := by refine Eq.symm ?_; rw [ti_Sodds, if_neg (by rw [c4, c12, show ti_bt pt = true from c22]; decide), hci, hcn, hcd, if_neg (by rw [hlen]; exact hz41), ← show (ti_gr (xi.1 1) (xi.2.1 1) 0 (xi.2.2 1)) = I 1 from hg, ← hFF, ti_lowp]
            refine W.eq (g2 := F0 m 59 ls [.long ((fun _ => ti_Sodds I (nI 1) (nI nu) (nI de) pt) ((Value.ref (jh 1), u1.1, u1.2.1, u1.2.2.1, u1.2.2.2, xf.2.2.2.2.2.1, xf.2.2.2.2.2.2.1, xf.2.2.2.2.2.2.2.1, xf.2.2.2.2.2.2.2.2.1, xf.2.2.2.2.2.2.2.2.2)))]) (congrArg (fun z => F0 m 59 ls [.long z]) hv9) ?_
            exact hret _ ((Value.ref (jh 1), u1.1, u1.2.1, u1.2.2.1, u1.2.2.2, xf.2.2.2.2.2.1, xf.2.2.2.2.2.2.1, xf.2.2.2.2.2.2.2.1, xf.2.2.2.2.2.2.2.2.1, xf.2.2.2.2.2.2.2.2.2)) _ _ _ _ (hFo) hP trivial hS (Nat.le_of_ble_eq_true rfl) (Nat.le_of_ble_eq_true rfl) (fun hq hf9 => W.lret hx hb hr hq hf9 dX0_odds_59 hlk)
      · skip
        refine lv_ldc2 (v := (-9223372036854775808)) hx hb hown (hts _ q748) dX0_odds_25 ?_
        have hv9 : ((-9223372036854775808)) = (fun _ => ti_Sodds I (nI i) (nI nu) (nI de) pt) xf := by rw [ti_Sodds, if_pos (by rw [show ti_bt pt = false from c22]; simp)]; rfl
        refine W.eq (g2 := F0 m 28 ls [.long ((fun _ => ti_Sodds I (nI i) (nI nu) (nI de) pt) xf)]) (congrArg (fun z => F0 m 28 ls [.long z]) hv9) ?_
        exact hret _ xf _ _ _ _ (hxf) hP trivial hS (Nat.le_of_ble_eq_true rfl) (Nat.le_of_ble_eq_true rfl) (fun hq hf9 => W.lret hx hb hr hq hf9 dX0_odds_28 hlk)

theorem ti_pw_le : ∀ (g : List (Nat × Nat)) (i0 : Nat), (∀ q ∈ g, q.1 ≤ 9 ∧ q.2 ≤ 9) → ti_pw g i0 ≤ i0 + 18 * g.length
  | [], i0, _ => Nat.le_add_right _ _
  | q :: r, i0, h => by
    have h1 := h q List.mem_cons_self
    have := ti_pw_le r (i0 + (q.1 + q.2)) (fun z hz => h z (List.mem_cons_of_mem _ hz))
    show ti_pw r (i0 + (q.1 + q.2)) ≤ i0 + 18 * (r.length + 1)
    omega

set_option maxHeartbeats 1000000 in
theorem met_X0_mean (l : Launch) (D : va_G) (E : Nat → ClassId) (ad dh du dv jh ju jv kh ku kv : Nat → Nat) (tx : Nat) (hi : Bool) (xi : ti_Ti) (hxi : ti_Jok xi) (I : Nat → ti_GL) (hJ : ti_JI xi I) (v pt : Int32) : ti_MetP l D E yX0_mean cX0_mean 3 (some .long) 2 (ti_wMJ E ad dh du dv jh ju jv kh ku kv tx hi xi) [.ref (ad 0), .int v, .int pt] (some (.long (ti_Smean I v pt))) := by
  refine ti_pureJ (by decide) (Nat.le_of_ble_eq_true rfl) ?_
  intro p e s m below meth c H locs Q ls S hE hP hl hret
  have hx := S.1
  have hb := S.2.1
  have hown := S.2.2.2.1
  have hts := S.2.2.2.2
  have hK := hE.1
  have hl : lv_has ls 3 [(0, .ref (ad 0)), (1, .int v), (2, .int pt)] := hl
  refine lv_iload_n hx hb dX0_mean_0 rfl (lv_at hl 1 rfl) ?_
  refine ti_pS (As := [.int v]) (rest := []) (v := .int (ti_b (ti_bt v))) S hE hP [] (met_X0_isIdeal l D E v) rfl (lw_S q299 q300 q66 q301) 1 rfl (by decide +kernel) ⟨Nat.le_of_ble_eq_true rfl, Nat.le_of_ble_eq_true rfl⟩ hl.1 rfl (Nat.le_of_ble_eq_true rfl) ⟨Nat.le_refl _, Nat.le_refl _⟩ dX0_mean_1 ?_
  refine tb_eq (tgt := 28) hx hb dX0_mean_4 (by decide) (fun c4 => ?_) (fun c4 => ?_)
  · skip
    refine lv_ldc2 (v := (-9223372036854775808)) hx hb hown (hts _ q748) dX0_mean_28 ?_
    exact hret _ _ _ dX0_mean_31 (by rw [ti_Smean, if_pos (by rw [c4]; rfl)]; rfl)
  · skip
    obtain ⟨i, hi2, rfl⟩ := ti_bt_nat c4
    refine lv_iload_n hx hb dX0_mean_7 rfl (lv_at hl 2 rfl) ?_
    refine lv_iconst (v := nI 0) hx hb dX0_mean_8 (by decide) ?_
    refine lv_iconst (v := nI 1) hx hb dX0_mean_9 (by decide) ?_
    refine ti_pS (As := [.int pt, .int (nI 0), .int (nI 1)]) (rest := []) (v := .int (ti_b (ti_in pt (nI 0) (nI 1)))) S hE hP [] (met_X0_in l D E pt (nI 0) (nI 1)) rfl (lw_S q302 q303 q66 q304) 3 rfl (by decide +kernel) ⟨Nat.le_of_ble_eq_true rfl, Nat.le_of_ble_eq_true rfl⟩ hl.1 rfl (Nat.le_of_ble_eq_true rfl) ⟨Nat.le_refl _, Nat.le_refl _⟩ dX0_mean_10 ?_
    refine tb_eq (tgt := 28) hx hb dX0_mean_13 (by decide) (fun c13 => ?_) (fun c13 => ?_)
    · skip
      refine lv_ldc2 (v := (-9223372036854775808)) hx hb hown (hts _ q748) dX0_mean_28 ?_
      exact hret _ _ _ dX0_mean_31 (by rw [ti_Smean, if_pos (by rw [c4, show ti_bt pt = false from c13]; rfl)]; rfl)
    · skip
      rcases (show i = 0 ∨ i = 1 by omega) with rfl | rfl
      · skip
        have hg := hJ 0 (by decide)
        have hlen := ti_JI_len hJ (show 0 < 2 by decide)
        have h6 := hxi.2.2 0
        have hci : ti_cl (nI 0) = 0 := ti_cl_nI (by decide)
        refine lv_aload_n hx hb dX0_mean_16 rfl (lv_at hl 0 rfl) ?_
        refine va_get (v := .ref (ad 1)) hx hb hts in_X0 hown hK hP 0 rfl rfl 0 (by decide) (hts _ q237) (fun _ h => h) rfl dX0_mean_17 ?_
        refine lv_iload_n hx hb dX0_mean_20 rfl (lv_at hl 1 rfl) ?_
        refine tn_aald hx hb hK hP 1 5 rfl rfl (by omega) (by decide) dX0_mean_21 ?_
        refine va_getN (v := .int (nI (xi.2.2 0))) hx hb hts in_X1 hown hK hP 2 rfl rfl 2 (by decide) (hE.use q117 rfl rfl) (fun _ h => h) rfl dX0_mean_22 ?_
        refine tn_if_ne (tgt := 32) hx hb dX0_mean_25 (by decide) (by omega) (fun c25 => ?_) (fun c25 => ?_)
        · skip
          refine lv_aload_n hx hb dX0_mean_32 rfl (lv_at hl 0 rfl) ?_
          refine va_get (v := .ref (ad 1)) hx hb hts in_X0 hown hK hP 0 rfl rfl 0 (by decide) (hts _ q237) (fun _ h => h) rfl dX0_mean_33 ?_
          refine lv_iload_n hx hb dX0_mean_36 rfl (lv_at hl 1 rfl) ?_
          refine tn_aald hx hb hK hP 1 5 rfl rfl (by omega) (by decide) dX0_mean_37 ?_
          refine ti_pV (As := []) (rest := []) (v := .int (nI (ti_pw (ti_gr (xi.1 0) (xi.2.1 0) 0 (xi.2.2 0)) 0))) S hE hP [2, 3, 4] (met_X1_powers l D E (jh 0) (ju 0) (jv 0) (xi.1 0) (xi.2.1 0) (xi.2.2 0) (hxi.2.2 0) (hxi.1 0) (hxi.2.1 0) ) rfl (lw_V q854 q855 q856 q67 q857) 0 rfl 2 rfl rfl (by decide +kernel) ⟨Nat.le_of_ble_eq_true rfl, Nat.le_of_ble_eq_true rfl⟩ hl.1 rfl (Nat.le_of_ble_eq_true rfl) ⟨Nat.le_refl _, Nat.le_refl _⟩ dX0_mean_38 ?_
          have hpw := ti_pw_le (ti_gr (xi.1 0) (xi.2.1 0) 0 (xi.2.2 0)) 0 (ti_gr_9 (hxi.1 0) (hxi.2.1 0) 0 _)
          rw [ti_gr_len] at hpw
          refine lv_i2l (v := lN (ti_pw (ti_gr (xi.1 0) (xi.2.1 0) 0 (xi.2.2 0)) 0)) hx hb dX0_mean_41 (nI_l (by omega)) ?_
          refine lv_aload_n hx hb dX0_mean_42 rfl (lv_at hl 0 rfl) ?_
          refine va_get (v := .ref (ad 1)) hx hb hts in_X0 hown hK hP 0 rfl rfl 0 (by decide) (hts _ q237) (fun _ h => h) rfl dX0_mean_43 ?_
          refine lv_iload_n hx hb dX0_mean_46 rfl (lv_at hl 1 rfl) ?_
          refine tn_aald hx hb hK hP 1 5 rfl rfl (by omega) (by decide) dX0_mean_47 ?_
          refine va_getN (v := .int (nI (xi.2.2 0))) hx hb hts in_X1 hown hK hP 2 rfl rfl 2 (by decide) (hE.use q117 rfl rfl) (fun _ h => h) rfl dX0_mean_48 ?_
          refine lv_i2l (v := lN (xi.2.2 0)) hx hb dX0_mean_51 (nI_l (by omega)) ?_
          refine lv_iload_n hx hb dX0_mean_52 rfl (lv_at hl 2 rfl) ?_
          refine ti_pS (As := [.long (lN (ti_pw (ti_gr (xi.1 0) (xi.2.1 0) 0 (xi.2.2 0)) 0)), .long (lN (xi.2.2 0)), .int pt]) (rest := []) (v := .long (lN ((if pt = 0 then ti_pw (ti_gr (xi.1 0) (xi.2.1 0) 0 (xi.2.2 0)) 0 else xi.2.2 0) / Nat.gcd (ti_pw (ti_gr (xi.1 0) (xi.2.1 0) 0 (xi.2.2 0)) 0) (xi.2.2 0)))) S hE hP [] (met_X0_lowest l D E (ti_pw (ti_gr (xi.1 0) (xi.2.1 0) 0 (xi.2.2 0)) 0) (xi.2.2 0) (by omega) (by omega) (by omega) pt) rfl (lw_S q750 q751 q66 q752) 3 rfl (by decide +kernel) ⟨Nat.le_of_ble_eq_true rfl, Nat.le_of_ble_eq_true rfl⟩ hl.1 rfl (Nat.le_of_ble_eq_true rfl) ⟨Nat.le_refl _, Nat.le_refl _⟩ dX0_mean_53 ?_
          exact hret _ _ _ dX0_mean_56 (by refine Eq.symm ?_; rw [ti_Smean, if_neg (by rw [c4, show ti_bt pt = true from c13]; decide), hci, if_neg (by rw [hlen]; exact c25), hlen, ← show (ti_gr (xi.1 0) (xi.2.1 0) 0 (xi.2.2 0)) = I 0 from hg, ti_lowp])
        · skip
          refine lv_ldc2 (v := (-9223372036854775808)) hx hb hown (hts _ q748) dX0_mean_28 ?_
          exact hret _ _ _ dX0_mean_31 (by rw [ti_Smean, if_neg (by rw [c4, show ti_bt pt = true from c13]; decide), hci, if_pos (by rw [hlen]; exact c25)]; rfl)
      · skip
        have hg := hJ 1 (by decide)
        have hlen := ti_JI_len hJ (show 1 < 2 by decide)
        have h6 := hxi.2.2 1
        have hci : ti_cl (nI 1) = 1 := ti_cl_nI (by decide)
        refine lv_aload_n hx hb dX0_mean_16 rfl (lv_at hl 0 rfl) ?_
        refine va_get (v := .ref (ad 1)) hx hb hts in_X0 hown hK hP 0 rfl rfl 0 (by decide) (hts _ q237) (fun _ h => h) rfl dX0_mean_17 ?_
        refine lv_iload_n hx hb dX0_mean_20 rfl (lv_at hl 1 rfl) ?_
        refine tn_aald hx hb hK hP 1 5 rfl rfl (by omega) (by decide) dX0_mean_21 ?_
        refine va_getN (v := .int (nI (xi.2.2 1))) hx hb hts in_X1 hown hK hP 5 rfl rfl 2 (by decide) (hE.use q117 rfl rfl) (fun _ h => h) rfl dX0_mean_22 ?_
        refine tn_if_ne (tgt := 32) hx hb dX0_mean_25 (by decide) (by omega) (fun c25 => ?_) (fun c25 => ?_)
        · skip
          refine lv_aload_n hx hb dX0_mean_32 rfl (lv_at hl 0 rfl) ?_
          refine va_get (v := .ref (ad 1)) hx hb hts in_X0 hown hK hP 0 rfl rfl 0 (by decide) (hts _ q237) (fun _ h => h) rfl dX0_mean_33 ?_
          refine lv_iload_n hx hb dX0_mean_36 rfl (lv_at hl 1 rfl) ?_
          refine tn_aald hx hb hK hP 1 5 rfl rfl (by omega) (by decide) dX0_mean_37 ?_
          refine ti_pV (As := []) (rest := []) (v := .int (nI (ti_pw (ti_gr (xi.1 1) (xi.2.1 1) 0 (xi.2.2 1)) 0))) S hE hP [5, 6, 7] (met_X1_powers l D E (jh 1) (ju 1) (jv 1) (xi.1 1) (xi.2.1 1) (xi.2.2 1) (hxi.2.2 1) (hxi.1 1) (hxi.2.1 1) ) rfl (lw_V q854 q855 q856 q67 q857) 0 rfl 5 rfl rfl (by decide +kernel) ⟨Nat.le_of_ble_eq_true rfl, Nat.le_of_ble_eq_true rfl⟩ hl.1 rfl (Nat.le_of_ble_eq_true rfl) ⟨Nat.le_refl _, Nat.le_refl _⟩ dX0_mean_38 ?_
          have hpw := ti_pw_le (ti_gr (xi.1 1) (xi.2.1 1) 0 (xi.2.2 1)) 0 (ti_gr_9 (hxi.1 1) (hxi.2.1 1) 0 _)
          rw [ti_gr_len] at hpw
          refine lv_i2l (v := lN (ti_pw (ti_gr (xi.1 1) (xi.2.1 1) 0 (xi.2.2 1)) 0)) hx hb dX0_mean_41 (nI_l (by omega)) ?_
          refine lv_aload_n hx hb dX0_mean_42 rfl (lv_at hl 0 rfl) ?_
          refine va_get (v := .ref (ad 1)) hx hb hts in_X0 hown hK hP 0 rfl rfl 0 (by decide) (hts _ q237) (fun _ h => h) rfl dX0_mean_43 ?_
          refine lv_iload_n hx hb dX0_mean_46 rfl (lv_at hl 1 rfl) ?_
          refine tn_aald hx hb hK hP 1 5 rfl rfl (by omega) (by decide) dX0_mean_47 ?_
          refine va_getN (v := .int (nI (xi.2.2 1))) hx hb hts in_X1 hown hK hP 5 rfl rfl 2 (by decide) (hE.use q117 rfl rfl) (fun _ h => h) rfl dX0_mean_48 ?_
          refine lv_i2l (v := lN (xi.2.2 1)) hx hb dX0_mean_51 (nI_l (by omega)) ?_
          refine lv_iload_n hx hb dX0_mean_52 rfl (lv_at hl 2 rfl) ?_
          refine ti_pS (As := [.long (lN (ti_pw (ti_gr (xi.1 1) (xi.2.1 1) 0 (xi.2.2 1)) 0)), .long (lN (xi.2.2 1)), .int pt]) (rest := []) (v := .long (lN ((if pt = 0 then ti_pw (ti_gr (xi.1 1) (xi.2.1 1) 0 (xi.2.2 1)) 0 else xi.2.2 1) / Nat.gcd (ti_pw (ti_gr (xi.1 1) (xi.2.1 1) 0 (xi.2.2 1)) 0) (xi.2.2 1)))) S hE hP [] (met_X0_lowest l D E (ti_pw (ti_gr (xi.1 1) (xi.2.1 1) 0 (xi.2.2 1)) 0) (xi.2.2 1) (by omega) (by omega) (by omega) pt) rfl (lw_S q750 q751 q66 q752) 3 rfl (by decide +kernel) ⟨Nat.le_of_ble_eq_true rfl, Nat.le_of_ble_eq_true rfl⟩ hl.1 rfl (Nat.le_of_ble_eq_true rfl) ⟨Nat.le_refl _, Nat.le_refl _⟩ dX0_mean_53 ?_
          exact hret _ _ _ dX0_mean_56 (by refine Eq.symm ?_; rw [ti_Smean, if_neg (by rw [c4, show ti_bt pt = true from c13]; decide), hci, if_neg (by rw [hlen]; exact c25), hlen, ← show (ti_gr (xi.1 1) (xi.2.1 1) 0 (xi.2.2 1)) = I 1 from hg, ti_lowp])
        · skip
          refine lv_ldc2 (v := (-9223372036854775808)) hx hb hown (hts _ q748) dX0_mean_28 ?_
          exact hret _ _ _ dX0_mean_31 (by rw [ti_Smean, if_neg (by rw [c4, show ti_bt pt = true from c13]; decide), hci, if_pos (by rw [hlen]; exact c25)]; rfl)

set_option maxHeartbeats 1000000 in
theorem met_X0_both (l : Launch) (D : va_G) (E : Nat → ClassId) (ad dh du dv jh ju jv kh ku kv : Nat → Nat) (tx : Nat) (hi : Bool) (xi : ti_Ti) (hxi : ti_Jok xi) (I : Nat → ti_GL) (hJ : ti_JI xi I) : ti_MetP l D E yX0_both cX0_both 1 (some .int) 0 (ti_wMJ E ad dh du dv jh ju jv kh ku kv tx hi xi) [.ref (ad 0)] (some (.int (ti_both I))) := by
  refine ti_pureI (by decide) (Nat.le_of_ble_eq_true rfl) ?_
  intro p e s m below meth c H locs Q ls S hE hP hl hret
  have hx := S.1
  have hb := S.2.1
  have hown := S.2.2.2.1
  have hts := S.2.2.2.2
  have hK := hE.1
  have hl : lv_has ls 1 [(0, .ref (ad 0))] := hl
  refine lv_aload_n hx hb dX0_both_0 rfl (lv_at hl 0 rfl) ?_
  refine va_get (v := .ref (ad 1)) hx hb hts in_X0 hown hK hP 0 rfl rfl 0 (by decide) (hts _ q237) (fun _ h => h) rfl dX0_both_1 ?_
  refine lv_iconst (v := nI 0) hx hb dX0_both_4 (by decide) ?_
  refine tn_aald hx hb hK hP 1 5 rfl rfl (by omega) (by decide) dX0_both_5 ?_
  refine va_getN (v := .int (nI (xi.2.2 0))) hx hb hts in_X1 hown hK hP 2 rfl rfl 2 (by decide) (hE.use q117 rfl rfl) (fun _ h => h) rfl dX0_both_6 ?_
  refine lv_aload_n hx hb dX0_both_9 rfl (lv_at hl 0 rfl) ?_
  refine va_get (v := .ref (ad 1)) hx hb hts in_X0 hown hK hP 0 rfl rfl 0 (by decide) (hts _ q237) (fun _ h => h) rfl dX0_both_10 ?_
  refine lv_iconst (v := nI 1) hx hb dX0_both_13 (by decide) ?_
  refine tn_aald hx hb hK hP 1 5 rfl rfl (by omega) (by decide) dX0_both_14 ?_
  refine va_getN (v := .int (nI (xi.2.2 1))) hx hb hts in_X1 hown hK hP 5 rfl rfl 2 (by decide) (hE.use q117 rfl rfl) (fun _ h => h) rfl dX0_both_15 ?_
  refine tn_add hx hb dX0_both_18 ?_
  have b18 : (xi.2.2 0) + (xi.2.2 1) ≤ 12 := Nat.add_le_add (hxi.2.2 0) (hxi.2.2 1)
  exact hret _ _ _ dX0_both_19 (by unfold ti_both; rw [ti_JI_len hJ (by decide), ti_JI_len hJ (by decide)])
