/-! TermIdealsModel: jumps told, heights (printed by w_model4.py) -/
set_option maxRecDepth 100000

set_option maxHeartbeats 1000000 in
theorem met_X7_tellsJumps (l : Launch) (D : va_G) (E : Nat → ClassId) (ad : Nat → Nat) (xg : ti_Mg) (xd : ti_Md) (xt : ti_Mt) (xf : ti_Mf) (xj : ti_Mj) (xh : ti_Mh) (xs : ti_Ms) (xv : ti_Mv) (xb : ti_Mb) (xq : ti_Mq) (xk : ti_Mk) (hxf : ti_Mfok xf) (hxj : ti_Mjok xj) : ti_MetM (σ := ti_Mj) l D E yX7_tellsJumps cX7_tellsJumps 4 none 2 0 0 (ti_wM E ad xg xd xt xf xj xh xs xv xb xq xk) [.ref (ad 0)] (fun u => ti_wM E ad xg xd xt xf u xh xs xv xb xq xk) (fun _ => none) (fun u => ti_gr u.2.1 u.2.2 0 u.1 = ti_ml (ti_F xf) (List.range' 0 100) [] ∧ ti_Mjok u) := by
  refine ti_mutV (σ := ti_Mj) (by decide) (Nat.le_of_ble_eq_true rfl) ?_
  intro p e s m below meth c H H0 A Q ls S hE hP hD hS hA hinit hl hret
  have hx := S.1
  have hb := S.2.1
  have hown := S.2.2.2.1
  have hts := S.2.2.2.2
  have hK := hE.1
  have hl : lv_has ls 4 [(0, .ref (ad 0))] := hl
  have hf64 := hxf.1
  refine lv_aload_n hx hb dX7_tellsJumps_0 rfl (lv_at hl 0 rfl) ?_
  refine lv_iconst (v := nI 0) hx hb dX7_tellsJumps_1 (by decide) ?_
  refine va_put (ty := .int) hx hb hts in_X7 tyX7 tyX7_ok nmX7 hown hK hP hD hS 0 rfl rfl 16 (by decide) (hts _ q1104) (fun _ h => h) rfl rfl rfl rfl (Nat.le_of_ble_eq_true rfl) dX7_tellsJumps_2 (fun H locs hP hD hS => ?_)
  have hP : va_P D vwCl (ti_wM E ad xg xd xt xf (0, xj.2.1, xj.2.2) xh xs xv xb xq xk) H := hP
  have hD : va_D A (ti_wM E ad xg xd xt xf (0, xj.2.1, xj.2.2) xh xs xv xb xq xk) := hD
  refine lv_iconst (v := nI 0) hx hb dX7_tellsJumps_5 (by decide) ?_
  refine lv_istore_n (lv' := [(1, .int (nI 0)), (0, .ref (ad 0))]) hx hb dX7_tellsJumps_6 rfl hl (by decide) rfl (fun ls hl => ?_)
  have L7 : ∀ (N : Nat) (k : Nat) (y : ti_Mj) (ls : Array Slot) (H : Heap) (locs : List Loc), va_P D vwCl (ti_wM E ad xg xd xt xf y xh xs xv xb xq xk) H → va_D A (ti_wM E ad xg xd xt xf y xh xs xv xb xq xk) → va_S A H0 H locs → (100 - k) < N → (k ≤ 100) → (y.1 ≤ k) → (ti_Mjok y) → (ti_ml (ti_F xf) (List.range' 0 100) [] = ti_ml (ti_F xf) (List.range' k (100 - k)) (ti_gr y.2.1 y.2.2 0 y.1)) → lv_has ls 4 [(0, .ref (ad 0)), (1, .int (nI k))] → W p l e (ti_rm 2 0 0) s m ([.ref (ad 0)] : List Value).toArray below meth c H locs 0 0 Q (F0 m 7 ls []) := by
    intro N
    induction N with
    | zero => intro k y ls H locs hP hD hS h0; exact absurd h0 (Nat.not_lt_zero _)
    | succ N ih7 =>
      intro k y ls H locs hP hD hS hN hkn hyk hok hv hl
      refine lv_iload_n hx hb dX7_tellsJumps_7 rfl (lv_at hl 1 rfl) ?_
      refine lv_bipush (v := nI 100) hx hb dX7_tellsJumps_8 (by decide) ?_
      refine tn_ge (tgt := 83) hx hb dX7_tellsJumps_10 (by decide) (by omega) (by omega) (fun c10 => ?_) (fun c10 => ?_)
      · skip
        rw [show 100 - k = 0 by omega] at hv
        exact hret y _ _ _ _ _ _ dX7_tellsJumps_83 (⟨hv.symm, hok⟩) hP hS (Nat.le_refl _) (Nat.le_refl _)
      · skip
        obtain ⟨m9, hm9⟩ : ∃ m9, 100 - k = m9 + 1 := ⟨100 - k - 1, by omega⟩
        rw [hm9, show List.range' k (m9 + 1) = k :: List.range' (k + 1) m9 from rfl] at hv
        have hjf : ti_jf (k / 10) (k % 10) (ti_F xf) (0, 0) = ti_jp (k / 10) (k % 10) xf.2.1 xf.2.2.1 xf.2.2.2 (ti_jm (k / 10) (k % 10) xf.2.1 xf.2.2.1 xf.2.2.2 xf.1 0 none) := ti_jm_jf (k / 10) (k % 10) xf.2.1 xf.2.2.1 xf.2.2.2 xf.1 0 none (fun f hf => by cases hf)
        refine lv_aload_n hx hb dX7_tellsJumps_13 rfl (lv_at hl 0 rfl) ?_
        refine lv_iload_n hx hb dX7_tellsJumps_14 rfl (lv_at hl 1 rfl) ?_
        refine lv_bipush (v := nI 10) hx hb dX7_tellsJumps_15 (by decide) ?_
        refine tn_div hx hb dX7_tellsJumps_17 (by omega) (by omega) (by omega) ?_
        refine lv_iload_n hx hb dX7_tellsJumps_18 rfl (lv_at hl 1 rfl) ?_
        refine lv_bipush (v := nI 10) hx hb dX7_tellsJumps_19 (by decide) ?_
        refine tn_rem hx hb dX7_tellsJumps_21 (by omega) (by omega) (by omega) ?_
        refine ti_pVa (As := [.int (nI (k / 10)), .int (nI (k % 10))]) (rest := []) (v := .int (ti_pm (ti_jm (k / 10) (k % 10) xf.2.1 xf.2.2.1 xf.2.2.2 xf.1 0 none))) S hE hP (met_X7_jumpFace l D E ad xg xd xt xf y xh xs xv xb xq xk hxf (k / 10) (k % 10) (by omega) (by omega)) (lw_V q1383 q1385 qs47 q73 q1386) 2 rfl 0 rfl rfl (by decide +kernel) ⟨Nat.le_of_ble_eq_true rfl, Nat.le_of_ble_eq_true rfl⟩ hl.1 rfl (Nat.le_of_ble_eq_true rfl) ⟨Nat.le_refl _, Nat.le_refl _⟩ dX7_tellsJumps_22 ?_
        refine lv_istore_n (lv' := [(2, .int (ti_pm (ti_jm (k / 10) (k % 10) xf.2.1 xf.2.2.1 xf.2.2.2 xf.1 0 none))), (0, .ref (ad 0)), (1, .int (nI k))]) hx hb dX7_tellsJumps_25 rfl hl (by decide) rfl (fun ls hl => ?_)
        refine lv_iload_n hx hb dX7_tellsJumps_26 rfl (lv_at hl 0 rfl) ?_
        refine lv_iconst (v := (-1)) hx hb dX7_tellsJumps_27 (by decide) ?_
        refine lv_icmp_eq (tgt := 77) hx hb dX7_tellsJumps_28 (by decide) (fun c28 => ?_) (fun c28 => ?_)
        · skip
          refine lv_iinc (v := nI (k + 1)) (lv' := [(1, .int (nI (k + 1))), (2, .int (ti_pm (ti_jm (k / 10) (k % 10) xf.2.1 xf.2.2.1 xf.2.2.2 xf.1 0 none))), (0, .ref (ad 0))]) hx hb dX7_tellsJumps_77 hl (k := 2) rfl (nI_1 k) (by decide) rfl (fun ls hl => ?_)
          refine lv_goto (tgt := 7) hx hb dX7_tellsJumps_80 (by decide) ?_
          exact ih7 (k + 1) y _ _ _ hP hD hS (by omega) (by omega) (by omega) (hok) (by rw [hv, ti_ml, hjf, (ti_pm_n1 (fun j hj => by have := (ti_jm_lt _ _ _ _ _ _ _ _ (fun f hf => by cases hf) j hj).1; omega)).mp c28, if_pos (show (ti_jp _ _ _ _ _ none).2 = 0 from rfl), show 100 - (k + 1) = m9 by omega]) (lv_sub hl [2, 0] rfl)
        · skip
          obtain ⟨f9, ho9⟩ : ∃ f9, ti_jm (k / 10) (k % 10) xf.2.1 xf.2.2.1 xf.2.2.2 xf.1 0 none = some f9 := by
            cases ho : ti_jm (k / 10) (k % 10) xf.2.1 xf.2.2.1 xf.2.2.2 xf.1 0 none with
            | none => rw [ho] at c28; exact absurd rfl c28
            | some f9 => exact ⟨f9, rfl⟩
          have hf9 := ti_jm_lt _ _ _ _ _ _ _ _ (fun f hf => by cases hf) f9 ho9
          rw [ho9] at hl
          have hl : lv_has ls 4 [(2, .int (nI f9)), (0, .ref (ad 0)), (1, .int (nI k))] := hl
          have hwf : ti_wt (xf.2.1 f9, xf.2.2.1 f9, xf.2.2.2 f9) (k / 10) (k % 10) ≤ 180 := ti_wt_le (hxf.2.1 f9) (hxf.2.2.1 f9) (by omega) (by omega)
          have hlf := hxf.2.2.2 f9
          have hg1 := Nat.div_le_self (ti_wt (xf.2.1 f9, xf.2.2.1 f9, xf.2.2.2 f9) (k / 10) (k % 10)) (Nat.gcd (ti_wt (xf.2.1 f9, xf.2.2.1 f9, xf.2.2.2 f9) (k / 10) (k % 10)) (xf.2.2.2 f9))
          have hg2 := Nat.div_le_self (xf.2.2.2 f9) (Nat.gcd (ti_wt (xf.2.1 f9, xf.2.2.1 f9, xf.2.2.2 f9) (k / 10) (k % 10)) (xf.2.2.2 f9))
          refine lv_aload_n hx hb dX7_tellsJumps_31 rfl (lv_at hl 1 rfl) ?_
          refine lv_iload_n hx hb dX7_tellsJumps_32 rfl (lv_at hl 0 rfl) ?_
          refine lv_iload_n hx hb dX7_tellsJumps_33 rfl (lv_at hl 2 rfl) ?_
          refine lv_bipush (v := nI 10) hx hb dX7_tellsJumps_34 (by decide) ?_
          refine tn_div hx hb dX7_tellsJumps_36 (by omega) (by omega) (by omega) ?_
          refine lv_iload_n hx hb dX7_tellsJumps_37 rfl (lv_at hl 2 rfl) ?_
          refine lv_bipush (v := nI 10) hx hb dX7_tellsJumps_38 (by decide) ?_
          refine tn_rem hx hb dX7_tellsJumps_40 (by omega) (by omega) (by omega) ?_
          refine ti_pVa (As := [.int (nI f9), .int (nI (k / 10)), .int (nI (k % 10))]) (rest := []) (v := .int (nI (ti_wt (xf.2.1 f9, xf.2.2.1 f9, xf.2.2.2 f9) (k / 10) (k % 10)))) S hE hP (met_X7_heavy l D E ad xg xd xt xf y xh xs xv xb xq xk hxf f9 (by omega) (k / 10) (k % 10) (by omega) (by omega)) (lw_V q1387 q1389 qs48 q73 q1390) 3 rfl 0 rfl rfl (by decide +kernel) ⟨Nat.le_of_ble_eq_true rfl, Nat.le_of_ble_eq_true rfl⟩ hl.1 rfl (Nat.le_of_ble_eq_true rfl) ⟨Nat.le_refl _, Nat.le_refl _⟩ dX7_tellsJumps_41 ?_
          refine lv_istore_n (lv' := [(3, .int (nI (ti_wt (xf.2.1 f9, xf.2.2.1 f9, xf.2.2.2 f9) (k / 10) (k % 10)))), (2, .int (nI f9)), (0, .ref (ad 0)), (1, .int (nI k))]) hx hb dX7_tellsJumps_44 rfl hl (by decide) rfl (fun ls hl => ?_)
          refine lv_aload_n hx hb dX7_tellsJumps_45 rfl (lv_at hl 2 rfl) ?_
          refine lv_iload_n hx hb dX7_tellsJumps_46 rfl (lv_at hl 0 rfl) ?_
          refine lv_i2l (v := lN (ti_wt (xf.2.1 f9, xf.2.2.1 f9, xf.2.2.2 f9) (k / 10) (k % 10))) hx hb dX7_tellsJumps_47 (nI_l (by omega)) ?_
          refine lv_aload_n hx hb dX7_tellsJumps_48 rfl (lv_at hl 2 rfl) ?_
          refine va_get (v := .ref (ad 12)) hx hb hts in_X7 hown hK hP 0 rfl rfl 15 (by decide) (hts _ q1103) (fun _ h => h) rfl dX7_tellsJumps_49 ?_
          refine lv_iload_n hx hb dX7_tellsJumps_52 rfl (lv_at hl 1 rfl) ?_
          refine tn_iald (f := xf.2.2.2) hx hb hK hP 12 0 rfl rfl (by omega) (by decide) dX7_tellsJumps_53 ?_
          have b53 := hxf.2.2.2 f9
          refine lv_i2l (v := lN (xf.2.2.2 f9)) hx hb dX7_tellsJumps_54 (nI_l (by omega)) ?_
          refine lv_iconst (v := nI 0) hx hb dX7_tellsJumps_55 (by decide) ?_
          refine ti_pS (As := [.long (lN (ti_wt (xf.2.1 f9, xf.2.2.1 f9, xf.2.2.2 f9) (k / 10) (k % 10))), .long (lN (xf.2.2.2 f9)), .int (nI 0)]) (rest := [.ref (ad 0)]) (v := .long (lN ((ti_wt (xf.2.1 f9, xf.2.2.1 f9, xf.2.2.2 f9) (k / 10) (k % 10)) / Nat.gcd (ti_wt (xf.2.1 f9, xf.2.2.1 f9, xf.2.2.2 f9) (k / 10) (k % 10)) (xf.2.2.2 f9)))) S hE hP [] (met_X7_part0 l D E (ti_wt (xf.2.1 f9, xf.2.2.1 f9, xf.2.2.2 f9) (k / 10) (k % 10)) (xf.2.2.2 f9) (by omega) (by omega) hf9.2) rfl (lw_S q1391 q1392 q73 q1393) 3 rfl (by decide +kernel) ⟨Nat.le_of_ble_eq_true rfl, Nat.le_of_ble_eq_true rfl⟩ hl.1 rfl (Nat.le_of_ble_eq_true rfl) ⟨Nat.le_refl _, Nat.le_refl _⟩ dX7_tellsJumps_56 ?_
          refine lv_l2i (v := nI ((ti_wt (xf.2.1 f9, xf.2.2.1 f9, xf.2.2.2 f9) (k / 10) (k % 10)) / Nat.gcd (ti_wt (xf.2.1 f9, xf.2.2.1 f9, xf.2.2.2 f9) (k / 10) (k % 10)) (xf.2.2.2 f9))) hx hb dX7_tellsJumps_59 (lN_i ((ti_wt (xf.2.1 f9, xf.2.2.1 f9, xf.2.2.2 f9) (k / 10) (k % 10)) / Nat.gcd (ti_wt (xf.2.1 f9, xf.2.2.1 f9, xf.2.2.2 f9) (k / 10) (k % 10)) (xf.2.2.2 f9))) ?_
          refine lv_iload_n hx hb dX7_tellsJumps_60 rfl (lv_at hl 0 rfl) ?_
          refine lv_i2l (v := lN (ti_wt (xf.2.1 f9, xf.2.2.1 f9, xf.2.2.2 f9) (k / 10) (k % 10))) hx hb dX7_tellsJumps_61 (nI_l (by omega)) ?_
          refine lv_aload_n hx hb dX7_tellsJumps_62 rfl (lv_at hl 2 rfl) ?_
          refine va_get (v := .ref (ad 12)) hx hb hts in_X7 hown hK hP 0 rfl rfl 15 (by decide) (hts _ q1103) (fun _ h => h) rfl dX7_tellsJumps_63 ?_
          refine lv_iload_n hx hb dX7_tellsJumps_66 rfl (lv_at hl 1 rfl) ?_
          refine tn_iald (f := xf.2.2.2) hx hb hK hP 12 0 rfl rfl (by omega) (by decide) dX7_tellsJumps_67 ?_
          have b67 := hxf.2.2.2 f9
          refine lv_i2l (v := lN (xf.2.2.2 f9)) hx hb dX7_tellsJumps_68 (nI_l (by omega)) ?_
          refine lv_iconst (v := nI 1) hx hb dX7_tellsJumps_69 (by decide) ?_
          refine ti_pS (As := [.long (lN (ti_wt (xf.2.1 f9, xf.2.2.1 f9, xf.2.2.2 f9) (k / 10) (k % 10))), .long (lN (xf.2.2.2 f9)), .int (nI 1)]) (rest := [.int (nI ((ti_wt (xf.2.1 f9, xf.2.2.1 f9, xf.2.2.2 f9) (k / 10) (k % 10)) / Nat.gcd (ti_wt (xf.2.1 f9, xf.2.2.1 f9, xf.2.2.2 f9) (k / 10) (k % 10)) (xf.2.2.2 f9))), .ref (ad 0)]) (v := .long (lN (xf.2.2.2 f9 / Nat.gcd (ti_wt (xf.2.1 f9, xf.2.2.1 f9, xf.2.2.2 f9) (k / 10) (k % 10)) (xf.2.2.2 f9)))) S hE hP [] (met_X7_part1 l D E (ti_wt (xf.2.1 f9, xf.2.2.1 f9, xf.2.2.2 f9) (k / 10) (k % 10)) (xf.2.2.2 f9) (by omega) (by omega) hf9.2) rfl (lw_S q1391 q1392 q73 q1393) 3 rfl (by decide +kernel) ⟨Nat.le_of_ble_eq_true rfl, Nat.le_of_ble_eq_true rfl⟩ hl.1 rfl (Nat.le_of_ble_eq_true rfl) ⟨Nat.le_refl _, Nat.le_refl _⟩ dX7_tellsJumps_70 ?_
          refine lv_l2i (v := nI (xf.2.2.2 f9 / Nat.gcd (ti_wt (xf.2.1 f9, xf.2.2.1 f9, xf.2.2.2 f9) (k / 10) (k % 10)) (xf.2.2.2 f9))) hx hb dX7_tellsJumps_73 (lN_i (xf.2.2.2 f9 / Nat.gcd (ti_wt (xf.2.1 f9, xf.2.2.1 f9, xf.2.2.2 f9) (k / 10) (k % 10)) (xf.2.2.2 f9))) ?_
          refine ti_mVa (As := [.int (nI ((ti_wt (xf.2.1 f9, xf.2.2.1 f9, xf.2.2.2 f9) (k / 10) (k % 10)) / Nat.gcd (ti_wt (xf.2.1 f9, xf.2.2.1 f9, xf.2.2.2 f9) (k / 10) (k % 10)) (xf.2.2.2 f9))), .int (nI (xf.2.2.2 f9 / Nat.gcd (ti_wt (xf.2.1 f9, xf.2.2.1 f9, xf.2.2.2 f9) (k / 10) (k % 10)) (xf.2.2.2 f9)))]) (rest := []) S hE hP hD hS hA (met_X7_comesJump l D E ad xg xd xt xf y xh xs xv xb xq xk hok ((ti_wt (xf.2.1 f9, xf.2.2.1 f9, xf.2.2.2 f9) (k / 10) (k % 10)) / Nat.gcd (ti_wt (xf.2.1 f9, xf.2.2.1 f9, xf.2.2.2 f9) (k / 10) (k % 10)) (xf.2.2.2 f9)) (xf.2.2.2 f9 / Nat.gcd (ti_wt (xf.2.1 f9, xf.2.2.1 f9, xf.2.2.2 f9) (k / 10) (k % 10)) (xf.2.2.2 f9)) (by omega) (by omega) (by omega)) (fun _ => rfl) (lw_V q1394 q1396 qs49 q73 q1397) 2 rfl 0 rfl rfl (by decide +kernel) ⟨Nat.le_of_ble_eq_true rfl, Nat.le_of_ble_eq_true rfl⟩ hl.1 rfl (Nat.le_of_ble_eq_true rfl) ⟨Nat.le_refl _, Nat.le_refl _⟩ dX7_tellsJumps_74 (fun uj H locs hu hP hD hS => ?_)
          obtain ⟨uj1, uj2, uj3⟩ := hu
          have hP : va_P D vwCl (ti_wM E ad xg xd xt xf uj xh xs xv xb xq xk) H := hP
          have hD : va_D A (ti_wM E ad xg xd xt xf uj xh xs xv xb xq xk) := hD
          refine W.eq (g2 := F0 m 77 ls []) rfl ?_
          refine lv_iinc (v := nI (k + 1)) (lv' := [(1, .int (nI (k + 1))), (3, .int (nI (ti_wt (xf.2.1 f9, xf.2.2.1 f9, xf.2.2.2 f9) (k / 10) (k % 10)))), (2, .int (nI f9)), (0, .ref (ad 0))]) hx hb dX7_tellsJumps_77 hl (k := 3) rfl (nI_1 k) (by decide) rfl (fun ls hl => ?_)
          refine lv_goto (tgt := 7) hx hb dX7_tellsJumps_80 (by decide) ?_
          exact ih7 (k + 1) uj _ _ _ hP hD hS (by omega) (by omega) (by omega) (uj2) (by rw [hv, ti_ml, hjf, ho9, if_neg (by show ¬ xf.2.2.2 f9 = 0; omega), uj1, show 100 - (k + 1) = m9 by omega]; rfl) (lv_sub hl [3, 0] rfl)
  exact L7 _ 0 (0, xj.2.1, xj.2.2) _ _ _ hP hD hS (Nat.lt_succ_self _) (by omega) (Nat.zero_le _) (⟨Nat.zero_le _, hxj.2⟩) (rfl) (lv_sub hl [1, 0] rfl)

set_option maxHeartbeats 1000000 in
theorem met_X7_lacking (l : Launch) (D : va_G) (E : Nat → ClassId) (ad : Nat → Nat) (xg : ti_Mg) (xd : ti_Md) (xt : ti_Mt) (xf : ti_Mf) (xj : ti_Mj) (xh : ti_Mh) (xs : ti_Ms) (xv : ti_Mv) (xb : ti_Mb) (xq : ti_Mq) (xk : ti_Mk) (hxg : ti_Mgok xg) (i : Nat) (hi : i < 3) (hN : ti_r2 (ti_gr (ti_ma xg i) (ti_mb xg i) 0 (xg.1 i)) 1000 (List.range' 1 9) ≤ 6) (hxf : ti_Mfok xf) (num den : Nat) (hnum : num ≤ 99) (hden : den ≤ 99) : ti_MetM (σ := ti_Mf) l D E yX7_lacking cX7_lacking 6 (some .int) 4 0 0 (ti_wM E ad xg xd xt xf xj xh xs xv xb xq xk) [.ref (ad 0), .int (nI i), .int (nI num), .int (nI den)] (fun u => ti_wM E ad xg xd xt u xj xh xs xv xb xq xk) (fun u => some (.int ((fun u => nI (ti_lk (ti_F u) num den (List.range' 0 100) 0)) u))) (fun u => ti_F u = (ti_fm (ti_gr (ti_ma xg i) (ti_mb xg i) 0 (xg.1 i)) 1000).reverse ∧ ti_Mfok u) := by
  refine ti_mutI (σ := ti_Mf) (vi := fun u => nI (ti_lk (ti_F u) num den (List.range' 0 100) 0)) (by decide) (Nat.le_of_ble_eq_true rfl) ?_
  intro p e s m below meth c H H0 A Q ls S hE hP hD hS hA hinit hl hret
  have hx := S.1
  have hb := S.2.1
  have hown := S.2.2.2.1
  have hts := S.2.2.2.2
  have hK := hE.1
  have hl : lv_has ls 6 [(0, .ref (ad 0)), (1, .int (nI i)), (2, .int (nI num)), (3, .int (nI den))] := hl
  refine lv_aload_n hx hb dX7_lacking_0 rfl (lv_at hl 0 rfl) ?_
  refine lv_iload_n hx hb dX7_lacking_1 rfl (lv_at hl 1 rfl) ?_
  refine ti_mVa (As := [.int (nI i)]) (rest := []) S hE hP hD hS hA (met_X7_tellsFaces l D E ad xg xd xt xf xj xh xs xv xb xq xk hxg i hi hN hxf) (fun _ => rfl) (lw_V q1285 q1287 qs32 q73 q1288) 1 rfl 0 rfl rfl (by decide +kernel) ⟨Nat.le_of_ble_eq_true rfl, Nat.le_of_ble_eq_true rfl⟩ hl.1 rfl (Nat.le_of_ble_eq_true rfl) ⟨Nat.le_refl _, Nat.le_refl _⟩ dX7_lacking_2 (fun u1 H locs hu hP hD hS => ?_)
  obtain ⟨hF1, hF2⟩ := hu
  have hP : va_P D vwCl (ti_wM E ad xg xd xt u1 xj xh xs xv xb xq xk) H := hP
  have hD : va_D A (ti_wM E ad xg xd xt u1 xj xh xs xv xb xq xk) := hD
  refine W.eq (g2 := F0 m 5 ls []) rfl ?_
  refine lv_iconst (v := nI 0) hx hb dX7_lacking_5 (by decide) ?_
  refine lv_istore (lv' := [(4, .int (nI 0)), (0, .ref (ad 0)), (1, .int (nI i)), (2, .int (nI num)), (3, .int (nI den))]) hx hb dX7_lacking_6 hl (by decide) rfl (fun ls hl => ?_)
  refine lv_iconst (v := nI 0) hx hb dX7_lacking_8 (by decide) ?_
  refine lv_istore (lv' := [(5, .int (nI 0)), (4, .int (nI 0)), (0, .ref (ad 0)), (1, .int (nI i)), (2, .int (nI num)), (3, .int (nI den))]) hx hb dX7_lacking_9 hl (by decide) rfl (fun ls hl => ?_)
  have L11 : ∀ (N : Nat) (z k : Nat) (ls : Array Slot) (H : Heap) (locs : List Loc), va_P D vwCl (ti_wM E ad xg xd xt u1 xj xh xs xv xb xq xk) H → va_D A (ti_wM E ad xg xd xt u1 xj xh xs xv xb xq xk) → va_S A H0 H locs → (100 - k) < N → (k ≤ 100) → (ti_lk (ti_F u1) num den (List.range' 0 100) 0 = ti_lk (ti_F u1) num den (List.range' k (100 - k)) z) → lv_has ls 6 [(0, .ref (ad 0)), (1, .int (nI i)), (2, .int (nI num)), (3, .int (nI den)), (4, .int (nI z)), (5, .int (nI k))] → W p l e (ti_rm 4 0 0) s m ([.ref (ad 0), .int (nI i), .int (nI num), .int (nI den)] : List Value).toArray below meth c H locs 0 0 Q (F0 m 11 ls []) := by
    intro N
    induction N with
    | zero => intro z k ls H locs hP hD hS h0; exact absurd h0 (Nat.not_lt_zero _)
    | succ N ih11 =>
      intro z k ls H locs hP hD hS hN hkn hv hl
      refine lv_iload hx hb dX7_lacking_11 (lv_at hl 5 rfl) ?_
      refine lv_bipush (v := nI 100) hx hb dX7_lacking_13 (by decide) ?_
      refine tn_ge (tgt := 54) hx hb dX7_lacking_15 (by decide) (by omega) (by omega) (fun c15 => ?_) (fun c15 => ?_)
      · skip
        rw [show 100 - k = 0 by omega] at hv
        refine lv_iload hx hb dX7_lacking_54 (lv_at hl 4 rfl) ?_
        exact hret u1 _ _ _ _ _ _ _ dX7_lacking_56 (by rw [hv]; rfl) (⟨hF1, hF2⟩) hP hS (Nat.le_refl _) (Nat.le_refl _)
      · skip
        obtain ⟨m9, hm9⟩ : ∃ m9, 100 - k = m9 + 1 := ⟨100 - k - 1, by omega⟩
        rw [hm9, show List.range' k (m9 + 1) = k :: List.range' (k + 1) m9 from rfl] at hv
        refine lv_iload hx hb dX7_lacking_18 (lv_at hl 4 rfl) ?_
        refine lv_aload_n hx hb dX7_lacking_20 rfl (lv_at hl 0 rfl) ?_
        refine lv_iload hx hb dX7_lacking_21 (lv_at hl 5 rfl) ?_
        refine lv_bipush (v := nI 10) hx hb dX7_lacking_23 (by decide) ?_
        refine tn_div hx hb dX7_lacking_25 (by omega) (by omega) (by omega) ?_
        refine lv_iload hx hb dX7_lacking_26 (lv_at hl 5 rfl) ?_
        refine lv_bipush (v := nI 10) hx hb dX7_lacking_28 (by decide) ?_
        refine tn_rem hx hb dX7_lacking_30 (by omega) (by omega) (by omega) ?_
        refine lv_iload_n hx hb dX7_lacking_31 rfl (lv_at hl 2 rfl) ?_
        refine lv_iload_n hx hb dX7_lacking_32 rfl (lv_at hl 3 rfl) ?_
        refine ti_pVa (As := [.int (nI (k / 10)), .int (nI (k % 10)), .int (nI num), .int (nI den)]) (rest := [.int (nI z)]) (v := .int (ti_pm (ti_fb (k / 10) (k % 10) num den (ti_F u1) 0))) S hE hP (met_X7_barring l D E ad xg xd xt u1 xj xh xs xv xb xq xk hF2 (k / 10) (k % 10) (by omega) (by omega) num den hnum hden) (lw_V q1414 q1416 qs50 q73 q1417) 4 rfl 0 rfl rfl (by decide +kernel) ⟨Nat.le_of_ble_eq_true rfl, Nat.le_of_ble_eq_true rfl⟩ hl.1 rfl (Nat.le_of_ble_eq_true rfl) ⟨Nat.le_refl _, Nat.le_refl _⟩ dX7_lacking_33 ?_
        refine lv_iconst (v := (-1)) hx hb dX7_lacking_36 (by decide) ?_
        refine lv_icmp_ne (tgt := 44) hx hb dX7_lacking_37 (by decide) (fun c37 => ?_) (fun c37 => ?_)
        · skip
          refine lv_iconst (v := nI 1) hx hb dX7_lacking_44 (by decide) ?_
          refine tn_add hx hb dX7_lacking_45 ?_
          refine lv_istore (lv' := [(4, .int (nI (z + 1))), (0, .ref (ad 0)), (1, .int (nI i)), (2, .int (nI num)), (3, .int (nI den)), (5, .int (nI k))]) hx hb dX7_lacking_46 hl (by decide) rfl (fun ls hl => ?_)
          refine lv_iinc (v := nI (k + 1)) (lv' := [(5, .int (nI (k + 1))), (4, .int (nI (z + 1))), (0, .ref (ad 0)), (1, .int (nI i)), (2, .int (nI num)), (3, .int (nI den))]) hx hb dX7_lacking_48 hl (k := 5) rfl (nI_1 k) (by decide) rfl (fun ls hl => ?_)
          refine lv_goto (tgt := 11) hx hb dX7_lacking_51 (by decide) ?_
          exact ih11 (z + 1) (k + 1) _ _ _ hP hD hS (by omega) (by omega) (by rw [hv, ti_lk, ti_fb_hd _ _ _ _ _ 0, if_neg (fun z9 => c37 ((ti_pm_n1 (fun j hj => by have := ti_fb_lt _ _ _ _ _ _ _ hj; rw [ti_fr_len] at this; have := hF2.1; omega)).mpr (Option.isNone_iff_eq_none.mp z9))), show 100 - (k + 1) = m9 by omega]) (lv_sub hl [2, 3, 4, 5, 1, 0] rfl)
        · skip
          refine lv_iconst (v := nI 0) hx hb dX7_lacking_40 (by decide) ?_
          refine lv_goto (tgt := 45) hx hb dX7_lacking_41 (by decide) ?_
          refine tn_add hx hb dX7_lacking_45 ?_
          refine lv_istore (lv' := [(4, .int (nI (z + 0))), (0, .ref (ad 0)), (1, .int (nI i)), (2, .int (nI num)), (3, .int (nI den)), (5, .int (nI k))]) hx hb dX7_lacking_46 hl (by decide) rfl (fun ls hl => ?_)
          refine lv_iinc (v := nI (k + 1)) (lv' := [(5, .int (nI (k + 1))), (4, .int (nI (z + 0))), (0, .ref (ad 0)), (1, .int (nI i)), (2, .int (nI num)), (3, .int (nI den))]) hx hb dX7_lacking_48 hl (k := 5) rfl (nI_1 k) (by decide) rfl (fun ls hl => ?_)
          refine lv_goto (tgt := 11) hx hb dX7_lacking_51 (by decide) ?_
          exact ih11 (z + 0) (k + 1) _ _ _ hP hD hS (by omega) (by omega) (by rw [hv, ti_lk, ti_fb_hd _ _ _ _ _ 0, if_pos (by rw [(ti_pm_n1 (fun j hj => by have := ti_fb_lt _ _ _ _ _ _ _ hj; rw [ti_fr_len] at this; have := hF2.1; omega)).mp c37]; rfl), show 100 - (k + 1) = m9 by omega]) (lv_sub hl [2, 3, 4, 5, 1, 0] rfl)
  exact L11 _ 0 0 _ _ _ hP hD hS (Nat.lt_succ_self _) (by omega) (rfl) (lv_sub hl [2, 3, 4, 5, 1, 0] rfl)

set_option maxHeartbeats 1000000 in
theorem met_X7_begins (l : Launch) (D : va_G) (E : Nat → ClassId) (ad : Nat → Nat) (xg : ti_Mg) (xd : ti_Md) (xt : ti_Mt) (xf : ti_Mf) (xj : ti_Mj) (xh : ti_Mh) (xs : ti_Ms) (xv : ti_Mv) (xb : ti_Mb) (xq : ti_Mq) (xk : ti_Mk) : ti_MetM (σ := Unit) l D E yX7_begins cX7_begins 2 none 0 0 0 (ti_wM E ad xg xd xt xf xj xh xs xv xb xq xk) [.ref (ad 0)] (fun _ => ti_wM E ad xg xd xt xf xj (ti_h0, xh.2.1, xh.2.2) xs xv xb xq xk) (fun _ => none) (fun _ => True) := by
  refine ti_mutV (σ := Unit) (by decide) (Nat.le_of_ble_eq_true rfl) ?_
  intro p e s m below meth c H H0 A Q ls S hE hP hD hS hA hinit hl hret
  have hx := S.1
  have hb := S.2.1
  have hown := S.2.2.2.1
  have hts := S.2.2.2.2
  have hK := hE.1
  have hl : lv_has ls 2 [(0, .ref (ad 0))] := hl
  refine lv_iconst (v := nI 0) hx hb dX7_begins_0 (by decide) ?_
  refine lv_istore_n (lv' := [(1, .int (nI 0)), (0, .ref (ad 0))]) hx hb dX7_begins_1 rfl hl (by decide) rfl (fun ls hl => ?_)
  have L2 : ∀ (N : Nat) (a : Nat) (g : Nat → Nat) (ls : Array Slot) (H : Heap) (locs : List Loc), va_P D vwCl (ti_wM E ad xg xd xt xf xj (g, xh.2.1, xh.2.2) xs xv xb xq xk) H → va_D A (ti_wM E ad xg xd xt xf xj (g, xh.2.1, xh.2.2) xs xv xb xq xk) → va_S A H0 H locs → (72 - a) < N → (a ≤ 72) → (∀ j, j < a → g j = ti_h0 j) → lv_has ls 2 [(0, .ref (ad 0)), (1, .int (nI a))] → W p l e (ti_rm 0 0 0) s m ([.ref (ad 0)] : List Value).toArray below meth c H locs 0 0 Q (F0 m 2 ls []) := by
    intro N
    induction N with
    | zero => intro a g ls H locs hP hD hS h0; exact absurd h0 (Nat.not_lt_zero _)
    | succ N ih2 =>
      intro a g ls H locs hP hD hS hN han hv hl
      refine lv_iload_n hx hb dX7_begins_2 rfl (lv_at hl 1 rfl) ?_
      refine lv_bipush (v := nI 72) hx hb dX7_begins_3 (by decide) ?_
      refine tn_ge (tgt := 31) hx hb dX7_begins_5 (by decide) (by omega) (by omega) (fun c5 => ?_) (fun c5 => ?_)
      · skip
        have hP := ti_P_rep (g := ti_n ti_h0) hP 15 rfl (fun j hj => ti_n_at (hv j (by omega)))
        have hD := ti_D_rep (q := 15) hD rfl (e := .inl (E 0, 72, .inl (ti_n ti_h0)))
        have hP : va_P D vwCl (ti_wM E ad xg xd xt xf xj (ti_h0, xh.2.1, xh.2.2) xs xv xb xq xk) H := hP
        have hD : va_D A (ti_wM E ad xg xd xt xf xj (ti_h0, xh.2.1, xh.2.2) xs xv xb xq xk) := hD
        exact hret () _ _ _ _ _ _ dX7_begins_31 (trivial) hP hS (Nat.le_refl _) (Nat.le_refl _)
      · skip
        refine lv_aload_n hx hb dX7_begins_8 rfl (lv_at hl 0 rfl) ?_
        refine va_get (v := .ref (ad 15)) hx hb hts in_X7 hown hK hP 0 rfl rfl 19 (by decide) (hts _ q1107) (fun _ h => h) rfl dX7_begins_9 ?_
        refine lv_iload_n hx hb dX7_begins_12 rfl (lv_at hl 1 rfl) ?_
        refine lv_iload_n hx hb dX7_begins_13 rfl (lv_at hl 1 rfl) ?_
        refine tn_if_ne (tgt := 21) hx hb dX7_begins_14 (by decide) (by omega) (fun c14 => ?_) (fun c14 => ?_)
        · skip
          refine lv_sipush (v := nI 1000) hx hb dX7_begins_21 (by decide) ?_
          refine tn_iast (f := g) hx hb hK hP hD hS 15 0 rfl rfl (by omega) (by decide) dX7_begins_24 (fun H locs hP hD hS => ?_)
          have hP : va_P D vwCl (ti_wM E ad xg xd xt xf xj (va_up g a 1000, xh.2.1, xh.2.2) xs xv xb xq xk) H := hP
          have hD : va_D A (ti_wM E ad xg xd xt xf xj (va_up g a 1000, xh.2.1, xh.2.2) xs xv xb xq xk) := hD
          refine lv_iinc (v := nI (a + 1)) (lv' := [(1, .int (nI (a + 1))), (0, .ref (ad 0))]) hx hb dX7_begins_25 hl (k := 1) rfl (nI_1 a) (by decide) rfl (fun ls hl => ?_)
          refine lv_goto (tgt := 2) hx hb dX7_begins_28 (by decide) ?_
          exact ih2 (a + 1) (va_up g a 1000) _ _ _ hP hD hS (by omega) (by omega) (ti_fill hv (by unfold ti_h0; rw [if_neg c14])) (lv_sub hl [1, 0] rfl)
        · skip
          refine lv_iconst (v := nI 0) hx hb dX7_begins_17 (by decide) ?_
          refine lv_goto (tgt := 24) hx hb dX7_begins_18 (by decide) ?_
          refine tn_iast (f := g) hx hb hK hP hD hS 15 0 rfl rfl (by omega) (by decide) dX7_begins_24 (fun H locs hP hD hS => ?_)
          have hP : va_P D vwCl (ti_wM E ad xg xd xt xf xj (va_up g a 0, xh.2.1, xh.2.2) xs xv xb xq xk) H := hP
          have hD : va_D A (ti_wM E ad xg xd xt xf xj (va_up g a 0, xh.2.1, xh.2.2) xs xv xb xq xk) := hD
          refine lv_iinc (v := nI (a + 1)) (lv' := [(1, .int (nI (a + 1))), (0, .ref (ad 0))]) hx hb dX7_begins_25 hl (k := 1) rfl (nI_1 a) (by decide) rfl (fun ls hl => ?_)
          refine lv_goto (tgt := 2) hx hb dX7_begins_28 (by decide) ?_
          exact ih2 (a + 1) (va_up g a 0) _ _ _ hP hD hS (by omega) (by omega) (ti_fill hv (by unfold ti_h0; rw [if_pos c14])) (lv_sub hl [1, 0] rfl)
  exact L2 _ 0 xh.1 _ _ _ hP hD hS (Nat.lt_succ_self _) (by omega) (fun j hj => absurd hj (Nat.not_lt_zero _)) (lv_sub hl [1, 0] rfl)

set_option maxHeartbeats 1000000 in
theorem met_X7_settles (l : Launch) (D : va_G) (E : Nat → ClassId) (ad : Nat → Nat) (xg : ti_Mg) (xd : ti_Md) (xt : ti_Mt) (xf : ti_Mf) (xj : ti_Mj) (xh : ti_Mh) (xs : ti_Ms) (xv : ti_Mv) (xb : ti_Mb) (xq : ti_Mq) (xk : ti_Mk) (hxh : ti_Mhok xh) : ti_MetM (σ := Unit) l D E yX7_settles cX7_settles 2 none 1 0 0 (ti_wM E ad xg xd xt xf xj xh xs xv xb xq xk) [.ref (ad 0)] (fun _ => ti_wM E ad xg xd xt xf xj (ti_pfx xh.1, xh.2.1, xh.2.2) xs xv xb xq xk) (fun _ => none) (fun _ => True) := by
  refine ti_mutV (σ := Unit) (by decide) (Nat.le_of_ble_eq_true rfl) ?_
  intro p e s m below meth c H H0 A Q ls S hE hP hD hS hA hinit hl hret
  have hx := S.1
  have hb := S.2.1
  have hown := S.2.2.2.1
  have hts := S.2.2.2.2
  have hK := hE.1
  have hl : lv_has ls 2 [(0, .ref (ad 0))] := hl
  refine lv_iconst (v := nI 1) hx hb dX7_settles_0 (by decide) ?_
  refine lv_istore_n (lv' := [(1, .int (nI 1)), (0, .ref (ad 0))]) hx hb dX7_settles_1 rfl hl (by decide) rfl (fun ls hl => ?_)
  have L2 : ∀ (N : Nat) (a : Nat) (g : Nat → Nat) (ls : Array Slot) (H : Heap) (locs : List Loc), va_P D vwCl (ti_wM E ad xg xd xt xf xj (g, xh.2.1, xh.2.2) xs xv xb xq xk) H → va_D A (ti_wM E ad xg xd xt xf xj (g, xh.2.1, xh.2.2) xs xv xb xq xk) → va_S A H0 H locs → (72 - a) < N → (1 ≤ a) → (a ≤ 72) → (∀ j, g j ≤ 1000) → (∀ j, j < a → g j = ti_pfx xh.1 j) → (∀ j, a ≤ j → g j = xh.1 j) → lv_has ls 2 [(0, .ref (ad 0)), (1, .int (nI a))] → W p l e (ti_rm 1 0 0) s m ([.ref (ad 0)] : List Value).toArray below meth c H locs 0 0 Q (F0 m 2 ls []) := by
    intro N
    induction N with
    | zero => intro a g ls H locs hP hD hS h0; exact absurd h0 (Nat.not_lt_zero _)
    | succ N ih2 =>
      intro a g ls H locs hP hD hS hN ha1 han hgb hv hv2 hl
      refine lv_iload_n hx hb dX7_settles_2 rfl (lv_at hl 1 rfl) ?_
      refine lv_bipush (v := nI 72) hx hb dX7_settles_3 (by decide) ?_
      refine tn_ge (tgt := 37) hx hb dX7_settles_5 (by decide) (by omega) (by omega) (fun c5 => ?_) (fun c5 => ?_)
      · skip
        have hP := ti_P_rep (g := ti_n (ti_pfx xh.1)) hP 15 rfl (fun j hj => ti_n_at (hv j (by omega)))
        have hD := ti_D_rep (q := 15) hD rfl (e := .inl (E 0, 72, .inl (ti_n (ti_pfx xh.1))))
        have hP : va_P D vwCl (ti_wM E ad xg xd xt xf xj (ti_pfx xh.1, xh.2.1, xh.2.2) xs xv xb xq xk) H := hP
        have hD : va_D A (ti_wM E ad xg xd xt xf xj (ti_pfx xh.1, xh.2.1, xh.2.2) xs xv xb xq xk) := hD
        exact hret () _ _ _ _ _ _ dX7_settles_37 (trivial) hP hS (Nat.le_refl _) (Nat.le_refl _)
      · skip
        refine lv_aload_n hx hb dX7_settles_8 rfl (lv_at hl 0 rfl) ?_
        refine va_get (v := .ref (ad 15)) hx hb hts in_X7 hown hK hP 0 rfl rfl 19 (by decide) (hts _ q1107) (fun _ h => h) rfl dX7_settles_9 ?_
        refine lv_iload_n hx hb dX7_settles_12 rfl (lv_at hl 1 rfl) ?_
        refine lv_aload_n hx hb dX7_settles_13 rfl (lv_at hl 0 rfl) ?_
        refine va_get (v := .ref (ad 15)) hx hb hts in_X7 hown hK hP 0 rfl rfl 19 (by decide) (hts _ q1107) (fun _ h => h) rfl dX7_settles_14 ?_
        refine lv_iload_n hx hb dX7_settles_17 rfl (lv_at hl 1 rfl) ?_
        refine tn_iald (f := g) hx hb hK hP 15 0 rfl rfl (by omega) (by decide) dX7_settles_18 ?_
        have b18 := hgb a
        refine lv_aload_n hx hb dX7_settles_19 rfl (lv_at hl 0 rfl) ?_
        refine va_get (v := .ref (ad 15)) hx hb hts in_X7 hown hK hP 0 rfl rfl 19 (by decide) (hts _ q1107) (fun _ h => h) rfl dX7_settles_20 ?_
        refine lv_iload_n hx hb dX7_settles_23 rfl (lv_at hl 1 rfl) ?_
        refine lv_iconst (v := nI 1) hx hb dX7_settles_24 (by decide) ?_
        refine tn_sub hx hb dX7_settles_25 (by omega) ?_
        refine tn_iald (f := g) hx hb hK hP 15 0 rfl rfl (by omega) (by decide) dX7_settles_26 ?_
        have b26 := hgb (a - 1)
        refine tn_min S hl.1 q1297 (Nat.le_of_ble_eq_true rfl) (Nat.le_of_ble_eq_true rfl) ⟨Nat.le_refl _, Nat.le_refl _⟩ (by omega) (by omega) dX7_settles_27 ?_
        refine tn_iast (f := g) hx hb hK hP hD hS 15 0 rfl rfl (by omega) (by decide) dX7_settles_30 (fun H locs hP hD hS => ?_)
        have hP : va_P D vwCl (ti_wM E ad xg xd xt xf xj (va_up g a (min (g a) (g (a - 1))), xh.2.1, xh.2.2) xs xv xb xq xk) H := hP
        have hD : va_D A (ti_wM E ad xg xd xt xf xj (va_up g a (min (g a) (g (a - 1))), xh.2.1, xh.2.2) xs xv xb xq xk) := hD
        refine lv_iinc (v := nI (a + 1)) (lv' := [(1, .int (nI (a + 1))), (0, .ref (ad 0))]) hx hb dX7_settles_31 hl (k := 1) rfl (nI_1 a) (by decide) rfl (fun ls hl => ?_)
        refine lv_goto (tgt := 2) hx hb dX7_settles_34 (by decide) ?_
        exact ih2 (a + 1) (va_up g a (min (g a) (g (a - 1)))) _ _ _ hP hD hS (by omega) (by omega) (by omega) (ti_up_le hgb (by omega)) (ti_pfx_s ha1 hv hv2).1 (ti_pfx_s ha1 hv hv2).2 (lv_sub hl [1, 0] rfl)
  exact L2 _ 1 xh.1 _ _ _ hP hD hS (Nat.lt_succ_self _) (by omega) (by omega) (hxh.1) (fun j hj => by rw [show j = 0 by omega]; rfl) (fun _ _ => rfl) (lv_sub hl [1, 0] rfl)

set_option maxHeartbeats 1000000 in
theorem met_X7_times (l : Launch) (D : va_G) (E : Nat → ClassId) (ad : Nat → Nat) (xg : ti_Mg) (xd : ti_Md) (xt : ti_Mt) (xf : ti_Mf) (xj : ti_Mj) (xh : ti_Mh) (xs : ti_Ms) (xv : ti_Mv) (xb : ti_Mb) (xq : ti_Mq) (xk : ti_Mk) (hxg : ti_Mgok xg) (i : Nat) (hi : i < 3) (hxh : ti_Mhok xh) : ti_MetM (σ := ti_Mh) l D E yX7_times cX7_times 4 none 1 0 0 (ti_wM E ad xg xd xt xf xj xh xs xv xb xq xk) [.ref (ad 0), .int (nI i)] (fun u => ti_wM E ad xg xd xt xf xj u xs xv xb xq xk) (fun _ => none) (fun u => u.1 = ti_tm xh.1 (ti_gr (ti_ma xg i) (ti_mb xg i) 0 (xg.1 i)) ∧ u.2.2 = xh.2.2) := by
  refine ti_mutV (σ := ti_Mh) (by decide) (Nat.le_of_ble_eq_true rfl) ?_
  intro p e s m below meth c H H0 A Q ls S hE hP hD hS hA hinit hl hret
  have hx := S.1
  have hb := S.2.1
  have hown := S.2.2.2.1
  have hts := S.2.2.2.2
  have hK := hE.1
  have hl : lv_has ls 4 [(0, .ref (ad 0)), (1, .int (nI i))] := hl
  refine lv_iconst (v := nI 0) hx hb dX7_times_0 (by decide) ?_
  refine lv_istore_n (lv' := [(2, .int (nI 0)), (0, .ref (ad 0)), (1, .int (nI i))]) hx hb dX7_times_1 rfl hl (by decide) rfl (fun ls hl => ?_)
  have L2 : ∀ (N : Nat) (a : Nat) (g : Nat → Nat) (ls : Array Slot) (H : Heap) (locs : List Loc), va_P D vwCl (ti_wM E ad xg xd xt xf xj (xh.1, g, xh.2.2) xs xv xb xq xk) H → va_D A (ti_wM E ad xg xd xt xf xj (xh.1, g, xh.2.2) xs xv xb xq xk) → va_S A H0 H locs → (72 - a) < N → (a ≤ 72) → (∀ j, j < a → g j = (fun _ => 1000) j) → lv_has ls 4 [(0, .ref (ad 0)), (1, .int (nI i)), (2, .int (nI a))] → W p l e (ti_rm 1 0 0) s m ([.ref (ad 0), .int (nI i)] : List Value).toArray below meth c H locs 0 0 Q (F0 m 2 ls []) := by
    intro N
    induction N with
    | zero => intro a g ls H locs hP hD hS h0; exact absurd h0 (Nat.not_lt_zero _)
    | succ N ih2 =>
      intro a g ls H locs hP hD hS hN han hv hl
      refine lv_iload_n hx hb dX7_times_2 rfl (lv_at hl 2 rfl) ?_
      refine lv_bipush (v := nI 72) hx hb dX7_times_3 (by decide) ?_
      refine tn_ge (tgt := 23) hx hb dX7_times_5 (by decide) (by omega) (by omega) (fun c5 => ?_) (fun c5 => ?_)
      · skip
        have hP := ti_P_rep (g := ti_n (fun _ => 1000)) hP 16 rfl (fun j hj => ti_n_at (hv j (by omega)))
        have hD := ti_D_rep (q := 16) hD rfl (e := .inl (E 0, 72, .inl (ti_n (fun _ => 1000))))
        have hP : va_P D vwCl (ti_wM E ad xg xd xt xf xj (xh.1, fun _ => 1000, xh.2.2) xs xv xb xq xk) H := hP
        have hD : va_D A (ti_wM E ad xg xd xt xf xj (xh.1, fun _ => 1000, xh.2.2) xs xv xb xq xk) := hD
        refine lv_iconst (v := nI 0) hx hb dX7_times_23 (by decide) ?_
        refine lv_istore_n (lv' := [(2, .int (nI 0)), (0, .ref (ad 0)), (1, .int (nI i))]) hx hb dX7_times_24 rfl hl (by decide) rfl (fun ls hl => ?_)
        have L25 : ∀ (N : Nat) (k : Nat) (nx : Nat → Nat) (ls : Array Slot) (H : Heap) (locs : List Loc), va_P D vwCl (ti_wM E ad xg xd xt xf xj (xh.1, nx, xh.2.2) xs xv xb xq xk) H → va_D A (ti_wM E ad xg xd xt xf xj (xh.1, nx, xh.2.2) xs xv xb xq xk) → va_S A H0 H locs → (xg.1 i - k) < N → (k ≤ xg.1 i) → (∀ j, nx j ≤ 1000) → (ti_tg xh.1 (ti_gr (ti_ma xg i) (ti_mb xg i) 0 (xg.1 i)) (fun _ => 1000) = ti_tg xh.1 (ti_gr (ti_ma xg i) (ti_mb xg i) k (xg.1 i - k)) nx) → lv_has ls 4 [(0, .ref (ad 0)), (1, .int (nI i)), (2, .int (nI k))] → W p l e (ti_rm 1 0 0) s m ([.ref (ad 0), .int (nI i)] : List Value).toArray below meth c H locs 0 0 Q (F0 m 25 ls []) := by
          intro N
          induction N with
          | zero => intro k nx ls H locs hP hD hS h0; exact absurd h0 (Nat.not_lt_zero _)
          | succ N ih25 =>
            intro k nx ls H locs hP hD hS hN hkn hnx hv hl
            refine lv_iload_n hx hb dX7_times_25 rfl (lv_at hl 2 rfl) ?_
            refine lv_aload_n hx hb dX7_times_26 rfl (lv_at hl 0 rfl) ?_
            refine va_get (v := .ref (ad 1)) hx hb hts in_X7 hown hK hP 0 rfl rfl 0 (by decide) (hts _ q1088) (fun _ h => h) rfl dX7_times_27 ?_
            refine lv_iload_n hx hb dX7_times_30 rfl (lv_at hl 1 rfl) ?_
            refine tn_iald (f := xg.1) hx hb hK hP 1 0 rfl rfl (by omega) (by decide) dX7_times_31 ?_
            have b31 := hxg.1 i
            refine tn_ge (tgt := 104) hx hb dX7_times_32 (by decide) (by omega) (by omega) (fun c32 => ?_) (fun c32 => ?_)
            · skip
              have hv : ti_tg xh.1 (ti_gr (ti_ma xg i) (ti_mb xg i) 0 (xg.1 i)) (fun _ => 1000) = nx := by rw [hv, show xg.1 i - k = 0 by omega]; rfl
              refine lv_iconst (v := nI 0) hx hb dX7_times_104 (by decide) ?_
              refine lv_istore_n (lv' := [(2, .int (nI 0)), (0, .ref (ad 0)), (1, .int (nI i))]) hx hb dX7_times_105 rfl hl (by decide) rfl (fun ls hl => ?_)
              have L106 : ∀ (N : Nat) (a : Nat) (g : Nat → Nat) (ls : Array Slot) (H : Heap) (locs : List Loc), va_P D vwCl (ti_wM E ad xg xd xt xf xj (g, nx, xh.2.2) xs xv xb xq xk) H → va_D A (ti_wM E ad xg xd xt xf xj (g, nx, xh.2.2) xs xv xb xq xk) → va_S A H0 H locs → (72 - a) < N → (a ≤ 72) → (∀ j, j < a → g j = ti_tm xh.1 (ti_gr (ti_ma xg i) (ti_mb xg i) 0 (xg.1 i)) j) → lv_has ls 4 [(0, .ref (ad 0)), (1, .int (nI i)), (2, .int (nI a))] → W p l e (ti_rm 1 0 0) s m ([.ref (ad 0), .int (nI i)] : List Value).toArray below meth c H locs 0 0 Q (F0 m 106 ls []) := by
                intro N
                induction N with
                | zero => intro a g ls H locs hP hD hS h0; exact absurd h0 (Nat.not_lt_zero _)
                | succ N ih106 =>
                  intro a g ls H locs hP hD hS hN han hv2 hl
                  refine lv_iload_n hx hb dX7_times_106 rfl (lv_at hl 2 rfl) ?_
                  refine lv_bipush (v := nI 72) hx hb dX7_times_107 (by decide) ?_
                  refine tn_ge (tgt := 136) hx hb dX7_times_109 (by decide) (by omega) (by omega) (fun c109 => ?_) (fun c109 => ?_)
                  · skip
                    have hP := ti_P_rep (g := ti_n (ti_tm xh.1 (ti_gr (ti_ma xg i) (ti_mb xg i) 0 (xg.1 i)))) hP 15 rfl (fun j hj => ti_n_at (hv2 j (by omega)))
                    have hD := ti_D_rep (q := 15) hD rfl (e := .inl (E 0, 72, .inl (ti_n (ti_tm xh.1 (ti_gr (ti_ma xg i) (ti_mb xg i) 0 (xg.1 i))))))
                    have hP : va_P D vwCl (ti_wM E ad xg xd xt xf xj (ti_tm xh.1 (ti_gr (ti_ma xg i) (ti_mb xg i) 0 (xg.1 i)), nx, xh.2.2) xs xv xb xq xk) H := hP
                    have hD : va_D A (ti_wM E ad xg xd xt xf xj (ti_tm xh.1 (ti_gr (ti_ma xg i) (ti_mb xg i) 0 (xg.1 i)), nx, xh.2.2) xs xv xb xq xk) := hD
                    exact hret ((ti_tm xh.1 (ti_gr (ti_ma xg i) (ti_mb xg i) 0 (xg.1 i)), nx, xh.2.2)) _ _ _ _ _ _ dX7_times_136 (⟨rfl, rfl⟩) hP hS (Nat.le_refl _) (Nat.le_refl _)
                  · skip
                    refine lv_aload_n hx hb dX7_times_112 rfl (lv_at hl 0 rfl) ?_
                    refine va_get (v := .ref (ad 15)) hx hb hts in_X7 hown hK hP 0 rfl rfl 19 (by decide) (hts _ q1107) (fun _ h => h) rfl dX7_times_113 ?_
                    refine lv_iload_n hx hb dX7_times_116 rfl (lv_at hl 2 rfl) ?_
                    refine lv_aload_n hx hb dX7_times_117 rfl (lv_at hl 0 rfl) ?_
                    refine va_get (v := .ref (ad 16)) hx hb hts in_X7 hown hK hP 0 rfl rfl 20 (by decide) (hts _ q1108) (fun _ h => h) rfl dX7_times_118 ?_
                    refine lv_iload_n hx hb dX7_times_121 rfl (lv_at hl 2 rfl) ?_
                    refine tn_iald (f := nx) hx hb hK hP 16 0 rfl rfl (by omega) (by decide) dX7_times_122 ?_
                    have b122 := hnx a
                    refine lv_sipush (v := nI 1000) hx hb dX7_times_123 (by decide) ?_
                    refine tn_min S hl.1 q1297 (Nat.le_of_ble_eq_true rfl) (Nat.le_of_ble_eq_true rfl) ⟨Nat.le_refl _, Nat.le_refl _⟩ (by omega) (by omega) dX7_times_126 ?_
                    refine tn_iast (f := g) hx hb hK hP hD hS 15 0 rfl rfl (by omega) (by decide) dX7_times_129 (fun H locs hP hD hS => ?_)
                    have hP : va_P D vwCl (ti_wM E ad xg xd xt xf xj (va_up g a (min (nx a) 1000), nx, xh.2.2) xs xv xb xq xk) H := hP
                    have hD : va_D A (ti_wM E ad xg xd xt xf xj (va_up g a (min (nx a) 1000), nx, xh.2.2) xs xv xb xq xk) := hD
                    refine lv_iinc (v := nI (a + 1)) (lv' := [(2, .int (nI (a + 1))), (0, .ref (ad 0)), (1, .int (nI i))]) hx hb dX7_times_130 hl (k := 2) rfl (nI_1 a) (by decide) rfl (fun ls hl => ?_)
                    refine lv_goto (tgt := 106) hx hb dX7_times_133 (by decide) ?_
                    exact ih106 (a + 1) (va_up g a (min (nx a) 1000)) _ _ _ hP hD hS (by omega) (by omega) (ti_fill hv2 (by unfold ti_tm; rw [hv])) (lv_sub hl [1, 2, 0] rfl)
              exact L106 _ 0 xh.1 _ _ _ hP hD hS (Nat.lt_succ_self _) (by omega) (fun j hj => absurd hj (Nat.not_lt_zero _)) (lv_sub hl [1, 2, 0] rfl)
            · skip
              obtain ⟨m9, hm9⟩ : ∃ m9, xg.1 i - k = m9 + 1 := ⟨xg.1 i - k - 1, by omega⟩
              rw [hm9, ti_gr_s] at hv
              refine lv_iconst (v := nI 0) hx hb dX7_times_35 (by decide) ?_
              refine lv_istore_n (lv' := [(3, .int (nI 0)), (0, .ref (ad 0)), (1, .int (nI i)), (2, .int (nI k))]) hx hb dX7_times_36 rfl hl (by decide) rfl (fun ls hl => ?_)
              have hak : ti_ma xg i k ≤ 9 := hxg.2.1 _
              have L37 : ∀ (N : Nat) (x : Nat) (n2 : Nat → Nat) (ls : Array Slot) (H : Heap) (locs : List Loc), va_P D vwCl (ti_wM E ad xg xd xt xf xj (xh.1, n2, xh.2.2) xs xv xb xq xk) H → va_D A (ti_wM E ad xg xd xt xf xj (xh.1, n2, xh.2.2) xs xv xb xq xk) → va_S A H0 H locs → (72 - x) < N → (x + ti_ma xg i k ≤ 72) → (∀ j, n2 j ≤ 1000) → (n2 = ti_t0 xh.1 (ti_ma xg i k) (ti_mb xg i k) nx x) → lv_has ls 4 [(0, .ref (ad 0)), (1, .int (nI i)), (2, .int (nI k)), (3, .int (nI x))] → W p l e (ti_rm 1 0 0) s m ([.ref (ad 0), .int (nI i)] : List Value).toArray below meth c H locs 0 0 Q (F0 m 37 ls []) := by
                intro N
                induction N with
                | zero => intro x n2 ls H locs hP hD hS h0; exact absurd h0 (Nat.not_lt_zero _)
                | succ N ih37 =>
                  intro x n2 ls H locs hP hD hS hN hx72 hn2 e1 hl
                  refine lv_iload_n hx hb dX7_times_37 rfl (lv_at hl 3 rfl) ?_
                  refine lv_aload_n hx hb dX7_times_38 rfl (lv_at hl 0 rfl) ?_
                  refine lv_iload_n hx hb dX7_times_39 rfl (lv_at hl 1 rfl) ?_
                  refine lv_iload_n hx hb dX7_times_40 rfl (lv_at hl 2 rfl) ?_
                  refine ti_pVa (As := [.int (nI i), .int (nI k)]) (rest := [.int (nI x)]) (v := .int (nI (ti_ma xg i k))) S hE hP (met_X7_a l D E ad xg xd xt xf xj (xh.1, n2, xh.2.2) xs xv xb xq xk i k (by omega)) (lw_V q1245 q1247 qs26 q73 q1248) 2 rfl 0 rfl rfl (by decide +kernel) ⟨Nat.le_of_ble_eq_true rfl, Nat.le_of_ble_eq_true rfl⟩ hl.1 rfl (Nat.le_of_ble_eq_true rfl) ⟨Nat.le_refl _, Nat.le_refl _⟩ dX7_times_41 ?_
                  have ha41 : ti_ma xg i k ≤ 9 := hxg.2.1 _
                  refine tn_add hx hb dX7_times_44 ?_
                  refine lv_bipush (v := nI 72) hx hb dX7_times_45 (by decide) ?_
                  refine tn_ge (tgt := 98) hx hb dX7_times_47 (by decide) (by omega) (by omega) (fun c47 => ?_) (fun c47 => ?_)
                  · skip
                    refine lv_iinc (v := nI (k + 1)) (lv' := [(2, .int (nI (k + 1))), (0, .ref (ad 0)), (1, .int (nI i)), (3, .int (nI x))]) hx hb dX7_times_98 hl (k := 2) rfl (nI_1 k) (by decide) rfl (fun ls hl => ?_)
                    refine lv_goto (tgt := 25) hx hb dX7_times_101 (by decide) ?_
                    exact ih25 (k + 1) n2 _ _ _ hP hD hS (by omega) (by omega) (hn2) (by rw [hv, show xg.1 i - (k + 1) = m9 by omega]; show ti_tg xh.1 (ti_gr (ti_ma xg i) (ti_mb xg i) (k + 1) m9) (ti_t1 xh.1 (ti_ma xg i k) (ti_mb xg i k) nx) = _; rw [e1, ti_t1, show 72 - ti_ma xg i k = x by omega]) (lv_sub hl [1, 2, 0] rfl)
                  · skip
                    refine lv_aload_n hx hb dX7_times_50 rfl (lv_at hl 0 rfl) ?_
                    refine va_get (v := .ref (ad 16)) hx hb hts in_X7 hown hK hP 0 rfl rfl 20 (by decide) (hts _ q1108) (fun _ h => h) rfl dX7_times_51 ?_
                    refine lv_iload_n hx hb dX7_times_54 rfl (lv_at hl 3 rfl) ?_
                    refine lv_aload_n hx hb dX7_times_55 rfl (lv_at hl 0 rfl) ?_
                    refine lv_iload_n hx hb dX7_times_56 rfl (lv_at hl 1 rfl) ?_
                    refine lv_iload_n hx hb dX7_times_57 rfl (lv_at hl 2 rfl) ?_
                    refine ti_pVa (As := [.int (nI i), .int (nI k)]) (rest := [.int (nI x), .ref (ad 16)]) (v := .int (nI (ti_ma xg i k))) S hE hP (met_X7_a l D E ad xg xd xt xf xj (xh.1, n2, xh.2.2) xs xv xb xq xk i k (by omega)) (lw_V q1245 q1247 qs26 q73 q1248) 2 rfl 0 rfl rfl (by decide +kernel) ⟨Nat.le_of_ble_eq_true rfl, Nat.le_of_ble_eq_true rfl⟩ hl.1 rfl (Nat.le_of_ble_eq_true rfl) ⟨Nat.le_refl _, Nat.le_refl _⟩ dX7_times_58 ?_
                    have ha58 : ti_ma xg i k ≤ 9 := hxg.2.1 _
                    refine tn_add hx hb dX7_times_61 ?_
                    refine lv_aload_n hx hb dX7_times_62 rfl (lv_at hl 0 rfl) ?_
                    refine va_get (v := .ref (ad 16)) hx hb hts in_X7 hown hK hP 0 rfl rfl 20 (by decide) (hts _ q1108) (fun _ h => h) rfl dX7_times_63 ?_
                    refine lv_iload_n hx hb dX7_times_66 rfl (lv_at hl 3 rfl) ?_
                    refine lv_aload_n hx hb dX7_times_67 rfl (lv_at hl 0 rfl) ?_
                    refine lv_iload_n hx hb dX7_times_68 rfl (lv_at hl 1 rfl) ?_
                    refine lv_iload_n hx hb dX7_times_69 rfl (lv_at hl 2 rfl) ?_
                    refine ti_pVa (As := [.int (nI i), .int (nI k)]) (rest := [.int (nI x), .ref (ad 16), .int (nI (x + (ti_ma xg i k))), .ref (ad 16)]) (v := .int (nI (ti_ma xg i k))) S hE hP (met_X7_a l D E ad xg xd xt xf xj (xh.1, n2, xh.2.2) xs xv xb xq xk i k (by omega)) (lw_V q1245 q1247 qs26 q73 q1248) 2 rfl 0 rfl rfl (by decide +kernel) ⟨Nat.le_of_ble_eq_true rfl, Nat.le_of_ble_eq_true rfl⟩ hl.1 rfl (Nat.le_of_ble_eq_true rfl) ⟨Nat.le_refl _, Nat.le_refl _⟩ dX7_times_70 ?_
                    have ha70 : ti_ma xg i k ≤ 9 := hxg.2.1 _
                    refine tn_add hx hb dX7_times_73 ?_
                    refine tn_iald (f := n2) hx hb hK hP 16 0 rfl rfl (by omega) (by decide) dX7_times_74 ?_
                    have b74 := hn2 (x + (ti_ma xg i k))
                    refine lv_aload_n hx hb dX7_times_75 rfl (lv_at hl 0 rfl) ?_
                    refine va_get (v := .ref (ad 15)) hx hb hts in_X7 hown hK hP 0 rfl rfl 19 (by decide) (hts _ q1107) (fun _ h => h) rfl dX7_times_76 ?_
                    refine lv_iload_n hx hb dX7_times_79 rfl (lv_at hl 3 rfl) ?_
                    refine tn_iald (f := xh.1) hx hb hK hP 15 0 rfl rfl (by omega) (by decide) dX7_times_80 ?_
                    have b80 := hxh.1 x
                    refine lv_aload_n hx hb dX7_times_81 rfl (lv_at hl 0 rfl) ?_
                    refine lv_iload_n hx hb dX7_times_82 rfl (lv_at hl 1 rfl) ?_
                    refine lv_iload_n hx hb dX7_times_83 rfl (lv_at hl 2 rfl) ?_
                    refine ti_pVa (As := [.int (nI i), .int (nI k)]) (rest := [.int (nI (xh.1 x)), .int (nI (n2 (x + (ti_ma xg i k)))), .int (nI (x + (ti_ma xg i k))), .ref (ad 16)]) (v := .int (nI (ti_mb xg i k))) S hE hP (met_X7_b l D E ad xg xd xt xf xj (xh.1, n2, xh.2.2) xs xv xb xq xk i k (by omega)) (lw_V q1249 q1251 qs27 q73 q1252) 2 rfl 0 rfl rfl (by decide +kernel) ⟨Nat.le_of_ble_eq_true rfl, Nat.le_of_ble_eq_true rfl⟩ hl.1 rfl (Nat.le_of_ble_eq_true rfl) ⟨Nat.le_refl _, Nat.le_refl _⟩ dX7_times_84 ?_
                    have hb84 : ti_mb xg i k ≤ 9 := hxg.2.2 _
                    refine tn_add hx hb dX7_times_87 ?_
                    have b87 : (xh.1 x) + (ti_mb xg i k) ≤ 1009 := Nat.add_le_add b80 (hxg.2.2 _)
                    refine tn_min S hl.1 q1297 (Nat.le_of_ble_eq_true rfl) (Nat.le_of_ble_eq_true rfl) ⟨Nat.le_refl _, Nat.le_refl _⟩ (by omega) (by omega) dX7_times_88 ?_
                    refine tn_iast (f := n2) hx hb hK hP hD hS 16 0 rfl rfl (by omega) (by decide) dX7_times_91 (fun H locs hP hD hS => ?_)
                    have hP : va_P D vwCl (ti_wM E ad xg xd xt xf xj (xh.1, va_up n2 (x + (ti_ma xg i k)) (min (n2 (x + (ti_ma xg i k))) ((xh.1 x) + (ti_mb xg i k))), xh.2.2) xs xv xb xq xk) H := hP
                    have hD : va_D A (ti_wM E ad xg xd xt xf xj (xh.1, va_up n2 (x + (ti_ma xg i k)) (min (n2 (x + (ti_ma xg i k))) ((xh.1 x) + (ti_mb xg i k))), xh.2.2) xs xv xb xq xk) := hD
                    refine lv_iinc (v := nI (x + 1)) (lv' := [(3, .int (nI (x + 1))), (0, .ref (ad 0)), (1, .int (nI i)), (2, .int (nI k))]) hx hb dX7_times_92 hl (k := 3) rfl (nI_1 x) (by decide) rfl (fun ls hl => ?_)
                    refine lv_goto (tgt := 37) hx hb dX7_times_95 (by decide) ?_
                    exact ih37 (x + 1) (va_up n2 (x + (ti_ma xg i k)) (min (n2 (x + (ti_ma xg i k))) ((xh.1 x) + (ti_mb xg i k)))) _ _ _ hP hD hS (by omega) (by omega) (ti_up_le hn2 (by omega)) (by rw [e1]; exact ti_t0_s _ _ _ _ _) (lv_sub hl [1, 2, 3, 0] rfl)
              exact L37 _ 0 nx _ _ _ hP hD hS (Nat.lt_succ_self _) (by omega) (hnx) (ti_t0_0 _ _ _ _).symm (lv_sub hl [1, 2, 3, 0] rfl)
        exact L25 _ 0 (fun _ => 1000) _ _ _ hP hD hS (Nat.lt_succ_self _) (by omega) (fun _ => Nat.le_refl _) (rfl) (lv_sub hl [1, 2, 0] rfl)
      · skip
        refine lv_aload_n hx hb dX7_times_8 rfl (lv_at hl 0 rfl) ?_
        refine va_get (v := .ref (ad 16)) hx hb hts in_X7 hown hK hP 0 rfl rfl 20 (by decide) (hts _ q1108) (fun _ h => h) rfl dX7_times_9 ?_
        refine lv_iload_n hx hb dX7_times_12 rfl (lv_at hl 2 rfl) ?_
        refine lv_sipush (v := nI 1000) hx hb dX7_times_13 (by decide) ?_
        refine tn_iast (f := g) hx hb hK hP hD hS 16 0 rfl rfl (by omega) (by decide) dX7_times_16 (fun H locs hP hD hS => ?_)
        have hP : va_P D vwCl (ti_wM E ad xg xd xt xf xj (xh.1, va_up g a 1000, xh.2.2) xs xv xb xq xk) H := hP
        have hD : va_D A (ti_wM E ad xg xd xt xf xj (xh.1, va_up g a 1000, xh.2.2) xs xv xb xq xk) := hD
        refine lv_iinc (v := nI (a + 1)) (lv' := [(2, .int (nI (a + 1))), (0, .ref (ad 0)), (1, .int (nI i))]) hx hb dX7_times_17 hl (k := 2) rfl (nI_1 a) (by decide) rfl (fun ls hl => ?_)
        refine lv_goto (tgt := 2) hx hb dX7_times_20 (by decide) ?_
        exact ih2 (a + 1) (va_up g a 1000) _ _ _ hP hD hS (by omega) (by omega) (ti_fill hv rfl) (lv_sub hl [1, 2, 0] rfl)
  exact L2 _ 0 xh.2.1 _ _ _ hP hD hS (Nat.lt_succ_self _) (by omega) (fun j hj => absurd hj (Nat.not_lt_zero _)) (lv_sub hl [1, 2, 0] rfl)

set_option maxHeartbeats 1000000 in
theorem met_X7_powers (l : Launch) (D : va_G) (E : Nat → ClassId) (ad : Nat → Nat) (xg : ti_Mg) (xd : ti_Md) (xt : ti_Mt) (xf : ti_Mf) (xj : ti_Mj) (xh : ti_Mh) (xs : ti_Ms) (xv : ti_Mv) (xb : ti_Mb) (xq : ti_Mq) (xk : ti_Mk) (hxg : ti_Mgok xg) (i : Nat) (hi : i < 3) (hxh : ti_Mhok xh) (n : Nat) (hn : n ≤ 100) : ti_MetM (σ := ti_Mh) l D E yX7_powers cX7_powers 4 none 2 0 0 (ti_wM E ad xg xd xt xf xj xh xs xv xb xq xk) [.ref (ad 0), .int (nI i), .int (nI n)] (fun u => ti_wM E ad xg xd xt xf xj u xs xv xb xq xk) (fun _ => none) (fun u => u.1 = ti_pn (ti_gr (ti_ma xg i) (ti_mb xg i) 0 (xg.1 i)) n ∧ u.2.2 = xh.2.2) := by
  refine ti_mutV (σ := ti_Mh) (by decide) (Nat.le_of_ble_eq_true rfl) ?_
  intro p e s m below meth c H H0 A Q ls S hE hP hD hS hA hinit hl hret
  have hx := S.1
  have hb := S.2.1
  have hown := S.2.2.2.1
  have hts := S.2.2.2.2
  have hK := hE.1
  have hl : lv_has ls 4 [(0, .ref (ad 0)), (1, .int (nI i)), (2, .int (nI n))] := hl
  refine lv_aload_n hx hb dX7_powers_0 rfl (lv_at hl 0 rfl) ?_
  refine ti_mVa (As := []) (rest := []) S hE hP hD hS hA (met_X7_begins l D E ad xg xd xt xf xj xh xs xv xb xq xk) (fun _ => rfl) (lw_V q1454 q1456 qs54 q73 q1457) 0 rfl 0 rfl rfl (by decide +kernel) ⟨Nat.le_of_ble_eq_true rfl, Nat.le_of_ble_eq_true rfl⟩ hl.1 rfl (Nat.le_of_ble_eq_true rfl) ⟨Nat.le_refl _, Nat.le_refl _⟩ dX7_powers_1 (fun _ H locs hu hP hD hS => ?_)
  have hP : va_P D vwCl (ti_wM E ad xg xd xt xf xj (ti_h0, xh.2.1, xh.2.2) xs xv xb xq xk) H := hP
  have hD : va_D A (ti_wM E ad xg xd xt xf xj (ti_h0, xh.2.1, xh.2.2) xs xv xb xq xk) := hD
  refine W.eq (g2 := F0 m 4 ls []) rfl ?_
  refine lv_iconst (v := nI 0) hx hb dX7_powers_4 (by decide) ?_
  refine lv_istore_n (lv' := [(3, .int (nI 0)), (0, .ref (ad 0)), (1, .int (nI i)), (2, .int (nI n))]) hx hb dX7_powers_5 rfl hl (by decide) rfl (fun ls hl => ?_)
  have L6 : ∀ (N : Nat) (k : Nat) (y : ti_Mh) (ls : Array Slot) (H : Heap) (locs : List Loc), va_P D vwCl (ti_wM E ad xg xd xt xf xj y xs xv xb xq xk) H → va_D A (ti_wM E ad xg xd xt xf xj y xs xv xb xq xk) → va_S A H0 H locs → (n - k) < N → (k ≤ n) → (y.1 = ti_pn (ti_gr (ti_ma xg i) (ti_mb xg i) 0 (xg.1 i)) k) → (y.2.2 = xh.2.2) → lv_has ls 4 [(0, .ref (ad 0)), (1, .int (nI i)), (2, .int (nI n)), (3, .int (nI k))] → W p l e (ti_rm 2 0 0) s m ([.ref (ad 0), .int (nI i), .int (nI n)] : List Value).toArray below meth c H locs 0 0 Q (F0 m 6 ls []) := by
    intro N
    induction N with
    | zero => intro k y ls H locs hP hD hS h0; exact absurd h0 (Nat.not_lt_zero _)
    | succ N ih6 =>
      intro k y ls H locs hP hD hS hN hkn hy1 hy2 hl
      refine lv_iload_n hx hb dX7_powers_6 rfl (lv_at hl 3 rfl) ?_
      refine lv_iload_n hx hb dX7_powers_7 rfl (lv_at hl 2 rfl) ?_
      refine tn_ge (tgt := 22) hx hb dX7_powers_8 (by decide) (by omega) (by omega) (fun c8 => ?_) (fun c8 => ?_)
      · skip
        exact hret y _ _ _ _ _ _ dX7_powers_22 (⟨by rw [hy1, show k = n by omega], hy2⟩) hP hS (Nat.le_refl _) (Nat.le_refl _)
      · skip
        refine lv_aload_n hx hb dX7_powers_11 rfl (lv_at hl 0 rfl) ?_
        refine lv_iload_n hx hb dX7_powers_12 rfl (lv_at hl 1 rfl) ?_
        refine ti_mVa (As := [.int (nI i)]) (rest := []) S hE hP hD hS hA (met_X7_times l D E ad xg xd xt xf xj y xs xv xb xq xk hxg i hi ⟨by rw [hy1]; exact ti_pn_le _ _, trivial, by rw [hy2]; exact hxh.2.2⟩) (fun _ => rfl) (lw_V q1458 q1460 qs55 q73 q1461) 1 rfl 0 rfl rfl (by decide +kernel) ⟨Nat.le_of_ble_eq_true rfl, Nat.le_of_ble_eq_true rfl⟩ hl.1 rfl (Nat.le_of_ble_eq_true rfl) ⟨Nat.le_refl _, Nat.le_refl _⟩ dX7_powers_13 (fun ut H locs hu hP hD hS => ?_)
        obtain ⟨ut1, ut2⟩ := hu
        have hP : va_P D vwCl (ti_wM E ad xg xd xt xf xj ut xs xv xb xq xk) H := hP
        have hD : va_D A (ti_wM E ad xg xd xt xf xj ut xs xv xb xq xk) := hD
        refine W.eq (g2 := F0 m 16 ls []) rfl ?_
        refine lv_iinc (v := nI (k + 1)) (lv' := [(3, .int (nI (k + 1))), (0, .ref (ad 0)), (1, .int (nI i)), (2, .int (nI n))]) hx hb dX7_powers_16 hl (k := 3) rfl (nI_1 k) (by decide) rfl (fun ls hl => ?_)
        refine lv_goto (tgt := 6) hx hb dX7_powers_19 (by decide) ?_
        exact ih6 (k + 1) ut _ _ _ hP hD hS (by omega) (by omega) (by rw [ut1, hy1]; rfl) (by rw [ut2, hy2]) (lv_sub hl [1, 2, 3, 0] rfl)
  exact L6 _ 0 (ti_h0, xh.2.1, xh.2.2) _ _ _ hP hD hS (Nat.lt_succ_self _) (by omega) (rfl) (rfl) (lv_sub hl [1, 2, 3, 0] rfl)

set_option maxHeartbeats 1000000 in
theorem met_X7_heightAt (l : Launch) (D : va_G) (E : Nat → ClassId) (ad : Nat → Nat) (xg : ti_Mg) (xd : ti_Md) (xt : ti_Mt) (xf : ti_Mf) (xj : ti_Mj) (xh : ti_Mh) (xs : ti_Ms) (xv : ti_Mv) (xb : ti_Mb) (xq : ti_Mq) (xk : ti_Mk) (hxh : ti_Mhok xh) (a : Nat) (ha : a < 72) : ti_MetM (σ := Unit) l D E yX7_heightAt cX7_heightAt 2 (some .int) 2 0 0 (ti_wM E ad xg xd xt xf xj xh xs xv xb xq xk) [.ref (ad 0), .int (nI a)] (fun _ => ti_wM E ad xg xd xt xf xj (ti_pfx xh.1, xh.2.1, xh.2.2) xs xv xb xq xk) (fun u => some (.int ((fun _ => ti_hx (ti_pfx xh.1 a)) u))) (fun _ => True) := by
  refine ti_mutI (σ := Unit) (vi := fun _ => ti_hx (ti_pfx xh.1 a)) (by decide) (Nat.le_of_ble_eq_true rfl) ?_
  intro p e s m below meth c H H0 A Q ls S hE hP hD hS hA hinit hl hret
  have hx := S.1
  have hb := S.2.1
  have hown := S.2.2.2.1
  have hts := S.2.2.2.2
  have hK := hE.1
  have hl : lv_has ls 2 [(0, .ref (ad 0)), (1, .int (nI a))] := hl
  refine lv_aload_n hx hb dX7_heightAt_0 rfl (lv_at hl 0 rfl) ?_
  refine ti_mVa (As := []) (rest := []) S hE hP hD hS hA (met_X7_settles l D E ad xg xd xt xf xj xh xs xv xb xq xk hxh) (fun _ => rfl) (lw_V q1466 q1468 qs57 q73 q1469) 0 rfl 0 rfl rfl (by decide +kernel) ⟨Nat.le_of_ble_eq_true rfl, Nat.le_of_ble_eq_true rfl⟩ hl.1 rfl (Nat.le_of_ble_eq_true rfl) ⟨Nat.le_refl _, Nat.le_refl _⟩ dX7_heightAt_1 (fun _ H locs hu hP hD hS => ?_)
  have hP : va_P D vwCl (ti_wM E ad xg xd xt xf xj (ti_pfx xh.1, xh.2.1, xh.2.2) xs xv xb xq xk) H := hP
  have hD : va_D A (ti_wM E ad xg xd xt xf xj (ti_pfx xh.1, xh.2.1, xh.2.2) xs xv xb xq xk) := hD
  refine W.eq (g2 := F0 m 4 ls []) rfl ?_
  have hb1 := ti_pfx_le hxh.1 a
  refine lv_aload_n hx hb dX7_heightAt_4 rfl (lv_at hl 0 rfl) ?_
  refine va_get (v := .ref (ad 15)) hx hb hts in_X7 hown hK hP 0 rfl rfl 19 (by decide) (hts _ q1107) (fun _ h => h) rfl dX7_heightAt_5 ?_
  refine lv_iload_n hx hb dX7_heightAt_8 rfl (lv_at hl 1 rfl) ?_
  refine tn_iald (f := ti_pfx xh.1) hx hb hK hP 15 0 rfl rfl (by omega) (by decide) dX7_heightAt_9 ?_
  refine lv_sipush (v := nI 1000) hx hb dX7_heightAt_10 (by decide) ?_
  refine tn_ne (tgt := 21) hx hb dX7_heightAt_13 (by decide) (by omega) (by omega) (fun c13 => ?_) (fun c13 => ?_)
  · skip
    refine lv_aload_n hx hb dX7_heightAt_21 rfl (lv_at hl 0 rfl) ?_
    refine va_get (v := .ref (ad 15)) hx hb hts in_X7 hown hK hP 0 rfl rfl 19 (by decide) (hts _ q1107) (fun _ h => h) rfl dX7_heightAt_22 ?_
    refine lv_iload_n hx hb dX7_heightAt_25 rfl (lv_at hl 1 rfl) ?_
    refine tn_iald (f := ti_pfx xh.1) hx hb hK hP 15 0 rfl rfl (by omega) (by decide) dX7_heightAt_26 ?_
    exact hret () _ _ _ _ _ _ _ dX7_heightAt_27 (by unfold ti_hx; rw [if_neg c13]) (trivial) hP hS (Nat.le_refl _) (Nat.le_refl _)
  · skip
    refine lv_bipush (v := (-5)) hx hb dX7_heightAt_16 (by decide) ?_
    refine lv_goto (tgt := 27) hx hb dX7_heightAt_18 (by decide) ?_
    exact hret () _ _ _ _ _ _ _ dX7_heightAt_27 (by unfold ti_hx; rw [if_pos c13]) (trivial) hP hS (Nat.le_refl _) (Nat.le_refl _)

set_option maxHeartbeats 1000000 in
theorem met_X7_heightOf (l : Launch) (D : va_G) (E : Nat → ClassId) (ad : Nat → Nat) (xg : ti_Mg) (xd : ti_Md) (xt : ti_Mt) (xf : ti_Mf) (xj : ti_Mj) (xh : ti_Mh) (xs : ti_Ms) (xv : ti_Mv) (xb : ti_Mb) (xq : ti_Mq) (xk : ti_Mk) (hxg : ti_Mgok xg) (i : Nat) (hi : i < 3) (hxh : ti_Mhok xh) (a : Nat) (ha : a < 72) : ti_MetM (σ := ti_Mh) l D E yX7_heightOf cX7_heightOf 3 (some .int) 3 0 0 (ti_wM E ad xg xd xt xf xj xh xs xv xb xq xk) [.ref (ad 0), .int (nI i), .int (nI a)] (fun u => ti_wM E ad xg xd xt xf xj u xs xv xb xq xk) (fun u => some (.int ((fun _ => ti_hx (ti_pfx (ti_pn (ti_gr (ti_ma xg i) (ti_mb xg i) 0 (xg.1 i)) 1) a)) u))) (fun u => ti_Mhok u) := by
  refine ti_mutI (σ := ti_Mh) (vi := fun _ => ti_hx (ti_pfx (ti_pn (ti_gr (ti_ma xg i) (ti_mb xg i) 0 (xg.1 i)) 1) a)) (by decide) (Nat.le_of_ble_eq_true rfl) ?_
  intro p e s m below meth c H H0 A Q ls S hE hP hD hS hA hinit hl hret
  have hx := S.1
  have hb := S.2.1
  have hown := S.2.2.2.1
  have hts := S.2.2.2.2
  have hK := hE.1
  have hl : lv_has ls 3 [(0, .ref (ad 0)), (1, .int (nI i)), (2, .int (nI a))] := hl
  refine lv_aload_n hx hb dX7_heightOf_0 rfl (lv_at hl 0 rfl) ?_
  refine lv_iload_n hx hb dX7_heightOf_1 rfl (lv_at hl 1 rfl) ?_
  refine lv_iconst (v := nI 1) hx hb dX7_heightOf_2 (by decide) ?_
  refine ti_mVa (As := [.int (nI i), .int (nI 1)]) (rest := []) S hE hP hD hS hA (met_X7_powers l D E ad xg xd xt xf xj xh xs xv xb xq xk hxg i hi hxh 1 (by omega)) (fun _ => rfl) (lw_V q1450 q1452 qs53 q73 q1453) 2 rfl 0 rfl rfl (by decide +kernel) ⟨Nat.le_of_ble_eq_true rfl, Nat.le_of_ble_eq_true rfl⟩ hl.1 rfl (Nat.le_of_ble_eq_true rfl) ⟨Nat.le_refl _, Nat.le_refl _⟩ dX7_heightOf_3 (fun up H locs hu hP hD hS => ?_)
  obtain ⟨up1, up2⟩ := hu
  have hup : ti_Mhok up := ⟨by rw [up1]; exact ti_pn_le _ _, trivial, by rw [up2]; exact hxh.2.2⟩
  have hP : va_P D vwCl (ti_wM E ad xg xd xt xf xj up xs xv xb xq xk) H := hP
  have hD : va_D A (ti_wM E ad xg xd xt xf xj up xs xv xb xq xk) := hD
  refine W.eq (g2 := F0 m 6 ls []) rfl ?_
  refine lv_aload_n hx hb dX7_heightOf_6 rfl (lv_at hl 0 rfl) ?_
  refine lv_iload_n hx hb dX7_heightOf_7 rfl (lv_at hl 2 rfl) ?_
  refine ti_mVa (As := [.int (nI a)]) (rest := []) S hE hP hD hS hA (met_X7_heightAt l D E ad xg xd xt xf xj up xs xv xb xq xk hup a ha) (fun _ => rfl) (lw_V q1462 q1464 qs56 q73 q1465) 1 rfl 0 rfl rfl (by decide +kernel) ⟨Nat.le_of_ble_eq_true rfl, Nat.le_of_ble_eq_true rfl⟩ hl.1 rfl (Nat.le_of_ble_eq_true rfl) ⟨Nat.le_refl _, Nat.le_refl _⟩ dX7_heightOf_8 (fun _ H locs hu hP hD hS => ?_)
  have hP : va_P D vwCl (ti_wM E ad xg xd xt xf xj (ti_pfx up.1, up.2.1, up.2.2) xs xv xb xq xk) H := hP
  have hD : va_D A (ti_wM E ad xg xd xt xf xj (ti_pfx up.1, up.2.1, up.2.2) xs xv xb xq xk) := hD
  refine W.eq (g2 := F0 m 11 ls [.int (ti_hx (ti_pfx up.1 a))]) rfl ?_
  exact hret (ti_pfx up.1, up.2.1, up.2.2) _ _ _ _ _ _ _ dX7_heightOf_11 (by rw [up1]) (⟨ti_pfx_le hup.1, trivial, hup.2.2⟩) hP hS (Nat.le_refl _) (Nat.le_refl _)
