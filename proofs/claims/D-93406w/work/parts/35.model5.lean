/-! TermIdealsModel: sums, reductions, seen, events (printed by w_model5.py) -/
set_option maxRecDepth 100000

set_option maxHeartbeats 1000000 in
theorem met_X7_sumHeight (l : Launch) (D : va_G) (E : Nat → ClassId) (ad : Nat → Nat) (xg : ti_Mg) (xd : ti_Md) (xt : ti_Mt) (xf : ti_Mf) (xj : ti_Mj) (xh : ti_Mh) (xs : ti_Ms) (xv : ti_Mv) (xb : ti_Mb) (xq : ti_Mq) (xk : ti_Mk) (hxg : ti_Mgok xg) (hxh : ti_Mhok xh) (a : Nat) (ha : a < 72) : ti_MetM (σ := ti_Mh) l D E yX7_sumHeight cX7_sumHeight 4 (some .int) 4 0 0 (ti_wM E ad xg xd xt xf xj xh xs xv xb xq xk) [.ref (ad 0), .int (nI a)] (fun u => ti_wM E ad xg xd xt xf xj u xs xv xb xq xk) (fun u => some (.int ((fun _ => ti_sh2 (ti_pfx (ti_pn (ti_G xg 0) 1) a) (ti_pfx (ti_pn (ti_G xg 1) 1) a)) u))) (fun u => ti_Mhok u) := by
  refine ti_mutI (σ := ti_Mh) (vi := fun _ => ti_sh2 (ti_pfx (ti_pn (ti_G xg 0) 1) a) (ti_pfx (ti_pn (ti_G xg 1) 1) a)) (by decide) (Nat.le_of_ble_eq_true rfl) ?_
  intro p e s m below meth c H H0 A Q ls S hE hP hD hS hA hinit hl hret
  have hx := S.1
  have hb := S.2.1
  have hown := S.2.2.2.1
  have hts := S.2.2.2.2
  have hK := hE.1
  have hl : lv_has ls 4 [(0, .ref (ad 0)), (1, .int (nI a))] := hl
  refine lv_aload_n hx hb dX7_sumHeight_0 rfl (lv_at hl 0 rfl) ?_
  refine lv_iconst (v := nI 0) hx hb dX7_sumHeight_1 (by decide) ?_
  refine lv_iload_n hx hb dX7_sumHeight_2 rfl (lv_at hl 1 rfl) ?_
  refine ti_mVa (As := [.int (nI 0), .int (nI a)]) (rest := []) S hE hP hD hS hA (met_X7_heightOf l D E ad xg xd xt xf xj xh xs xv xb xq xk hxg 0 (by decide) hxh a (by omega)) (fun _ => rfl) (lw_V q1446 q1448 qs52 q73 q1449) 2 rfl 0 rfl rfl (by decide +kernel) ⟨Nat.le_of_ble_eq_true rfl, Nat.le_of_ble_eq_true rfl⟩ hl.1 rfl (Nat.le_of_ble_eq_true rfl) ⟨Nat.le_refl _, Nat.le_refl _⟩ dX7_sumHeight_3 (fun ua H locs hu hP hD hS => ?_)
  have hua := hu
  have hP : va_P D vwCl (ti_wM E ad xg xd xt xf xj ua xs xv xb xq xk) H := hP
  have hD : va_D A (ti_wM E ad xg xd xt xf xj ua xs xv xb xq xk) := hD
  refine W.eq (g2 := F0 m 6 ls [.int (ti_hx (ti_pfx (ti_pn (ti_G xg 0) 1) a))]) rfl ?_
  refine lv_istore_n (lv' := [(2, .int (ti_hx (ti_pfx (ti_pn (ti_G xg 0) 1) a))), (0, .ref (ad 0)), (1, .int (nI a))]) hx hb dX7_sumHeight_6 rfl hl (by decide) rfl (fun ls hl => ?_)
  refine lv_aload_n hx hb dX7_sumHeight_7 rfl (lv_at hl 1 rfl) ?_
  refine lv_iconst (v := nI 1) hx hb dX7_sumHeight_8 (by decide) ?_
  refine lv_iload_n hx hb dX7_sumHeight_9 rfl (lv_at hl 2 rfl) ?_
  refine ti_mVa (As := [.int (nI 1), .int (nI a)]) (rest := []) S hE hP hD hS hA (met_X7_heightOf l D E ad xg xd xt xf xj ua xs xv xb xq xk hxg 1 (by decide) hua a (by omega)) (fun _ => rfl) (lw_V q1446 q1448 qs52 q73 q1449) 2 rfl 0 rfl rfl (by decide +kernel) ⟨Nat.le_of_ble_eq_true rfl, Nat.le_of_ble_eq_true rfl⟩ hl.1 rfl (Nat.le_of_ble_eq_true rfl) ⟨Nat.le_refl _, Nat.le_refl _⟩ dX7_sumHeight_10 (fun ub H locs hu hP hD hS => ?_)
  have hub := hu
  have hP : va_P D vwCl (ti_wM E ad xg xd xt xf xj ub xs xv xb xq xk) H := hP
  have hD : va_D A (ti_wM E ad xg xd xt xf xj ub xs xv xb xq xk) := hD
  refine W.eq (g2 := F0 m 13 ls [.int (ti_hx (ti_pfx (ti_pn (ti_G xg 1) 1) a))]) rfl ?_
  refine lv_istore_n (lv' := [(3, .int (ti_hx (ti_pfx (ti_pn (ti_G xg 1) 1) a))), (2, .int (ti_hx (ti_pfx (ti_pn (ti_G xg 0) 1) a))), (0, .ref (ad 0)), (1, .int (nI a))]) hx hb dX7_sumHeight_13 rfl hl (by decide) rfl (fun ls hl => ?_)
  refine lv_iload_n hx hb dX7_sumHeight_14 rfl (lv_at hl 1 rfl) ?_
  refine lv_bipush (v := (-5)) hx hb dX7_sumHeight_15 (by decide) ?_
  refine lv_icmp_ne (tgt := 24) hx hb dX7_sumHeight_17 (by decide) (fun c17 => ?_) (fun c17 => ?_)
  · skip
    refine lv_iload_n hx hb dX7_sumHeight_24 rfl (lv_at hl 0 rfl) ?_
    refine lv_bipush (v := (-5)) hx hb dX7_sumHeight_25 (by decide) ?_
    refine lv_icmp_ne (tgt := 34) hx hb dX7_sumHeight_27 (by decide) (fun c27 => ?_) (fun c27 => ?_)
    · skip
      refine lv_iload_n hx hb dX7_sumHeight_34 rfl (lv_at hl 1 rfl) ?_
      refine lv_iload_n hx hb dX7_sumHeight_35 rfl (lv_at hl 0 rfl) ?_
      have e1 : ti_hx (ti_pfx (ti_pn (ti_G xg 0) 1) a) = nI (ti_pfx (ti_pn (ti_G xg 0) 1) a) := by unfold ti_hx; rw [if_neg (fun z => c17 ((ti_hx_n5 (by have := ti_pfx_le (ti_pn_le (ti_G xg 0) 1) a; omega)).mpr z))]
      have e2 : ti_hx (ti_pfx (ti_pn (ti_G xg 1) 1) a) = nI (ti_pfx (ti_pn (ti_G xg 1) 1) a) := by unfold ti_hx; rw [if_neg (fun z => c27 ((ti_hx_n5 (by have := ti_pfx_le (ti_pn_le (ti_G xg 1) 1) a; omega)).mpr z))]
      rw [e1, e2]
      have b1 := ti_pfx_le (ti_pn_le (ti_G xg 0) 1) a
      have b2 := ti_pfx_le (ti_pn_le (ti_G xg 1) 1) a
      refine tn_min S hl.1 q1297 (Nat.le_of_ble_eq_true rfl) (Nat.le_of_ble_eq_true rfl) ⟨Nat.le_refl _, Nat.le_refl _⟩ (by omega) (by omega) dX7_sumHeight_36 ?_
      exact hret ub _ _ _ _ _ _ _ dX7_sumHeight_39 (by unfold ti_sh2; rw [if_neg (fun z => c17 ((ti_hx_n5 (by have := ti_pfx_le (ti_pn_le (ti_G xg 0) 1) a; omega)).mpr z)), if_neg (fun z => c27 ((ti_hx_n5 (by have := ti_pfx_le (ti_pn_le (ti_G xg 1) 1) a; omega)).mpr z))]) (hub) hP hS (Nat.le_refl _) (Nat.le_refl _)
    · skip
      refine lv_iload_n hx hb dX7_sumHeight_30 rfl (lv_at hl 1 rfl) ?_
      refine lv_goto (tgt := 39) hx hb dX7_sumHeight_31 (by decide) ?_
      exact hret ub _ _ _ _ _ _ _ dX7_sumHeight_39 (by unfold ti_sh2; rw [if_neg (fun z => c17 ((ti_hx_n5 (by have := ti_pfx_le (ti_pn_le (ti_G xg 0) 1) a; omega)).mpr z)), if_pos ((ti_hx_n5 (by have := ti_pfx_le (ti_pn_le (ti_G xg 1) 1) a; omega)).mp c27)]) (hub) hP hS (Nat.le_refl _) (Nat.le_refl _)
  · skip
    refine lv_iload_n hx hb dX7_sumHeight_20 rfl (lv_at hl 0 rfl) ?_
    refine lv_goto (tgt := 39) hx hb dX7_sumHeight_21 (by decide) ?_
    exact hret ub _ _ _ _ _ _ _ dX7_sumHeight_39 (by unfold ti_sh2; rw [if_pos ((ti_hx_n5 (by have := ti_pfx_le (ti_pn_le (ti_G xg 0) 1) a; omega)).mp c17)]) (hub) hP hS (Nat.le_refl _) (Nat.le_refl _)

set_option maxHeartbeats 1000000 in
theorem met_X7_isReduction (l : Launch) (D : va_G) (E : Nat → ClassId) (ad : Nat → Nat) (xg : ti_Mg) (xd : ti_Md) (xt : ti_Mt) (xf : ti_Mf) (xj : ti_Mj) (xh : ti_Mh) (xs : ti_Ms) (xv : ti_Mv) (xb : ti_Mb) (xq : ti_Mq) (xk : ti_Mk) (hxg : ti_Mgok xg) (hxf : ti_Mfok xf) (hNr : 0 < xg.1 0 → ti_r2 (ti_G xg 0) 1000 (List.range' 1 9) ≤ 6) : ti_MetM (σ := ti_Mf) l D E yX7_isReduction cX7_isReduction 3 (some .boolean) 4 0 0 (ti_wM E ad xg xd xt xf xj xh xs xv xb xq xk) [.ref (ad 0)] (fun u => ti_wM E ad xg xd xt u xj xh xs xv xb xq xk) (fun u => some (.int (ti_b ((fun _ => if xg.1 0 = 0 ∨ xg.1 1 = 0 then false else ti_all1 (ti_G xg 1) (ti_G xg 0) && ti_all2 (ti_fm (ti_G xg 0) 1000).reverse (ti_G xg 1)) u)))) (fun u => ti_Mfok u) := by
  refine ti_mutZ (σ := ti_Mf) (vb := fun _ => if xg.1 0 = 0 ∨ xg.1 1 = 0 then false else ti_all1 (ti_G xg 1) (ti_G xg 0) && ti_all2 (ti_fm (ti_G xg 0) 1000).reverse (ti_G xg 1)) (by decide) (Nat.le_of_ble_eq_true rfl) ?_
  intro p e s m below meth c H H0 A Q ls S hE hP hD hS hA hinit hl hret
  have hx := S.1
  have hb := S.2.1
  have hown := S.2.2.2.1
  have hts := S.2.2.2.2
  have hK := hE.1
  have hl : lv_has ls 3 [(0, .ref (ad 0))] := hl
  refine lv_aload_n hx hb dX7_isReduction_0 rfl (lv_at hl 0 rfl) ?_
  refine va_get (v := .ref (ad 1)) hx hb hts in_X7 hown hK hP 0 rfl rfl 0 (by decide) (hts _ q1088) (fun _ h => h) rfl dX7_isReduction_1 ?_
  refine lv_iconst (v := nI 0) hx hb dX7_isReduction_4 (by decide) ?_
  refine tn_iald (f := xg.1) hx hb hK hP 1 0 rfl rfl (by omega) (by decide) dX7_isReduction_5 ?_
  have b5 := hxg.1 0
  refine tn_if_eq (tgt := 18) hx hb dX7_isReduction_6 (by decide) (by omega) (fun c6 => ?_) (fun c6 => ?_)
  · skip
    refine lv_iconst (v := nI 0) hx hb dX7_isReduction_18 (by decide) ?_
    exact hret xf _ _ _ _ _ _ _ dX7_isReduction_19 (by rw [if_pos (by omega)]; rfl) (hxf) hP hS (Nat.le_refl _) (Nat.le_refl _)
  · skip
    refine lv_aload_n hx hb dX7_isReduction_9 rfl (lv_at hl 0 rfl) ?_
    refine va_get (v := .ref (ad 1)) hx hb hts in_X7 hown hK hP 0 rfl rfl 0 (by decide) (hts _ q1088) (fun _ h => h) rfl dX7_isReduction_10 ?_
    refine lv_iconst (v := nI 1) hx hb dX7_isReduction_13 (by decide) ?_
    refine tn_iald (f := xg.1) hx hb hK hP 1 0 rfl rfl (by omega) (by decide) dX7_isReduction_14 ?_
    have b14 := hxg.1 1
    refine tn_if_ne (tgt := 20) hx hb dX7_isReduction_15 (by decide) (by omega) (fun c15 => ?_) (fun c15 => ?_)
    · skip
      refine lv_iconst (v := nI 1) hx hb dX7_isReduction_20 (by decide) ?_
      refine lv_istore_n (lv' := [(1, .int (nI 1)), (0, .ref (ad 0))]) hx hb dX7_isReduction_21 rfl hl (by decide) rfl (fun ls hl => ?_)
      refine lv_iconst (v := nI 0) hx hb dX7_isReduction_22 (by decide) ?_
      refine lv_istore_n (lv' := [(2, .int (nI 0)), (1, .int (nI 1)), (0, .ref (ad 0))]) hx hb dX7_isReduction_23 rfl hl (by decide) rfl (fun ls hl => ?_)
      have L24 : ∀ (N : Nat) (z1 : Bool) (k : Nat) (ls : Array Slot) (H : Heap) (locs : List Loc), va_P D vwCl (ti_wM E ad xg xd xt xf xj xh xs xv xb xq xk) H → va_D A (ti_wM E ad xg xd xt xf xj xh xs xv xb xq xk) → va_S A H0 H locs → (xg.1 0 - k) < N → (k ≤ xg.1 0) → (ti_all1 (ti_G xg 1) (ti_G xg 0) = (z1 && ti_all1 (ti_G xg 1) (ti_gr (ti_ma xg 0) (ti_mb xg 0) k (xg.1 0 - k)))) → lv_has ls 3 [(0, .ref (ad 0)), (1, .int (ti_b z1)), (2, .int (nI k))] → W p l e (ti_rm 4 0 0) s m ([.ref (ad 0)] : List Value).toArray below meth c H locs 0 0 Q (F0 m 24 ls []) := by
        intro N
        induction N with
        | zero => intro z1 k ls H locs hP hD hS h0; exact absurd h0 (Nat.not_lt_zero _)
        | succ N ih24 =>
          intro z1 k ls H locs hP hD hS hN hkn hv hl
          refine lv_iload_n hx hb dX7_isReduction_24 rfl (lv_at hl 2 rfl) ?_
          refine lv_aload_n hx hb dX7_isReduction_25 rfl (lv_at hl 0 rfl) ?_
          refine va_get (v := .ref (ad 1)) hx hb hts in_X7 hown hK hP 0 rfl rfl 0 (by decide) (hts _ q1088) (fun _ h => h) rfl dX7_isReduction_26 ?_
          refine lv_iconst (v := nI 0) hx hb dX7_isReduction_29 (by decide) ?_
          refine tn_iald (f := xg.1) hx hb hK hP 1 0 rfl rfl (by omega) (by decide) dX7_isReduction_30 ?_
          have b30 := hxg.1 0
          refine tn_ge (tgt := 70) hx hb dX7_isReduction_31 (by decide) (by omega) (by omega) (fun c31 => ?_) (fun c31 => ?_)
          · skip
            rw [show xg.1 0 - k = 0 by omega, ti_gr_0] at hv
            have hv : ti_all1 (ti_G xg 1) (ti_G xg 0) = z1 := by rw [hv]; cases z1 <;> rfl
            refine lv_aload_n hx hb dX7_isReduction_70 rfl (lv_at hl 0 rfl) ?_
            refine lv_iconst (v := nI 0) hx hb dX7_isReduction_71 (by decide) ?_
            refine ti_mVa (As := [.int (nI 0)]) (rest := []) S hE hP hD hS hA (met_X7_tellsFaces l D E ad xg xd xt xf xj xh xs xv xb xq xk hxg 0 (by decide) (hNr (by omega)) hxf) (fun _ => rfl) (lw_V q1285 q1287 qs32 q73 q1288) 1 rfl 0 rfl rfl (by decide +kernel) ⟨Nat.le_of_ble_eq_true rfl, Nat.le_of_ble_eq_true rfl⟩ hl.1 rfl (Nat.le_of_ble_eq_true rfl) ⟨Nat.le_refl _, Nat.le_refl _⟩ dX7_isReduction_72 (fun u1 H locs hu hP hD hS => ?_)
            obtain ⟨hF1, hF2⟩ := hu
            have hP : va_P D vwCl (ti_wM E ad xg xd xt u1 xj xh xs xv xb xq xk) H := hP
            have hD : va_D A (ti_wM E ad xg xd xt u1 xj xh xs xv xb xq xk) := hD
            refine W.eq (g2 := F0 m 75 ls []) rfl ?_
            refine lv_iconst (v := nI 0) hx hb dX7_isReduction_75 (by decide) ?_
            refine lv_istore_n (lv' := [(2, .int (nI 0)), (0, .ref (ad 0)), (1, .int (ti_b z1))]) hx hb dX7_isReduction_76 rfl hl (by decide) rfl (fun ls hl => ?_)
            have L77 : ∀ (N : Nat) (z : Bool) (k : Nat) (ls : Array Slot) (H : Heap) (locs : List Loc), va_P D vwCl (ti_wM E ad xg xd xt u1 xj xh xs xv xb xq xk) H → va_D A (ti_wM E ad xg xd xt u1 xj xh xs xv xb xq xk) → va_S A H0 H locs → (xg.1 1 - k) < N → (k ≤ xg.1 1) → ((z1 && ti_all2 (ti_F u1) (ti_G xg 1)) = (z && ti_all2 (ti_F u1) (ti_gr (ti_ma xg 1) (ti_mb xg 1) k (xg.1 1 - k)))) → lv_has ls 3 [(0, .ref (ad 0)), (1, .int (ti_b z)), (2, .int (nI k))] → W p l e (ti_rm 4 0 0) s m ([.ref (ad 0)] : List Value).toArray below meth c H locs 0 0 Q (F0 m 77 ls []) := by
              intro N
              induction N with
              | zero => intro z k ls H locs hP hD hS h0; exact absurd h0 (Nat.not_lt_zero _)
              | succ N ih77 =>
                intro z k ls H locs hP hD hS hN hkn hv2 hl
                refine lv_iload_n hx hb dX7_isReduction_77 rfl (lv_at hl 2 rfl) ?_
                refine lv_aload_n hx hb dX7_isReduction_78 rfl (lv_at hl 0 rfl) ?_
                refine va_get (v := .ref (ad 1)) hx hb hts in_X7 hown hK hP 0 rfl rfl 0 (by decide) (hts _ q1088) (fun _ h => h) rfl dX7_isReduction_79 ?_
                refine lv_iconst (v := nI 1) hx hb dX7_isReduction_82 (by decide) ?_
                refine tn_iald (f := xg.1) hx hb hK hP 1 0 rfl rfl (by omega) (by decide) dX7_isReduction_83 ?_
                have b83 := hxg.1 1
                refine tn_ge (tgt := 122) hx hb dX7_isReduction_84 (by decide) (by omega) (by omega) (fun c84 => ?_) (fun c84 => ?_)
                · skip
                  rw [show xg.1 1 - k = 0 by omega, ti_gr_0] at hv2
                  refine lv_iload_n hx hb dX7_isReduction_122 rfl (lv_at hl 1 rfl) ?_
                  exact hret u1 _ _ _ _ _ _ _ dX7_isReduction_123 (by rw [if_neg (by omega), ← hF1, hv, hv2]; cases z <;> rfl) (hF2) hP hS (Nat.le_refl _) (Nat.le_refl _)
                · skip
                  obtain ⟨m9, hm9⟩ : ∃ m9, xg.1 1 - k = m9 + 1 := ⟨xg.1 1 - k - 1, by omega⟩
                  rw [hm9, ti_gr_s] at hv2
                  refine lv_iload_n hx hb dX7_isReduction_87 rfl (lv_at hl 1 rfl) ?_
                  refine tb_eq (tgt := 114) hx hb dX7_isReduction_88 (by decide) (fun c88 => ?_) (fun c88 => ?_)
                  · skip
                    refine lv_iconst (v := nI 0) hx hb dX7_isReduction_114 (by decide) ?_
                    refine lv_istore_n (lv' := [(1, .int (nI 0)), (0, .ref (ad 0)), (2, .int (nI k))]) hx hb dX7_isReduction_115 rfl hl (by decide) rfl (fun ls hl => ?_)
                    refine lv_iinc (v := nI (k + 1)) (lv' := [(2, .int (nI (k + 1))), (1, .int (nI 0)), (0, .ref (ad 0))]) hx hb dX7_isReduction_116 hl (k := 2) rfl (nI_1 k) (by decide) rfl (fun ls hl => ?_)
                    refine lv_goto (tgt := 77) hx hb dX7_isReduction_119 (by decide) ?_
                    exact ih77 false (k + 1) _ _ _ hP hD hS (by omega) (by omega) (by rw [hv2, c88]; rfl) (lv_sub hl [2, 1, 0] rfl)
                  · skip
                    refine lv_aload_n hx hb dX7_isReduction_91 rfl (lv_at hl 0 rfl) ?_
                    refine lv_aload_n hx hb dX7_isReduction_92 rfl (lv_at hl 0 rfl) ?_
                    refine lv_iconst (v := nI 1) hx hb dX7_isReduction_93 (by decide) ?_
                    refine lv_iload_n hx hb dX7_isReduction_94 rfl (lv_at hl 2 rfl) ?_
                    refine ti_pVa (As := [.int (nI 1), .int (nI k)]) (rest := [.ref (ad 0)]) (v := .int (nI (ti_ma xg 1 k))) S hE hP (met_X7_a l D E ad xg xd xt u1 xj xh xs xv xb xq xk 1 k (by omega)) (lw_V q1245 q1247 qs26 q73 q1248) 2 rfl 0 rfl rfl (by decide +kernel) ⟨Nat.le_of_ble_eq_true rfl, Nat.le_of_ble_eq_true rfl⟩ hl.1 rfl (Nat.le_of_ble_eq_true rfl) ⟨Nat.le_refl _, Nat.le_refl _⟩ dX7_isReduction_95 ?_
                    have ha95 : ti_ma xg 1 k ≤ 9 := hxg.2.1 _
                    refine lv_aload_n hx hb dX7_isReduction_98 rfl (lv_at hl 0 rfl) ?_
                    refine lv_iconst (v := nI 1) hx hb dX7_isReduction_99 (by decide) ?_
                    refine lv_iload_n hx hb dX7_isReduction_100 rfl (lv_at hl 2 rfl) ?_
                    refine ti_pVa (As := [.int (nI 1), .int (nI k)]) (rest := [.int (nI (ti_ma xg 1 k)), .ref (ad 0)]) (v := .int (nI (ti_mb xg 1 k))) S hE hP (met_X7_b l D E ad xg xd xt u1 xj xh xs xv xb xq xk 1 k (by omega)) (lw_V q1249 q1251 qs27 q73 q1252) 2 rfl 0 rfl rfl (by decide +kernel) ⟨Nat.le_of_ble_eq_true rfl, Nat.le_of_ble_eq_true rfl⟩ hl.1 rfl (Nat.le_of_ble_eq_true rfl) ⟨Nat.le_refl _, Nat.le_refl _⟩ dX7_isReduction_101 ?_
                    have hb101 : ti_mb xg 1 k ≤ 9 := hxg.2.2 _
                    refine ti_pVa (As := [.int (nI (ti_ma xg 1 k)), .int (nI (ti_mb xg 1 k))]) (rest := []) (v := .int (ti_b (ti_hull (ti_ma xg 1 k) (ti_mb xg 1 k) (ti_F u1)))) S hE hP (met_X7_isInHull l D E ad xg xd xt u1 xj xh xs xv xb xq xk hF2 (ti_ma xg 1 k) (ti_mb xg 1 k) (by omega) (by omega)) (lw_V q1309 q1311 qs37 q73 q1312) 2 rfl 0 rfl rfl (by decide +kernel) ⟨Nat.le_of_ble_eq_true rfl, Nat.le_of_ble_eq_true rfl⟩ hl.1 rfl (Nat.le_of_ble_eq_true rfl) ⟨Nat.le_refl _, Nat.le_refl _⟩ dX7_isReduction_104 ?_
                    refine tb_eq (tgt := 114) hx hb dX7_isReduction_107 (by decide) (fun c107 => ?_) (fun c107 => ?_)
                    · skip
                      refine lv_iconst (v := nI 0) hx hb dX7_isReduction_114 (by decide) ?_
                      refine lv_istore_n (lv' := [(1, .int (nI 0)), (0, .ref (ad 0)), (2, .int (nI k))]) hx hb dX7_isReduction_115 rfl hl (by decide) rfl (fun ls hl => ?_)
                      refine lv_iinc (v := nI (k + 1)) (lv' := [(2, .int (nI (k + 1))), (1, .int (nI 0)), (0, .ref (ad 0))]) hx hb dX7_isReduction_116 hl (k := 2) rfl (nI_1 k) (by decide) rfl (fun ls hl => ?_)
                      refine lv_goto (tgt := 77) hx hb dX7_isReduction_119 (by decide) ?_
                      exact ih77 false (k + 1) _ _ _ hP hD hS (by omega) (by omega) (by rw [hv2, c88, ti_all2, if_neg (by rw [c107]; decide)]; rfl) (lv_sub hl [2, 1, 0] rfl)
                    · skip
                      refine lv_iconst (v := nI 1) hx hb dX7_isReduction_110 (by decide) ?_
                      refine lv_goto (tgt := 115) hx hb dX7_isReduction_111 (by decide) ?_
                      refine lv_istore_n (lv' := [(1, .int (nI 1)), (0, .ref (ad 0)), (2, .int (nI k))]) hx hb dX7_isReduction_115 rfl hl (by decide) rfl (fun ls hl => ?_)
                      refine lv_iinc (v := nI (k + 1)) (lv' := [(2, .int (nI (k + 1))), (1, .int (nI 1)), (0, .ref (ad 0))]) hx hb dX7_isReduction_116 hl (k := 2) rfl (nI_1 k) (by decide) rfl (fun ls hl => ?_)
                      refine lv_goto (tgt := 77) hx hb dX7_isReduction_119 (by decide) ?_
                      exact ih77 true (k + 1) _ _ _ hP hD hS (by omega) (by omega) (by rw [hv2, c88, ti_all2, if_pos c107, show xg.1 1 - (k + 1) = m9 by omega]) (lv_sub hl [2, 1, 0] rfl)
            exact L77 _ z1 0 _ _ _ hP hD hS (Nat.lt_succ_self _) (by omega) (rfl) (lv_sub hl [1, 2, 0] rfl)
          · skip
            obtain ⟨m9, hm9⟩ : ∃ m9, xg.1 0 - k = m9 + 1 := ⟨xg.1 0 - k - 1, by omega⟩
            rw [hm9, ti_gr_s] at hv
            refine lv_iload_n hx hb dX7_isReduction_34 rfl (lv_at hl 1 rfl) ?_
            refine tb_eq (tgt := 62) hx hb dX7_isReduction_35 (by decide) (fun c35 => ?_) (fun c35 => ?_)
            · skip
              refine lv_iconst (v := nI 0) hx hb dX7_isReduction_62 (by decide) ?_
              refine lv_istore_n (lv' := [(1, .int (nI 0)), (0, .ref (ad 0)), (2, .int (nI k))]) hx hb dX7_isReduction_63 rfl hl (by decide) rfl (fun ls hl => ?_)
              refine lv_iinc (v := nI (k + 1)) (lv' := [(2, .int (nI (k + 1))), (1, .int (nI 0)), (0, .ref (ad 0))]) hx hb dX7_isReduction_64 hl (k := 2) rfl (nI_1 k) (by decide) rfl (fun ls hl => ?_)
              refine lv_goto (tgt := 24) hx hb dX7_isReduction_67 (by decide) ?_
              exact ih24 false (k + 1) _ _ _ hP hD hS (by omega) (by omega) (by rw [hv, c35]; rfl) (lv_sub hl [2, 1, 0] rfl)
            · skip
              refine lv_aload_n hx hb dX7_isReduction_38 rfl (lv_at hl 0 rfl) ?_
              refine lv_iconst (v := nI 1) hx hb dX7_isReduction_39 (by decide) ?_
              refine lv_aload_n hx hb dX7_isReduction_40 rfl (lv_at hl 0 rfl) ?_
              refine lv_iconst (v := nI 0) hx hb dX7_isReduction_41 (by decide) ?_
              refine lv_iload_n hx hb dX7_isReduction_42 rfl (lv_at hl 2 rfl) ?_
              refine ti_pVa (As := [.int (nI 0), .int (nI k)]) (rest := [.int (nI 1), .ref (ad 0)]) (v := .int (nI (ti_ma xg 0 k))) S hE hP (met_X7_a l D E ad xg xd xt xf xj xh xs xv xb xq xk 0 k (by omega)) (lw_V q1245 q1247 qs26 q73 q1248) 2 rfl 0 rfl rfl (by decide +kernel) ⟨Nat.le_of_ble_eq_true rfl, Nat.le_of_ble_eq_true rfl⟩ hl.1 rfl (Nat.le_of_ble_eq_true rfl) ⟨Nat.le_refl _, Nat.le_refl _⟩ dX7_isReduction_43 ?_
              have ha43 : ti_ma xg 0 k ≤ 9 := hxg.2.1 _
              refine lv_aload_n hx hb dX7_isReduction_46 rfl (lv_at hl 0 rfl) ?_
              refine lv_iconst (v := nI 0) hx hb dX7_isReduction_47 (by decide) ?_
              refine lv_iload_n hx hb dX7_isReduction_48 rfl (lv_at hl 2 rfl) ?_
              refine ti_pVa (As := [.int (nI 0), .int (nI k)]) (rest := [.int (nI (ti_ma xg 0 k)), .int (nI 1), .ref (ad 0)]) (v := .int (nI (ti_mb xg 0 k))) S hE hP (met_X7_b l D E ad xg xd xt xf xj xh xs xv xb xq xk 0 k (by omega)) (lw_V q1249 q1251 qs27 q73 q1252) 2 rfl 0 rfl rfl (by decide +kernel) ⟨Nat.le_of_ble_eq_true rfl, Nat.le_of_ble_eq_true rfl⟩ hl.1 rfl (Nat.le_of_ble_eq_true rfl) ⟨Nat.le_refl _, Nat.le_refl _⟩ dX7_isReduction_49 ?_
              have hb49 : ti_mb xg 0 k ≤ 9 := hxg.2.2 _
              refine ti_pVa (As := [.int (nI 1), .int (nI (ti_ma xg 0 k)), .int (nI (ti_mb xg 0 k))]) (rest := []) (v := .int (ti_b (ti_hb (ti_ma xg 0 k) (ti_mb xg 0 k) (-5) (ti_G xg 1) 0))) S hE hP (met_X7_isWithin l D E ad xg xd xt xf xj xh xs xv xb xq xk hxg 1 (by decide) (ti_ma xg 0 k) (ti_mb xg 0 k) (by omega) (by omega)) (lw_V q1375 q1377 qs45 q73 q1378) 3 rfl 0 rfl rfl (by decide +kernel) ⟨Nat.le_of_ble_eq_true rfl, Nat.le_of_ble_eq_true rfl⟩ hl.1 rfl (Nat.le_of_ble_eq_true rfl) ⟨Nat.le_refl _, Nat.le_refl _⟩ dX7_isReduction_52 ?_
              refine tb_eq (tgt := 62) hx hb dX7_isReduction_55 (by decide) (fun c55 => ?_) (fun c55 => ?_)
              · skip
                refine lv_iconst (v := nI 0) hx hb dX7_isReduction_62 (by decide) ?_
                refine lv_istore_n (lv' := [(1, .int (nI 0)), (0, .ref (ad 0)), (2, .int (nI k))]) hx hb dX7_isReduction_63 rfl hl (by decide) rfl (fun ls hl => ?_)
                refine lv_iinc (v := nI (k + 1)) (lv' := [(2, .int (nI (k + 1))), (1, .int (nI 0)), (0, .ref (ad 0))]) hx hb dX7_isReduction_64 hl (k := 2) rfl (nI_1 k) (by decide) rfl (fun ls hl => ?_)
                refine lv_goto (tgt := 24) hx hb dX7_isReduction_67 (by decide) ?_
                exact ih24 false (k + 1) _ _ _ hP hD hS (by omega) (by omega) (by rw [hv, c35, ti_all1, if_neg (by rw [c55]; decide)]; rfl) (lv_sub hl [2, 1, 0] rfl)
              · skip
                refine lv_iconst (v := nI 1) hx hb dX7_isReduction_58 (by decide) ?_
                refine lv_goto (tgt := 63) hx hb dX7_isReduction_59 (by decide) ?_
                refine lv_istore_n (lv' := [(1, .int (nI 1)), (0, .ref (ad 0)), (2, .int (nI k))]) hx hb dX7_isReduction_63 rfl hl (by decide) rfl (fun ls hl => ?_)
                refine lv_iinc (v := nI (k + 1)) (lv' := [(2, .int (nI (k + 1))), (1, .int (nI 1)), (0, .ref (ad 0))]) hx hb dX7_isReduction_64 hl (k := 2) rfl (nI_1 k) (by decide) rfl (fun ls hl => ?_)
                refine lv_goto (tgt := 24) hx hb dX7_isReduction_67 (by decide) ?_
                exact ih24 true (k + 1) _ _ _ hP hD hS (by omega) (by omega) (by rw [hv, c35, ti_all1, if_pos c55, show xg.1 0 - (k + 1) = m9 by omega]) (lv_sub hl [2, 1, 0] rfl)
      exact L24 _ true 0 _ _ _ hP hD hS (Nat.lt_succ_self _) (by omega) (Bool.true_and _).symm (lv_sub hl [2, 1, 0] rfl)
    · skip
      refine lv_iconst (v := nI 0) hx hb dX7_isReduction_18 (by decide) ?_
      exact hret xf _ _ _ _ _ _ _ dX7_isReduction_19 (by rw [if_pos (by omega)]; rfl) (hxf) hP hS (Nat.le_refl _) (Nat.le_refl _)

set_option maxHeartbeats 1000000 in
theorem met_X7_isMetBy (l : Launch) (D : va_G) (E : Nat → ClassId) (ad : Nat → Nat) (xg : ti_Mg) (xd : ti_Md) (xt : ti_Mt) (xf : ti_Mf) (xj : ti_Mj) (xh : ti_Mh) (xs : ti_Ms) (xv : ti_Mv) (xb : ti_Mb) (xq : ti_Mq) (xk : ti_Mk) (hxg : ti_Mgok xg) (hxh : ti_Mhok xh) (rr : Nat) (hrr : rr ≤ 50) : ti_MetM (σ := ti_Mh) l D E yX7_isMetBy cX7_isMetBy 4 (some .boolean) 3 0 0 (ti_wM E ad xg xd xt xf xj xh xs xv xb xq xk) [.ref (ad 0), .int (nI rr)] (fun u => ti_wM E ad xg xd xt xf xj u xs xv xb xq xk) (fun u => some (.int (ti_b ((fun _ => ti_eq (ti_pfx (ti_tm (ti_pn (ti_G xg 1) rr) (ti_G xg 0))) (ti_pfx (ti_pn (ti_G xg 1) (rr + 1))) (List.range' 0 72)) u)))) (fun u => ti_Mhok u) := by
  refine ti_mutZ (σ := ti_Mh) (vb := fun _ => ti_eq (ti_pfx (ti_tm (ti_pn (ti_G xg 1) rr) (ti_G xg 0))) (ti_pfx (ti_pn (ti_G xg 1) (rr + 1))) (List.range' 0 72)) (by decide) (Nat.le_of_ble_eq_true rfl) ?_
  intro p e s m below meth c H H0 A Q ls S hE hP hD hS hA hinit hl hret
  have hx := S.1
  have hb := S.2.1
  have hown := S.2.2.2.1
  have hts := S.2.2.2.2
  have hK := hE.1
  have hl : lv_has ls 4 [(0, .ref (ad 0)), (1, .int (nI rr))] := hl
  refine lv_aload_n hx hb dX7_isMetBy_0 rfl (lv_at hl 0 rfl) ?_
  refine lv_iconst (v := nI 1) hx hb dX7_isMetBy_1 (by decide) ?_
  refine lv_iload_n hx hb dX7_isMetBy_2 rfl (lv_at hl 1 rfl) ?_
  refine ti_mVa (As := [.int (nI 1), .int (nI rr)]) (rest := []) S hE hP hD hS hA (met_X7_powers l D E ad xg xd xt xf xj xh xs xv xb xq xk hxg 1 (by decide) hxh rr (by omega)) (fun _ => rfl) (lw_V q1450 q1452 qs53 q73 q1453) 2 rfl 0 rfl rfl (by decide +kernel) ⟨Nat.le_of_ble_eq_true rfl, Nat.le_of_ble_eq_true rfl⟩ hl.1 rfl (Nat.le_of_ble_eq_true rfl) ⟨Nat.le_refl _, Nat.le_refl _⟩ dX7_isMetBy_3 (fun u1 H locs hu hP hD hS => ?_)
  obtain ⟨u11, u12⟩ := hu
  have hu1 : ti_Mhok u1 := ⟨by rw [u11]; exact ti_pn_le _ _, trivial, by rw [u12]; exact hxh.2.2⟩
  have hP : va_P D vwCl (ti_wM E ad xg xd xt xf xj u1 xs xv xb xq xk) H := hP
  have hD : va_D A (ti_wM E ad xg xd xt xf xj u1 xs xv xb xq xk) := hD
  refine W.eq (g2 := F0 m 6 ls []) rfl ?_
  refine lv_aload_n hx hb dX7_isMetBy_6 rfl (lv_at hl 0 rfl) ?_
  refine lv_iconst (v := nI 0) hx hb dX7_isMetBy_7 (by decide) ?_
  refine ti_mVa (As := [.int (nI 0)]) (rest := []) S hE hP hD hS hA (met_X7_times l D E ad xg xd xt xf xj u1 xs xv xb xq xk hxg 0 (by decide) hu1) (fun _ => rfl) (lw_V q1458 q1460 qs55 q73 q1461) 1 rfl 0 rfl rfl (by decide +kernel) ⟨Nat.le_of_ble_eq_true rfl, Nat.le_of_ble_eq_true rfl⟩ hl.1 rfl (Nat.le_of_ble_eq_true rfl) ⟨Nat.le_refl _, Nat.le_refl _⟩ dX7_isMetBy_8 (fun u2 H locs hu hP hD hS => ?_)
  obtain ⟨u21, u22⟩ := hu
  have hu2 : ti_Mhok u2 := ⟨by rw [u21]; exact ti_tm_le _ _, trivial, by rw [u22]; exact hu1.2.2⟩
  have e2 : ti_pfx u2.1 = ti_pfx (ti_tm (ti_pn (ti_G xg 1) rr) (ti_G xg 0)) := by rw [u21, u11]
  have hP : va_P D vwCl (ti_wM E ad xg xd xt xf xj u2 xs xv xb xq xk) H := hP
  have hD : va_D A (ti_wM E ad xg xd xt xf xj u2 xs xv xb xq xk) := hD
  refine W.eq (g2 := F0 m 11 ls []) rfl ?_
  refine lv_aload_n hx hb dX7_isMetBy_11 rfl (lv_at hl 0 rfl) ?_
  refine ti_mVa (As := []) (rest := []) S hE hP hD hS hA (met_X7_settles l D E ad xg xd xt xf xj u2 xs xv xb xq xk hu2) (fun _ => rfl) (lw_V q1466 q1468 qs57 q73 q1469) 0 rfl 0 rfl rfl (by decide +kernel) ⟨Nat.le_of_ble_eq_true rfl, Nat.le_of_ble_eq_true rfl⟩ hl.1 rfl (Nat.le_of_ble_eq_true rfl) ⟨Nat.le_refl _, Nat.le_refl _⟩ dX7_isMetBy_12 (fun _ H locs hu hP hD hS => ?_)
  have hP : va_P D vwCl (ti_wM E ad xg xd xt xf xj (ti_pfx u2.1, u2.2.1, u2.2.2) xs xv xb xq xk) H := hP
  have hD : va_D A (ti_wM E ad xg xd xt xf xj (ti_pfx u2.1, u2.2.1, u2.2.2) xs xv xb xq xk) := hD
  refine W.eq (g2 := F0 m 15 ls []) rfl ?_
  refine lv_iconst (v := nI 0) hx hb dX7_isMetBy_15 (by decide) ?_
  refine lv_istore_n (lv' := [(2, .int (nI 0)), (0, .ref (ad 0)), (1, .int (nI rr))]) hx hb dX7_isMetBy_16 rfl hl (by decide) rfl (fun ls hl => ?_)
  have L17 : ∀ (N : Nat) (k : Nat) (g : Nat → Nat) (ls : Array Slot) (H : Heap) (locs : List Loc), va_P D vwCl (ti_wM E ad xg xd xt xf xj (ti_pfx u2.1, u2.2.1, g) xs xv xb xq xk) H → va_D A (ti_wM E ad xg xd xt xf xj (ti_pfx u2.1, u2.2.1, g) xs xv xb xq xk) → va_S A H0 H locs → (72 - k) < N → (k ≤ 72) → (∀ j, j < k → g j = ti_pfx u2.1 j) → lv_has ls 4 [(0, .ref (ad 0)), (1, .int (nI rr)), (2, .int (nI k))] → W p l e (ti_rm 3 0 0) s m ([.ref (ad 0), .int (nI rr)] : List Value).toArray below meth c H locs 0 0 Q (F0 m 17 ls []) := by
    intro N
    induction N with
    | zero => intro k g ls H locs hP hD hS h0; exact absurd h0 (Nat.not_lt_zero _)
    | succ N ih17 =>
      intro k g ls H locs hP hD hS hN hkn hv hl
      refine lv_iload_n hx hb dX7_isMetBy_17 rfl (lv_at hl 2 rfl) ?_
      refine lv_bipush (v := nI 72) hx hb dX7_isMetBy_18 (by decide) ?_
      refine tn_ge (tgt := 41) hx hb dX7_isMetBy_20 (by decide) (by omega) (by omega) (fun c20 => ?_) (fun c20 => ?_)
      · skip
        have hP := ti_P_rep (g := ti_n (ti_pfx u2.1)) hP 17 rfl (fun j hj => ti_n_at (hv j (by omega)))
        have hD := ti_D_rep (q := 17) hD rfl (e := .inl (E 0, 72, .inl (ti_n (ti_pfx u2.1))))
        have hP : va_P D vwCl (ti_wM E ad xg xd xt xf xj (ti_pfx u2.1, u2.2.1, ti_pfx u2.1) xs xv xb xq xk) H := hP
        have hD : va_D A (ti_wM E ad xg xd xt xf xj (ti_pfx u2.1, u2.2.1, ti_pfx u2.1) xs xv xb xq xk) := hD
        refine lv_aload_n hx hb dX7_isMetBy_41 rfl (lv_at hl 0 rfl) ?_
        refine lv_iconst (v := nI 1) hx hb dX7_isMetBy_42 (by decide) ?_
        refine lv_iload_n hx hb dX7_isMetBy_43 rfl (lv_at hl 1 rfl) ?_
        refine lv_iconst (v := nI 1) hx hb dX7_isMetBy_44 (by decide) ?_
        refine tn_add hx hb dX7_isMetBy_45 ?_
        refine ti_mVa (As := [.int (nI 1), .int (nI (rr + 1))]) (rest := []) S hE hP hD hS hA (met_X7_powers l D E ad xg xd xt xf xj (ti_pfx u2.1, u2.2.1, ti_pfx u2.1) xs xv xb xq xk hxg 1 (by decide) ⟨ti_pfx_le hu2.1, trivial, ti_pfx_le hu2.1⟩ (rr + 1) (by omega)) (fun _ => rfl) (lw_V q1450 q1452 qs53 q73 q1453) 2 rfl 0 rfl rfl (by decide +kernel) ⟨Nat.le_of_ble_eq_true rfl, Nat.le_of_ble_eq_true rfl⟩ hl.1 rfl (Nat.le_of_ble_eq_true rfl) ⟨Nat.le_refl _, Nat.le_refl _⟩ dX7_isMetBy_46 (fun u3 H locs hu hP hD hS => ?_)
        obtain ⟨u31, u32⟩ := hu
        have hu3 : ti_Mhok u3 := ⟨by rw [u31]; exact ti_pn_le _ _, trivial, by rw [u32]; exact ti_pfx_le hu2.1⟩
        have e3 : ti_pfx u3.1 = ti_pfx (ti_pn (ti_G xg 1) (rr + 1)) := by rw [u31]
        have u32 : u3.2.2 = ti_pfx u2.1 := u32
        have hP : va_P D vwCl (ti_wM E ad xg xd xt xf xj u3 xs xv xb xq xk) H := hP
        have hD : va_D A (ti_wM E ad xg xd xt xf xj u3 xs xv xb xq xk) := hD
        refine W.eq (g2 := F0 m 49 ls []) rfl ?_
        refine lv_aload_n hx hb dX7_isMetBy_49 rfl (lv_at hl 0 rfl) ?_
        refine ti_mVa (As := []) (rest := []) S hE hP hD hS hA (met_X7_settles l D E ad xg xd xt xf xj u3 xs xv xb xq xk hu3) (fun _ => rfl) (lw_V q1466 q1468 qs57 q73 q1469) 0 rfl 0 rfl rfl (by decide +kernel) ⟨Nat.le_of_ble_eq_true rfl, Nat.le_of_ble_eq_true rfl⟩ hl.1 rfl (Nat.le_of_ble_eq_true rfl) ⟨Nat.le_refl _, Nat.le_refl _⟩ dX7_isMetBy_50 (fun _ H locs hu hP hD hS => ?_)
        have hP : va_P D vwCl (ti_wM E ad xg xd xt xf xj (ti_pfx u3.1, u3.2.1, u3.2.2) xs xv xb xq xk) H := hP
        have hD : va_D A (ti_wM E ad xg xd xt xf xj (ti_pfx u3.1, u3.2.1, u3.2.2) xs xv xb xq xk) := hD
        refine W.eq (g2 := F0 m 53 ls []) rfl ?_
        refine lv_iconst (v := nI 1) hx hb dX7_isMetBy_53 (by decide) ?_
        refine lv_istore_n (lv' := [(2, .int (nI 1)), (0, .ref (ad 0)), (1, .int (nI rr))]) hx hb dX7_isMetBy_54 rfl hl (by decide) rfl (fun ls hl => ?_)
        refine lv_iconst (v := nI 0) hx hb dX7_isMetBy_55 (by decide) ?_
        refine lv_istore_n (lv' := [(3, .int (nI 0)), (2, .int (nI 1)), (0, .ref (ad 0)), (1, .int (nI rr))]) hx hb dX7_isMetBy_56 rfl hl (by decide) rfl (fun ls hl => ?_)
        have L57 : ∀ (N : Nat) (z : Bool) (k : Nat) (ls : Array Slot) (H : Heap) (locs : List Loc), va_P D vwCl (ti_wM E ad xg xd xt xf xj (ti_pfx u3.1, u3.2.1, u3.2.2) xs xv xb xq xk) H → va_D A (ti_wM E ad xg xd xt xf xj (ti_pfx u3.1, u3.2.1, u3.2.2) xs xv xb xq xk) → va_S A H0 H locs → (72 - k) < N → (k ≤ 72) → (ti_eq (ti_pfx (ti_tm (ti_pn (ti_G xg 1) rr) (ti_G xg 0))) (ti_pfx (ti_pn (ti_G xg 1) (rr + 1))) (List.range' 0 72) = (z && ti_eq (ti_pfx (ti_tm (ti_pn (ti_G xg 1) rr) (ti_G xg 0))) (ti_pfx (ti_pn (ti_G xg 1) (rr + 1))) (List.range' k (72 - k)))) → lv_has ls 4 [(0, .ref (ad 0)), (1, .int (nI rr)), (2, .int (ti_b z)), (3, .int (nI k))] → W p l e (ti_rm 3 0 0) s m ([.ref (ad 0), .int (nI rr)] : List Value).toArray below meth c H locs 0 0 Q (F0 m 57 ls []) := by
          intro N
          induction N with
          | zero => intro z k ls H locs hP hD hS h0; exact absurd h0 (Nat.not_lt_zero _)
          | succ N ih57 =>
            intro z k ls H locs hP hD hS hN hkn hv hl
            refine lv_iload_n hx hb dX7_isMetBy_57 rfl (lv_at hl 3 rfl) ?_
            refine lv_bipush (v := nI 72) hx hb dX7_isMetBy_58 (by decide) ?_
            refine tn_ge (tgt := 94) hx hb dX7_isMetBy_60 (by decide) (by omega) (by omega) (fun c60 => ?_) (fun c60 => ?_)
            · skip
              rw [show 72 - k = 0 by omega] at hv
              refine lv_iload_n hx hb dX7_isMetBy_94 rfl (lv_at hl 2 rfl) ?_
              exact hret (ti_pfx u3.1, u3.2.1, u3.2.2) _ _ _ _ _ _ _ dX7_isMetBy_95 (by rw [hv]; cases z <;> rfl) (⟨ti_pfx_le hu3.1, trivial, hu3.2.2⟩) hP hS (Nat.le_refl _) (Nat.le_refl _)
            · skip
              obtain ⟨m9, hm9⟩ : ∃ m9, 72 - k = m9 + 1 := ⟨72 - k - 1, by omega⟩
              rw [hm9, show List.range' k (m9 + 1) = k :: List.range' (k + 1) m9 from rfl] at hv
              refine lv_iload_n hx hb dX7_isMetBy_63 rfl (lv_at hl 2 rfl) ?_
              refine tb_eq (tgt := 86) hx hb dX7_isMetBy_64 (by decide) (fun c64 => ?_) (fun c64 => ?_)
              · skip
                refine lv_iconst (v := nI 0) hx hb dX7_isMetBy_86 (by decide) ?_
                refine lv_istore_n (lv' := [(2, .int (nI 0)), (0, .ref (ad 0)), (1, .int (nI rr)), (3, .int (nI k))]) hx hb dX7_isMetBy_87 rfl hl (by decide) rfl (fun ls hl => ?_)
                refine lv_iinc (v := nI (k + 1)) (lv' := [(3, .int (nI (k + 1))), (2, .int (nI 0)), (0, .ref (ad 0)), (1, .int (nI rr))]) hx hb dX7_isMetBy_88 hl (k := 3) rfl (nI_1 k) (by decide) rfl (fun ls hl => ?_)
                refine lv_goto (tgt := 57) hx hb dX7_isMetBy_91 (by decide) ?_
                exact ih57 false (k + 1) _ _ _ hP hD hS (by omega) (by omega) (by rw [hv, c64]; rfl) (lv_sub hl [2, 3, 1, 0] rfl)
              · skip
                refine lv_aload_n hx hb dX7_isMetBy_67 rfl (lv_at hl 0 rfl) ?_
                refine va_get (v := .ref (ad 17)) hx hb hts in_X7 hown hK hP 0 rfl rfl 21 (by decide) (hts _ q1109) (fun _ h => h) rfl dX7_isMetBy_68 ?_
                refine lv_iload_n hx hb dX7_isMetBy_71 rfl (lv_at hl 3 rfl) ?_
                have hkb := hu3.2.2 k
                refine tn_iald (f := u3.2.2) hx hb hK hP 17 0 rfl rfl (by omega) (by decide) dX7_isMetBy_72 ?_
                refine lv_aload_n hx hb dX7_isMetBy_73 rfl (lv_at hl 0 rfl) ?_
                refine va_get (v := .ref (ad 15)) hx hb hts in_X7 hown hK hP 0 rfl rfl 19 (by decide) (hts _ q1107) (fun _ h => h) rfl dX7_isMetBy_74 ?_
                refine lv_iload_n hx hb dX7_isMetBy_77 rfl (lv_at hl 3 rfl) ?_
                have hhb := ti_pfx_le hu3.1 k
                refine tn_iald (f := ti_pfx u3.1) hx hb hK hP 15 0 rfl rfl (by omega) (by decide) dX7_isMetBy_78 ?_
                refine tn_ne (tgt := 86) hx hb dX7_isMetBy_79 (by decide) (by omega) (by omega) (fun c79 => ?_) (fun c79 => ?_)
                · skip
                  rw [u32, e2, e3] at c79
                  refine lv_iconst (v := nI 0) hx hb dX7_isMetBy_86 (by decide) ?_
                  refine lv_istore_n (lv' := [(2, .int (nI 0)), (0, .ref (ad 0)), (1, .int (nI rr)), (3, .int (nI k))]) hx hb dX7_isMetBy_87 rfl hl (by decide) rfl (fun ls hl => ?_)
                  refine lv_iinc (v := nI (k + 1)) (lv' := [(3, .int (nI (k + 1))), (2, .int (nI 0)), (0, .ref (ad 0)), (1, .int (nI rr))]) hx hb dX7_isMetBy_88 hl (k := 3) rfl (nI_1 k) (by decide) rfl (fun ls hl => ?_)
                  refine lv_goto (tgt := 57) hx hb dX7_isMetBy_91 (by decide) ?_
                  exact ih57 false (k + 1) _ _ _ hP hD hS (by omega) (by omega) (by rw [hv, c64, ti_eq, if_neg c79]; rfl) (lv_sub hl [2, 3, 1, 0] rfl)
                · skip
                  rw [u32, e2, e3] at c79
                  refine lv_iconst (v := nI 1) hx hb dX7_isMetBy_82 (by decide) ?_
                  refine lv_goto (tgt := 87) hx hb dX7_isMetBy_83 (by decide) ?_
                  refine lv_istore_n (lv' := [(2, .int (nI 1)), (0, .ref (ad 0)), (1, .int (nI rr)), (3, .int (nI k))]) hx hb dX7_isMetBy_87 rfl hl (by decide) rfl (fun ls hl => ?_)
                  refine lv_iinc (v := nI (k + 1)) (lv' := [(3, .int (nI (k + 1))), (2, .int (nI 1)), (0, .ref (ad 0)), (1, .int (nI rr))]) hx hb dX7_isMetBy_88 hl (k := 3) rfl (nI_1 k) (by decide) rfl (fun ls hl => ?_)
                  refine lv_goto (tgt := 57) hx hb dX7_isMetBy_91 (by decide) ?_
                  exact ih57 true (k + 1) _ _ _ hP hD hS (by omega) (by omega) (by rw [hv, c64, ti_eq, if_pos c79, show 72 - (k + 1) = m9 by omega]) (lv_sub hl [2, 3, 1, 0] rfl)
        exact L57 _ true 0 _ _ _ hP hD hS (Nat.lt_succ_self _) (by omega) (Bool.true_and _).symm (lv_sub hl [2, 3, 1, 0] rfl)
      · skip
        refine lv_aload_n hx hb dX7_isMetBy_23 rfl (lv_at hl 0 rfl) ?_
        refine va_get (v := .ref (ad 17)) hx hb hts in_X7 hown hK hP 0 rfl rfl 21 (by decide) (hts _ q1109) (fun _ h => h) rfl dX7_isMetBy_24 ?_
        refine lv_iload_n hx hb dX7_isMetBy_27 rfl (lv_at hl 2 rfl) ?_
        refine lv_aload_n hx hb dX7_isMetBy_28 rfl (lv_at hl 0 rfl) ?_
        refine va_get (v := .ref (ad 15)) hx hb hts in_X7 hown hK hP 0 rfl rfl 19 (by decide) (hts _ q1107) (fun _ h => h) rfl dX7_isMetBy_29 ?_
        refine lv_iload_n hx hb dX7_isMetBy_32 rfl (lv_at hl 2 rfl) ?_
        refine tn_iald (f := ti_pfx u2.1) hx hb hK hP 15 0 rfl rfl (by omega) (by decide) dX7_isMetBy_33 ?_
        refine tn_iast (f := g) hx hb hK hP hD hS 17 0 rfl rfl (by omega) (by decide) dX7_isMetBy_34 (fun H locs hP hD hS => ?_)
        have hP : va_P D vwCl (ti_wM E ad xg xd xt xf xj (ti_pfx u2.1, u2.2.1, va_up g k ((ti_pfx u2.1) k)) xs xv xb xq xk) H := hP
        have hD : va_D A (ti_wM E ad xg xd xt xf xj (ti_pfx u2.1, u2.2.1, va_up g k ((ti_pfx u2.1) k)) xs xv xb xq xk) := hD
        refine lv_iinc (v := nI (k + 1)) (lv' := [(2, .int (nI (k + 1))), (0, .ref (ad 0)), (1, .int (nI rr))]) hx hb dX7_isMetBy_35 hl (k := 2) rfl (nI_1 k) (by decide) rfl (fun ls hl => ?_)
        refine lv_goto (tgt := 17) hx hb dX7_isMetBy_38 (by decide) ?_
        exact ih17 (k + 1) (va_up g k ((ti_pfx u2.1) k)) _ _ _ hP hD hS (by omega) (by omega) (ti_fill hv rfl) (lv_sub hl [1, 2, 0] rfl)
  exact L17 _ 0 u2.2.2 _ _ _ hP hD hS (Nat.lt_succ_self _) (by omega) (fun j hj => absurd hj (Nat.not_lt_zero _)) (lv_sub hl [1, 2, 0] rfl)

set_option maxHeartbeats 1000000 in
theorem met_X7_lessens (l : Launch) (D : va_G) (E : Nat → ClassId) (ad : Nat → Nat) (xg : ti_Mg) (xd : ti_Md) (xt : ti_Mt) (xf : ti_Mf) (xj : ti_Mj) (xh : ti_Mh) (xs : ti_Ms) (xv : ti_Mv) (xb : ti_Mb) (xq : ti_Mq) (xk : ti_Mk) (hxg : ti_Mgok xg) (d : Nat) (hd : d ≤ 9) : ti_MetM (σ := ti_Mg) l D E yX7_lessens cX7_lessens 6 none 2 0 0 (ti_wM E ad xg xd xt xf xj xh xs xv xb xq xk) [.ref (ad 0), .int (nI d)] (fun u => ti_wM E ad u xd xt xf xj xh xs xv xb xq xk) (fun _ => none) (fun u => ti_G u 2 = ti_ls d (ti_G xg 2) [] ∧ ti_M2 u xg ∧ ti_Mgok u) := by
  refine ti_mutV (σ := ti_Mg) (by decide) (Nat.le_of_ble_eq_true rfl) ?_
  intro p e s m below meth c H H0 A Q ls S hE hP hD hS hA hinit hl hret
  have hx := S.1
  have hb := S.2.1
  have hown := S.2.2.2.1
  have hts := S.2.2.2.2
  have hK := hE.1
  have hl : lv_has ls 6 [(0, .ref (ad 0)), (1, .int (nI d))] := hl
  have h6 := hxg.1 2
  refine lv_aload_n hx hb dX7_lessens_0 rfl (lv_at hl 0 rfl) ?_
  refine va_get (v := .ref (ad 1)) hx hb hts in_X7 hown hK hP 0 rfl rfl 0 (by decide) (hts _ q1088) (fun _ h => h) rfl dX7_lessens_1 ?_
  refine lv_iconst (v := nI 2) hx hb dX7_lessens_4 (by decide) ?_
  refine tn_iald (f := xg.1) hx hb hK hP 1 0 rfl rfl (by omega) (by decide) dX7_lessens_5 ?_
  have b5 := hxg.1 2
  refine lv_istore_n (lv' := [(2, .int (nI (xg.1 2))), (0, .ref (ad 0)), (1, .int (nI d))]) hx hb dX7_lessens_6 rfl hl (by decide) rfl (fun ls hl => ?_)
  refine lv_aload_n hx hb dX7_lessens_7 rfl (lv_at hl 1 rfl) ?_
  refine va_get (v := .ref (ad 1)) hx hb hts in_X7 hown hK hP 0 rfl rfl 0 (by decide) (hts _ q1088) (fun _ h => h) rfl dX7_lessens_8 ?_
  refine lv_iconst (v := nI 2) hx hb dX7_lessens_11 (by decide) ?_
  refine lv_iconst (v := nI 0) hx hb dX7_lessens_12 (by decide) ?_
  refine tn_iast (f := xg.1) hx hb hK hP hD hS 1 0 rfl rfl (by omega) (by decide) dX7_lessens_13 (fun H locs hP hD hS => ?_)
  have hP : va_P D vwCl (ti_wM E ad (va_up xg.1 2 0, xg.2.1, xg.2.2) xd xt xf xj xh xs xv xb xq xk) H := hP
  have hD : va_D A (ti_wM E ad (va_up xg.1 2 0, xg.2.1, xg.2.2) xd xt xf xj xh xs xv xb xq xk) := hD
  refine lv_iconst (v := nI 0) hx hb dX7_lessens_14 (by decide) ?_
  refine lv_istore_n (lv' := [(3, .int (nI 0)), (2, .int (nI (xg.1 2))), (0, .ref (ad 0)), (1, .int (nI d))]) hx hb dX7_lessens_15 rfl hl (by decide) rfl (fun ls hl => ?_)
  have L16 : ∀ (N : Nat) (k : Nat) (y : ti_Mg) (ls : Array Slot) (H : Heap) (locs : List Loc), va_P D vwCl (ti_wM E ad y xd xt xf xj xh xs xv xb xq xk) H → va_D A (ti_wM E ad y xd xt xf xj xh xs xv xb xq xk) → va_S A H0 H locs → (xg.1 2 - k) < N → (k ≤ xg.1 2) → (ti_Mgok y) → (y.1 2 ≤ k) → (∀ j, k ≤ j → ti_ma y 2 j = ti_ma xg 2 j ∧ ti_mb y 2 j = ti_mb xg 2 j) → (ti_M2 y xg) → (ti_ls d (ti_G xg 2) [] = ti_ls d (ti_gr (ti_ma xg 2) (ti_mb xg 2) k (xg.1 2 - k)) (ti_G y 2)) → lv_has ls 6 [(0, .ref (ad 0)), (1, .int (nI d)), (2, .int (nI (xg.1 2))), (3, .int (nI k))] → W p l e (ti_rm 2 0 0) s m ([.ref (ad 0), .int (nI d)] : List Value).toArray below meth c H locs 0 0 Q (F0 m 16 ls []) := by
    intro N
    induction N with
    | zero => intro k y ls H locs hP hD hS h0; exact absurd h0 (Nat.not_lt_zero _)
    | succ N ih16 =>
      intro k y ls H locs hP hD hS hN hkn hy hyk hf h2 hv hl
      refine lv_iload_n hx hb dX7_lessens_16 rfl (lv_at hl 3 rfl) ?_
      refine lv_iload_n hx hb dX7_lessens_17 rfl (lv_at hl 2 rfl) ?_
      refine tn_ge (tgt := 77) hx hb dX7_lessens_18 (by decide) (by omega) (by omega) (fun c18 => ?_) (fun c18 => ?_)
      · skip
        rw [show xg.1 2 - k = 0 by omega, ti_gr_0] at hv
        exact hret y _ _ _ _ _ _ dX7_lessens_77 (⟨hv.symm, h2, hy⟩) hP hS (Nat.le_refl _) (Nat.le_refl _)
      · skip
        obtain ⟨m9, hm9⟩ : ∃ m9, xg.1 2 - k = m9 + 1 := ⟨xg.1 2 - k - 1, by omega⟩
        rw [hm9, ti_gr_s] at hv
        refine lv_iconst (v := nI 0) hx hb dX7_lessens_21 (by decide) ?_
        refine lv_aload_n hx hb dX7_lessens_22 rfl (lv_at hl 0 rfl) ?_
        refine lv_iconst (v := nI 2) hx hb dX7_lessens_23 (by decide) ?_
        refine lv_iload_n hx hb dX7_lessens_24 rfl (lv_at hl 3 rfl) ?_
        refine ti_pVa (As := [.int (nI 2), .int (nI k)]) (rest := [.int (nI 0)]) (v := .int (nI (ti_ma y 2 k))) S hE hP (met_X7_a l D E ad y xd xt xf xj xh xs xv xb xq xk 2 k (by omega)) (lw_V q1245 q1247 qs26 q73 q1248) 2 rfl 0 rfl rfl (by decide +kernel) ⟨Nat.le_of_ble_eq_true rfl, Nat.le_of_ble_eq_true rfl⟩ hl.1 rfl (Nat.le_of_ble_eq_true rfl) ⟨Nat.le_refl _, Nat.le_refl _⟩ dX7_lessens_25 ?_
        have ha25 : ti_ma y 2 k ≤ 9 := hy.2.1 _
        have e1 : ti_ma y 2 k - d = ti_ma xg 2 k - d := by rw [(hf k (Nat.le_refl _)).1]
        refine lv_iload_n hx hb dX7_lessens_28 rfl (lv_at hl 1 rfl) ?_
        refine lv_isub hx hb dX7_lessens_29 ?_
        refine tn_maxsub S hl.1 q1528 (Nat.le_of_ble_eq_true rfl) (Nat.le_of_ble_eq_true rfl) ⟨Nat.le_refl _, Nat.le_refl _⟩ (by omega) (by omega) dX7_lessens_30 ?_
        refine lv_istore (lv' := [(4, .int (nI (ti_ma y 2 k - d))), (0, .ref (ad 0)), (1, .int (nI d)), (2, .int (nI (xg.1 2))), (3, .int (nI k))]) hx hb dX7_lessens_33 hl (by decide) rfl (fun ls hl => ?_)
        refine lv_iconst (v := nI 0) hx hb dX7_lessens_35 (by decide) ?_
        refine lv_aload_n hx hb dX7_lessens_36 rfl (lv_at hl 1 rfl) ?_
        refine lv_iconst (v := nI 2) hx hb dX7_lessens_37 (by decide) ?_
        refine lv_iload_n hx hb dX7_lessens_38 rfl (lv_at hl 4 rfl) ?_
        refine ti_pVa (As := [.int (nI 2), .int (nI k)]) (rest := [.int (nI 0)]) (v := .int (nI (ti_mb y 2 k))) S hE hP (met_X7_b l D E ad y xd xt xf xj xh xs xv xb xq xk 2 k (by omega)) (lw_V q1249 q1251 qs27 q73 q1252) 2 rfl 0 rfl rfl (by decide +kernel) ⟨Nat.le_of_ble_eq_true rfl, Nat.le_of_ble_eq_true rfl⟩ hl.1 rfl (Nat.le_of_ble_eq_true rfl) ⟨Nat.le_refl _, Nat.le_refl _⟩ dX7_lessens_39 ?_
        have hb39 : ti_mb y 2 k ≤ 9 := hy.2.2 _
        have e2 : ti_mb y 2 k - d = ti_mb xg 2 k - d := by rw [(hf k (Nat.le_refl _)).2]
        refine lv_iload_n hx hb dX7_lessens_42 rfl (lv_at hl 2 rfl) ?_
        refine lv_isub hx hb dX7_lessens_43 ?_
        refine tn_maxsub S hl.1 q1528 (Nat.le_of_ble_eq_true rfl) (Nat.le_of_ble_eq_true rfl) ⟨Nat.le_refl _, Nat.le_refl _⟩ (by omega) (by omega) dX7_lessens_44 ?_
        refine lv_istore (lv' := [(5, .int (nI (ti_mb y 2 k - d))), (4, .int (nI (ti_ma y 2 k - d))), (0, .ref (ad 0)), (1, .int (nI d)), (2, .int (nI (xg.1 2))), (3, .int (nI k))]) hx hb dX7_lessens_47 hl (by decide) rfl (fun ls hl => ?_)
        refine lv_aload_n hx hb dX7_lessens_49 rfl (lv_at hl 2 rfl) ?_
        refine lv_iconst (v := nI 2) hx hb dX7_lessens_50 (by decide) ?_
        refine lv_iload hx hb dX7_lessens_51 (lv_at hl 1 rfl) ?_
        refine lv_iload hx hb dX7_lessens_53 (lv_at hl 0 rfl) ?_
        refine ti_pVa (As := [.int (nI 2), .int (nI (ti_ma y 2 k - d)), .int (nI (ti_mb y 2 k - d))]) (rest := []) (v := .int (ti_pm (ti_pl (ti_ma y 2 k - d) (ti_mb y 2 k - d) (ti_G y 2) 0))) S hE hP (met_X7_which l D E ad y xd xt xf xj xh xs xv xb xq xk hy 2 (by decide) (ti_ma y 2 k - d) (ti_mb y 2 k - d) (by omega) (by omega)) (lw_V q1241 q1243 qs25 q73 q1244) 3 rfl 0 rfl rfl (by decide +kernel) ⟨Nat.le_of_ble_eq_true rfl, Nat.le_of_ble_eq_true rfl⟩ hl.1 rfl (Nat.le_of_ble_eq_true rfl) ⟨Nat.le_refl _, Nat.le_refl _⟩ dX7_lessens_55 ?_
        refine lv_iconst (v := (-1)) hx hb dX7_lessens_58 (by decide) ?_
        refine lv_icmp_ne (tgt := 71) hx hb dX7_lessens_59 (by decide) (fun c59 => ?_) (fun c59 => ?_)
        · skip
          refine lv_iinc (v := nI (k + 1)) (lv' := [(3, .int (nI (k + 1))), (5, .int (nI (ti_mb y 2 k - d))), (4, .int (nI (ti_ma y 2 k - d))), (0, .ref (ad 0)), (1, .int (nI d)), (2, .int (nI (xg.1 2)))]) hx hb dX7_lessens_71 hl (k := 5) rfl (nI_1 k) (by decide) rfl (fun ls hl => ?_)
          refine lv_goto (tgt := 16) hx hb dX7_lessens_74 (by decide) ?_
          exact ih16 (k + 1) y _ _ _ hP hD hS (by omega) (by omega) (hy) (by omega) (fun j hj => hf j (by omega)) (h2) (by rw [hv]; show ti_ls d (ti_gr (ti_ma xg 2) (ti_mb xg 2) (k + 1) m9) (if (ti_ma xg 2 k - d, ti_mb xg 2 k - d) ∈ ti_G y 2 then ti_G y 2 else ti_G y 2 ++ [(ti_ma xg 2 k - d, ti_mb xg 2 k - d)]) = _; rw [if_pos (by rw [← e1, ← e2]; exact Classical.not_not.mp fun z9 => c59 ((ti_placeM (by rw [ti_gr_len]; omega)).mpr z9)), show xg.1 2 - (k + 1) = m9 by omega]) (lv_sub hl [3, 4, 5, 0] rfl)
        · skip
          refine lv_aload_n hx hb dX7_lessens_62 rfl (lv_at hl 2 rfl) ?_
          refine lv_iconst (v := nI 2) hx hb dX7_lessens_63 (by decide) ?_
          refine lv_iload hx hb dX7_lessens_64 (lv_at hl 1 rfl) ?_
          refine lv_iload hx hb dX7_lessens_66 (lv_at hl 0 rfl) ?_
          refine ti_mVa (As := [.int (nI 2), .int (nI (ti_ma y 2 k - d)), .int (nI (ti_mb y 2 k - d))]) (rest := []) S hE hP hD hS hA (met_X7_comes l D E ad y xd xt xf xj xh xs xv xb xq xk 2 (by decide) (ti_ma y 2 k - d) (ti_mb y 2 k - d) (by omega)) (fun _ => rfl) (lw_V q1257 q1259 qs29 q73 q1260) 3 rfl 0 rfl rfl (by decide +kernel) ⟨Nat.le_of_ble_eq_true rfl, Nat.le_of_ble_eq_true rfl⟩ hl.1 rfl (Nat.le_of_ble_eq_true rfl) ⟨Nat.le_refl _, Nat.le_refl _⟩ dX7_lessens_68 (fun _ H locs hu hP hD hS => ?_)
          have hP : va_P D vwCl (ti_wM E ad (ti_mcm y 2 (ti_ma y 2 k - d) (ti_mb y 2 k - d)) xd xt xf xj xh xs xv xb xq xk) H := hP
          have hD : va_D A (ti_wM E ad (ti_mcm y 2 (ti_ma y 2 k - d) (ti_mb y 2 k - d)) xd xt xf xj xh xs xv xb xq xk) := hD
          refine W.eq (g2 := F0 m 71 ls []) rfl ?_
          refine lv_iinc (v := nI (k + 1)) (lv' := [(3, .int (nI (k + 1))), (5, .int (nI (ti_mb y 2 k - d))), (4, .int (nI (ti_ma y 2 k - d))), (0, .ref (ad 0)), (1, .int (nI d)), (2, .int (nI (xg.1 2)))]) hx hb dX7_lessens_71 hl (k := 5) rfl (nI_1 k) (by decide) rfl (fun ls hl => ?_)
          refine lv_goto (tgt := 16) hx hb dX7_lessens_74 (by decide) ?_
          exact ih16 (k + 1) ((ti_mcm y 2 (ti_ma y 2 k - d) (ti_mb y 2 k - d))) _ _ _ hP hD hS (by omega) (by omega) (ti_mcm_ok hy (by omega) (by omega) (by omega)) (by show va_up y.1 2 (y.1 2 + 1) 2 ≤ k + 1; rw [va_up_self]; omega) (fun j hj => ⟨by rw [← (hf j (by omega)).1]; exact va_up_ne _ _ (by omega), by rw [← (hf j (by omega)).2]; exact va_up_ne _ _ (by omega)⟩) (fun i hi => by rw [ti_mcm_Gn hy (by omega) (by omega)]; exact h2 i hi) (by rw [hv]; show ti_ls d (ti_gr (ti_ma xg 2) (ti_mb xg 2) (k + 1) m9) (if (ti_ma xg 2 k - d, ti_mb xg 2 k - d) ∈ ti_G y 2 then ti_G y 2 else ti_G y 2 ++ [(ti_ma xg 2 k - d, ti_mb xg 2 k - d)]) = _; rw [if_neg (by rw [← e1, ← e2]; exact (ti_placeM (by rw [ti_gr_len]; omega)).mp c59), ← e1, ← e2, ← ti_mcm_G, show xg.1 2 - (k + 1) = m9 by omega]) (lv_sub hl [3, 4, 5, 0] rfl)
  exact L16 _ 0 (va_up xg.1 2 0, xg.2.1, xg.2.2) _ _ _ hP hD hS (Nat.lt_succ_self _) (by omega) (⟨ti_up_le hxg.1 (Nat.zero_le _), hxg.2⟩) (by show va_up xg.1 2 0 2 ≤ 0; rw [va_up_self]; omega) (fun _ _ => ⟨rfl, rfl⟩) (fun i hi => by show ti_gr _ _ 0 (va_up xg.1 2 0 i) = _; rw [va_up_ne _ _ (by omega)]; rfl) (by show _ = ti_ls d _ (ti_gr _ _ 0 (va_up xg.1 2 0 2)); rw [va_up_self]; rfl) (lv_sub hl [2, 3, 1, 0] rfl)
