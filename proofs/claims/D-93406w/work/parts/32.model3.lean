/-! TermIdealsModel: faces told, jumps (printed by w_model3.py) -/
set_option maxRecDepth 100000

theorem ti_gr_drop {fa fb : Nat → Nat} {q n : Nat} (h : q ≤ n) : (ti_gr fa fb 0 n).drop q = ti_gr fa fb q (n - q) := by
  apply List.ext_getElem?
  intro j
  rw [List.getElem?_drop]
  by_cases hj : j < n - q
  · rw [ti_gr_at (by omega), ti_gr_at hj, Nat.zero_add]
  · rw [List.getElem?_eq_none (by rw [ti_gr_len]; omega), List.getElem?_eq_none (by rw [ti_gr_len]; omega)]

theorem ti_ct_le (s t lev : Nat) : ∀ (g : List (Nat × Nat)) (z : Nat), ti_ct s t lev g z ≤ z + g.length
  | [], _ => Nat.le_refl _
  | q :: r, z => by
    show ti_ct s t lev r (if s * q.1 + t * q.2 = lev then z + 1 else z) ≤ _
    refine Nat.le_trans (ti_ct_le s t lev r _) ?_
    by_cases h : s * q.1 + t * q.2 = lev
    · rw [if_pos h, List.length_cons]; omega
    · rw [if_neg h, List.length_cons]; omega

set_option maxHeartbeats 1000000 in
theorem met_X7_comesFace (l : Launch) (D : va_G) (E : Nat → ClassId) (ad : Nat → Nat) (xg : ti_Mg) (xd : ti_Md) (xt : ti_Mt) (xf : ti_Mf) (xj : ti_Mj) (xh : ti_Mh) (xs : ti_Ms) (xv : ti_Mv) (xb : ti_Mb) (xq : ti_Mq) (xk : ti_Mk) (hxg : ti_Mgok xg) (i : Nat) (hi : i < 3) (s9 t9 : Nat) (hs9 : s9 ≤ 9) (ht9 : t9 ≤ 9) (hxf : ti_Mfok xf) (hf63 : xf.1 < 64) : ti_MetM (σ := ti_Mf) l D E yX7_comesFace cX7_comesFace 5 none 2 0 0 (ti_wM E ad xg xd xt xf xj xh xs xv xb xq xk) [.ref (ad 0), .int (nI i), .int (nI s9), .int (nI t9)] (fun u => ti_wM E ad xg xd xt u xj xh xs xv xb xq xk) (fun _ => none) (fun u => ti_F u = (ti_fi (s9, t9, ti_lv s9 t9 (ti_gr (ti_ma xg i) (ti_mb xg i) 0 (xg.1 i)) 1000) (ti_F xf).reverse).reverse ∧ ti_Mfok u ∧ u.1 = xf.1 + 1) := by
  refine ti_mutV (σ := ti_Mf) (by decide) (Nat.le_of_ble_eq_true rfl) ?_
  intro p e s m below meth c H H0 A Q ls S hE hP hD hS hA hinit hl hret
  have hx := S.1
  have hb := S.2.1
  have hown := S.2.2.2.1
  have hts := S.2.2.2.2
  have hK := hE.1
  have hl : lv_has ls 5 [(0, .ref (ad 0)), (1, .int (nI i)), (2, .int (nI s9)), (3, .int (nI t9))] := hl
  refine lv_aload_n hx hb dX7_comesFace_0 rfl (lv_at hl 0 rfl) ?_
  refine va_get (v := .int (nI xf.1)) hx hb hts in_X7 hown hK hP 0 rfl rfl 12 (by decide) (hts _ q1100) (fun _ h => h) rfl dX7_comesFace_1 ?_
  refine lv_istore (lv' := [(4, .int (nI xf.1)), (0, .ref (ad 0)), (1, .int (nI i)), (2, .int (nI s9)), (3, .int (nI t9))]) hx hb dX7_comesFace_4 hl (by decide) rfl (fun ls hl => ?_)
  have L6 : ∀ (N : Nat) (q : Nat) (g1 g2 g3 : Nat → Nat) (ls : Array Slot) (H : Heap) (locs : List Loc), va_P D vwCl (ti_wM E ad xg xd xt (xf.1, g1, g2, g3) xj xh xs xv xb xq xk) H → va_D A (ti_wM E ad xg xd xt (xf.1, g1, g2, g3) xj xh xs xv xb xq xk) → va_S A H0 H locs → q < N → (q ≤ xf.1) → (g1 = ti_ri q xf.1 xf.2.1) → (g2 = ti_ri q xf.1 xf.2.2.1) → (g3 = ti_ri q xf.1 xf.2.2.2) → (∀ j, g1 j ≤ 9) → (∀ j, g2 j ≤ 9) → (∀ j, g3 j ≤ 1000) → ((ti_fi (s9, t9, ti_lv s9 t9 (ti_gr (ti_ma xg i) (ti_mb xg i) 0 (xg.1 i)) 1000) (ti_F xf).reverse).reverse = (ti_fi (s9, t9, ti_lv s9 t9 (ti_gr (ti_ma xg i) (ti_mb xg i) 0 (xg.1 i)) 1000) ((ti_F xf).take q).reverse).reverse ++ (ti_F xf).drop q) → lv_has ls 5 [(0, .ref (ad 0)), (1, .int (nI i)), (2, .int (nI s9)), (3, .int (nI t9)), (4, .int (nI q))] → W p l e (ti_rm 2 0 0) s m ([.ref (ad 0), .int (nI i), .int (nI s9), .int (nI t9)] : List Value).toArray below meth c H locs 0 0 Q (F0 m 6 ls []) := by
    intro N
    induction N with
    | zero => intro q g1 g2 g3 ls H locs hP hD hS h0; exact absurd h0 (Nat.not_lt_zero _)
    | succ N ih6 =>
      intro q g1 g2 g3 ls H locs hP hD hS hN hqn e1 e2 e3 hg1 hg2 hg3 hv hl
      refine lv_iload hx hb dX7_comesFace_6 (lv_at hl 4 rfl) ?_
      refine tn_if_le (tgt := 90) hx hb dX7_comesFace_8 (by decide) (by omega) (fun c8 => ?_) (fun c8 => ?_)
      · skip
        have hp : (ti_fi (s9, t9, ti_lv s9 t9 (ti_gr (ti_ma xg i) (ti_mb xg i) 0 (xg.1 i)) 1000) ((ti_F xf).take q).reverse).reverse = (ti_F xf).take q ++ [(s9, t9, ti_lv s9 t9 (ti_gr (ti_ma xg i) (ti_mb xg i) 0 (xg.1 i)) 1000)] := by rw [c8]; rfl
        refine lv_aload_n hx hb dX7_comesFace_90 rfl (lv_at hl 0 rfl) ?_
        refine va_get (v := .ref (ad 10)) hx hb hts in_X7 hown hK hP 0 rfl rfl 13 (by decide) (hts _ q1101) (fun _ h => h) rfl dX7_comesFace_91 ?_
        refine lv_iload hx hb dX7_comesFace_94 (lv_at hl 4 rfl) ?_
        refine lv_iload_n hx hb dX7_comesFace_96 rfl (lv_at hl 2 rfl) ?_
        refine tn_iast (f := g1) hx hb hK hP hD hS 10 0 rfl rfl (by omega) (by decide) dX7_comesFace_97 (fun H locs hP hD hS => ?_)
        have hP : va_P D vwCl (ti_wM E ad xg xd xt (xf.1, va_up g1 q s9, g2, g3) xj xh xs xv xb xq xk) H := hP
        have hD : va_D A (ti_wM E ad xg xd xt (xf.1, va_up g1 q s9, g2, g3) xj xh xs xv xb xq xk) := hD
        refine lv_aload_n hx hb dX7_comesFace_98 rfl (lv_at hl 0 rfl) ?_
        refine va_get (v := .ref (ad 11)) hx hb hts in_X7 hown hK hP 0 rfl rfl 14 (by decide) (hts _ q1102) (fun _ h => h) rfl dX7_comesFace_99 ?_
        refine lv_iload hx hb dX7_comesFace_102 (lv_at hl 4 rfl) ?_
        refine lv_iload_n hx hb dX7_comesFace_104 rfl (lv_at hl 3 rfl) ?_
        refine tn_iast (f := g2) hx hb hK hP hD hS 11 0 rfl rfl (by omega) (by decide) dX7_comesFace_105 (fun H locs hP hD hS => ?_)
        have hP : va_P D vwCl (ti_wM E ad xg xd xt (xf.1, va_up g1 q s9, va_up g2 q t9, g3) xj xh xs xv xb xq xk) H := hP
        have hD : va_D A (ti_wM E ad xg xd xt (xf.1, va_up g1 q s9, va_up g2 q t9, g3) xj xh xs xv xb xq xk) := hD
        refine lv_aload_n hx hb dX7_comesFace_106 rfl (lv_at hl 0 rfl) ?_
        refine va_get (v := .ref (ad 12)) hx hb hts in_X7 hown hK hP 0 rfl rfl 15 (by decide) (hts _ q1103) (fun _ h => h) rfl dX7_comesFace_107 ?_
        refine lv_iload hx hb dX7_comesFace_110 (lv_at hl 4 rfl) ?_
        refine lv_aload_n hx hb dX7_comesFace_112 rfl (lv_at hl 0 rfl) ?_
        refine lv_iload_n hx hb dX7_comesFace_113 rfl (lv_at hl 1 rfl) ?_
        refine lv_iload_n hx hb dX7_comesFace_114 rfl (lv_at hl 2 rfl) ?_
        refine lv_iload_n hx hb dX7_comesFace_115 rfl (lv_at hl 3 rfl) ?_
        refine ti_pVa (As := [.int (nI i), .int (nI s9), .int (nI t9)]) (rest := [.int (nI q), .ref (ad 12)]) (v := .int (nI (ti_lv s9 t9 (ti_gr (ti_ma xg i) (ti_mb xg i) 0 (xg.1 i)) 1000))) S hE hP (met_X7_levelOf l D E ad xg xd xt (xf.1, va_up g1 q s9, va_up g2 q t9, g3) xj xh xs xv xb xq xk hxg i hi s9 t9 hs9 ht9) (lw_V q1293 q1295 qs34 q73 q1296) 3 rfl 0 rfl rfl (by decide +kernel) ⟨Nat.le_of_ble_eq_true rfl, Nat.le_of_ble_eq_true rfl⟩ hl.1 rfl (Nat.le_of_ble_eq_true rfl) ⟨Nat.le_refl _, Nat.le_refl _⟩ dX7_comesFace_116 ?_
        refine tn_iast (f := g3) hx hb hK hP hD hS 12 0 rfl rfl (by omega) (by decide) dX7_comesFace_119 (fun H locs hP hD hS => ?_)
        have hP : va_P D vwCl (ti_wM E ad xg xd xt (xf.1, va_up g1 q s9, va_up g2 q t9, va_up g3 q (ti_lv s9 t9 (ti_gr (ti_ma xg i) (ti_mb xg i) 0 (xg.1 i)) 1000)) xj xh xs xv xb xq xk) H := hP
        have hD : va_D A (ti_wM E ad xg xd xt (xf.1, va_up g1 q s9, va_up g2 q t9, va_up g3 q (ti_lv s9 t9 (ti_gr (ti_ma xg i) (ti_mb xg i) 0 (xg.1 i)) 1000)) xj xh xs xv xb xq xk) := hD
        refine lv_aload_n hx hb dX7_comesFace_120 rfl (lv_at hl 0 rfl) ?_
        refine lv_dup hx hb dX7_comesFace_121 rfl ?_
        refine va_get (v := .int (nI xf.1)) hx hb hts in_X7 hown hK hP 0 rfl rfl 12 (by decide) (hts _ q1100) (fun _ h => h) rfl dX7_comesFace_122 ?_
        refine lv_iconst (v := nI 1) hx hb dX7_comesFace_125 (by decide) ?_
        refine tn_add hx hb dX7_comesFace_126 ?_
        refine va_put (ty := .int) hx hb hts in_X7 tyX7 tyX7_ok nmX7 hown hK hP hD hS 0 rfl rfl 12 (by decide) (hts _ q1100) (fun _ h => h) rfl rfl rfl rfl (Nat.le_of_ble_eq_true rfl) dX7_comesFace_127 (fun H locs hP hD hS => ?_)
        have hP : va_P D vwCl (ti_wM E ad xg xd xt (xf.1 + 1, va_up g1 q s9, va_up g2 q t9, va_up g3 q (ti_lv s9 t9 (ti_gr (ti_ma xg i) (ti_mb xg i) 0 (xg.1 i)) 1000)) xj xh xs xv xb xq xk) H := hP
        have hD : va_D A (ti_wM E ad xg xd xt (xf.1 + 1, va_up g1 q s9, va_up g2 q t9, va_up g3 q (ti_lv s9 t9 (ti_gr (ti_ma xg i) (ti_mb xg i) 0 (xg.1 i)) 1000)) xj xh xs xv xb xq xk) := hD
        exact hret ((xf.1 + 1, va_up g1 q s9, va_up g2 q t9, va_up g3 q (ti_lv s9 t9 (ti_gr (ti_ma xg i) (ti_mb xg i) 0 (xg.1 i)) 1000))) _ _ _ _ _ _ dX7_comesFace_130 (⟨by rw [hv, hp, e1, e2, e3, List.append_assoc, List.singleton_append]; exact ti_fr_put hqn _ _ _ _ _ _, ⟨by dsimp only; omega, ti_up_le hg1 hs9, ti_up_le hg2 ht9, ti_up_le hg3 (ti_lv_le _ _ _ _)⟩, rfl⟩) hP hS (Nat.le_refl _) (Nat.le_refl _)
      · skip
        have hqs : (ti_F xf)[q - 1]? = some (xf.2.1 (q - 1), xf.2.2.1 (q - 1), xf.2.2.2 (q - 1)) := by rw [ti_fr_at (by omega), Nat.zero_add]
        obtain ⟨ht1, ht2⟩ := ti_take_s hqs
        rw [show q - 1 + 1 = q by omega] at ht1
        have r1 : g1 (q - 1) = xf.2.1 (q - 1) := by rw [e1]; exact ti_ri_lo (by omega)
        have r2 : g2 (q - 1) = xf.2.2.1 (q - 1) := by rw [e2]; exact ti_ri_lo (by omega)
        refine lv_iload_n hx hb dX7_comesFace_11 rfl (lv_at hl 2 rfl) ?_
        refine lv_aload_n hx hb dX7_comesFace_12 rfl (lv_at hl 0 rfl) ?_
        refine va_get (v := .ref (ad 11)) hx hb hts in_X7 hown hK hP 0 rfl rfl 14 (by decide) (hts _ q1102) (fun _ h => h) rfl dX7_comesFace_13 ?_
        refine lv_iload hx hb dX7_comesFace_16 (lv_at hl 4 rfl) ?_
        refine lv_iconst (v := nI 1) hx hb dX7_comesFace_18 (by decide) ?_
        refine tn_sub hx hb dX7_comesFace_19 (by omega) ?_
        refine tn_iald (f := g2) hx hb hK hP 11 0 rfl rfl (by omega) (by decide) dX7_comesFace_20 ?_
        have b20 := hg2 (q - 1)
        refine tn_mul hx hb dX7_comesFace_21 ?_
        have b21 : s9 * (g2 (q - 1)) ≤ 81 := Nat.mul_le_mul hs9 b20
        refine lv_aload_n hx hb dX7_comesFace_22 rfl (lv_at hl 0 rfl) ?_
        refine va_get (v := .ref (ad 10)) hx hb hts in_X7 hown hK hP 0 rfl rfl 13 (by decide) (hts _ q1101) (fun _ h => h) rfl dX7_comesFace_23 ?_
        refine lv_iload hx hb dX7_comesFace_26 (lv_at hl 4 rfl) ?_
        refine lv_iconst (v := nI 1) hx hb dX7_comesFace_28 (by decide) ?_
        refine tn_sub hx hb dX7_comesFace_29 (by omega) ?_
        refine tn_iald (f := g1) hx hb hK hP 10 0 rfl rfl (by omega) (by decide) dX7_comesFace_30 ?_
        have b30 := hg1 (q - 1)
        refine lv_iload_n hx hb dX7_comesFace_31 rfl (lv_at hl 3 rfl) ?_
        refine tn_mul hx hb dX7_comesFace_32 ?_
        have b32 : (g1 (q - 1)) * t9 ≤ 81 := Nat.mul_le_mul b30 ht9
        refine tn_le (tgt := 90) hx hb dX7_comesFace_33 (by decide) (by omega) (by omega) (fun c33 => ?_) (fun c33 => ?_)
        · skip
          rw [r1, r2] at c33
          have hp : (ti_fi (s9, t9, ti_lv s9 t9 (ti_gr (ti_ma xg i) (ti_mb xg i) 0 (xg.1 i)) 1000) ((ti_F xf).take q).reverse).reverse = (ti_F xf).take q ++ [(s9, t9, ti_lv s9 t9 (ti_gr (ti_ma xg i) (ti_mb xg i) 0 (xg.1 i)) 1000)] := by rw [ht1, List.reverse_append, List.reverse_singleton, List.singleton_append, ti_fi, if_neg (by dsimp only; omega)]; simp
          refine lv_aload_n hx hb dX7_comesFace_90 rfl (lv_at hl 0 rfl) ?_
          refine va_get (v := .ref (ad 10)) hx hb hts in_X7 hown hK hP 0 rfl rfl 13 (by decide) (hts _ q1101) (fun _ h => h) rfl dX7_comesFace_91 ?_
          refine lv_iload hx hb dX7_comesFace_94 (lv_at hl 4 rfl) ?_
          refine lv_iload_n hx hb dX7_comesFace_96 rfl (lv_at hl 2 rfl) ?_
          refine tn_iast (f := g1) hx hb hK hP hD hS 10 0 rfl rfl (by omega) (by decide) dX7_comesFace_97 (fun H locs hP hD hS => ?_)
          have hP : va_P D vwCl (ti_wM E ad xg xd xt (xf.1, va_up g1 q s9, g2, g3) xj xh xs xv xb xq xk) H := hP
          have hD : va_D A (ti_wM E ad xg xd xt (xf.1, va_up g1 q s9, g2, g3) xj xh xs xv xb xq xk) := hD
          refine lv_aload_n hx hb dX7_comesFace_98 rfl (lv_at hl 0 rfl) ?_
          refine va_get (v := .ref (ad 11)) hx hb hts in_X7 hown hK hP 0 rfl rfl 14 (by decide) (hts _ q1102) (fun _ h => h) rfl dX7_comesFace_99 ?_
          refine lv_iload hx hb dX7_comesFace_102 (lv_at hl 4 rfl) ?_
          refine lv_iload_n hx hb dX7_comesFace_104 rfl (lv_at hl 3 rfl) ?_
          refine tn_iast (f := g2) hx hb hK hP hD hS 11 0 rfl rfl (by omega) (by decide) dX7_comesFace_105 (fun H locs hP hD hS => ?_)
          have hP : va_P D vwCl (ti_wM E ad xg xd xt (xf.1, va_up g1 q s9, va_up g2 q t9, g3) xj xh xs xv xb xq xk) H := hP
          have hD : va_D A (ti_wM E ad xg xd xt (xf.1, va_up g1 q s9, va_up g2 q t9, g3) xj xh xs xv xb xq xk) := hD
          refine lv_aload_n hx hb dX7_comesFace_106 rfl (lv_at hl 0 rfl) ?_
          refine va_get (v := .ref (ad 12)) hx hb hts in_X7 hown hK hP 0 rfl rfl 15 (by decide) (hts _ q1103) (fun _ h => h) rfl dX7_comesFace_107 ?_
          refine lv_iload hx hb dX7_comesFace_110 (lv_at hl 4 rfl) ?_
          refine lv_aload_n hx hb dX7_comesFace_112 rfl (lv_at hl 0 rfl) ?_
          refine lv_iload_n hx hb dX7_comesFace_113 rfl (lv_at hl 1 rfl) ?_
          refine lv_iload_n hx hb dX7_comesFace_114 rfl (lv_at hl 2 rfl) ?_
          refine lv_iload_n hx hb dX7_comesFace_115 rfl (lv_at hl 3 rfl) ?_
          refine ti_pVa (As := [.int (nI i), .int (nI s9), .int (nI t9)]) (rest := [.int (nI q), .ref (ad 12)]) (v := .int (nI (ti_lv s9 t9 (ti_gr (ti_ma xg i) (ti_mb xg i) 0 (xg.1 i)) 1000))) S hE hP (met_X7_levelOf l D E ad xg xd xt (xf.1, va_up g1 q s9, va_up g2 q t9, g3) xj xh xs xv xb xq xk hxg i hi s9 t9 hs9 ht9) (lw_V q1293 q1295 qs34 q73 q1296) 3 rfl 0 rfl rfl (by decide +kernel) ⟨Nat.le_of_ble_eq_true rfl, Nat.le_of_ble_eq_true rfl⟩ hl.1 rfl (Nat.le_of_ble_eq_true rfl) ⟨Nat.le_refl _, Nat.le_refl _⟩ dX7_comesFace_116 ?_
          refine tn_iast (f := g3) hx hb hK hP hD hS 12 0 rfl rfl (by omega) (by decide) dX7_comesFace_119 (fun H locs hP hD hS => ?_)
          have hP : va_P D vwCl (ti_wM E ad xg xd xt (xf.1, va_up g1 q s9, va_up g2 q t9, va_up g3 q (ti_lv s9 t9 (ti_gr (ti_ma xg i) (ti_mb xg i) 0 (xg.1 i)) 1000)) xj xh xs xv xb xq xk) H := hP
          have hD : va_D A (ti_wM E ad xg xd xt (xf.1, va_up g1 q s9, va_up g2 q t9, va_up g3 q (ti_lv s9 t9 (ti_gr (ti_ma xg i) (ti_mb xg i) 0 (xg.1 i)) 1000)) xj xh xs xv xb xq xk) := hD
          refine lv_aload_n hx hb dX7_comesFace_120 rfl (lv_at hl 0 rfl) ?_
          refine lv_dup hx hb dX7_comesFace_121 rfl ?_
          refine va_get (v := .int (nI xf.1)) hx hb hts in_X7 hown hK hP 0 rfl rfl 12 (by decide) (hts _ q1100) (fun _ h => h) rfl dX7_comesFace_122 ?_
          refine lv_iconst (v := nI 1) hx hb dX7_comesFace_125 (by decide) ?_
          refine tn_add hx hb dX7_comesFace_126 ?_
          refine va_put (ty := .int) hx hb hts in_X7 tyX7 tyX7_ok nmX7 hown hK hP hD hS 0 rfl rfl 12 (by decide) (hts _ q1100) (fun _ h => h) rfl rfl rfl rfl (Nat.le_of_ble_eq_true rfl) dX7_comesFace_127 (fun H locs hP hD hS => ?_)
          have hP : va_P D vwCl (ti_wM E ad xg xd xt (xf.1 + 1, va_up g1 q s9, va_up g2 q t9, va_up g3 q (ti_lv s9 t9 (ti_gr (ti_ma xg i) (ti_mb xg i) 0 (xg.1 i)) 1000)) xj xh xs xv xb xq xk) H := hP
          have hD : va_D A (ti_wM E ad xg xd xt (xf.1 + 1, va_up g1 q s9, va_up g2 q t9, va_up g3 q (ti_lv s9 t9 (ti_gr (ti_ma xg i) (ti_mb xg i) 0 (xg.1 i)) 1000)) xj xh xs xv xb xq xk) := hD
          exact hret ((xf.1 + 1, va_up g1 q s9, va_up g2 q t9, va_up g3 q (ti_lv s9 t9 (ti_gr (ti_ma xg i) (ti_mb xg i) 0 (xg.1 i)) 1000))) _ _ _ _ _ _ dX7_comesFace_130 (⟨by rw [hv, hp, e1, e2, e3, List.append_assoc, List.singleton_append]; exact ti_fr_put hqn _ _ _ _ _ _, ⟨by dsimp only; omega, ti_up_le hg1 hs9, ti_up_le hg2 ht9, ti_up_le hg3 (ti_lv_le _ _ _ _)⟩, rfl⟩) hP hS (Nat.le_refl _) (Nat.le_refl _)
        · skip
          rw [r1, r2] at c33
          refine lv_aload_n hx hb dX7_comesFace_36 rfl (lv_at hl 0 rfl) ?_
          refine va_get (v := .ref (ad 10)) hx hb hts in_X7 hown hK hP 0 rfl rfl 13 (by decide) (hts _ q1101) (fun _ h => h) rfl dX7_comesFace_37 ?_
          refine lv_iload hx hb dX7_comesFace_40 (lv_at hl 4 rfl) ?_
          refine lv_aload_n hx hb dX7_comesFace_42 rfl (lv_at hl 0 rfl) ?_
          refine va_get (v := .ref (ad 10)) hx hb hts in_X7 hown hK hP 0 rfl rfl 13 (by decide) (hts _ q1101) (fun _ h => h) rfl dX7_comesFace_43 ?_
          refine lv_iload hx hb dX7_comesFace_46 (lv_at hl 4 rfl) ?_
          refine lv_iconst (v := nI 1) hx hb dX7_comesFace_48 (by decide) ?_
          refine tn_sub hx hb dX7_comesFace_49 (by omega) ?_
          refine tn_iald (f := g1) hx hb hK hP 10 0 rfl rfl (by omega) (by decide) dX7_comesFace_50 ?_
          have b50 := hg1 (q - 1)
          refine tn_iast (f := g1) hx hb hK hP hD hS 10 0 rfl rfl (by omega) (by decide) dX7_comesFace_51 (fun H locs hP hD hS => ?_)
          have hP : va_P D vwCl (ti_wM E ad xg xd xt (xf.1, va_up g1 q (g1 (q - 1)), g2, g3) xj xh xs xv xb xq xk) H := hP
          have hD : va_D A (ti_wM E ad xg xd xt (xf.1, va_up g1 q (g1 (q - 1)), g2, g3) xj xh xs xv xb xq xk) := hD
          refine lv_aload_n hx hb dX7_comesFace_52 rfl (lv_at hl 0 rfl) ?_
          refine va_get (v := .ref (ad 11)) hx hb hts in_X7 hown hK hP 0 rfl rfl 14 (by decide) (hts _ q1102) (fun _ h => h) rfl dX7_comesFace_53 ?_
          refine lv_iload hx hb dX7_comesFace_56 (lv_at hl 4 rfl) ?_
          refine lv_aload_n hx hb dX7_comesFace_58 rfl (lv_at hl 0 rfl) ?_
          refine va_get (v := .ref (ad 11)) hx hb hts in_X7 hown hK hP 0 rfl rfl 14 (by decide) (hts _ q1102) (fun _ h => h) rfl dX7_comesFace_59 ?_
          refine lv_iload hx hb dX7_comesFace_62 (lv_at hl 4 rfl) ?_
          refine lv_iconst (v := nI 1) hx hb dX7_comesFace_64 (by decide) ?_
          refine tn_sub hx hb dX7_comesFace_65 (by omega) ?_
          refine tn_iald (f := g2) hx hb hK hP 11 0 rfl rfl (by omega) (by decide) dX7_comesFace_66 ?_
          have b66 := hg2 (q - 1)
          refine tn_iast (f := g2) hx hb hK hP hD hS 11 0 rfl rfl (by omega) (by decide) dX7_comesFace_67 (fun H locs hP hD hS => ?_)
          have hP : va_P D vwCl (ti_wM E ad xg xd xt (xf.1, va_up g1 q (g1 (q - 1)), va_up g2 q (g2 (q - 1)), g3) xj xh xs xv xb xq xk) H := hP
          have hD : va_D A (ti_wM E ad xg xd xt (xf.1, va_up g1 q (g1 (q - 1)), va_up g2 q (g2 (q - 1)), g3) xj xh xs xv xb xq xk) := hD
          refine lv_aload_n hx hb dX7_comesFace_68 rfl (lv_at hl 0 rfl) ?_
          refine va_get (v := .ref (ad 12)) hx hb hts in_X7 hown hK hP 0 rfl rfl 15 (by decide) (hts _ q1103) (fun _ h => h) rfl dX7_comesFace_69 ?_
          refine lv_iload hx hb dX7_comesFace_72 (lv_at hl 4 rfl) ?_
          refine lv_aload_n hx hb dX7_comesFace_74 rfl (lv_at hl 0 rfl) ?_
          refine va_get (v := .ref (ad 12)) hx hb hts in_X7 hown hK hP 0 rfl rfl 15 (by decide) (hts _ q1103) (fun _ h => h) rfl dX7_comesFace_75 ?_
          refine lv_iload hx hb dX7_comesFace_78 (lv_at hl 4 rfl) ?_
          refine lv_iconst (v := nI 1) hx hb dX7_comesFace_80 (by decide) ?_
          refine tn_sub hx hb dX7_comesFace_81 (by omega) ?_
          refine tn_iald (f := g3) hx hb hK hP 12 0 rfl rfl (by omega) (by decide) dX7_comesFace_82 ?_
          have b82 := hg3 (q - 1)
          refine tn_iast (f := g3) hx hb hK hP hD hS 12 0 rfl rfl (by omega) (by decide) dX7_comesFace_83 (fun H locs hP hD hS => ?_)
          have hP : va_P D vwCl (ti_wM E ad xg xd xt (xf.1, va_up g1 q (g1 (q - 1)), va_up g2 q (g2 (q - 1)), va_up g3 q (g3 (q - 1))) xj xh xs xv xb xq xk) H := hP
          have hD : va_D A (ti_wM E ad xg xd xt (xf.1, va_up g1 q (g1 (q - 1)), va_up g2 q (g2 (q - 1)), va_up g3 q (g3 (q - 1))) xj xh xs xv xb xq xk) := hD
          refine lv_iinc (v := nI (q - 1)) (lv' := [(4, .int (nI (q - 1))), (0, .ref (ad 0)), (1, .int (nI i)), (2, .int (nI s9)), (3, .int (nI t9))]) hx hb dX7_comesFace_84 hl (k := 4) rfl (sb_m1 (by omega)) (by decide) rfl (fun ls hl => ?_)
          refine lv_goto (tgt := 6) hx hb dX7_comesFace_87 (by decide) ?_
          exact ih6 (q - 1) (va_up g1 q (g1 (q - 1))) (va_up g2 q (g2 (q - 1))) (va_up g3 q (g3 (q - 1))) _ _ _ hP hD hS (by omega) (by omega) (by rw [e1]; exact ti_ri_up c8 hqn _) (by rw [e2]; exact ti_ri_up c8 hqn _) (by rw [e3]; exact ti_ri_up c8 hqn _) (ti_up_le hg1 (hg1 _)) (ti_up_le hg2 (hg2 _)) (ti_up_le hg3 (hg3 _)) (by rw [hv, ht1, List.reverse_append, List.reverse_singleton, List.singleton_append, ti_fi, if_pos (by dsimp only; exact c33), ht2, List.reverse_cons, List.append_assoc, List.singleton_append]; rw [show q - 1 + 1 = q by omega]) (lv_sub hl [1, 2, 3, 4, 0] rfl)
  exact L6 _ xf.1 xf.2.1 xf.2.2.1 xf.2.2.2 _ _ _ hP hD hS (Nat.lt_succ_self _) (by omega) (ti_ri_0 _ _).symm (ti_ri_0 _ _).symm (ti_ri_0 _ _).symm (hxf.2.1) (hxf.2.2.1) (hxf.2.2.2) (by rw [List.take_of_length_le (by rw [ti_fr_len]; omega), List.drop_of_length_le (by rw [ti_fr_len]; omega), List.append_nil]) (lv_sub hl [1, 2, 3, 4, 0] rfl)

set_option maxHeartbeats 1000000 in
theorem met_X7_tellsFaces (l : Launch) (D : va_G) (E : Nat → ClassId) (ad : Nat → Nat) (xg : ti_Mg) (xd : ti_Md) (xt : ti_Mt) (xf : ti_Mf) (xj : ti_Mj) (xh : ti_Mh) (xs : ti_Ms) (xv : ti_Mv) (xb : ti_Mb) (xq : ti_Mq) (xk : ti_Mk) (hxg : ti_Mgok xg) (i : Nat) (hi : i < 3) (hN : ti_r2 (ti_gr (ti_ma xg i) (ti_mb xg i) 0 (xg.1 i)) 1000 (List.range' 1 9) ≤ 6) (hxf : ti_Mfok xf) : ti_MetM (σ := ti_Mf) l D E yX7_tellsFaces cX7_tellsFaces 4 none 3 0 0 (ti_wM E ad xg xd xt xf xj xh xs xv xb xq xk) [.ref (ad 0), .int (nI i)] (fun u => ti_wM E ad xg xd xt u xj xh xs xv xb xq xk) (fun _ => none) (fun u => ti_F u = (ti_fm (ti_gr (ti_ma xg i) (ti_mb xg i) 0 (xg.1 i)) 1000).reverse ∧ ti_Mfok u) := by
  refine ti_mutV (σ := ti_Mf) (by decide) (Nat.le_of_ble_eq_true rfl) ?_
  intro p e s m below meth c H H0 A Q ls S hE hP hD hS hA hinit hl hret
  have hx := S.1
  have hb := S.2.1
  have hown := S.2.2.2.1
  have hts := S.2.2.2.2
  have hK := hE.1
  have hl : lv_has ls 4 [(0, .ref (ad 0)), (1, .int (nI i))] := hl
  refine lv_aload_n hx hb dX7_tellsFaces_0 rfl (lv_at hl 0 rfl) ?_
  refine lv_iconst (v := nI 0) hx hb dX7_tellsFaces_1 (by decide) ?_
  refine va_put (ty := .int) hx hb hts in_X7 tyX7 tyX7_ok nmX7 hown hK hP hD hS 0 rfl rfl 12 (by decide) (hts _ q1100) (fun _ h => h) rfl rfl rfl rfl (Nat.le_of_ble_eq_true rfl) dX7_tellsFaces_2 (fun H locs hP hD hS => ?_)
  have hP : va_P D vwCl (ti_wM E ad xg xd xt (0, xf.2.1, xf.2.2.1, xf.2.2.2) xj xh xs xv xb xq xk) H := hP
  have hD : va_D A (ti_wM E ad xg xd xt (0, xf.2.1, xf.2.2.1, xf.2.2.2) xj xh xs xv xb xq xk) := hD
  refine lv_aload_n hx hb dX7_tellsFaces_5 rfl (lv_at hl 0 rfl) ?_
  refine lv_iload_n hx hb dX7_tellsFaces_6 rfl (lv_at hl 1 rfl) ?_
  refine lv_iconst (v := nI 1) hx hb dX7_tellsFaces_7 (by decide) ?_
  refine lv_iconst (v := nI 0) hx hb dX7_tellsFaces_8 (by decide) ?_
  refine ti_mVa (As := [.int (nI i), .int (nI 1), .int (nI 0)]) (rest := []) S hE hP hD hS hA (met_X7_comesFace l D E ad xg xd xt (0, xf.2.1, xf.2.2.1, xf.2.2.2) xj xh xs xv xb xq xk hxg i hi 1 0 (by omega) (by omega) ⟨Nat.zero_le _, hxf.2⟩ (by dsimp only; omega)) (fun _ => rfl) (lw_V q1289 q1291 qs33 q73 q1292) 3 rfl 0 rfl rfl (by decide +kernel) ⟨Nat.le_of_ble_eq_true rfl, Nat.le_of_ble_eq_true rfl⟩ hl.1 rfl (Nat.le_of_ble_eq_true rfl) ⟨Nat.le_refl _, Nat.le_refl _⟩ dX7_tellsFaces_9 (fun ua H locs hu hP hD hS => ?_)
  obtain ⟨ua1, ua2, ua3⟩ := hu
  have hP : va_P D vwCl (ti_wM E ad xg xd xt ua xj xh xs xv xb xq xk) H := hP
  have hD : va_D A (ti_wM E ad xg xd xt ua xj xh xs xv xb xq xk) := hD
  refine W.eq (g2 := F0 m 12 ls []) rfl ?_
  refine lv_iconst (v := nI 1) hx hb dX7_tellsFaces_12 (by decide) ?_
  refine lv_istore_n (lv' := [(2, .int (nI 1)), (0, .ref (ad 0)), (1, .int (nI i))]) hx hb dX7_tellsFaces_13 rfl hl (by decide) rfl (fun ls hl => ?_)
  have L14 : ∀ (N : Nat) (s1 : Nat) (y : ti_Mf) (ls : Array Slot) (H : Heap) (locs : List Loc), va_P D vwCl (ti_wM E ad xg xd xt y xj xh xs xv xb xq xk) H → va_D A (ti_wM E ad xg xd xt y xj xh xs xv xb xq xk) → va_S A H0 H locs → (10 - s1) < N → (1 ≤ s1) → (s1 ≤ 10) → (ti_Mfok y) → (y.1 + ti_r2 (ti_gr (ti_ma xg i) (ti_mb xg i) 0 (xg.1 i)) 1000 (List.range' s1 (10 - s1)) ≤ 7) → (ti_f2 (ti_gr (ti_ma xg i) (ti_mb xg i) 0 (xg.1 i)) 1000 (List.range' 1 9) (ti_fi (1, 0, ti_lv 1 0 (ti_gr (ti_ma xg i) (ti_mb xg i) 0 (xg.1 i)) 1000) []) = ti_f2 (ti_gr (ti_ma xg i) (ti_mb xg i) 0 (xg.1 i)) 1000 (List.range' s1 (10 - s1)) (ti_F y).reverse) → lv_has ls 4 [(0, .ref (ad 0)), (1, .int (nI i)), (2, .int (nI s1))] → W p l e (ti_rm 3 0 0) s m ([.ref (ad 0), .int (nI i)] : List Value).toArray below meth c H locs 0 0 Q (F0 m 14 ls []) := by
    intro N
    induction N with
    | zero => intro s1 y ls H locs hP hD hS h0; exact absurd h0 (Nat.not_lt_zero _)
    | succ N ih14 =>
      intro s1 y ls H locs hP hD hS hN hs1 hs2 hok hc hv hl
      refine lv_iload_n hx hb dX7_tellsFaces_14 rfl (lv_at hl 2 rfl) ?_
      refine lv_bipush (v := nI 10) hx hb dX7_tellsFaces_15 (by decide) ?_
      refine tn_ge (tgt := 77) hx hb dX7_tellsFaces_17 (by decide) (by omega) (by omega) (fun c17 => ?_) (fun c17 => ?_)
      · skip
        rw [show 10 - s1 = 0 by omega] at hv
        have hv : ti_f2 (ti_gr (ti_ma xg i) (ti_mb xg i) 0 (xg.1 i)) 1000 (List.range' 1 9) (ti_fi (1, 0, ti_lv 1 0 (ti_gr (ti_ma xg i) (ti_mb xg i) 0 (xg.1 i)) 1000) []) = (ti_F y).reverse := hv
        refine lv_aload_n hx hb dX7_tellsFaces_77 rfl (lv_at hl 0 rfl) ?_
        refine lv_iload_n hx hb dX7_tellsFaces_78 rfl (lv_at hl 1 rfl) ?_
        refine lv_iconst (v := nI 0) hx hb dX7_tellsFaces_79 (by decide) ?_
        refine lv_iconst (v := nI 1) hx hb dX7_tellsFaces_80 (by decide) ?_
        refine ti_mVa (As := [.int (nI i), .int (nI 0), .int (nI 1)]) (rest := []) S hE hP hD hS hA (met_X7_comesFace l D E ad xg xd xt y xj xh xs xv xb xq xk hxg i hi 0 1 (by omega) (by omega) hok (by omega)) (fun _ => rfl) (lw_V q1289 q1291 qs33 q73 q1292) 3 rfl 0 rfl rfl (by decide +kernel) ⟨Nat.le_of_ble_eq_true rfl, Nat.le_of_ble_eq_true rfl⟩ hl.1 rfl (Nat.le_of_ble_eq_true rfl) ⟨Nat.le_refl _, Nat.le_refl _⟩ dX7_tellsFaces_81 (fun uc H locs hu hP hD hS => ?_)
        obtain ⟨uc1, uc2, uc3⟩ := hu
        have hP : va_P D vwCl (ti_wM E ad xg xd xt uc xj xh xs xv xb xq xk) H := hP
        have hD : va_D A (ti_wM E ad xg xd xt uc xj xh xs xv xb xq xk) := hD
        refine W.eq (g2 := F0 m 84 ls []) rfl ?_
        exact hret uc _ _ _ _ _ _ dX7_tellsFaces_84 (⟨by rw [uc1, ti_fm, hv], uc2⟩) hP hS (Nat.le_refl _) (Nat.le_refl _)
      · skip
        obtain ⟨m9, hm9⟩ : ∃ m9, 10 - s1 = m9 + 1 := ⟨10 - s1 - 1, by omega⟩
        rw [hm9, show List.range' s1 (m9 + 1) = s1 :: List.range' (s1 + 1) m9 from rfl] at hv hc
        refine lv_iconst (v := nI 1) hx hb dX7_tellsFaces_20 (by decide) ?_
        refine lv_istore_n (lv' := [(3, .int (nI 1)), (0, .ref (ad 0)), (1, .int (nI i)), (2, .int (nI s1))]) hx hb dX7_tellsFaces_21 rfl hl (by decide) rfl (fun ls hl => ?_)
        have L22 : ∀ (N : Nat) (t1 : Nat) (y2 : ti_Mf) (ls : Array Slot) (H : Heap) (locs : List Loc), va_P D vwCl (ti_wM E ad xg xd xt y2 xj xh xs xv xb xq xk) H → va_D A (ti_wM E ad xg xd xt y2 xj xh xs xv xb xq xk) → va_S A H0 H locs → (10 - t1) < N → (1 ≤ t1) → (t1 ≤ 10) → (ti_Mfok y2) → (y2.1 + ti_r1 (ti_gr (ti_ma xg i) (ti_mb xg i) 0 (xg.1 i)) 1000 s1 (List.range' t1 (10 - t1)) + ti_r2 (ti_gr (ti_ma xg i) (ti_mb xg i) 0 (xg.1 i)) 1000 (List.range' (s1 + 1) m9) ≤ 7) → (ti_f1 (ti_gr (ti_ma xg i) (ti_mb xg i) 0 (xg.1 i)) 1000 s1 (List.range' 1 9) (ti_F y).reverse = ti_f1 (ti_gr (ti_ma xg i) (ti_mb xg i) 0 (xg.1 i)) 1000 s1 (List.range' t1 (10 - t1)) (ti_F y2).reverse) → lv_has ls 4 [(0, .ref (ad 0)), (1, .int (nI i)), (2, .int (nI s1)), (3, .int (nI t1))] → W p l e (ti_rm 3 0 0) s m ([.ref (ad 0), .int (nI i)] : List Value).toArray below meth c H locs 0 0 Q (F0 m 22 ls []) := by
          intro N
          induction N with
          | zero => intro t1 y2 ls H locs hP hD hS h0; exact absurd h0 (Nat.not_lt_zero _)
          | succ N ih22 =>
            intro t1 y2 ls H locs hP hD hS hN ht1 ht2 hok2 hc2 hv2 hl
            refine lv_iload_n hx hb dX7_tellsFaces_22 rfl (lv_at hl 3 rfl) ?_
            refine lv_bipush (v := nI 10) hx hb dX7_tellsFaces_23 (by decide) ?_
            refine tn_ge (tgt := 71) hx hb dX7_tellsFaces_25 (by decide) (by omega) (by omega) (fun c25 => ?_) (fun c25 => ?_)
            · skip
              rw [show 10 - t1 = 0 by omega] at hv2 hc2
              have hv2 : ti_f1 (ti_gr (ti_ma xg i) (ti_mb xg i) 0 (xg.1 i)) 1000 s1 (List.range' 1 9) (ti_F y).reverse = (ti_F y2).reverse := hv2
              have hc2 : y2.1 + 0 + ti_r2 (ti_gr (ti_ma xg i) (ti_mb xg i) 0 (xg.1 i)) 1000 (List.range' (s1 + 1) m9) ≤ 7 := hc2
              refine lv_iinc (v := nI (s1 + 1)) (lv' := [(2, .int (nI (s1 + 1))), (0, .ref (ad 0)), (1, .int (nI i)), (3, .int (nI t1))]) hx hb dX7_tellsFaces_71 hl (k := 2) rfl (nI_1 s1) (by decide) rfl (fun ls hl => ?_)
              refine lv_goto (tgt := 14) hx hb dX7_tellsFaces_74 (by decide) ?_
              exact ih14 (s1 + 1) y2 _ _ _ hP hD hS (by omega) (by omega) (by omega) (hok2) (by rw [show 10 - (s1 + 1) = m9 by omega]; omega) (by rw [hv, ti_f2, hv2, show 10 - (s1 + 1) = m9 by omega]) (lv_sub hl [1, 2, 0] rfl)
            · skip
              obtain ⟨m8, hm8⟩ : ∃ m8, 10 - t1 = m8 + 1 := ⟨10 - t1 - 1, by omega⟩
              rw [hm8, show List.range' t1 (m8 + 1) = t1 :: List.range' (t1 + 1) m8 from rfl] at hv2 hc2
              refine lv_iload_n hx hb dX7_tellsFaces_28 rfl (lv_at hl 2 rfl) ?_
              refine lv_i2l (v := lN s1) hx hb dX7_tellsFaces_29 (nI_l (by omega)) ?_
              refine lv_iload_n hx hb dX7_tellsFaces_30 rfl (lv_at hl 3 rfl) ?_
              refine lv_i2l (v := lN t1) hx hb dX7_tellsFaces_31 (nI_l (by omega)) ?_
              refine ti_pS (As := [.long (lN s1), .long (lN t1)]) (rest := []) (v := .long (lN (Nat.gcd s1 t1))) S hE hP [] (met_X7_divisor l D E s1 t1 (by omega) (by omega)) rfl (lw_S q1298 q1299 q73 q1300) 2 rfl (by decide +kernel) ⟨Nat.le_of_ble_eq_true rfl, Nat.le_of_ble_eq_true rfl⟩ hl.1 rfl (Nat.le_of_ble_eq_true rfl) ⟨Nat.le_refl _, Nat.le_refl _⟩ dX7_tellsFaces_32 ?_
              have hgl := Nat.gcd_le_left t1 (show 0 < s1 by omega)
              refine lv_lconst (v := lN 1) hx hb dX7_tellsFaces_35 (by decide) ?_
              refine W.lcmp hx hb dX7_tellsFaces_36 ?_
              refine tc_neN (tgt := 65) hx hb dX7_tellsFaces_37 (by decide) (by omega) (by omega) (fun c37 => ?_) (fun c37 => ?_)
              · skip
                have hisf : ti_isf (ti_gr (ti_ma xg i) (ti_mb xg i) 0 (xg.1 i)) 1000 s1 t1 = false := decide_eq_false (fun z => c37 z.1)
                refine lv_iinc (v := nI (t1 + 1)) (lv' := [(3, .int (nI (t1 + 1))), (0, .ref (ad 0)), (1, .int (nI i)), (2, .int (nI s1))]) hx hb dX7_tellsFaces_65 hl (k := 3) rfl (nI_1 t1) (by decide) rfl (fun ls hl => ?_)
                refine lv_goto (tgt := 22) hx hb dX7_tellsFaces_68 (by decide) ?_
                exact ih22 (t1 + 1) y2 _ _ _ hP hD hS (by omega) (by omega) (by omega) (hok2) (by rw [show 10 - (t1 + 1) = m8 by omega]; rw [ti_r1, hisf, if_neg (by decide)] at hc2; omega) (by rw [hv2, ti_f1, ti_fc, hisf, if_neg (by decide), show 10 - (t1 + 1) = m8 by omega]) (lv_sub hl [1, 2, 3, 0] rfl)
              · skip
                refine lv_aload_n hx hb dX7_tellsFaces_40 rfl (lv_at hl 0 rfl) ?_
                refine lv_iload_n hx hb dX7_tellsFaces_41 rfl (lv_at hl 1 rfl) ?_
                refine lv_iload_n hx hb dX7_tellsFaces_42 rfl (lv_at hl 2 rfl) ?_
                refine lv_iload_n hx hb dX7_tellsFaces_43 rfl (lv_at hl 3 rfl) ?_
                refine lv_aload_n hx hb dX7_tellsFaces_44 rfl (lv_at hl 0 rfl) ?_
                refine lv_iload_n hx hb dX7_tellsFaces_45 rfl (lv_at hl 1 rfl) ?_
                refine lv_iload_n hx hb dX7_tellsFaces_46 rfl (lv_at hl 2 rfl) ?_
                refine lv_iload_n hx hb dX7_tellsFaces_47 rfl (lv_at hl 3 rfl) ?_
                refine ti_pVa (As := [.int (nI i), .int (nI s1), .int (nI t1)]) (rest := [.int (nI t1), .int (nI s1), .int (nI i), .ref (ad 0)]) (v := .int (nI (ti_lv s1 t1 (ti_gr (ti_ma xg i) (ti_mb xg i) 0 (xg.1 i)) 1000))) S hE hP (met_X7_levelOf l D E ad xg xd xt y2 xj xh xs xv xb xq xk hxg i hi s1 t1 (by omega) (by omega)) (lw_V q1293 q1295 qs34 q73 q1296) 3 rfl 0 rfl rfl (by decide +kernel) ⟨Nat.le_of_ble_eq_true rfl, Nat.le_of_ble_eq_true rfl⟩ hl.1 rfl (Nat.le_of_ble_eq_true rfl) ⟨Nat.le_refl _, Nat.le_refl _⟩ dX7_tellsFaces_48 ?_
                have hlv := ti_lv_le s1 t1 (ti_gr (ti_ma xg i) (ti_mb xg i) 0 (xg.1 i)) 1000
                refine ti_pVa (As := [.int (nI i), .int (nI s1), .int (nI t1), .int (nI (ti_lv s1 t1 (ti_gr (ti_ma xg i) (ti_mb xg i) 0 (xg.1 i)) 1000))]) (rest := []) (v := .int (nI (ti_ct s1 t1 (ti_lv s1 t1 (ti_gr (ti_ma xg i) (ti_mb xg i) 0 (xg.1 i)) 1000) (ti_gr (ti_ma xg i) (ti_mb xg i) 0 (xg.1 i)) 0))) S hE hP (met_X7_metBy l D E ad xg xd xt y2 xj xh xs xv xb xq xk hxg i hi s1 t1 (by omega) (by omega) (ti_lv s1 t1 (ti_gr (ti_ma xg i) (ti_mb xg i) 0 (xg.1 i)) 1000) hlv) (lw_V q1301 q1303 qs35 q73 q1304) 4 rfl 0 rfl rfl (by decide +kernel) ⟨Nat.le_of_ble_eq_true rfl, Nat.le_of_ble_eq_true rfl⟩ hl.1 rfl (Nat.le_of_ble_eq_true rfl) ⟨Nat.le_refl _, Nat.le_refl _⟩ dX7_tellsFaces_51 ?_
                have hct := ti_ct_le s1 t1 (ti_lv s1 t1 (ti_gr (ti_ma xg i) (ti_mb xg i) 0 (xg.1 i)) 1000) (ti_gr (ti_ma xg i) (ti_mb xg i) 0 (xg.1 i)) 0
                rw [ti_gr_len] at hct
                have h6 := hxg.1 i
                refine lv_iconst (v := nI 1) hx hb dX7_tellsFaces_54 (by decide) ?_
                refine tn_le (tgt := 65) hx hb dX7_tellsFaces_55 (by decide) (by omega) (by omega) (fun c55 => ?_) (fun c55 => ?_)
                · skip
                  have hisf : ti_isf (ti_gr (ti_ma xg i) (ti_mb xg i) 0 (xg.1 i)) 1000 s1 t1 = false := decide_eq_false (fun z => absurd z.2 (by omega))
                  refine lv_iinc (v := nI (t1 + 1)) (lv' := [(3, .int (nI (t1 + 1))), (0, .ref (ad 0)), (1, .int (nI i)), (2, .int (nI s1))]) hx hb dX7_tellsFaces_65 hl (k := 3) rfl (nI_1 t1) (by decide) rfl (fun ls hl => ?_)
                  refine lv_goto (tgt := 22) hx hb dX7_tellsFaces_68 (by decide) ?_
                  exact ih22 (t1 + 1) y2 _ _ _ hP hD hS (by omega) (by omega) (by omega) (hok2) (by rw [show 10 - (t1 + 1) = m8 by omega]; rw [ti_r1, hisf, if_neg (by decide)] at hc2; omega) (by rw [hv2, ti_f1, ti_fc, hisf, if_neg (by decide), show 10 - (t1 + 1) = m8 by omega]) (lv_sub hl [1, 2, 3, 0] rfl)
                · skip
                  have hisf : ti_isf (ti_gr (ti_ma xg i) (ti_mb xg i) 0 (xg.1 i)) 1000 s1 t1 = true := decide_eq_true ⟨c37, c55⟩
                  refine lv_aload_n hx hb dX7_tellsFaces_58 rfl (lv_at hl 0 rfl) ?_
                  refine lv_iload_n hx hb dX7_tellsFaces_59 rfl (lv_at hl 1 rfl) ?_
                  refine lv_iload_n hx hb dX7_tellsFaces_60 rfl (lv_at hl 2 rfl) ?_
                  refine lv_iload_n hx hb dX7_tellsFaces_61 rfl (lv_at hl 3 rfl) ?_
                  refine ti_mVa (As := [.int (nI i), .int (nI s1), .int (nI t1)]) (rest := []) S hE hP hD hS hA (met_X7_comesFace l D E ad xg xd xt y2 xj xh xs xv xb xq xk hxg i hi s1 t1 (by omega) (by omega) hok2 (by rw [ti_r1, hisf, if_pos rfl] at hc2; omega)) (fun _ => rfl) (lw_V q1289 q1291 qs33 q73 q1292) 3 rfl 0 rfl rfl (by decide +kernel) ⟨Nat.le_of_ble_eq_true rfl, Nat.le_of_ble_eq_true rfl⟩ hl.1 rfl (Nat.le_of_ble_eq_true rfl) ⟨Nat.le_refl _, Nat.le_refl _⟩ dX7_tellsFaces_62 (fun ub H locs hu hP hD hS => ?_)
                  obtain ⟨ub1, ub2, ub3⟩ := hu
                  have hP : va_P D vwCl (ti_wM E ad xg xd xt ub xj xh xs xv xb xq xk) H := hP
                  have hD : va_D A (ti_wM E ad xg xd xt ub xj xh xs xv xb xq xk) := hD
                  refine W.eq (g2 := F0 m 65 ls []) rfl ?_
                  refine lv_iinc (v := nI (t1 + 1)) (lv' := [(3, .int (nI (t1 + 1))), (0, .ref (ad 0)), (1, .int (nI i)), (2, .int (nI s1))]) hx hb dX7_tellsFaces_65 hl (k := 3) rfl (nI_1 t1) (by decide) rfl (fun ls hl => ?_)
                  refine lv_goto (tgt := 22) hx hb dX7_tellsFaces_68 (by decide) ?_
                  exact ih22 (t1 + 1) ub _ _ _ hP hD hS (by omega) (by omega) (by omega) (ub2) (by rw [show 10 - (t1 + 1) = m8 by omega, ub3]; rw [ti_r1, hisf, if_pos rfl] at hc2; omega) (by rw [hv2, ti_f1, ti_fc, hisf, if_pos rfl, ub1, List.reverse_reverse, show 10 - (t1 + 1) = m8 by omega]) (lv_sub hl [1, 2, 3, 0] rfl)
        exact L22 _ 1 y _ _ _ hP hD hS (Nat.lt_succ_self _) (by omega) (by omega) (hok) (by rw [ti_r2] at hc; show y.1 + ti_r1 (ti_gr (ti_ma xg i) (ti_mb xg i) 0 (xg.1 i)) 1000 s1 (List.range' 1 9) + _ ≤ 7; omega) (rfl) (lv_sub hl [1, 2, 3, 0] rfl)
  exact L14 _ 1 ua _ _ _ hP hD hS (Nat.lt_succ_self _) (by omega) (by omega) (ua2) (by rw [ua3]; show 0 + 1 + ti_r2 (ti_gr (ti_ma xg i) (ti_mb xg i) 0 (xg.1 i)) 1000 (List.range' 1 9) ≤ 7; omega) (by rw [ua1, List.reverse_reverse]; rfl) (lv_sub hl [1, 2, 0] rfl)

set_option maxHeartbeats 1000000 in
theorem met_X7_isClosed (l : Launch) (D : va_G) (E : Nat → ClassId) (ad : Nat → Nat) (xg : ti_Mg) (xd : ti_Md) (xt : ti_Mt) (xf : ti_Mf) (xj : ti_Mj) (xh : ti_Mh) (xs : ti_Ms) (xv : ti_Mv) (xb : ti_Mb) (xq : ti_Mq) (xk : ti_Mk) (hxg : ti_Mgok xg) (i : Nat) (hi : i < 3) (hN : ti_r2 (ti_gr (ti_ma xg i) (ti_mb xg i) 0 (xg.1 i)) 1000 (List.range' 1 9) ≤ 6) (hxf : ti_Mfok xf) : ti_MetM (σ := ti_Mf) l D E yX7_isClosed cX7_isClosed 4 (some .boolean) 4 0 0 (ti_wM E ad xg xd xt xf xj xh xs xv xb xq xk) [.ref (ad 0), .int (nI i)] (fun u => ti_wM E ad xg xd xt u xj xh xs xv xb xq xk) (fun u => some (.int (ti_b ((fun u => ti_clm (ti_F u) (ti_gr (ti_ma xg i) (ti_mb xg i) 0 (xg.1 i)) (List.range' 0 100)) u)))) (fun u => ti_F u = (ti_fm (ti_gr (ti_ma xg i) (ti_mb xg i) 0 (xg.1 i)) 1000).reverse ∧ ti_Mfok u) := by
  refine ti_mutZ (σ := ti_Mf) (vb := fun u => ti_clm (ti_F u) (ti_gr (ti_ma xg i) (ti_mb xg i) 0 (xg.1 i)) (List.range' 0 100)) (by decide) (Nat.le_of_ble_eq_true rfl) ?_
  intro p e s m below meth c H H0 A Q ls S hE hP hD hS hA hinit hl hret
  have hx := S.1
  have hb := S.2.1
  have hown := S.2.2.2.1
  have hts := S.2.2.2.2
  have hK := hE.1
  have hl : lv_has ls 4 [(0, .ref (ad 0)), (1, .int (nI i))] := hl
  refine lv_aload_n hx hb dX7_isClosed_0 rfl (lv_at hl 0 rfl) ?_
  refine lv_iload_n hx hb dX7_isClosed_1 rfl (lv_at hl 1 rfl) ?_
  refine ti_mVa (As := [.int (nI i)]) (rest := []) S hE hP hD hS hA (met_X7_tellsFaces l D E ad xg xd xt xf xj xh xs xv xb xq xk hxg i hi hN hxf) (fun _ => rfl) (lw_V q1285 q1287 qs32 q73 q1288) 1 rfl 0 rfl rfl (by decide +kernel) ⟨Nat.le_of_ble_eq_true rfl, Nat.le_of_ble_eq_true rfl⟩ hl.1 rfl (Nat.le_of_ble_eq_true rfl) ⟨Nat.le_refl _, Nat.le_refl _⟩ dX7_isClosed_2 (fun u1 H locs hu hP hD hS => ?_)
  obtain ⟨hF1, hF2⟩ := hu
  have hP : va_P D vwCl (ti_wM E ad xg xd xt u1 xj xh xs xv xb xq xk) H := hP
  have hD : va_D A (ti_wM E ad xg xd xt u1 xj xh xs xv xb xq xk) := hD
  refine W.eq (g2 := F0 m 5 ls []) rfl ?_
  refine lv_iconst (v := nI 1) hx hb dX7_isClosed_5 (by decide) ?_
  refine lv_istore_n (lv' := [(2, .int (nI 1)), (0, .ref (ad 0)), (1, .int (nI i))]) hx hb dX7_isClosed_6 rfl hl (by decide) rfl (fun ls hl => ?_)
  refine lv_iconst (v := nI 0) hx hb dX7_isClosed_7 (by decide) ?_
  refine lv_istore_n (lv' := [(3, .int (nI 0)), (2, .int (nI 1)), (0, .ref (ad 0)), (1, .int (nI i))]) hx hb dX7_isClosed_8 rfl hl (by decide) rfl (fun ls hl => ?_)
  have L9 : ∀ (N : Nat) (z : Bool) (k : Nat) (ls : Array Slot) (H : Heap) (locs : List Loc), va_P D vwCl (ti_wM E ad xg xd xt u1 xj xh xs xv xb xq xk) H → va_D A (ti_wM E ad xg xd xt u1 xj xh xs xv xb xq xk) → va_S A H0 H locs → (100 - k) < N → (k ≤ 100) → (ti_clm (ti_F u1) (ti_gr (ti_ma xg i) (ti_mb xg i) 0 (xg.1 i)) (List.range' 0 100) = (z && ti_clm (ti_F u1) (ti_gr (ti_ma xg i) (ti_mb xg i) 0 (xg.1 i)) (List.range' k (100 - k)))) → lv_has ls 4 [(0, .ref (ad 0)), (1, .int (nI i)), (2, .int (ti_b z)), (3, .int (nI k))] → W p l e (ti_rm 4 0 0) s m ([.ref (ad 0), .int (nI i)] : List Value).toArray below meth c H locs 0 0 Q (F0 m 9 ls []) := by
    intro N
    induction N with
    | zero => intro z k ls H locs hP hD hS h0; exact absurd h0 (Nat.not_lt_zero _)
    | succ N ih9 =>
      intro z k ls H locs hP hD hS hN hkn hv hl
      refine lv_iload_n hx hb dX7_isClosed_9 rfl (lv_at hl 3 rfl) ?_
      refine lv_bipush (v := nI 100) hx hb dX7_isClosed_10 (by decide) ?_
      refine tn_ge (tgt := 62) hx hb dX7_isClosed_12 (by decide) (by omega) (by omega) (fun c12 => ?_) (fun c12 => ?_)
      · skip
        rw [show 100 - k = 0 by omega] at hv
        refine lv_iload_n hx hb dX7_isClosed_62 rfl (lv_at hl 2 rfl) ?_
        exact hret u1 _ _ _ _ _ _ _ dX7_isClosed_63 (by rw [hv]; cases z <;> rfl) (⟨hF1, hF2⟩) hP hS (Nat.le_refl _) (Nat.le_refl _)
      · skip
        obtain ⟨m9, hm9⟩ : ∃ m9, 100 - k = m9 + 1 := ⟨100 - k - 1, by omega⟩
        rw [hm9, show List.range' k (m9 + 1) = k :: List.range' (k + 1) m9 from rfl] at hv
        refine lv_iload_n hx hb dX7_isClosed_15 rfl (lv_at hl 2 rfl) ?_
        refine tb_eq (tgt := 54) hx hb dX7_isClosed_16 (by decide) (fun c16 => ?_) (fun c16 => ?_)
        · skip
          refine lv_iconst (v := nI 0) hx hb dX7_isClosed_54 (by decide) ?_
          refine lv_istore_n (lv' := [(2, .int (nI 0)), (0, .ref (ad 0)), (1, .int (nI i)), (3, .int (nI k))]) hx hb dX7_isClosed_55 rfl hl (by decide) rfl (fun ls hl => ?_)
          refine lv_iinc (v := nI (k + 1)) (lv' := [(3, .int (nI (k + 1))), (2, .int (nI 0)), (0, .ref (ad 0)), (1, .int (nI i))]) hx hb dX7_isClosed_56 hl (k := 3) rfl (nI_1 k) (by decide) rfl (fun ls hl => ?_)
          refine lv_goto (tgt := 9) hx hb dX7_isClosed_59 (by decide) ?_
          exact ih9 false (k + 1) _ _ _ hP hD hS (by omega) (by omega) (by rw [hv, c16]; rfl) (lv_sub hl [2, 3, 1, 0] rfl)
        · skip
          refine lv_aload_n hx hb dX7_isClosed_19 rfl (lv_at hl 0 rfl) ?_
          refine lv_iload_n hx hb dX7_isClosed_20 rfl (lv_at hl 3 rfl) ?_
          refine lv_bipush (v := nI 10) hx hb dX7_isClosed_21 (by decide) ?_
          refine tn_div hx hb dX7_isClosed_23 (by omega) (by omega) (by omega) ?_
          refine lv_iload_n hx hb dX7_isClosed_24 rfl (lv_at hl 3 rfl) ?_
          refine lv_bipush (v := nI 10) hx hb dX7_isClosed_25 (by decide) ?_
          refine tn_rem hx hb dX7_isClosed_27 (by omega) (by omega) (by omega) ?_
          refine ti_pVa (As := [.int (nI (k / 10)), .int (nI (k % 10))]) (rest := []) (v := .int (ti_b (ti_hull (k / 10) (k % 10) (ti_F u1)))) S hE hP (met_X7_isInHull l D E ad xg xd xt u1 xj xh xs xv xb xq xk hF2 (k / 10) (k % 10) (by omega) (by omega)) (lw_V q1309 q1311 qs37 q73 q1312) 2 rfl 0 rfl rfl (by decide +kernel) ⟨Nat.le_of_ble_eq_true rfl, Nat.le_of_ble_eq_true rfl⟩ hl.1 rfl (Nat.le_of_ble_eq_true rfl) ⟨Nat.le_refl _, Nat.le_refl _⟩ dX7_isClosed_28 ?_
          refine tb_eq (tgt := 50) hx hb dX7_isClosed_31 (by decide) (fun c31 => ?_) (fun c31 => ?_)
          · skip
            refine lv_iconst (v := nI 1) hx hb dX7_isClosed_50 (by decide) ?_
            refine lv_goto (tgt := 55) hx hb dX7_isClosed_51 (by decide) ?_
            refine lv_istore_n (lv' := [(2, .int (nI 1)), (0, .ref (ad 0)), (1, .int (nI i)), (3, .int (nI k))]) hx hb dX7_isClosed_55 rfl hl (by decide) rfl (fun ls hl => ?_)
            refine lv_iinc (v := nI (k + 1)) (lv' := [(3, .int (nI (k + 1))), (2, .int (nI 1)), (0, .ref (ad 0)), (1, .int (nI i))]) hx hb dX7_isClosed_56 hl (k := 3) rfl (nI_1 k) (by decide) rfl (fun ls hl => ?_)
            refine lv_goto (tgt := 9) hx hb dX7_isClosed_59 (by decide) ?_
            exact ih9 true (k + 1) _ _ _ hP hD hS (by omega) (by omega) (by rw [hv, c16, ti_clm, if_neg (by rw [c31]; simp), show 100 - (k + 1) = m9 by omega]) (lv_sub hl [2, 3, 1, 0] rfl)
          · skip
            refine lv_aload_n hx hb dX7_isClosed_34 rfl (lv_at hl 0 rfl) ?_
            refine lv_iload_n hx hb dX7_isClosed_35 rfl (lv_at hl 1 rfl) ?_
            refine lv_iload_n hx hb dX7_isClosed_36 rfl (lv_at hl 3 rfl) ?_
            refine lv_bipush (v := nI 10) hx hb dX7_isClosed_37 (by decide) ?_
            refine tn_div hx hb dX7_isClosed_39 (by omega) (by omega) (by omega) ?_
            refine lv_iload_n hx hb dX7_isClosed_40 rfl (lv_at hl 3 rfl) ?_
            refine lv_bipush (v := nI 10) hx hb dX7_isClosed_41 (by decide) ?_
            refine tn_rem hx hb dX7_isClosed_43 (by omega) (by omega) (by omega) ?_
            refine ti_pVa (As := [.int (nI i), .int (nI (k / 10)), .int (nI (k % 10))]) (rest := []) (v := .int (ti_b (ti_hb (k / 10) (k % 10) (-5) (ti_gr (ti_ma xg i) (ti_mb xg i) 0 (xg.1 i)) 0))) S hE hP (met_X7_isWithin l D E ad xg xd xt u1 xj xh xs xv xb xq xk hxg i hi (k / 10) (k % 10) (by omega) (by omega)) (lw_V q1375 q1377 qs45 q73 q1378) 3 rfl 0 rfl rfl (by decide +kernel) ⟨Nat.le_of_ble_eq_true rfl, Nat.le_of_ble_eq_true rfl⟩ hl.1 rfl (Nat.le_of_ble_eq_true rfl) ⟨Nat.le_refl _, Nat.le_refl _⟩ dX7_isClosed_44 ?_
            refine tb_eq (tgt := 54) hx hb dX7_isClosed_47 (by decide) (fun c47 => ?_) (fun c47 => ?_)
            · skip
              refine lv_iconst (v := nI 0) hx hb dX7_isClosed_54 (by decide) ?_
              refine lv_istore_n (lv' := [(2, .int (nI 0)), (0, .ref (ad 0)), (1, .int (nI i)), (3, .int (nI k))]) hx hb dX7_isClosed_55 rfl hl (by decide) rfl (fun ls hl => ?_)
              refine lv_iinc (v := nI (k + 1)) (lv' := [(3, .int (nI (k + 1))), (2, .int (nI 0)), (0, .ref (ad 0)), (1, .int (nI i))]) hx hb dX7_isClosed_56 hl (k := 3) rfl (nI_1 k) (by decide) rfl (fun ls hl => ?_)
              refine lv_goto (tgt := 9) hx hb dX7_isClosed_59 (by decide) ?_
              exact ih9 false (k + 1) _ _ _ hP hD hS (by omega) (by omega) (by rw [hv, c16, ti_clm, if_pos ⟨c31, c47⟩]; rfl) (lv_sub hl [2, 3, 1, 0] rfl)
            · skip
              refine lv_iconst (v := nI 1) hx hb dX7_isClosed_50 (by decide) ?_
              refine lv_goto (tgt := 55) hx hb dX7_isClosed_51 (by decide) ?_
              refine lv_istore_n (lv' := [(2, .int (nI 1)), (0, .ref (ad 0)), (1, .int (nI i)), (3, .int (nI k))]) hx hb dX7_isClosed_55 rfl hl (by decide) rfl (fun ls hl => ?_)
              refine lv_iinc (v := nI (k + 1)) (lv' := [(3, .int (nI (k + 1))), (2, .int (nI 1)), (0, .ref (ad 0)), (1, .int (nI i))]) hx hb dX7_isClosed_56 hl (k := 3) rfl (nI_1 k) (by decide) rfl (fun ls hl => ?_)
              refine lv_goto (tgt := 9) hx hb dX7_isClosed_59 (by decide) ?_
              exact ih9 true (k + 1) _ _ _ hP hD hS (by omega) (by omega) (by rw [hv, c16, ti_clm, if_neg (by rw [c47]; simp), show 100 - (k + 1) = m9 by omega]) (lv_sub hl [2, 3, 1, 0] rfl)
  exact L9 _ true 0 _ _ _ hP hD hS (Nat.lt_succ_self _) (by omega) (Bool.true_and _).symm (lv_sub hl [2, 3, 1, 0] rfl)

set_option maxHeartbeats 1000000 in
theorem met_X7_jumpFace (l : Launch) (D : va_G) (E : Nat → ClassId) (ad : Nat → Nat) (xg : ti_Mg) (xd : ti_Md) (xt : ti_Mt) (xf : ti_Mf) (xj : ti_Mj) (xh : ti_Mh) (xs : ti_Ms) (xv : ti_Mv) (xb : ti_Mb) (xq : ti_Mq) (xk : ti_Mk) (hxf : ti_Mfok xf) (a b : Nat) (ha9 : a ≤ 9) (hb9 : b ≤ 9) : ti_MetP l D E yX7_jumpFace cX7_jumpFace 5 (some .int) 1 (ti_wM E ad xg xd xt xf xj xh xs xv xb xq xk) [.ref (ad 0), .int (nI a), .int (nI b)] (some (.int (ti_pm (ti_jm a b xf.2.1 xf.2.2.1 xf.2.2.2 xf.1 0 none)))) := by
  refine ti_pureI (by decide) (Nat.le_of_ble_eq_true rfl) ?_
  intro p e s m below meth c H locs Q ls S hE hP hl hret
  have hx := S.1
  have hb := S.2.1
  have hown := S.2.2.2.1
  have hts := S.2.2.2.2
  have hK := hE.1
  have hl : lv_has ls 5 [(0, .ref (ad 0)), (1, .int (nI a)), (2, .int (nI b))] := hl
  have hf64 := hxf.1
  refine lv_iconst (v := (-1)) hx hb dX7_jumpFace_0 (by decide) ?_
  refine lv_istore_n (lv' := [(3, .int ((-1))), (0, .ref (ad 0)), (1, .int (nI a)), (2, .int (nI b))]) hx hb dX7_jumpFace_1 rfl hl (by decide) rfl (fun ls hl => ?_)
  refine lv_iconst (v := nI 0) hx hb dX7_jumpFace_2 (by decide) ?_
  refine lv_istore (lv' := [(4, .int (nI 0)), (3, .int ((-1))), (0, .ref (ad 0)), (1, .int (nI a)), (2, .int (nI b))]) hx hb dX7_jumpFace_3 hl (by decide) rfl (fun ls hl => ?_)
  have L5 : ∀ (N : Nat) (oo : Option Nat) (k : Nat) (ls : Array Slot), (xf.1 - k) < N → (k ≤ xf.1) → (∀ j, oo = some j → j < k) → (ti_jm a b xf.2.1 xf.2.2.1 xf.2.2.2 xf.1 0 none = ti_jm a b xf.2.1 xf.2.2.1 xf.2.2.2 (xf.1 - k) k oo) → lv_has ls 5 [(0, .ref (ad 0)), (1, .int (nI a)), (2, .int (nI b)), (3, .int (ti_pm oo)), (4, .int (nI k))] → W p l e (ti_rm 1 0 0) s m ([.ref (ad 0), .int (nI a), .int (nI b)] : List Value).toArray below meth c H locs 0 0 Q (F0 m 5 ls []) := by
    intro N
    induction N with
    | zero => intro oo k ls h0; exact absurd h0 (Nat.not_lt_zero _)
    | succ N ih5 =>
      intro oo k ls hN hkn ho hv hl
      refine lv_iload hx hb dX7_jumpFace_5 (lv_at hl 4 rfl) ?_
      refine lv_aload_n hx hb dX7_jumpFace_7 rfl (lv_at hl 0 rfl) ?_
      refine va_get (v := .int (nI xf.1)) hx hb hts in_X7 hown hK hP 0 rfl rfl 12 (by decide) (hts _ q1100) (fun _ h => h) rfl dX7_jumpFace_8 ?_
      refine tn_ge (tgt := 71) hx hb dX7_jumpFace_11 (by decide) (by omega) (by omega) (fun c11 => ?_) (fun c11 => ?_)
      · skip
        rw [show xf.1 - k = 0 by omega, ti_jm] at hv
        refine lv_iload_n hx hb dX7_jumpFace_71 rfl (lv_at hl 3 rfl) ?_
        exact hret _ _ _ dX7_jumpFace_72 (by rw [hv])
      · skip
        obtain ⟨m9, hm9⟩ : ∃ m9, xf.1 - k = m9 + 1 := ⟨xf.1 - k - 1, by omega⟩
        rw [hm9] at hv
        refine lv_aload_n hx hb dX7_jumpFace_14 rfl (lv_at hl 0 rfl) ?_
        refine va_get (v := .ref (ad 12)) hx hb hts in_X7 hown hK hP 0 rfl rfl 15 (by decide) (hts _ q1103) (fun _ h => h) rfl dX7_jumpFace_15 ?_
        refine lv_iload hx hb dX7_jumpFace_18 (lv_at hl 4 rfl) ?_
        refine tn_iald (f := xf.2.2.2) hx hb hK hP 12 0 rfl rfl (by omega) (by decide) dX7_jumpFace_20 ?_
        have b20 := hxf.2.2.2 k
        refine tn_if_le (tgt := 65) hx hb dX7_jumpFace_21 (by decide) (by omega) (fun c21 => ?_) (fun c21 => ?_)
        · skip
          refine lv_iinc (v := nI (k + 1)) (lv' := [(4, .int (nI (k + 1))), (0, .ref (ad 0)), (1, .int (nI a)), (2, .int (nI b)), (3, .int (ti_pm oo))]) hx hb dX7_jumpFace_65 hl (k := 4) rfl (nI_1 k) (by decide) rfl (fun ls hl => ?_)
          refine lv_goto (tgt := 5) hx hb dX7_jumpFace_68 (by decide) ?_
          exact ih5 oo (k + 1) _ (by omega) (by omega) (fun j hj => by have := ho j hj; omega) (by rw [hv, ti_jm, if_neg (fun z => by omega), show xf.1 - (k + 1) = m9 by omega]) (lv_sub hl [1, 2, 3, 4, 0] rfl)
        · skip
          refine lv_iload_n hx hb dX7_jumpFace_24 rfl (lv_at hl 3 rfl) ?_
          refine lv_iconst (v := (-1)) hx hb dX7_jumpFace_25 (by decide) ?_
          refine lv_icmp_eq (tgt := 62) hx hb dX7_jumpFace_26 (by decide) (fun c26 => ?_) (fun c26 => ?_)
          · skip
            refine lv_iload hx hb dX7_jumpFace_62 (lv_at hl 4 rfl) ?_
            refine lv_istore_n (lv' := [(3, .int (nI k)), (0, .ref (ad 0)), (1, .int (nI a)), (2, .int (nI b)), (4, .int (nI k))]) hx hb dX7_jumpFace_64 rfl hl (by decide) rfl (fun ls hl => ?_)
            refine lv_iinc (v := nI (k + 1)) (lv' := [(4, .int (nI (k + 1))), (3, .int (nI k)), (0, .ref (ad 0)), (1, .int (nI a)), (2, .int (nI b))]) hx hb dX7_jumpFace_65 hl (k := 4) rfl (nI_1 k) (by decide) rfl (fun ls hl => ?_)
            refine lv_goto (tgt := 5) hx hb dX7_jumpFace_68 (by decide) ?_
            exact ih5 (some k) (k + 1) _ (by omega) (by omega) (fun j hj => by cases hj; omega) (by rw [hv, (ti_pm_n1 (fun j hj => by have := ho j hj; omega)).mp c26, ti_jm, if_pos ⟨c21, rfl⟩, show xf.1 - (k + 1) = m9 by omega]) (lv_sub hl [2, 3, 4, 1, 0] rfl)
          · skip
            obtain ⟨f9, rfl⟩ : ∃ f9, oo = some f9 := by
              cases oo with
              | none => exact absurd rfl c26
              | some f9 => exact ⟨f9, rfl⟩
            have hf9 := ho f9 rfl
            have hl : lv_has ls 5 [(0, .ref (ad 0)), (1, .int (nI a)), (2, .int (nI b)), (3, .int (nI f9)), (4, .int (nI k))] := hl
            refine lv_aload_n hx hb dX7_jumpFace_29 rfl (lv_at hl 0 rfl) ?_
            refine lv_iload hx hb dX7_jumpFace_30 (lv_at hl 4 rfl) ?_
            refine lv_iload_n hx hb dX7_jumpFace_32 rfl (lv_at hl 1 rfl) ?_
            refine lv_iload_n hx hb dX7_jumpFace_33 rfl (lv_at hl 2 rfl) ?_
            have hw34 : ti_wt (xf.2.1 k, xf.2.2.1 k, xf.2.2.2 k) a b ≤ 180 := ti_wt_le (hxf.2.1 k) (hxf.2.2.1 k) ha9 hb9
            refine ti_pVa (As := [.int (nI k), .int (nI a), .int (nI b)]) (rest := []) (v := .int (nI (ti_wt (xf.2.1 k, xf.2.2.1 k, xf.2.2.2 k) a b))) S hE hP (met_X7_heavy l D E ad xg xd xt xf xj xh xs xv xb xq xk hxf k (by omega) a b ha9 hb9) (lw_V q1387 q1389 qs48 q73 q1390) 3 rfl 0 rfl rfl (by decide +kernel) ⟨Nat.le_of_ble_eq_true rfl, Nat.le_of_ble_eq_true rfl⟩ hl.1 rfl (Nat.le_of_ble_eq_true rfl) ⟨Nat.le_refl _, Nat.le_refl _⟩ dX7_jumpFace_34 ?_
            refine lv_aload_n hx hb dX7_jumpFace_37 rfl (lv_at hl 0 rfl) ?_
            refine va_get (v := .ref (ad 12)) hx hb hts in_X7 hown hK hP 0 rfl rfl 15 (by decide) (hts _ q1103) (fun _ h => h) rfl dX7_jumpFace_38 ?_
            refine lv_iload_n hx hb dX7_jumpFace_41 rfl (lv_at hl 3 rfl) ?_
            refine tn_iald (f := xf.2.2.2) hx hb hK hP 12 0 rfl rfl (by omega) (by decide) dX7_jumpFace_42 ?_
            have b42 := hxf.2.2.2 f9
            refine tn_mul hx hb dX7_jumpFace_43 ?_
            have b43 : (ti_wt (xf.2.1 k, xf.2.2.1 k, xf.2.2.2 k) a b) * (xf.2.2.2 f9) ≤ 180000 := Nat.mul_le_mul hw34 b42
            refine lv_aload_n hx hb dX7_jumpFace_44 rfl (lv_at hl 0 rfl) ?_
            refine lv_iload_n hx hb dX7_jumpFace_45 rfl (lv_at hl 3 rfl) ?_
            refine lv_iload_n hx hb dX7_jumpFace_46 rfl (lv_at hl 1 rfl) ?_
            refine lv_iload_n hx hb dX7_jumpFace_47 rfl (lv_at hl 2 rfl) ?_
            have hw48 : ti_wt (xf.2.1 f9, xf.2.2.1 f9, xf.2.2.2 f9) a b ≤ 180 := ti_wt_le (hxf.2.1 f9) (hxf.2.2.1 f9) ha9 hb9
            refine ti_pVa (As := [.int (nI f9), .int (nI a), .int (nI b)]) (rest := [.int (nI ((ti_wt (xf.2.1 k, xf.2.2.1 k, xf.2.2.2 k) a b) * (xf.2.2.2 f9)))]) (v := .int (nI (ti_wt (xf.2.1 f9, xf.2.2.1 f9, xf.2.2.2 f9) a b))) S hE hP (met_X7_heavy l D E ad xg xd xt xf xj xh xs xv xb xq xk hxf f9 (by omega) a b ha9 hb9) (lw_V q1387 q1389 qs48 q73 q1390) 3 rfl 0 rfl rfl (by decide +kernel) ⟨Nat.le_of_ble_eq_true rfl, Nat.le_of_ble_eq_true rfl⟩ hl.1 rfl (Nat.le_of_ble_eq_true rfl) ⟨Nat.le_refl _, Nat.le_refl _⟩ dX7_jumpFace_48 ?_
            refine lv_aload_n hx hb dX7_jumpFace_51 rfl (lv_at hl 0 rfl) ?_
            refine va_get (v := .ref (ad 12)) hx hb hts in_X7 hown hK hP 0 rfl rfl 15 (by decide) (hts _ q1103) (fun _ h => h) rfl dX7_jumpFace_52 ?_
            refine lv_iload hx hb dX7_jumpFace_55 (lv_at hl 4 rfl) ?_
            refine tn_iald (f := xf.2.2.2) hx hb hK hP 12 0 rfl rfl (by omega) (by decide) dX7_jumpFace_57 ?_
            have b57 := hxf.2.2.2 k
            refine tn_mul hx hb dX7_jumpFace_58 ?_
            have b58 : (ti_wt (xf.2.1 f9, xf.2.2.1 f9, xf.2.2.2 f9) a b) * (xf.2.2.2 k) ≤ 180000 := Nat.mul_le_mul hw48 b57
            refine tn_ge (tgt := 65) hx hb dX7_jumpFace_59 (by decide) (by omega) (by omega) (fun c59 => ?_) (fun c59 => ?_)
            · skip
              refine lv_iinc (v := nI (k + 1)) (lv' := [(4, .int (nI (k + 1))), (0, .ref (ad 0)), (1, .int (nI a)), (2, .int (nI b)), (3, .int (nI f9))]) hx hb dX7_jumpFace_65 hl (k := 4) rfl (nI_1 k) (by decide) rfl (fun ls hl => ?_)
              refine lv_goto (tgt := 5) hx hb dX7_jumpFace_68 (by decide) ?_
              exact ih5 (some f9) (k + 1) _ (by omega) (by omega) (fun j hj => by cases hj; omega) (by rw [hv, ti_jm, if_neg (fun z => absurd (of_decide_eq_true z.2) (by omega)), show xf.1 - (k + 1) = m9 by omega]) (lv_sub hl [1, 2, 3, 4, 0] rfl)
            · skip
              refine lv_iload hx hb dX7_jumpFace_62 (lv_at hl 4 rfl) ?_
              refine lv_istore_n (lv' := [(3, .int (nI k)), (0, .ref (ad 0)), (1, .int (nI a)), (2, .int (nI b)), (4, .int (nI k))]) hx hb dX7_jumpFace_64 rfl hl (by decide) rfl (fun ls hl => ?_)
              refine lv_iinc (v := nI (k + 1)) (lv' := [(4, .int (nI (k + 1))), (3, .int (nI k)), (0, .ref (ad 0)), (1, .int (nI a)), (2, .int (nI b))]) hx hb dX7_jumpFace_65 hl (k := 4) rfl (nI_1 k) (by decide) rfl (fun ls hl => ?_)
              refine lv_goto (tgt := 5) hx hb dX7_jumpFace_68 (by decide) ?_
              exact ih5 (some k) (k + 1) _ (by omega) (by omega) (fun j hj => by cases hj; omega) (by rw [hv, ti_jm, if_pos ⟨c21, decide_eq_true c59⟩, show xf.1 - (k + 1) = m9 by omega]) (lv_sub hl [2, 3, 4, 1, 0] rfl)
  exact L5 _ none 0 _ (Nat.lt_succ_self _) (by omega) (fun j hj => by cases hj) (rfl) (lv_sub hl [2, 3, 4, 1, 0] rfl)

theorem met_X7_part0 (l : Launch) (D : va_G) (E : Nat → ClassId) (up low : Nat) (hup : up < 2 ^ 63) (hlow : low < 2 ^ 63) (hl0 : 0 < low) : ti_MetP l D E yX7_part cX7_part 7 (some .long) 1 [] [.long (lN up), .long (lN low), .int (nI 0)] (some (.long (lN (up / Nat.gcd up low)))) := by
  have h := met_X7_part l D E up low hup hlow hl0 (nI 0)
  rw [if_pos (by decide)] at h
  exact h
theorem met_X7_part1 (l : Launch) (D : va_G) (E : Nat → ClassId) (up low : Nat) (hup : up < 2 ^ 63) (hlow : low < 2 ^ 63) (hl0 : 0 < low) : ti_MetP l D E yX7_part cX7_part 7 (some .long) 1 [] [.long (lN up), .long (lN low), .int (nI 1)] (some (.long (lN (low / Nat.gcd up low)))) := by
  have h := met_X7_part l D E up low hup hlow hl0 (nI 1)
  rw [if_neg (by decide)] at h
  exact h

set_option maxHeartbeats 1000000 in
theorem met_X7_comesJump (l : Launch) (D : va_G) (E : Nat → ClassId) (ad : Nat → Nat) (xg : ti_Mg) (xd : ti_Md) (xt : ti_Mt) (xf : ti_Mf) (xj : ti_Mj) (xh : ti_Mh) (xs : ti_Ms) (xv : ti_Mv) (xb : ti_Mb) (xq : ti_Mq) (xk : ti_Mk) (hxj : ti_Mjok xj) (tp un : Nat) (htp : tp ≤ 1000) (hun : un ≤ 1000) (hj99 : xj.1 < 100) : ti_MetM (σ := ti_Mj) l D E yX7_comesJump cX7_comesJump 5 none 0 0 0 (ti_wM E ad xg xd xt xf xj xh xs xv xb xq xk) [.ref (ad 0), .int (nI tp), .int (nI un)] (fun u => ti_wM E ad xg xd xt xf u xh xs xv xb xq xk) (fun _ => none) (fun u => ti_gr u.2.1 u.2.2 0 u.1 = ti_mi (tp, un) (ti_gr xj.2.1 xj.2.2 0 xj.1) ∧ ti_Mjok u ∧ u.1 ≤ xj.1 + 1) := by
  refine ti_mutV (σ := ti_Mj) (by decide) (Nat.le_of_ble_eq_true rfl) ?_
  intro p e s m below meth c H H0 A Q ls S hE hP hD hS hA hinit hl hret
  have hx := S.1
  have hb := S.2.1
  have hown := S.2.2.2.1
  have hts := S.2.2.2.2
  have hK := hE.1
  have hl : lv_has ls 5 [(0, .ref (ad 0)), (1, .int (nI tp)), (2, .int (nI un))] := hl
  refine lv_iconst (v := nI 0) hx hb dX7_comesJump_0 (by decide) ?_
  refine lv_istore_n (lv' := [(3, .int (nI 0)), (0, .ref (ad 0)), (1, .int (nI tp)), (2, .int (nI un))]) hx hb dX7_comesJump_1 rfl hl (by decide) rfl (fun ls hl => ?_)
  have L2 : ∀ (N : Nat) (q : Nat) (ls : Array Slot) (H : Heap) (locs : List Loc), va_P D vwCl (ti_wM E ad xg xd xt xf xj xh xs xv xb xq xk) H → va_D A (ti_wM E ad xg xd xt xf xj xh xs xv xb xq xk) → va_S A H0 H locs → (xj.1 - q) < N → (q ≤ xj.1) → (ti_mi (tp, un) (ti_gr xj.2.1 xj.2.2 0 xj.1) = (ti_gr xj.2.1 xj.2.2 0 xj.1).take q ++ ti_mi (tp, un) (ti_gr xj.2.1 xj.2.2 q (xj.1 - q))) → lv_has ls 5 [(0, .ref (ad 0)), (1, .int (nI tp)), (2, .int (nI un)), (3, .int (nI q))] → W p l e (ti_rm 0 0 0) s m ([.ref (ad 0), .int (nI tp), .int (nI un)] : List Value).toArray below meth c H locs 0 0 Q (F0 m 2 ls []) := by
    intro N
    induction N with
    | zero => intro q ls H locs hP hD hS h0; exact absurd h0 (Nat.not_lt_zero _)
    | succ N ih2 =>
      intro q ls H locs hP hD hS hN hqn hv hl
      refine lv_iload_n hx hb dX7_comesJump_2 rfl (lv_at hl 3 rfl) ?_
      refine lv_aload_n hx hb dX7_comesJump_3 rfl (lv_at hl 0 rfl) ?_
      refine va_get (v := .int (nI xj.1)) hx hb hts in_X7 hown hK hP 0 rfl rfl 16 (by decide) (hts _ q1104) (fun _ h => h) rfl dX7_comesJump_4 ?_
      refine tn_ge (tgt := 35) hx hb dX7_comesJump_7 (by decide) (by omega) (by omega) (fun c7 => ?_) (fun c7 => ?_)
      · skip
        have hv2 : ti_mi (tp, un) (ti_gr xj.2.1 xj.2.2 0 xj.1) = (ti_gr xj.2.1 xj.2.2 0 xj.1).take q ++ (tp, un) :: (ti_gr xj.2.1 xj.2.2 0 xj.1).drop q := by rw [hv, ti_gr_drop hqn, show xj.1 - q = 0 by omega]; rfl
        refine lv_iload_n hx hb dX7_comesJump_35 rfl (lv_at hl 3 rfl) ?_
        refine lv_aload_n hx hb dX7_comesJump_36 rfl (lv_at hl 0 rfl) ?_
        refine va_get (v := .int (nI xj.1)) hx hb hts in_X7 hown hK hP 0 rfl rfl 16 (by decide) (hts _ q1104) (fun _ h => h) rfl dX7_comesJump_37 ?_
        refine tn_ge (tgt := 64) hx hb dX7_comesJump_40 (by decide) (by omega) (by omega) (fun c40 => ?_) (fun c40 => ?_)
        · skip
          refine lv_aload_n hx hb dX7_comesJump_64 rfl (lv_at hl 0 rfl) ?_
          refine va_get (v := .int (nI xj.1)) hx hb hts in_X7 hown hK hP 0 rfl rfl 16 (by decide) (hts _ q1104) (fun _ h => h) rfl dX7_comesJump_65 ?_
          refine lv_istore (lv' := [(4, .int (nI xj.1)), (0, .ref (ad 0)), (1, .int (nI tp)), (2, .int (nI un)), (3, .int (nI q))]) hx hb dX7_comesJump_68 hl (by decide) rfl (fun ls hl => ?_)
          have L70 : ∀ (N : Nat) (z : Nat) (g1 g2 : Nat → Nat) (ls : Array Slot) (H : Heap) (locs : List Loc), va_P D vwCl (ti_wM E ad xg xd xt xf (xj.1, g1, g2) xh xs xv xb xq xk) H → va_D A (ti_wM E ad xg xd xt xf (xj.1, g1, g2) xh xs xv xb xq xk) → va_S A H0 H locs → z < N → (q ≤ z) → (z ≤ xj.1) → (g1 = ti_ri z xj.1 xj.2.1) → (g2 = ti_ri z xj.1 xj.2.2) → (∀ j, g1 j ≤ 1000) → (∀ j, g2 j ≤ 1000) → lv_has ls 5 [(0, .ref (ad 0)), (1, .int (nI tp)), (2, .int (nI un)), (3, .int (nI q)), (4, .int (nI z))] → W p l e (ti_rm 0 0 0) s m ([.ref (ad 0), .int (nI tp), .int (nI un)] : List Value).toArray below meth c H locs 0 0 Q (F0 m 70 ls []) := by
            intro N
            induction N with
            | zero => intro z g1 g2 ls H locs hP hD hS h0; exact absurd h0 (Nat.not_lt_zero _)
            | succ N ih70 =>
              intro z g1 g2 ls H locs hP hD hS hN hqz hzn e1 e2 hg1 hg2 hl
              refine lv_iload hx hb dX7_comesJump_70 (lv_at hl 4 rfl) ?_
              refine lv_iload_n hx hb dX7_comesJump_72 rfl (lv_at hl 3 rfl) ?_
              refine tn_le (tgt := 114) hx hb dX7_comesJump_73 (by decide) (by omega) (by omega) (fun c73 => ?_) (fun c73 => ?_)
              · skip
                obtain rfl : q = z := by omega
                refine lv_aload_n hx hb dX7_comesJump_114 rfl (lv_at hl 0 rfl) ?_
                refine va_get (v := .ref (ad 13)) hx hb hts in_X7 hown hK hP 0 rfl rfl 17 (by decide) (hts _ q1105) (fun _ h => h) rfl dX7_comesJump_115 ?_
                refine lv_iload_n hx hb dX7_comesJump_118 rfl (lv_at hl 3 rfl) ?_
                refine lv_iload_n hx hb dX7_comesJump_119 rfl (lv_at hl 1 rfl) ?_
                refine tn_iast (f := g1) hx hb hK hP hD hS 13 0 rfl rfl (by omega) (by decide) dX7_comesJump_120 (fun H locs hP hD hS => ?_)
                have hP : va_P D vwCl (ti_wM E ad xg xd xt xf (xj.1, va_up g1 q tp, g2) xh xs xv xb xq xk) H := hP
                have hD : va_D A (ti_wM E ad xg xd xt xf (xj.1, va_up g1 q tp, g2) xh xs xv xb xq xk) := hD
                refine lv_aload_n hx hb dX7_comesJump_121 rfl (lv_at hl 0 rfl) ?_
                refine va_get (v := .ref (ad 14)) hx hb hts in_X7 hown hK hP 0 rfl rfl 18 (by decide) (hts _ q1106) (fun _ h => h) rfl dX7_comesJump_122 ?_
                refine lv_iload_n hx hb dX7_comesJump_125 rfl (lv_at hl 3 rfl) ?_
                refine lv_iload_n hx hb dX7_comesJump_126 rfl (lv_at hl 2 rfl) ?_
                refine tn_iast (f := g2) hx hb hK hP hD hS 14 0 rfl rfl (by omega) (by decide) dX7_comesJump_127 (fun H locs hP hD hS => ?_)
                have hP : va_P D vwCl (ti_wM E ad xg xd xt xf (xj.1, va_up g1 q tp, va_up g2 q un) xh xs xv xb xq xk) H := hP
                have hD : va_D A (ti_wM E ad xg xd xt xf (xj.1, va_up g1 q tp, va_up g2 q un) xh xs xv xb xq xk) := hD
                refine lv_aload_n hx hb dX7_comesJump_128 rfl (lv_at hl 0 rfl) ?_
                refine lv_dup hx hb dX7_comesJump_129 rfl ?_
                refine va_get (v := .int (nI xj.1)) hx hb hts in_X7 hown hK hP 0 rfl rfl 16 (by decide) (hts _ q1104) (fun _ h => h) rfl dX7_comesJump_130 ?_
                refine lv_iconst (v := nI 1) hx hb dX7_comesJump_133 (by decide) ?_
                refine tn_add hx hb dX7_comesJump_134 ?_
                refine va_put (ty := .int) hx hb hts in_X7 tyX7 tyX7_ok nmX7 hown hK hP hD hS 0 rfl rfl 16 (by decide) (hts _ q1104) (fun _ h => h) rfl rfl rfl rfl (Nat.le_of_ble_eq_true rfl) dX7_comesJump_135 (fun H locs hP hD hS => ?_)
                have hP : va_P D vwCl (ti_wM E ad xg xd xt xf (xj.1 + 1, va_up g1 q tp, va_up g2 q un) xh xs xv xb xq xk) H := hP
                have hD : va_D A (ti_wM E ad xg xd xt xf (xj.1 + 1, va_up g1 q tp, va_up g2 q un) xh xs xv xb xq xk) := hD
                exact hret (xj.1 + 1, va_up g1 q tp, va_up g2 q un) _ _ _ _ _ _ dX7_comesJump_138 (⟨by rw [hv2, e1, e2]; exact ti_gr_put hqn _ _ _ _, ⟨by dsimp only; omega, ti_up_le hg1 htp, ti_up_le hg2 hun⟩, Nat.le_refl _⟩) hP hS (Nat.le_refl _) (Nat.le_refl _)
              · skip
                refine lv_aload_n hx hb dX7_comesJump_76 rfl (lv_at hl 0 rfl) ?_
                refine va_get (v := .ref (ad 13)) hx hb hts in_X7 hown hK hP 0 rfl rfl 17 (by decide) (hts _ q1105) (fun _ h => h) rfl dX7_comesJump_77 ?_
                refine lv_iload hx hb dX7_comesJump_80 (lv_at hl 4 rfl) ?_
                refine lv_aload_n hx hb dX7_comesJump_82 rfl (lv_at hl 0 rfl) ?_
                refine va_get (v := .ref (ad 13)) hx hb hts in_X7 hown hK hP 0 rfl rfl 17 (by decide) (hts _ q1105) (fun _ h => h) rfl dX7_comesJump_83 ?_
                refine lv_iload hx hb dX7_comesJump_86 (lv_at hl 4 rfl) ?_
                refine lv_iconst (v := nI 1) hx hb dX7_comesJump_88 (by decide) ?_
                refine tn_sub hx hb dX7_comesJump_89 (by omega) ?_
                refine tn_iald (f := g1) hx hb hK hP 13 0 rfl rfl (by omega) (by decide) dX7_comesJump_90 ?_
                have b90 := hg1 (z - 1)
                refine tn_iast (f := g1) hx hb hK hP hD hS 13 0 rfl rfl (by omega) (by decide) dX7_comesJump_91 (fun H locs hP hD hS => ?_)
                have hP : va_P D vwCl (ti_wM E ad xg xd xt xf (xj.1, va_up g1 z (g1 (z - 1)), g2) xh xs xv xb xq xk) H := hP
                have hD : va_D A (ti_wM E ad xg xd xt xf (xj.1, va_up g1 z (g1 (z - 1)), g2) xh xs xv xb xq xk) := hD
                refine lv_aload_n hx hb dX7_comesJump_92 rfl (lv_at hl 0 rfl) ?_
                refine va_get (v := .ref (ad 14)) hx hb hts in_X7 hown hK hP 0 rfl rfl 18 (by decide) (hts _ q1106) (fun _ h => h) rfl dX7_comesJump_93 ?_
                refine lv_iload hx hb dX7_comesJump_96 (lv_at hl 4 rfl) ?_
                refine lv_aload_n hx hb dX7_comesJump_98 rfl (lv_at hl 0 rfl) ?_
                refine va_get (v := .ref (ad 14)) hx hb hts in_X7 hown hK hP 0 rfl rfl 18 (by decide) (hts _ q1106) (fun _ h => h) rfl dX7_comesJump_99 ?_
                refine lv_iload hx hb dX7_comesJump_102 (lv_at hl 4 rfl) ?_
                refine lv_iconst (v := nI 1) hx hb dX7_comesJump_104 (by decide) ?_
                refine tn_sub hx hb dX7_comesJump_105 (by omega) ?_
                refine tn_iald (f := g2) hx hb hK hP 14 0 rfl rfl (by omega) (by decide) dX7_comesJump_106 ?_
                have b106 := hg2 (z - 1)
                refine tn_iast (f := g2) hx hb hK hP hD hS 14 0 rfl rfl (by omega) (by decide) dX7_comesJump_107 (fun H locs hP hD hS => ?_)
                have hP : va_P D vwCl (ti_wM E ad xg xd xt xf (xj.1, va_up g1 z (g1 (z - 1)), va_up g2 z (g2 (z - 1))) xh xs xv xb xq xk) H := hP
                have hD : va_D A (ti_wM E ad xg xd xt xf (xj.1, va_up g1 z (g1 (z - 1)), va_up g2 z (g2 (z - 1))) xh xs xv xb xq xk) := hD
                refine lv_iinc (v := nI (z - 1)) (lv' := [(4, .int (nI (z - 1))), (0, .ref (ad 0)), (1, .int (nI tp)), (2, .int (nI un)), (3, .int (nI q))]) hx hb dX7_comesJump_108 hl (k := 4) rfl (sb_m1 (by omega)) (by decide) rfl (fun ls hl => ?_)
                refine lv_goto (tgt := 70) hx hb dX7_comesJump_111 (by decide) ?_
                exact ih70 (z - 1) (va_up g1 z (g1 (z - 1))) (va_up g2 z (g2 (z - 1))) _ _ _ hP hD hS (by omega) (by omega) (by omega) (by rw [e1]; exact ti_ri_up (by omega) hzn _) (by rw [e2]; exact ti_ri_up (by omega) hzn _) (ti_up_le hg1 (hg1 _)) (ti_up_le hg2 (hg2 _)) (lv_sub hl [1, 2, 3, 4, 0] rfl)
          exact L70 _ xj.1 xj.2.1 xj.2.2 _ _ _ hP hD hS (Nat.lt_succ_self _) (hqn) (by omega) (ti_ri_0 _ _).symm (ti_ri_0 _ _).symm (hxj.2.1) (hxj.2.2) (lv_sub hl [1, 2, 3, 4, 0] rfl)
        · skip
          exact absurd c7 (by omega)
      · skip
        obtain ⟨m9, hm9⟩ : ∃ m9, xj.1 - q = m9 + 1 := ⟨xj.1 - q - 1, by omega⟩
        obtain ⟨ht1, ht2⟩ := ti_take_s (show (ti_gr xj.2.1 xj.2.2 0 xj.1)[q]? = some (xj.2.1 q, xj.2.2 q) by rw [ti_gr_at (by omega), Nat.zero_add])
        refine lv_aload_n hx hb dX7_comesJump_10 rfl (lv_at hl 0 rfl) ?_
        refine va_get (v := .ref (ad 13)) hx hb hts in_X7 hown hK hP 0 rfl rfl 17 (by decide) (hts _ q1105) (fun _ h => h) rfl dX7_comesJump_11 ?_
        refine lv_iload_n hx hb dX7_comesJump_14 rfl (lv_at hl 3 rfl) ?_
        refine tn_iald (f := xj.2.1) hx hb hK hP 13 0 rfl rfl (by omega) (by decide) dX7_comesJump_15 ?_
        have b15 := hxj.2.1 q
        refine lv_iload_n hx hb dX7_comesJump_16 rfl (lv_at hl 2 rfl) ?_
        refine tn_mul hx hb dX7_comesJump_17 ?_
        have b17 : (xj.2.1 q) * un ≤ 1000000 := Nat.mul_le_mul b15 hun
        refine lv_iload_n hx hb dX7_comesJump_18 rfl (lv_at hl 1 rfl) ?_
        refine lv_aload_n hx hb dX7_comesJump_19 rfl (lv_at hl 0 rfl) ?_
        refine va_get (v := .ref (ad 14)) hx hb hts in_X7 hown hK hP 0 rfl rfl 18 (by decide) (hts _ q1106) (fun _ h => h) rfl dX7_comesJump_20 ?_
        refine lv_iload_n hx hb dX7_comesJump_23 rfl (lv_at hl 3 rfl) ?_
        refine tn_iald (f := xj.2.2) hx hb hK hP 14 0 rfl rfl (by omega) (by decide) dX7_comesJump_24 ?_
        have b24 := hxj.2.2 q
        refine tn_mul hx hb dX7_comesJump_25 ?_
        have b25 : tp * (xj.2.2 q) ≤ 1000000 := Nat.mul_le_mul htp b24
        refine tn_ge (tgt := 35) hx hb dX7_comesJump_26 (by decide) (by omega) (by omega) (fun c26 => ?_) (fun c26 => ?_)
        · skip
          refine lv_iload_n hx hb dX7_comesJump_35 rfl (lv_at hl 3 rfl) ?_
          refine lv_aload_n hx hb dX7_comesJump_36 rfl (lv_at hl 0 rfl) ?_
          refine va_get (v := .int (nI xj.1)) hx hb hts in_X7 hown hK hP 0 rfl rfl 16 (by decide) (hts _ q1104) (fun _ h => h) rfl dX7_comesJump_37 ?_
          refine tn_ge (tgt := 64) hx hb dX7_comesJump_40 (by decide) (by omega) (by omega) (fun c40 => ?_) (fun c40 => ?_)
          · skip
            exact absurd c7 (by omega)
          · skip
            refine lv_aload_n hx hb dX7_comesJump_43 rfl (lv_at hl 0 rfl) ?_
            refine va_get (v := .ref (ad 13)) hx hb hts in_X7 hown hK hP 0 rfl rfl 17 (by decide) (hts _ q1105) (fun _ h => h) rfl dX7_comesJump_44 ?_
            refine lv_iload_n hx hb dX7_comesJump_47 rfl (lv_at hl 3 rfl) ?_
            refine tn_iald (f := xj.2.1) hx hb hK hP 13 0 rfl rfl (by omega) (by decide) dX7_comesJump_48 ?_
            have b48 := hxj.2.1 q
            refine lv_iload_n hx hb dX7_comesJump_49 rfl (lv_at hl 1 rfl) ?_
            refine tn_ne (tgt := 64) hx hb dX7_comesJump_50 (by decide) (by omega) (by omega) (fun c50 => ?_) (fun c50 => ?_)
            · skip
              have hv2 : ti_mi (tp, un) (ti_gr xj.2.1 xj.2.2 0 xj.1) = (ti_gr xj.2.1 xj.2.2 0 xj.1).take q ++ (tp, un) :: (ti_gr xj.2.1 xj.2.2 0 xj.1).drop q := by rw [hv, ti_gr_drop hqn, hm9, ti_gr_s, ti_mi, if_neg (by dsimp only; omega), if_neg (by dsimp only; exact fun z => c50 z.1)]
              refine lv_aload_n hx hb dX7_comesJump_64 rfl (lv_at hl 0 rfl) ?_
              refine va_get (v := .int (nI xj.1)) hx hb hts in_X7 hown hK hP 0 rfl rfl 16 (by decide) (hts _ q1104) (fun _ h => h) rfl dX7_comesJump_65 ?_
              refine lv_istore (lv' := [(4, .int (nI xj.1)), (0, .ref (ad 0)), (1, .int (nI tp)), (2, .int (nI un)), (3, .int (nI q))]) hx hb dX7_comesJump_68 hl (by decide) rfl (fun ls hl => ?_)
              have L70 : ∀ (N : Nat) (z : Nat) (g1 g2 : Nat → Nat) (ls : Array Slot) (H : Heap) (locs : List Loc), va_P D vwCl (ti_wM E ad xg xd xt xf (xj.1, g1, g2) xh xs xv xb xq xk) H → va_D A (ti_wM E ad xg xd xt xf (xj.1, g1, g2) xh xs xv xb xq xk) → va_S A H0 H locs → z < N → (q ≤ z) → (z ≤ xj.1) → (g1 = ti_ri z xj.1 xj.2.1) → (g2 = ti_ri z xj.1 xj.2.2) → (∀ j, g1 j ≤ 1000) → (∀ j, g2 j ≤ 1000) → lv_has ls 5 [(0, .ref (ad 0)), (1, .int (nI tp)), (2, .int (nI un)), (3, .int (nI q)), (4, .int (nI z))] → W p l e (ti_rm 0 0 0) s m ([.ref (ad 0), .int (nI tp), .int (nI un)] : List Value).toArray below meth c H locs 0 0 Q (F0 m 70 ls []) := by
                intro N
                induction N with
                | zero => intro z g1 g2 ls H locs hP hD hS h0; exact absurd h0 (Nat.not_lt_zero _)
                | succ N ih70 =>
                  intro z g1 g2 ls H locs hP hD hS hN hqz hzn e1 e2 hg1 hg2 hl
                  refine lv_iload hx hb dX7_comesJump_70 (lv_at hl 4 rfl) ?_
                  refine lv_iload_n hx hb dX7_comesJump_72 rfl (lv_at hl 3 rfl) ?_
                  refine tn_le (tgt := 114) hx hb dX7_comesJump_73 (by decide) (by omega) (by omega) (fun c73 => ?_) (fun c73 => ?_)
                  · skip
                    obtain rfl : q = z := by omega
                    refine lv_aload_n hx hb dX7_comesJump_114 rfl (lv_at hl 0 rfl) ?_
                    refine va_get (v := .ref (ad 13)) hx hb hts in_X7 hown hK hP 0 rfl rfl 17 (by decide) (hts _ q1105) (fun _ h => h) rfl dX7_comesJump_115 ?_
                    refine lv_iload_n hx hb dX7_comesJump_118 rfl (lv_at hl 3 rfl) ?_
                    refine lv_iload_n hx hb dX7_comesJump_119 rfl (lv_at hl 1 rfl) ?_
                    refine tn_iast (f := g1) hx hb hK hP hD hS 13 0 rfl rfl (by omega) (by decide) dX7_comesJump_120 (fun H locs hP hD hS => ?_)
                    have hP : va_P D vwCl (ti_wM E ad xg xd xt xf (xj.1, va_up g1 q tp, g2) xh xs xv xb xq xk) H := hP
                    have hD : va_D A (ti_wM E ad xg xd xt xf (xj.1, va_up g1 q tp, g2) xh xs xv xb xq xk) := hD
                    refine lv_aload_n hx hb dX7_comesJump_121 rfl (lv_at hl 0 rfl) ?_
                    refine va_get (v := .ref (ad 14)) hx hb hts in_X7 hown hK hP 0 rfl rfl 18 (by decide) (hts _ q1106) (fun _ h => h) rfl dX7_comesJump_122 ?_
                    refine lv_iload_n hx hb dX7_comesJump_125 rfl (lv_at hl 3 rfl) ?_
                    refine lv_iload_n hx hb dX7_comesJump_126 rfl (lv_at hl 2 rfl) ?_
                    refine tn_iast (f := g2) hx hb hK hP hD hS 14 0 rfl rfl (by omega) (by decide) dX7_comesJump_127 (fun H locs hP hD hS => ?_)
                    have hP : va_P D vwCl (ti_wM E ad xg xd xt xf (xj.1, va_up g1 q tp, va_up g2 q un) xh xs xv xb xq xk) H := hP
                    have hD : va_D A (ti_wM E ad xg xd xt xf (xj.1, va_up g1 q tp, va_up g2 q un) xh xs xv xb xq xk) := hD
                    refine lv_aload_n hx hb dX7_comesJump_128 rfl (lv_at hl 0 rfl) ?_
                    refine lv_dup hx hb dX7_comesJump_129 rfl ?_
                    refine va_get (v := .int (nI xj.1)) hx hb hts in_X7 hown hK hP 0 rfl rfl 16 (by decide) (hts _ q1104) (fun _ h => h) rfl dX7_comesJump_130 ?_
                    refine lv_iconst (v := nI 1) hx hb dX7_comesJump_133 (by decide) ?_
                    refine tn_add hx hb dX7_comesJump_134 ?_
                    refine va_put (ty := .int) hx hb hts in_X7 tyX7 tyX7_ok nmX7 hown hK hP hD hS 0 rfl rfl 16 (by decide) (hts _ q1104) (fun _ h => h) rfl rfl rfl rfl (Nat.le_of_ble_eq_true rfl) dX7_comesJump_135 (fun H locs hP hD hS => ?_)
                    have hP : va_P D vwCl (ti_wM E ad xg xd xt xf (xj.1 + 1, va_up g1 q tp, va_up g2 q un) xh xs xv xb xq xk) H := hP
                    have hD : va_D A (ti_wM E ad xg xd xt xf (xj.1 + 1, va_up g1 q tp, va_up g2 q un) xh xs xv xb xq xk) := hD
                    exact hret (xj.1 + 1, va_up g1 q tp, va_up g2 q un) _ _ _ _ _ _ dX7_comesJump_138 (⟨by rw [hv2, e1, e2]; exact ti_gr_put hqn _ _ _ _, ⟨by dsimp only; omega, ti_up_le hg1 htp, ti_up_le hg2 hun⟩, Nat.le_refl _⟩) hP hS (Nat.le_refl _) (Nat.le_refl _)
                  · skip
                    refine lv_aload_n hx hb dX7_comesJump_76 rfl (lv_at hl 0 rfl) ?_
                    refine va_get (v := .ref (ad 13)) hx hb hts in_X7 hown hK hP 0 rfl rfl 17 (by decide) (hts _ q1105) (fun _ h => h) rfl dX7_comesJump_77 ?_
                    refine lv_iload hx hb dX7_comesJump_80 (lv_at hl 4 rfl) ?_
                    refine lv_aload_n hx hb dX7_comesJump_82 rfl (lv_at hl 0 rfl) ?_
                    refine va_get (v := .ref (ad 13)) hx hb hts in_X7 hown hK hP 0 rfl rfl 17 (by decide) (hts _ q1105) (fun _ h => h) rfl dX7_comesJump_83 ?_
                    refine lv_iload hx hb dX7_comesJump_86 (lv_at hl 4 rfl) ?_
                    refine lv_iconst (v := nI 1) hx hb dX7_comesJump_88 (by decide) ?_
                    refine tn_sub hx hb dX7_comesJump_89 (by omega) ?_
                    refine tn_iald (f := g1) hx hb hK hP 13 0 rfl rfl (by omega) (by decide) dX7_comesJump_90 ?_
                    have b90 := hg1 (z - 1)
                    refine tn_iast (f := g1) hx hb hK hP hD hS 13 0 rfl rfl (by omega) (by decide) dX7_comesJump_91 (fun H locs hP hD hS => ?_)
                    have hP : va_P D vwCl (ti_wM E ad xg xd xt xf (xj.1, va_up g1 z (g1 (z - 1)), g2) xh xs xv xb xq xk) H := hP
                    have hD : va_D A (ti_wM E ad xg xd xt xf (xj.1, va_up g1 z (g1 (z - 1)), g2) xh xs xv xb xq xk) := hD
                    refine lv_aload_n hx hb dX7_comesJump_92 rfl (lv_at hl 0 rfl) ?_
                    refine va_get (v := .ref (ad 14)) hx hb hts in_X7 hown hK hP 0 rfl rfl 18 (by decide) (hts _ q1106) (fun _ h => h) rfl dX7_comesJump_93 ?_
                    refine lv_iload hx hb dX7_comesJump_96 (lv_at hl 4 rfl) ?_
                    refine lv_aload_n hx hb dX7_comesJump_98 rfl (lv_at hl 0 rfl) ?_
                    refine va_get (v := .ref (ad 14)) hx hb hts in_X7 hown hK hP 0 rfl rfl 18 (by decide) (hts _ q1106) (fun _ h => h) rfl dX7_comesJump_99 ?_
                    refine lv_iload hx hb dX7_comesJump_102 (lv_at hl 4 rfl) ?_
                    refine lv_iconst (v := nI 1) hx hb dX7_comesJump_104 (by decide) ?_
                    refine tn_sub hx hb dX7_comesJump_105 (by omega) ?_
                    refine tn_iald (f := g2) hx hb hK hP 14 0 rfl rfl (by omega) (by decide) dX7_comesJump_106 ?_
                    have b106 := hg2 (z - 1)
                    refine tn_iast (f := g2) hx hb hK hP hD hS 14 0 rfl rfl (by omega) (by decide) dX7_comesJump_107 (fun H locs hP hD hS => ?_)
                    have hP : va_P D vwCl (ti_wM E ad xg xd xt xf (xj.1, va_up g1 z (g1 (z - 1)), va_up g2 z (g2 (z - 1))) xh xs xv xb xq xk) H := hP
                    have hD : va_D A (ti_wM E ad xg xd xt xf (xj.1, va_up g1 z (g1 (z - 1)), va_up g2 z (g2 (z - 1))) xh xs xv xb xq xk) := hD
                    refine lv_iinc (v := nI (z - 1)) (lv' := [(4, .int (nI (z - 1))), (0, .ref (ad 0)), (1, .int (nI tp)), (2, .int (nI un)), (3, .int (nI q))]) hx hb dX7_comesJump_108 hl (k := 4) rfl (sb_m1 (by omega)) (by decide) rfl (fun ls hl => ?_)
                    refine lv_goto (tgt := 70) hx hb dX7_comesJump_111 (by decide) ?_
                    exact ih70 (z - 1) (va_up g1 z (g1 (z - 1))) (va_up g2 z (g2 (z - 1))) _ _ _ hP hD hS (by omega) (by omega) (by omega) (by rw [e1]; exact ti_ri_up (by omega) hzn _) (by rw [e2]; exact ti_ri_up (by omega) hzn _) (ti_up_le hg1 (hg1 _)) (ti_up_le hg2 (hg2 _)) (lv_sub hl [1, 2, 3, 4, 0] rfl)
              exact L70 _ xj.1 xj.2.1 xj.2.2 _ _ _ hP hD hS (Nat.lt_succ_self _) (hqn) (by omega) (ti_ri_0 _ _).symm (ti_ri_0 _ _).symm (hxj.2.1) (hxj.2.2) (lv_sub hl [1, 2, 3, 4, 0] rfl)
            · skip
              refine lv_aload_n hx hb dX7_comesJump_53 rfl (lv_at hl 0 rfl) ?_
              refine va_get (v := .ref (ad 14)) hx hb hts in_X7 hown hK hP 0 rfl rfl 18 (by decide) (hts _ q1106) (fun _ h => h) rfl dX7_comesJump_54 ?_
              refine lv_iload_n hx hb dX7_comesJump_57 rfl (lv_at hl 3 rfl) ?_
              refine tn_iald (f := xj.2.2) hx hb hK hP 14 0 rfl rfl (by omega) (by decide) dX7_comesJump_58 ?_
              have b58 := hxj.2.2 q
              refine lv_iload_n hx hb dX7_comesJump_59 rfl (lv_at hl 2 rfl) ?_
              refine tn_ne (tgt := 64) hx hb dX7_comesJump_60 (by decide) (by omega) (by omega) (fun c60 => ?_) (fun c60 => ?_)
              · skip
                have hv2 : ti_mi (tp, un) (ti_gr xj.2.1 xj.2.2 0 xj.1) = (ti_gr xj.2.1 xj.2.2 0 xj.1).take q ++ (tp, un) :: (ti_gr xj.2.1 xj.2.2 0 xj.1).drop q := by rw [hv, ti_gr_drop hqn, hm9, ti_gr_s, ti_mi, if_neg (by dsimp only; omega), if_neg (by dsimp only; exact fun z => c60 z.2)]
                refine lv_aload_n hx hb dX7_comesJump_64 rfl (lv_at hl 0 rfl) ?_
                refine va_get (v := .int (nI xj.1)) hx hb hts in_X7 hown hK hP 0 rfl rfl 16 (by decide) (hts _ q1104) (fun _ h => h) rfl dX7_comesJump_65 ?_
                refine lv_istore (lv' := [(4, .int (nI xj.1)), (0, .ref (ad 0)), (1, .int (nI tp)), (2, .int (nI un)), (3, .int (nI q))]) hx hb dX7_comesJump_68 hl (by decide) rfl (fun ls hl => ?_)
                have L70 : ∀ (N : Nat) (z : Nat) (g1 g2 : Nat → Nat) (ls : Array Slot) (H : Heap) (locs : List Loc), va_P D vwCl (ti_wM E ad xg xd xt xf (xj.1, g1, g2) xh xs xv xb xq xk) H → va_D A (ti_wM E ad xg xd xt xf (xj.1, g1, g2) xh xs xv xb xq xk) → va_S A H0 H locs → z < N → (q ≤ z) → (z ≤ xj.1) → (g1 = ti_ri z xj.1 xj.2.1) → (g2 = ti_ri z xj.1 xj.2.2) → (∀ j, g1 j ≤ 1000) → (∀ j, g2 j ≤ 1000) → lv_has ls 5 [(0, .ref (ad 0)), (1, .int (nI tp)), (2, .int (nI un)), (3, .int (nI q)), (4, .int (nI z))] → W p l e (ti_rm 0 0 0) s m ([.ref (ad 0), .int (nI tp), .int (nI un)] : List Value).toArray below meth c H locs 0 0 Q (F0 m 70 ls []) := by
                  intro N
                  induction N with
                  | zero => intro z g1 g2 ls H locs hP hD hS h0; exact absurd h0 (Nat.not_lt_zero _)
                  | succ N ih70 =>
                    intro z g1 g2 ls H locs hP hD hS hN hqz hzn e1 e2 hg1 hg2 hl
                    refine lv_iload hx hb dX7_comesJump_70 (lv_at hl 4 rfl) ?_
                    refine lv_iload_n hx hb dX7_comesJump_72 rfl (lv_at hl 3 rfl) ?_
                    refine tn_le (tgt := 114) hx hb dX7_comesJump_73 (by decide) (by omega) (by omega) (fun c73 => ?_) (fun c73 => ?_)
                    · skip
                      obtain rfl : q = z := by omega
                      refine lv_aload_n hx hb dX7_comesJump_114 rfl (lv_at hl 0 rfl) ?_
                      refine va_get (v := .ref (ad 13)) hx hb hts in_X7 hown hK hP 0 rfl rfl 17 (by decide) (hts _ q1105) (fun _ h => h) rfl dX7_comesJump_115 ?_
                      refine lv_iload_n hx hb dX7_comesJump_118 rfl (lv_at hl 3 rfl) ?_
                      refine lv_iload_n hx hb dX7_comesJump_119 rfl (lv_at hl 1 rfl) ?_
                      refine tn_iast (f := g1) hx hb hK hP hD hS 13 0 rfl rfl (by omega) (by decide) dX7_comesJump_120 (fun H locs hP hD hS => ?_)
                      have hP : va_P D vwCl (ti_wM E ad xg xd xt xf (xj.1, va_up g1 q tp, g2) xh xs xv xb xq xk) H := hP
                      have hD : va_D A (ti_wM E ad xg xd xt xf (xj.1, va_up g1 q tp, g2) xh xs xv xb xq xk) := hD
                      refine lv_aload_n hx hb dX7_comesJump_121 rfl (lv_at hl 0 rfl) ?_
                      refine va_get (v := .ref (ad 14)) hx hb hts in_X7 hown hK hP 0 rfl rfl 18 (by decide) (hts _ q1106) (fun _ h => h) rfl dX7_comesJump_122 ?_
                      refine lv_iload_n hx hb dX7_comesJump_125 rfl (lv_at hl 3 rfl) ?_
                      refine lv_iload_n hx hb dX7_comesJump_126 rfl (lv_at hl 2 rfl) ?_
                      refine tn_iast (f := g2) hx hb hK hP hD hS 14 0 rfl rfl (by omega) (by decide) dX7_comesJump_127 (fun H locs hP hD hS => ?_)
                      have hP : va_P D vwCl (ti_wM E ad xg xd xt xf (xj.1, va_up g1 q tp, va_up g2 q un) xh xs xv xb xq xk) H := hP
                      have hD : va_D A (ti_wM E ad xg xd xt xf (xj.1, va_up g1 q tp, va_up g2 q un) xh xs xv xb xq xk) := hD
                      refine lv_aload_n hx hb dX7_comesJump_128 rfl (lv_at hl 0 rfl) ?_
                      refine lv_dup hx hb dX7_comesJump_129 rfl ?_
                      refine va_get (v := .int (nI xj.1)) hx hb hts in_X7 hown hK hP 0 rfl rfl 16 (by decide) (hts _ q1104) (fun _ h => h) rfl dX7_comesJump_130 ?_
                      refine lv_iconst (v := nI 1) hx hb dX7_comesJump_133 (by decide) ?_
                      refine tn_add hx hb dX7_comesJump_134 ?_
                      refine va_put (ty := .int) hx hb hts in_X7 tyX7 tyX7_ok nmX7 hown hK hP hD hS 0 rfl rfl 16 (by decide) (hts _ q1104) (fun _ h => h) rfl rfl rfl rfl (Nat.le_of_ble_eq_true rfl) dX7_comesJump_135 (fun H locs hP hD hS => ?_)
                      have hP : va_P D vwCl (ti_wM E ad xg xd xt xf (xj.1 + 1, va_up g1 q tp, va_up g2 q un) xh xs xv xb xq xk) H := hP
                      have hD : va_D A (ti_wM E ad xg xd xt xf (xj.1 + 1, va_up g1 q tp, va_up g2 q un) xh xs xv xb xq xk) := hD
                      exact hret (xj.1 + 1, va_up g1 q tp, va_up g2 q un) _ _ _ _ _ _ dX7_comesJump_138 (⟨by rw [hv2, e1, e2]; exact ti_gr_put hqn _ _ _ _, ⟨by dsimp only; omega, ti_up_le hg1 htp, ti_up_le hg2 hun⟩, Nat.le_refl _⟩) hP hS (Nat.le_refl _) (Nat.le_refl _)
                    · skip
                      refine lv_aload_n hx hb dX7_comesJump_76 rfl (lv_at hl 0 rfl) ?_
                      refine va_get (v := .ref (ad 13)) hx hb hts in_X7 hown hK hP 0 rfl rfl 17 (by decide) (hts _ q1105) (fun _ h => h) rfl dX7_comesJump_77 ?_
                      refine lv_iload hx hb dX7_comesJump_80 (lv_at hl 4 rfl) ?_
                      refine lv_aload_n hx hb dX7_comesJump_82 rfl (lv_at hl 0 rfl) ?_
                      refine va_get (v := .ref (ad 13)) hx hb hts in_X7 hown hK hP 0 rfl rfl 17 (by decide) (hts _ q1105) (fun _ h => h) rfl dX7_comesJump_83 ?_
                      refine lv_iload hx hb dX7_comesJump_86 (lv_at hl 4 rfl) ?_
                      refine lv_iconst (v := nI 1) hx hb dX7_comesJump_88 (by decide) ?_
                      refine tn_sub hx hb dX7_comesJump_89 (by omega) ?_
                      refine tn_iald (f := g1) hx hb hK hP 13 0 rfl rfl (by omega) (by decide) dX7_comesJump_90 ?_
                      have b90 := hg1 (z - 1)
                      refine tn_iast (f := g1) hx hb hK hP hD hS 13 0 rfl rfl (by omega) (by decide) dX7_comesJump_91 (fun H locs hP hD hS => ?_)
                      have hP : va_P D vwCl (ti_wM E ad xg xd xt xf (xj.1, va_up g1 z (g1 (z - 1)), g2) xh xs xv xb xq xk) H := hP
                      have hD : va_D A (ti_wM E ad xg xd xt xf (xj.1, va_up g1 z (g1 (z - 1)), g2) xh xs xv xb xq xk) := hD
                      refine lv_aload_n hx hb dX7_comesJump_92 rfl (lv_at hl 0 rfl) ?_
                      refine va_get (v := .ref (ad 14)) hx hb hts in_X7 hown hK hP 0 rfl rfl 18 (by decide) (hts _ q1106) (fun _ h => h) rfl dX7_comesJump_93 ?_
                      refine lv_iload hx hb dX7_comesJump_96 (lv_at hl 4 rfl) ?_
                      refine lv_aload_n hx hb dX7_comesJump_98 rfl (lv_at hl 0 rfl) ?_
                      refine va_get (v := .ref (ad 14)) hx hb hts in_X7 hown hK hP 0 rfl rfl 18 (by decide) (hts _ q1106) (fun _ h => h) rfl dX7_comesJump_99 ?_
                      refine lv_iload hx hb dX7_comesJump_102 (lv_at hl 4 rfl) ?_
                      refine lv_iconst (v := nI 1) hx hb dX7_comesJump_104 (by decide) ?_
                      refine tn_sub hx hb dX7_comesJump_105 (by omega) ?_
                      refine tn_iald (f := g2) hx hb hK hP 14 0 rfl rfl (by omega) (by decide) dX7_comesJump_106 ?_
                      have b106 := hg2 (z - 1)
                      refine tn_iast (f := g2) hx hb hK hP hD hS 14 0 rfl rfl (by omega) (by decide) dX7_comesJump_107 (fun H locs hP hD hS => ?_)
                      have hP : va_P D vwCl (ti_wM E ad xg xd xt xf (xj.1, va_up g1 z (g1 (z - 1)), va_up g2 z (g2 (z - 1))) xh xs xv xb xq xk) H := hP
                      have hD : va_D A (ti_wM E ad xg xd xt xf (xj.1, va_up g1 z (g1 (z - 1)), va_up g2 z (g2 (z - 1))) xh xs xv xb xq xk) := hD
                      refine lv_iinc (v := nI (z - 1)) (lv' := [(4, .int (nI (z - 1))), (0, .ref (ad 0)), (1, .int (nI tp)), (2, .int (nI un)), (3, .int (nI q))]) hx hb dX7_comesJump_108 hl (k := 4) rfl (sb_m1 (by omega)) (by decide) rfl (fun ls hl => ?_)
                      refine lv_goto (tgt := 70) hx hb dX7_comesJump_111 (by decide) ?_
                      exact ih70 (z - 1) (va_up g1 z (g1 (z - 1))) (va_up g2 z (g2 (z - 1))) _ _ _ hP hD hS (by omega) (by omega) (by omega) (by rw [e1]; exact ti_ri_up (by omega) hzn _) (by rw [e2]; exact ti_ri_up (by omega) hzn _) (ti_up_le hg1 (hg1 _)) (ti_up_le hg2 (hg2 _)) (lv_sub hl [1, 2, 3, 4, 0] rfl)
                exact L70 _ xj.1 xj.2.1 xj.2.2 _ _ _ hP hD hS (Nat.lt_succ_self _) (hqn) (by omega) (ti_ri_0 _ _).symm (ti_ri_0 _ _).symm (hxj.2.1) (hxj.2.2) (lv_sub hl [1, 2, 3, 4, 0] rfl)
              · skip
                exact hret xj _ _ _ _ _ _ dX7_comesJump_63 (⟨by rw [hv, hm9, ti_gr_s, ti_mi, if_neg (by dsimp only; omega), if_pos (by dsimp only; exact ⟨c50, c60⟩), ← ti_gr_s, ← hm9, ← ti_gr_drop hqn, List.take_append_drop], hxj, by omega⟩) hP hS (Nat.le_refl _) (Nat.le_refl _)
        · skip
          refine lv_iinc (v := nI (q + 1)) (lv' := [(3, .int (nI (q + 1))), (0, .ref (ad 0)), (1, .int (nI tp)), (2, .int (nI un))]) hx hb dX7_comesJump_29 hl (k := 3) rfl (nI_1 q) (by decide) rfl (fun ls hl => ?_)
          refine lv_goto (tgt := 2) hx hb dX7_comesJump_32 (by decide) ?_
          exact ih2 (q + 1) _ _ _ hP hD hS (by omega) (by omega) (by rw [hv, hm9, ti_gr_s, ti_mi, if_pos (by dsimp only; exact c26), ht1, List.append_assoc, List.singleton_append, show xj.1 - (q + 1) = m9 by omega]) (lv_sub hl [1, 2, 3, 0] rfl)
  exact L2 _ 0 _ _ _ hP hD hS (Nat.lt_succ_self _) (by omega) (rfl) (lv_sub hl [1, 2, 3, 0] rfl)
