/-! TermIdealsModel: public methods, second part (printed by w_model7.py) -/
set_option maxRecDepth 100000

set_option maxHeartbeats 1000000 in
theorem met_X7_merge (l : Launch) (D : va_G) (E : Nat → ClassId) (ad : Nat → Nat) (xg : ti_Mg) (xd : ti_Md) (xt : ti_Mt) (xf : ti_Mf) (xj : ti_Mj) (xh : ti_Mh) (xs : ti_Ms) (xv : ti_Mv) (xb : ti_Mb) (xq : ti_Mq) (xk : ti_Mk) (hxg : ti_Mgok xg) (I : Nat → ti_GL) (hI : ti_MI xg I) (hxd : ti_Mdok xd) (DD : ti_DL) (hDD : ti_mdl xd 0 xd.1 = DD) (hnd : ∀ i, i < 2 → (I i).Nodup) (v : Int32) : ti_MetM (σ := ti_Mg × ti_Md) l D E yX7_merge cX7_merge 5 (some .int) 4 0 0 (ti_wM E ad xg xd xt xf xj xh xs xv xb xq xk) [.ref (ad 0), .int v] (fun u => ti_wM E ad u.1 u.2 xt xf xj xh xs xv xb xq xk) (fun u => some (.int ((fun _ => (ti_Smerge I DD v).1) u))) (fun u => ti_MI u.1 (ti_Smerge I DD v).2.1 ∧ ti_mdl u.2 0 u.2.1 = (ti_Smerge I DD v).2.2 ∧ ti_Mgok u.1 ∧ ti_Mdok u.2) := by
  refine ti_mutI (σ := ti_Mg × ti_Md) (vi := fun _ => (ti_Smerge I DD v).1) (by decide) (Nat.le_of_ble_eq_true rfl) ?_
  intro p e s m below meth c H H0 A Q ls S hE hP hD hS hA hinit hl hret
  have hx := S.1
  have hb := S.2.1
  have hown := S.2.2.2.1
  have hts := S.2.2.2.2
  have hK := hE.1
  have hl : lv_has ls 5 [(0, .ref (ad 0)), (1, .int v)] := hl
  refine lv_iload_n hx hb dX7_merge_0 rfl (lv_at hl 1 rfl) ?_
  refine ti_pS (As := [.int v]) (rest := []) (v := .int (ti_b (ti_bt v))) S hE hP [] (met_X7_isIdeal l D E v) rfl (lw_S q1231 q1232 q73 q1233) 1 rfl (by decide +kernel) ⟨Nat.le_of_ble_eq_true rfl, Nat.le_of_ble_eq_true rfl⟩ hl.1 rfl (Nat.le_of_ble_eq_true rfl) ⟨Nat.le_refl _, Nat.le_refl _⟩ dX7_merge_1 ?_
  refine tb_ne (tgt := 9) hx hb dX7_merge_4 (by decide) (fun c4 => ?_) (fun c4 => ?_)
  · skip
    obtain ⟨i, hi2, rfl⟩ := ti_bt_nat c4
    have hci : ti_cl (nI i) = i := ti_cl_nI (by omega)
    have hg := hI i hi2
    have hlen := ti_MI_len hI hi2
    have h6 := hxg.1 i
    have hg2 := hI (1 - i) (by omega)
    have h7 := hxg.1 (1 - i)
    have hmr := ti_mrg_len (I (1 - i)) (I i) (hnd _ (by omega))
    refine lv_iconst (v := nI 1) hx hb dX7_merge_9 (by decide) ?_
    refine lv_iload_n hx hb dX7_merge_10 rfl (lv_at hl 1 rfl) ?_
    refine tn_sub hx hb dX7_merge_11 (by omega) ?_
    refine lv_istore_n (lv' := [(2, .int (nI (1 - i))), (0, .ref (ad 0)), (1, .int (nI i))]) hx hb dX7_merge_12 rfl hl (by decide) rfl (fun ls hl => ?_)
    refine lv_iconst (v := nI 0) hx hb dX7_merge_13 (by decide) ?_
    refine lv_istore_n (lv' := [(3, .int (nI 0)), (2, .int (nI (1 - i))), (0, .ref (ad 0)), (1, .int (nI i))]) hx hb dX7_merge_14 rfl hl (by decide) rfl (fun ls hl => ?_)
    refine lv_iconst (v := nI 0) hx hb dX7_merge_15 (by decide) ?_
    refine lv_istore (lv' := [(4, .int (nI 0)), (3, .int (nI 0)), (2, .int (nI (1 - i))), (0, .ref (ad 0)), (1, .int (nI i))]) hx hb dX7_merge_16 hl (by decide) rfl (fun ls hl => ?_)
    have L18 : ∀ (N : Nat) (z k : Nat) (ls : Array Slot) (H : Heap) (locs : List Loc), va_P D vwCl (ti_wM E ad xg xd xt xf xj xh xs xv xb xq xk) H → va_D A (ti_wM E ad xg xd xt xf xj xh xs xv xb xq xk) → va_S A H0 H locs → (xg.1 (1 - i) - k) < N → (k ≤ xg.1 (1 - i)) → (z ≤ k) → (ti_frs (I i) (I (1 - i)) 0 = ti_frs (I i) (ti_gr (ti_ma xg (1 - i)) (ti_mb xg (1 - i)) k (xg.1 (1 - i) - k)) z) → lv_has ls 5 [(0, .ref (ad 0)), (1, .int (nI i)), (2, .int (nI (1 - i))), (3, .int (nI z)), (4, .int (nI k))] → W p l e (ti_rm 4 0 0) s m ([.ref (ad 0), .int (nI i)] : List Value).toArray below meth c H locs 0 0 Q (F0 m 18 ls []) := by
      intro N
      induction N with
      | zero => intro z k ls H locs hP hD hS h0; exact absurd h0 (Nat.not_lt_zero _)
      | succ N ih18 =>
        intro z k ls H locs hP hD hS hN hkn hz hv hl
        refine lv_iload hx hb dX7_merge_18 (lv_at hl 4 rfl) ?_
        refine lv_aload_n hx hb dX7_merge_20 rfl (lv_at hl 0 rfl) ?_
        refine va_get (v := .ref (ad 1)) hx hb hts in_X7 hown hK hP 0 rfl rfl 0 (by decide) (hts _ q1088) (fun _ h => h) rfl dX7_merge_21 ?_
        refine lv_iload_n hx hb dX7_merge_24 rfl (lv_at hl 2 rfl) ?_
        refine tn_iald (f := xg.1) hx hb hK hP 1 0 rfl rfl (by omega) (by decide) dX7_merge_25 ?_
        have b25 := hxg.1 (1 - i)
        refine tn_ge (tgt := 66) hx hb dX7_merge_26 (by decide) (by omega) (by omega) (fun c26 => ?_) (fun c26 => ?_)
        · skip
          rw [show xg.1 (1 - i) - k = 0 by omega, ti_gr_0] at hv
          have hv : ti_frs (I i) (I (1 - i)) 0 = z := hv
          rw [hv, hlen] at hmr
          refine lv_aload_n hx hb dX7_merge_66 rfl (lv_at hl 0 rfl) ?_
          refine va_get (v := .ref (ad 1)) hx hb hts in_X7 hown hK hP 0 rfl rfl 0 (by decide) (hts _ q1088) (fun _ h => h) rfl dX7_merge_67 ?_
          refine lv_iload_n hx hb dX7_merge_70 rfl (lv_at hl 1 rfl) ?_
          refine tn_iald (f := xg.1) hx hb hK hP 1 0 rfl rfl (by omega) (by decide) dX7_merge_71 ?_
          have b71 := hxg.1 i
          refine lv_iload_n hx hb dX7_merge_72 rfl (lv_at hl 3 rfl) ?_
          refine tn_add hx hb dX7_merge_73 ?_
          refine lv_bipush (v := nI 6) hx hb dX7_merge_74 (by decide) ?_
          refine tn_le (tgt := 82) hx hb dX7_merge_76 (by decide) (by omega) (by omega) (fun c76 => ?_) (fun c76 => ?_)
          · skip
            refine lv_aload_n hx hb dX7_merge_82 rfl (lv_at hl 0 rfl) ?_
            refine lv_iload_n hx hb dX7_merge_83 rfl (lv_at hl 1 rfl) ?_
            refine ti_mVa (As := [.int (nI i)]) (rest := []) S hE hP hD hS hA (met_X7_deed l D E ad xg xd xt xf xj xh xs xv xb xq xk hxg hxd i (by omega)) (fun _ => rfl) (lw_V q1253 q1255 qs28 q73 q1256) 1 rfl 0 rfl rfl (by decide +kernel) ⟨Nat.le_of_ble_eq_true rfl, Nat.le_of_ble_eq_true rfl⟩ hl.1 rfl (Nat.le_of_ble_eq_true rfl) ⟨Nat.le_refl _, Nat.le_refl _⟩ dX7_merge_84 (fun ud H locs hu hP hD hS => ?_)
            obtain ⟨ud1, ud2, ud3⟩ := hu
            have hP : va_P D vwCl (ti_wM E ad xg ud xt xf xj xh xs xv xb xq xk) H := hP
            have hD : va_D A (ti_wM E ad xg ud xt xf xj xh xs xv xb xq xk) := hD
            refine W.eq (g2 := F0 m 87 ls []) rfl ?_
            refine lv_iconst (v := nI 0) hx hb dX7_merge_87 (by decide) ?_
            refine lv_istore (lv' := [(4, .int (nI 0)), (0, .ref (ad 0)), (1, .int (nI i)), (2, .int (nI (1 - i))), (3, .int (nI z))]) hx hb dX7_merge_88 hl (by decide) rfl (fun ls hl => ?_)
            have L90 : ∀ (N : Nat) (k : Nat) (y : ti_Mg) (ls : Array Slot) (H : Heap) (locs : List Loc), va_P D vwCl (ti_wM E ad y ud xt xf xj xh xs xv xb xq xk) H → va_D A (ti_wM E ad y ud xt xf xj xh xs xv xb xq xk) → va_S A H0 H locs → (xg.1 (1 - i) - k) < N → (k ≤ xg.1 (1 - i)) → (ti_Mgok y) → (∀ j, j < 2 → j ≠ i → ti_G y j = ti_G xg j) → (∀ j, j < 6 → ti_ma y (1 - i) j = ti_ma xg (1 - i) j ∧ ti_mb y (1 - i) j = ti_mb xg (1 - i) j) → ((ti_mrg (I i) (I (1 - i))) = ti_mrg (ti_G y i) (ti_gr (ti_ma xg (1 - i)) (ti_mb xg (1 - i)) k (xg.1 (1 - i) - k))) → lv_has ls 5 [(0, .ref (ad 0)), (1, .int (nI i)), (2, .int (nI (1 - i))), (4, .int (nI k))] → W p l e (ti_rm 4 0 0) s m ([.ref (ad 0), .int (nI i)] : List Value).toArray below meth c H locs 0 0 Q (F0 m 90 ls []) := by
              intro N
              induction N with
              | zero => intro k y ls H locs hP hD hS h0; exact absurd h0 (Nat.not_lt_zero _)
              | succ N ih90 =>
                intro k y ls H locs hP hD hS hN hkn2 hy ho ho2 hv2 hl
                refine lv_iload hx hb dX7_merge_90 (lv_at hl 3 rfl) ?_
                refine lv_aload_n hx hb dX7_merge_92 rfl (lv_at hl 0 rfl) ?_
                refine va_get (v := .ref (ad 1)) hx hb hts in_X7 hown hK hP 0 rfl rfl 0 (by decide) (hts _ q1088) (fun _ h => h) rfl dX7_merge_93 ?_
                refine lv_iload_n hx hb dX7_merge_96 rfl (lv_at hl 2 rfl) ?_
                refine tn_iald (f := y.1) hx hb hK hP 1 0 rfl rfl (by omega) (by decide) dX7_merge_97 ?_
                have hsz : y.1 (1 - i) = xg.1 (1 - i) := by
                  have h9 := congrArg List.length (ho (1 - i) (by omega) (by omega))
                  rw [ti_gr_len, ti_gr_len] at h9
                  exact h9
                refine tn_ge (tgt := 149) hx hb dX7_merge_98 (by decide) (by omega) (by omega) (fun c98 => ?_) (fun c98 => ?_)
                · skip
                  rw [show xg.1 (1 - i) - k = 0 by omega, ti_gr_0] at hv2
                  have hv2 : (ti_mrg (I i) (I (1 - i))) = ti_G y i := hv2
                  have hl9 : y.1 i = (ti_mrg (I i) (I (1 - i))).length := by rw [hv2, ti_gr_len]
                  refine lv_aload_n hx hb dX7_merge_149 rfl (lv_at hl 0 rfl) ?_
                  refine va_get (v := .ref (ad 1)) hx hb hts in_X7 hown hK hP 0 rfl rfl 0 (by decide) (hts _ q1088) (fun _ h => h) rfl dX7_merge_150 ?_
                  refine lv_iload_n hx hb dX7_merge_153 rfl (lv_at hl 1 rfl) ?_
                  refine tn_iald (f := y.1) hx hb hK hP 1 0 rfl rfl (by omega) (by decide) dX7_merge_154 ?_
                  have hs : ti_Smerge I DD (nI i) = (nI (ti_mrg (I i) (I (1 - i))).length, va_up I i (ti_mrg (I i) (I (1 - i))), ti_keep (i, I i) DD) := by rw [ti_Smerge, if_neg (by rw [c4]; decide), hci, if_neg (by omega)]
                  exact hret (y, ud) _ _ _ _ _ _ _ dX7_merge_155 (by rw [hs, ← hl9]) (by rw [hs]; exact ⟨ti_MI_up hI hv2.symm ho, by rw [ud1, hg, hDD], hy, ud2⟩) hP hS (Nat.le_refl _) (Nat.le_refl _)
                · skip
                  obtain ⟨m9, hm9⟩ : ∃ m9, xg.1 (1 - i) - k = m9 + 1 := ⟨xg.1 (1 - i) - k - 1, by omega⟩
                  rw [hm9, ti_gr_s] at hv2
                  refine lv_aload_n hx hb dX7_merge_101 rfl (lv_at hl 0 rfl) ?_
                  refine lv_iload_n hx hb dX7_merge_102 rfl (lv_at hl 1 rfl) ?_
                  refine lv_aload_n hx hb dX7_merge_103 rfl (lv_at hl 0 rfl) ?_
                  refine lv_iload_n hx hb dX7_merge_104 rfl (lv_at hl 2 rfl) ?_
                  refine lv_iload hx hb dX7_merge_105 (lv_at hl 3 rfl) ?_
                  refine ti_pVa (As := [.int (nI (1 - i)), .int (nI k)]) (rest := [.int (nI i), .ref (ad 0)]) (v := .int (nI (ti_ma y (1 - i) k))) S hE hP (met_X7_a l D E ad y ud xt xf xj xh xs xv xb xq xk (1 - i) k (by omega)) (lw_V q1245 q1247 qs26 q73 q1248) 2 rfl 0 rfl rfl (by decide +kernel) ⟨Nat.le_of_ble_eq_true rfl, Nat.le_of_ble_eq_true rfl⟩ hl.1 rfl (Nat.le_of_ble_eq_true rfl) ⟨Nat.le_refl _, Nat.le_refl _⟩ dX7_merge_107 ?_
                  have ha107 : ti_ma y (1 - i) k ≤ 9 := hy.2.1 _
                  refine lv_aload_n hx hb dX7_merge_110 rfl (lv_at hl 0 rfl) ?_
                  refine lv_iload_n hx hb dX7_merge_111 rfl (lv_at hl 2 rfl) ?_
                  refine lv_iload hx hb dX7_merge_112 (lv_at hl 3 rfl) ?_
                  refine ti_pVa (As := [.int (nI (1 - i)), .int (nI k)]) (rest := [.int (nI (ti_ma y (1 - i) k)), .int (nI i), .ref (ad 0)]) (v := .int (nI (ti_mb y (1 - i) k))) S hE hP (met_X7_b l D E ad y ud xt xf xj xh xs xv xb xq xk (1 - i) k (by omega)) (lw_V q1249 q1251 qs27 q73 q1252) 2 rfl 0 rfl rfl (by decide +kernel) ⟨Nat.le_of_ble_eq_true rfl, Nat.le_of_ble_eq_true rfl⟩ hl.1 rfl (Nat.le_of_ble_eq_true rfl) ⟨Nat.le_refl _, Nat.le_refl _⟩ dX7_merge_114 ?_
                  have hb114 : ti_mb y (1 - i) k ≤ 9 := hy.2.2 _
                  refine ti_pVa (As := [.int (nI i), .int (nI (ti_ma y (1 - i) k)), .int (nI (ti_mb y (1 - i) k))]) (rest := []) (v := .int (ti_pm (ti_pl (ti_ma y (1 - i) k) (ti_mb y (1 - i) k) (ti_G y i) 0))) S hE hP (met_X7_which l D E ad y ud xt xf xj xh xs xv xb xq xk hy i (by omega) (ti_ma y (1 - i) k) (ti_mb y (1 - i) k) (by omega) (by omega)) (lw_V q1241 q1243 qs25 q73 q1244) 3 rfl 0 rfl rfl (by decide +kernel) ⟨Nat.le_of_ble_eq_true rfl, Nat.le_of_ble_eq_true rfl⟩ hl.1 rfl (Nat.le_of_ble_eq_true rfl) ⟨Nat.le_refl _, Nat.le_refl _⟩ dX7_merge_117 ?_
                  refine lv_iconst (v := (-1)) hx hb dX7_merge_120 (by decide) ?_
                  refine lv_icmp_ne (tgt := 143) hx hb dX7_merge_121 (by decide) (fun c121 => ?_) (fun c121 => ?_)
                  · skip
                    refine lv_iinc (v := nI (k + 1)) (lv' := [(4, .int (nI (k + 1))), (0, .ref (ad 0)), (1, .int (nI i)), (2, .int (nI (1 - i)))]) hx hb dX7_merge_143 hl (k := 3) rfl (nI_1 k) (by decide) rfl (fun ls hl => ?_)
                    refine lv_goto (tgt := 90) hx hb dX7_merge_146 (by decide) ?_
                    exact ih90 (k + 1) y _ _ _ hP hD hS (by omega) (by omega) (hy) (ho) (ho2) (by rw [hv2, ti_mrg, if_pos (by rw [← (ho2 k (by omega)).1, ← (ho2 k (by omega)).2]; exact Classical.not_not.mp fun z9 => c121 ((ti_placeM (by rw [ti_gr_len]; have := hy.1 i; omega)).mpr z9)), show xg.1 (1 - i) - (k + 1) = m9 by omega]) (lv_sub hl [1, 2, 3, 0] rfl)
                  · skip
                    have hnm0 := (ti_placeM (by rw [ti_gr_len]; have := hy.1 i; omega)).mp c121
                    have hnm : (ti_ma xg (1 - i) k, ti_mb xg (1 - i) k) ∉ ti_G y i := by rw [← (ho2 k (by omega)).1, ← (ho2 k (by omega)).2]; exact hnm0
                    have hy6 : y.1 i < 6 := by
                      have h9 := hv2
                      rw [ti_mrg, if_neg hnm] at h9
                      have h8 := ti_mrg_le (ti_gr (ti_ma xg (1 - i)) (ti_mb xg (1 - i)) (k + 1) m9) (ti_G y i ++ [(ti_ma xg (1 - i) k, ti_mb xg (1 - i) k)])
                      rw [← h9, List.length_append, ti_gr_len] at h8
                      simp at h8
                      omega
                    refine lv_aload_n hx hb dX7_merge_124 rfl (lv_at hl 0 rfl) ?_
                    refine lv_iload_n hx hb dX7_merge_125 rfl (lv_at hl 1 rfl) ?_
                    refine lv_aload_n hx hb dX7_merge_126 rfl (lv_at hl 0 rfl) ?_
                    refine lv_iload_n hx hb dX7_merge_127 rfl (lv_at hl 2 rfl) ?_
                    refine lv_iload hx hb dX7_merge_128 (lv_at hl 3 rfl) ?_
                    refine ti_pVa (As := [.int (nI (1 - i)), .int (nI k)]) (rest := [.int (nI i), .ref (ad 0)]) (v := .int (nI (ti_ma y (1 - i) k))) S hE hP (met_X7_a l D E ad y ud xt xf xj xh xs xv xb xq xk (1 - i) k (by omega)) (lw_V q1245 q1247 qs26 q73 q1248) 2 rfl 0 rfl rfl (by decide +kernel) ⟨Nat.le_of_ble_eq_true rfl, Nat.le_of_ble_eq_true rfl⟩ hl.1 rfl (Nat.le_of_ble_eq_true rfl) ⟨Nat.le_refl _, Nat.le_refl _⟩ dX7_merge_130 ?_
                    have ha130 : ti_ma y (1 - i) k ≤ 9 := hy.2.1 _
                    refine lv_aload_n hx hb dX7_merge_133 rfl (lv_at hl 0 rfl) ?_
                    refine lv_iload_n hx hb dX7_merge_134 rfl (lv_at hl 2 rfl) ?_
                    refine lv_iload hx hb dX7_merge_135 (lv_at hl 3 rfl) ?_
                    refine ti_pVa (As := [.int (nI (1 - i)), .int (nI k)]) (rest := [.int (nI (ti_ma y (1 - i) k)), .int (nI i), .ref (ad 0)]) (v := .int (nI (ti_mb y (1 - i) k))) S hE hP (met_X7_b l D E ad y ud xt xf xj xh xs xv xb xq xk (1 - i) k (by omega)) (lw_V q1249 q1251 qs27 q73 q1252) 2 rfl 0 rfl rfl (by decide +kernel) ⟨Nat.le_of_ble_eq_true rfl, Nat.le_of_ble_eq_true rfl⟩ hl.1 rfl (Nat.le_of_ble_eq_true rfl) ⟨Nat.le_refl _, Nat.le_refl _⟩ dX7_merge_137 ?_
                    have hb137 : ti_mb y (1 - i) k ≤ 9 := hy.2.2 _
                    refine ti_mVa (As := [.int (nI i), .int (nI (ti_ma y (1 - i) k)), .int (nI (ti_mb y (1 - i) k))]) (rest := []) S hE hP hD hS hA (met_X7_comes l D E ad y ud xt xf xj xh xs xv xb xq xk i (by omega) (ti_ma y (1 - i) k) (ti_mb y (1 - i) k) hy6) (fun _ => rfl) (lw_V q1257 q1259 qs29 q73 q1260) 3 rfl 0 rfl rfl (by decide +kernel) ⟨Nat.le_of_ble_eq_true rfl, Nat.le_of_ble_eq_true rfl⟩ hl.1 rfl (Nat.le_of_ble_eq_true rfl) ⟨Nat.le_refl _, Nat.le_refl _⟩ dX7_merge_140 (fun _ H locs hu hP hD hS => ?_)
                    have hP : va_P D vwCl (ti_wM E ad (ti_mcm y i (ti_ma y (1 - i) k) (ti_mb y (1 - i) k)) ud xt xf xj xh xs xv xb xq xk) H := hP
                    have hD : va_D A (ti_wM E ad (ti_mcm y i (ti_ma y (1 - i) k) (ti_mb y (1 - i) k)) ud xt xf xj xh xs xv xb xq xk) := hD
                    refine W.eq (g2 := F0 m 143 ls []) rfl ?_
                    refine lv_iinc (v := nI (k + 1)) (lv' := [(4, .int (nI (k + 1))), (0, .ref (ad 0)), (1, .int (nI i)), (2, .int (nI (1 - i)))]) hx hb dX7_merge_143 hl (k := 3) rfl (nI_1 k) (by decide) rfl (fun ls hl => ?_)
                    refine lv_goto (tgt := 90) hx hb dX7_merge_146 (by decide) ?_
                    exact ih90 (k + 1) ((ti_mcm y i (ti_ma y (1 - i) k) (ti_mb y (1 - i) k))) _ _ _ hP hD hS (by omega) (by omega) (ti_mcm_ok hy hy6 (by have := hy.2.1 (6 * (1 - i) + k); exact this) (by have := hy.2.2 (6 * (1 - i) + k); exact this)) (fun j hj hji => by rw [ti_mcm_Gn hy hy6 hji]; exact ho j hj hji) (fun j hj6 => ⟨by rw [← (ho2 j hj6).1]; exact va_up_ne _ _ (by omega), by rw [← (ho2 j hj6).2]; exact va_up_ne _ _ (by omega)⟩) (by rw [hv2, ti_mrg, if_neg hnm, ti_mcm_G, (ho2 k (by omega)).1, (ho2 k (by omega)).2, show xg.1 (1 - i) - (k + 1) = m9 by omega]) (lv_sub hl [1, 2, 3, 0] rfl)
            exact L90 _ 0 xg _ _ _ hP hD hS (Nat.lt_succ_self _) (by omega) (hxg) (fun _ _ _ => rfl) (fun _ _ => ⟨rfl, rfl⟩) (by rw [← hg, ← hg2]; rfl) (lv_sub hl [1, 2, 3, 0] rfl)
          · skip
            refine lv_bipush (v := (-4)) hx hb dX7_merge_79 (by decide) ?_
            have hs : ti_Smerge I DD (nI i) = (-4, I, DD) := by rw [ti_Smerge, if_neg (by rw [c4]; decide), hci, if_pos (by omega)]
            exact hret (xg, xd) _ _ _ _ _ _ _ dX7_merge_81 (by rw [hs]) (by rw [hs]; exact ⟨hI, hDD, hxg, hxd⟩) hP hS (Nat.le_refl _) (Nat.le_refl _)
        · skip
          obtain ⟨m9, hm9⟩ : ∃ m9, xg.1 (1 - i) - k = m9 + 1 := ⟨xg.1 (1 - i) - k - 1, by omega⟩
          rw [hm9, ti_gr_s] at hv
          refine lv_iload_n hx hb dX7_merge_29 rfl (lv_at hl 3 rfl) ?_
          refine lv_aload_n hx hb dX7_merge_30 rfl (lv_at hl 0 rfl) ?_
          refine lv_iload_n hx hb dX7_merge_31 rfl (lv_at hl 1 rfl) ?_
          refine lv_aload_n hx hb dX7_merge_32 rfl (lv_at hl 0 rfl) ?_
          refine lv_iload_n hx hb dX7_merge_33 rfl (lv_at hl 2 rfl) ?_
          refine lv_iload hx hb dX7_merge_34 (lv_at hl 4 rfl) ?_
          refine ti_pVa (As := [.int (nI (1 - i)), .int (nI k)]) (rest := [.int (nI i), .ref (ad 0), .int (nI z)]) (v := .int (nI (ti_ma xg (1 - i) k))) S hE hP (met_X7_a l D E ad xg xd xt xf xj xh xs xv xb xq xk (1 - i) k (by omega)) (lw_V q1245 q1247 qs26 q73 q1248) 2 rfl 0 rfl rfl (by decide +kernel) ⟨Nat.le_of_ble_eq_true rfl, Nat.le_of_ble_eq_true rfl⟩ hl.1 rfl (Nat.le_of_ble_eq_true rfl) ⟨Nat.le_refl _, Nat.le_refl _⟩ dX7_merge_36 ?_
          have ha36 : ti_ma xg (1 - i) k ≤ 9 := hxg.2.1 _
          refine lv_aload_n hx hb dX7_merge_39 rfl (lv_at hl 0 rfl) ?_
          refine lv_iload_n hx hb dX7_merge_40 rfl (lv_at hl 2 rfl) ?_
          refine lv_iload hx hb dX7_merge_41 (lv_at hl 4 rfl) ?_
          refine ti_pVa (As := [.int (nI (1 - i)), .int (nI k)]) (rest := [.int (nI (ti_ma xg (1 - i) k)), .int (nI i), .ref (ad 0), .int (nI z)]) (v := .int (nI (ti_mb xg (1 - i) k))) S hE hP (met_X7_b l D E ad xg xd xt xf xj xh xs xv xb xq xk (1 - i) k (by omega)) (lw_V q1249 q1251 qs27 q73 q1252) 2 rfl 0 rfl rfl (by decide +kernel) ⟨Nat.le_of_ble_eq_true rfl, Nat.le_of_ble_eq_true rfl⟩ hl.1 rfl (Nat.le_of_ble_eq_true rfl) ⟨Nat.le_refl _, Nat.le_refl _⟩ dX7_merge_43 ?_
          have hb43 : ti_mb xg (1 - i) k ≤ 9 := hxg.2.2 _
          refine ti_pVa (As := [.int (nI i), .int (nI (ti_ma xg (1 - i) k)), .int (nI (ti_mb xg (1 - i) k))]) (rest := [.int (nI z)]) (v := .int (ti_pm (ti_pl (ti_ma xg (1 - i) k) (ti_mb xg (1 - i) k) (ti_G xg i) 0))) S hE hP (met_X7_which l D E ad xg xd xt xf xj xh xs xv xb xq xk hxg i (by omega) (ti_ma xg (1 - i) k) (ti_mb xg (1 - i) k) (by omega) (by omega)) (lw_V q1241 q1243 qs25 q73 q1244) 3 rfl 0 rfl rfl (by decide +kernel) ⟨Nat.le_of_ble_eq_true rfl, Nat.le_of_ble_eq_true rfl⟩ hl.1 rfl (Nat.le_of_ble_eq_true rfl) ⟨Nat.le_refl _, Nat.le_refl _⟩ dX7_merge_46 ?_
          refine lv_iconst (v := (-1)) hx hb dX7_merge_49 (by decide) ?_
          refine lv_icmp_ne (tgt := 57) hx hb dX7_merge_50 (by decide) (fun c50 => ?_) (fun c50 => ?_)
          · skip
            refine lv_iconst (v := nI 0) hx hb dX7_merge_57 (by decide) ?_
            refine tn_add hx hb dX7_merge_58 ?_
            refine lv_istore_n (lv' := [(3, .int (nI (z + 0))), (0, .ref (ad 0)), (1, .int (nI i)), (2, .int (nI (1 - i))), (4, .int (nI k))]) hx hb dX7_merge_59 rfl hl (by decide) rfl (fun ls hl => ?_)
            refine lv_iinc (v := nI (k + 1)) (lv' := [(4, .int (nI (k + 1))), (3, .int (nI (z + 0))), (0, .ref (ad 0)), (1, .int (nI i)), (2, .int (nI (1 - i)))]) hx hb dX7_merge_60 hl (k := 4) rfl (nI_1 k) (by decide) rfl (fun ls hl => ?_)
            refine lv_goto (tgt := 18) hx hb dX7_merge_63 (by decide) ?_
            exact ih18 (z + 0) (k + 1) _ _ _ hP hD hS (by omega) (by omega) (by omega) (by rw [hv, ti_frs, if_pos (by rw [← hg]; exact Classical.not_not.mp fun z9 => c50 ((ti_placeM (by rw [ti_gr_len]; omega)).mpr z9)), show xg.1 (1 - i) - (k + 1) = m9 by omega]) (lv_sub hl [2, 3, 4, 1, 0] rfl)
          · skip
            refine lv_iconst (v := nI 1) hx hb dX7_merge_53 (by decide) ?_
            refine lv_goto (tgt := 58) hx hb dX7_merge_54 (by decide) ?_
            refine tn_add hx hb dX7_merge_58 ?_
            refine lv_istore_n (lv' := [(3, .int (nI (z + 1))), (0, .ref (ad 0)), (1, .int (nI i)), (2, .int (nI (1 - i))), (4, .int (nI k))]) hx hb dX7_merge_59 rfl hl (by decide) rfl (fun ls hl => ?_)
            refine lv_iinc (v := nI (k + 1)) (lv' := [(4, .int (nI (k + 1))), (3, .int (nI (z + 1))), (0, .ref (ad 0)), (1, .int (nI i)), (2, .int (nI (1 - i)))]) hx hb dX7_merge_60 hl (k := 4) rfl (nI_1 k) (by decide) rfl (fun ls hl => ?_)
            refine lv_goto (tgt := 18) hx hb dX7_merge_63 (by decide) ?_
            exact ih18 (z + 1) (k + 1) _ _ _ hP hD hS (by omega) (by omega) (by omega) (by rw [hv, ti_frs, if_neg (by rw [← hg]; exact (ti_placeM (by rw [ti_gr_len]; omega)).mp c50), show xg.1 (1 - i) - (k + 1) = m9 by omega]) (lv_sub hl [2, 3, 4, 1, 0] rfl)
    exact L18 _ 0 0 _ _ _ hP hD hS (Nat.lt_succ_self _) (by omega) (by omega) (by rw [← hg2]; rfl) (lv_sub hl [3, 4, 2, 1, 0] rfl)
  · skip
    refine lv_iconst (v := (-1)) hx hb dX7_merge_7 (by decide) ?_
    have hs : ti_Smerge I DD v = (-1, I, DD) := by rw [ti_Smerge, if_pos c4]
    exact hret (xg, xd) _ _ _ _ _ _ _ dX7_merge_8 (by rw [hs]) (by rw [hs]; exact ⟨hI, hDD, hxg, hxd⟩) hP hS (Nat.le_refl _) (Nat.le_refl _)

set_option maxHeartbeats 1000000 in
theorem met_X7_close (l : Launch) (D : va_G) (E : Nat → ClassId) (ad : Nat → Nat) (xg : ti_Mg) (xd : ti_Md) (xt : ti_Mt) (xf : ti_Mf) (xj : ti_Mj) (xh : ti_Mh) (xs : ti_Ms) (xv : ti_Mv) (xb : ti_Mb) (xq : ti_Mq) (xk : ti_Mk) (hxg : ti_Mgok xg) (I : Nat → ti_GL) (hI : ti_MI xg I) (hxd : ti_Mdok xd) (DD : ti_DL) (hDD : ti_mdl xd 0 xd.1 = DD) (hxf : ti_Mfok xf) (hNi : ∀ i, i < 2 → 0 < xg.1 i → ti_r2 (ti_G xg i) 1000 (List.range' 1 9) ≤ 6) (v : Int32) : ti_MetM (σ := ti_Mg × ti_Md × ti_Mf) l D E yX7_close cX7_close 4 (some .int) 4 0 0 (ti_wM E ad xg xd xt xf xj xh xs xv xb xq xk) [.ref (ad 0), .int v] (fun u => ti_wM E ad u.1 u.2.1 xt u.2.2 xj xh xs xv xb xq xk) (fun u => some (.int ((fun _ => (ti_Sclose I DD v).1) u))) (fun u => ti_MI u.1 (ti_Sclose I DD v).2.1 ∧ ti_mdl u.2.1 0 u.2.1.1 = (ti_Sclose I DD v).2.2 ∧ ti_Mgok u.1 ∧ ti_Mdok u.2.1 ∧ ti_Mfok u.2.2) := by
  refine ti_mutI (σ := ti_Mg × ti_Md × ti_Mf) (vi := fun _ => (ti_Sclose I DD v).1) (by decide) (Nat.le_of_ble_eq_true rfl) ?_
  intro p e s m below meth c H H0 A Q ls S hE hP hD hS hA hinit hl hret
  have hx := S.1
  have hb := S.2.1
  have hown := S.2.2.2.1
  have hts := S.2.2.2.2
  have hK := hE.1
  have hl : lv_has ls 4 [(0, .ref (ad 0)), (1, .int v)] := hl
  refine lv_iload_n hx hb dX7_close_0 rfl (lv_at hl 1 rfl) ?_
  refine ti_pS (As := [.int v]) (rest := []) (v := .int (ti_b (ti_bt v))) S hE hP [] (met_X7_isIdeal l D E v) rfl (lw_S q1231 q1232 q73 q1233) 1 rfl (by decide +kernel) ⟨Nat.le_of_ble_eq_true rfl, Nat.le_of_ble_eq_true rfl⟩ hl.1 rfl (Nat.le_of_ble_eq_true rfl) ⟨Nat.le_refl _, Nat.le_refl _⟩ dX7_close_1 ?_
  refine tb_ne (tgt := 9) hx hb dX7_close_4 (by decide) (fun c4 => ?_) (fun c4 => ?_)
  · skip
    obtain ⟨i, hi2, rfl⟩ := ti_bt_nat c4
    have hci : ti_cl (nI i) = i := ti_cl_nI (by omega)
    have hg := hI i hi2
    have hlen := ti_MI_len hI hi2
    have h6 := hxg.1 i
    refine lv_aload_n hx hb dX7_close_9 rfl (lv_at hl 0 rfl) ?_
    refine va_get (v := .ref (ad 1)) hx hb hts in_X7 hown hK hP 0 rfl rfl 0 (by decide) (hts _ q1088) (fun _ h => h) rfl dX7_close_10 ?_
    refine lv_iload_n hx hb dX7_close_13 rfl (lv_at hl 1 rfl) ?_
    refine tn_iald (f := xg.1) hx hb hK hP 1 0 rfl rfl (by omega) (by decide) dX7_close_14 ?_
    have b14 := hxg.1 i
    refine tn_if_ne (tgt := 21) hx hb dX7_close_15 (by decide) (by omega) (fun c15 => ?_) (fun c15 => ?_)
    · skip
      refine lv_aload_n hx hb dX7_close_21 rfl (lv_at hl 0 rfl) ?_
      refine lv_iload_n hx hb dX7_close_22 rfl (lv_at hl 1 rfl) ?_
      refine ti_mVa (As := [.int (nI i)]) (rest := []) S hE hP hD hS hA (met_X7_tellsFaces l D E ad xg xd xt xf xj xh xs xv xb xq xk hxg i (by omega) (hNi i hi2 (by omega)) hxf) (fun _ => rfl) (lw_V q1285 q1287 qs32 q73 q1288) 1 rfl 0 rfl rfl (by decide +kernel) ⟨Nat.le_of_ble_eq_true rfl, Nat.le_of_ble_eq_true rfl⟩ hl.1 rfl (Nat.le_of_ble_eq_true rfl) ⟨Nat.le_refl _, Nat.le_refl _⟩ dX7_close_23 (fun u1 H locs hu hP hD hS => ?_)
      obtain ⟨hF1, hF2⟩ := hu
      have hF3 : ti_F u1 = ti_FF (I i) := by rw [hF1, ← hg]; rfl
      have hP : va_P D vwCl (ti_wM E ad xg xd xt u1 xj xh xs xv xb xq xk) H := hP
      have hD : va_D A (ti_wM E ad xg xd xt u1 xj xh xs xv xb xq xk) := hD
      refine W.eq (g2 := F0 m 26 ls []) rfl ?_
      refine lv_iconst (v := nI 0) hx hb dX7_close_26 (by decide) ?_
      refine lv_istore_n (lv' := [(2, .int (nI 0)), (0, .ref (ad 0)), (1, .int (nI i))]) hx hb dX7_close_27 rfl hl (by decide) rfl (fun ls hl => ?_)
      refine lv_iconst (v := nI 0) hx hb dX7_close_28 (by decide) ?_
      refine lv_istore_n (lv' := [(3, .int (nI 0)), (2, .int (nI 0)), (0, .ref (ad 0)), (1, .int (nI i))]) hx hb dX7_close_29 rfl hl (by decide) rfl (fun ls hl => ?_)
      have L30 : ∀ (N : Nat) (z k : Nat) (ls : Array Slot) (H : Heap) (locs : List Loc), va_P D vwCl (ti_wM E ad xg xd xt u1 xj xh xs xv xb xq xk) H → va_D A (ti_wM E ad xg xd xt u1 xj xh xs xv xb xq xk) → va_S A H0 H locs → (100 - k) < N → (k ≤ 100) → (z ≤ k) → (ti_cnn (ti_F u1) (List.range' 0 100) 0 = ti_cnn (ti_F u1) (List.range' k (100 - k)) z) → lv_has ls 4 [(0, .ref (ad 0)), (1, .int (nI i)), (2, .int (nI z)), (3, .int (nI k))] → W p l e (ti_rm 4 0 0) s m ([.ref (ad 0), .int (nI i)] : List Value).toArray below meth c H locs 0 0 Q (F0 m 30 ls []) := by
        intro N
        induction N with
        | zero => intro z k ls H locs hP hD hS h0; exact absurd h0 (Nat.not_lt_zero _)
        | succ N ih30 =>
          intro z k ls H locs hP hD hS hN hkn hz hv hl
          refine lv_iload_n hx hb dX7_close_30 rfl (lv_at hl 3 rfl) ?_
          refine lv_bipush (v := nI 100) hx hb dX7_close_31 (by decide) ?_
          refine tn_ge (tgt := 65) hx hb dX7_close_33 (by decide) (by omega) (by omega) (fun c33 => ?_) (fun c33 => ?_)
          · skip
            rw [show 100 - k = 0 by omega] at hv
            have hv : ti_cnn (ti_F u1) (List.range' 0 100) 0 = z := hv
            rw [ti_cnn_len, hF3] at hv
            refine lv_iload_n hx hb dX7_close_65 rfl (lv_at hl 2 rfl) ?_
            refine lv_bipush (v := nI 6) hx hb dX7_close_66 (by decide) ?_
            refine tn_le (tgt := 74) hx hb dX7_close_68 (by decide) (by omega) (by omega) (fun c68 => ?_) (fun c68 => ?_)
            · skip
              refine lv_aload_n hx hb dX7_close_74 rfl (lv_at hl 0 rfl) ?_
              refine lv_iload_n hx hb dX7_close_75 rfl (lv_at hl 1 rfl) ?_
              refine ti_mVa (As := [.int (nI i)]) (rest := []) S hE hP hD hS hA (met_X7_deed l D E ad xg xd xt u1 xj xh xs xv xb xq xk hxg hxd i (by omega)) (fun _ => rfl) (lw_V q1253 q1255 qs28 q73 q1256) 1 rfl 0 rfl rfl (by decide +kernel) ⟨Nat.le_of_ble_eq_true rfl, Nat.le_of_ble_eq_true rfl⟩ hl.1 rfl (Nat.le_of_ble_eq_true rfl) ⟨Nat.le_refl _, Nat.le_refl _⟩ dX7_close_76 (fun ud H locs hu hP hD hS => ?_)
              obtain ⟨ud1, ud2, ud3⟩ := hu
              have hP : va_P D vwCl (ti_wM E ad xg ud xt u1 xj xh xs xv xb xq xk) H := hP
              have hD : va_D A (ti_wM E ad xg ud xt u1 xj xh xs xv xb xq xk) := hD
              refine W.eq (g2 := F0 m 79 ls []) rfl ?_
              refine lv_aload_n hx hb dX7_close_79 rfl (lv_at hl 0 rfl) ?_
              refine va_get (v := .ref (ad 1)) hx hb hts in_X7 hown hK hP 0 rfl rfl 0 (by decide) (hts _ q1088) (fun _ h => h) rfl dX7_close_80 ?_
              refine lv_iload_n hx hb dX7_close_83 rfl (lv_at hl 1 rfl) ?_
              refine lv_iconst (v := nI 0) hx hb dX7_close_84 (by decide) ?_
              refine tn_iast (f := xg.1) hx hb hK hP hD hS 1 0 rfl rfl (by omega) (by decide) dX7_close_85 (fun H locs hP hD hS => ?_)
              have hP : va_P D vwCl (ti_wM E ad (va_up xg.1 i 0, xg.2.1, xg.2.2) ud xt u1 xj xh xs xv xb xq xk) H := hP
              have hD : va_D A (ti_wM E ad (va_up xg.1 i 0, xg.2.1, xg.2.2) ud xt u1 xj xh xs xv xb xq xk) := hD
              refine lv_iconst (v := nI 0) hx hb dX7_close_86 (by decide) ?_
              refine lv_istore_n (lv' := [(3, .int (nI 0)), (0, .ref (ad 0)), (1, .int (nI i)), (2, .int (nI z))]) hx hb dX7_close_87 rfl hl (by decide) rfl (fun ls hl => ?_)
              have L88 : ∀ (N : Nat) (k : Nat) (y : ti_Mg) (ls : Array Slot) (H : Heap) (locs : List Loc), va_P D vwCl (ti_wM E ad y ud xt u1 xj xh xs xv xb xq xk) H → va_D A (ti_wM E ad y ud xt u1 xj xh xs xv xb xq xk) → va_S A H0 H locs → (100 - k) < N → (k ≤ 100) → (ti_Mgok y) → (∀ j, j < 2 → j ≠ i → ti_G y j = ti_G xg j) → ((ti_cns (ti_FF (I i)) (List.range' 0 100)) = ti_G y i ++ (ti_cns (ti_FF (I i)) (List.range' k (100 - k)))) → lv_has ls 4 [(0, .ref (ad 0)), (1, .int (nI i)), (3, .int (nI k))] → W p l e (ti_rm 4 0 0) s m ([.ref (ad 0), .int (nI i)] : List Value).toArray below meth c H locs 0 0 Q (F0 m 88 ls []) := by
                intro N
                induction N with
                | zero => intro k y ls H locs hP hD hS h0; exact absurd h0 (Nat.not_lt_zero _)
                | succ N ih88 =>
                  intro k y ls H locs hP hD hS hN hkn2 hy ho hv2 hl
                  refine lv_iload_n hx hb dX7_close_88 rfl (lv_at hl 2 rfl) ?_
                  refine lv_bipush (v := nI 100) hx hb dX7_close_89 (by decide) ?_
                  refine tn_ge (tgt := 128) hx hb dX7_close_91 (by decide) (by omega) (by omega) (fun c91 => ?_) (fun c91 => ?_)
                  · skip
                    rw [show 100 - k = 0 by omega] at hv2
                    have hv2 : (ti_cns (ti_FF (I i)) (List.range' 0 100)) = ti_G y i := by rw [hv2]; exact List.append_nil _
                    have hl9 : y.1 i = (ti_cns (ti_FF (I i)) (List.range' 0 100)).length := by rw [hv2, ti_gr_len]
                    refine lv_aload_n hx hb dX7_close_128 rfl (lv_at hl 0 rfl) ?_
                    refine va_get (v := .ref (ad 1)) hx hb hts in_X7 hown hK hP 0 rfl rfl 0 (by decide) (hts _ q1088) (fun _ h => h) rfl dX7_close_129 ?_
                    refine lv_iload_n hx hb dX7_close_132 rfl (lv_at hl 1 rfl) ?_
                    refine tn_iald (f := y.1) hx hb hK hP 1 0 rfl rfl (by omega) (by decide) dX7_close_133 ?_
                    have hs : ti_Sclose I DD (nI i) = (nI (ti_cns (ti_FF (I i)) (List.range' 0 100)).length, va_up I i (ti_cns (ti_FF (I i)) (List.range' 0 100)), ti_keep (i, I i) DD) := by rw [ti_Sclose, if_neg (by rw [c4]; decide), hci, if_neg (by rw [hlen]; exact c15), if_neg (by omega)]
                    exact hret (y, ud, u1) _ _ _ _ _ _ _ dX7_close_134 (by rw [hs, ← hl9]) (by rw [hs]; exact ⟨ti_MI_up hI hv2.symm ho, by rw [ud1, hg, hDD], hy, ud2, hF2⟩) hP hS (Nat.le_refl _) (Nat.le_refl _)
                  · skip
                    obtain ⟨m9, hm9⟩ : ∃ m9, 100 - k = m9 + 1 := ⟨100 - k - 1, by omega⟩
                    rw [hm9, show List.range' k (m9 + 1) = k :: List.range' (k + 1) m9 from rfl] at hv2
                    refine lv_aload_n hx hb dX7_close_94 rfl (lv_at hl 0 rfl) ?_
                    refine lv_iload_n hx hb dX7_close_95 rfl (lv_at hl 2 rfl) ?_
                    refine lv_bipush (v := nI 10) hx hb dX7_close_96 (by decide) ?_
                    refine tn_div hx hb dX7_close_98 (by omega) (by omega) (by omega) ?_
                    refine lv_iload_n hx hb dX7_close_99 rfl (lv_at hl 2 rfl) ?_
                    refine lv_bipush (v := nI 10) hx hb dX7_close_100 (by decide) ?_
                    refine tn_rem hx hb dX7_close_102 (by omega) (by omega) (by omega) ?_
                    refine ti_pVa (As := [.int (nI (k / 10)), .int (nI (k % 10))]) (rest := []) (v := .int (ti_b (ti_cn (k / 10) (k % 10) (ti_F u1)))) S hE hP (met_X7_isCorner l D E ad y ud xt u1 xj xh xs xv xb xq xk hF2 (k / 10) (k % 10) (by omega) (by omega)) (lw_V q1305 q1307 qs36 q73 q1308) 2 rfl 0 rfl rfl (by decide +kernel) ⟨Nat.le_of_ble_eq_true rfl, Nat.le_of_ble_eq_true rfl⟩ hl.1 rfl (Nat.le_of_ble_eq_true rfl) ⟨Nat.le_refl _, Nat.le_refl _⟩ dX7_close_103 ?_
                    refine tb_eq (tgt := 122) hx hb dX7_close_106 (by decide) (fun c106 => ?_) (fun c106 => ?_)
                    · skip
                      refine lv_iinc (v := nI (k + 1)) (lv' := [(3, .int (nI (k + 1))), (0, .ref (ad 0)), (1, .int (nI i))]) hx hb dX7_close_122 hl (k := 2) rfl (nI_1 k) (by decide) rfl (fun ls hl => ?_)
                      refine lv_goto (tgt := 88) hx hb dX7_close_125 (by decide) ?_
                      exact ih88 (k + 1) y _ _ _ hP hD hS (by omega) (by omega) (hy) (ho) (by rw [hv2, ti_cns, if_neg (by rw [← hF3, c106]; decide), show 100 - (k + 1) = m9 by omega]) (lv_sub hl [1, 2, 0] rfl)
                    · skip
                      have hy6 : y.1 i < 6 := by
                        have h9 := congrArg List.length hv2
                        rw [ti_cns, if_pos (by rw [← hF3]; exact c106), List.length_append, ti_gr_len, List.length_cons] at h9
                        omega
                      refine lv_aload_n hx hb dX7_close_109 rfl (lv_at hl 0 rfl) ?_
                      refine lv_iload_n hx hb dX7_close_110 rfl (lv_at hl 1 rfl) ?_
                      refine lv_iload_n hx hb dX7_close_111 rfl (lv_at hl 2 rfl) ?_
                      refine lv_bipush (v := nI 10) hx hb dX7_close_112 (by decide) ?_
                      refine tn_div hx hb dX7_close_114 (by omega) (by omega) (by omega) ?_
                      refine lv_iload_n hx hb dX7_close_115 rfl (lv_at hl 2 rfl) ?_
                      refine lv_bipush (v := nI 10) hx hb dX7_close_116 (by decide) ?_
                      refine tn_rem hx hb dX7_close_118 (by omega) (by omega) (by omega) ?_
                      refine ti_mVa (As := [.int (nI i), .int (nI (k / 10)), .int (nI (k % 10))]) (rest := []) S hE hP hD hS hA (met_X7_comes l D E ad y ud xt u1 xj xh xs xv xb xq xk i (by omega) (k / 10) (k % 10) hy6) (fun _ => rfl) (lw_V q1257 q1259 qs29 q73 q1260) 3 rfl 0 rfl rfl (by decide +kernel) ⟨Nat.le_of_ble_eq_true rfl, Nat.le_of_ble_eq_true rfl⟩ hl.1 rfl (Nat.le_of_ble_eq_true rfl) ⟨Nat.le_refl _, Nat.le_refl _⟩ dX7_close_119 (fun _ H locs hu hP hD hS => ?_)
                      have hP : va_P D vwCl (ti_wM E ad (ti_mcm y i (k / 10) (k % 10)) ud xt u1 xj xh xs xv xb xq xk) H := hP
                      have hD : va_D A (ti_wM E ad (ti_mcm y i (k / 10) (k % 10)) ud xt u1 xj xh xs xv xb xq xk) := hD
                      refine W.eq (g2 := F0 m 122 ls []) rfl ?_
                      refine lv_iinc (v := nI (k + 1)) (lv' := [(3, .int (nI (k + 1))), (0, .ref (ad 0)), (1, .int (nI i))]) hx hb dX7_close_122 hl (k := 2) rfl (nI_1 k) (by decide) rfl (fun ls hl => ?_)
                      refine lv_goto (tgt := 88) hx hb dX7_close_125 (by decide) ?_
                      exact ih88 (k + 1) ((ti_mcm y i (k / 10) (k % 10))) _ _ _ hP hD hS (by omega) (by omega) (ti_mcm_ok hy hy6 (by omega) (by omega)) (fun j hj hji => by rw [ti_mcm_Gn hy hy6 hji]; exact ho j hj hji) (by rw [hv2, ti_cns, if_pos (by rw [← hF3]; exact c106), ti_mcm_G, List.append_assoc, List.singleton_append, show 100 - (k + 1) = m9 by omega]) (lv_sub hl [1, 2, 0] rfl)
              exact L88 _ 0 (va_up xg.1 i 0, xg.2.1, xg.2.2) _ _ _ hP hD hS (Nat.lt_succ_self _) (by omega) (⟨ti_up_le hxg.1 (Nat.zero_le _), hxg.2⟩) (fun j _ hj => ti_msz_Gn hj) (by rw [ti_msz_G]; rfl) (lv_sub hl [1, 2, 0] rfl)
            · skip
              refine lv_bipush (v := (-4)) hx hb dX7_close_71 (by decide) ?_
              have hs : ti_Sclose I DD (nI i) = (-4, I, DD) := by rw [ti_Sclose, if_neg (by rw [c4]; decide), hci, if_neg (by rw [hlen]; exact c15), if_pos (by omega)]
              exact hret (xg, xd, u1) _ _ _ _ _ _ _ dX7_close_73 (by rw [hs]) (by rw [hs]; exact ⟨hI, hDD, hxg, hxd, hF2⟩) hP hS (Nat.le_refl _) (Nat.le_refl _)
          · skip
            obtain ⟨m9, hm9⟩ : ∃ m9, 100 - k = m9 + 1 := ⟨100 - k - 1, by omega⟩
            rw [hm9, show List.range' k (m9 + 1) = k :: List.range' (k + 1) m9 from rfl] at hv
            refine lv_iload_n hx hb dX7_close_36 rfl (lv_at hl 2 rfl) ?_
            refine lv_aload_n hx hb dX7_close_37 rfl (lv_at hl 0 rfl) ?_
            refine lv_iload_n hx hb dX7_close_38 rfl (lv_at hl 3 rfl) ?_
            refine lv_bipush (v := nI 10) hx hb dX7_close_39 (by decide) ?_
            refine tn_div hx hb dX7_close_41 (by omega) (by omega) (by omega) ?_
            refine lv_iload_n hx hb dX7_close_42 rfl (lv_at hl 3 rfl) ?_
            refine lv_bipush (v := nI 10) hx hb dX7_close_43 (by decide) ?_
            refine tn_rem hx hb dX7_close_45 (by omega) (by omega) (by omega) ?_
            refine ti_pVa (As := [.int (nI (k / 10)), .int (nI (k % 10))]) (rest := [.int (nI z)]) (v := .int (ti_b (ti_cn (k / 10) (k % 10) (ti_F u1)))) S hE hP (met_X7_isCorner l D E ad xg xd xt u1 xj xh xs xv xb xq xk hF2 (k / 10) (k % 10) (by omega) (by omega)) (lw_V q1305 q1307 qs36 q73 q1308) 2 rfl 0 rfl rfl (by decide +kernel) ⟨Nat.le_of_ble_eq_true rfl, Nat.le_of_ble_eq_true rfl⟩ hl.1 rfl (Nat.le_of_ble_eq_true rfl) ⟨Nat.le_refl _, Nat.le_refl _⟩ dX7_close_46 ?_
            refine tb_eq (tgt := 56) hx hb dX7_close_49 (by decide) (fun c49 => ?_) (fun c49 => ?_)
            · skip
              refine lv_iconst (v := nI 0) hx hb dX7_close_56 (by decide) ?_
              refine tn_add hx hb dX7_close_57 ?_
              refine lv_istore_n (lv' := [(2, .int (nI (z + 0))), (0, .ref (ad 0)), (1, .int (nI i)), (3, .int (nI k))]) hx hb dX7_close_58 rfl hl (by decide) rfl (fun ls hl => ?_)
              refine lv_iinc (v := nI (k + 1)) (lv' := [(3, .int (nI (k + 1))), (2, .int (nI (z + 0))), (0, .ref (ad 0)), (1, .int (nI i))]) hx hb dX7_close_59 hl (k := 3) rfl (nI_1 k) (by decide) rfl (fun ls hl => ?_)
              refine lv_goto (tgt := 30) hx hb dX7_close_62 (by decide) ?_
              exact ih30 (z + 0) (k + 1) _ _ _ hP hD hS (by omega) (by omega) (by omega) (by rw [hv, ti_cnn, if_neg (by rw [c49]; decide), show 100 - (k + 1) = m9 by omega]) (lv_sub hl [2, 3, 1, 0] rfl)
            · skip
              refine lv_iconst (v := nI 1) hx hb dX7_close_52 (by decide) ?_
              refine lv_goto (tgt := 57) hx hb dX7_close_53 (by decide) ?_
              refine tn_add hx hb dX7_close_57 ?_
              refine lv_istore_n (lv' := [(2, .int (nI (z + 1))), (0, .ref (ad 0)), (1, .int (nI i)), (3, .int (nI k))]) hx hb dX7_close_58 rfl hl (by decide) rfl (fun ls hl => ?_)
              refine lv_iinc (v := nI (k + 1)) (lv' := [(3, .int (nI (k + 1))), (2, .int (nI (z + 1))), (0, .ref (ad 0)), (1, .int (nI i))]) hx hb dX7_close_59 hl (k := 3) rfl (nI_1 k) (by decide) rfl (fun ls hl => ?_)
              refine lv_goto (tgt := 30) hx hb dX7_close_62 (by decide) ?_
              exact ih30 (z + 1) (k + 1) _ _ _ hP hD hS (by omega) (by omega) (by omega) (by rw [hv, ti_cnn, if_pos c49, show 100 - (k + 1) = m9 by omega]) (lv_sub hl [2, 3, 1, 0] rfl)
      exact L30 _ 0 0 _ _ _ hP hD hS (Nat.lt_succ_self _) (by omega) (by omega) (rfl) (lv_sub hl [2, 3, 1, 0] rfl)
    · skip
      refine lv_bipush (v := (-3)) hx hb dX7_close_18 (by decide) ?_
      have hs : ti_Sclose I DD (nI i) = (-3, I, DD) := by rw [ti_Sclose, if_neg (by rw [c4]; decide), hci, if_pos (by rw [hlen]; exact c15)]
      exact hret (xg, xd, xf) _ _ _ _ _ _ _ dX7_close_20 (by rw [hs]) (by rw [hs]; exact ⟨hI, hDD, hxg, hxd, hxf⟩) hP hS (Nat.le_refl _) (Nat.le_refl _)
  · skip
    refine lv_iconst (v := (-1)) hx hb dX7_close_7 (by decide) ?_
    have hs : ti_Sclose I DD v = (-1, I, DD) := by rw [ti_Sclose, if_pos c4]
    exact hret (xg, xd, xf) _ _ _ _ _ _ _ dX7_close_8 (by rw [hs]) (by rw [hs]; exact ⟨hI, hDD, hxg, hxd, hxf⟩) hP hS (Nat.le_refl _) (Nat.le_refl _)
