/-! TermIdeals$Faces: the methods that write (printed by w_faces2.py) -/
set_option maxRecDepth 100000

set_option maxHeartbeats 1000000 in
theorem met_X2_comes (l : Launch) (D : va_G) (E : Nat → ClassId) (f0 f1 f2 f3 f4 f5 : Nat) (ss ts lv : Nat → Nat) (nf up low : Nat) (us los : Nat → Nat) (nj : Nat) (h ua ub : Nat) (fa fb : Nat → Nat) (n : Nat) (hn : n ≤ 6) (hfa : ∀ k, fa k ≤ 9) (hfb : ∀ k, fb k ≤ 9) (hnf : nf ≤ 8) (hss : ∀ k, ss k ≤ 9) (hts9 : ∀ k, ts k ≤ 9) (hlv : ∀ k, lv k ≤ 9999) (s9 t9 : Nat) (hs9 : s9 ≤ 9) (ht9 : t9 ≤ 9) (hnf7 : nf < 8) : ti_MetM (σ := (Nat → Nat) × (Nat → Nat) × (Nat → Nat)) l D E yX2_comes cX2_comes 4 none 2 0 0 (ti_wF E f0 f1 f2 f3 f4 f5 (.ref h) ss ts lv nf up low us los nj ++ ti_wI E h ua ub fa fb n) [.ref f0, .int (nI s9), .int (nI t9)] (fun u => ti_wF E f0 f1 f2 f3 f4 f5 (.ref h) u.1 u.2.1 u.2.2 (nf + 1) up low us los nj ++ ti_wI E h ua ub fa fb n) (fun _ => none) (fun u => ti_fr u.1 u.2.1 u.2.2 0 (nf + 1) = (ti_fi (s9, t9, ti_lv s9 t9 (ti_gr fa fb 0 n) 9999) (ti_fr ss ts lv 0 nf).reverse).reverse ∧ (∀ k, u.1 k ≤ 9) ∧ (∀ k, u.2.1 k ≤ 9) ∧ (∀ k, u.2.2 k ≤ 9999)) := by
  refine ti_mutV (σ := (Nat → Nat) × (Nat → Nat) × (Nat → Nat)) (by decide) (Nat.le_of_ble_eq_true rfl) ?_
  intro p e s m below meth c H H0 A Q ls S hE hP hD hS hA hinit hl hret
  have hx := S.1
  have hb := S.2.1
  have hown := S.2.2.2.1
  have hts := S.2.2.2.2
  have hK := hE.1
  have hl : lv_has ls 4 [(0, .ref f0), (1, .int (nI s9)), (2, .int (nI t9))] := hl
  refine lv_aload_n hx hb dX2_comes_0 rfl (lv_at hl 0 rfl) ?_
  refine va_get (v := .int (nI nf)) hx hb hts in_X2 hown hK hP 0 rfl rfl 4 (by decide) (hts _ q139) (fun _ h => h) rfl dX2_comes_1 ?_
  refine lv_istore_n (lv' := [(3, .int (nI nf)), (0, .ref f0), (1, .int (nI s9)), (2, .int (nI t9))]) hx hb dX2_comes_4 rfl hl (by decide) rfl (fun ls hl => ?_)
  have L5 : ∀ (N : Nat) (q : Nat) (g1 g2 g3 : Nat → Nat) (ls : Array Slot) (H : Heap) (locs : List Loc), va_P D vwCl (ti_wF E f0 f1 f2 f3 f4 f5 (.ref h) g1 g2 g3 nf up low us los nj ++ ti_wI E h ua ub fa fb n) H → va_D A (ti_wF E f0 f1 f2 f3 f4 f5 (.ref h) g1 g2 g3 nf up low us los nj ++ ti_wI E h ua ub fa fb n) → va_S A H0 H locs → q < N → (q ≤ nf) → (g1 = ti_ri q nf ss) → (g2 = ti_ri q nf ts) → (g3 = ti_ri q nf lv) → (∀ j, g1 j ≤ 9) → (∀ j, g2 j ≤ 9) → (∀ j, g3 j ≤ 9999) → ((ti_fi (s9, t9, ti_lv s9 t9 (ti_gr fa fb 0 n) 9999) (ti_fr ss ts lv 0 nf).reverse).reverse = (ti_fi (s9, t9, ti_lv s9 t9 (ti_gr fa fb 0 n) 9999) ((ti_fr ss ts lv 0 nf).take q).reverse).reverse ++ (ti_fr ss ts lv 0 nf).drop q) → lv_has ls 4 [(0, .ref f0), (1, .int (nI s9)), (2, .int (nI t9)), (3, .int (nI q))] → W p l e (ti_rm 2 0 0) s m ([.ref f0, .int (nI s9), .int (nI t9)] : List Value).toArray below meth c H locs 0 0 Q (F0 m 5 ls []) := by
    intro N
    induction N with
    | zero => intro q g1 g2 g3 ls H locs hP hD hS h0; exact absurd h0 (Nat.not_lt_zero _)
    | succ N ih5 =>
      intro q g1 g2 g3 ls H locs hP hD hS hN hqn e1 e2 e3 hg1 hg2 hg3 hv hl
      refine lv_iload_n hx hb dX2_comes_5 rfl (lv_at hl 3 rfl) ?_
      refine tn_if_le (tgt := 80) hx hb dX2_comes_6 (by decide) (by omega) (fun c6 => ?_) (fun c6 => ?_)
      · skip
        have hp : (ti_fi (s9, t9, ti_lv s9 t9 (ti_gr fa fb 0 n) 9999) ((ti_fr ss ts lv 0 nf).take q).reverse).reverse = (ti_fr ss ts lv 0 nf).take q ++ [(s9, t9, ti_lv s9 t9 (ti_gr fa fb 0 n) 9999)] := by rw [c6]; rfl
        refine lv_aload_n hx hb dX2_comes_80 rfl (lv_at hl 0 rfl) ?_
        refine va_get (v := .ref f1) hx hb hts in_X2 hown hK hP 0 rfl rfl 1 (by decide) (hts _ q133) (fun _ h => h) rfl dX2_comes_81 ?_
        refine lv_iload_n hx hb dX2_comes_84 rfl (lv_at hl 3 rfl) ?_
        refine lv_iload_n hx hb dX2_comes_85 rfl (lv_at hl 1 rfl) ?_
        refine tn_iast hx hb hK hP hD hS 1 0 rfl rfl (by omega) (by decide) dX2_comes_86 (fun H locs hP hD hS => ?_)
        have hP : va_P D vwCl (ti_wF E f0 f1 f2 f3 f4 f5 (.ref h) (va_up g1 q s9) g2 g3 nf up low us los nj ++ ti_wI E h ua ub fa fb n) H := hP
        have hD : va_D A (ti_wF E f0 f1 f2 f3 f4 f5 (.ref h) (va_up g1 q s9) g2 g3 nf up low us los nj ++ ti_wI E h ua ub fa fb n) := hD
        refine lv_aload_n hx hb dX2_comes_87 rfl (lv_at hl 0 rfl) ?_
        refine va_get (v := .ref f2) hx hb hts in_X2 hown hK hP 0 rfl rfl 2 (by decide) (hts _ q135) (fun _ h => h) rfl dX2_comes_88 ?_
        refine lv_iload_n hx hb dX2_comes_91 rfl (lv_at hl 3 rfl) ?_
        refine lv_iload_n hx hb dX2_comes_92 rfl (lv_at hl 2 rfl) ?_
        refine tn_iast hx hb hK hP hD hS 2 0 rfl rfl (by omega) (by decide) dX2_comes_93 (fun H locs hP hD hS => ?_)
        have hP : va_P D vwCl (ti_wF E f0 f1 f2 f3 f4 f5 (.ref h) (va_up g1 q s9) (va_up g2 q t9) g3 nf up low us los nj ++ ti_wI E h ua ub fa fb n) H := hP
        have hD : va_D A (ti_wF E f0 f1 f2 f3 f4 f5 (.ref h) (va_up g1 q s9) (va_up g2 q t9) g3 nf up low us los nj ++ ti_wI E h ua ub fa fb n) := hD
        refine lv_aload_n hx hb dX2_comes_94 rfl (lv_at hl 0 rfl) ?_
        refine va_get (v := .ref f3) hx hb hts in_X2 hown hK hP 0 rfl rfl 3 (by decide) (hts _ q137) (fun _ h => h) rfl dX2_comes_95 ?_
        refine lv_iload_n hx hb dX2_comes_98 rfl (lv_at hl 3 rfl) ?_
        refine lv_aload_n hx hb dX2_comes_99 rfl (lv_at hl 0 rfl) ?_
        refine lv_iload_n hx hb dX2_comes_100 rfl (lv_at hl 1 rfl) ?_
        refine lv_iload_n hx hb dX2_comes_101 rfl (lv_at hl 2 rfl) ?_
        refine ti_pV (As := [.int (nI s9), .int (nI t9)]) (rest := [.int (nI q), .ref f3]) (v := .int (nI (ti_lv s9 t9 (ti_gr fa fb 0 n) 9999))) S hE hP [0, 1, 2, 3, 4, 5, 6, 7, 8] (met_X2_level l D E f0 f1 f2 f3 f4 f5 (va_up g1 q s9) (va_up g2 q t9) g3 nf up low us los nj h ua ub fa fb n hn hfa hfb s9 t9 hs9 ht9) rfl (lw_V q445 q447 qs5 q68 q448) 2 rfl 0 rfl rfl (by decide +kernel) ⟨Nat.le_of_ble_eq_true rfl, Nat.le_of_ble_eq_true rfl⟩ hl.1 rfl (Nat.le_of_ble_eq_true rfl) ⟨Nat.le_refl _, Nat.le_refl _⟩ dX2_comes_102 ?_
        refine tn_iast hx hb hK hP hD hS 3 0 rfl rfl (by omega) (by decide) dX2_comes_105 (fun H locs hP hD hS => ?_)
        have hP : va_P D vwCl (ti_wF E f0 f1 f2 f3 f4 f5 (.ref h) (va_up g1 q s9) (va_up g2 q t9) (va_up g3 q (ti_lv s9 t9 (ti_gr fa fb 0 n) 9999)) nf up low us los nj ++ ti_wI E h ua ub fa fb n) H := hP
        have hD : va_D A (ti_wF E f0 f1 f2 f3 f4 f5 (.ref h) (va_up g1 q s9) (va_up g2 q t9) (va_up g3 q (ti_lv s9 t9 (ti_gr fa fb 0 n) 9999)) nf up low us los nj ++ ti_wI E h ua ub fa fb n) := hD
        refine lv_aload_n hx hb dX2_comes_106 rfl (lv_at hl 0 rfl) ?_
        refine lv_dup hx hb dX2_comes_107 rfl ?_
        refine va_get (v := .int (nI nf)) hx hb hts in_X2 hown hK hP 0 rfl rfl 4 (by decide) (hts _ q139) (fun _ h => h) rfl dX2_comes_108 ?_
        refine lv_iconst (v := nI 1) hx hb dX2_comes_111 (by decide) ?_
        refine tn_add hx hb dX2_comes_112 ?_
        refine va_put (ty := .int) hx hb hts in_X2 tyX2 tyX2_ok nmX2 hown hK hP hD hS 0 rfl rfl 4 (by decide) (hts _ q139) (fun _ h => h) rfl rfl rfl rfl (Nat.le_of_ble_eq_true rfl) dX2_comes_113 (fun H locs hP hD hS => ?_)
        have hP : va_P D vwCl (ti_wF E f0 f1 f2 f3 f4 f5 (.ref h) (va_up g1 q s9) (va_up g2 q t9) (va_up g3 q (ti_lv s9 t9 (ti_gr fa fb 0 n) 9999)) (nf + 1) up low us los nj ++ ti_wI E h ua ub fa fb n) H := hP
        have hD : va_D A (ti_wF E f0 f1 f2 f3 f4 f5 (.ref h) (va_up g1 q s9) (va_up g2 q t9) (va_up g3 q (ti_lv s9 t9 (ti_gr fa fb 0 n) 9999)) (nf + 1) up low us los nj ++ ti_wI E h ua ub fa fb n) := hD
        exact hret ((va_up g1 q s9, va_up g2 q t9, va_up g3 q (ti_lv s9 t9 (ti_gr fa fb 0 n) 9999))) _ _ _ _ _ _ dX2_comes_116 (⟨by rw [hv, hp, e1, e2, e3, List.append_assoc, List.singleton_append]; exact ti_fr_put hqn ss ts lv _ _ _, ti_up_le hg1 hs9, ti_up_le hg2 ht9, ti_up_le hg3 (ti_lv_le _ _ _ _)⟩) hP hS (Nat.le_refl _) (Nat.le_refl _)
      · skip
        have hqs : (ti_fr ss ts lv 0 nf)[q - 1]? = some (ss (q - 1), ts (q - 1), lv (q - 1)) := by rw [ti_fr_at (by omega), Nat.zero_add]
        obtain ⟨ht1, ht2⟩ := ti_take_s hqs
        rw [show q - 1 + 1 = q by omega] at ht1
        have r1 : g1 (q - 1) = ss (q - 1) := by rw [e1]; exact ti_ri_lo (by omega)
        have r2 : g2 (q - 1) = ts (q - 1) := by rw [e2]; exact ti_ri_lo (by omega)
        refine lv_aload_n hx hb dX2_comes_9 rfl (lv_at hl 0 rfl) ?_
        refine va_get (v := .ref f1) hx hb hts in_X2 hown hK hP 0 rfl rfl 1 (by decide) (hts _ q133) (fun _ h => h) rfl dX2_comes_10 ?_
        refine lv_iload_n hx hb dX2_comes_13 rfl (lv_at hl 3 rfl) ?_
        refine lv_iconst (v := nI 1) hx hb dX2_comes_14 (by decide) ?_
        refine tn_sub hx hb dX2_comes_15 (by omega) ?_
        refine tn_iald hx hb hK hP 1 0 rfl rfl (by omega) (by decide) dX2_comes_16 ?_
        have b16 := hg1 (q - 1)
        refine lv_iload_n hx hb dX2_comes_17 rfl (lv_at hl 2 rfl) ?_
        refine tn_mul hx hb dX2_comes_18 ?_
        have b18 : (g1 (q - 1)) * t9 ≤ 81 := Nat.mul_le_mul b16 ht9
        refine lv_iload_n hx hb dX2_comes_19 rfl (lv_at hl 1 rfl) ?_
        refine lv_aload_n hx hb dX2_comes_20 rfl (lv_at hl 0 rfl) ?_
        refine va_get (v := .ref f2) hx hb hts in_X2 hown hK hP 0 rfl rfl 2 (by decide) (hts _ q135) (fun _ h => h) rfl dX2_comes_21 ?_
        refine lv_iload_n hx hb dX2_comes_24 rfl (lv_at hl 3 rfl) ?_
        refine lv_iconst (v := nI 1) hx hb dX2_comes_25 (by decide) ?_
        refine tn_sub hx hb dX2_comes_26 (by omega) ?_
        refine tn_iald hx hb hK hP 2 0 rfl rfl (by omega) (by decide) dX2_comes_27 ?_
        have b27 := hg2 (q - 1)
        refine tn_mul hx hb dX2_comes_28 ?_
        have b28 : s9 * (g2 (q - 1)) ≤ 81 := Nat.mul_le_mul hs9 b27
        refine tn_ge (tgt := 80) hx hb dX2_comes_29 (by decide) (by omega) (by omega) (fun c29 => ?_) (fun c29 => ?_)
        · skip
          rw [r1, r2] at c29
          have hp : (ti_fi (s9, t9, ti_lv s9 t9 (ti_gr fa fb 0 n) 9999) ((ti_fr ss ts lv 0 nf).take q).reverse).reverse = (ti_fr ss ts lv 0 nf).take q ++ [(s9, t9, ti_lv s9 t9 (ti_gr fa fb 0 n) 9999)] := by rw [ht1, List.reverse_append, List.reverse_singleton, List.singleton_append, ti_fi, if_neg (by dsimp only; omega)]; simp
          refine lv_aload_n hx hb dX2_comes_80 rfl (lv_at hl 0 rfl) ?_
          refine va_get (v := .ref f1) hx hb hts in_X2 hown hK hP 0 rfl rfl 1 (by decide) (hts _ q133) (fun _ h => h) rfl dX2_comes_81 ?_
          refine lv_iload_n hx hb dX2_comes_84 rfl (lv_at hl 3 rfl) ?_
          refine lv_iload_n hx hb dX2_comes_85 rfl (lv_at hl 1 rfl) ?_
          refine tn_iast hx hb hK hP hD hS 1 0 rfl rfl (by omega) (by decide) dX2_comes_86 (fun H locs hP hD hS => ?_)
          have hP : va_P D vwCl (ti_wF E f0 f1 f2 f3 f4 f5 (.ref h) (va_up g1 q s9) g2 g3 nf up low us los nj ++ ti_wI E h ua ub fa fb n) H := hP
          have hD : va_D A (ti_wF E f0 f1 f2 f3 f4 f5 (.ref h) (va_up g1 q s9) g2 g3 nf up low us los nj ++ ti_wI E h ua ub fa fb n) := hD
          refine lv_aload_n hx hb dX2_comes_87 rfl (lv_at hl 0 rfl) ?_
          refine va_get (v := .ref f2) hx hb hts in_X2 hown hK hP 0 rfl rfl 2 (by decide) (hts _ q135) (fun _ h => h) rfl dX2_comes_88 ?_
          refine lv_iload_n hx hb dX2_comes_91 rfl (lv_at hl 3 rfl) ?_
          refine lv_iload_n hx hb dX2_comes_92 rfl (lv_at hl 2 rfl) ?_
          refine tn_iast hx hb hK hP hD hS 2 0 rfl rfl (by omega) (by decide) dX2_comes_93 (fun H locs hP hD hS => ?_)
          have hP : va_P D vwCl (ti_wF E f0 f1 f2 f3 f4 f5 (.ref h) (va_up g1 q s9) (va_up g2 q t9) g3 nf up low us los nj ++ ti_wI E h ua ub fa fb n) H := hP
          have hD : va_D A (ti_wF E f0 f1 f2 f3 f4 f5 (.ref h) (va_up g1 q s9) (va_up g2 q t9) g3 nf up low us los nj ++ ti_wI E h ua ub fa fb n) := hD
          refine lv_aload_n hx hb dX2_comes_94 rfl (lv_at hl 0 rfl) ?_
          refine va_get (v := .ref f3) hx hb hts in_X2 hown hK hP 0 rfl rfl 3 (by decide) (hts _ q137) (fun _ h => h) rfl dX2_comes_95 ?_
          refine lv_iload_n hx hb dX2_comes_98 rfl (lv_at hl 3 rfl) ?_
          refine lv_aload_n hx hb dX2_comes_99 rfl (lv_at hl 0 rfl) ?_
          refine lv_iload_n hx hb dX2_comes_100 rfl (lv_at hl 1 rfl) ?_
          refine lv_iload_n hx hb dX2_comes_101 rfl (lv_at hl 2 rfl) ?_
          refine ti_pV (As := [.int (nI s9), .int (nI t9)]) (rest := [.int (nI q), .ref f3]) (v := .int (nI (ti_lv s9 t9 (ti_gr fa fb 0 n) 9999))) S hE hP [0, 1, 2, 3, 4, 5, 6, 7, 8] (met_X2_level l D E f0 f1 f2 f3 f4 f5 (va_up g1 q s9) (va_up g2 q t9) g3 nf up low us los nj h ua ub fa fb n hn hfa hfb s9 t9 hs9 ht9) rfl (lw_V q445 q447 qs5 q68 q448) 2 rfl 0 rfl rfl (by decide +kernel) ⟨Nat.le_of_ble_eq_true rfl, Nat.le_of_ble_eq_true rfl⟩ hl.1 rfl (Nat.le_of_ble_eq_true rfl) ⟨Nat.le_refl _, Nat.le_refl _⟩ dX2_comes_102 ?_
          refine tn_iast hx hb hK hP hD hS 3 0 rfl rfl (by omega) (by decide) dX2_comes_105 (fun H locs hP hD hS => ?_)
          have hP : va_P D vwCl (ti_wF E f0 f1 f2 f3 f4 f5 (.ref h) (va_up g1 q s9) (va_up g2 q t9) (va_up g3 q (ti_lv s9 t9 (ti_gr fa fb 0 n) 9999)) nf up low us los nj ++ ti_wI E h ua ub fa fb n) H := hP
          have hD : va_D A (ti_wF E f0 f1 f2 f3 f4 f5 (.ref h) (va_up g1 q s9) (va_up g2 q t9) (va_up g3 q (ti_lv s9 t9 (ti_gr fa fb 0 n) 9999)) nf up low us los nj ++ ti_wI E h ua ub fa fb n) := hD
          refine lv_aload_n hx hb dX2_comes_106 rfl (lv_at hl 0 rfl) ?_
          refine lv_dup hx hb dX2_comes_107 rfl ?_
          refine va_get (v := .int (nI nf)) hx hb hts in_X2 hown hK hP 0 rfl rfl 4 (by decide) (hts _ q139) (fun _ h => h) rfl dX2_comes_108 ?_
          refine lv_iconst (v := nI 1) hx hb dX2_comes_111 (by decide) ?_
          refine tn_add hx hb dX2_comes_112 ?_
          refine va_put (ty := .int) hx hb hts in_X2 tyX2 tyX2_ok nmX2 hown hK hP hD hS 0 rfl rfl 4 (by decide) (hts _ q139) (fun _ h => h) rfl rfl rfl rfl (Nat.le_of_ble_eq_true rfl) dX2_comes_113 (fun H locs hP hD hS => ?_)
          have hP : va_P D vwCl (ti_wF E f0 f1 f2 f3 f4 f5 (.ref h) (va_up g1 q s9) (va_up g2 q t9) (va_up g3 q (ti_lv s9 t9 (ti_gr fa fb 0 n) 9999)) (nf + 1) up low us los nj ++ ti_wI E h ua ub fa fb n) H := hP
          have hD : va_D A (ti_wF E f0 f1 f2 f3 f4 f5 (.ref h) (va_up g1 q s9) (va_up g2 q t9) (va_up g3 q (ti_lv s9 t9 (ti_gr fa fb 0 n) 9999)) (nf + 1) up low us los nj ++ ti_wI E h ua ub fa fb n) := hD
          exact hret ((va_up g1 q s9, va_up g2 q t9, va_up g3 q (ti_lv s9 t9 (ti_gr fa fb 0 n) 9999))) _ _ _ _ _ _ dX2_comes_116 (⟨by rw [hv, hp, e1, e2, e3, List.append_assoc, List.singleton_append]; exact ti_fr_put hqn ss ts lv _ _ _, ti_up_le hg1 hs9, ti_up_le hg2 ht9, ti_up_le hg3 (ti_lv_le _ _ _ _)⟩) hP hS (Nat.le_refl _) (Nat.le_refl _)
        · skip
          rw [r1, r2] at c29
          refine lv_aload_n hx hb dX2_comes_32 rfl (lv_at hl 0 rfl) ?_
          refine va_get (v := .ref f1) hx hb hts in_X2 hown hK hP 0 rfl rfl 1 (by decide) (hts _ q133) (fun _ h => h) rfl dX2_comes_33 ?_
          refine lv_iload_n hx hb dX2_comes_36 rfl (lv_at hl 3 rfl) ?_
          refine lv_aload_n hx hb dX2_comes_37 rfl (lv_at hl 0 rfl) ?_
          refine va_get (v := .ref f1) hx hb hts in_X2 hown hK hP 0 rfl rfl 1 (by decide) (hts _ q133) (fun _ h => h) rfl dX2_comes_38 ?_
          refine lv_iload_n hx hb dX2_comes_41 rfl (lv_at hl 3 rfl) ?_
          refine lv_iconst (v := nI 1) hx hb dX2_comes_42 (by decide) ?_
          refine tn_sub hx hb dX2_comes_43 (by omega) ?_
          refine tn_iald hx hb hK hP 1 0 rfl rfl (by omega) (by decide) dX2_comes_44 ?_
          have b44 := hg1 (q - 1)
          refine tn_iast hx hb hK hP hD hS 1 0 rfl rfl (by omega) (by decide) dX2_comes_45 (fun H locs hP hD hS => ?_)
          have hP : va_P D vwCl (ti_wF E f0 f1 f2 f3 f4 f5 (.ref h) (va_up g1 q (g1 (q - 1))) g2 g3 nf up low us los nj ++ ti_wI E h ua ub fa fb n) H := hP
          have hD : va_D A (ti_wF E f0 f1 f2 f3 f4 f5 (.ref h) (va_up g1 q (g1 (q - 1))) g2 g3 nf up low us los nj ++ ti_wI E h ua ub fa fb n) := hD
          refine lv_aload_n hx hb dX2_comes_46 rfl (lv_at hl 0 rfl) ?_
          refine va_get (v := .ref f2) hx hb hts in_X2 hown hK hP 0 rfl rfl 2 (by decide) (hts _ q135) (fun _ h => h) rfl dX2_comes_47 ?_
          refine lv_iload_n hx hb dX2_comes_50 rfl (lv_at hl 3 rfl) ?_
          refine lv_aload_n hx hb dX2_comes_51 rfl (lv_at hl 0 rfl) ?_
          refine va_get (v := .ref f2) hx hb hts in_X2 hown hK hP 0 rfl rfl 2 (by decide) (hts _ q135) (fun _ h => h) rfl dX2_comes_52 ?_
          refine lv_iload_n hx hb dX2_comes_55 rfl (lv_at hl 3 rfl) ?_
          refine lv_iconst (v := nI 1) hx hb dX2_comes_56 (by decide) ?_
          refine tn_sub hx hb dX2_comes_57 (by omega) ?_
          refine tn_iald hx hb hK hP 2 0 rfl rfl (by omega) (by decide) dX2_comes_58 ?_
          have b58 := hg2 (q - 1)
          refine tn_iast hx hb hK hP hD hS 2 0 rfl rfl (by omega) (by decide) dX2_comes_59 (fun H locs hP hD hS => ?_)
          have hP : va_P D vwCl (ti_wF E f0 f1 f2 f3 f4 f5 (.ref h) (va_up g1 q (g1 (q - 1))) (va_up g2 q (g2 (q - 1))) g3 nf up low us los nj ++ ti_wI E h ua ub fa fb n) H := hP
          have hD : va_D A (ti_wF E f0 f1 f2 f3 f4 f5 (.ref h) (va_up g1 q (g1 (q - 1))) (va_up g2 q (g2 (q - 1))) g3 nf up low us los nj ++ ti_wI E h ua ub fa fb n) := hD
          refine lv_aload_n hx hb dX2_comes_60 rfl (lv_at hl 0 rfl) ?_
          refine va_get (v := .ref f3) hx hb hts in_X2 hown hK hP 0 rfl rfl 3 (by decide) (hts _ q137) (fun _ h => h) rfl dX2_comes_61 ?_
          refine lv_iload_n hx hb dX2_comes_64 rfl (lv_at hl 3 rfl) ?_
          refine lv_aload_n hx hb dX2_comes_65 rfl (lv_at hl 0 rfl) ?_
          refine va_get (v := .ref f3) hx hb hts in_X2 hown hK hP 0 rfl rfl 3 (by decide) (hts _ q137) (fun _ h => h) rfl dX2_comes_66 ?_
          refine lv_iload_n hx hb dX2_comes_69 rfl (lv_at hl 3 rfl) ?_
          refine lv_iconst (v := nI 1) hx hb dX2_comes_70 (by decide) ?_
          refine tn_sub hx hb dX2_comes_71 (by omega) ?_
          refine tn_iald hx hb hK hP 3 0 rfl rfl (by omega) (by decide) dX2_comes_72 ?_
          have b72 := hg3 (q - 1)
          refine tn_iast hx hb hK hP hD hS 3 0 rfl rfl (by omega) (by decide) dX2_comes_73 (fun H locs hP hD hS => ?_)
          have hP : va_P D vwCl (ti_wF E f0 f1 f2 f3 f4 f5 (.ref h) (va_up g1 q (g1 (q - 1))) (va_up g2 q (g2 (q - 1))) (va_up g3 q (g3 (q - 1))) nf up low us los nj ++ ti_wI E h ua ub fa fb n) H := hP
          have hD : va_D A (ti_wF E f0 f1 f2 f3 f4 f5 (.ref h) (va_up g1 q (g1 (q - 1))) (va_up g2 q (g2 (q - 1))) (va_up g3 q (g3 (q - 1))) nf up low us los nj ++ ti_wI E h ua ub fa fb n) := hD
          refine lv_iinc (v := nI (q - 1)) (lv' := [(3, .int (nI (q - 1))), (0, .ref f0), (1, .int (nI s9)), (2, .int (nI t9))]) hx hb dX2_comes_74 hl (k := 3) rfl (sb_m1 (by omega)) (by decide) rfl (fun ls hl => ?_)
          refine lv_goto (tgt := 5) hx hb dX2_comes_77 (by decide) ?_
          exact ih5 (q - 1) (va_up g1 q (g1 (q - 1))) (va_up g2 q (g2 (q - 1))) (va_up g3 q (g3 (q - 1))) _ _ _ hP hD hS (by omega) (by omega) (by rw [e1]; exact ti_ri_up c6 hqn ss) (by rw [e2]; exact ti_ri_up c6 hqn ts) (by rw [e3]; exact ti_ri_up c6 hqn lv) (ti_up_le hg1 (hg1 _)) (ti_up_le hg2 (hg2 _)) (ti_up_le hg3 (hg3 _)) (by rw [hv, ht1, List.reverse_append, List.reverse_singleton, List.singleton_append, ti_fi, if_pos (by dsimp only; exact c29), ht2, List.reverse_cons, List.append_assoc, List.singleton_append]; rw [show q - 1 + 1 = q by omega]) (lv_sub hl [1, 2, 3, 0] rfl)
  exact L5 _ nf ss ts lv _ _ _ hP hD hS (Nat.lt_succ_self _) (by omega) (ti_ri_0 nf ss).symm (ti_ri_0 nf ts).symm (ti_ri_0 nf lv).symm (hss) (hts9) (hlv) (by rw [List.take_of_length_le (by rw [ti_fr_len]; omega), List.drop_of_length_le (by rw [ti_fr_len]; omega), List.append_nil]) (lv_sub hl [1, 2, 3, 0] rfl)

set_option maxHeartbeats 1000000 in
theorem met_X2_jumps (l : Launch) (D : va_G) (E : Nat → ClassId) (f0 f1 f2 f3 f4 f5 : Nat) (ov : Value) (ss ts lv : Nat → Nat) (nf up low : Nat) (us los : Nat → Nat) (nj : Nat) (hnf : nf ≤ 8) (hss : ∀ k, ss k ≤ 9) (hts9 : ∀ k, ts k ≤ 9) (hlv : ∀ k, lv k ≤ 9999) (a b : Nat) (ha9 : a ≤ 9) (hb9 : b ≤ 9) (hup : up ≤ 180) (hlow : low ≤ 9999) : ti_MetM (σ := Nat × Nat) l D E yX2_jumps cX2_jumps 5 (some .boolean) 1 0 0 (ti_wF E f0 f1 f2 f3 f4 f5 ov ss ts lv nf up low us los nj) [.ref f0, .int (nI a), .int (nI b)] (fun u => ti_wF E f0 f1 f2 f3 f4 f5 ov ss ts lv nf u.1 u.2 us los nj) (fun u => some (.int (ti_b ((fun u => decide (u.2 ≠ 0)) u)))) (fun u => u = ti_jf a b (ti_fr ss ts lv 0 nf) (up, 0)) := by
  refine ti_mutZ (σ := Nat × Nat) (vb := fun u => decide (u.2 ≠ 0)) (by decide) (Nat.le_of_ble_eq_true rfl) ?_
  intro p e s m below meth c H H0 A Q ls S hE hP hD hS hA hinit hl hret
  have hx := S.1
  have hb := S.2.1
  have hown := S.2.2.2.1
  have hts := S.2.2.2.2
  have hK := hE.1
  have hl : lv_has ls 5 [(0, .ref f0), (1, .int (nI a)), (2, .int (nI b))] := hl
  refine lv_aload_n hx hb dX2_jumps_0 rfl (lv_at hl 0 rfl) ?_
  refine lv_iconst (v := nI 0) hx hb dX2_jumps_1 (by decide) ?_
  refine va_put (ty := .int) hx hb hts in_X2 tyX2 tyX2_ok nmX2 hown hK hP hD hS 0 rfl rfl 6 (by decide) (hts _ q143) (fun _ h => h) rfl rfl rfl rfl (Nat.le_of_ble_eq_true rfl) dX2_jumps_2 (fun H locs hP hD hS => ?_)
  have hP : va_P D vwCl (ti_wF E f0 f1 f2 f3 f4 f5 ov ss ts lv nf up 0 us los nj) H := hP
  have hD : va_D A (ti_wF E f0 f1 f2 f3 f4 f5 ov ss ts lv nf up 0 us los nj) := hD
  refine lv_iconst (v := nI 0) hx hb dX2_jumps_5 (by decide) ?_
  refine lv_istore_n (lv' := [(3, .int (nI 0)), (0, .ref f0), (1, .int (nI a)), (2, .int (nI b))]) hx hb dX2_jumps_6 rfl hl (by decide) rfl (fun ls hl => ?_)
  have L7 : ∀ (N : Nat) (k x1 x2 : Nat) (ls : Array Slot) (H : Heap) (locs : List Loc), va_P D vwCl (ti_wF E f0 f1 f2 f3 f4 f5 ov ss ts lv nf x1 x2 us los nj) H → va_D A (ti_wF E f0 f1 f2 f3 f4 f5 ov ss ts lv nf x1 x2 us los nj) → va_S A H0 H locs → (nf - k) < N → (k ≤ nf) → (x1 ≤ 180) → (x2 ≤ 9999) → (ti_jf a b (ti_fr ss ts lv 0 nf) (up, 0) = ti_jf a b (ti_fr ss ts lv k (nf - k)) (x1, x2)) → lv_has ls 5 [(0, .ref f0), (1, .int (nI a)), (2, .int (nI b)), (3, .int (nI k))] → W p l e (ti_rm 1 0 0) s m ([.ref f0, .int (nI a), .int (nI b)] : List Value).toArray below meth c H locs 0 0 Q (F0 m 7 ls []) := by
    intro N
    induction N with
    | zero => intro k x1 x2 ls H locs hP hD hS h0; exact absurd h0 (Nat.not_lt_zero _)
    | succ N ih7 =>
      intro k x1 x2 ls H locs hP hD hS hN hkn hx1 hx2 hv hl
      refine lv_iload_n hx hb dX2_jumps_7 rfl (lv_at hl 3 rfl) ?_
      refine lv_aload_n hx hb dX2_jumps_8 rfl (lv_at hl 0 rfl) ?_
      refine va_get (v := .int (nI nf)) hx hb hts in_X2 hown hK hP 0 rfl rfl 4 (by decide) (hts _ q139) (fun _ h => h) rfl dX2_jumps_9 ?_
      refine tn_ge (tgt := 89) hx hb dX2_jumps_12 (by decide) (by omega) (by omega) (fun c12 => ?_) (fun c12 => ?_)
      · skip
        rw [show nf - k = 0 by omega, ti_fr_0, ti_jf] at hv
        refine lv_aload_n hx hb dX2_jumps_89 rfl (lv_at hl 0 rfl) ?_
        refine va_get (v := .int (nI x2)) hx hb hts in_X2 hown hK hP 0 rfl rfl 6 (by decide) (hts _ q143) (fun _ h => h) rfl dX2_jumps_90 ?_
        refine tn_if_eq (tgt := 100) hx hb dX2_jumps_93 (by decide) (by omega) (fun c93 => ?_) (fun c93 => ?_)
        · skip
          refine lv_iconst (v := nI 0) hx hb dX2_jumps_100 (by decide) ?_
          exact hret (x1, x2) _ _ _ _ _ _ _ dX2_jumps_101 (by rw [decide_eq_false (by dsimp only; omega)]; rfl) (hv.symm) hP hS (Nat.le_refl _) (Nat.le_refl _)
        · skip
          refine lv_iconst (v := nI 1) hx hb dX2_jumps_96 (by decide) ?_
          refine lv_goto (tgt := 101) hx hb dX2_jumps_97 (by decide) ?_
          exact hret (x1, x2) _ _ _ _ _ _ _ dX2_jumps_101 (by rw [decide_eq_true (by dsimp only; omega)]; rfl) (hv.symm) hP hS (Nat.le_refl _) (Nat.le_refl _)
      · skip
        obtain ⟨m9, hm9⟩ : ∃ m9, nf - k = m9 + 1 := ⟨nf - k - 1, by omega⟩
        rw [hm9, ti_fr_s] at hv
        refine lv_aload_n hx hb dX2_jumps_15 rfl (lv_at hl 0 rfl) ?_
        refine va_get (v := .ref f3) hx hb hts in_X2 hown hK hP 0 rfl rfl 3 (by decide) (hts _ q137) (fun _ h => h) rfl dX2_jumps_16 ?_
        refine lv_iload_n hx hb dX2_jumps_19 rfl (lv_at hl 3 rfl) ?_
        refine tn_iald hx hb hK hP 3 0 rfl rfl (by omega) (by decide) dX2_jumps_20 ?_
        have b20 := hlv k
        refine tn_if_ne (tgt := 27) hx hb dX2_jumps_21 (by decide) (by omega) (fun c21 => ?_) (fun c21 => ?_)
        · skip
          refine lv_aload_n hx hb dX2_jumps_27 rfl (lv_at hl 0 rfl) ?_
          refine lv_iload_n hx hb dX2_jumps_28 rfl (lv_at hl 3 rfl) ?_
          refine lv_iload_n hx hb dX2_jumps_29 rfl (lv_at hl 1 rfl) ?_
          refine lv_iload_n hx hb dX2_jumps_30 rfl (lv_at hl 2 rfl) ?_
          have hw : ti_wt (ss k, ts k, lv k) a b ≤ 180 := ti_wt_le (hss k) (hts9 k) ha9 hb9
          refine ti_pV (As := [.int (nI k), .int (nI a), .int (nI b)]) (rest := []) (v := .int (nI (ti_wt (ss k, ts k, lv k) a b))) S hE hP [0, 1, 2, 3, 4, 5] (met_X2_weight l D E f0 f1 f2 f3 f4 f5 ov ss ts lv nf x1 x2 us los nj hnf hss hts9 hlv k (by omega) a b ha9 hb9) rfl (lw_V q614 q616 qs11 q68 q617) 3 rfl 0 rfl rfl (by decide +kernel) ⟨Nat.le_of_ble_eq_true rfl, Nat.le_of_ble_eq_true rfl⟩ hl.1 rfl (Nat.le_of_ble_eq_true rfl) ⟨Nat.le_refl _, Nat.le_refl _⟩ dX2_jumps_31 ?_
          refine lv_istore (lv' := [(4, .int (nI (ti_wt (ss k, ts k, lv k) a b))), (0, .ref f0), (1, .int (nI a)), (2, .int (nI b)), (3, .int (nI k))]) hx hb dX2_jumps_34 hl (by decide) rfl (fun ls hl => ?_)
          refine lv_aload_n hx hb dX2_jumps_36 rfl (lv_at hl 1 rfl) ?_
          refine va_get (v := .int (nI x2)) hx hb hts in_X2 hown hK hP 0 rfl rfl 6 (by decide) (hts _ q143) (fun _ h => h) rfl dX2_jumps_37 ?_
          refine tn_if_eq (tgt := 67) hx hb dX2_jumps_40 (by decide) (by omega) (fun c40 => ?_) (fun c40 => ?_)
          · skip
            refine lv_aload_n hx hb dX2_jumps_67 rfl (lv_at hl 1 rfl) ?_
            refine lv_iload hx hb dX2_jumps_68 (lv_at hl 0 rfl) ?_
            refine va_put (ty := .int) hx hb hts in_X2 tyX2 tyX2_ok nmX2 hown hK hP hD hS 0 rfl rfl 5 (by decide) (hts _ q141) (fun _ h => h) rfl rfl rfl rfl (Nat.le_of_ble_eq_true rfl) dX2_jumps_70 (fun H locs hP hD hS => ?_)
            have hP : va_P D vwCl (ti_wF E f0 f1 f2 f3 f4 f5 ov ss ts lv nf (ti_wt (ss k, ts k, lv k) a b) x2 us los nj) H := hP
            have hD : va_D A (ti_wF E f0 f1 f2 f3 f4 f5 ov ss ts lv nf (ti_wt (ss k, ts k, lv k) a b) x2 us los nj) := hD
            refine lv_aload_n hx hb dX2_jumps_73 rfl (lv_at hl 1 rfl) ?_
            refine lv_aload_n hx hb dX2_jumps_74 rfl (lv_at hl 1 rfl) ?_
            refine va_get (v := .ref f3) hx hb hts in_X2 hown hK hP 0 rfl rfl 3 (by decide) (hts _ q137) (fun _ h => h) rfl dX2_jumps_75 ?_
            refine lv_iload_n hx hb dX2_jumps_78 rfl (lv_at hl 4 rfl) ?_
            refine tn_iald hx hb hK hP 3 0 rfl rfl (by omega) (by decide) dX2_jumps_79 ?_
            have b79 := hlv k
            refine va_put (ty := .int) hx hb hts in_X2 tyX2 tyX2_ok nmX2 hown hK hP hD hS 0 rfl rfl 6 (by decide) (hts _ q143) (fun _ h => h) rfl rfl rfl rfl (Nat.le_of_ble_eq_true rfl) dX2_jumps_80 (fun H locs hP hD hS => ?_)
            have hP : va_P D vwCl (ti_wF E f0 f1 f2 f3 f4 f5 ov ss ts lv nf (ti_wt (ss k, ts k, lv k) a b) (lv k) us los nj) H := hP
            have hD : va_D A (ti_wF E f0 f1 f2 f3 f4 f5 ov ss ts lv nf (ti_wt (ss k, ts k, lv k) a b) (lv k) us los nj) := hD
            refine lv_iinc (v := nI (k + 1)) (lv' := [(3, .int (nI (k + 1))), (4, .int (nI (ti_wt (ss k, ts k, lv k) a b))), (0, .ref f0), (1, .int (nI a)), (2, .int (nI b))]) hx hb dX2_jumps_83 hl (k := 4) rfl (nI_1 k) (by decide) rfl (fun ls hl => ?_)
            refine lv_goto (tgt := 7) hx hb dX2_jumps_86 (by decide) ?_
            exact ih7 (k + 1) (ti_wt (ss k, ts k, lv k) a b) (lv k) _ _ _ hP hD hS (by omega) (by omega) (hw) (hlv k) (by rw [hv, ti_jf, if_neg (by dsimp only; exact c21), if_neg (by dsimp only; first | omega | exact fun z => absurd z.2 (Nat.not_le.mpr c61)), show nf - (k + 1) = m9 by omega]) (lv_sub hl [2, 3, 4, 0] rfl)
          · skip
            refine lv_iload hx hb dX2_jumps_43 (lv_at hl 0 rfl) ?_
            refine lv_aload_n hx hb dX2_jumps_45 rfl (lv_at hl 1 rfl) ?_
            refine va_get (v := .int (nI x2)) hx hb hts in_X2 hown hK hP 0 rfl rfl 6 (by decide) (hts _ q143) (fun _ h => h) rfl dX2_jumps_46 ?_
            refine tn_mul hx hb dX2_jumps_49 ?_
            have b49 : (ti_wt (ss k, ts k, lv k) a b) * x2 ≤ 1799820 := Nat.mul_le_mul hw hx2
            refine lv_aload_n hx hb dX2_jumps_50 rfl (lv_at hl 1 rfl) ?_
            refine va_get (v := .int (nI x1)) hx hb hts in_X2 hown hK hP 0 rfl rfl 5 (by decide) (hts _ q141) (fun _ h => h) rfl dX2_jumps_51 ?_
            refine lv_aload_n hx hb dX2_jumps_54 rfl (lv_at hl 1 rfl) ?_
            refine va_get (v := .ref f3) hx hb hts in_X2 hown hK hP 0 rfl rfl 3 (by decide) (hts _ q137) (fun _ h => h) rfl dX2_jumps_55 ?_
            refine lv_iload_n hx hb dX2_jumps_58 rfl (lv_at hl 4 rfl) ?_
            refine tn_iald hx hb hK hP 3 0 rfl rfl (by omega) (by decide) dX2_jumps_59 ?_
            have b59 := hlv k
            refine tn_mul hx hb dX2_jumps_60 ?_
            have b60 : x1 * (lv k) ≤ 1799820 := Nat.mul_le_mul hx1 b59
            refine tn_lt (tgt := 67) hx hb dX2_jumps_61 (by decide) (by omega) (by omega) (fun c61 => ?_) (fun c61 => ?_)
            · skip
              refine lv_aload_n hx hb dX2_jumps_67 rfl (lv_at hl 1 rfl) ?_
              refine lv_iload hx hb dX2_jumps_68 (lv_at hl 0 rfl) ?_
              refine va_put (ty := .int) hx hb hts in_X2 tyX2 tyX2_ok nmX2 hown hK hP hD hS 0 rfl rfl 5 (by decide) (hts _ q141) (fun _ h => h) rfl rfl rfl rfl (Nat.le_of_ble_eq_true rfl) dX2_jumps_70 (fun H locs hP hD hS => ?_)
              have hP : va_P D vwCl (ti_wF E f0 f1 f2 f3 f4 f5 ov ss ts lv nf (ti_wt (ss k, ts k, lv k) a b) x2 us los nj) H := hP
              have hD : va_D A (ti_wF E f0 f1 f2 f3 f4 f5 ov ss ts lv nf (ti_wt (ss k, ts k, lv k) a b) x2 us los nj) := hD
              refine lv_aload_n hx hb dX2_jumps_73 rfl (lv_at hl 1 rfl) ?_
              refine lv_aload_n hx hb dX2_jumps_74 rfl (lv_at hl 1 rfl) ?_
              refine va_get (v := .ref f3) hx hb hts in_X2 hown hK hP 0 rfl rfl 3 (by decide) (hts _ q137) (fun _ h => h) rfl dX2_jumps_75 ?_
              refine lv_iload_n hx hb dX2_jumps_78 rfl (lv_at hl 4 rfl) ?_
              refine tn_iald hx hb hK hP 3 0 rfl rfl (by omega) (by decide) dX2_jumps_79 ?_
              have b79 := hlv k
              refine va_put (ty := .int) hx hb hts in_X2 tyX2 tyX2_ok nmX2 hown hK hP hD hS 0 rfl rfl 6 (by decide) (hts _ q143) (fun _ h => h) rfl rfl rfl rfl (Nat.le_of_ble_eq_true rfl) dX2_jumps_80 (fun H locs hP hD hS => ?_)
              have hP : va_P D vwCl (ti_wF E f0 f1 f2 f3 f4 f5 ov ss ts lv nf (ti_wt (ss k, ts k, lv k) a b) (lv k) us los nj) H := hP
              have hD : va_D A (ti_wF E f0 f1 f2 f3 f4 f5 ov ss ts lv nf (ti_wt (ss k, ts k, lv k) a b) (lv k) us los nj) := hD
              refine lv_iinc (v := nI (k + 1)) (lv' := [(3, .int (nI (k + 1))), (4, .int (nI (ti_wt (ss k, ts k, lv k) a b))), (0, .ref f0), (1, .int (nI a)), (2, .int (nI b))]) hx hb dX2_jumps_83 hl (k := 4) rfl (nI_1 k) (by decide) rfl (fun ls hl => ?_)
              refine lv_goto (tgt := 7) hx hb dX2_jumps_86 (by decide) ?_
              exact ih7 (k + 1) (ti_wt (ss k, ts k, lv k) a b) (lv k) _ _ _ hP hD hS (by omega) (by omega) (hw) (hlv k) (by rw [hv, ti_jf, if_neg (by dsimp only; exact c21), if_neg (by dsimp only; first | omega | exact fun z => absurd z.2 (Nat.not_le.mpr c61)), show nf - (k + 1) = m9 by omega]) (lv_sub hl [2, 3, 4, 0] rfl)
            · skip
              refine lv_goto (tgt := 83) hx hb dX2_jumps_64 (by decide) ?_
              refine lv_iinc (v := nI (k + 1)) (lv' := [(3, .int (nI (k + 1))), (4, .int (nI (ti_wt (ss k, ts k, lv k) a b))), (0, .ref f0), (1, .int (nI a)), (2, .int (nI b))]) hx hb dX2_jumps_83 hl (k := 4) rfl (nI_1 k) (by decide) rfl (fun ls hl => ?_)
              refine lv_goto (tgt := 7) hx hb dX2_jumps_86 (by decide) ?_
              exact ih7 (k + 1) x1 x2 _ _ _ hP hD hS (by omega) (by omega) (hx1) (hx2) (by first | (rw [hv, ti_jf, if_pos (by dsimp only; exact c21), show nf - (k + 1) = m9 by omega]; done) | rw [hv, ti_jf, if_neg (by dsimp only; exact c21), if_pos (by dsimp only; exact ⟨c40, c61⟩), show nf - (k + 1) = m9 by omega]) (lv_sub hl [2, 3, 4, 0] rfl)
        · skip
          refine lv_goto (tgt := 83) hx hb dX2_jumps_24 (by decide) ?_
          refine lv_iinc (v := nI (k + 1)) (lv' := [(3, .int (nI (k + 1))), (0, .ref f0), (1, .int (nI a)), (2, .int (nI b))]) hx hb dX2_jumps_83 hl (k := 3) rfl (nI_1 k) (by decide) rfl (fun ls hl => ?_)
          refine lv_goto (tgt := 7) hx hb dX2_jumps_86 (by decide) ?_
          exact ih7 (k + 1) x1 x2 _ _ _ hP hD hS (by omega) (by omega) (hx1) (hx2) (by first | (rw [hv, ti_jf, if_pos (by dsimp only; exact c21), show nf - (k + 1) = m9 by omega]; done) | rw [hv, ti_jf, if_neg (by dsimp only; exact c21), if_pos (by dsimp only; exact ⟨c40, c61⟩), show nf - (k + 1) = m9 by omega]) (lv_sub hl [1, 2, 3, 0] rfl)
  exact L7 _ 0 up 0 _ _ _ hP hD hS (Nat.lt_succ_self _) (by omega) (hup) (by omega) (rfl) (lv_sub hl [1, 2, 3, 0] rfl)

set_option maxHeartbeats 1000000 in
theorem met_X2_notes (l : Launch) (D : va_G) (E : Nat → ClassId) (f0 f1 f2 f3 f4 f5 : Nat) (ov : Value) (ss ts lv : Nat → Nat) (nf up low : Nat) (us los : Nat → Nat) (nj : Nat) (hup : up ≤ 180) (hlow : low ≤ 9999) (hus : ∀ k, us k ≤ 180) (hlos : ∀ k, los k ≤ 9999) (hnj : nj < 100) : ti_MetM (σ := (Nat → Nat) × (Nat → Nat) × Nat) l D E yX2_notes cX2_notes 3 none 0 0 0 (ti_wF E f0 f1 f2 f3 f4 f5 ov ss ts lv nf up low us los nj) [.ref f0] (fun u => ti_wF E f0 f1 f2 f3 f4 f5 ov ss ts lv nf up low u.1 u.2.1 u.2.2) (fun _ => none) (fun u => ti_gr u.1 u.2.1 0 u.2.2 = (ti_ji (up, low) (ti_gr us los 0 nj).reverse).reverse ∧ u.2.2 ≤ nj + 1 ∧ (∀ k, u.1 k ≤ 180) ∧ (∀ k, u.2.1 k ≤ 9999)) := by
  refine ti_mutV (σ := (Nat → Nat) × (Nat → Nat) × Nat) (by decide) (Nat.le_of_ble_eq_true rfl) ?_
  intro p e s m below meth c H H0 A Q ls S hE hP hD hS hA hinit hl hret
  have hx := S.1
  have hb := S.2.1
  have hown := S.2.2.2.1
  have hts := S.2.2.2.2
  have hK := hE.1
  have hl : lv_has ls 3 [(0, .ref f0)] := hl
  refine lv_aload_n hx hb dX2_notes_0 rfl (lv_at hl 0 rfl) ?_
  refine va_get (v := .int (nI nj)) hx hb hts in_X2 hown hK hP 0 rfl rfl 9 (by decide) (hts _ q149) (fun _ h => h) rfl dX2_notes_1 ?_
  refine lv_istore_n (lv' := [(1, .int (nI nj)), (0, .ref f0)]) hx hb dX2_notes_4 rfl hl (by decide) rfl (fun ls hl => ?_)
  have L5 : ∀ (N : Nat) (q : Nat) (ls : Array Slot) (H : Heap) (locs : List Loc), va_P D vwCl (ti_wF E f0 f1 f2 f3 f4 f5 ov ss ts lv nf up low us los nj) H → va_D A (ti_wF E f0 f1 f2 f3 f4 f5 ov ss ts lv nf up low us los nj) → va_S A H0 H locs → q < N → (q ≤ nj) → ((ti_ji (up, low) (ti_gr us los 0 nj).reverse).reverse = (ti_ji (up, low) ((ti_gr us los 0 nj).take q).reverse).reverse ++ (ti_gr us los 0 nj).drop q) → lv_has ls 3 [(0, .ref f0), (1, .int (nI q))] → W p l e (ti_rm 0 0 0) s m ([.ref f0] : List Value).toArray below meth c H locs 0 0 Q (F0 m 5 ls []) := by
    intro N
    induction N with
    | zero => intro q ls H locs hP hD hS h0; exact absurd h0 (Nat.not_lt_zero _)
    | succ N ih5 =>
      intro q ls H locs hP hD hS hN hqn hv hl
      refine lv_iload_n hx hb dX2_notes_5 rfl (lv_at hl 1 rfl) ?_
      refine tn_if_le (tgt := 44) hx hb dX2_notes_6 (by decide) (by omega) (fun c6 => ?_) (fun c6 => ?_)
      · skip
        refine lv_iload_n hx hb dX2_notes_44 rfl (lv_at hl 1 rfl) ?_
        refine tn_if_le (tgt := 78) hx hb dX2_notes_45 (by decide) (by omega) (fun c45 => ?_) (fun c45 => ?_)
        · skip
          have hp : (ti_ji (up, low) ((ti_gr us los 0 nj).take q).reverse).reverse = (ti_gr us los 0 nj).take q ++ [(up, low)] := by rw [c45]; rfl
          refine lv_aload_n hx hb dX2_notes_78 rfl (lv_at hl 0 rfl) ?_
          refine va_get (v := .int (nI nj)) hx hb hts in_X2 hown hK hP 0 rfl rfl 9 (by decide) (hts _ q149) (fun _ h => h) rfl dX2_notes_79 ?_
          refine lv_istore_n (lv' := [(2, .int (nI nj)), (0, .ref f0), (1, .int (nI q))]) hx hb dX2_notes_82 rfl hl (by decide) rfl (fun ls hl => ?_)
          have L83 : ∀ (N : Nat) (i : Nat) (g1 g2 : Nat → Nat) (ls : Array Slot) (H : Heap) (locs : List Loc), va_P D vwCl (ti_wF E f0 f1 f2 f3 f4 f5 ov ss ts lv nf up low g1 g2 nj) H → va_D A (ti_wF E f0 f1 f2 f3 f4 f5 ov ss ts lv nf up low g1 g2 nj) → va_S A H0 H locs → i < N → (q ≤ i) → (i ≤ nj) → (g1 = ti_ri i nj us) → (g2 = ti_ri i nj los) → (∀ j, g1 j ≤ 180) → (∀ j, g2 j ≤ 9999) → lv_has ls 3 [(0, .ref f0), (1, .int (nI q)), (2, .int (nI i))] → W p l e (ti_rm 0 0 0) s m ([.ref f0] : List Value).toArray below meth c H locs 0 0 Q (F0 m 83 ls []) := by
            intro N
            induction N with
            | zero => intro i g1 g2 ls H locs hP hD hS h0; exact absurd h0 (Nat.not_lt_zero _)
            | succ N ih83 =>
              intro i g1 g2 ls H locs hP hD hS hN hqi hin e1 e2 hg1 hg2 hl
              refine lv_iload_n hx hb dX2_notes_83 rfl (lv_at hl 2 rfl) ?_
              refine lv_iload_n hx hb dX2_notes_84 rfl (lv_at hl 1 rfl) ?_
              refine tn_le (tgt := 122) hx hb dX2_notes_85 (by decide) (by omega) (by omega) (fun c85 => ?_) (fun c85 => ?_)
              · skip
                obtain rfl : q = i := by omega
                refine lv_aload_n hx hb dX2_notes_122 rfl (lv_at hl 0 rfl) ?_
                refine va_get (v := .ref f4) hx hb hts in_X2 hown hK hP 0 rfl rfl 7 (by decide) (hts _ q145) (fun _ h => h) rfl dX2_notes_123 ?_
                refine lv_iload_n hx hb dX2_notes_126 rfl (lv_at hl 1 rfl) ?_
                refine lv_aload_n hx hb dX2_notes_127 rfl (lv_at hl 0 rfl) ?_
                refine va_get (v := .int (nI up)) hx hb hts in_X2 hown hK hP 0 rfl rfl 5 (by decide) (hts _ q141) (fun _ h => h) rfl dX2_notes_128 ?_
                refine tn_iast hx hb hK hP hD hS 4 0 rfl rfl (by omega) (by decide) dX2_notes_131 (fun H locs hP hD hS => ?_)
                have hP : va_P D vwCl (ti_wF E f0 f1 f2 f3 f4 f5 ov ss ts lv nf up low (va_up g1 q up) g2 nj) H := hP
                have hD : va_D A (ti_wF E f0 f1 f2 f3 f4 f5 ov ss ts lv nf up low (va_up g1 q up) g2 nj) := hD
                refine lv_aload_n hx hb dX2_notes_132 rfl (lv_at hl 0 rfl) ?_
                refine va_get (v := .ref f5) hx hb hts in_X2 hown hK hP 0 rfl rfl 8 (by decide) (hts _ q147) (fun _ h => h) rfl dX2_notes_133 ?_
                refine lv_iload_n hx hb dX2_notes_136 rfl (lv_at hl 1 rfl) ?_
                refine lv_aload_n hx hb dX2_notes_137 rfl (lv_at hl 0 rfl) ?_
                refine va_get (v := .int (nI low)) hx hb hts in_X2 hown hK hP 0 rfl rfl 6 (by decide) (hts _ q143) (fun _ h => h) rfl dX2_notes_138 ?_
                refine tn_iast hx hb hK hP hD hS 5 0 rfl rfl (by omega) (by decide) dX2_notes_141 (fun H locs hP hD hS => ?_)
                have hP : va_P D vwCl (ti_wF E f0 f1 f2 f3 f4 f5 ov ss ts lv nf up low (va_up g1 q up) (va_up g2 q low) nj) H := hP
                have hD : va_D A (ti_wF E f0 f1 f2 f3 f4 f5 ov ss ts lv nf up low (va_up g1 q up) (va_up g2 q low) nj) := hD
                refine lv_aload_n hx hb dX2_notes_142 rfl (lv_at hl 0 rfl) ?_
                refine lv_dup hx hb dX2_notes_143 rfl ?_
                refine va_get (v := .int (nI nj)) hx hb hts in_X2 hown hK hP 0 rfl rfl 9 (by decide) (hts _ q149) (fun _ h => h) rfl dX2_notes_144 ?_
                refine lv_iconst (v := nI 1) hx hb dX2_notes_147 (by decide) ?_
                refine tn_add hx hb dX2_notes_148 ?_
                refine va_put (ty := .int) hx hb hts in_X2 tyX2 tyX2_ok nmX2 hown hK hP hD hS 0 rfl rfl 9 (by decide) (hts _ q149) (fun _ h => h) rfl rfl rfl rfl (Nat.le_of_ble_eq_true rfl) dX2_notes_149 (fun H locs hP hD hS => ?_)
                have hP : va_P D vwCl (ti_wF E f0 f1 f2 f3 f4 f5 ov ss ts lv nf up low (va_up g1 q up) (va_up g2 q low) (nj + 1)) H := hP
                have hD : va_D A (ti_wF E f0 f1 f2 f3 f4 f5 ov ss ts lv nf up low (va_up g1 q up) (va_up g2 q low) (nj + 1)) := hD
                exact hret (va_up g1 q up, va_up g2 q low, nj + 1) _ _ _ _ _ _ dX2_notes_152 (⟨by rw [hv, hp, e1, e2, List.append_assoc, List.singleton_append]; exact ti_gr_put hqn us los _ _, Nat.le_refl _, ti_up_le hg1 hup, ti_up_le hg2 hlow⟩) hP hS (Nat.le_refl _) (Nat.le_refl _)
              · skip
                refine lv_aload_n hx hb dX2_notes_88 rfl (lv_at hl 0 rfl) ?_
                refine va_get (v := .ref f4) hx hb hts in_X2 hown hK hP 0 rfl rfl 7 (by decide) (hts _ q145) (fun _ h => h) rfl dX2_notes_89 ?_
                refine lv_iload_n hx hb dX2_notes_92 rfl (lv_at hl 2 rfl) ?_
                refine lv_aload_n hx hb dX2_notes_93 rfl (lv_at hl 0 rfl) ?_
                refine va_get (v := .ref f4) hx hb hts in_X2 hown hK hP 0 rfl rfl 7 (by decide) (hts _ q145) (fun _ h => h) rfl dX2_notes_94 ?_
                refine lv_iload_n hx hb dX2_notes_97 rfl (lv_at hl 2 rfl) ?_
                refine lv_iconst (v := nI 1) hx hb dX2_notes_98 (by decide) ?_
                refine tn_sub hx hb dX2_notes_99 (by omega) ?_
                refine tn_iald hx hb hK hP 4 0 rfl rfl (by omega) (by decide) dX2_notes_100 ?_
                have b100 := hg1 (i - 1)
                refine tn_iast hx hb hK hP hD hS 4 0 rfl rfl (by omega) (by decide) dX2_notes_101 (fun H locs hP hD hS => ?_)
                have hP : va_P D vwCl (ti_wF E f0 f1 f2 f3 f4 f5 ov ss ts lv nf up low (va_up g1 i (g1 (i - 1))) g2 nj) H := hP
                have hD : va_D A (ti_wF E f0 f1 f2 f3 f4 f5 ov ss ts lv nf up low (va_up g1 i (g1 (i - 1))) g2 nj) := hD
                refine lv_aload_n hx hb dX2_notes_102 rfl (lv_at hl 0 rfl) ?_
                refine va_get (v := .ref f5) hx hb hts in_X2 hown hK hP 0 rfl rfl 8 (by decide) (hts _ q147) (fun _ h => h) rfl dX2_notes_103 ?_
                refine lv_iload_n hx hb dX2_notes_106 rfl (lv_at hl 2 rfl) ?_
                refine lv_aload_n hx hb dX2_notes_107 rfl (lv_at hl 0 rfl) ?_
                refine va_get (v := .ref f5) hx hb hts in_X2 hown hK hP 0 rfl rfl 8 (by decide) (hts _ q147) (fun _ h => h) rfl dX2_notes_108 ?_
                refine lv_iload_n hx hb dX2_notes_111 rfl (lv_at hl 2 rfl) ?_
                refine lv_iconst (v := nI 1) hx hb dX2_notes_112 (by decide) ?_
                refine tn_sub hx hb dX2_notes_113 (by omega) ?_
                refine tn_iald hx hb hK hP 5 0 rfl rfl (by omega) (by decide) dX2_notes_114 ?_
                have b114 := hg2 (i - 1)
                refine tn_iast hx hb hK hP hD hS 5 0 rfl rfl (by omega) (by decide) dX2_notes_115 (fun H locs hP hD hS => ?_)
                have hP : va_P D vwCl (ti_wF E f0 f1 f2 f3 f4 f5 ov ss ts lv nf up low (va_up g1 i (g1 (i - 1))) (va_up g2 i (g2 (i - 1))) nj) H := hP
                have hD : va_D A (ti_wF E f0 f1 f2 f3 f4 f5 ov ss ts lv nf up low (va_up g1 i (g1 (i - 1))) (va_up g2 i (g2 (i - 1))) nj) := hD
                refine lv_iinc (v := nI (i - 1)) (lv' := [(2, .int (nI (i - 1))), (0, .ref f0), (1, .int (nI q))]) hx hb dX2_notes_116 hl (k := 2) rfl (sb_m1 (by omega)) (by decide) rfl (fun ls hl => ?_)
                refine lv_goto (tgt := 83) hx hb dX2_notes_119 (by decide) ?_
                exact ih83 (i - 1) (va_up g1 i (g1 (i - 1))) (va_up g2 i (g2 (i - 1))) _ _ _ hP hD hS (by omega) (by omega) (by omega) (by rw [e1]; exact ti_ri_up (by omega) hin us) (by rw [e2]; exact ti_ri_up (by omega) hin los) (ti_up_le hg1 (hg1 _)) (ti_up_le hg2 (hg2 _)) (lv_sub hl [1, 2, 0] rfl)
          exact L83 _ nj us los _ _ _ hP hD hS (Nat.lt_succ_self _) (hqn) (by omega) (ti_ri_0 nj us).symm (ti_ri_0 nj los).symm (hus) (hlos) (lv_sub hl [1, 2, 0] rfl)
        · skip
          exact absurd c6 (by omega)
      · skip
        have hqs : (ti_gr us los 0 nj)[q - 1]? = some (us (q - 1), los (q - 1)) := by rw [ti_gr_at (by omega), Nat.zero_add]
        obtain ⟨ht1, ht2⟩ := ti_take_s hqs
        rw [show q - 1 + 1 = q by omega] at ht1
        refine lv_aload_n hx hb dX2_notes_9 rfl (lv_at hl 0 rfl) ?_
        refine va_get (v := .ref f4) hx hb hts in_X2 hown hK hP 0 rfl rfl 7 (by decide) (hts _ q145) (fun _ h => h) rfl dX2_notes_10 ?_
        refine lv_iload_n hx hb dX2_notes_13 rfl (lv_at hl 1 rfl) ?_
        refine lv_iconst (v := nI 1) hx hb dX2_notes_14 (by decide) ?_
        refine tn_sub hx hb dX2_notes_15 (by omega) ?_
        refine tn_iald hx hb hK hP 4 0 rfl rfl (by omega) (by decide) dX2_notes_16 ?_
        have b16 := hus (q - 1)
        refine lv_aload_n hx hb dX2_notes_17 rfl (lv_at hl 0 rfl) ?_
        refine va_get (v := .int (nI low)) hx hb hts in_X2 hown hK hP 0 rfl rfl 6 (by decide) (hts _ q143) (fun _ h => h) rfl dX2_notes_18 ?_
        refine tn_mul hx hb dX2_notes_21 ?_
        have b21 : (us (q - 1)) * low ≤ 1799820 := Nat.mul_le_mul b16 hlow
        refine lv_aload_n hx hb dX2_notes_22 rfl (lv_at hl 0 rfl) ?_
        refine va_get (v := .int (nI up)) hx hb hts in_X2 hown hK hP 0 rfl rfl 5 (by decide) (hts _ q141) (fun _ h => h) rfl dX2_notes_23 ?_
        refine lv_aload_n hx hb dX2_notes_26 rfl (lv_at hl 0 rfl) ?_
        refine va_get (v := .ref f5) hx hb hts in_X2 hown hK hP 0 rfl rfl 8 (by decide) (hts _ q147) (fun _ h => h) rfl dX2_notes_27 ?_
        refine lv_iload_n hx hb dX2_notes_30 rfl (lv_at hl 1 rfl) ?_
        refine lv_iconst (v := nI 1) hx hb dX2_notes_31 (by decide) ?_
        refine tn_sub hx hb dX2_notes_32 (by omega) ?_
        refine tn_iald hx hb hK hP 5 0 rfl rfl (by omega) (by decide) dX2_notes_33 ?_
        have b33 := hlos (q - 1)
        refine tn_mul hx hb dX2_notes_34 ?_
        have b34 : up * (los (q - 1)) ≤ 1799820 := Nat.mul_le_mul hup b33
        refine tn_le (tgt := 44) hx hb dX2_notes_35 (by decide) (by omega) (by omega) (fun c35 => ?_) (fun c35 => ?_)
        · skip
          refine lv_iload_n hx hb dX2_notes_44 rfl (lv_at hl 1 rfl) ?_
          refine tn_if_le (tgt := 78) hx hb dX2_notes_45 (by decide) (by omega) (fun c45 => ?_) (fun c45 => ?_)
          · skip
            exact absurd c6 (by omega)
          · skip
            refine lv_aload_n hx hb dX2_notes_48 rfl (lv_at hl 0 rfl) ?_
            refine va_get (v := .ref f4) hx hb hts in_X2 hown hK hP 0 rfl rfl 7 (by decide) (hts _ q145) (fun _ h => h) rfl dX2_notes_49 ?_
            refine lv_iload_n hx hb dX2_notes_52 rfl (lv_at hl 1 rfl) ?_
            refine lv_iconst (v := nI 1) hx hb dX2_notes_53 (by decide) ?_
            refine tn_sub hx hb dX2_notes_54 (by omega) ?_
            refine tn_iald hx hb hK hP 4 0 rfl rfl (by omega) (by decide) dX2_notes_55 ?_
            have b55 := hus (q - 1)
            refine lv_aload_n hx hb dX2_notes_56 rfl (lv_at hl 0 rfl) ?_
            refine va_get (v := .int (nI low)) hx hb hts in_X2 hown hK hP 0 rfl rfl 6 (by decide) (hts _ q143) (fun _ h => h) rfl dX2_notes_57 ?_
            refine tn_mul hx hb dX2_notes_60 ?_
            have b60 : (us (q - 1)) * low ≤ 1799820 := Nat.mul_le_mul b55 hlow
            refine lv_aload_n hx hb dX2_notes_61 rfl (lv_at hl 0 rfl) ?_
            refine va_get (v := .int (nI up)) hx hb hts in_X2 hown hK hP 0 rfl rfl 5 (by decide) (hts _ q141) (fun _ h => h) rfl dX2_notes_62 ?_
            refine lv_aload_n hx hb dX2_notes_65 rfl (lv_at hl 0 rfl) ?_
            refine va_get (v := .ref f5) hx hb hts in_X2 hown hK hP 0 rfl rfl 8 (by decide) (hts _ q147) (fun _ h => h) rfl dX2_notes_66 ?_
            refine lv_iload_n hx hb dX2_notes_69 rfl (lv_at hl 1 rfl) ?_
            refine lv_iconst (v := nI 1) hx hb dX2_notes_70 (by decide) ?_
            refine tn_sub hx hb dX2_notes_71 (by omega) ?_
            refine tn_iald hx hb hK hP 5 0 rfl rfl (by omega) (by decide) dX2_notes_72 ?_
            have b72 := hlos (q - 1)
            refine tn_mul hx hb dX2_notes_73 ?_
            have b73 : up * (los (q - 1)) ≤ 1799820 := Nat.mul_le_mul hup b72
            refine tn_ne (tgt := 78) hx hb dX2_notes_74 (by decide) (by omega) (by omega) (fun c74 => ?_) (fun c74 => ?_)
            · skip
              have hp : (ti_ji (up, low) ((ti_gr us los 0 nj).take q).reverse).reverse = (ti_gr us los 0 nj).take q ++ [(up, low)] := by rw [ht1, List.reverse_append, List.reverse_singleton, List.singleton_append, ti_ji, if_neg (by dsimp only; omega), if_neg (by dsimp only; exact c74)]; simp
              refine lv_aload_n hx hb dX2_notes_78 rfl (lv_at hl 0 rfl) ?_
              refine va_get (v := .int (nI nj)) hx hb hts in_X2 hown hK hP 0 rfl rfl 9 (by decide) (hts _ q149) (fun _ h => h) rfl dX2_notes_79 ?_
              refine lv_istore_n (lv' := [(2, .int (nI nj)), (0, .ref f0), (1, .int (nI q))]) hx hb dX2_notes_82 rfl hl (by decide) rfl (fun ls hl => ?_)
              have L83 : ∀ (N : Nat) (i : Nat) (g1 g2 : Nat → Nat) (ls : Array Slot) (H : Heap) (locs : List Loc), va_P D vwCl (ti_wF E f0 f1 f2 f3 f4 f5 ov ss ts lv nf up low g1 g2 nj) H → va_D A (ti_wF E f0 f1 f2 f3 f4 f5 ov ss ts lv nf up low g1 g2 nj) → va_S A H0 H locs → i < N → (q ≤ i) → (i ≤ nj) → (g1 = ti_ri i nj us) → (g2 = ti_ri i nj los) → (∀ j, g1 j ≤ 180) → (∀ j, g2 j ≤ 9999) → lv_has ls 3 [(0, .ref f0), (1, .int (nI q)), (2, .int (nI i))] → W p l e (ti_rm 0 0 0) s m ([.ref f0] : List Value).toArray below meth c H locs 0 0 Q (F0 m 83 ls []) := by
                intro N
                induction N with
                | zero => intro i g1 g2 ls H locs hP hD hS h0; exact absurd h0 (Nat.not_lt_zero _)
                | succ N ih83 =>
                  intro i g1 g2 ls H locs hP hD hS hN hqi hin e1 e2 hg1 hg2 hl
                  refine lv_iload_n hx hb dX2_notes_83 rfl (lv_at hl 2 rfl) ?_
                  refine lv_iload_n hx hb dX2_notes_84 rfl (lv_at hl 1 rfl) ?_
                  refine tn_le (tgt := 122) hx hb dX2_notes_85 (by decide) (by omega) (by omega) (fun c85 => ?_) (fun c85 => ?_)
                  · skip
                    obtain rfl : q = i := by omega
                    refine lv_aload_n hx hb dX2_notes_122 rfl (lv_at hl 0 rfl) ?_
                    refine va_get (v := .ref f4) hx hb hts in_X2 hown hK hP 0 rfl rfl 7 (by decide) (hts _ q145) (fun _ h => h) rfl dX2_notes_123 ?_
                    refine lv_iload_n hx hb dX2_notes_126 rfl (lv_at hl 1 rfl) ?_
                    refine lv_aload_n hx hb dX2_notes_127 rfl (lv_at hl 0 rfl) ?_
                    refine va_get (v := .int (nI up)) hx hb hts in_X2 hown hK hP 0 rfl rfl 5 (by decide) (hts _ q141) (fun _ h => h) rfl dX2_notes_128 ?_
                    refine tn_iast hx hb hK hP hD hS 4 0 rfl rfl (by omega) (by decide) dX2_notes_131 (fun H locs hP hD hS => ?_)
                    have hP : va_P D vwCl (ti_wF E f0 f1 f2 f3 f4 f5 ov ss ts lv nf up low (va_up g1 q up) g2 nj) H := hP
                    have hD : va_D A (ti_wF E f0 f1 f2 f3 f4 f5 ov ss ts lv nf up low (va_up g1 q up) g2 nj) := hD
                    refine lv_aload_n hx hb dX2_notes_132 rfl (lv_at hl 0 rfl) ?_
                    refine va_get (v := .ref f5) hx hb hts in_X2 hown hK hP 0 rfl rfl 8 (by decide) (hts _ q147) (fun _ h => h) rfl dX2_notes_133 ?_
                    refine lv_iload_n hx hb dX2_notes_136 rfl (lv_at hl 1 rfl) ?_
                    refine lv_aload_n hx hb dX2_notes_137 rfl (lv_at hl 0 rfl) ?_
                    refine va_get (v := .int (nI low)) hx hb hts in_X2 hown hK hP 0 rfl rfl 6 (by decide) (hts _ q143) (fun _ h => h) rfl dX2_notes_138 ?_
                    refine tn_iast hx hb hK hP hD hS 5 0 rfl rfl (by omega) (by decide) dX2_notes_141 (fun H locs hP hD hS => ?_)
                    have hP : va_P D vwCl (ti_wF E f0 f1 f2 f3 f4 f5 ov ss ts lv nf up low (va_up g1 q up) (va_up g2 q low) nj) H := hP
                    have hD : va_D A (ti_wF E f0 f1 f2 f3 f4 f5 ov ss ts lv nf up low (va_up g1 q up) (va_up g2 q low) nj) := hD
                    refine lv_aload_n hx hb dX2_notes_142 rfl (lv_at hl 0 rfl) ?_
                    refine lv_dup hx hb dX2_notes_143 rfl ?_
                    refine va_get (v := .int (nI nj)) hx hb hts in_X2 hown hK hP 0 rfl rfl 9 (by decide) (hts _ q149) (fun _ h => h) rfl dX2_notes_144 ?_
                    refine lv_iconst (v := nI 1) hx hb dX2_notes_147 (by decide) ?_
                    refine tn_add hx hb dX2_notes_148 ?_
                    refine va_put (ty := .int) hx hb hts in_X2 tyX2 tyX2_ok nmX2 hown hK hP hD hS 0 rfl rfl 9 (by decide) (hts _ q149) (fun _ h => h) rfl rfl rfl rfl (Nat.le_of_ble_eq_true rfl) dX2_notes_149 (fun H locs hP hD hS => ?_)
                    have hP : va_P D vwCl (ti_wF E f0 f1 f2 f3 f4 f5 ov ss ts lv nf up low (va_up g1 q up) (va_up g2 q low) (nj + 1)) H := hP
                    have hD : va_D A (ti_wF E f0 f1 f2 f3 f4 f5 ov ss ts lv nf up low (va_up g1 q up) (va_up g2 q low) (nj + 1)) := hD
                    exact hret (va_up g1 q up, va_up g2 q low, nj + 1) _ _ _ _ _ _ dX2_notes_152 (⟨by rw [hv, hp, e1, e2, List.append_assoc, List.singleton_append]; exact ti_gr_put hqn us los _ _, Nat.le_refl _, ti_up_le hg1 hup, ti_up_le hg2 hlow⟩) hP hS (Nat.le_refl _) (Nat.le_refl _)
                  · skip
                    refine lv_aload_n hx hb dX2_notes_88 rfl (lv_at hl 0 rfl) ?_
                    refine va_get (v := .ref f4) hx hb hts in_X2 hown hK hP 0 rfl rfl 7 (by decide) (hts _ q145) (fun _ h => h) rfl dX2_notes_89 ?_
                    refine lv_iload_n hx hb dX2_notes_92 rfl (lv_at hl 2 rfl) ?_
                    refine lv_aload_n hx hb dX2_notes_93 rfl (lv_at hl 0 rfl) ?_
                    refine va_get (v := .ref f4) hx hb hts in_X2 hown hK hP 0 rfl rfl 7 (by decide) (hts _ q145) (fun _ h => h) rfl dX2_notes_94 ?_
                    refine lv_iload_n hx hb dX2_notes_97 rfl (lv_at hl 2 rfl) ?_
                    refine lv_iconst (v := nI 1) hx hb dX2_notes_98 (by decide) ?_
                    refine tn_sub hx hb dX2_notes_99 (by omega) ?_
                    refine tn_iald hx hb hK hP 4 0 rfl rfl (by omega) (by decide) dX2_notes_100 ?_
                    have b100 := hg1 (i - 1)
                    refine tn_iast hx hb hK hP hD hS 4 0 rfl rfl (by omega) (by decide) dX2_notes_101 (fun H locs hP hD hS => ?_)
                    have hP : va_P D vwCl (ti_wF E f0 f1 f2 f3 f4 f5 ov ss ts lv nf up low (va_up g1 i (g1 (i - 1))) g2 nj) H := hP
                    have hD : va_D A (ti_wF E f0 f1 f2 f3 f4 f5 ov ss ts lv nf up low (va_up g1 i (g1 (i - 1))) g2 nj) := hD
                    refine lv_aload_n hx hb dX2_notes_102 rfl (lv_at hl 0 rfl) ?_
                    refine va_get (v := .ref f5) hx hb hts in_X2 hown hK hP 0 rfl rfl 8 (by decide) (hts _ q147) (fun _ h => h) rfl dX2_notes_103 ?_
                    refine lv_iload_n hx hb dX2_notes_106 rfl (lv_at hl 2 rfl) ?_
                    refine lv_aload_n hx hb dX2_notes_107 rfl (lv_at hl 0 rfl) ?_
                    refine va_get (v := .ref f5) hx hb hts in_X2 hown hK hP 0 rfl rfl 8 (by decide) (hts _ q147) (fun _ h => h) rfl dX2_notes_108 ?_
                    refine lv_iload_n hx hb dX2_notes_111 rfl (lv_at hl 2 rfl) ?_
                    refine lv_iconst (v := nI 1) hx hb dX2_notes_112 (by decide) ?_
                    refine tn_sub hx hb dX2_notes_113 (by omega) ?_
                    refine tn_iald hx hb hK hP 5 0 rfl rfl (by omega) (by decide) dX2_notes_114 ?_
                    have b114 := hg2 (i - 1)
                    refine tn_iast hx hb hK hP hD hS 5 0 rfl rfl (by omega) (by decide) dX2_notes_115 (fun H locs hP hD hS => ?_)
                    have hP : va_P D vwCl (ti_wF E f0 f1 f2 f3 f4 f5 ov ss ts lv nf up low (va_up g1 i (g1 (i - 1))) (va_up g2 i (g2 (i - 1))) nj) H := hP
                    have hD : va_D A (ti_wF E f0 f1 f2 f3 f4 f5 ov ss ts lv nf up low (va_up g1 i (g1 (i - 1))) (va_up g2 i (g2 (i - 1))) nj) := hD
                    refine lv_iinc (v := nI (i - 1)) (lv' := [(2, .int (nI (i - 1))), (0, .ref f0), (1, .int (nI q))]) hx hb dX2_notes_116 hl (k := 2) rfl (sb_m1 (by omega)) (by decide) rfl (fun ls hl => ?_)
                    refine lv_goto (tgt := 83) hx hb dX2_notes_119 (by decide) ?_
                    exact ih83 (i - 1) (va_up g1 i (g1 (i - 1))) (va_up g2 i (g2 (i - 1))) _ _ _ hP hD hS (by omega) (by omega) (by omega) (by rw [e1]; exact ti_ri_up (by omega) hin us) (by rw [e2]; exact ti_ri_up (by omega) hin los) (ti_up_le hg1 (hg1 _)) (ti_up_le hg2 (hg2 _)) (lv_sub hl [1, 2, 0] rfl)
              exact L83 _ nj us los _ _ _ hP hD hS (Nat.lt_succ_self _) (hqn) (by omega) (ti_ri_0 nj us).symm (ti_ri_0 nj los).symm (hus) (hlos) (lv_sub hl [1, 2, 0] rfl)
            · skip
              exact hret (us, los, nj) _ _ _ _ _ _ dX2_notes_77 (⟨by rw [hv, ht1, List.reverse_append, List.reverse_singleton, List.singleton_append, ti_ji, if_neg (by dsimp only; omega), if_pos (by dsimp only; exact c74), List.reverse_cons, List.reverse_reverse, ← ht1, List.take_append_drop], by dsimp only; omega, hus, hlos⟩) hP hS (Nat.le_refl _) (Nat.le_refl _)
        · skip
          refine lv_iinc (v := nI (q - 1)) (lv' := [(1, .int (nI (q - 1))), (0, .ref f0)]) hx hb dX2_notes_38 hl (k := 1) rfl (sb_m1 (by omega)) (by decide) rfl (fun ls hl => ?_)
          refine lv_goto (tgt := 5) hx hb dX2_notes_41 (by decide) ?_
          exact ih5 (q - 1) _ _ _ hP hD hS (by omega) (by omega) (by rw [hv, ht1, List.reverse_append, List.reverse_singleton, List.singleton_append, ti_ji, if_pos (by dsimp only; exact c35), ht2, List.reverse_cons, List.append_assoc, List.singleton_append]; rw [show q - 1 + 1 = q by omega]) (lv_sub hl [1, 0] rfl)
  exact L5 _ nj _ _ _ hP hD hS (Nat.lt_succ_self _) (by omega) (by rw [List.take_of_length_le (by rw [ti_gr_len]; omega), List.drop_of_length_le (by rw [ti_gr_len]; omega), List.append_nil]) (lv_sub hl [1, 0] rfl)

set_option maxHeartbeats 1000000 in
theorem met_X2_lists (l : Launch) (D : va_G) (E : Nat → ClassId) (f0 f1 f2 f3 f4 f5 : Nat) (ov : Value) (ss ts lv : Nat → Nat) (nf up low : Nat) (us los : Nat → Nat) (nj : Nat) (hnf : nf ≤ 8) (hss : ∀ k, ss k ≤ 9) (hts9 : ∀ k, ts k ≤ 9) (hlv : ∀ k, lv k ≤ 9999) (hup : up ≤ 180) (hlow : low ≤ 9999) (hus : ∀ k, us k ≤ 180) (hlos : ∀ k, los k ≤ 9999) : ti_MetM (σ := Nat × Nat × (Nat → Nat) × (Nat → Nat) × Nat) l D E yX2_lists cX2_lists 2 (some .int) 2 0 0 (ti_wF E f0 f1 f2 f3 f4 f5 ov ss ts lv nf up low us los nj) [.ref f0] (fun u => ti_wF E f0 f1 f2 f3 f4 f5 ov ss ts lv nf u.1 u.2.1 u.2.2.1 u.2.2.2.1 u.2.2.2.2) (fun u => some (.int ((fun u => nI u.2.2.2.2) u))) (fun u => ti_gr u.2.2.1 u.2.2.2.1 0 u.2.2.2.2 = (ti_jl (ti_fr ss ts lv 0 nf) (List.range' 0 100) []).reverse ∧ u.2.2.2.2 ≤ 100 ∧ u.1 ≤ 180 ∧ u.2.1 ≤ 9999 ∧ (∀ k, u.2.2.1 k ≤ 180) ∧ (∀ k, u.2.2.2.1 k ≤ 9999)) := by
  refine ti_mutI (σ := Nat × Nat × (Nat → Nat) × (Nat → Nat) × Nat) (vi := fun u => nI u.2.2.2.2) (by decide) (Nat.le_of_ble_eq_true rfl) ?_
  intro p e s m below meth c H H0 A Q ls S hE hP hD hS hA hinit hl hret
  have hx := S.1
  have hb := S.2.1
  have hown := S.2.2.2.1
  have hts := S.2.2.2.2
  have hK := hE.1
  have hl : lv_has ls 2 [(0, .ref f0)] := hl
  refine lv_aload_n hx hb dX2_lists_0 rfl (lv_at hl 0 rfl) ?_
  refine lv_iconst (v := nI 0) hx hb dX2_lists_1 (by decide) ?_
  refine va_put (ty := .int) hx hb hts in_X2 tyX2 tyX2_ok nmX2 hown hK hP hD hS 0 rfl rfl 9 (by decide) (hts _ q149) (fun _ h => h) rfl rfl rfl rfl (Nat.le_of_ble_eq_true rfl) dX2_lists_2 (fun H locs hP hD hS => ?_)
  have hP : va_P D vwCl (ti_wF E f0 f1 f2 f3 f4 f5 ov ss ts lv nf up low us los 0) H := hP
  have hD : va_D A (ti_wF E f0 f1 f2 f3 f4 f5 ov ss ts lv nf up low us los 0) := hD
  refine lv_iconst (v := nI 0) hx hb dX2_lists_5 (by decide) ?_
  refine lv_istore_n (lv' := [(1, .int (nI 0)), (0, .ref f0)]) hx hb dX2_lists_6 rfl hl (by decide) rfl (fun ls hl => ?_)
  have L7 : ∀ (N : Nat) (k z x1 x2 : Nat) (g1 g2 : Nat → Nat) (ls : Array Slot) (H : Heap) (locs : List Loc), va_P D vwCl (ti_wF E f0 f1 f2 f3 f4 f5 ov ss ts lv nf x1 x2 g1 g2 z) H → va_D A (ti_wF E f0 f1 f2 f3 f4 f5 ov ss ts lv nf x1 x2 g1 g2 z) → va_S A H0 H locs → (100 - k) < N → (k ≤ 100) → (z ≤ k) → (x1 ≤ 180) → (x2 ≤ 9999) → (∀ j, g1 j ≤ 180) → (∀ j, g2 j ≤ 9999) → (ti_jl (ti_fr ss ts lv 0 nf) (List.range' 0 100) [] = ti_jl (ti_fr ss ts lv 0 nf) (List.range' k (100 - k)) (ti_gr g1 g2 0 z).reverse) → lv_has ls 2 [(0, .ref f0), (1, .int (nI k))] → W p l e (ti_rm 2 0 0) s m ([.ref f0] : List Value).toArray below meth c H locs 0 0 Q (F0 m 7 ls []) := by
    intro N
    induction N with
    | zero => intro k z x1 x2 g1 g2 ls H locs hP hD hS h0; exact absurd h0 (Nat.not_lt_zero _)
    | succ N ih7 =>
      intro k z x1 x2 g1 g2 ls H locs hP hD hS hN hkn hz hx1 hx2 hg1 hg2 hv hl
      refine lv_iload_n hx hb dX2_lists_7 rfl (lv_at hl 1 rfl) ?_
      refine lv_bipush (v := nI 100) hx hb dX2_lists_8 (by decide) ?_
      refine tn_ge (tgt := 38) hx hb dX2_lists_10 (by decide) (by omega) (by omega) (fun c10 => ?_) (fun c10 => ?_)
      · skip
        rw [show 100 - k = 0 by omega] at hv
        refine lv_aload_n hx hb dX2_lists_38 rfl (lv_at hl 0 rfl) ?_
        refine va_get (v := .int (nI z)) hx hb hts in_X2 hown hK hP 0 rfl rfl 9 (by decide) (hts _ q149) (fun _ h => h) rfl dX2_lists_39 ?_
        exact hret (x1, x2, g1, g2, z) _ _ _ _ _ _ _ dX2_lists_42 (rfl) (⟨by rw [hv]; exact (List.reverse_reverse _).symm, by dsimp only; omega, hx1, hx2, hg1, hg2⟩) hP hS (Nat.le_refl _) (Nat.le_refl _)
      · skip
        obtain ⟨m9, hm9⟩ : ∃ m9, 100 - k = m9 + 1 := ⟨100 - k - 1, by omega⟩
        rw [hm9, show List.range' k (m9 + 1) = k :: List.range' (k + 1) m9 from rfl] at hv
        refine lv_aload_n hx hb dX2_lists_13 rfl (lv_at hl 0 rfl) ?_
        refine lv_iload_n hx hb dX2_lists_14 rfl (lv_at hl 1 rfl) ?_
        refine lv_bipush (v := nI 10) hx hb dX2_lists_15 (by decide) ?_
        refine tn_div hx hb dX2_lists_17 (by omega) (by omega) (by omega) ?_
        refine lv_iload_n hx hb dX2_lists_18 rfl (lv_at hl 1 rfl) ?_
        refine lv_bipush (v := nI 10) hx hb dX2_lists_19 (by decide) ?_
        refine tn_rem hx hb dX2_lists_21 (by omega) (by omega) (by omega) ?_
        refine ti_mV (As := [.int (nI (k / 10)), .int (nI (k % 10))]) (rest := []) S hE hP hD hS hA [0, 1, 2, 3, 4, 5] rfl (met_X2_jumps l D E f0 f1 f2 f3 f4 f5 ov ss ts lv nf x1 x2 g1 g2 z hnf hss hts9 hlv (k / 10) (k % 10) (by omega) (by omega) hx1 hx2) rfl (fun _ => rfl) (lw_V q610 q611 q612 q68 q613) 2 rfl 0 rfl rfl (by decide +kernel) ⟨Nat.le_of_ble_eq_true rfl, Nat.le_of_ble_eq_true rfl⟩ hl.1 rfl (Nat.le_of_ble_eq_true rfl) ⟨Nat.le_refl _, Nat.le_refl _⟩ dX2_lists_22 (fun u1 H locs hu hP hD hS => ?_)
        obtain ⟨y1, y2⟩ := u1
        have hj : (y1, y2) = ti_jf (k / 10) (k % 10) (ti_fr ss ts lv 0 nf) (x1, 0) := hu
        have hjb := ti_jf_le (k / 10) (k % 10) (by omega) (by omega) (ti_fr ss ts lv 0 nf) (x1, 0) (ti_fr_le hss hts9 hlv 0 nf) hx1 (Nat.zero_le _)
        rw [← hj] at hjb
        have hj2 := ti_jf_start (k / 10) (k % 10) (ti_fr ss ts lv 0 nf) x1
        rw [← hj] at hj2
        have hP : va_P D vwCl (ti_wF E f0 f1 f2 f3 f4 f5 ov ss ts lv nf y1 y2 g1 g2 z) H := hP
        have hD : va_D A (ti_wF E f0 f1 f2 f3 f4 f5 ov ss ts lv nf y1 y2 g1 g2 z) := hD
        refine W.eq (g2 := F0 m 25 ls [.int (ti_b (decide (y2 ≠ 0)))]) rfl ?_
        refine tb_eq (tgt := 32) hx hb dX2_lists_25 (by decide) (fun c25 => ?_) (fun c25 => ?_)
        · skip
          refine lv_iinc (v := nI (k + 1)) (lv' := [(1, .int (nI (k + 1))), (0, .ref f0)]) hx hb dX2_lists_32 hl (k := 1) rfl (nI_1 k) (by decide) rfl (fun ls hl => ?_)
          refine lv_goto (tgt := 7) hx hb dX2_lists_35 (by decide) ?_
          exact ih7 (k + 1) z y1 y2 g1 g2 _ _ _ hP hD hS (by omega) (by omega) (by omega) (hjb.1) (hjb.2) (hg1) (hg2) (by rw [hv, ti_jl, if_pos (by rw [← hj2.1]; exact Classical.not_not.mp (of_decide_eq_false c25)), show 100 - (k + 1) = m9 by omega]) (lv_sub hl [1, 0] rfl)
        · skip
          refine lv_aload_n hx hb dX2_lists_28 rfl (lv_at hl 0 rfl) ?_
          refine ti_mV (As := []) (rest := []) S hE hP hD hS hA [0, 1, 2, 3, 4, 5] rfl (met_X2_notes l D E f0 f1 f2 f3 f4 f5 ov ss ts lv nf y1 y2 g1 g2 z hjb.1 hjb.2 hg1 hg2 (by omega)) rfl (fun _ => rfl) (lw_V q618 q620 qs12 q68 q621) 0 rfl 0 rfl rfl (by decide +kernel) ⟨Nat.le_of_ble_eq_true rfl, Nat.le_of_ble_eq_true rfl⟩ hl.1 rfl (Nat.le_of_ble_eq_true rfl) ⟨Nat.le_refl _, Nat.le_refl _⟩ dX2_lists_29 (fun u2 H locs hu hP hD hS => ?_)
          obtain ⟨v1, v2, v3⟩ := u2
          obtain ⟨hn1, hn2, hn3, hn4⟩ := hu
          dsimp only at hn1 hn2 hn3 hn4
          have hP : va_P D vwCl (ti_wF E f0 f1 f2 f3 f4 f5 ov ss ts lv nf y1 y2 v1 v2 v3) H := hP
          have hD : va_D A (ti_wF E f0 f1 f2 f3 f4 f5 ov ss ts lv nf y1 y2 v1 v2 v3) := hD
          refine W.eq (g2 := F0 m 32 ls []) rfl ?_
          refine lv_iinc (v := nI (k + 1)) (lv' := [(1, .int (nI (k + 1))), (0, .ref f0)]) hx hb dX2_lists_32 hl (k := 1) rfl (nI_1 k) (by decide) rfl (fun ls hl => ?_)
          refine lv_goto (tgt := 7) hx hb dX2_lists_35 (by decide) ?_
          exact ih7 (k + 1) v3 y1 y2 v1 v2 _ _ _ hP hD hS (by omega) (by omega) (by omega) (hjb.1) (hjb.2) (hn3) (hn4) (by rw [hv, ti_jl, if_neg (by rw [← hj2.1]; exact of_decide_eq_true c25), hn1, hj2.2 (by rw [← hj2.1]; exact of_decide_eq_true c25), List.reverse_reverse, show 100 - (k + 1) = m9 by omega]) (lv_sub hl [1, 0] rfl)
  exact L7 _ 0 0 up low us los _ _ _ hP hD hS (Nat.lt_succ_self _) (by omega) (by omega) (hup) (hlow) (hus) (hlos) (rfl) (lv_sub hl [1, 0] rfl)
