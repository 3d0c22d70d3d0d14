/-! TermIdeals$Faces.weighs (printed by w_weighs.py) -/
set_option maxRecDepth 100000
theorem ti_notA1 {q a sz : Nat} {e : va_E} (hne : q ≠ a) (hlt : q < sz) : ¬ va_A [(a, e)] sz q := by
  intro h
  rcases h with ⟨k, e', hk⟩ | h
  · have hz : k < 1 := (List.getElem?_eq_some_iff.mp hk).1
    rw [show k = 0 by omega] at hk
    cases hk
    exact hne rfl
  · omega
theorem ti_free.lt {a : Nat} {H : Heap} (h : ti_free a H) : a < H.size := by
  obtain ⟨c0, hc0, -⟩ := h
  exact (Array.getElem?_eq_some_iff.mp hc0).1
theorem ti_d7 : ∀ j, j < 7 → defaultValue (tyX12 j) = vp_V [.null, .null, .null, .null, .null, .int 0, .int 0] j := by
  intro j hj
  match j, hj with
  | 0, _ => rfl
  | 1, _ => rfl
  | 2, _ => rfl
  | 3, _ => rfl
  | 4, _ => rfl
  | 5, _ => rfl
  | 6, _ => rfl
theorem ti_d7L : ∀ j, j < 7 → defaultValue (tyX13 j) = vp_V [.null, .null, .null, .null, .null, .int 0, .int 0] j := by
  intro j hj
  match j, hj with
  | 0, _ => rfl
  | 1, _ => rfl
  | 2, _ => rfl
  | 3, _ => rfl
  | 4, _ => rfl
  | 5, _ => rfl
  | 6, _ => rfl

set_option maxHeartbeats 1000000 in
theorem met_X2_weighs_ok (l : Launch) (D : va_G) (E : Nat → ClassId) (f0 f1 f2 f3 f4 f5 : Nat) (ov : Value) (ss ts lv : Nat → Nat) (nf up low : Nat) (us los : Nat → Nat) (nj : Nat) (hnf : nf ≤ 8) (hss : ∀ k, ss k ≤ 9) (hts9 : ∀ k, ts k ≤ 9) (hlv : ∀ k, lv k ≤ 9999) (f : Nat) (hf : f < 8) (a b : Nat) (ha9 : a ≤ 9) (hb9 : b ≤ 9) (num den : Nat) (hnum : num ≤ 99) (hden : den ≤ 99) (hok : lv f = 0 ∨ num * lv f < ti_wt (ss f, ts f, lv f) a b * den) : ti_MetM (σ := Unit) l D E yX2_weighs cX2_weighs 7 none 1 0 0 (ti_wF E f0 f1 f2 f3 f4 f5 ov ss ts lv nf up low us los nj) [.ref f0, .int (nI f), .int (nI a), .int (nI b), .int (nI num), .int (nI den)] (fun _ => ti_wF E f0 f1 f2 f3 f4 f5 ov ss ts lv nf up low us los nj) (fun _ => none) (fun _ => True) := by
  refine ti_mutV (σ := Unit) (by decide) (Nat.le_of_ble_eq_true rfl) ?_
  intro p e s m below meth c H H0 A Q ls S hE hP hD hS hA hinit hl hret
  have hx := S.1
  have hb := S.2.1
  have hown := S.2.2.2.1
  have hts := S.2.2.2.2
  have hK := hE.1
  have hl : lv_has ls 7 [(0, .ref f0), (1, .int (nI f)), (2, .int (nI a)), (3, .int (nI b)), (4, .int (nI num)), (5, .int (nI den))] := hl
  refine lv_aload_n hx hb dX2_weighs_0 rfl (lv_at hl 0 rfl) ?_
  refine lv_iload_n hx hb dX2_weighs_1 rfl (lv_at hl 1 rfl) ?_
  refine lv_iload_n hx hb dX2_weighs_2 rfl (lv_at hl 2 rfl) ?_
  refine lv_iload_n hx hb dX2_weighs_3 rfl (lv_at hl 3 rfl) ?_
  have hw : ti_wt (ss f, ts f, lv f) a b ≤ 180 := ti_wt_le (hss f) (hts9 f) ha9 hb9
  refine ti_pV (As := [.int (nI f), .int (nI a), .int (nI b)]) (rest := []) (v := .int (nI (ti_wt (ss f, ts f, lv f) a b))) S hE hP [0, 1, 2, 3, 4, 5] (met_X2_weight l D E f0 f1 f2 f3 f4 f5 ov ss ts lv nf up low us los nj hnf hss hts9 hlv f hf a b ha9 hb9) rfl (lw_V q614 q616 qs11 q68 q617) 3 rfl 0 rfl rfl (by decide +kernel) ⟨Nat.le_of_ble_eq_true rfl, Nat.le_of_ble_eq_true rfl⟩ hl.1 rfl (Nat.le_of_ble_eq_true rfl) ⟨Nat.le_refl _, Nat.le_refl _⟩ dX2_weighs_4 ?_
  refine lv_istore (lv' := [(6, .int (nI (ti_wt (ss f, ts f, lv f) a b))), (0, .ref f0), (1, .int (nI f)), (2, .int (nI a)), (3, .int (nI b)), (4, .int (nI num)), (5, .int (nI den))]) hx hb dX2_weighs_7 hl (by decide) rfl (fun ls hl => ?_)
  refine lv_aload_n hx hb dX2_weighs_9 rfl (lv_at hl 1 rfl) ?_
  refine va_get (v := .ref f3) hx hb hts in_X2 hown hK hP 0 rfl rfl 3 (by decide) (hts _ q137) (fun _ h => h) rfl dX2_weighs_10 ?_
  refine lv_iload_n hx hb dX2_weighs_13 rfl (lv_at hl 2 rfl) ?_
  refine tn_iald (f := lv) hx hb hK hP 3 0 rfl rfl (by omega) (by decide) dX2_weighs_14 ?_
  have b14 := hlv f
  refine tn_if_eq (tgt := 35) hx hb dX2_weighs_15 (by decide) (by omega) (fun c15 => ?_) (fun c15 => ?_)
  · skip
    exact hret () _ _ _ _ _ _ dX2_weighs_35 (trivial) hP hS (Nat.le_refl _) (Nat.le_refl _)
  · skip
    refine lv_iload hx hb dX2_weighs_18 (lv_at hl 0 rfl) ?_
    refine lv_iload hx hb dX2_weighs_20 (lv_at hl 6 rfl) ?_
    refine tn_mul hx hb dX2_weighs_22 ?_
    have b22 : (ti_wt (ss f, ts f, lv f) a b) * den ≤ 17820 := Nat.mul_le_mul hw hden
    refine lv_iload hx hb dX2_weighs_23 (lv_at hl 5 rfl) ?_
    refine lv_aload_n hx hb dX2_weighs_25 rfl (lv_at hl 1 rfl) ?_
    refine va_get (v := .ref f3) hx hb hts in_X2 hown hK hP 0 rfl rfl 3 (by decide) (hts _ q137) (fun _ h => h) rfl dX2_weighs_26 ?_
    refine lv_iload_n hx hb dX2_weighs_29 rfl (lv_at hl 2 rfl) ?_
    refine tn_iald (f := lv) hx hb hK hP 3 0 rfl rfl (by omega) (by decide) dX2_weighs_30 ?_
    have b30 := hlv f
    refine tn_mul hx hb dX2_weighs_31 ?_
    have b31 : num * (lv f) ≤ 989901 := Nat.mul_le_mul hnum b30
    refine tn_le (tgt := 36) hx hb dX2_weighs_32 (by decide) (by omega) (by omega) (fun c32 => ?_) (fun c32 => ?_)
    · skip
      rcases hok with hok | hok <;> omega
    · skip
      exact hret () _ _ _ _ _ _ dX2_weighs_35 (trivial) hP hS (Nat.le_refl _) (Nat.le_refl _)

set_option maxHeartbeats 2000000 in
theorem met_X2_weighs_x (l : Launch) (D : va_G) (E : Nat → ClassId) (htr : l.stackTraces = false) (z0 : Nat) (f0 f1 f2 f3 f4 f5 : Nat) (ov : Value) (ss ts lv : Nat → Nat) (nf up low : Nat) (us los : Nat → Nat) (nj : Nat) (hnf : nf ≤ 8) (hss : ∀ k, ss k ≤ 9) (hts9 : ∀ k, ts k ≤ 9) (hlv : ∀ k, lv k ≤ 9999) (f : Nat) (hf : f < 8) (a b : Nat) (ha9 : a ≤ 9) (hb9 : b ≤ 9) (num den : Nat) (hnum : num ≤ 99) (hden : den ≤ 99) (hbar : ¬ (lv f = 0 ∨ num * lv f < ti_wt (ss f, ts f, lv f) a b * den)) : ti_MetX (σ := Unit) (τ := (Nat × Nat × Nat × Nat) × (Value × Value) × (Value × Value) × (Value × Value) × (Value × Value)) l D E yX2_weighs (ws_ yX2_weighs cX2_weighs 7 none) 7 4 28 z0 (ti_wF E f0 f1 f2 f3 f4 f5 ov ss ts lv nf up low us los nj) [.ref f0, .int (nI f), .int (nI a), .int (nI b), .int (nI num), .int (nI den)] (fun _ => True) (fun _ => ti_wF E f0 f1 f2 f3 f4 f5 ov ss ts lv nf up low us los nj) (fun _ => none) (fun _ => False) (fun _ _ => True) (fun w => RX13) (fun w => w.1.1) (fun w => ti_wF E f0 f1 f2 f3 f4 f5 ov ss ts lv nf up low us los nj) (fun w => [(w.1.1, .inr (13, [.ref w.1.2.1, w.2.1.1, w.2.1.2, .null, .null, .int 0, .int (nI (ti_wt (ss f, ts f, lv f) a b))])), (w.1.2.1, .inr (12, [.ref w.1.2.2.1, w.2.2.1.1, w.2.2.1.2, .null, .null, .int 0, .int (nI (lv f))])), (w.1.2.2.1, .inr (12, [.ref w.1.2.2.2, w.2.2.2.1.1, w.2.2.2.1.2, .null, .null, .int 0, .int (nI num)])), (w.1.2.2.2, .inr (12, [.ref w.1.2.2.2, w.2.2.2.2.1, w.2.2.2.2.2, .null, .null, .int 0, .int (nI den)]))]) (fun _ => True) (fun w H => ti_free w.1.1 H ∧ ti_free w.1.2.1 H ∧ ti_free w.1.2.2.1 H ∧ ti_free w.1.2.2.2 H ∧ w.1.1 < w.1.2.1 ∧ w.1.2.1 < w.1.2.2.1 ∧ w.1.2.2.1 < w.1.2.2.2) := by
  refine ti_metX (by decide) (Nat.le_of_ble_eq_true rfl) ?_
  intro p e s m below meth c H A Q ls S hE hP hD hS hA hZ hAz hx0 hnoex hl hret hq
  obtain ⟨rfl, hr, hlk, hinit⟩ := hq
  have hsz0 := hS.1
  have hx := S.1
  have hb := S.2.1
  have hown := S.2.2.2.1
  have hts := S.2.2.2.2
  have hK := hE.1
  have hl : lv_has ls 7 [(0, .ref f0), (1, .int (nI f)), (2, .int (nI a)), (3, .int (nI b)), (4, .int (nI num)), (5, .int (nI den))] := hl
  refine lv_aload_n hx hb dX2_weighs_0 rfl (lv_at hl 0 rfl) ?_
  refine lv_iload_n hx hb dX2_weighs_1 rfl (lv_at hl 1 rfl) ?_
  refine lv_iload_n hx hb dX2_weighs_2 rfl (lv_at hl 2 rfl) ?_
  refine lv_iload_n hx hb dX2_weighs_3 rfl (lv_at hl 3 rfl) ?_
  have hw : ti_wt (ss f, ts f, lv f) a b ≤ 180 := ti_wt_le (hss f) (hts9 f) ha9 hb9
  refine ti_pV (As := [.int (nI f), .int (nI a), .int (nI b)]) (rest := []) (v := .int (nI (ti_wt (ss f, ts f, lv f) a b))) S hE hP [0, 1, 2, 3, 4, 5] (met_X2_weight l D E f0 f1 f2 f3 f4 f5 ov ss ts lv nf up low us los nj hnf hss hts9 hlv f hf a b ha9 hb9) rfl (lw_V q614 q616 qs11 q68 q617) 3 rfl 0 rfl rfl (by decide +kernel) ⟨Nat.le_of_ble_eq_true rfl, Nat.le_of_ble_eq_true rfl⟩ hl.1 rfl (Nat.le_of_ble_eq_true rfl) ⟨Nat.le_of_ble_eq_true rfl, Nat.le_of_ble_eq_true rfl⟩ dX2_weighs_4 ?_
  refine lv_istore (lv' := [(6, .int (nI (ti_wt (ss f, ts f, lv f) a b))), (0, .ref f0), (1, .int (nI f)), (2, .int (nI a)), (3, .int (nI b)), (4, .int (nI num)), (5, .int (nI den))]) hx hb dX2_weighs_7 hl (by decide) rfl (fun ls hl => ?_)
  refine lv_aload_n hx hb dX2_weighs_9 rfl (lv_at hl 1 rfl) ?_
  refine va_get (v := .ref f3) hx hb hts in_X2 hown hK hP 0 rfl rfl 3 (by decide) (hts _ q137) (fun _ h => h) rfl dX2_weighs_10 ?_
  refine lv_iload_n hx hb dX2_weighs_13 rfl (lv_at hl 2 rfl) ?_
  refine tn_iald (f := lv) hx hb hK hP 3 0 rfl rfl (by omega) (by decide) dX2_weighs_14 ?_
  have b14 := hlv f
  refine tn_if_eq (tgt := 35) hx hb dX2_weighs_15 (by decide) (by omega) (fun c15 => ?_) (fun c15 => ?_)
  · skip
    omega
  · skip
    refine lv_iload hx hb dX2_weighs_18 (lv_at hl 0 rfl) ?_
    refine lv_iload hx hb dX2_weighs_20 (lv_at hl 6 rfl) ?_
    refine tn_mul hx hb dX2_weighs_22 ?_
    have b22 : (ti_wt (ss f, ts f, lv f) a b) * den ≤ 17820 := Nat.mul_le_mul hw hden
    refine lv_iload hx hb dX2_weighs_23 (lv_at hl 5 rfl) ?_
    refine lv_aload_n hx hb dX2_weighs_25 rfl (lv_at hl 1 rfl) ?_
    refine va_get (v := .ref f3) hx hb hts in_X2 hown hK hP 0 rfl rfl 3 (by decide) (hts _ q137) (fun _ h => h) rfl dX2_weighs_26 ?_
    refine lv_iload_n hx hb dX2_weighs_29 rfl (lv_at hl 2 rfl) ?_
    refine tn_iald (f := lv) hx hb hK hP 3 0 rfl rfl (by omega) (by decide) dX2_weighs_30 ?_
    have b30 := hlv f
    refine tn_mul hx hb dX2_weighs_31 ?_
    have b31 : num * (lv f) ≤ 989901 := Nat.mul_le_mul hnum b30
    refine tn_le (tgt := 36) hx hb dX2_weighs_32 (by decide) (by omega) (by omega) (fun c32 => ?_) (fun c32 => ?_)
    · skip
      refine ti_newM hx hb hts in_X13 tyX13 tyX13_ok hown (hts _ q651) (hts _ q656) (hts _ q83) hK hP hD hS hA (ci := 13) rfl ti_d7L (Nat.le_of_ble_eq_true rfl) (Nat.le_of_ble_eq_true rfl) dX2_weighs_36 (fun q1 H hq1 hs1 hf1 ho1 hP hD hS => ?_)
      have hP : va_P D vwCl (ti_wF E f0 f1 f2 f3 f4 f5 ov ss ts lv nf up low us los nj ++ [(q1, .inr (13, [.null, .null, .null, .null, .null, .int 0, .int 0]))]) H := hP
      have hD : va_D A (ti_wF E f0 f1 f2 f3 f4 f5 ov ss ts lv nf up low us los nj ++ [(q1, .inr (13, [.null, .null, .null, .null, .null, .int 0, .int 0]))]) := hD
      have fr_q1 : ti_free q1 H := hf1
      refine lv_dup hx hb dX2_weighs_39 rfl ?_
      refine lv_iload hx hb dX2_weighs_40 (lv_at hl 0 rfl) ?_
      refine ti_newM hx hb hts in_X12 tyX12 tyX12_ok hown (hts _ q664) (hts _ q665) (hts _ q82) hK hP hD hS hA (ci := 12) rfl ti_d7 (Nat.le_of_ble_eq_true rfl) (Nat.le_of_ble_eq_true rfl) dX2_weighs_42 (fun q2 H hq2 hs2 hf2 ho2 hP hD hS => ?_)
      have hP : va_P D vwCl (ti_wF E f0 f1 f2 f3 f4 f5 ov ss ts lv nf up low us los nj ++ [(q1, .inr (13, [.null, .null, .null, .null, .null, .int 0, .int 0]))] ++ [(q2, .inr (12, [.null, .null, .null, .null, .null, .int 0, .int 0]))]) H := hP
      have hD : va_D A (ti_wF E f0 f1 f2 f3 f4 f5 ov ss ts lv nf up low us los nj ++ [(q1, .inr (13, [.null, .null, .null, .null, .null, .int 0, .int 0]))] ++ [(q2, .inr (12, [.null, .null, .null, .null, .null, .int 0, .int 0]))]) := hD
      have fr_q1 : ti_free q1 H := (ti_free.kept fr_q1 (ho2 _ (ti_free.lt fr_q1)))
      have fr_q2 : ti_free q2 H := hf2
      refine lv_dup hx hb dX2_weighs_45 rfl ?_
      refine lv_aload_n hx hb dX2_weighs_46 rfl (lv_at hl 1 rfl) ?_
      refine va_get (v := .ref f3) hx hb hts in_X2 hown hK hP 0 rfl rfl 3 (by decide) (hts _ q137) (fun _ h => h) rfl dX2_weighs_47 ?_
      refine lv_iload_n hx hb dX2_weighs_50 rfl (lv_at hl 2 rfl) ?_
      refine tn_iald (f := lv) hx hb hK hP 3 0 rfl rfl (by omega) (by decide) dX2_weighs_51 ?_
      have b51 := hlv f
      refine ti_newM hx hb hts in_X12 tyX12 tyX12_ok hown (hts _ q664) (hts _ q665) (hts _ q82) hK hP hD hS hA (ci := 12) rfl ti_d7 (Nat.le_of_ble_eq_true rfl) (Nat.le_of_ble_eq_true rfl) dX2_weighs_52 (fun q3 H hq3 hs3 hf3 ho3 hP hD hS => ?_)
      have hP : va_P D vwCl (ti_wF E f0 f1 f2 f3 f4 f5 ov ss ts lv nf up low us los nj ++ [(q1, .inr (13, [.null, .null, .null, .null, .null, .int 0, .int 0]))] ++ [(q2, .inr (12, [.null, .null, .null, .null, .null, .int 0, .int 0]))] ++ [(q3, .inr (12, [.null, .null, .null, .null, .null, .int 0, .int 0]))]) H := hP
      have hD : va_D A (ti_wF E f0 f1 f2 f3 f4 f5 ov ss ts lv nf up low us los nj ++ [(q1, .inr (13, [.null, .null, .null, .null, .null, .int 0, .int 0]))] ++ [(q2, .inr (12, [.null, .null, .null, .null, .null, .int 0, .int 0]))] ++ [(q3, .inr (12, [.null, .null, .null, .null, .null, .int 0, .int 0]))]) := hD
      have fr_q1 : ti_free q1 H := (ti_free.kept fr_q1 (ho3 _ (ti_free.lt fr_q1)))
      have fr_q2 : ti_free q2 H := (ti_free.kept fr_q2 (ho3 _ (ti_free.lt fr_q2)))
      have fr_q3 : ti_free q3 H := hf3
      refine lv_dup hx hb dX2_weighs_55 rfl ?_
      refine lv_iload hx hb dX2_weighs_56 (lv_at hl 5 rfl) ?_
      refine ti_newM hx hb hts in_X12 tyX12 tyX12_ok hown (hts _ q664) (hts _ q665) (hts _ q82) hK hP hD hS hA (ci := 12) rfl ti_d7 (Nat.le_of_ble_eq_true rfl) (Nat.le_of_ble_eq_true rfl) dX2_weighs_58 (fun q4 H hq4 hs4 hf4 ho4 hP hD hS => ?_)
      have hP : va_P D vwCl (ti_wF E f0 f1 f2 f3 f4 f5 ov ss ts lv nf up low us los nj ++ [(q1, .inr (13, [.null, .null, .null, .null, .null, .int 0, .int 0]))] ++ [(q2, .inr (12, [.null, .null, .null, .null, .null, .int 0, .int 0]))] ++ [(q3, .inr (12, [.null, .null, .null, .null, .null, .int 0, .int 0]))] ++ [(q4, .inr (12, [.null, .null, .null, .null, .null, .int 0, .int 0]))]) H := hP
      have hD : va_D A (ti_wF E f0 f1 f2 f3 f4 f5 ov ss ts lv nf up low us los nj ++ [(q1, .inr (13, [.null, .null, .null, .null, .null, .int 0, .int 0]))] ++ [(q2, .inr (12, [.null, .null, .null, .null, .null, .int 0, .int 0]))] ++ [(q3, .inr (12, [.null, .null, .null, .null, .null, .int 0, .int 0]))] ++ [(q4, .inr (12, [.null, .null, .null, .null, .null, .int 0, .int 0]))]) := hD
      have fr_q1 : ti_free q1 H := (ti_free.kept fr_q1 (ho4 _ (ti_free.lt fr_q1)))
      have fr_q2 : ti_free q2 H := (ti_free.kept fr_q2 (ho4 _ (ti_free.lt fr_q2)))
      have fr_q3 : ti_free q3 H := (ti_free.kept fr_q3 (ho4 _ (ti_free.lt fr_q3)))
      have fr_q4 : ti_free q4 H := hf4
      refine lv_dup hx hb dX2_weighs_61 rfl ?_
      refine lv_iload hx hb dX2_weighs_62 (lv_at hl 6 rfl) ?_
      refine ti_fI16 (As := [.int (nI den)]) (rest := [.ref q4, .int (nI num), .ref q3, .ref q3, .int (nI (lv f)), .ref q2, .ref q2, .int (nI (ti_wt (ss f, ts f, lv f) a b)), .ref q1, .ref q1]) S hE hP hD hS hA rfl hZ hAz fr_q4 [9] rfl (met_X12_init l D E htr z0 q4 (nI den)) rfl (fun _ => rfl) (lw_meth q675) q82 q673 q674 rfl 1 rfl (by decide +kernel) ⟨Nat.le_of_ble_eq_true rfl, Nat.le_of_ble_eq_true rfl⟩ hl.1 rfl (Nat.le_of_ble_eq_true rfl) ⟨Nat.le_of_ble_eq_true rfl, Nat.le_of_ble_eq_true rfl⟩ dX2_weighs_64 (fun w4 H locs hu hxq hFr hP hD hS => ?_)
      have fr_q1 : ti_free q1 H := ti_free.kept fr_q1 (hFr _ (ti_free.lt fr_q1) (ti_notA1 (by omega) (ti_free.lt fr_q1)))
      have fr_q2 : ti_free q2 H := ti_free.kept fr_q2 (hFr _ (ti_free.lt fr_q2) (ti_notA1 (by omega) (ti_free.lt fr_q2)))
      have fr_q3 : ti_free q3 H := ti_free.kept fr_q3 (hFr _ (ti_free.lt fr_q3) (ti_notA1 (by omega) (ti_free.lt fr_q3)))
      have fr_q4 : ti_free q4 H := hxq
      have hP : va_P D vwCl (ti_wF E f0 f1 f2 f3 f4 f5 ov ss ts lv nf up low us los nj ++ [(q1, .inr (13, [.null, .null, .null, .null, .null, .int 0, .int 0]))] ++ [(q2, .inr (12, [.null, .null, .null, .null, .null, .int 0, .int 0]))] ++ [(q3, .inr (12, [.null, .null, .null, .null, .null, .int 0, .int 0]))] ++ [(q4, .inr (12, [.ref q4, w4.1, w4.2, .null, .null, .int 0, .int (nI den)]))]) H := hP
      have hD : va_D A (ti_wF E f0 f1 f2 f3 f4 f5 ov ss ts lv nf up low us los nj ++ [(q1, .inr (13, [.null, .null, .null, .null, .null, .int 0, .int 0]))] ++ [(q2, .inr (12, [.null, .null, .null, .null, .null, .int 0, .int 0]))] ++ [(q3, .inr (12, [.null, .null, .null, .null, .null, .int 0, .int 0]))] ++ [(q4, .inr (12, [.ref q4, w4.1, w4.2, .null, .null, .int 0, .int (nI den)]))]) := hD
      refine W.eq (g2 := F0 m 67 ls [.ref q4, .int (nI num), .ref q3, .ref q3, .int (nI (lv f)), .ref q2, .ref q2, .int (nI (ti_wt (ss f, ts f, lv f) a b)), .ref q1, .ref q1]) rfl ?_
      refine ti_fI (As := [.int (nI num), .ref q4]) (rest := [.ref q3, .int (nI (lv f)), .ref q2, .ref q2, .int (nI (ti_wt (ss f, ts f, lv f) a b)), .ref q1, .ref q1]) S hE hP hD hS hA rfl hZ hAz fr_q3 [8] rfl (met_X12_init_2_X12 l D E htr z0 q3 q4 (nI num)) rfl (fun _ => rfl) (lw_meth q684) q82 q682 q683 rfl 2 rfl (by decide +kernel) ⟨Nat.le_of_ble_eq_true rfl, Nat.le_of_ble_eq_true rfl⟩ hl.1 rfl (Nat.le_of_ble_eq_true rfl) ⟨Nat.le_of_ble_eq_true rfl, Nat.le_of_ble_eq_true rfl⟩ dX2_weighs_67 (fun w3 H locs hu hxq hFr hP hD hS => ?_)
      have fr_q1 : ti_free q1 H := ti_free.kept fr_q1 (hFr _ (ti_free.lt fr_q1) (ti_notA1 (by omega) (ti_free.lt fr_q1)))
      have fr_q2 : ti_free q2 H := ti_free.kept fr_q2 (hFr _ (ti_free.lt fr_q2) (ti_notA1 (by omega) (ti_free.lt fr_q2)))
      have fr_q3 : ti_free q3 H := hxq
      have fr_q4 : ti_free q4 H := ti_free.kept fr_q4 (hFr _ (ti_free.lt fr_q4) (ti_notA1 (by omega) (ti_free.lt fr_q4)))
      have hP : va_P D vwCl (ti_wF E f0 f1 f2 f3 f4 f5 ov ss ts lv nf up low us los nj ++ [(q1, .inr (13, [.null, .null, .null, .null, .null, .int 0, .int 0]))] ++ [(q2, .inr (12, [.null, .null, .null, .null, .null, .int 0, .int 0]))] ++ [(q3, .inr (12, [.ref q4, w3.1, w3.2, .null, .null, .int 0, .int (nI num)]))] ++ [(q4, .inr (12, [.ref q4, w4.1, w4.2, .null, .null, .int 0, .int (nI den)]))]) H := hP
      have hD : va_D A (ti_wF E f0 f1 f2 f3 f4 f5 ov ss ts lv nf up low us los nj ++ [(q1, .inr (13, [.null, .null, .null, .null, .null, .int 0, .int 0]))] ++ [(q2, .inr (12, [.null, .null, .null, .null, .null, .int 0, .int 0]))] ++ [(q3, .inr (12, [.ref q4, w3.1, w3.2, .null, .null, .int 0, .int (nI num)]))] ++ [(q4, .inr (12, [.ref q4, w4.1, w4.2, .null, .null, .int 0, .int (nI den)]))]) := hD
      refine W.eq (g2 := F0 m 70 ls [.ref q3, .int (nI (lv f)), .ref q2, .ref q2, .int (nI (ti_wt (ss f, ts f, lv f) a b)), .ref q1, .ref q1]) rfl ?_
      refine ti_fI (As := [.int (nI (lv f)), .ref q3]) (rest := [.ref q2, .int (nI (ti_wt (ss f, ts f, lv f) a b)), .ref q1, .ref q1]) S hE hP hD hS hA rfl hZ hAz fr_q2 [7] rfl (met_X12_init_2_X12 l D E htr z0 q2 q3 (nI (lv f))) rfl (fun _ => rfl) (lw_meth q684) q82 q682 q683 rfl 2 rfl (by decide +kernel) ⟨Nat.le_of_ble_eq_true rfl, Nat.le_of_ble_eq_true rfl⟩ hl.1 rfl (Nat.le_of_ble_eq_true rfl) ⟨Nat.le_of_ble_eq_true rfl, Nat.le_of_ble_eq_true rfl⟩ dX2_weighs_70 (fun w2 H locs hu hxq hFr hP hD hS => ?_)
      have fr_q1 : ti_free q1 H := ti_free.kept fr_q1 (hFr _ (ti_free.lt fr_q1) (ti_notA1 (by omega) (ti_free.lt fr_q1)))
      have fr_q2 : ti_free q2 H := hxq
      have fr_q3 : ti_free q3 H := ti_free.kept fr_q3 (hFr _ (ti_free.lt fr_q3) (ti_notA1 (by omega) (ti_free.lt fr_q3)))
      have fr_q4 : ti_free q4 H := ti_free.kept fr_q4 (hFr _ (ti_free.lt fr_q4) (ti_notA1 (by omega) (ti_free.lt fr_q4)))
      have hP : va_P D vwCl (ti_wF E f0 f1 f2 f3 f4 f5 ov ss ts lv nf up low us los nj ++ [(q1, .inr (13, [.null, .null, .null, .null, .null, .int 0, .int 0]))] ++ [(q2, .inr (12, [.ref q3, w2.1, w2.2, .null, .null, .int 0, .int (nI (lv f))]))] ++ [(q3, .inr (12, [.ref q4, w3.1, w3.2, .null, .null, .int 0, .int (nI num)]))] ++ [(q4, .inr (12, [.ref q4, w4.1, w4.2, .null, .null, .int 0, .int (nI den)]))]) H := hP
      have hD : va_D A (ti_wF E f0 f1 f2 f3 f4 f5 ov ss ts lv nf up low us los nj ++ [(q1, .inr (13, [.null, .null, .null, .null, .null, .int 0, .int 0]))] ++ [(q2, .inr (12, [.ref q3, w2.1, w2.2, .null, .null, .int 0, .int (nI (lv f))]))] ++ [(q3, .inr (12, [.ref q4, w3.1, w3.2, .null, .null, .int 0, .int (nI num)]))] ++ [(q4, .inr (12, [.ref q4, w4.1, w4.2, .null, .null, .int 0, .int (nI den)]))]) := hD
      refine W.eq (g2 := F0 m 73 ls [.ref q2, .int (nI (ti_wt (ss f, ts f, lv f) a b)), .ref q1, .ref q1]) rfl ?_
      refine ti_fI (As := [.int (nI (ti_wt (ss f, ts f, lv f) a b)), .ref q2]) (rest := [.ref q1]) S hE hP hD hS hA rfl hZ hAz fr_q1 [6] rfl (met_X13_init l D E htr z0 q1 q2 (nI (ti_wt (ss f, ts f, lv f) a b))) rfl (fun _ => rfl) (lw_meth q693) q83 q691 q692 rfl 2 rfl (by decide +kernel) ⟨Nat.le_of_ble_eq_true rfl, Nat.le_of_ble_eq_true rfl⟩ hl.1 rfl (Nat.le_of_ble_eq_true rfl) ⟨Nat.le_of_ble_eq_true rfl, Nat.le_of_ble_eq_true rfl⟩ dX2_weighs_73 (fun w1 H locs hu hxq hFr hP hD hS => ?_)
      have fr_q1 : ti_free q1 H := hxq
      have fr_q2 : ti_free q2 H := ti_free.kept fr_q2 (hFr _ (ti_free.lt fr_q2) (ti_notA1 (by omega) (ti_free.lt fr_q2)))
      have fr_q3 : ti_free q3 H := ti_free.kept fr_q3 (hFr _ (ti_free.lt fr_q3) (ti_notA1 (by omega) (ti_free.lt fr_q3)))
      have fr_q4 : ti_free q4 H := ti_free.kept fr_q4 (hFr _ (ti_free.lt fr_q4) (ti_notA1 (by omega) (ti_free.lt fr_q4)))
      have hP : va_P D vwCl (ti_wF E f0 f1 f2 f3 f4 f5 ov ss ts lv nf up low us los nj ++ [(q1, .inr (13, [.ref q2, w1.1, w1.2, .null, .null, .int 0, .int (nI (ti_wt (ss f, ts f, lv f) a b))]))] ++ [(q2, .inr (12, [.ref q3, w2.1, w2.2, .null, .null, .int 0, .int (nI (lv f))]))] ++ [(q3, .inr (12, [.ref q4, w3.1, w3.2, .null, .null, .int 0, .int (nI num)]))] ++ [(q4, .inr (12, [.ref q4, w4.1, w4.2, .null, .null, .int 0, .int (nI den)]))]) H := hP
      have hD : va_D A (ti_wF E f0 f1 f2 f3 f4 f5 ov ss ts lv nf up low us los nj ++ [(q1, .inr (13, [.ref q2, w1.1, w1.2, .null, .null, .int 0, .int (nI (ti_wt (ss f, ts f, lv f) a b))]))] ++ [(q2, .inr (12, [.ref q3, w2.1, w2.2, .null, .null, .int 0, .int (nI (lv f))]))] ++ [(q3, .inr (12, [.ref q4, w3.1, w3.2, .null, .null, .int 0, .int (nI num)]))] ++ [(q4, .inr (12, [.ref q4, w4.1, w4.2, .null, .null, .int 0, .int (nI den)]))]) := hD
      refine W.eq (g2 := F0 m 76 ls [.ref q1]) rfl ?_
      refine ti_throwOut hx hb hnoex hlk dX2_weighs_76 hK ((q1, q2, q3, q4), w1, w2, w3, w4) 0 rfl rfl trivial (ti_subC (is := [0, 1, 2, 3, 4, 5]) rfl hP) (ti_subC (is := [6, 7, 8, 9]) rfl hP) (fun k z hz => ?_) ⟨fr_q1, fr_q2, fr_q3, fr_q4, (show q1 < q2 by omega), (show q2 < q3 by omega), (show q3 < q4 by omega)⟩ hS (Nat.le_of_ble_eq_true rfl) (Nat.le_of_ble_eq_true rfl)
      have hk : k < 4 := (List.getElem?_eq_some_iff.mp hz).1
      match k, hk with
      | 0, _ => cases hz; show s.heap.size ≤ q1; omega
      | 1, _ => cases hz; show s.heap.size ≤ q2; omega
      | 2, _ => cases hz; show s.heap.size ≤ q3; omega
      | 3, _ => cases hz; show s.heap.size ≤ q4; omega
    · skip
      omega
