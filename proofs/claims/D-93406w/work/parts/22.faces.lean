/-! TermIdeals$Faces: methods without exceptions (printed by w_faces.py) -/
set_option maxRecDepth 100000

set_option maxHeartbeats 1000000 in
theorem met_X2_hasInHull (l : Launch) (D : va_G) (E : Nat → ClassId) (f0 f1 f2 f3 f4 f5 : Nat) (ov : Value) (ss ts lv : Nat → Nat) (nf up low : Nat) (us los : Nat → Nat) (nj : Nat) (hnf : nf ≤ 8) (hss : ∀ k, ss k ≤ 9) (hts9 : ∀ k, ts k ≤ 9) (hlv : ∀ k, lv k ≤ 9999) (a b : Nat) (ha9 : a ≤ 9) (hb9 : b ≤ 9) : ti_MetP l D E yX2_hasInHull cX2_hasInHull 4 (some .boolean) 0 (ti_wF E f0 f1 f2 f3 f4 f5 ov ss ts lv nf up low us los nj) [.ref f0, .int (nI a), .int (nI b)] (some (.int (ti_b (ti_hull a b (ti_fr ss ts lv 0 nf))))) := by
  refine ti_pureZ (by decide) (Nat.le_of_ble_eq_true rfl) ?_
  intro p e s m below meth c H locs Q ls S hE hP hl hret
  have hx := S.1
  have hb := S.2.1
  have hown := S.2.2.2.1
  have hts := S.2.2.2.2
  have hK := hE.1
  have hl : lv_has ls 4 [(0, .ref f0), (1, .int (nI a)), (2, .int (nI b))] := hl
  refine lv_iconst (v := nI 0) hx hb dX2_hasInHull_0 (by decide) ?_
  refine lv_istore_n (lv' := [(3, .int (nI 0)), (0, .ref f0), (1, .int (nI a)), (2, .int (nI b))]) hx hb dX2_hasInHull_1 rfl hl (by decide) rfl (fun ls hl => ?_)
  have L2 : ∀ (N : Nat) (k : Nat) (ls : Array Slot), (nf - k) < N → (k ≤ nf) → (ti_hull a b (ti_fr ss ts lv 0 nf) = ti_hull a b (ti_fr ss ts lv k (nf - k))) → lv_has ls 4 [(0, .ref f0), (1, .int (nI a)), (2, .int (nI b)), (3, .int (nI k))] → W p l e (ti_rm 0 0 0) s m ([.ref f0, .int (nI a), .int (nI b)] : List Value).toArray below meth c H locs 0 0 Q (F0 m 2 ls []) := by
    intro N
    induction N with
    | zero => intro k ls h0; exact absurd h0 (Nat.not_lt_zero _)
    | succ N ih2 =>
      intro k ls hN hkn hv hl
      refine lv_iload_n hx hb dX2_hasInHull_2 rfl (lv_at hl 3 rfl) ?_
      refine lv_aload_n hx hb dX2_hasInHull_3 rfl (lv_at hl 0 rfl) ?_
      refine va_get (v := .int (nI nf)) hx hb hts in_X2 hown hK hP 0 rfl rfl 4 (by decide) (hts _ q139) (fun _ h => h) rfl dX2_hasInHull_4 ?_
      refine tn_ge (tgt := 44) hx hb dX2_hasInHull_7 (by decide) (by omega) (by omega) (fun c7 => ?_) (fun c7 => ?_)
      · skip
        rw [show nf - k = 0 by omega, ti_fr_0] at hv
        refine lv_iconst (v := nI 1) hx hb dX2_hasInHull_44 (by decide) ?_
        exact hret _ _ _ dX2_hasInHull_45 (by rw [hv]; rfl)
      · skip
        obtain ⟨m9, hm9⟩ : ∃ m9, nf - k = m9 + 1 := ⟨nf - k - 1, by omega⟩
        rw [hm9, ti_fr_s] at hv
        refine lv_aload_n hx hb dX2_hasInHull_10 rfl (lv_at hl 0 rfl) ?_
        refine va_get (v := .ref f1) hx hb hts in_X2 hown hK hP 0 rfl rfl 1 (by decide) (hts _ q133) (fun _ h => h) rfl dX2_hasInHull_11 ?_
        refine lv_iload_n hx hb dX2_hasInHull_14 rfl (lv_at hl 3 rfl) ?_
        refine tn_iald hx hb hK hP 1 0 rfl rfl (by omega) (by decide) dX2_hasInHull_15 ?_
        have b15 := hss k
        refine lv_iload_n hx hb dX2_hasInHull_16 rfl (lv_at hl 1 rfl) ?_
        refine tn_mul hx hb dX2_hasInHull_17 ?_
        have b17 : (ss k) * a ≤ 81 := Nat.mul_le_mul b15 ha9
        refine lv_aload_n hx hb dX2_hasInHull_18 rfl (lv_at hl 0 rfl) ?_
        refine va_get (v := .ref f2) hx hb hts in_X2 hown hK hP 0 rfl rfl 2 (by decide) (hts _ q135) (fun _ h => h) rfl dX2_hasInHull_19 ?_
        refine lv_iload_n hx hb dX2_hasInHull_22 rfl (lv_at hl 3 rfl) ?_
        refine tn_iald hx hb hK hP 2 0 rfl rfl (by omega) (by decide) dX2_hasInHull_23 ?_
        have b23 := hts9 k
        refine lv_iload_n hx hb dX2_hasInHull_24 rfl (lv_at hl 2 rfl) ?_
        refine tn_mul hx hb dX2_hasInHull_25 ?_
        have b25 : (ts k) * b ≤ 81 := Nat.mul_le_mul b23 hb9
        refine tn_add hx hb dX2_hasInHull_26 ?_
        have b26 : ((ss k) * a) + ((ts k) * b) ≤ 162 := Nat.add_le_add b17 b25
        refine lv_aload_n hx hb dX2_hasInHull_27 rfl (lv_at hl 0 rfl) ?_
        refine va_get (v := .ref f3) hx hb hts in_X2 hown hK hP 0 rfl rfl 3 (by decide) (hts _ q137) (fun _ h => h) rfl dX2_hasInHull_28 ?_
        refine lv_iload_n hx hb dX2_hasInHull_31 rfl (lv_at hl 3 rfl) ?_
        refine tn_iald hx hb hK hP 3 0 rfl rfl (by omega) (by decide) dX2_hasInHull_32 ?_
        have b32 := hlv k
        refine tn_ge (tgt := 38) hx hb dX2_hasInHull_33 (by decide) (by omega) (by omega) (fun c33 => ?_) (fun c33 => ?_)
        · skip
          refine lv_iinc (v := nI (k + 1)) (lv' := [(3, .int (nI (k + 1))), (0, .ref f0), (1, .int (nI a)), (2, .int (nI b))]) hx hb dX2_hasInHull_38 hl (k := 3) rfl (nI_1 k) (by decide) rfl (fun ls hl => ?_)
          refine lv_goto (tgt := 2) hx hb dX2_hasInHull_41 (by decide) ?_
          exact ih2 (k + 1) _ (by omega) (by omega) (by rw [hv, ti_hull, if_pos c33, show nf - (k + 1) = m9 by omega]) (lv_sub hl [1, 2, 3, 0] rfl)
        · skip
          refine lv_iconst (v := nI 0) hx hb dX2_hasInHull_36 (by decide) ?_
          exact hret _ _ _ dX2_hasInHull_37 (by rw [hv, ti_hull, if_neg (Nat.not_le.mpr c33)]; rfl)
  exact L2 _ 0 _ (Nat.lt_succ_self _) (by omega) (rfl) (lv_sub hl [1, 2, 3, 0] rfl)

set_option maxHeartbeats 1000000 in
theorem met_X2_weight (l : Launch) (D : va_G) (E : Nat → ClassId) (f0 f1 f2 f3 f4 f5 : Nat) (ov : Value) (ss ts lv : Nat → Nat) (nf up low : Nat) (us los : Nat → Nat) (nj : Nat) (hnf : nf ≤ 8) (hss : ∀ k, ss k ≤ 9) (hts9 : ∀ k, ts k ≤ 9) (hlv : ∀ k, lv k ≤ 9999) (f : Nat) (hf : f < 8) (a b : Nat) (ha9 : a ≤ 9) (hb9 : b ≤ 9) : ti_MetP l D E yX2_weight cX2_weight 4 (some .int) 0 (ti_wF E f0 f1 f2 f3 f4 f5 ov ss ts lv nf up low us los nj) [.ref f0, .int (nI f), .int (nI a), .int (nI b)] (some (.int (nI (ti_wt (ss f, ts f, lv f) a b)))) := by
  refine ti_pureI (by decide) (Nat.le_of_ble_eq_true rfl) ?_
  intro p e s m below meth c H locs Q ls S hE hP hl hret
  have hx := S.1
  have hb := S.2.1
  have hown := S.2.2.2.1
  have hts := S.2.2.2.2
  have hK := hE.1
  have hl : lv_has ls 4 [(0, .ref f0), (1, .int (nI f)), (2, .int (nI a)), (3, .int (nI b))] := hl
  refine lv_aload_n hx hb dX2_weight_0 rfl (lv_at hl 0 rfl) ?_
  refine va_get (v := .ref f1) hx hb hts in_X2 hown hK hP 0 rfl rfl 1 (by decide) (hts _ q133) (fun _ h => h) rfl dX2_weight_1 ?_
  refine lv_iload_n hx hb dX2_weight_4 rfl (lv_at hl 1 rfl) ?_
  refine tn_iald hx hb hK hP 1 0 rfl rfl (by omega) (by decide) dX2_weight_5 ?_
  have b5 := hss f
  refine lv_iload_n hx hb dX2_weight_6 rfl (lv_at hl 2 rfl) ?_
  refine lv_iconst (v := nI 1) hx hb dX2_weight_7 (by decide) ?_
  refine tn_add hx hb dX2_weight_8 ?_
  have b8 : a + 1 ≤ 10 := Nat.add_le_add ha9 (Nat.le_refl _)
  refine tn_mul hx hb dX2_weight_9 ?_
  have b9 : (ss f) * (a + 1) ≤ 90 := Nat.mul_le_mul b5 b8
  refine lv_aload_n hx hb dX2_weight_10 rfl (lv_at hl 0 rfl) ?_
  refine va_get (v := .ref f2) hx hb hts in_X2 hown hK hP 0 rfl rfl 2 (by decide) (hts _ q135) (fun _ h => h) rfl dX2_weight_11 ?_
  refine lv_iload_n hx hb dX2_weight_14 rfl (lv_at hl 1 rfl) ?_
  refine tn_iald hx hb hK hP 2 0 rfl rfl (by omega) (by decide) dX2_weight_15 ?_
  have b15 := hts9 f
  refine lv_iload_n hx hb dX2_weight_16 rfl (lv_at hl 3 rfl) ?_
  refine lv_iconst (v := nI 1) hx hb dX2_weight_17 (by decide) ?_
  refine tn_add hx hb dX2_weight_18 ?_
  have b18 : b + 1 ≤ 10 := Nat.add_le_add hb9 (Nat.le_refl _)
  refine tn_mul hx hb dX2_weight_19 ?_
  have b19 : (ts f) * (b + 1) ≤ 90 := Nat.mul_le_mul b15 b18
  refine tn_add hx hb dX2_weight_20 ?_
  have b20 : ((ss f) * (a + 1)) + ((ts f) * (b + 1)) ≤ 180 := Nat.add_le_add b9 b19
  exact hret _ _ _ dX2_weight_21 (rfl)

theorem ti_wt_le {s t l a b : Nat} (h1 : s ≤ 9) (h2 : t ≤ 9) (h3 : a ≤ 9) (h4 : b ≤ 9) : ti_wt (s, t, l) a b ≤ 180 := by
  have e1 : s * (a + 1) ≤ 9 * 10 := Nat.mul_le_mul h1 (by omega)
  have e2 : t * (b + 1) ≤ 9 * 10 := Nat.mul_le_mul h2 (by omega)
  show s * (a + 1) + t * (b + 1) ≤ 180
  omega

set_option maxHeartbeats 1000000 in
theorem met_X2_holds (l : Launch) (D : va_G) (E : Nat → ClassId) (f0 f1 f2 f3 f4 f5 : Nat) (ov : Value) (ss ts lv : Nat → Nat) (nf up low : Nat) (us los : Nat → Nat) (nj : Nat) (hnf : nf ≤ 8) (hss : ∀ k, ss k ≤ 9) (hts9 : ∀ k, ts k ≤ 9) (hlv : ∀ k, lv k ≤ 9999) (a b : Nat) (ha9 : a ≤ 9) (hb9 : b ≤ 9) (num den : Nat) (hnum : num ≤ 99) (hden : den ≤ 99) : ti_MetP l D E yX2_holds cX2_holds 6 (some .boolean) 1 (ti_wF E f0 f1 f2 f3 f4 f5 ov ss ts lv nf up low us los nj) [.ref f0, .int (nI a), .int (nI b), .int (nI num), .int (nI den)] (some (.int (ti_b (ti_hd a b num den (ti_fr ss ts lv 0 nf))))) := by
  refine ti_pureZ (by decide) (Nat.le_of_ble_eq_true rfl) ?_
  intro p e s m below meth c H locs Q ls S hE hP hl hret
  have hx := S.1
  have hb := S.2.1
  have hown := S.2.2.2.1
  have hts := S.2.2.2.2
  have hK := hE.1
  have hl : lv_has ls 6 [(0, .ref f0), (1, .int (nI a)), (2, .int (nI b)), (3, .int (nI num)), (4, .int (nI den))] := hl
  refine lv_iconst (v := nI 0) hx hb dX2_holds_0 (by decide) ?_
  refine lv_istore (lv' := [(5, .int (nI 0)), (0, .ref f0), (1, .int (nI a)), (2, .int (nI b)), (3, .int (nI num)), (4, .int (nI den))]) hx hb dX2_holds_1 hl (by decide) rfl (fun ls hl => ?_)
  have L3 : ∀ (N : Nat) (k : Nat) (ls : Array Slot), (nf - k) < N → (k ≤ nf) → (ti_hd a b num den (ti_fr ss ts lv 0 nf) = ti_hd a b num den (ti_fr ss ts lv k (nf - k))) → lv_has ls 6 [(0, .ref f0), (1, .int (nI a)), (2, .int (nI b)), (3, .int (nI num)), (4, .int (nI den)), (5, .int (nI k))] → W p l e (ti_rm 1 0 0) s m ([.ref f0, .int (nI a), .int (nI b), .int (nI num), .int (nI den)] : List Value).toArray below meth c H locs 0 0 Q (F0 m 3 ls []) := by
    intro N
    induction N with
    | zero => intro k ls h0; exact absurd h0 (Nat.not_lt_zero _)
    | succ N ih3 =>
      intro k ls hN hkn hv hl
      refine lv_iload hx hb dX2_holds_3 (lv_at hl 5 rfl) ?_
      refine lv_aload_n hx hb dX2_holds_5 rfl (lv_at hl 0 rfl) ?_
      refine va_get (v := .int (nI nf)) hx hb hts in_X2 hown hK hP 0 rfl rfl 4 (by decide) (hts _ q139) (fun _ h => h) rfl dX2_holds_6 ?_
      refine tn_ge (tgt := 53) hx hb dX2_holds_9 (by decide) (by omega) (by omega) (fun c9 => ?_) (fun c9 => ?_)
      · skip
        rw [show nf - k = 0 by omega, ti_fr_0] at hv
        refine lv_iconst (v := nI 1) hx hb dX2_holds_53 (by decide) ?_
        exact hret _ _ _ dX2_holds_54 (by rw [hv]; rfl)
      · skip
        obtain ⟨m9, hm9⟩ : ∃ m9, nf - k = m9 + 1 := ⟨nf - k - 1, by omega⟩
        rw [hm9, ti_fr_s] at hv
        refine lv_aload_n hx hb dX2_holds_12 rfl (lv_at hl 0 rfl) ?_
        refine va_get (v := .ref f3) hx hb hts in_X2 hown hK hP 0 rfl rfl 3 (by decide) (hts _ q137) (fun _ h => h) rfl dX2_holds_13 ?_
        refine lv_iload hx hb dX2_holds_16 (lv_at hl 5 rfl) ?_
        refine tn_iald hx hb hK hP 3 0 rfl rfl (by omega) (by decide) dX2_holds_18 ?_
        have b18 := hlv k
        refine tn_if_le (tgt := 47) hx hb dX2_holds_19 (by decide) (by omega) (fun c19 => ?_) (fun c19 => ?_)
        · skip
          refine lv_iinc (v := nI (k + 1)) (lv' := [(5, .int (nI (k + 1))), (0, .ref f0), (1, .int (nI a)), (2, .int (nI b)), (3, .int (nI num)), (4, .int (nI den))]) hx hb dX2_holds_47 hl (k := 5) rfl (nI_1 k) (by decide) rfl (fun ls hl => ?_)
          refine lv_goto (tgt := 3) hx hb dX2_holds_50 (by decide) ?_
          exact ih3 (k + 1) _ (by omega) (by omega) (by rw [hv, ti_hd, if_neg (by rw [ti_bar, decide_eq_true_iff]; dsimp only; first | omega | exact fun z => absurd z.2 (Nat.not_le.mpr c42)), show nf - (k + 1) = m9 by omega]) (lv_sub hl [1, 2, 3, 4, 5, 0] rfl)
        · skip
          refine lv_aload_n hx hb dX2_holds_22 rfl (lv_at hl 0 rfl) ?_
          refine lv_iload hx hb dX2_holds_23 (lv_at hl 5 rfl) ?_
          refine lv_iload_n hx hb dX2_holds_25 rfl (lv_at hl 1 rfl) ?_
          refine lv_iload_n hx hb dX2_holds_26 rfl (lv_at hl 2 rfl) ?_
          have hw : ti_wt (ss k, ts k, lv k) a b ≤ 180 := ti_wt_le (hss k) (hts9 k) ha9 hb9
          refine ti_pV (As := [.int (nI k), .int (nI a), .int (nI b)]) (rest := []) (v := .int (nI (ti_wt (ss k, ts k, lv k) a b))) S hE hP [0, 1, 2, 3, 4, 5] (met_X2_weight l D E f0 f1 f2 f3 f4 f5 ov ss ts lv nf up low us los nj hnf hss hts9 hlv k (by omega) a b ha9 hb9) rfl (lw_V q614 q616 qs11 q68 q617) 3 rfl 0 rfl rfl (by decide +kernel) ⟨Nat.le_of_ble_eq_true rfl, Nat.le_of_ble_eq_true rfl⟩ hl.1 rfl (Nat.le_of_ble_eq_true rfl) ⟨Nat.le_refl _, Nat.le_refl _⟩ dX2_holds_27 ?_
          refine lv_iload hx hb dX2_holds_30 (lv_at hl 4 rfl) ?_
          refine tn_mul hx hb dX2_holds_32 ?_
          have b32 : (ti_wt (ss k, ts k, lv k) a b) * den ≤ 17820 := Nat.mul_le_mul hw hden
          refine lv_iload_n hx hb dX2_holds_33 rfl (lv_at hl 3 rfl) ?_
          refine lv_aload_n hx hb dX2_holds_34 rfl (lv_at hl 0 rfl) ?_
          refine va_get (v := .ref f3) hx hb hts in_X2 hown hK hP 0 rfl rfl 3 (by decide) (hts _ q137) (fun _ h => h) rfl dX2_holds_35 ?_
          refine lv_iload hx hb dX2_holds_38 (lv_at hl 5 rfl) ?_
          refine tn_iald hx hb hK hP 3 0 rfl rfl (by omega) (by decide) dX2_holds_40 ?_
          have b40 := hlv k
          refine tn_mul hx hb dX2_holds_41 ?_
          have b41 : num * (lv k) ≤ 989901 := Nat.mul_le_mul hnum b40
          refine tn_gt (tgt := 47) hx hb dX2_holds_42 (by decide) (by omega) (by omega) (fun c42 => ?_) (fun c42 => ?_)
          · skip
            refine lv_iinc (v := nI (k + 1)) (lv' := [(5, .int (nI (k + 1))), (0, .ref f0), (1, .int (nI a)), (2, .int (nI b)), (3, .int (nI num)), (4, .int (nI den))]) hx hb dX2_holds_47 hl (k := 5) rfl (nI_1 k) (by decide) rfl (fun ls hl => ?_)
            refine lv_goto (tgt := 3) hx hb dX2_holds_50 (by decide) ?_
            exact ih3 (k + 1) _ (by omega) (by omega) (by rw [hv, ti_hd, if_neg (by rw [ti_bar, decide_eq_true_iff]; dsimp only; first | omega | exact fun z => absurd z.2 (Nat.not_le.mpr c42)), show nf - (k + 1) = m9 by omega]) (lv_sub hl [1, 2, 3, 4, 5, 0] rfl)
          · skip
            refine lv_iconst (v := nI 0) hx hb dX2_holds_45 (by decide) ?_
            exact hret _ _ _ dX2_holds_46 (by rw [hv, ti_hd, if_pos (by rw [ti_bar, decide_eq_true_iff]; exact ⟨c19, c42⟩)]; rfl)
  exact L3 _ 0 _ (Nat.lt_succ_self _) (by omega) (rfl) (lv_sub hl [1, 2, 3, 4, 5, 0] rfl)

set_option maxHeartbeats 1000000 in
theorem met_X2_lacks (l : Launch) (D : va_G) (E : Nat → ClassId) (f0 f1 f2 f3 f4 f5 : Nat) (ov : Value) (ss ts lv : Nat → Nat) (nf up low : Nat) (us los : Nat → Nat) (nj : Nat) (hnf : nf ≤ 8) (hss : ∀ k, ss k ≤ 9) (hts9 : ∀ k, ts k ≤ 9) (hlv : ∀ k, lv k ≤ 9999) (num den : Nat) (hnum : num ≤ 99) (hden : den ≤ 99) : ti_MetP l D E yX2_lacks cX2_lacks 5 (some .int) 2 (ti_wF E f0 f1 f2 f3 f4 f5 ov ss ts lv nf up low us los nj) [.ref f0, .int (nI num), .int (nI den)] (some (.int (nI (ti_lk (ti_fr ss ts lv 0 nf) num den (List.range' 0 100) 0)))) := by
  refine ti_pureI (by decide) (Nat.le_of_ble_eq_true rfl) ?_
  intro p e s m below meth c H locs Q ls S hE hP hl hret
  have hx := S.1
  have hb := S.2.1
  have hown := S.2.2.2.1
  have hts := S.2.2.2.2
  have hK := hE.1
  have hl : lv_has ls 5 [(0, .ref f0), (1, .int (nI num)), (2, .int (nI den))] := hl
  refine lv_iconst (v := nI 0) hx hb dX2_lacks_0 (by decide) ?_
  refine lv_istore_n (lv' := [(3, .int (nI 0)), (0, .ref f0), (1, .int (nI num)), (2, .int (nI den))]) hx hb dX2_lacks_1 rfl hl (by decide) rfl (fun ls hl => ?_)
  refine lv_iconst (v := nI 0) hx hb dX2_lacks_2 (by decide) ?_
  refine lv_istore (lv' := [(4, .int (nI 0)), (3, .int (nI 0)), (0, .ref f0), (1, .int (nI num)), (2, .int (nI den))]) hx hb dX2_lacks_3 hl (by decide) rfl (fun ls hl => ?_)
  have L5 : ∀ (N : Nat) (k z : Nat) (ls : Array Slot), (100 - k) < N → (k ≤ 100) → (ti_lk (ti_fr ss ts lv 0 nf) num den (List.range' 0 100) 0 = ti_lk (ti_fr ss ts lv 0 nf) num den (List.range' k (100 - k)) z) → lv_has ls 5 [(0, .ref f0), (1, .int (nI num)), (2, .int (nI den)), (3, .int (nI z)), (4, .int (nI k))] → W p l e (ti_rm 2 0 0) s m ([.ref f0, .int (nI num), .int (nI den)] : List Value).toArray below meth c H locs 0 0 Q (F0 m 5 ls []) := by
    intro N
    induction N with
    | zero => intro k z ls h0; exact absurd h0 (Nat.not_lt_zero _)
    | succ N ih5 =>
      intro k z ls hN hkn hv hl
      refine lv_iload hx hb dX2_lacks_5 (lv_at hl 4 rfl) ?_
      refine lv_bipush (v := nI 100) hx hb dX2_lacks_7 (by decide) ?_
      refine tn_ge (tgt := 45) hx hb dX2_lacks_9 (by decide) (by omega) (by omega) (fun c9 => ?_) (fun c9 => ?_)
      · skip
        rw [show 100 - k = 0 by omega] at hv
        refine lv_iload_n hx hb dX2_lacks_45 rfl (lv_at hl 3 rfl) ?_
        exact hret _ _ _ dX2_lacks_46 (by rw [hv]; rfl)
      · skip
        obtain ⟨m9, hm9⟩ : ∃ m9, 100 - k = m9 + 1 := ⟨100 - k - 1, by omega⟩
        rw [hm9, show List.range' k (m9 + 1) = k :: List.range' (k + 1) m9 from rfl] at hv
        refine lv_iload_n hx hb dX2_lacks_12 rfl (lv_at hl 3 rfl) ?_
        refine lv_aload_n hx hb dX2_lacks_13 rfl (lv_at hl 0 rfl) ?_
        refine lv_iload hx hb dX2_lacks_14 (lv_at hl 4 rfl) ?_
        refine lv_bipush (v := nI 10) hx hb dX2_lacks_16 (by decide) ?_
        refine tn_div hx hb dX2_lacks_18 (by omega) (by omega) (by omega) ?_
        refine lv_iload hx hb dX2_lacks_19 (lv_at hl 4 rfl) ?_
        refine lv_bipush (v := nI 10) hx hb dX2_lacks_21 (by decide) ?_
        refine tn_rem hx hb dX2_lacks_23 (by omega) (by omega) (by omega) ?_
        refine lv_iload_n hx hb dX2_lacks_24 rfl (lv_at hl 1 rfl) ?_
        refine lv_iload_n hx hb dX2_lacks_25 rfl (lv_at hl 2 rfl) ?_
        refine ti_pV (As := [.int (nI (k / 10)), .int (nI (k % 10)), .int (nI num), .int (nI den)]) (rest := [.int (nI z)]) (v := .int (ti_b (ti_hd (k / 10) (k % 10) num den (ti_fr ss ts lv 0 nf)))) S hE hP [0, 1, 2, 3, 4, 5] (met_X2_holds l D E f0 f1 f2 f3 f4 f5 ov ss ts lv nf up low us los nj hnf hss hts9 hlv (k / 10) (k % 10) (by omega) (by omega) num den hnum hden) rfl (lw_V q766 q767 q768 q68 q769) 4 rfl 0 rfl rfl (by decide +kernel) ⟨Nat.le_of_ble_eq_true rfl, Nat.le_of_ble_eq_true rfl⟩ hl.1 rfl (Nat.le_of_ble_eq_true rfl) ⟨Nat.le_refl _, Nat.le_refl _⟩ dX2_lacks_26 ?_
        refine tb_eq (tgt := 36) hx hb dX2_lacks_29 (by decide) (fun c29 => ?_) (fun c29 => ?_)
        · skip
          refine lv_iconst (v := nI 1) hx hb dX2_lacks_36 (by decide) ?_
          refine tn_add hx hb dX2_lacks_37 ?_
          refine lv_istore_n (lv' := [(3, .int (nI (z + 1))), (0, .ref f0), (1, .int (nI num)), (2, .int (nI den)), (4, .int (nI k))]) hx hb dX2_lacks_38 rfl hl (by decide) rfl (fun ls hl => ?_)
          refine lv_iinc (v := nI (k + 1)) (lv' := [(4, .int (nI (k + 1))), (3, .int (nI (z + 1))), (0, .ref f0), (1, .int (nI num)), (2, .int (nI den))]) hx hb dX2_lacks_39 hl (k := 4) rfl (nI_1 k) (by decide) rfl (fun ls hl => ?_)
          refine lv_goto (tgt := 5) hx hb dX2_lacks_42 (by decide) ?_
          exact ih5 (k + 1) (z + 1) _ (by omega) (by omega) (by rw [hv, ti_lk, if_neg (by rw [c29]; decide), show 100 - (k + 1) = m9 by omega]) (lv_sub hl [2, 3, 4, 1, 0] rfl)
        · skip
          refine lv_iconst (v := nI 0) hx hb dX2_lacks_32 (by decide) ?_
          refine lv_goto (tgt := 37) hx hb dX2_lacks_33 (by decide) ?_
          refine tn_add hx hb dX2_lacks_37 ?_
          refine lv_istore_n (lv' := [(3, .int (nI (z + 0))), (0, .ref f0), (1, .int (nI num)), (2, .int (nI den)), (4, .int (nI k))]) hx hb dX2_lacks_38 rfl hl (by decide) rfl (fun ls hl => ?_)
          refine lv_iinc (v := nI (k + 1)) (lv' := [(4, .int (nI (k + 1))), (3, .int (nI (z + 0))), (0, .ref f0), (1, .int (nI num)), (2, .int (nI den))]) hx hb dX2_lacks_39 hl (k := 4) rfl (nI_1 k) (by decide) rfl (fun ls hl => ?_)
          refine lv_goto (tgt := 5) hx hb dX2_lacks_42 (by decide) ?_
          exact ih5 (k + 1) (z + 0) _ (by omega) (by omega) (by rw [hv, ti_lk, if_pos c29, show 100 - (k + 1) = m9 by omega]) (lv_sub hl [2, 3, 4, 1, 0] rfl)
  exact L5 _ 0 0 _ (Nat.lt_succ_self _) (by omega) (rfl) (lv_sub hl [2, 3, 4, 1, 0] rfl)

set_option maxHeartbeats 1000000 in
theorem met_X2_level (l : Launch) (D : va_G) (E : Nat → ClassId) (f0 f1 f2 f3 f4 f5 : Nat) (ss ts lv : Nat → Nat) (nf up low : Nat) (us los : Nat → Nat) (nj : Nat) (h ua ub : Nat) (fa fb : Nat → Nat) (n : Nat) (hn : n ≤ 6) (hfa : ∀ k, fa k ≤ 9) (hfb : ∀ k, fb k ≤ 9) (s9 t9 : Nat) (hs9 : s9 ≤ 9) (ht9 : t9 ≤ 9) : ti_MetP l D E yX2_level cX2_level 5 (some .int) 1 (ti_wF E f0 f1 f2 f3 f4 f5 (.ref h) ss ts lv nf up low us los nj ++ ti_wI E h ua ub fa fb n) [.ref f0, .int (nI s9), .int (nI t9)] (some (.int (nI (ti_lv s9 t9 (ti_gr fa fb 0 n) 9999)))) := by
  refine ti_pureI (by decide) (Nat.le_of_ble_eq_true rfl) ?_
  intro p e s m below meth c H locs Q ls S hE hP hl hret
  have hx := S.1
  have hb := S.2.1
  have hown := S.2.2.2.1
  have hts := S.2.2.2.2
  have hK := hE.1
  have hl : lv_has ls 5 [(0, .ref f0), (1, .int (nI s9)), (2, .int (nI t9))] := hl
  refine lv_sipush (v := nI 9999) hx hb dX2_level_0 (by decide) ?_
  refine lv_istore_n (lv' := [(3, .int (nI 9999)), (0, .ref f0), (1, .int (nI s9)), (2, .int (nI t9))]) hx hb dX2_level_3 rfl hl (by decide) rfl (fun ls hl => ?_)
  refine lv_iconst (v := nI 0) hx hb dX2_level_4 (by decide) ?_
  refine lv_istore (lv' := [(4, .int (nI 0)), (3, .int (nI 9999)), (0, .ref f0), (1, .int (nI s9)), (2, .int (nI t9))]) hx hb dX2_level_5 hl (by decide) rfl (fun ls hl => ?_)
  have L7 : ∀ (N : Nat) (k z : Nat) (ls : Array Slot), (n - k) < N → (k ≤ n) → (z ≤ 9999) → (ti_lv s9 t9 (ti_gr fa fb 0 n) 9999 = ti_lv s9 t9 (ti_gr fa fb k (n - k)) z) → lv_has ls 5 [(0, .ref f0), (1, .int (nI s9)), (2, .int (nI t9)), (3, .int (nI z)), (4, .int (nI k))] → W p l e (ti_rm 1 0 0) s m ([.ref f0, .int (nI s9), .int (nI t9)] : List Value).toArray below meth c H locs 0 0 Q (F0 m 7 ls []) := by
    intro N
    induction N with
    | zero => intro k z ls h0; exact absurd h0 (Nat.not_lt_zero _)
    | succ N ih7 =>
      intro k z ls hN hkn hz hv hl
      refine lv_iload hx hb dX2_level_7 (lv_at hl 4 rfl) ?_
      refine lv_aload_n hx hb dX2_level_9 rfl (lv_at hl 0 rfl) ?_
      refine va_get (v := .ref h) hx hb hts in_X2 hown hK hP 0 rfl rfl 0 (by decide) (hts _ q132) (fun _ h => h) rfl dX2_level_10 ?_
      refine va_getN (v := .int (nI n)) hx hb hts in_X1 hown hK hP 6 rfl rfl 2 (by decide) (hE.use q115 rfl rfl) (fun _ h => h) rfl dX2_level_13 ?_
      refine tn_ge (tgt := 55) hx hb dX2_level_16 (by decide) (by omega) (by omega) (fun c16 => ?_) (fun c16 => ?_)
      · skip
        rw [show n - k = 0 by omega, ti_gr_0] at hv
        refine lv_iload_n hx hb dX2_level_55 rfl (lv_at hl 3 rfl) ?_
        exact hret _ _ _ dX2_level_56 (by rw [hv]; rfl)
      · skip
        obtain ⟨m9, hm9⟩ : ∃ m9, n - k = m9 + 1 := ⟨n - k - 1, by omega⟩
        rw [hm9, ti_gr_s] at hv
        refine lv_iload_n hx hb dX2_level_19 rfl (lv_at hl 3 rfl) ?_
        refine lv_iload_n hx hb dX2_level_20 rfl (lv_at hl 1 rfl) ?_
        refine lv_aload_n hx hb dX2_level_21 rfl (lv_at hl 0 rfl) ?_
        refine va_get (v := .ref h) hx hb hts in_X2 hown hK hP 0 rfl rfl 0 (by decide) (hts _ q132) (fun _ h => h) rfl dX2_level_22 ?_
        refine va_getN (v := .ref ua) hx hb hts in_X1 hown hK hP 6 rfl rfl 0 (by decide) (hE.use q110 rfl rfl) (fun _ h => h) rfl dX2_level_25 ?_
        refine lv_iload hx hb dX2_level_28 (lv_at hl 4 rfl) ?_
        refine tn_iald hx hb hK hP 7 0 rfl rfl (by omega) (by decide) dX2_level_30 ?_
        have b30 := hfa k
        refine tn_mul hx hb dX2_level_31 ?_
        have b31 : s9 * (fa k) ≤ 81 := Nat.mul_le_mul hs9 b30
        refine lv_iload_n hx hb dX2_level_32 rfl (lv_at hl 2 rfl) ?_
        refine lv_aload_n hx hb dX2_level_33 rfl (lv_at hl 0 rfl) ?_
        refine va_get (v := .ref h) hx hb hts in_X2 hown hK hP 0 rfl rfl 0 (by decide) (hts _ q132) (fun _ h => h) rfl dX2_level_34 ?_
        refine va_getN (v := .ref ub) hx hb hts in_X1 hown hK hP 6 rfl rfl 1 (by decide) (hE.use q113 rfl rfl) (fun _ h => h) rfl dX2_level_37 ?_
        refine lv_iload hx hb dX2_level_40 (lv_at hl 4 rfl) ?_
        refine tn_iald hx hb hK hP 8 0 rfl rfl (by omega) (by decide) dX2_level_42 ?_
        have b42 := hfb k
        refine tn_mul hx hb dX2_level_43 ?_
        have b43 : t9 * (fb k) ≤ 81 := Nat.mul_le_mul ht9 b42
        refine tn_add hx hb dX2_level_44 ?_
        have b44 : (s9 * (fa k)) + (t9 * (fb k)) ≤ 162 := Nat.add_le_add b31 b43
        refine tn_min S hl.1 q449 (Nat.le_of_ble_eq_true rfl) (Nat.le_of_ble_eq_true rfl) ⟨Nat.le_refl _, Nat.le_refl _⟩ (by omega) (by omega) dX2_level_45 ?_
        refine lv_istore_n (lv' := [(3, .int (nI (min z ((s9 * (fa k)) + (t9 * (fb k)))))), (0, .ref f0), (1, .int (nI s9)), (2, .int (nI t9)), (4, .int (nI k))]) hx hb dX2_level_48 rfl hl (by decide) rfl (fun ls hl => ?_)
        refine lv_iinc (v := nI (k + 1)) (lv' := [(4, .int (nI (k + 1))), (3, .int (nI (min z ((s9 * (fa k)) + (t9 * (fb k)))))), (0, .ref f0), (1, .int (nI s9)), (2, .int (nI t9))]) hx hb dX2_level_49 hl (k := 4) rfl (nI_1 k) (by decide) rfl (fun ls hl => ?_)
        refine lv_goto (tgt := 7) hx hb dX2_level_52 (by decide) ?_
        exact ih7 (k + 1) (min z ((s9 * (fa k)) + (t9 * (fb k)))) _ (by omega) (by omega) (by omega) (by rw [hv, show n - (k + 1) = m9 by omega]; rfl) (lv_sub hl [2, 3, 4, 1, 0] rfl)
  exact L7 _ 0 9999 _ (Nat.lt_succ_self _) (by omega) (by omega) (rfl) (lv_sub hl [2, 3, 4, 1, 0] rfl)

set_option maxHeartbeats 1000000 in
theorem met_X2_isFace (l : Launch) (D : va_G) (E : Nat → ClassId) (f0 f1 f2 f3 f4 f5 : Nat) (ss ts lv : Nat → Nat) (nf up low : Nat) (us los : Nat → Nat) (nj : Nat) (h ua ub : Nat) (fa fb : Nat → Nat) (n : Nat) (hn : n ≤ 6) (hfa : ∀ k, fa k ≤ 9) (hfb : ∀ k, fb k ≤ 9) (s9 t9 : Nat) (hs9 : s9 ≤ 9) (ht9 : t9 ≤ 9) (lev : Nat) (hlev : lev ≤ 9999) : ti_MetP l D E yX2_isFace cX2_isFace 6 (some .boolean) 0 (ti_wF E f0 f1 f2 f3 f4 f5 (.ref h) ss ts lv nf up low us los nj ++ ti_wI E h ua ub fa fb n) [.ref f0, .int (nI s9), .int (nI t9), .int (nI lev)] (some (.int (ti_b (decide (1 < ti_ct s9 t9 lev (ti_gr fa fb 0 n) 0))))) := by
  refine ti_pureZ (by decide) (Nat.le_of_ble_eq_true rfl) ?_
  intro p e s m below meth c H locs Q ls S hE hP hl hret
  have hx := S.1
  have hb := S.2.1
  have hown := S.2.2.2.1
  have hts := S.2.2.2.2
  have hK := hE.1
  have hl : lv_has ls 6 [(0, .ref f0), (1, .int (nI s9)), (2, .int (nI t9)), (3, .int (nI lev))] := hl
  refine lv_iconst (v := nI 0) hx hb dX2_isFace_0 (by decide) ?_
  refine lv_istore (lv' := [(4, .int (nI 0)), (0, .ref f0), (1, .int (nI s9)), (2, .int (nI t9)), (3, .int (nI lev))]) hx hb dX2_isFace_1 hl (by decide) rfl (fun ls hl => ?_)
  refine lv_iconst (v := nI 0) hx hb dX2_isFace_3 (by decide) ?_
  refine lv_istore (lv' := [(5, .int (nI 0)), (4, .int (nI 0)), (0, .ref f0), (1, .int (nI s9)), (2, .int (nI t9)), (3, .int (nI lev))]) hx hb dX2_isFace_4 hl (by decide) rfl (fun ls hl => ?_)
  have L6 : ∀ (N : Nat) (k z : Nat) (ls : Array Slot), (n - k) < N → (k ≤ n) → (z ≤ k) → (ti_ct s9 t9 lev (ti_gr fa fb 0 n) 0 = ti_ct s9 t9 lev (ti_gr fa fb k (n - k)) z) → lv_has ls 6 [(0, .ref f0), (1, .int (nI s9)), (2, .int (nI t9)), (3, .int (nI lev)), (4, .int (nI z)), (5, .int (nI k))] → W p l e (ti_rm 0 0 0) s m ([.ref f0, .int (nI s9), .int (nI t9), .int (nI lev)] : List Value).toArray below meth c H locs 0 0 Q (F0 m 6 ls []) := by
    intro N
    induction N with
    | zero => intro k z ls h0; exact absurd h0 (Nat.not_lt_zero _)
    | succ N ih6 =>
      intro k z ls hN hkn hz hv hl
      refine lv_iload hx hb dX2_isFace_6 (lv_at hl 5 rfl) ?_
      refine lv_aload_n hx hb dX2_isFace_8 rfl (lv_at hl 0 rfl) ?_
      refine va_get (v := .ref h) hx hb hts in_X2 hown hK hP 0 rfl rfl 0 (by decide) (hts _ q132) (fun _ h => h) rfl dX2_isFace_9 ?_
      refine va_getN (v := .int (nI n)) hx hb hts in_X1 hown hK hP 6 rfl rfl 2 (by decide) (hE.use q115 rfl rfl) (fun _ h => h) rfl dX2_isFace_12 ?_
      refine tn_ge (tgt := 63) hx hb dX2_isFace_15 (by decide) (by omega) (by omega) (fun c15 => ?_) (fun c15 => ?_)
      · skip
        rw [show n - k = 0 by omega, ti_gr_0] at hv
        refine lv_iload hx hb dX2_isFace_63 (lv_at hl 4 rfl) ?_
        refine lv_iconst (v := nI 1) hx hb dX2_isFace_65 (by decide) ?_
        refine tn_le (tgt := 73) hx hb dX2_isFace_66 (by decide) (by omega) (by omega) (fun c66 => ?_) (fun c66 => ?_)
        · skip
          refine lv_iconst (v := nI 0) hx hb dX2_isFace_73 (by decide) ?_
          exact hret _ _ _ dX2_isFace_74 (by rw [hv]; show _ = ti_b (decide (1 < z)); rw [decide_eq_false (by omega)]; rfl)
        · skip
          refine lv_iconst (v := nI 1) hx hb dX2_isFace_69 (by decide) ?_
          refine lv_goto (tgt := 74) hx hb dX2_isFace_70 (by decide) ?_
          exact hret _ _ _ dX2_isFace_74 (by rw [hv]; show _ = ti_b (decide (1 < z)); rw [decide_eq_true (by omega)]; rfl)
      · skip
        obtain ⟨m9, hm9⟩ : ∃ m9, n - k = m9 + 1 := ⟨n - k - 1, by omega⟩
        rw [hm9, ti_gr_s] at hv
        refine lv_iload hx hb dX2_isFace_18 (lv_at hl 4 rfl) ?_
        refine lv_iload_n hx hb dX2_isFace_20 rfl (lv_at hl 1 rfl) ?_
        refine lv_aload_n hx hb dX2_isFace_21 rfl (lv_at hl 0 rfl) ?_
        refine va_get (v := .ref h) hx hb hts in_X2 hown hK hP 0 rfl rfl 0 (by decide) (hts _ q132) (fun _ h => h) rfl dX2_isFace_22 ?_
        refine va_getN (v := .ref ua) hx hb hts in_X1 hown hK hP 6 rfl rfl 0 (by decide) (hE.use q110 rfl rfl) (fun _ h => h) rfl dX2_isFace_25 ?_
        refine lv_iload hx hb dX2_isFace_28 (lv_at hl 5 rfl) ?_
        refine tn_iald hx hb hK hP 7 0 rfl rfl (by omega) (by decide) dX2_isFace_30 ?_
        have b30 := hfa k
        refine tn_mul hx hb dX2_isFace_31 ?_
        have b31 : s9 * (fa k) ≤ 81 := Nat.mul_le_mul hs9 b30
        refine lv_iload_n hx hb dX2_isFace_32 rfl (lv_at hl 2 rfl) ?_
        refine lv_aload_n hx hb dX2_isFace_33 rfl (lv_at hl 0 rfl) ?_
        refine va_get (v := .ref h) hx hb hts in_X2 hown hK hP 0 rfl rfl 0 (by decide) (hts _ q132) (fun _ h => h) rfl dX2_isFace_34 ?_
        refine va_getN (v := .ref ub) hx hb hts in_X1 hown hK hP 6 rfl rfl 1 (by decide) (hE.use q113 rfl rfl) (fun _ h => h) rfl dX2_isFace_37 ?_
        refine lv_iload hx hb dX2_isFace_40 (lv_at hl 5 rfl) ?_
        refine tn_iald hx hb hK hP 8 0 rfl rfl (by omega) (by decide) dX2_isFace_42 ?_
        have b42 := hfb k
        refine tn_mul hx hb dX2_isFace_43 ?_
        have b43 : t9 * (fb k) ≤ 81 := Nat.mul_le_mul ht9 b42
        refine tn_add hx hb dX2_isFace_44 ?_
        have b44 : (s9 * (fa k)) + (t9 * (fb k)) ≤ 162 := Nat.add_le_add b31 b43
        refine lv_iload_n hx hb dX2_isFace_45 rfl (lv_at hl 3 rfl) ?_
        refine tn_ne (tgt := 53) hx hb dX2_isFace_46 (by decide) (by omega) (by omega) (fun c46 => ?_) (fun c46 => ?_)
        · skip
          refine lv_iconst (v := nI 0) hx hb dX2_isFace_53 (by decide) ?_
          refine tn_add hx hb dX2_isFace_54 ?_
          refine lv_istore (lv' := [(4, .int (nI (z + 0))), (0, .ref f0), (1, .int (nI s9)), (2, .int (nI t9)), (3, .int (nI lev)), (5, .int (nI k))]) hx hb dX2_isFace_55 hl (by decide) rfl (fun ls hl => ?_)
          refine lv_iinc (v := nI (k + 1)) (lv' := [(5, .int (nI (k + 1))), (4, .int (nI (z + 0))), (0, .ref f0), (1, .int (nI s9)), (2, .int (nI t9)), (3, .int (nI lev))]) hx hb dX2_isFace_57 hl (k := 5) rfl (nI_1 k) (by decide) rfl (fun ls hl => ?_)
          refine lv_goto (tgt := 6) hx hb dX2_isFace_60 (by decide) ?_
          exact ih6 (k + 1) (z + 0) _ (by omega) (by omega) (by omega) (by rw [hv]; show List.foldl _ (if s9 * fa k + t9 * fb k = lev then z + 1 else z) _ = _; rw [if_neg c46, show n - (k + 1) = m9 by omega]; rfl) (lv_sub hl [2, 3, 4, 5, 1, 0] rfl)
        · skip
          refine lv_iconst (v := nI 1) hx hb dX2_isFace_49 (by decide) ?_
          refine lv_goto (tgt := 54) hx hb dX2_isFace_50 (by decide) ?_
          refine tn_add hx hb dX2_isFace_54 ?_
          refine lv_istore (lv' := [(4, .int (nI (z + 1))), (0, .ref f0), (1, .int (nI s9)), (2, .int (nI t9)), (3, .int (nI lev)), (5, .int (nI k))]) hx hb dX2_isFace_55 hl (by decide) rfl (fun ls hl => ?_)
          refine lv_iinc (v := nI (k + 1)) (lv' := [(5, .int (nI (k + 1))), (4, .int (nI (z + 1))), (0, .ref f0), (1, .int (nI s9)), (2, .int (nI t9)), (3, .int (nI lev))]) hx hb dX2_isFace_57 hl (k := 5) rfl (nI_1 k) (by decide) rfl (fun ls hl => ?_)
          refine lv_goto (tgt := 6) hx hb dX2_isFace_60 (by decide) ?_
          exact ih6 (k + 1) (z + 1) _ (by omega) (by omega) (by omega) (by rw [hv]; show List.foldl _ (if s9 * fa k + t9 * fb k = lev then z + 1 else z) _ = _; rw [if_pos c46, show n - (k + 1) = m9 by omega]; rfl) (lv_sub hl [2, 3, 4, 5, 1, 0] rfl)
  exact L6 _ 0 0 _ (Nat.lt_succ_self _) (by omega) (by omega) (rfl) (lv_sub hl [2, 3, 4, 5, 1, 0] rfl)

set_option maxHeartbeats 1000000 in
theorem met_X2_isClosed (l : Launch) (D : va_G) (E : Nat → ClassId) (f0 f1 f2 f3 f4 f5 : Nat) (ss ts lv : Nat → Nat) (nf up low : Nat) (us los : Nat → Nat) (nj : Nat) (h ua ub : Nat) (fa fb : Nat → Nat) (n : Nat) (hn : n ≤ 6) (hfa : ∀ k, fa k ≤ 9) (hfb : ∀ k, fb k ≤ 9) (hnf : nf ≤ 8) (hss : ∀ k, ss k ≤ 9) (hts9 : ∀ k, ts k ≤ 9) (hlv : ∀ k, lv k ≤ 9999) : ti_MetP l D E yX2_isClosed cX2_isClosed 3 (some .boolean) 3 (ti_wF E f0 f1 f2 f3 f4 f5 (.ref h) ss ts lv nf up low us los nj ++ ti_wI E h ua ub fa fb n) [.ref f0] (some (.int (ti_b (ti_cl2 (ti_fr ss ts lv 0 nf) (ti_gr fa fb 0 n) (List.range' 0 10))))) := by
  refine ti_pureZ (by decide) (Nat.le_of_ble_eq_true rfl) ?_
  intro p e s m below meth c H locs Q ls S hE hP hl hret
  have hx := S.1
  have hb := S.2.1
  have hown := S.2.2.2.1
  have hts := S.2.2.2.2
  have hK := hE.1
  have hl : lv_has ls 3 [(0, .ref f0)] := hl
  refine lv_iconst (v := nI 0) hx hb dX2_isClosed_0 (by decide) ?_
  refine lv_istore_n (lv' := [(1, .int (nI 0)), (0, .ref f0)]) hx hb dX2_isClosed_1 rfl hl (by decide) rfl (fun ls hl => ?_)
  have L2 : ∀ (N : Nat) (a : Nat) (ls : Array Slot), (10 - a) < N → (a ≤ 10) → (ti_cl2 (ti_fr ss ts lv 0 nf) (ti_gr fa fb 0 n) (List.range' 0 10) = ti_cl2 (ti_fr ss ts lv 0 nf) (ti_gr fa fb 0 n) (List.range' a (10 - a))) → lv_has ls 3 [(0, .ref f0), (1, .int (nI a))] → W p l e (ti_rm 3 0 0) s m ([.ref f0] : List Value).toArray below meth c H locs 0 0 Q (F0 m 2 ls []) := by
    intro N
    induction N with
    | zero => intro a ls h0; exact absurd h0 (Nat.not_lt_zero _)
    | succ N ih2 =>
      intro a ls hN han hv hl
      refine lv_iload_n hx hb dX2_isClosed_2 rfl (lv_at hl 1 rfl) ?_
      refine lv_bipush (v := nI 9) hx hb dX2_isClosed_3 (by decide) ?_
      refine tn_gt (tgt := 51) hx hb dX2_isClosed_5 (by decide) (by omega) (by omega) (fun c5 => ?_) (fun c5 => ?_)
      · skip
        rw [show 10 - a = 0 by omega] at hv
        refine lv_iconst (v := nI 1) hx hb dX2_isClosed_51 (by decide) ?_
        exact hret _ _ _ dX2_isClosed_52 (by rw [hv]; rfl)
      · skip
        obtain ⟨m9, hm9⟩ : ∃ m9, 10 - a = m9 + 1 := ⟨10 - a - 1, by omega⟩
        rw [hm9, show List.range' a (m9 + 1) = a :: List.range' (a + 1) m9 from rfl] at hv
        refine lv_iconst (v := nI 0) hx hb dX2_isClosed_8 (by decide) ?_
        refine lv_istore_n (lv' := [(2, .int (nI 0)), (0, .ref f0), (1, .int (nI a))]) hx hb dX2_isClosed_9 rfl hl (by decide) rfl (fun ls hl => ?_)
        have L10 : ∀ (N : Nat) (b : Nat) (ls : Array Slot), (10 - b) < N → (b ≤ 10) → (ti_cl1 (ti_fr ss ts lv 0 nf) (ti_gr fa fb 0 n) a (List.range' 0 10) = ti_cl1 (ti_fr ss ts lv 0 nf) (ti_gr fa fb 0 n) a (List.range' b (10 - b))) → lv_has ls 3 [(0, .ref f0), (1, .int (nI a)), (2, .int (nI b))] → W p l e (ti_rm 3 0 0) s m ([.ref f0] : List Value).toArray below meth c H locs 0 0 Q (F0 m 10 ls []) := by
          intro N
          induction N with
          | zero => intro b ls h0; exact absurd h0 (Nat.not_lt_zero _)
          | succ N ih10 =>
            intro b ls hN hbn hv2 hl
            refine lv_iload_n hx hb dX2_isClosed_10 rfl (lv_at hl 2 rfl) ?_
            refine lv_bipush (v := nI 9) hx hb dX2_isClosed_11 (by decide) ?_
            refine tn_gt (tgt := 45) hx hb dX2_isClosed_13 (by decide) (by omega) (by omega) (fun c13 => ?_) (fun c13 => ?_)
            · skip
              rw [show 10 - b = 0 by omega] at hv2
              have hv2 : ti_cl1 (ti_fr ss ts lv 0 nf) (ti_gr fa fb 0 n) a (List.range' 0 10) = true := hv2
              refine lv_iinc (v := nI (a + 1)) (lv' := [(1, .int (nI (a + 1))), (0, .ref f0), (2, .int (nI b))]) hx hb dX2_isClosed_45 hl (k := 1) rfl (nI_1 a) (by decide) rfl (fun ls hl => ?_)
              refine lv_goto (tgt := 2) hx hb dX2_isClosed_48 (by decide) ?_
              exact ih2 (a + 1) _ (by omega) (by omega) (by rw [hv, ti_cl2, if_neg (by rw [hv2]; decide), show 10 - (a + 1) = m9 by omega]) (lv_sub hl [1, 0] rfl)
            · skip
              obtain ⟨m8, hm8⟩ : ∃ m8, 10 - b = m8 + 1 := ⟨10 - b - 1, by omega⟩
              rw [hm8, show List.range' b (m8 + 1) = b :: List.range' (b + 1) m8 from rfl] at hv2
              refine lv_aload_n hx hb dX2_isClosed_16 rfl (lv_at hl 0 rfl) ?_
              refine lv_iload_n hx hb dX2_isClosed_17 rfl (lv_at hl 1 rfl) ?_
              refine lv_iload_n hx hb dX2_isClosed_18 rfl (lv_at hl 2 rfl) ?_
              refine ti_pV (As := [.int (nI a), .int (nI b)]) (rest := []) (v := .int (ti_b (ti_hull a b (ti_fr ss ts lv 0 nf)))) S hE hP [0, 1, 2, 3, 4, 5] (met_X2_hasInHull l D E f0 f1 f2 f3 f4 f5 (.ref h) ss ts lv nf up low us los nj hnf hss hts9 hlv a b (by omega) (by omega)) rfl (lw_V q601 q464 q465 q68 q466) 2 rfl 0 rfl rfl (by decide +kernel) ⟨Nat.le_of_ble_eq_true rfl, Nat.le_of_ble_eq_true rfl⟩ hl.1 rfl (Nat.le_of_ble_eq_true rfl) ⟨Nat.le_refl _, Nat.le_refl _⟩ dX2_isClosed_19 ?_
              refine tb_eq (tgt := 39) hx hb dX2_isClosed_22 (by decide) (fun c22 => ?_) (fun c22 => ?_)
              · skip
                refine lv_iinc (v := nI (b + 1)) (lv' := [(2, .int (nI (b + 1))), (0, .ref f0), (1, .int (nI a))]) hx hb dX2_isClosed_39 hl (k := 2) rfl (nI_1 b) (by decide) rfl (fun ls hl => ?_)
                refine lv_goto (tgt := 10) hx hb dX2_isClosed_42 (by decide) ?_
                exact ih10 (b + 1) _ (by omega) (by omega) (by rw [hv2, ti_cl1, if_neg (by first | (rw [c34]; simp; done) | (rw [c22]; simp; done)), show 10 - (b + 1) = m8 by omega]) (lv_sub hl [1, 2, 0] rfl)
              · skip
                refine lv_aload_n hx hb dX2_isClosed_25 rfl (lv_at hl 0 rfl) ?_
                refine va_get (v := .ref h) hx hb hts in_X2 hown hK hP 0 rfl rfl 0 (by decide) (hts _ q132) (fun _ h => h) rfl dX2_isClosed_26 ?_
                refine lv_iload_n hx hb dX2_isClosed_29 rfl (lv_at hl 1 rfl) ?_
                refine lv_iload_n hx hb dX2_isClosed_30 rfl (lv_at hl 2 rfl) ?_
                refine ti_pV (As := [.int (nI a), .int (nI b)]) (rest := []) (v := .int (ti_b (ti_hb a b (-5) (ti_gr fa fb 0 n) 0))) S hE hP [6, 7, 8] (met_X1_holds l D E h ua ub fa fb n hn hfa hfb a b (by omega) (by omega)) rfl (lw_V q602 q603 q604 q67 q605) 2 rfl 6 rfl rfl (by decide +kernel) ⟨Nat.le_of_ble_eq_true rfl, Nat.le_of_ble_eq_true rfl⟩ hl.1 rfl (Nat.le_of_ble_eq_true rfl) ⟨Nat.le_refl _, Nat.le_refl _⟩ dX2_isClosed_31 ?_
                refine tb_ne (tgt := 39) hx hb dX2_isClosed_34 (by decide) (fun c34 => ?_) (fun c34 => ?_)
                · skip
                  refine lv_iinc (v := nI (b + 1)) (lv' := [(2, .int (nI (b + 1))), (0, .ref f0), (1, .int (nI a))]) hx hb dX2_isClosed_39 hl (k := 2) rfl (nI_1 b) (by decide) rfl (fun ls hl => ?_)
                  refine lv_goto (tgt := 10) hx hb dX2_isClosed_42 (by decide) ?_
                  exact ih10 (b + 1) _ (by omega) (by omega) (by rw [hv2, ti_cl1, if_neg (by first | (rw [c34]; simp; done) | (rw [c22]; simp; done)), show 10 - (b + 1) = m8 by omega]) (lv_sub hl [1, 2, 0] rfl)
                · skip
                  refine lv_iconst (v := nI 0) hx hb dX2_isClosed_37 (by decide) ?_
                  exact hret _ _ _ dX2_isClosed_38 (by rw [hv, ti_cl2, if_pos (by rw [hv2, ti_cl1, if_pos ⟨c22, c34⟩])]; rfl)
        exact L10 _ 0 _ (Nat.lt_succ_self _) (by omega) (rfl) (lv_sub hl [1, 2, 0] rfl)
  exact L2 _ 0 _ (Nat.lt_succ_self _) (by omega) (rfl) (lv_sub hl [1, 0] rfl)
