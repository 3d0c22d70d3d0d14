/-! TermIdeals$Ideal: the methods that only read (printed by w_ideal.py) -/
set_option maxRecDepth 100000

set_option maxHeartbeats 1000000 in
theorem met_X1_placeOf (l : Launch) (D : va_G) (E : Nat → ClassId) (h ua ub : Nat) (fa fb : Nat → Nat) (n : Nat) (hn : n ≤ 6) (hfa : ∀ k, fa k ≤ 9) (hfb : ∀ k, fb k ≤ 9) (a b : Nat) (ha9 : a ≤ 9) (hb9 : b ≤ 9) : ti_MetP l D E yX1_placeOf cX1_placeOf 4 (some .int) 1 (ti_wI E h ua ub fa fb n) [.ref h, .int (nI a), .int (nI b)] (some (.int (ti_px (ti_pl a b (ti_gr fa fb 0 n) 0)))) := by
  refine ti_pureI (by decide) (Nat.le_of_ble_eq_true rfl) ?_
  intro p e s m below meth c H locs Q ls S hE hP hl hret
  have hx := S.1
  have hb := S.2.1
  have hown := S.2.2.2.1
  have hts := S.2.2.2.2
  have hK := hE.1
  have hl : lv_has ls 4 [(0, .ref h), (1, .int (nI a)), (2, .int (nI b))] := hl
  refine lv_iconst (v := nI 0) hx hb dX1_placeOf_0 (by decide) ?_
  refine lv_istore_n (lv' := [(3, .int (nI 0)), (0, .ref h), (1, .int (nI a)), (2, .int (nI b))]) hx hb dX1_placeOf_1 rfl hl (by decide) rfl (fun ls hl => ?_)
  have L2 : ∀ (N : Nat) (k : Nat) (ls : Array Slot), (n - k) < N → (k ≤ n) → (ti_px (ti_pl a b (ti_gr fa fb 0 n) 0) = ti_px (ti_pl a b (ti_gr fa fb k (n - k)) k)) → lv_has ls 4 [(0, .ref h), (1, .int (nI a)), (2, .int (nI b)), (3, .int (nI k))] → W p l e (ti_rm 1 0 0) s m ([.ref h, .int (nI a), .int (nI b)] : List Value).toArray below meth c H locs 0 0 Q (F0 m 2 ls []) := by
    intro N
    induction N with
    | zero => intro k ls h0; exact absurd h0 (Nat.not_lt_zero _)
    | succ N ih2 =>
      intro k ls hN hkn hv hl
      refine lv_iload_n hx hb dX1_placeOf_2 rfl (lv_at hl 3 rfl) ?_
      refine lv_aload_n hx hb dX1_placeOf_3 rfl (lv_at hl 0 rfl) ?_
      refine va_get (v := .int (nI n)) hx hb hts in_X1 hown hK hP 0 rfl rfl 2 (by decide) (hts _ q116) (fun _ h => h) rfl dX1_placeOf_4 ?_
      refine tn_ge (tgt := 38) hx hb dX1_placeOf_7 (by decide) (by omega) (by omega) (fun c7 => ?_) (fun c7 => ?_)
      · skip
        rw [show n - k = 0 by omega, ti_gr_0] at hv
        refine lv_bipush (v := (-5)) hx hb dX1_placeOf_38 (by decide) ?_
        exact hret _ _ _ dX1_placeOf_40 (by rw [hv]; rfl)
      · skip
        obtain ⟨m9, hm9⟩ : ∃ m9, n - k = m9 + 1 := ⟨n - k - 1, by omega⟩
        rw [hm9, ti_gr_s] at hv
        refine lv_aload_n hx hb dX1_placeOf_10 rfl (lv_at hl 0 rfl) ?_
        refine va_get (v := .ref ua) hx hb hts in_X1 hown hK hP 0 rfl rfl 0 (by decide) (hts _ q109) (fun _ h => h) rfl dX1_placeOf_11 ?_
        refine lv_iload_n hx hb dX1_placeOf_14 rfl (lv_at hl 3 rfl) ?_
        refine tn_iald hx hb hK hP 1 0 rfl rfl (by omega) (by decide) dX1_placeOf_15 ?_
        have b15 := hfa k
        refine lv_iload_n hx hb dX1_placeOf_16 rfl (lv_at hl 1 rfl) ?_
        refine tn_ne (tgt := 32) hx hb dX1_placeOf_17 (by decide) (by omega) (by omega) (fun c17 => ?_) (fun c17 => ?_)
        · skip
          refine lv_iinc (v := nI (k + 1)) (lv' := [(3, .int (nI (k + 1))), (0, .ref h), (1, .int (nI a)), (2, .int (nI b))]) hx hb dX1_placeOf_32 hl (k := 3) rfl (nI_1 k) (by decide) rfl (fun ls hl => ?_)
          refine lv_goto (tgt := 2) hx hb dX1_placeOf_35 (by decide) ?_
          exact ih2 (k + 1) _ (by omega) (by omega) (by rw [hv, ti_pl, if_neg (by dsimp only; omega), show n - (k + 1) = m9 by omega]) (lv_sub hl [1, 2, 3, 0] rfl)
        · skip
          refine lv_aload_n hx hb dX1_placeOf_20 rfl (lv_at hl 0 rfl) ?_
          refine va_get (v := .ref ub) hx hb hts in_X1 hown hK hP 0 rfl rfl 1 (by decide) (hts _ q112) (fun _ h => h) rfl dX1_placeOf_21 ?_
          refine lv_iload_n hx hb dX1_placeOf_24 rfl (lv_at hl 3 rfl) ?_
          refine tn_iald hx hb hK hP 2 0 rfl rfl (by omega) (by decide) dX1_placeOf_25 ?_
          have b25 := hfb k
          refine lv_iload_n hx hb dX1_placeOf_26 rfl (lv_at hl 2 rfl) ?_
          refine tn_ne (tgt := 32) hx hb dX1_placeOf_27 (by decide) (by omega) (by omega) (fun c27 => ?_) (fun c27 => ?_)
          · skip
            refine lv_iinc (v := nI (k + 1)) (lv' := [(3, .int (nI (k + 1))), (0, .ref h), (1, .int (nI a)), (2, .int (nI b))]) hx hb dX1_placeOf_32 hl (k := 3) rfl (nI_1 k) (by decide) rfl (fun ls hl => ?_)
            refine lv_goto (tgt := 2) hx hb dX1_placeOf_35 (by decide) ?_
            exact ih2 (k + 1) _ (by omega) (by omega) (by rw [hv, ti_pl, if_neg (by dsimp only; omega), show n - (k + 1) = m9 by omega]) (lv_sub hl [1, 2, 3, 0] rfl)
          · skip
            refine lv_iload_n hx hb dX1_placeOf_30 rfl (lv_at hl 3 rfl) ?_
            exact hret _ _ _ dX1_placeOf_31 (by rw [hv, ti_pl, if_pos ⟨c17, c27⟩]; rfl)
  exact L2 _ 0 _ (Nat.lt_succ_self _) (by omega) (rfl) (lv_sub hl [1, 2, 3, 0] rfl)

set_option maxHeartbeats 1000000 in
theorem met_X1_holdsBut (l : Launch) (D : va_G) (E : Nat → ClassId) (h ua ub : Nat) (fa fb : Nat → Nat) (n : Nat) (hn : n ≤ 6) (hfa : ∀ k, fa k ≤ 9) (hfb : ∀ k, fb k ≤ 9) (a b : Nat) (ha9 : a ≤ 9) (hb9 : b ≤ 9) (t : Int32) : ti_MetP l D E yX1_holdsBut cX1_holdsBut 5 (some .boolean) 1 (ti_wI E h ua ub fa fb n) [.ref h, .int (nI a), .int (nI b), .int t] (some (.int (ti_b (ti_hb a b t (ti_gr fa fb 0 n) 0)))) := by
  refine ti_pureZ (by decide) (Nat.le_of_ble_eq_true rfl) ?_
  intro p e s m below meth c H locs Q ls S hE hP hl hret
  have hx := S.1
  have hb := S.2.1
  have hown := S.2.2.2.1
  have hts := S.2.2.2.2
  have hK := hE.1
  have hl : lv_has ls 5 [(0, .ref h), (1, .int (nI a)), (2, .int (nI b)), (3, .int t)] := hl
  refine lv_iconst (v := nI 0) hx hb dX1_holdsBut_0 (by decide) ?_
  refine lv_istore (lv' := [(4, .int (nI 0)), (0, .ref h), (1, .int (nI a)), (2, .int (nI b)), (3, .int t)]) hx hb dX1_holdsBut_1 hl (by decide) rfl (fun ls hl => ?_)
  have L3 : ∀ (N : Nat) (k : Nat) (ls : Array Slot), (n - k) < N → (k ≤ n) → (ti_hb a b t (ti_gr fa fb 0 n) 0 = ti_hb a b t (ti_gr fa fb k (n - k)) k) → lv_has ls 5 [(0, .ref h), (1, .int (nI a)), (2, .int (nI b)), (3, .int t), (4, .int (nI k))] → W p l e (ti_rm 1 0 0) s m ([.ref h, .int (nI a), .int (nI b), .int t] : List Value).toArray below meth c H locs 0 0 Q (F0 m 3 ls []) := by
    intro N
    induction N with
    | zero => intro k ls h0; exact absurd h0 (Nat.not_lt_zero _)
    | succ N ih3 =>
      intro k ls hN hkn hv hl
      refine lv_iload hx hb dX1_holdsBut_3 (lv_at hl 4 rfl) ?_
      refine lv_aload_n hx hb dX1_holdsBut_5 rfl (lv_at hl 0 rfl) ?_
      refine va_get (v := .int (nI n)) hx hb hts in_X1 hown hK hP 0 rfl rfl 2 (by decide) (hts _ q116) (fun _ h => h) rfl dX1_holdsBut_6 ?_
      refine tn_ge (tgt := 48) hx hb dX1_holdsBut_9 (by decide) (by omega) (by omega) (fun c9 => ?_) (fun c9 => ?_)
      · skip
        rw [show n - k = 0 by omega, ti_gr_0] at hv
        refine lv_iconst (v := nI 0) hx hb dX1_holdsBut_48 (by decide) ?_
        exact hret _ _ _ dX1_holdsBut_49 (by rw [hv]; rfl)
      · skip
        obtain ⟨m9, hm9⟩ : ∃ m9, n - k = m9 + 1 := ⟨n - k - 1, by omega⟩
        rw [hm9, ti_gr_s] at hv
        refine lv_iload hx hb dX1_holdsBut_12 (lv_at hl 4 rfl) ?_
        refine lv_iload_n hx hb dX1_holdsBut_14 rfl (lv_at hl 3 rfl) ?_
        refine lv_icmp_eq (tgt := 42) hx hb dX1_holdsBut_15 (by decide) (fun c15 => ?_) (fun c15 => ?_)
        · skip
          refine lv_iinc (v := nI (k + 1)) (lv' := [(4, .int (nI (k + 1))), (0, .ref h), (1, .int (nI a)), (2, .int (nI b)), (3, .int t)]) hx hb dX1_holdsBut_42 hl (k := 4) rfl (nI_1 k) (by decide) rfl (fun ls hl => ?_)
          refine lv_goto (tgt := 3) hx hb dX1_holdsBut_45 (by decide) ?_
          exact ih3 (k + 1) _ (by omega) (by omega) (by rw [hv, ti_hb, if_neg (by dsimp only; first | omega | exact fun z => z.1 c15 | exact fun z => absurd z.2.1 (by omega) | exact fun z => absurd z.2.2 (by omega)), show n - (k + 1) = m9 by omega]) (lv_sub hl [1, 2, 3, 4, 0] rfl)
        · skip
          refine lv_aload_n hx hb dX1_holdsBut_18 rfl (lv_at hl 0 rfl) ?_
          refine va_get (v := .ref ua) hx hb hts in_X1 hown hK hP 0 rfl rfl 0 (by decide) (hts _ q109) (fun _ h => h) rfl dX1_holdsBut_19 ?_
          refine lv_iload hx hb dX1_holdsBut_22 (lv_at hl 4 rfl) ?_
          refine tn_iald hx hb hK hP 1 0 rfl rfl (by omega) (by decide) dX1_holdsBut_24 ?_
          have b24 := hfa k
          refine lv_iload_n hx hb dX1_holdsBut_25 rfl (lv_at hl 1 rfl) ?_
          refine tn_gt (tgt := 42) hx hb dX1_holdsBut_26 (by decide) (by omega) (by omega) (fun c26 => ?_) (fun c26 => ?_)
          · skip
            refine lv_iinc (v := nI (k + 1)) (lv' := [(4, .int (nI (k + 1))), (0, .ref h), (1, .int (nI a)), (2, .int (nI b)), (3, .int t)]) hx hb dX1_holdsBut_42 hl (k := 4) rfl (nI_1 k) (by decide) rfl (fun ls hl => ?_)
            refine lv_goto (tgt := 3) hx hb dX1_holdsBut_45 (by decide) ?_
            exact ih3 (k + 1) _ (by omega) (by omega) (by rw [hv, ti_hb, if_neg (by dsimp only; first | omega | exact fun z => z.1 c15 | exact fun z => absurd z.2.1 (by omega) | exact fun z => absurd z.2.2 (by omega)), show n - (k + 1) = m9 by omega]) (lv_sub hl [1, 2, 3, 4, 0] rfl)
          · skip
            refine lv_aload_n hx hb dX1_holdsBut_29 rfl (lv_at hl 0 rfl) ?_
            refine va_get (v := .ref ub) hx hb hts in_X1 hown hK hP 0 rfl rfl 1 (by decide) (hts _ q112) (fun _ h => h) rfl dX1_holdsBut_30 ?_
            refine lv_iload hx hb dX1_holdsBut_33 (lv_at hl 4 rfl) ?_
            refine tn_iald hx hb hK hP 2 0 rfl rfl (by omega) (by decide) dX1_holdsBut_35 ?_
            have b35 := hfb k
            refine lv_iload_n hx hb dX1_holdsBut_36 rfl (lv_at hl 2 rfl) ?_
            refine tn_gt (tgt := 42) hx hb dX1_holdsBut_37 (by decide) (by omega) (by omega) (fun c37 => ?_) (fun c37 => ?_)
            · skip
              refine lv_iinc (v := nI (k + 1)) (lv' := [(4, .int (nI (k + 1))), (0, .ref h), (1, .int (nI a)), (2, .int (nI b)), (3, .int t)]) hx hb dX1_holdsBut_42 hl (k := 4) rfl (nI_1 k) (by decide) rfl (fun ls hl => ?_)
              refine lv_goto (tgt := 3) hx hb dX1_holdsBut_45 (by decide) ?_
              exact ih3 (k + 1) _ (by omega) (by omega) (by rw [hv, ti_hb, if_neg (by dsimp only; first | omega | exact fun z => z.1 c15 | exact fun z => absurd z.2.1 (by omega) | exact fun z => absurd z.2.2 (by omega)), show n - (k + 1) = m9 by omega]) (lv_sub hl [1, 2, 3, 4, 0] rfl)
            · skip
              refine lv_iconst (v := nI 1) hx hb dX1_holdsBut_40 (by decide) ?_
              exact hret _ _ _ dX1_holdsBut_41 (by rw [hv, ti_hb, if_pos ⟨c15, c26, c37⟩]; rfl)
  exact L3 _ 0 _ (Nat.lt_succ_self _) (by omega) (rfl) (lv_sub hl [1, 2, 3, 4, 0] rfl)

set_option maxHeartbeats 1000000 in
theorem met_X1_holds (l : Launch) (D : va_G) (E : Nat → ClassId) (h ua ub : Nat) (fa fb : Nat → Nat) (n : Nat) (hn : n ≤ 6) (hfa : ∀ k, fa k ≤ 9) (hfb : ∀ k, fb k ≤ 9) (a b : Nat) (ha9 : a ≤ 9) (hb9 : b ≤ 9) : ti_MetP l D E yX1_holds cX1_holds 3 (some .boolean) 2 (ti_wI E h ua ub fa fb n) [.ref h, .int (nI a), .int (nI b)] (some (.int (ti_b (ti_hb a b (-5) (ti_gr fa fb 0 n) 0)))) := by
  refine ti_pureZ (by decide) (Nat.le_of_ble_eq_true rfl) ?_
  intro p e s m below meth c H locs Q ls S hE hP hl hret
  have hx := S.1
  have hb := S.2.1
  have hown := S.2.2.2.1
  have hts := S.2.2.2.2
  have hK := hE.1
  have hl : lv_has ls 3 [(0, .ref h), (1, .int (nI a)), (2, .int (nI b))] := hl
  refine lv_aload_n hx hb dX1_holds_0 rfl (lv_at hl 0 rfl) ?_
  refine lv_iload_n hx hb dX1_holds_1 rfl (lv_at hl 1 rfl) ?_
  refine lv_iload_n hx hb dX1_holds_2 rfl (lv_at hl 2 rfl) ?_
  refine lv_bipush (v := (-5)) hx hb dX1_holds_3 (by decide) ?_
  refine ti_pV (As := [.int (nI a), .int (nI b), .int ((-5))]) (rest := []) (v := .int (ti_b (ti_hb a b (-5) (ti_gr fa fb 0 n) 0))) S hE hP [0, 1, 2] (met_X1_holdsBut l D E h ua ub fa fb n hn hfa hfb a b (by omega) (by omega) (-5)) rfl (lw_V q584 q585 q586 q67 q587) 3 rfl 0 rfl rfl (by decide +kernel) ⟨Nat.le_of_ble_eq_true rfl, Nat.le_of_ble_eq_true rfl⟩ hl.1 rfl (Nat.le_of_ble_eq_true rfl) ⟨Nat.le_refl _, Nat.le_refl _⟩ dX1_holds_5 ?_
  exact hret _ _ _ dX1_holds_8 (rfl)

set_option maxHeartbeats 1000000 in
theorem met_X1_isLeast (l : Launch) (D : va_G) (E : Nat → ClassId) (h ua ub : Nat) (fa fb : Nat → Nat) (n : Nat) (hn : n ≤ 6) (hfa : ∀ k, fa k ≤ 9) (hfb : ∀ k, fb k ≤ 9) (k : Nat) (hk : k < n) : ti_MetP l D E yX1_isLeast cX1_isLeast 2 (some .boolean) 2 (ti_wI E h ua ub fa fb n) [.ref h, .int (nI k)] (some (.int (ti_b (!ti_hb (fa k) (fb k) (nI k) (ti_gr fa fb 0 n) 0)))) := by
  refine ti_pureZ (by decide) (Nat.le_of_ble_eq_true rfl) ?_
  intro p e s m below meth c H locs Q ls S hE hP hl hret
  have hx := S.1
  have hb := S.2.1
  have hown := S.2.2.2.1
  have hts := S.2.2.2.2
  have hK := hE.1
  have hl : lv_has ls 2 [(0, .ref h), (1, .int (nI k))] := hl
  refine lv_aload_n hx hb dX1_isLeast_0 rfl (lv_at hl 0 rfl) ?_
  refine lv_aload_n hx hb dX1_isLeast_1 rfl (lv_at hl 0 rfl) ?_
  refine va_get (v := .ref ua) hx hb hts in_X1 hown hK hP 0 rfl rfl 0 (by decide) (hts _ q109) (fun _ h => h) rfl dX1_isLeast_2 ?_
  refine lv_iload_n hx hb dX1_isLeast_5 rfl (lv_at hl 1 rfl) ?_
  refine tn_iald hx hb hK hP 1 0 rfl rfl (by omega) (by decide) dX1_isLeast_6 ?_
  have b6 := hfa k
  refine lv_aload_n hx hb dX1_isLeast_7 rfl (lv_at hl 0 rfl) ?_
  refine va_get (v := .ref ub) hx hb hts in_X1 hown hK hP 0 rfl rfl 1 (by decide) (hts _ q112) (fun _ h => h) rfl dX1_isLeast_8 ?_
  refine lv_iload_n hx hb dX1_isLeast_11 rfl (lv_at hl 1 rfl) ?_
  refine tn_iald hx hb hK hP 2 0 rfl rfl (by omega) (by decide) dX1_isLeast_12 ?_
  have b12 := hfb k
  refine lv_iload_n hx hb dX1_isLeast_13 rfl (lv_at hl 1 rfl) ?_
  refine ti_pV (As := [.int (nI (fa k)), .int (nI (fb k)), .int (nI k)]) (rest := []) (v := .int (ti_b (ti_hb (fa k) (fb k) (nI k) (ti_gr fa fb 0 n) 0))) S hE hP [0, 1, 2] (met_X1_holdsBut l D E h ua ub fa fb n hn hfa hfb (fa k) (fb k) (by omega) (by omega) (nI k)) rfl (lw_V q584 q585 q586 q67 q587) 3 rfl 0 rfl rfl (by decide +kernel) ⟨Nat.le_of_ble_eq_true rfl, Nat.le_of_ble_eq_true rfl⟩ hl.1 rfl (Nat.le_of_ble_eq_true rfl) ⟨Nat.le_refl _, Nat.le_refl _⟩ dX1_isLeast_14 ?_
  refine tb_ne (tgt := 24) hx hb dX1_isLeast_17 (by decide) (fun c17 => ?_) (fun c17 => ?_)
  · skip
    refine lv_iconst (v := nI 0) hx hb dX1_isLeast_24 (by decide) ?_
    exact hret _ _ _ dX1_isLeast_25 (by rw [c17]; rfl)
  · skip
    refine lv_iconst (v := nI 1) hx hb dX1_isLeast_20 (by decide) ?_
    refine lv_goto (tgt := 25) hx hb dX1_isLeast_21 (by decide) ?_
    exact hret _ _ _ dX1_isLeast_25 (by rw [c17]; rfl)

set_option maxHeartbeats 1000000 in
theorem met_X1_least (l : Launch) (D : va_G) (E : Nat → ClassId) (h ua ub : Nat) (fa fb : Nat → Nat) (n : Nat) (hn : n ≤ 6) (hfa : ∀ k, fa k ≤ 9) (hfb : ∀ k, fb k ≤ 9) : ti_MetP l D E yX1_least cX1_least 3 (some .int) 3 (ti_wI E h ua ub fa fb n) [.ref h] (some (.int (nI (ti_lst (ti_gr fa fb 0 n) (ti_gr fa fb 0 n) 0 0)))) := by
  refine ti_pureI (by decide) (Nat.le_of_ble_eq_true rfl) ?_
  intro p e s m below meth c H locs Q ls S hE hP hl hret
  have hx := S.1
  have hb := S.2.1
  have hown := S.2.2.2.1
  have hts := S.2.2.2.2
  have hK := hE.1
  have hl : lv_has ls 3 [(0, .ref h)] := hl
  refine lv_iconst (v := nI 0) hx hb dX1_least_0 (by decide) ?_
  refine lv_istore_n (lv' := [(1, .int (nI 0)), (0, .ref h)]) hx hb dX1_least_1 rfl hl (by decide) rfl (fun ls hl => ?_)
  refine lv_iconst (v := nI 0) hx hb dX1_least_2 (by decide) ?_
  refine lv_istore_n (lv' := [(2, .int (nI 0)), (1, .int (nI 0)), (0, .ref h)]) hx hb dX1_least_3 rfl hl (by decide) rfl (fun ls hl => ?_)
  have L4 : ∀ (N : Nat) (k : Nat) (z : Nat) (ls : Array Slot), (n - k) < N → (k ≤ n) → (ti_lst (ti_gr fa fb 0 n) (ti_gr fa fb 0 n) 0 0 = ti_lst (ti_gr fa fb 0 n) (ti_gr fa fb k (n - k)) k z) → lv_has ls 3 [(0, .ref h), (1, .int (nI z)), (2, .int (nI k))] → W p l e (ti_rm 3 0 0) s m ([.ref h] : List Value).toArray below meth c H locs 0 0 Q (F0 m 4 ls []) := by
    intro N
    induction N with
    | zero => intro k z ls h0; exact absurd h0 (Nat.not_lt_zero _)
    | succ N ih4 =>
      intro k z ls hN hkn hv hl
      refine lv_iload_n hx hb dX1_least_4 rfl (lv_at hl 2 rfl) ?_
      refine lv_aload_n hx hb dX1_least_5 rfl (lv_at hl 0 rfl) ?_
      refine va_get (v := .int (nI n)) hx hb hts in_X1 hown hK hP 0 rfl rfl 2 (by decide) (hts _ q116) (fun _ h => h) rfl dX1_least_6 ?_
      refine tn_ge (tgt := 34) hx hb dX1_least_9 (by decide) (by omega) (by omega) (fun c9 => ?_) (fun c9 => ?_)
      · skip
        rw [show n - k = 0 by omega, ti_gr_0] at hv
        refine lv_iload_n hx hb dX1_least_34 rfl (lv_at hl 1 rfl) ?_
        exact hret _ _ _ dX1_least_35 (by rw [hv]; rfl)
      · skip
        obtain ⟨m9, hm9⟩ : ∃ m9, n - k = m9 + 1 := ⟨n - k - 1, by omega⟩
        rw [hm9, ti_gr_s] at hv
        refine lv_iload_n hx hb dX1_least_12 rfl (lv_at hl 1 rfl) ?_
        refine lv_aload_n hx hb dX1_least_13 rfl (lv_at hl 0 rfl) ?_
        refine lv_iload_n hx hb dX1_least_14 rfl (lv_at hl 2 rfl) ?_
        refine ti_pV (As := [.int (nI k)]) (rest := [.int (nI z)]) (v := .int (ti_b (!ti_hb (fa k) (fb k) (nI k) (ti_gr fa fb 0 n) 0))) S hE hP [0, 1, 2] (met_X1_isLeast l D E h ua ub fa fb n hn hfa hfb k (by omega)) rfl (lw_V q596 q581 q582 q67 q583) 1 rfl 0 rfl rfl (by decide +kernel) ⟨Nat.le_of_ble_eq_true rfl, Nat.le_of_ble_eq_true rfl⟩ hl.1 rfl (Nat.le_of_ble_eq_true rfl) ⟨Nat.le_refl _, Nat.le_refl _⟩ dX1_least_15 ?_
        refine tb_eq (tgt := 25) hx hb dX1_least_18 (by decide) (fun c18 => ?_) (fun c18 => ?_)
        · skip
          refine lv_iconst (v := nI 0) hx hb dX1_least_25 (by decide) ?_
          refine tn_add hx hb dX1_least_26 ?_
          refine lv_istore_n (lv' := [(1, .int (nI (z + 0))), (0, .ref h), (2, .int (nI k))]) hx hb dX1_least_27 rfl hl (by decide) rfl (fun ls hl => ?_)
          refine lv_iinc (v := nI (k + 1)) (lv' := [(2, .int (nI (k + 1))), (1, .int (nI (z + 0))), (0, .ref h)]) hx hb dX1_least_28 hl (k := 2) rfl (nI_1 k) (by decide) rfl (fun ls hl => ?_)
          refine lv_goto (tgt := 4) hx hb dX1_least_31 (by decide) ?_
          exact ih4 (k + 1) (z + 0) _ (by omega) (by omega) (by rw [hv, ti_lst]; dsimp only; cases hq : ti_hb (fa k) (fb k) (nI k) (ti_gr fa fb 0 n) 0 <;> rw [hq] at c18 <;> first | (cases c18; done) | rw [show n - (k + 1) = m9 by omega]; rfl) (lv_sub hl [2, 1, 0] rfl)
        · skip
          refine lv_iconst (v := nI 1) hx hb dX1_least_21 (by decide) ?_
          refine lv_goto (tgt := 26) hx hb dX1_least_22 (by decide) ?_
          refine tn_add hx hb dX1_least_26 ?_
          refine lv_istore_n (lv' := [(1, .int (nI (z + 1))), (0, .ref h), (2, .int (nI k))]) hx hb dX1_least_27 rfl hl (by decide) rfl (fun ls hl => ?_)
          refine lv_iinc (v := nI (k + 1)) (lv' := [(2, .int (nI (k + 1))), (1, .int (nI (z + 1))), (0, .ref h)]) hx hb dX1_least_28 hl (k := 2) rfl (nI_1 k) (by decide) rfl (fun ls hl => ?_)
          refine lv_goto (tgt := 4) hx hb dX1_least_31 (by decide) ?_
          exact ih4 (k + 1) (z + 1) _ (by omega) (by omega) (by rw [hv, ti_lst]; dsimp only; cases hq : ti_hb (fa k) (fb k) (nI k) (ti_gr fa fb 0 n) 0 <;> rw [hq] at c18 <;> first | (cases c18; done) | rw [show n - (k + 1) = m9 by omega]; rfl) (lv_sub hl [2, 1, 0] rfl)
  exact L4 _ 0 0 _ (Nat.lt_succ_self _) (by omega) (rfl) (lv_sub hl [2, 1, 0] rfl)

set_option maxHeartbeats 1000000 in
theorem met_X1_height (l : Launch) (D : va_G) (E : Nat → ClassId) (h ua ub : Nat) (fa fb : Nat → Nat) (n : Nat) (hn : n ≤ 6) (hfa : ∀ k, fa k ≤ 9) (hfb : ∀ k, fb k ≤ 9) (a : Nat) (ha9 : a < 2 ^ 31) : ti_MetP l D E yX1_height cX1_height 4 (some .int) 1 (ti_wI E h ua ub fa fb n) [.ref h, .int (nI a)] (some (.int (nI (ti_ht a (ti_gr fa fb 0 n) 9999)))) := by
  refine ti_pureI (by decide) (Nat.le_of_ble_eq_true rfl) ?_
  intro p e s m below meth c H locs Q ls S hE hP hl hret
  have hx := S.1
  have hb := S.2.1
  have hown := S.2.2.2.1
  have hts := S.2.2.2.2
  have hK := hE.1
  have hl : lv_has ls 4 [(0, .ref h), (1, .int (nI a))] := hl
  refine lv_sipush (v := nI 9999) hx hb dX1_height_0 (by decide) ?_
  refine lv_istore_n (lv' := [(2, .int (nI 9999)), (0, .ref h), (1, .int (nI a))]) hx hb dX1_height_3 rfl hl (by decide) rfl (fun ls hl => ?_)
  refine lv_iconst (v := nI 0) hx hb dX1_height_4 (by decide) ?_
  refine lv_istore_n (lv' := [(3, .int (nI 0)), (2, .int (nI 9999)), (0, .ref h), (1, .int (nI a))]) hx hb dX1_height_5 rfl hl (by decide) rfl (fun ls hl => ?_)
  have L6 : ∀ (N : Nat) (k : Nat) (z : Nat) (ls : Array Slot), (n - k) < N → (k ≤ n) → (ti_ht a (ti_gr fa fb 0 n) 9999 = ti_ht a (ti_gr fa fb k (n - k)) z) → (z ≤ 9999) → lv_has ls 4 [(0, .ref h), (1, .int (nI a)), (2, .int (nI z)), (3, .int (nI k))] → W p l e (ti_rm 1 0 0) s m ([.ref h, .int (nI a)] : List Value).toArray below meth c H locs 0 0 Q (F0 m 6 ls []) := by
    intro N
    induction N with
    | zero => intro k z ls h0; exact absurd h0 (Nat.not_lt_zero _)
    | succ N ih6 =>
      intro k z ls hN hkn hv hz hl
      refine lv_iload_n hx hb dX1_height_6 rfl (lv_at hl 3 rfl) ?_
      refine lv_aload_n hx hb dX1_height_7 rfl (lv_at hl 0 rfl) ?_
      refine va_get (v := .int (nI n)) hx hb hts in_X1 hown hK hP 0 rfl rfl 2 (by decide) (hts _ q116) (fun _ h => h) rfl dX1_height_8 ?_
      refine tn_ge (tgt := 41) hx hb dX1_height_11 (by decide) (by omega) (by omega) (fun c11 => ?_) (fun c11 => ?_)
      · skip
        rw [show n - k = 0 by omega, ti_gr_0] at hv
        refine lv_iload_n hx hb dX1_height_41 rfl (lv_at hl 2 rfl) ?_
        exact hret _ _ _ dX1_height_42 (by rw [hv]; rfl)
      · skip
        obtain ⟨m9, hm9⟩ : ∃ m9, n - k = m9 + 1 := ⟨n - k - 1, by omega⟩
        rw [hm9, ti_gr_s] at hv
        refine lv_aload_n hx hb dX1_height_14 rfl (lv_at hl 0 rfl) ?_
        refine va_get (v := .ref ua) hx hb hts in_X1 hown hK hP 0 rfl rfl 0 (by decide) (hts _ q109) (fun _ h => h) rfl dX1_height_15 ?_
        refine lv_iload_n hx hb dX1_height_18 rfl (lv_at hl 3 rfl) ?_
        refine tn_iald hx hb hK hP 1 0 rfl rfl (by omega) (by decide) dX1_height_19 ?_
        have b19 := hfa k
        refine lv_iload_n hx hb dX1_height_20 rfl (lv_at hl 1 rfl) ?_
        refine tn_gt (tgt := 35) hx hb dX1_height_21 (by decide) (by omega) (by omega) (fun c21 => ?_) (fun c21 => ?_)
        · skip
          refine lv_iinc (v := nI (k + 1)) (lv' := [(3, .int (nI (k + 1))), (0, .ref h), (1, .int (nI a)), (2, .int (nI z))]) hx hb dX1_height_35 hl (k := 3) rfl (nI_1 k) (by decide) rfl (fun ls hl => ?_)
          refine lv_goto (tgt := 6) hx hb dX1_height_38 (by decide) ?_
          exact ih6 (k + 1) z _ (by omega) (by omega) (by rw [hv]; show List.foldl _ (if fa k ≤ a then min z (fb k) else z) _ = _; rw [if_neg (by omega), show n - (k + 1) = m9 by omega]; rfl) (by omega) (lv_sub hl [1, 2, 3, 0] rfl)
        · skip
          refine lv_iload_n hx hb dX1_height_24 rfl (lv_at hl 2 rfl) ?_
          refine lv_aload_n hx hb dX1_height_25 rfl (lv_at hl 0 rfl) ?_
          refine va_get (v := .ref ub) hx hb hts in_X1 hown hK hP 0 rfl rfl 1 (by decide) (hts _ q112) (fun _ h => h) rfl dX1_height_26 ?_
          refine lv_iload_n hx hb dX1_height_29 rfl (lv_at hl 3 rfl) ?_
          refine tn_iald hx hb hK hP 2 0 rfl rfl (by omega) (by decide) dX1_height_30 ?_
          have b30 := hfb k
          refine tn_min S hl.1 q782 (Nat.le_of_ble_eq_true rfl) (Nat.le_of_ble_eq_true rfl) ⟨Nat.le_refl _, Nat.le_refl _⟩ (by omega) (by omega) dX1_height_31 ?_
          refine lv_istore_n (lv' := [(2, .int (nI (min z (fb k)))), (0, .ref h), (1, .int (nI a)), (3, .int (nI k))]) hx hb dX1_height_34 rfl hl (by decide) rfl (fun ls hl => ?_)
          refine lv_iinc (v := nI (k + 1)) (lv' := [(3, .int (nI (k + 1))), (2, .int (nI (min z (fb k)))), (0, .ref h), (1, .int (nI a))]) hx hb dX1_height_35 hl (k := 3) rfl (nI_1 k) (by decide) rfl (fun ls hl => ?_)
          refine lv_goto (tgt := 6) hx hb dX1_height_38 (by decide) ?_
          exact ih6 (k + 1) (min z (fb k)) _ (by omega) (by omega) (by rw [hv]; show List.foldl _ (if fa k ≤ a then min z (fb k) else z) _ = _; rw [if_pos c21, show n - (k + 1) = m9 by omega]; rfl) (by omega) (lv_sub hl [2, 3, 1, 0] rfl)
  exact L6 _ 0 9999 _ (Nat.lt_succ_self _) (by omega) (rfl) (by omega) (lv_sub hl [2, 3, 1, 0] rfl)

set_option maxHeartbeats 1000000 in
theorem met_X1_powers (l : Launch) (D : va_G) (E : Nat → ClassId) (h ua ub : Nat) (fa fb : Nat → Nat) (n : Nat) (hn : n ≤ 6) (hfa : ∀ k, fa k ≤ 9) (hfb : ∀ k, fb k ≤ 9) : ti_MetP l D E yX1_powers cX1_powers 3 (some .int) 0 (ti_wI E h ua ub fa fb n) [.ref h] (some (.int (nI (ti_pw (ti_gr fa fb 0 n) 0)))) := by
  refine ti_pureI (by decide) (Nat.le_of_ble_eq_true rfl) ?_
  intro p e s m below meth c H locs Q ls S hE hP hl hret
  have hx := S.1
  have hb := S.2.1
  have hown := S.2.2.2.1
  have hts := S.2.2.2.2
  have hK := hE.1
  have hl : lv_has ls 3 [(0, .ref h)] := hl
  refine lv_iconst (v := nI 0) hx hb dX1_powers_0 (by decide) ?_
  refine lv_istore_n (lv' := [(1, .int (nI 0)), (0, .ref h)]) hx hb dX1_powers_1 rfl hl (by decide) rfl (fun ls hl => ?_)
  refine lv_iconst (v := nI 0) hx hb dX1_powers_2 (by decide) ?_
  refine lv_istore_n (lv' := [(2, .int (nI 0)), (1, .int (nI 0)), (0, .ref h)]) hx hb dX1_powers_3 rfl hl (by decide) rfl (fun ls hl => ?_)
  have L4 : ∀ (N : Nat) (k : Nat) (z : Nat) (ls : Array Slot), (n - k) < N → (k ≤ n) → (ti_pw (ti_gr fa fb 0 n) 0 = ti_pw (ti_gr fa fb k (n - k)) z) → lv_has ls 3 [(0, .ref h), (1, .int (nI z)), (2, .int (nI k))] → W p l e (ti_rm 0 0 0) s m ([.ref h] : List Value).toArray below meth c H locs 0 0 Q (F0 m 4 ls []) := by
    intro N
    induction N with
    | zero => intro k z ls h0; exact absurd h0 (Nat.not_lt_zero _)
    | succ N ih4 =>
      intro k z ls hN hkn hv hl
      refine lv_iload_n hx hb dX1_powers_4 rfl (lv_at hl 2 rfl) ?_
      refine lv_aload_n hx hb dX1_powers_5 rfl (lv_at hl 0 rfl) ?_
      refine va_get (v := .int (nI n)) hx hb hts in_X1 hown hK hP 0 rfl rfl 2 (by decide) (hts _ q116) (fun _ h => h) rfl dX1_powers_6 ?_
      refine tn_ge (tgt := 34) hx hb dX1_powers_9 (by decide) (by omega) (by omega) (fun c9 => ?_) (fun c9 => ?_)
      · skip
        rw [show n - k = 0 by omega, ti_gr_0] at hv
        refine lv_iload_n hx hb dX1_powers_34 rfl (lv_at hl 1 rfl) ?_
        exact hret _ _ _ dX1_powers_35 (by rw [hv]; rfl)
      · skip
        obtain ⟨m9, hm9⟩ : ∃ m9, n - k = m9 + 1 := ⟨n - k - 1, by omega⟩
        rw [hm9, ti_gr_s] at hv
        refine lv_iload_n hx hb dX1_powers_12 rfl (lv_at hl 1 rfl) ?_
        refine lv_aload_n hx hb dX1_powers_13 rfl (lv_at hl 0 rfl) ?_
        refine va_get (v := .ref ua) hx hb hts in_X1 hown hK hP 0 rfl rfl 0 (by decide) (hts _ q109) (fun _ h => h) rfl dX1_powers_14 ?_
        refine lv_iload_n hx hb dX1_powers_17 rfl (lv_at hl 2 rfl) ?_
        refine tn_iald hx hb hK hP 1 0 rfl rfl (by omega) (by decide) dX1_powers_18 ?_
        have b18 := hfa k
        refine lv_aload_n hx hb dX1_powers_19 rfl (lv_at hl 0 rfl) ?_
        refine va_get (v := .ref ub) hx hb hts in_X1 hown hK hP 0 rfl rfl 1 (by decide) (hts _ q112) (fun _ h => h) rfl dX1_powers_20 ?_
        refine lv_iload_n hx hb dX1_powers_23 rfl (lv_at hl 2 rfl) ?_
        refine tn_iald hx hb hK hP 2 0 rfl rfl (by omega) (by decide) dX1_powers_24 ?_
        have b24 := hfb k
        refine tn_add hx hb dX1_powers_25 ?_
        refine tn_add hx hb dX1_powers_26 ?_
        refine lv_istore_n (lv' := [(1, .int (nI (z + ((fa k) + (fb k))))), (0, .ref h), (2, .int (nI k))]) hx hb dX1_powers_27 rfl hl (by decide) rfl (fun ls hl => ?_)
        refine lv_iinc (v := nI (k + 1)) (lv' := [(2, .int (nI (k + 1))), (1, .int (nI (z + ((fa k) + (fb k))))), (0, .ref h)]) hx hb dX1_powers_28 hl (k := 2) rfl (nI_1 k) (by decide) rfl (fun ls hl => ?_)
        refine lv_goto (tgt := 4) hx hb dX1_powers_31 (by decide) ?_
        exact ih4 (k + 1) (z + ((fa k) + (fb k))) _ (by omega) (by omega) (by rw [hv, show n - (k + 1) = m9 by omega]; rfl) (lv_sub hl [2, 1, 0] rfl)
  exact L4 _ 0 0 _ (Nat.lt_succ_self _) (by omega) (rfl) (lv_sub hl [2, 1, 0] rfl)
