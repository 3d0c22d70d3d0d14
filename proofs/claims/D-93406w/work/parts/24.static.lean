/-! the static methods without cells (printed by w_static.py) -/
set_option maxRecDepth 100000

set_option maxHeartbeats 1000000 in
theorem met_X0_in (l : Launch) (D : va_G) (E : Nat → ClassId) (v lo hi : Int32) : ti_MetP l D E yX0_in cX0_in 3 (some .boolean) 0 ([]) [.int v, .int lo, .int hi] (some (.int (ti_b (ti_in v lo hi)))) := by
  refine ti_pureZ (by decide) (Nat.le_of_ble_eq_true rfl) ?_
  intro p e s m below meth c H locs Q ls S hE hP hl hret
  have hx := S.1
  have hb := S.2.1
  have hown := S.2.2.2.1
  have hts := S.2.2.2.2
  have hK := hE.1
  have hl : lv_has ls 3 [(0, .int v), (1, .int lo), (2, .int hi)] := hl
  refine lv_iload_n hx hb dX0_in_0 rfl (lv_at hl 0 rfl) ?_
  refine lv_iload_n hx hb dX0_in_1 rfl (lv_at hl 1 rfl) ?_
  refine lv_icmp_lt (tgt := 14) hx hb dX0_in_2 (by decide) (fun c2 => ?_) (fun c2 => ?_)
  · skip
    refine lv_iconst (v := nI 0) hx hb dX0_in_14 (by decide) ?_
    exact hret _ _ _ dX0_in_15 (by rw [ti_in, decide_eq_false (fun z => absurd c2 (Int32.not_lt.mpr z.1))]; rfl)
  · skip
    refine lv_iload_n hx hb dX0_in_5 rfl (lv_at hl 0 rfl) ?_
    refine lv_iload_n hx hb dX0_in_6 rfl (lv_at hl 2 rfl) ?_
    refine lv_icmp_gt (tgt := 14) hx hb dX0_in_7 (by decide) (fun c7 => ?_) (fun c7 => ?_)
    · skip
      refine lv_iconst (v := nI 0) hx hb dX0_in_14 (by decide) ?_
      exact hret _ _ _ dX0_in_15 (by rw [ti_in, decide_eq_false (fun z => absurd c7 (Int32.not_lt.mpr z.2))]; rfl)
    · skip
      refine lv_iconst (v := nI 1) hx hb dX0_in_10 (by decide) ?_
      refine lv_goto (tgt := 15) hx hb dX0_in_11 (by decide) ?_
      exact hret _ _ _ dX0_in_15 (by rw [ti_in, decide_eq_true ⟨Int32.not_lt.mp c2, Int32.not_lt.mp c7⟩]; rfl)

set_option maxHeartbeats 1000000 in
theorem met_X7_isFrom (l : Launch) (D : va_G) (E : Nat → ClassId) (v lo hi : Int64) : ti_MetP l D E yX7_isFrom cX7_isFrom 6 (some .boolean) 0 ([]) [.long v, .long lo, .long hi] (some (.int (ti_b (ti_inL v lo hi)))) := by
  refine ti_pureZ (by decide) (Nat.le_of_ble_eq_true rfl) ?_
  intro p e s m below meth c H locs Q ls S hE hP hl hret
  have hx := S.1
  have hb := S.2.1
  have hown := S.2.2.2.1
  have hts := S.2.2.2.2
  have hK := hE.1
  have hl : lv_has ls 6 [(0, .long v), (2, .long lo), (4, .long hi)] := hl
  refine lv_lload_n hx hb dX7_isFrom_0 rfl (lv_at hl 0 rfl) ?_
  refine lv_lload_n hx hb dX7_isFrom_1 rfl (lv_at hl 1 rfl) ?_
  refine W.lcmp hx hb dX7_isFrom_2 ?_
  refine tc_lt (tgt := 17) hx hb dX7_isFrom_3 (by decide) (fun cA => ?_) (fun cA => ?_)
  · skip
    refine lv_iconst (v := nI 0) hx hb dX7_isFrom_17 (by decide) ?_
    exact hret _ _ _ dX7_isFrom_18 (by rw [ti_inL, decide_eq_false (fun z => absurd cA (Int64.not_lt.mpr z.1))]; rfl)
  · skip
    refine lv_lload_n hx hb dX7_isFrom_6 rfl (lv_at hl 0 rfl) ?_
    refine lv_lload hx hb dX7_isFrom_7 (lv_at hl 2 rfl) ?_
    refine W.lcmp hx hb dX7_isFrom_9 ?_
    refine tc_gt (tgt := 17) hx hb dX7_isFrom_10 (by decide) (fun cB => ?_) (fun cB => ?_)
    · skip
      refine lv_iconst (v := nI 0) hx hb dX7_isFrom_17 (by decide) ?_
      exact hret _ _ _ dX7_isFrom_18 (by rw [ti_inL, decide_eq_false (fun z => absurd cB (Int64.not_lt.mpr z.2))]; rfl)
    · skip
      refine lv_iconst (v := nI 1) hx hb dX7_isFrom_13 (by decide) ?_
      refine lv_goto (tgt := 18) hx hb dX7_isFrom_14 (by decide) ?_
      exact hret _ _ _ dX7_isFrom_18 (by rw [ti_inL, decide_eq_true ⟨Int64.not_lt.mp cA, Int64.not_lt.mp cB⟩]; rfl)

set_option maxHeartbeats 1000000 in
theorem met_X0_isIdeal (l : Launch) (D : va_G) (E : Nat → ClassId) (v : Int32) : ti_MetP l D E yX0_isIdeal cX0_isIdeal 1 (some .boolean) 1 ([]) [.int v] (some (.int (ti_b (ti_in v (nI 0) (nI 1))))) := by
  refine ti_pureZ (by decide) (Nat.le_of_ble_eq_true rfl) ?_
  intro p e s m below meth c H locs Q ls S hE hP hl hret
  have hx := S.1
  have hb := S.2.1
  have hown := S.2.2.2.1
  have hts := S.2.2.2.2
  have hK := hE.1
  have hl : lv_has ls 1 [(0, .int v)] := hl
  refine lv_iload_n hx hb dX0_isIdeal_0 rfl (lv_at hl 0 rfl) ?_
  refine lv_iconst (v := nI 0) hx hb dX0_isIdeal_1 (by decide) ?_
  refine lv_iconst (v := nI 1) hx hb dX0_isIdeal_2 (by decide) ?_
  refine ti_pS (As := [.int v, .int (nI 0), .int (nI 1)]) (rest := []) (v := .int (ti_b (ti_in v (nI 0) (nI 1)))) S hE hP [] (met_X0_in l D E v (nI 0) (nI 1)) rfl (lw_S q302 q303 q66 q304) 3 rfl (by decide +kernel) ⟨Nat.le_of_ble_eq_true rfl, Nat.le_of_ble_eq_true rfl⟩ hl.1 rfl (Nat.le_of_ble_eq_true rfl) ⟨Nat.le_refl _, Nat.le_refl _⟩ dX0_isIdeal_3 ?_
  exact hret _ _ _ dX0_isIdeal_6 (rfl)

set_option maxHeartbeats 1000000 in
theorem met_X7_isIdeal (l : Launch) (D : va_G) (E : Nat → ClassId) (v : Int32) : ti_MetP l D E yX7_isIdeal cX7_isIdeal 1 (some .boolean) 1 ([]) [.int v] (some (.int (ti_b (ti_in v (nI 0) (nI 1))))) := by
  refine ti_pureZ (by decide) (Nat.le_of_ble_eq_true rfl) ?_
  intro p e s m below meth c H locs Q ls S hE hP hl hret
  have hx := S.1
  have hb := S.2.1
  have hown := S.2.2.2.1
  have hts := S.2.2.2.2
  have hK := hE.1
  have hl : lv_has ls 1 [(0, .int v)] := hl
  refine lv_iload_n hx hb dX7_isIdeal_0 rfl (lv_at hl 0 rfl) ?_
  refine lv_i2l (v := Int32.toInt64 v) hx hb dX7_isIdeal_1 rfl ?_
  refine lv_lconst (v := lN 0) hx hb dX7_isIdeal_2 (by decide) ?_
  refine lv_lconst (v := lN 1) hx hb dX7_isIdeal_3 (by decide) ?_
  refine ti_pS (As := [.long (Int32.toInt64 v), .long (lN 0), .long (lN 1)]) (rest := []) (v := .int (ti_b (ti_inL (Int32.toInt64 v) (lN 0) (lN 1)))) S hE hP [] (met_X7_isFrom l D E (Int32.toInt64 v) (lN 0) (lN 1)) rfl (lw_S q1234 q1235 q73 q1236) 3 rfl (by decide +kernel) ⟨Nat.le_of_ble_eq_true rfl, Nat.le_of_ble_eq_true rfl⟩ hl.1 rfl (Nat.le_of_ble_eq_true rfl) ⟨Nat.le_refl _, Nat.le_refl _⟩ dX7_isIdeal_4 ?_
  exact hret _ _ _ dX7_isIdeal_7 (by rw [← ti_inL_i (by decide) (by decide)])

set_option maxHeartbeats 1000000 in
theorem met_X0_isTape (l : Launch) (D : va_G) (E : Nat → ClassId) (v : Int32) : ti_MetP l D E yX0_isTape cX0_isTape 1 (some .boolean) 1 ([]) [.int v] (some (.int (ti_b (ti_in v (nI 0) (nI 5))))) := by
  refine ti_pureZ (by decide) (Nat.le_of_ble_eq_true rfl) ?_
  intro p e s m below meth c H locs Q ls S hE hP hl hret
  have hx := S.1
  have hb := S.2.1
  have hown := S.2.2.2.1
  have hts := S.2.2.2.2
  have hK := hE.1
  have hl : lv_has ls 1 [(0, .int v)] := hl
  refine lv_iload_n hx hb dX0_isTape_0 rfl (lv_at hl 0 rfl) ?_
  refine lv_iconst (v := nI 0) hx hb dX0_isTape_1 (by decide) ?_
  refine lv_iconst (v := nI 5) hx hb dX0_isTape_2 (by decide) ?_
  refine ti_pS (As := [.int v, .int (nI 0), .int (nI 5)]) (rest := []) (v := .int (ti_b (ti_in v (nI 0) (nI 5)))) S hE hP [] (met_X0_in l D E v (nI 0) (nI 5)) rfl (lw_S q302 q303 q66 q304) 3 rfl (by decide +kernel) ⟨Nat.le_of_ble_eq_true rfl, Nat.le_of_ble_eq_true rfl⟩ hl.1 rfl (Nat.le_of_ble_eq_true rfl) ⟨Nat.le_refl _, Nat.le_refl _⟩ dX0_isTape_3 ?_
  exact hret _ _ _ dX0_isTape_6 (rfl)

set_option maxHeartbeats 1000000 in
theorem met_X7_isTape (l : Launch) (D : va_G) (E : Nat → ClassId) (v : Int32) : ti_MetP l D E yX7_isTape cX7_isTape 1 (some .boolean) 1 ([]) [.int v] (some (.int (ti_b (ti_in v (nI 0) (nI 5))))) := by
  refine ti_pureZ (by decide) (Nat.le_of_ble_eq_true rfl) ?_
  intro p e s m below meth c H locs Q ls S hE hP hl hret
  have hx := S.1
  have hb := S.2.1
  have hown := S.2.2.2.1
  have hts := S.2.2.2.2
  have hK := hE.1
  have hl : lv_has ls 1 [(0, .int v)] := hl
  refine lv_iload_n hx hb dX7_isTape_0 rfl (lv_at hl 0 rfl) ?_
  refine lv_i2l (v := Int32.toInt64 v) hx hb dX7_isTape_1 rfl ?_
  refine lv_lconst (v := lN 0) hx hb dX7_isTape_2 (by decide) ?_
  refine lv_ldc2 (v := lN 5) hx hb hown (hts _ q1511) dX7_isTape_3 ?_
  refine ti_pS (As := [.long (Int32.toInt64 v), .long (lN 0), .long (lN 5)]) (rest := []) (v := .int (ti_b (ti_inL (Int32.toInt64 v) (lN 0) (lN 5)))) S hE hP [] (met_X7_isFrom l D E (Int32.toInt64 v) (lN 0) (lN 5)) rfl (lw_S q1234 q1235 q73 q1236) 3 rfl (by decide +kernel) ⟨Nat.le_of_ble_eq_true rfl, Nat.le_of_ble_eq_true rfl⟩ hl.1 rfl (Nat.le_of_ble_eq_true rfl) ⟨Nat.le_refl _, Nat.le_refl _⟩ dX7_isTape_6 ?_
  exact hret _ _ _ dX7_isTape_9 (by rw [← ti_inL_i (by decide) (by decide)])

set_option maxHeartbeats 1000000 in
theorem met_X7_isPower (l : Launch) (D : va_G) (E : Nat → ClassId) (v : Int32) : ti_MetP l D E yX7_isPower cX7_isPower 1 (some .boolean) 1 ([]) [.int v] (some (.int (ti_b (ti_in v (nI 0) (nI 9))))) := by
  refine ti_pureZ (by decide) (Nat.le_of_ble_eq_true rfl) ?_
  intro p e s m below meth c H locs Q ls S hE hP hl hret
  have hx := S.1
  have hb := S.2.1
  have hown := S.2.2.2.1
  have hts := S.2.2.2.2
  have hK := hE.1
  have hl : lv_has ls 1 [(0, .int v)] := hl
  refine lv_iload_n hx hb dX7_isPower_0 rfl (lv_at hl 0 rfl) ?_
  refine lv_i2l (v := Int32.toInt64 v) hx hb dX7_isPower_1 rfl ?_
  refine lv_lconst (v := lN 0) hx hb dX7_isPower_2 (by decide) ?_
  refine lv_ldc2 (v := lN 9) hx hb hown (hts _ q1240) dX7_isPower_3 ?_
  refine ti_pS (As := [.long (Int32.toInt64 v), .long (lN 0), .long (lN 9)]) (rest := []) (v := .int (ti_b (ti_inL (Int32.toInt64 v) (lN 0) (lN 9)))) S hE hP [] (met_X7_isFrom l D E (Int32.toInt64 v) (lN 0) (lN 9)) rfl (lw_S q1234 q1235 q73 q1236) 3 rfl (by decide +kernel) ⟨Nat.le_of_ble_eq_true rfl, Nat.le_of_ble_eq_true rfl⟩ hl.1 rfl (Nat.le_of_ble_eq_true rfl) ⟨Nat.le_refl _, Nat.le_refl _⟩ dX7_isPower_6 ?_
  exact hret _ _ _ dX7_isPower_9 (by rw [← ti_inL_i (by decide) (by decide)])

set_option maxHeartbeats 1000000 in
theorem met_X0_isTerm (l : Launch) (D : va_G) (E : Nat → ClassId) (a b : Int32) : ti_MetP l D E yX0_isTerm cX0_isTerm 2 (some .boolean) 1 ([]) [.int a, .int b] (some (.int (ti_b (ti_in a (nI 0) (nI 9) && ti_in b (nI 0) (nI 9))))) := by
  refine ti_pureZ (by decide) (Nat.le_of_ble_eq_true rfl) ?_
  intro p e s m below meth c H locs Q ls S hE hP hl hret
  have hx := S.1
  have hb := S.2.1
  have hown := S.2.2.2.1
  have hts := S.2.2.2.2
  have hK := hE.1
  have hl : lv_has ls 2 [(0, .int a), (1, .int b)] := hl
  refine lv_iload_n hx hb dX0_isTerm_0 rfl (lv_at hl 0 rfl) ?_
  refine lv_iconst (v := nI 0) hx hb dX0_isTerm_1 (by decide) ?_
  refine lv_bipush (v := nI 9) hx hb dX0_isTerm_2 (by decide) ?_
  refine ti_pS (As := [.int a, .int (nI 0), .int (nI 9)]) (rest := []) (v := .int (ti_b (ti_in a (nI 0) (nI 9)))) S hE hP [] (met_X0_in l D E a (nI 0) (nI 9)) rfl (lw_S q302 q303 q66 q304) 3 rfl (by decide +kernel) ⟨Nat.le_of_ble_eq_true rfl, Nat.le_of_ble_eq_true rfl⟩ hl.1 rfl (Nat.le_of_ble_eq_true rfl) ⟨Nat.le_refl _, Nat.le_refl _⟩ dX0_isTerm_4 ?_
  refine tb_eq (tgt := 24) hx hb dX0_isTerm_7 (by decide) (fun cA => ?_) (fun cA => ?_)
  · skip
    refine lv_iconst (v := nI 0) hx hb dX0_isTerm_24 (by decide) ?_
    exact hret _ _ _ dX0_isTerm_25 (by rw [cA]; rfl)
  · skip
    refine lv_iload_n hx hb dX0_isTerm_10 rfl (lv_at hl 1 rfl) ?_
    refine lv_iconst (v := nI 0) hx hb dX0_isTerm_11 (by decide) ?_
    refine lv_bipush (v := nI 9) hx hb dX0_isTerm_12 (by decide) ?_
    refine ti_pS (As := [.int b, .int (nI 0), .int (nI 9)]) (rest := []) (v := .int (ti_b (ti_in b (nI 0) (nI 9)))) S hE hP [] (met_X0_in l D E b (nI 0) (nI 9)) rfl (lw_S q302 q303 q66 q304) 3 rfl (by decide +kernel) ⟨Nat.le_of_ble_eq_true rfl, Nat.le_of_ble_eq_true rfl⟩ hl.1 rfl (Nat.le_of_ble_eq_true rfl) ⟨Nat.le_refl _, Nat.le_refl _⟩ dX0_isTerm_14 ?_
    refine tb_eq (tgt := 24) hx hb dX0_isTerm_17 (by decide) (fun cB => ?_) (fun cB => ?_)
    · skip
      refine lv_iconst (v := nI 0) hx hb dX0_isTerm_24 (by decide) ?_
      exact hret _ _ _ dX0_isTerm_25 (by rw [cA, cB]; rfl)
    · skip
      refine lv_iconst (v := nI 1) hx hb dX0_isTerm_20 (by decide) ?_
      refine lv_goto (tgt := 25) hx hb dX0_isTerm_21 (by decide) ?_
      exact hret _ _ _ dX0_isTerm_25 (by rw [cA, cB]; rfl)

set_option maxHeartbeats 1000000 in
theorem met_X0_isFraction (l : Launch) (D : va_G) (E : Nat → ClassId) (a b : Int32) : ti_MetP l D E yX0_isFraction cX0_isFraction 2 (some .boolean) 1 ([]) [.int a, .int b] (some (.int (ti_b (ti_in a (nI 1) (nI 99) && ti_in b (nI 1) (nI 99))))) := by
  refine ti_pureZ (by decide) (Nat.le_of_ble_eq_true rfl) ?_
  intro p e s m below meth c H locs Q ls S hE hP hl hret
  have hx := S.1
  have hb := S.2.1
  have hown := S.2.2.2.1
  have hts := S.2.2.2.2
  have hK := hE.1
  have hl : lv_has ls 2 [(0, .int a), (1, .int b)] := hl
  refine lv_iload_n hx hb dX0_isFraction_0 rfl (lv_at hl 0 rfl) ?_
  refine lv_iconst (v := nI 1) hx hb dX0_isFraction_1 (by decide) ?_
  refine lv_bipush (v := nI 99) hx hb dX0_isFraction_2 (by decide) ?_
  refine ti_pS (As := [.int a, .int (nI 1), .int (nI 99)]) (rest := []) (v := .int (ti_b (ti_in a (nI 1) (nI 99)))) S hE hP [] (met_X0_in l D E a (nI 1) (nI 99)) rfl (lw_S q302 q303 q66 q304) 3 rfl (by decide +kernel) ⟨Nat.le_of_ble_eq_true rfl, Nat.le_of_ble_eq_true rfl⟩ hl.1 rfl (Nat.le_of_ble_eq_true rfl) ⟨Nat.le_refl _, Nat.le_refl _⟩ dX0_isFraction_4 ?_
  refine tb_eq (tgt := 24) hx hb dX0_isFraction_7 (by decide) (fun cA => ?_) (fun cA => ?_)
  · skip
    refine lv_iconst (v := nI 0) hx hb dX0_isFraction_24 (by decide) ?_
    exact hret _ _ _ dX0_isFraction_25 (by rw [cA]; rfl)
  · skip
    refine lv_iload_n hx hb dX0_isFraction_10 rfl (lv_at hl 1 rfl) ?_
    refine lv_iconst (v := nI 1) hx hb dX0_isFraction_11 (by decide) ?_
    refine lv_bipush (v := nI 99) hx hb dX0_isFraction_12 (by decide) ?_
    refine ti_pS (As := [.int b, .int (nI 1), .int (nI 99)]) (rest := []) (v := .int (ti_b (ti_in b (nI 1) (nI 99)))) S hE hP [] (met_X0_in l D E b (nI 1) (nI 99)) rfl (lw_S q302 q303 q66 q304) 3 rfl (by decide +kernel) ⟨Nat.le_of_ble_eq_true rfl, Nat.le_of_ble_eq_true rfl⟩ hl.1 rfl (Nat.le_of_ble_eq_true rfl) ⟨Nat.le_refl _, Nat.le_refl _⟩ dX0_isFraction_14 ?_
    refine tb_eq (tgt := 24) hx hb dX0_isFraction_17 (by decide) (fun cB => ?_) (fun cB => ?_)
    · skip
      refine lv_iconst (v := nI 0) hx hb dX0_isFraction_24 (by decide) ?_
      exact hret _ _ _ dX0_isFraction_25 (by rw [cA, cB]; rfl)
    · skip
      refine lv_iconst (v := nI 1) hx hb dX0_isFraction_20 (by decide) ?_
      refine lv_goto (tgt := 25) hx hb dX0_isFraction_21 (by decide) ?_
      exact hret _ _ _ dX0_isFraction_25 (by rw [cA, cB]; rfl)

set_option maxHeartbeats 1000000 in
theorem met_X7_isFraction (l : Launch) (D : va_G) (E : Nat → ClassId) (a b : Int32) : ti_MetP l D E yX7_isFraction cX7_isFraction 2 (some .boolean) 1 ([]) [.int a, .int b] (some (.int (ti_b (ti_in a (nI 1) (nI 99) && ti_in b (nI 1) (nI 99))))) := by
  refine ti_pureZ (by decide) (Nat.le_of_ble_eq_true rfl) ?_
  intro p e s m below meth c H locs Q ls S hE hP hl hret
  have hx := S.1
  have hb := S.2.1
  have hown := S.2.2.2.1
  have hts := S.2.2.2.2
  have hK := hE.1
  have hl : lv_has ls 2 [(0, .int a), (1, .int b)] := hl
  refine lv_iload_n hx hb dX7_isFraction_0 rfl (lv_at hl 0 rfl) ?_
  refine lv_i2l (v := Int32.toInt64 a) hx hb dX7_isFraction_1 rfl ?_
  refine lv_lconst (v := lN 1) hx hb dX7_isFraction_2 (by decide) ?_
  refine lv_ldc2 (v := lN 99) hx hb hown (hts _ q1413) dX7_isFraction_3 ?_
  refine ti_pS (As := [.long (Int32.toInt64 a), .long (lN 1), .long (lN 99)]) (rest := []) (v := .int (ti_b (ti_inL (Int32.toInt64 a) (lN 1) (lN 99)))) S hE hP [] (met_X7_isFrom l D E (Int32.toInt64 a) (lN 1) (lN 99)) rfl (lw_S q1234 q1235 q73 q1236) 3 rfl (by decide +kernel) ⟨Nat.le_of_ble_eq_true rfl, Nat.le_of_ble_eq_true rfl⟩ hl.1 rfl (Nat.le_of_ble_eq_true rfl) ⟨Nat.le_refl _, Nat.le_refl _⟩ dX7_isFraction_6 ?_
  refine tb_eq (tgt := 28) hx hb dX7_isFraction_9 (by decide) (fun cA => ?_) (fun cA => ?_)
  · skip
    refine lv_iconst (v := nI 0) hx hb dX7_isFraction_28 (by decide) ?_
    exact hret _ _ _ dX7_isFraction_29 (by rw [← ti_inL_i (v := a) (by decide) (by decide), cA]; rfl)
  · skip
    refine lv_iload_n hx hb dX7_isFraction_12 rfl (lv_at hl 1 rfl) ?_
    refine lv_i2l (v := Int32.toInt64 b) hx hb dX7_isFraction_13 rfl ?_
    refine lv_lconst (v := lN 1) hx hb dX7_isFraction_14 (by decide) ?_
    refine lv_ldc2 (v := lN 99) hx hb hown (hts _ q1413) dX7_isFraction_15 ?_
    refine ti_pS (As := [.long (Int32.toInt64 b), .long (lN 1), .long (lN 99)]) (rest := []) (v := .int (ti_b (ti_inL (Int32.toInt64 b) (lN 1) (lN 99)))) S hE hP [] (met_X7_isFrom l D E (Int32.toInt64 b) (lN 1) (lN 99)) rfl (lw_S q1234 q1235 q73 q1236) 3 rfl (by decide +kernel) ⟨Nat.le_of_ble_eq_true rfl, Nat.le_of_ble_eq_true rfl⟩ hl.1 rfl (Nat.le_of_ble_eq_true rfl) ⟨Nat.le_refl _, Nat.le_refl _⟩ dX7_isFraction_18 ?_
    refine tb_eq (tgt := 28) hx hb dX7_isFraction_21 (by decide) (fun cB => ?_) (fun cB => ?_)
    · skip
      refine lv_iconst (v := nI 0) hx hb dX7_isFraction_28 (by decide) ?_
      exact hret _ _ _ dX7_isFraction_29 (by rw [← ti_inL_i (v := a) (by decide) (by decide), ← ti_inL_i (v := b) (by decide) (by decide), cA, cB]; rfl)
    · skip
      refine lv_iconst (v := nI 1) hx hb dX7_isFraction_24 (by decide) ?_
      refine lv_goto (tgt := 29) hx hb dX7_isFraction_25 (by decide) ?_
      exact hret _ _ _ dX7_isFraction_29 (by rw [← ti_inL_i (v := a) (by decide) (by decide), ← ti_inL_i (v := b) (by decide) (by decide), cA, cB]; rfl)

set_option maxHeartbeats 1000000 in
theorem met_X0_divisor (l : Launch) (D : va_G) (E : Nat → ClassId) (a b : Nat) (ha : a < 2 ^ 63) (hb6 : b < 2 ^ 63) : ti_MetP l D E yX0_divisor cX0_divisor 8 (some .long) 0 ([]) [.long (lN a), .long (lN b)] (some (.long (lN (Nat.gcd a b)))) := by
  refine ti_pureJ (by decide) (Nat.le_of_ble_eq_true rfl) ?_
  intro p e s m below meth c H locs Q ls S hE hP hl hret
  have hx := S.1
  have hb := S.2.1
  have hown := S.2.2.2.1
  have hts := S.2.2.2.2
  have hK := hE.1
  have hl : lv_has ls 8 [(0, .long (lN a)), (2, .long (lN b))] := hl
  refine lv_lload_n hx hb dX0_divisor_0 rfl (lv_at hl 0 rfl) ?_
  refine lv_lstore (lv' := [(4, .long (lN a)), (0, .long (lN a)), (2, .long (lN b))]) hx hb dX0_divisor_1 hl (by decide) rfl (fun ls hl => ?_)
  have L3 : ∀ (N : Nat) (x z : Nat) (ls : Array Slot), z < N → (x < 2 ^ 63) → (z < 2 ^ 63) → (Nat.gcd a b = Nat.gcd x z) → lv_has ls 8 [(4, .long (lN x)), (2, .long (lN z))] → W p l e (ti_rm 0 0 0) s m ([.long (lN a), .long (lN b)] : List Value).toArray below meth c H locs 0 0 Q (F0 m 3 ls []) := by
    intro N
    induction N with
    | zero => intro x z ls h0; exact absurd h0 (Nat.not_lt_zero _)
    | succ N ih3 =>
      intro x z ls hN hx6 hz6 hv hl
      refine lv_lload_n hx hb dX0_divisor_3 rfl (lv_at hl 1 rfl) ?_
      refine lv_lconst (v := lN 0) hx hb dX0_divisor_4 (by decide) ?_
      refine W.lcmp hx hb dX0_divisor_5 ?_
      refine tc_eqN (tgt := 24) hx hb dX0_divisor_6 (by decide) (by omega) (by omega) (fun cz => ?_) (fun cz => ?_)
      · skip
        refine lv_lload hx hb dX0_divisor_24 (lv_at hl 0 rfl) ?_
        exact hret _ _ _ dX0_divisor_26 (by rw [hv, cz, Nat.gcd_zero_right])
      · skip
        refine lv_lload hx hb dX0_divisor_9 (lv_at hl 0 rfl) ?_
        refine lv_lload_n hx hb dX0_divisor_11 rfl (lv_at hl 1 rfl) ?_
        refine tl_rem hx hb dX0_divisor_12 (by omega) (by omega) (by omega) ?_
        refine lv_lstore (lv' := [(6, .long (lN (x % z))), (4, .long (lN x)), (2, .long (lN z))]) hx hb dX0_divisor_13 hl (by decide) rfl (fun ls hl => ?_)
        refine lv_lload_n hx hb dX0_divisor_15 rfl (lv_at hl 2 rfl) ?_
        refine lv_lstore (lv' := [(4, .long (lN z)), (6, .long (lN (x % z))), (2, .long (lN z))]) hx hb dX0_divisor_16 hl (by decide) rfl (fun ls hl => ?_)
        refine lv_lload hx hb dX0_divisor_18 (lv_at hl 1 rfl) ?_
        refine lv_lstore_n (lv' := [(2, .long (lN (x % z))), (4, .long (lN z)), (6, .long (lN (x % z)))]) hx hb dX0_divisor_20 rfl hl (by decide) rfl (fun ls hl => ?_)
        refine lv_goto (tgt := 3) hx hb dX0_divisor_21 (by decide) ?_
        exact ih3 z (x % z) _ (by have := Nat.mod_lt x (show 0 < z by omega); omega) (hz6) (by have := Nat.mod_lt x (show 0 < z by omega); omega) (by rw [hv, ti_gcd (by omega)]) (lv_sub hl [1, 0] rfl)
  exact L3 _ a b _ (Nat.lt_succ_self _) (ha) (hb6) (rfl) (lv_sub hl [0, 2] rfl)

set_option maxHeartbeats 1000000 in
theorem met_X7_divisor (l : Launch) (D : va_G) (E : Nat → ClassId) (a b : Nat) (ha : a < 2 ^ 63) (hb6 : b < 2 ^ 63) : ti_MetP l D E yX7_divisor cX7_divisor 10 (some .long) 0 ([]) [.long (lN a), .long (lN b)] (some (.long (lN (Nat.gcd a b)))) := by
  refine ti_pureJ (by decide) (Nat.le_of_ble_eq_true rfl) ?_
  intro p e s m below meth c H locs Q ls S hE hP hl hret
  have hx := S.1
  have hb := S.2.1
  have hown := S.2.2.2.1
  have hts := S.2.2.2.2
  have hK := hE.1
  have hl : lv_has ls 10 [(0, .long (lN a)), (2, .long (lN b))] := hl
  refine lv_lload_n hx hb dX7_divisor_0 rfl (lv_at hl 0 rfl) ?_
  refine lv_lstore (lv' := [(4, .long (lN a)), (0, .long (lN a)), (2, .long (lN b))]) hx hb dX7_divisor_1 hl (by decide) rfl (fun ls hl => ?_)
  refine lv_lload_n hx hb dX7_divisor_3 rfl (lv_at hl 2 rfl) ?_
  refine lv_lstore (lv' := [(6, .long (lN b)), (4, .long (lN a)), (0, .long (lN a)), (2, .long (lN b))]) hx hb dX7_divisor_4 hl (by decide) rfl (fun ls hl => ?_)
  have L6 : ∀ (N : Nat) (x z : Nat) (ls : Array Slot), z < N → (x < 2 ^ 63) → (z < 2 ^ 63) → (Nat.gcd a b = Nat.gcd x z) → lv_has ls 10 [(4, .long (lN x)), (6, .long (lN z))] → W p l e (ti_rm 0 0 0) s m ([.long (lN a), .long (lN b)] : List Value).toArray below meth c H locs 0 0 Q (F0 m 6 ls []) := by
    intro N
    induction N with
    | zero => intro x z ls h0; exact absurd h0 (Nat.not_lt_zero _)
    | succ N ih6 =>
      intro x z ls hN hx6 hz6 hv hl
      refine lv_lload hx hb dX7_divisor_6 (lv_at hl 1 rfl) ?_
      refine lv_lconst (v := lN 0) hx hb dX7_divisor_8 (by decide) ?_
      refine W.lcmp hx hb dX7_divisor_9 ?_
      refine tc_eqN (tgt := 31) hx hb dX7_divisor_10 (by decide) (by omega) (by omega) (fun cz => ?_) (fun cz => ?_)
      · skip
        refine lv_lload hx hb dX7_divisor_31 (lv_at hl 0 rfl) ?_
        exact hret _ _ _ dX7_divisor_33 (by rw [hv, cz, Nat.gcd_zero_right])
      · skip
        refine lv_lload hx hb dX7_divisor_13 (lv_at hl 0 rfl) ?_
        refine lv_lload hx hb dX7_divisor_15 (lv_at hl 1 rfl) ?_
        refine tl_rem hx hb dX7_divisor_17 (by omega) (by omega) (by omega) ?_
        refine lv_lstore (lv' := [(8, .long (lN (x % z))), (4, .long (lN x)), (6, .long (lN z))]) hx hb dX7_divisor_18 hl (by decide) rfl (fun ls hl => ?_)
        refine lv_lload hx hb dX7_divisor_20 (lv_at hl 2 rfl) ?_
        refine lv_lstore (lv' := [(4, .long (lN z)), (8, .long (lN (x % z))), (6, .long (lN z))]) hx hb dX7_divisor_22 hl (by decide) rfl (fun ls hl => ?_)
        refine lv_lload hx hb dX7_divisor_24 (lv_at hl 1 rfl) ?_
        refine lv_lstore (lv' := [(6, .long (lN (x % z))), (4, .long (lN z)), (8, .long (lN (x % z)))]) hx hb dX7_divisor_26 hl (by decide) rfl (fun ls hl => ?_)
        refine lv_goto (tgt := 6) hx hb dX7_divisor_28 (by decide) ?_
        exact ih6 z (x % z) _ (by have := Nat.mod_lt x (show 0 < z by omega); omega) (hz6) (by have := Nat.mod_lt x (show 0 < z by omega); omega) (by rw [hv, ti_gcd (by omega)]) (lv_sub hl [1, 0] rfl)
  exact L6 _ a b _ (Nat.lt_succ_self _) (ha) (hb6) (rfl) (lv_sub hl [1, 0] rfl)

set_option maxHeartbeats 1000000 in
theorem met_X0_lowest (l : Launch) (D : va_G) (E : Nat → ClassId) (up low : Nat) (hup : up < 2 ^ 63) (hlow : low < 2 ^ 63) (hl0 : 0 < low) (pt : Int32) : ti_MetP l D E yX0_lowest cX0_lowest 5 (some .long) 1 ([]) [.long (lN up), .long (lN low), .int pt] (some (.long (lN ((if pt = 0 then up else low) / Nat.gcd up low)))) := by
  refine ti_pureJ (by decide) (Nat.le_of_ble_eq_true rfl) ?_
  intro p e s m below meth c H locs Q ls S hE hP hl hret
  have hx := S.1
  have hb := S.2.1
  have hown := S.2.2.2.1
  have hts := S.2.2.2.2
  have hK := hE.1
  have hl : lv_has ls 5 [(0, .long (lN up)), (2, .long (lN low)), (4, .int pt)] := hl
  refine lv_iload hx hb dX0_lowest_0 (lv_at hl 2 rfl) ?_
  refine lv_if_ne (tgt := 9) hx hb dX0_lowest_2 (by decide) (fun cz => ?_) (fun cz => ?_)
  · skip
    refine lv_lload_n hx hb dX0_lowest_9 rfl (lv_at hl 1 rfl) ?_
    refine lv_lload_n hx hb dX0_lowest_10 rfl (lv_at hl 0 rfl) ?_
    refine lv_lload_n hx hb dX0_lowest_11 rfl (lv_at hl 1 rfl) ?_
    have hg := Nat.gcd_pos_of_pos_right up hl0
    have hg2 := Nat.le_of_dvd hl0 (Nat.gcd_dvd_right up low)
    refine ti_pS (As := [.long (lN up), .long (lN low)]) (rest := [.long (lN low)]) (v := .long (lN (Nat.gcd up low))) S hE hP [] (met_X0_divisor l D E up low hup hlow) rfl (lw_S q753 q453 q66 q454) 2 rfl (by decide +kernel) ⟨Nat.le_of_ble_eq_true rfl, Nat.le_of_ble_eq_true rfl⟩ hl.1 rfl (Nat.le_of_ble_eq_true rfl) ⟨Nat.le_refl _, Nat.le_refl _⟩ dX0_lowest_12 ?_
    refine tl_div hx hb dX0_lowest_15 (by omega) (by omega) (by omega) ?_
    exact hret _ _ _ dX0_lowest_16 (by rw [if_neg cz])
  · skip
    refine lv_lload_n hx hb dX0_lowest_5 rfl (lv_at hl 0 rfl) ?_
    refine lv_goto (tgt := 10) hx hb dX0_lowest_6 (by decide) ?_
    refine lv_lload_n hx hb dX0_lowest_10 rfl (lv_at hl 0 rfl) ?_
    refine lv_lload_n hx hb dX0_lowest_11 rfl (lv_at hl 1 rfl) ?_
    have hg := Nat.gcd_pos_of_pos_right up hl0
    have hg2 := Nat.le_of_dvd hl0 (Nat.gcd_dvd_right up low)
    refine ti_pS (As := [.long (lN up), .long (lN low)]) (rest := [.long (lN up)]) (v := .long (lN (Nat.gcd up low))) S hE hP [] (met_X0_divisor l D E up low hup hlow) rfl (lw_S q753 q453 q66 q454) 2 rfl (by decide +kernel) ⟨Nat.le_of_ble_eq_true rfl, Nat.le_of_ble_eq_true rfl⟩ hl.1 rfl (Nat.le_of_ble_eq_true rfl) ⟨Nat.le_refl _, Nat.le_refl _⟩ dX0_lowest_12 ?_
    refine tl_div hx hb dX0_lowest_15 (by omega) (by omega) (by omega) ?_
    exact hret _ _ _ dX0_lowest_16 (by rw [if_pos cz])

set_option maxHeartbeats 1000000 in
theorem met_X7_part (l : Launch) (D : va_G) (E : Nat → ClassId) (up low : Nat) (hup : up < 2 ^ 63) (hlow : low < 2 ^ 63) (hl0 : 0 < low) (pt : Int32) : ti_MetP l D E yX7_part cX7_part 7 (some .long) 1 ([]) [.long (lN up), .long (lN low), .int pt] (some (.long (lN ((if pt = 0 then up else low) / Nat.gcd up low)))) := by
  refine ti_pureJ (by decide) (Nat.le_of_ble_eq_true rfl) ?_
  intro p e s m below meth c H locs Q ls S hE hP hl hret
  have hx := S.1
  have hb := S.2.1
  have hown := S.2.2.2.1
  have hts := S.2.2.2.2
  have hK := hE.1
  have hl : lv_has ls 7 [(0, .long (lN up)), (2, .long (lN low)), (4, .int pt)] := hl
  refine lv_lload_n hx hb dX7_part_0 rfl (lv_at hl 0 rfl) ?_
  refine lv_lload_n hx hb dX7_part_1 rfl (lv_at hl 1 rfl) ?_
  have hg := Nat.gcd_pos_of_pos_right up hl0
  have hg2 := Nat.le_of_dvd hl0 (Nat.gcd_dvd_right up low)
  refine ti_pS (As := [.long (lN up), .long (lN low)]) (rest := []) (v := .long (lN (Nat.gcd up low))) S hE hP [] (met_X7_divisor l D E up low hup hlow) rfl (lw_S q1298 q1299 q73 q1300) 2 rfl (by decide +kernel) ⟨Nat.le_of_ble_eq_true rfl, Nat.le_of_ble_eq_true rfl⟩ hl.1 rfl (Nat.le_of_ble_eq_true rfl) ⟨Nat.le_refl _, Nat.le_refl _⟩ dX7_part_2 ?_
  refine lv_lstore (lv' := [(5, .long (lN (Nat.gcd up low))), (0, .long (lN up)), (2, .long (lN low)), (4, .int pt)]) hx hb dX7_part_5 hl (by decide) rfl (fun ls hl => ?_)
  refine lv_iload hx hb dX7_part_7 (lv_at hl 3 rfl) ?_
  refine lv_if_ne (tgt := 19) hx hb dX7_part_9 (by decide) (fun cz => ?_) (fun cz => ?_)
  · skip
    refine lv_lload_n hx hb dX7_part_19 rfl (lv_at hl 2 rfl) ?_
    refine lv_lload hx hb dX7_part_20 (lv_at hl 0 rfl) ?_
    refine tl_div hx hb dX7_part_22 (by omega) (by omega) (by omega) ?_
    exact hret _ _ _ dX7_part_23 (by rw [if_neg cz])
  · skip
    refine lv_lload_n hx hb dX7_part_12 rfl (lv_at hl 1 rfl) ?_
    refine lv_lload hx hb dX7_part_13 (lv_at hl 0 rfl) ?_
    refine tl_div hx hb dX7_part_15 (by omega) (by omega) (by omega) ?_
    refine lv_goto (tgt := 23) hx hb dX7_part_16 (by decide) ?_
    exact hret _ _ _ dX7_part_23 (by rw [if_pos cz])
