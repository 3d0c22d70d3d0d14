/-! items of tapes: how each sort keeps them -/
set_option maxRecDepth 100000
theorem ti_as0 (v : Int64) : ti_as (nI 0) v = v.toInt32.toInt8.toInt32.toInt64 := by unfold ti_as; rw [if_pos (by decide)]
theorem ti_as1 (v : Int64) : ti_as (nI 1) v = v.toInt32.toInt16.toInt32.toInt64 := by unfold ti_as; rw [if_neg (by decide), if_pos (by decide)]
theorem ti_as2 (v : Int64) : ti_as (nI 2) v = v.toInt32.toInt64 := by unfold ti_as; rw [if_neg (by decide), if_neg (by decide), if_pos (by decide)]
theorem ti_as3 (v : Int64) : ti_as (nI 3) v = v := by unfold ti_as; rw [if_neg (by decide), if_neg (by decide), if_neg (by decide), if_pos (by decide)]
theorem ti_as4 (v : Int64) : ti_as (nI 4) v = if v = 0 then 0 else 1 := by unfold ti_as; rw [if_neg (by decide), if_neg (by decide), if_neg (by decide), if_neg (by decide)]
theorem ti_i64 (x : Int32) : x.toInt64.toInt32 = x := by simp
theorem ti_nm_as : ∀ {s : Nat}, s < 5 → ∀ v : Int64, ti_nm s (ti_as (nI s) v)
  | 0, _, v => by unfold ti_nm; rw [ti_as0, ti_as0, ti_i64, Int8.toInt8_toInt32]
  | 1, _, v => by unfold ti_nm; rw [ti_as1, ti_as1, ti_i64, Int16.toInt16_toInt32]
  | 2, _, v => by unfold ti_nm; rw [ti_as2, ti_as2, ti_i64]
  | 3, _, v => by unfold ti_nm; rw [ti_as3, ti_as3]
  | 4, _, v => by
    unfold ti_nm; rw [ti_as4, ti_as4]
    by_cases h : v = 0
    · rw [if_pos h]; decide
    · rw [if_neg h]; decide
theorem ti_nm_0 : ∀ {s : Nat}, s < 5 → ti_nm s 0
  | 0, _ => by unfold ti_nm; rw [ti_as0]; decide
  | 1, _ => by unfold ti_nm; rw [ti_as1]; decide
  | 2, _ => by unfold ti_nm; rw [ti_as2]; decide
  | 3, _ => by unfold ti_nm; rw [ti_as3]
  | 4, _ => by unfold ti_nm; rw [ti_as4]; decide
theorem ti_nm_i : ∀ {s : Nat}, s < 5 → s ≠ 3 → ∀ {v : Int64}, ti_nm s v → v.toInt32.toInt64 = v
  | 0, _, _, v, h => by unfold ti_nm at h; rw [ti_as0] at h; rw [h, ti_i64]
  | 1, _, _, v, h => by unfold ti_nm at h; rw [ti_as1] at h; rw [h, ti_i64]
  | 2, _, _, v, h => by unfold ti_nm at h; rw [ti_as2] at h; exact h.symm
  | 3, _, h, _, _ => absurd rfl h
  | 4, _, _, v, h => by
    unfold ti_nm at h; rw [ti_as4] at h
    by_cases hv : v = 0
    · rw [hv]; decide
    · rw [if_neg hv] at h; rw [h]; decide
theorem ti_up_i32 (g : Nat → Int64) (j : Nat) (w : Int64) : (fun k => (va_up g j w k).toInt32) = va_up (fun k => (g k).toInt32) j w.toInt32 := by
  funext k
  by_cases e : k = j
  · rw [e, va_up_self, va_up_self]
  · rw [va_up_ne _ _ e, va_up_ne _ _ e]
/-- what an item's storing writes -/
theorem ti_st0 (v : Int64) : (ti_as (nI 0) v).toInt32 = v.toInt32.toInt8.toInt32 := by rw [ti_as0, ti_i64]
theorem ti_st1 (v : Int64) : (ti_as (nI 1) v).toInt32 = v.toInt32.toInt16.toInt32 := by rw [ti_as1, ti_i64]
theorem ti_st2 (v : Int64) : (ti_as (nI 2) v).toInt32 = v.toInt32 := by rw [ti_as2, ti_i64]
theorem ti_st4 (v : Int64) : (ti_as (nI 4) v).toInt32 = if v = 0 then 0 else 1 := by
  rw [ti_as4]
  by_cases h : v = 0
  · rw [if_pos h, if_pos h]; decide
  · rw [if_neg h, if_neg h]; decide
theorem ti_set_map {g : Nat → Int64} {n j : Nat} {w : Int64} (hj : j < n) : ((List.range' 0 n).map g).set j w = (List.range' 0 n).map (va_up g j w) := by
  apply List.ext_getElem?
  intro k
  rw [List.getElem?_set]
  by_cases hk : k < n
  · rw [List.getElem?_map, List.getElem?_map, List.getElem?_range' hk]
    by_cases e : j = k
    · subst e
      rw [if_pos rfl, if_pos (by rw [List.length_map, List.length_range']; exact hk)]
      show some w = some (va_up g j w (0 + 1 * j))
      rw [Nat.zero_add, Nat.one_mul, va_up_self]
    · rw [if_neg e]
      show some (g (0 + 1 * k)) = some (va_up g j w (0 + 1 * k))
      rw [Nat.zero_add, Nat.one_mul, va_up_ne _ _ (Ne.symm e)]
  · rw [List.getElem?_eq_none (l := (List.range' 0 n).map (va_up g j w)) (by rw [List.length_map, List.length_range']; omega), if_neg (by omega), List.getElem?_eq_none (by rw [List.length_map, List.length_range']; omega)]
theorem ti_fb8 (y : Int8) : fits .byte (.int y.toInt32) = true := by
  show (decide ((-128 : Int32) ≤ y.toInt32) && decide (y.toInt32 ≤ 127)) = true
  have h1 := Int8.le_toInt y
  have h2 := Int8.toInt_le y
  rw [Bool.and_eq_true]
  refine ⟨decide_eq_true ?_, decide_eq_true ?_⟩
  · rw [Int32.le_iff_toInt_le, Int8.toInt_toInt32]; exact h1
  · rw [Int32.le_iff_toInt_le, Int8.toInt_toInt32]; exact h2
theorem ti_fb16 (y : Int16) : fits .short (.int y.toInt32) = true := by
  show (decide ((-32768 : Int32) ≤ y.toInt32) && decide (y.toInt32 ≤ 32767)) = true
  have h1 := Int16.le_toInt y
  have h2 := Int16.toInt_le y
  rw [Bool.and_eq_true]
  refine ⟨decide_eq_true ?_, decide_eq_true ?_⟩
  · rw [Int32.le_iff_toInt_le, Int16.toInt_toInt32]; exact h1
  · rw [Int32.le_iff_toInt_le, Int16.toInt_toInt32]; exact h2
theorem ti_fit0 {v : Int64} (h : ti_nm 0 v) : fits .byte (.int v.toInt32) = true := by
  unfold ti_nm at h; rw [ti_as0] at h; rw [h, ti_i64]; exact ti_fb8 _
theorem ti_fit1 {v : Int64} (h : ti_nm 1 v) : fits .short (.int v.toInt32) = true := by
  unfold ti_nm at h; rw [ti_as1] at h; rw [h, ti_i64]; exact ti_fb16 _
theorem ti_fit4 {v : Int64} (h : ti_nm 4 v) : fits .boolean (.int v.toInt32) = true := by
  unfold ti_nm at h; rw [ti_as4] at h
  by_cases hv : v = 0
  · rw [hv]; decide
  · rw [if_neg hv] at h; rw [h]; decide
theorem ti_map_getD {g : Nat → Int64} {n j : Nat} (hj : j < n) : ((List.range' 0 n).map g).getD j 0 = g j := by
  rw [List.getD_eq_getElem?_getD, List.getElem?_map, List.getElem?_range' hj]
  show g (0 + 1 * j) = g j
  rw [Nat.zero_add, Nat.one_mul]
theorem ti_mv_cpy {g0 g1 : Nat → Int64} {n0 n1 i j n : Nat} (hi : i + n ≤ n0) : ti_mv ((List.range' 0 n0).map g0) ((List.range' 0 n1).map g1) i j n = (List.range' 0 n1).map (va_cpy g0 g1 i j n) := by
  unfold ti_mv
  rw [List.length_map, List.length_range']
  refine List.map_congr_left fun q hq => ?_
  obtain ⟨k, hk, rfl⟩ := List.mem_range'.mp hq
  show _ = if j ≤ 0 + 1 * k ∧ 0 + 1 * k < j + n then g0 (i + (0 + 1 * k - j)) else g1 (0 + 1 * k)
  rw [Nat.zero_add, Nat.one_mul]
  by_cases h : j ≤ k ∧ k < j + n
  · rw [if_pos h, if_pos h, ti_map_getD (by omega)]
  · rw [if_neg h, if_neg h, ti_map_getD hk]
theorem ti_cpy_i32 (g0 g1 : Nat → Int64) (i j n : Nat) : (fun k => (va_cpy g0 g1 i j n k).toInt32) = va_cpy (fun k => (g0 k).toInt32) (fun k => (g1 k).toInt32) i j n := by
  funext k
  unfold va_cpy
  by_cases h : j ≤ k ∧ k < j + n
  · rw [if_pos h, if_pos h]
  · rw [if_neg h, if_neg h]
theorem ti_cpy_nm {s : Nat} {g0 g1 : Nat → Int64} (h0 : ∀ k, ti_nm s (g0 k)) (h1 : ∀ k, ti_nm s (g1 k)) (i j n : Nat) : ∀ k, ti_nm s (va_cpy g0 g1 i j n k) := by
  intro k
  unfold va_cpy
  by_cases h : j ≤ k ∧ k < j + n
  · rw [if_pos h]; exact h0 _
  · rw [if_neg h]; exact h1 _
