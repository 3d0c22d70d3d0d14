/-! what the faces answer, over lists of (s, t, level) -/
set_option maxRecDepth 100000
abbrev ti_wF (E : Nat → ClassId) (f0 f1 f2 f3 f4 f5 : Nat) (ov : Value) (ss ts lv : Nat → Nat) (nf up low : Nat) (us los : Nat → Nat) (nj : Nat) : va_W := [(f0, .inr (2, [ov, .ref f1, .ref f2, .ref f3, .int (nI nf), .int (nI up), .int (nI low), .ref f4, .ref f5, .int (nI nj)])), (f1, .inl (E 0, 8, .inl (ti_n ss))), (f2, .inl (E 0, 8, .inl (ti_n ts))), (f3, .inl (E 0, 8, .inl (ti_n lv))), (f4, .inl (E 0, 100, .inl (ti_n us))), (f5, .inl (E 0, 100, .inl (ti_n los)))]
def ti_fr (ss ts lv : Nat → Nat) (k m : Nat) : List (Nat × Nat × Nat) := (List.range' k m).map fun j => (ss j, ts j, lv j)
theorem ti_fr_s (ss ts lv : Nat → Nat) (k m : Nat) : ti_fr ss ts lv k (m + 1) = (ss k, ts k, lv k) :: ti_fr ss ts lv (k + 1) m := rfl
theorem ti_fr_0 (ss ts lv : Nat → Nat) (k : Nat) : ti_fr ss ts lv k 0 = [] := rfl
theorem ti_fr_len (ss ts lv : Nat → Nat) (k m : Nat) : (ti_fr ss ts lv k m).length = m := by simp [ti_fr]
theorem ti_fr_at {ss ts lv : Nat → Nat} {k m j : Nat} (h : j < m) : (ti_fr ss ts lv k m)[j]? = some (ss (k + j), ts (k + j), lv (k + j)) := by
  simp [ti_fr, h]
/-- whether a term is in the hull -/
def ti_hull (a b : Nat) : List (Nat × Nat × Nat) → Bool
  | [] => true
  | q :: r => if q.2.2 ≤ q.1 * a + q.2.1 * b then ti_hull a b r else false
def ti_wt (q : Nat × Nat × Nat) (a b : Nat) : Nat := q.1 * (a + 1) + q.2.1 * (b + 1)
/-- whether a face bars a term -/
def ti_bar (a b num den : Nat) (q : Nat × Nat × Nat) : Bool := decide (0 < q.2.2 ∧ ti_wt q a b * den ≤ num * q.2.2)
def ti_hd (a b num den : Nat) : List (Nat × Nat × Nat) → Bool
  | [] => true
  | q :: r => if ti_bar a b num den q then false else ti_hd a b num den r
def ti_lk (F : List (Nat × Nat × Nat)) (num den : Nat) : List Nat → Nat → Nat
  | [], z => z
  | k :: r, z => ti_lk F num den r (z + if ti_hd (k / 10) (k % 10) num den F then 0 else 1)
/-- the least jump: weight and level of the first face where it is least -/
def ti_jf (a b : Nat) : List (Nat × Nat × Nat) → Nat × Nat → Nat × Nat
  | [], x => x
  | q :: r, x => ti_jf a b r (if q.2.2 = 0 then x else if x.2 ≠ 0 ∧ x.1 * q.2.2 ≤ ti_wt q a b * x.2 then x else (ti_wt q a b, q.2.2))
/-- whether all of a hull's terms are held: a row of it, all rows -/
def ti_cl1 (F : List (Nat × Nat × Nat)) (G : List (Nat × Nat)) (a : Nat) : List Nat → Bool
  | [] => true
  | b :: r => if ti_hull a b F = true ∧ ti_hb a b (-5) G 0 = false then false else ti_cl1 F G a r
def ti_cl2 (F : List (Nat × Nat × Nat)) (G : List (Nat × Nat)) : List Nat → Bool
  | [] => true
  | a :: r => if ti_cl1 F G a (List.range' 0 10) = false then false else ti_cl2 F G r
/-- a face put to its place among others, the last one first -/
def ti_fi (x : Nat × Nat × Nat) : List (Nat × Nat × Nat) → List (Nat × Nat × Nat)
  | [] => [x]
  | y :: r => if y.1 * x.2.1 < x.1 * y.2.1 then y :: ti_fi x r else x :: y :: r
/-- a row whose places behind q are those ahead of them -/
def ti_ri (q n : Nat) (f : Nat → Nat) : Nat → Nat := fun j => if q < j ∧ j ≤ n then f (j - 1) else f j
theorem ti_ri_0 (n : Nat) (f : Nat → Nat) : ti_ri n n f = f := by
  funext j
  unfold ti_ri
  rw [if_neg (by omega)]
theorem ti_ri_up {q n : Nat} (h : 0 < q) (hn : q ≤ n) (f : Nat → Nat) : va_up (ti_ri q n f) q (ti_ri q n f (q - 1)) = ti_ri (q - 1) n f := by
  funext j
  unfold va_up ti_ri
  by_cases hj : j = q
  · subst hj
    rw [if_pos rfl, if_neg (by omega), if_pos (by omega)]
  · rw [if_neg hj]
    by_cases h2 : q < j ∧ j ≤ n
    · rw [if_pos h2, if_pos (by omega)]
    · rw [if_neg h2, if_neg (by omega)]
theorem ti_ri_le {q n B : Nat} {f : Nat → Nat} (h : ∀ j, f j ≤ B) : ∀ j, ti_ri q n f j ≤ B := by
  intro j
  unfold ti_ri
  by_cases h2 : q < j ∧ j ≤ n
  · rw [if_pos h2]; exact h _
  · rw [if_neg h2]; exact h _
theorem ti_ri_lo {q n j : Nat} {f : Nat → Nat} (h : j ≤ q) : ti_ri q n f j = f j := by
  unfold ti_ri
  rw [if_neg (by omega)]
/-- what stands when one is put at the place p -/
theorem ti_fr_put {p n : Nat} (hp : p ≤ n) (ss ts lv : Nat → Nat) (a b d : Nat) : ti_fr (va_up (ti_ri p n ss) p a) (va_up (ti_ri p n ts) p b) (va_up (ti_ri p n lv) p d) 0 (n + 1) = (ti_fr ss ts lv 0 n).take p ++ (a, b, d) :: (ti_fr ss ts lv 0 n).drop p := by
  apply List.ext_getElem?
  intro j
  have hlen : ((ti_fr ss ts lv 0 n).take p).length = p := by rw [List.length_take, ti_fr_len]; omega
  by_cases hj : j < p
  · rw [ti_fr_at (by omega), List.getElem?_append_left (by omega), List.getElem?_take, if_pos hj, ti_fr_at (by omega), Nat.zero_add]
    rw [va_up_ne _ _ (by omega), va_up_ne _ _ (by omega), va_up_ne _ _ (by omega), ti_ri_lo (by omega), ti_ri_lo (by omega), ti_ri_lo (by omega)]
  · rw [List.getElem?_append_right (by omega), hlen]
    by_cases he : j = p
    · subst he
      rw [ti_fr_at (by omega), Nat.zero_add, va_up_self, va_up_self, va_up_self, Nat.sub_self]
      rfl
    · obtain ⟨i, rfl⟩ : ∃ i, j = p + 1 + i := ⟨j - p - 1, by omega⟩
      rw [show p + 1 + i - p = i + 1 by omega, List.getElem?_cons_succ, List.getElem?_drop]
      by_cases h3 : p + 1 + i ≤ n
      · rw [ti_fr_at (by omega), ti_fr_at (by omega), Nat.zero_add, va_up_ne _ _ (by omega), va_up_ne _ _ (by omega), va_up_ne _ _ (by omega)]
        unfold ti_ri
        rw [if_pos (by omega), if_pos (by omega), if_pos (by omega), Nat.zero_add, show p + 1 + i - 1 = p + i by omega]
      · rw [List.getElem?_eq_none (by rw [ti_fr_len]; omega), List.getElem?_eq_none (by rw [ti_fr_len]; omega)]
theorem ti_take_s {α : Type} {L : List α} {q : Nat} {x : α} (h : L[q]? = some x) : L.take (q + 1) = L.take q ++ [x] ∧ L.drop q = x :: L.drop (q + 1) := by
  obtain ⟨h1, h2⟩ := List.getElem?_eq_some_iff.mp h
  refine ⟨?_, ?_⟩
  · rw [List.take_succ, h]; rfl
  · rw [List.drop_eq_getElem_cons h1, h2]
/-- a jump put to its place among others, the last one first; one that is there already isn't put -/
def ti_ji (x : Nat × Nat) : List (Nat × Nat) → List (Nat × Nat)
  | [] => [x]
  | y :: r => if x.1 * y.2 < y.1 * x.2 then y :: ti_ji x r else if y.1 * x.2 = x.1 * y.2 then y :: r else x :: y :: r
theorem ti_gr_put {p n : Nat} (hp : p ≤ n) (fa fb : Nat → Nat) (a b : Nat) : ti_gr (va_up (ti_ri p n fa) p a) (va_up (ti_ri p n fb) p b) 0 (n + 1) = (ti_gr fa fb 0 n).take p ++ (a, b) :: (ti_gr fa fb 0 n).drop p := by
  apply List.ext_getElem?
  intro j
  have hlen : ((ti_gr fa fb 0 n).take p).length = p := by rw [List.length_take, ti_gr_len]; omega
  by_cases hj : j < p
  · rw [ti_gr_at (by omega), List.getElem?_append_left (by omega), List.getElem?_take, if_pos hj, ti_gr_at (by omega), Nat.zero_add]
    rw [va_up_ne _ _ (by omega), va_up_ne _ _ (by omega), ti_ri_lo (by omega), ti_ri_lo (by omega)]
  · rw [List.getElem?_append_right (by omega), hlen]
    by_cases he : j = p
    · subst he
      rw [ti_gr_at (by omega), Nat.zero_add, va_up_self, va_up_self, Nat.sub_self]
      rfl
    · obtain ⟨i, rfl⟩ : ∃ i, j = p + 1 + i := ⟨j - p - 1, by omega⟩
      rw [show p + 1 + i - p = i + 1 by omega, List.getElem?_cons_succ, List.getElem?_drop]
      by_cases h3 : p + 1 + i ≤ n
      · rw [ti_gr_at (by omega), ti_gr_at (by omega), Nat.zero_add, va_up_ne _ _ (by omega), va_up_ne _ _ (by omega)]
        unfold ti_ri
        rw [if_pos (by omega), if_pos (by omega), Nat.zero_add, show p + 1 + i - 1 = p + i by omega]
      · rw [List.getElem?_eq_none (by rw [ti_gr_len]; omega), List.getElem?_eq_none (by rw [ti_gr_len]; omega)]
/-- all jumps of the terms of a list, in their order, the last one first -/
def ti_jl (F : List (Nat × Nat × Nat)) : List Nat → List (Nat × Nat) → List (Nat × Nat)
  | [], J => J
  | k :: r, J => ti_jl F r (if (ti_jf (k / 10) (k % 10) F (0, 0)).2 = 0 then J else ti_ji (ti_jf (k / 10) (k % 10) F (0, 0)) J)
/-- what was there before doesn't matter -/
theorem ti_jf_start (a b : Nat) : ∀ (F : List (Nat × Nat × Nat)) (x : Nat), (ti_jf a b F (x, 0)).2 = (ti_jf a b F (0, 0)).2 ∧ ((ti_jf a b F (0, 0)).2 ≠ 0 → ti_jf a b F (x, 0) = ti_jf a b F (0, 0))
  | [], x => ⟨rfl, fun h => absurd rfl h⟩
  | q :: r, x => by
    unfold ti_jf
    by_cases h : q.2.2 = 0
    · rw [if_pos h, if_pos h]
      exact ti_jf_start a b r x
    · rw [if_neg h, if_neg h, if_neg (by simp), if_neg (by simp)]
      exact ⟨rfl, fun _ => rfl⟩
theorem ti_jf_le (a b : Nat) (h3 : a ≤ 9) (h4 : b ≤ 9) : ∀ (F : List (Nat × Nat × Nat)) (x : Nat × Nat), (∀ q ∈ F, q.1 ≤ 9 ∧ q.2.1 ≤ 9 ∧ q.2.2 ≤ 9999) → x.1 ≤ 180 → x.2 ≤ 9999 → (ti_jf a b F x).1 ≤ 180 ∧ (ti_jf a b F x).2 ≤ 9999
  | [], x, _, h1, h2 => ⟨h1, h2⟩
  | q :: r, x, hF, h1, h2 => by
    unfold ti_jf
    have hr : ∀ q ∈ r, q.1 ≤ 9 ∧ q.2.1 ≤ 9 ∧ q.2.2 ≤ 9999 := fun z hz => hF z (List.mem_cons_of_mem _ hz)
    obtain ⟨g1, g2, g3⟩ := hF q List.mem_cons_self
    have hw : ti_wt q a b ≤ 180 := by
      have e1 : q.1 * (a + 1) ≤ 9 * 10 := Nat.mul_le_mul g1 (by omega)
      have e2 : q.2.1 * (b + 1) ≤ 9 * 10 := Nat.mul_le_mul g2 (by omega)
      show q.1 * (a + 1) + q.2.1 * (b + 1) ≤ 180
      omega
    by_cases h : q.2.2 = 0
    · rw [if_pos h]
      exact ti_jf_le a b h3 h4 r x hr h1 h2
    · rw [if_neg h]
      by_cases h5 : x.2 ≠ 0 ∧ x.1 * q.2.2 ≤ ti_wt q a b * x.2
      · rw [if_pos h5]
        exact ti_jf_le a b h3 h4 r x hr h1 h2
      · rw [if_neg h5]
        exact ti_jf_le a b h3 h4 r _ hr hw g3
theorem ti_fr_le {ss ts lv : Nat → Nat} (h1 : ∀ k, ss k ≤ 9) (h2 : ∀ k, ts k ≤ 9) (h3 : ∀ k, lv k ≤ 9999) (k m : Nat) : ∀ q ∈ ti_fr ss ts lv k m, q.1 ≤ 9 ∧ q.2.1 ≤ 9 ∧ q.2.2 ≤ 9999 := by
  intro q hq
  obtain ⟨j, -, rfl⟩ := List.mem_map.mp hq
  exact ⟨h1 j, h2 j, h3 j⟩
theorem ti_ji_len (x : Nat × Nat) : ∀ J : List (Nat × Nat), (ti_ji x J).length ≤ J.length + 1
  | [] => by simp [ti_ji]
  | y :: r => by
    unfold ti_ji
    by_cases h : x.1 * y.2 < y.1 * x.2
    · rw [if_pos h]
      simp
      exact ti_ji_len x r
    · rw [if_neg h]
      by_cases h2 : y.1 * x.2 = x.1 * y.2
      · rw [if_pos h2]; simp
      · rw [if_neg h2]; simp
