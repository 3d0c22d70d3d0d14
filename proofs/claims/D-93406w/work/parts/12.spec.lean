/-! what the methods answer, over lists: generators as pairs of powers -/
set_option maxRecDepth 100000
/-- the pairs at the places k .. k + m - 1 of two rows -/
def ti_gr (fa fb : Nat → Nat) (k m : Nat) : List (Nat × Nat) := (List.range' k m).map fun j => (fa j, fb j)
theorem ti_gr_s (fa fb : Nat → Nat) (k m : Nat) : ti_gr fa fb k (m + 1) = (fa k, fb k) :: ti_gr fa fb (k + 1) m := rfl
theorem ti_gr_0 (fa fb : Nat → Nat) (k : Nat) : ti_gr fa fb k 0 = [] := rfl
theorem ti_gr_len (fa fb : Nat → Nat) (k m : Nat) : (ti_gr fa fb k m).length = m := by simp [ti_gr]
/-- the place of a pair -/
def ti_pl (a b : Nat) : List (Nat × Nat) → Nat → Option Nat
  | [], _ => none
  | q :: r, k => if q.1 = a ∧ q.2 = b then some k else ti_pl a b r (k + 1)
def ti_px (o : Option Nat) : Int32 := match o with
  | none => -5
  | some k => nI k
/-- whether a term is in it by another than one -/
def ti_hb (a b : Nat) (t : Int32) : List (Nat × Nat) → Nat → Bool
  | [], _ => false
  | q :: r, k => if ¬ nI k = t ∧ q.1 ≤ a ∧ q.2 ≤ b then true else ti_hb a b t r (k + 1)
def ti_ht (a : Nat) (g : List (Nat × Nat)) (i0 : Nat) : Nat := g.foldl (fun m q => if q.1 ≤ a then min m q.2 else m) i0
def ti_pw (g : List (Nat × Nat)) (i0 : Nat) : Nat := g.foldl (fun m q => m + (q.1 + q.2)) i0
def ti_lv (s t : Nat) (g : List (Nat × Nat)) (i0 : Nat) : Nat := g.foldl (fun m q => min m (s * q.1 + t * q.2)) i0
def ti_ct (s t lev : Nat) (g : List (Nat × Nat)) (i0 : Nat) : Nat := g.foldl (fun m q => if s * q.1 + t * q.2 = lev then m + 1 else m) i0
/-- how many are least -/
def ti_lst (G : List (Nat × Nat)) : List (Nat × Nat) → Nat → Nat → Nat
  | [], _, n => n
  | q :: r, k, n => ti_lst G r (k + 1) (n + (if ti_hb q.1 q.2 (nI k) G 0 then 0 else 1))
/-- an ideal's cells -/
abbrev ti_wI (E : Nat → ClassId) (h ua ub : Nat) (fa fb : Nat → Nat) (n : Nat) : va_W := [(h, .inr (1, [.ref ua, .ref ub, .int (nI n)])), (ua, .inl (E 0, 6, .inl (ti_n fa))), (ub, .inl (E 0, 6, .inl (ti_n fb)))]
theorem ti_ht_le (a : Nat) (g : List (Nat × Nat)) : ∀ i0, ti_ht a g i0 ≤ i0 := by
  induction g with
  | nil => intro i0; exact Nat.le_refl _
  | cons q r ih =>
    intro i0
    show ti_ht a r (if q.1 ≤ a then min i0 q.2 else i0) ≤ i0
    refine Nat.le_trans (ih _) ?_
    by_cases h : q.1 ≤ a
    · rw [if_pos h]; exact Nat.min_le_left _ _
    · rw [if_neg h]; exact Nat.le_refl _
theorem ti_lv_le (s t : Nat) (g : List (Nat × Nat)) : ∀ i0, ti_lv s t g i0 ≤ i0 := by
  induction g with
  | nil => intro i0; exact Nat.le_refl _
  | cons q r ih => intro i0; exact Nat.le_trans (ih _) (Nat.min_le_left _ _)
theorem ti_gr_at {fa fb : Nat → Nat} {k m j : Nat} (h : j < m) : (ti_gr fa fb k m)[j]? = some (fa (k + j), fb (k + j)) := by
  simp [ti_gr, h]
theorem ti_gr_congr {fa fb fa' fb' : Nat → Nat} {k m : Nat} (h : ∀ j, j < m → fa (k + j) = fa' (k + j) ∧ fb (k + j) = fb' (k + j)) : ti_gr fa fb k m = ti_gr fa' fb' k m := by
  apply List.ext_getElem?
  intro j
  by_cases hj : j < m
  · rw [ti_gr_at hj, ti_gr_at hj, (h j hj).1, (h j hj).2]
  · rw [List.getElem?_eq_none (by rw [ti_gr_len]; omega), List.getElem?_eq_none (by rw [ti_gr_len]; omega)]
/-- one more at the end -/
theorem ti_gr_push (fa fb : Nat → Nat) (c a b : Nat) : ti_gr (va_up fa c a) (va_up fb c b) 0 (c + 1) = ti_gr fa fb 0 c ++ [(a, b)] := by
  apply List.ext_getElem?
  intro j
  by_cases hj : j < c
  · rw [ti_gr_at (by omega), List.getElem?_append_left (by rw [ti_gr_len]; exact hj), ti_gr_at hj, va_up_ne _ _ (by omega), va_up_ne _ _ (by omega)]
  · by_cases he : j = c
    · subst he
      rw [ti_gr_at (by omega), List.getElem?_append_right (by rw [ti_gr_len]; omega), ti_gr_len]
      simp [va_up_self]
    · rw [List.getElem?_eq_none (by rw [ti_gr_len]; omega), List.getElem?_eq_none (by simp [ti_gr_len]; omega)]
theorem ti_pl_ge {a b : Nat} : ∀ {g : List (Nat × Nat)} {k j : Nat}, ti_pl a b g k = some j → k ≤ j ∧ j < k + g.length
  | [], _, _, h => by cases h
  | q :: r, k, j, h => by
    unfold ti_pl at h
    by_cases hq : q.1 = a ∧ q.2 = b
    · rw [if_pos hq] at h
      cases h
      simp
    · rw [if_neg hq] at h
      have := ti_pl_ge h
      simp
      omega
theorem ti_pl_none {a b : Nat} : ∀ {g : List (Nat × Nat)} {k : Nat}, ti_pl a b g k = none ↔ (a, b) ∉ g
  | [], _ => by simp [ti_pl]
  | q :: r, k => by
    unfold ti_pl
    by_cases hq : q.1 = a ∧ q.2 = b
    · rw [if_pos hq]
      obtain ⟨q1, q2⟩ := q
      obtain ⟨rfl, rfl⟩ := hq
      simp
    · rw [if_neg hq, ti_pl_none, List.mem_cons, not_or]
      refine ⟨fun h => ⟨fun e => hq (by rw [← e]; exact ⟨rfl, rfl⟩), h⟩, fun h => h.2⟩
theorem ti_px_n5 {o : Option Nat} (h : ∀ j, o = some j → j < 2 ^ 31) : ti_px o = -5 ↔ o = none := by
  cases o with
  | none => exact ⟨fun _ => rfl, fun _ => rfl⟩
  | some j =>
    refine ⟨fun e => ?_, fun e => by cases e⟩
    have h1 : ¬ nI j < 0 := nI_pos (h j rfl)
    exact absurd (show nI j < 0 by rw [show nI j = -5 from e]; decide) h1
theorem ti_place5 {a b : Nat} {g : List (Nat × Nat)} (hl : g.length < 2 ^ 31) : ti_px (ti_pl a b g 0) = -5 ↔ (a, b) ∉ g := by
  rw [ti_px_n5 (fun j hj => by have := ti_pl_ge hj; omega), ti_pl_none]
/-- a row without one of its places -/
def ti_sh (k m : Nat) (f : Nat → Nat) : Nat → Nat := fun j => if k ≤ j ∧ j < m then f (j + 1) else f j
theorem ti_sh_0 (k : Nat) (f : Nat → Nat) : ti_sh k k f = f := by
  funext j
  unfold ti_sh
  rw [if_neg (by omega)]
theorem ti_sh_up {k i : Nat} (h : k ≤ i) (f : Nat → Nat) : va_up (ti_sh k i f) i (ti_sh k i f (i + 1)) = ti_sh k (i + 1) f := by
  funext j
  unfold va_up ti_sh
  by_cases hj : j = i
  · subst hj
    rw [if_pos rfl, if_neg (by omega), if_pos (by omega)]
  · rw [if_neg hj]
    by_cases h2 : k ≤ j ∧ j < i
    · rw [if_pos h2, if_pos (by omega)]
    · rw [if_neg h2, if_neg (by omega)]
theorem ti_sh_gr {k n : Nat} (h : k < n) (fa fb : Nat → Nat) : ti_gr (ti_sh k (n - 1) fa) (ti_sh k (n - 1) fb) 0 (n - 1) = (ti_gr fa fb 0 n).eraseIdx k := by
  apply List.ext_getElem?
  intro j
  rw [List.getElem?_eraseIdx]
  by_cases hj : j < n - 1
  · rw [ti_gr_at hj]
    unfold ti_sh
    by_cases h2 : j < k
    · rw [if_pos h2, ti_gr_at (by omega), if_neg (by omega), if_neg (by omega)]
    · rw [if_neg h2, ti_gr_at (by omega), if_pos (by omega), if_pos (by omega), Nat.zero_add, Nat.zero_add]
  · rw [List.getElem?_eq_none (by rw [ti_gr_len]; omega)]
    by_cases h2 : j < k
    · omega
    · rw [if_neg h2, List.getElem?_eq_none (by rw [ti_gr_len]; omega)]
theorem ti_sh_le {k m B : Nat} {f : Nat → Nat} (h : ∀ j, f j ≤ B) : ∀ j, ti_sh k m f j ≤ B := by
  intro j
  unfold ti_sh
  by_cases h2 : k ≤ j ∧ j < m
  · rw [if_pos h2]; exact h _
  · rw [if_neg h2]; exact h _
theorem ti_up_le {f : Nat → Nat} {i v B : Nat} (h : ∀ j, f j ≤ B) (hv : v ≤ B) : ∀ j, va_up f i v j ≤ B := by
  intro j
  unfold va_up
  by_cases h2 : j = i
  · rw [if_pos h2]; exact hv
  · rw [if_neg h2]; exact h _
/-- all less by a number, like ones once -/
def ti_ls (d : Nat) : List (Nat × Nat) → List (Nat × Nat) → List (Nat × Nat)
  | [], acc => acc
  | q :: r, acc => ti_ls d r (if (q.1 - d, q.2 - d) ∈ acc then acc else acc ++ [(q.1 - d, q.2 - d)])
