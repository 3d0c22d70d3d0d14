/-! stairs and rows -/
set_option maxRecDepth 100000
abbrev ti_wS (E : Nat → ClassId) (g0 g1 : Nat) (f : Nat → Nat) : va_W := [(g0, .inr (4, [.ref g1])), (g1, .inl (E 0, 61, .inl (ti_n f)))]
abbrev ti_wR (E : Nat → ClassId) (N r0 r1 r2 r3 : Nat) (fa fb fc : Nat → Nat) (n : Nat) : va_W := [(r0, .inr (5, [.ref r1, .ref r2, .ref r3, .int (nI n)])), (r1, .inl (E 0, N, .inl (ti_n fa))), (r2, .inl (E 0, N, .inl (ti_n fb))), (r3, .inl (E 0, N, .inl (ti_n fc)))]
/-- the stairs of generators -/
def ti_st (G : List (Nat × Nat)) : Nat → Nat := fun j => ti_ht j G 9999
/-- one place of a product, the places c of a list -/
def ti_cv (f g : Nat → Nat) (a : Nat) : List Nat → Nat → Nat
  | [], z => z
  | c :: r, z => ti_cv f g a r (min z (f c + g (a - c)))
theorem ti_cv_le (f g : Nat → Nat) (a : Nat) : ∀ (L : List Nat) (z : Nat), ti_cv f g a L z ≤ z
  | [], _ => Nat.le_refl _
  | c :: r, z => Nat.le_trans (ti_cv_le f g a r _) (Nat.min_le_left _ _)
def ti_pr (f g : Nat → Nat) : Nat → Nat := fun a => ti_cv f g a (List.range' 0 (a + 1)) 9999
def ti_eq (f g : Nat → Nat) : List Nat → Bool
  | [] => true
  | j :: r => if f j = g j then ti_eq f g r else false
theorem ti_st_le (G : List (Nat × Nat)) (j : Nat) : ti_st G j ≤ 9999 := ti_ht_le j G 9999
theorem ti_pr_le (f g : Nat → Nat) (j : Nat) : ti_pr f g j ≤ 9999 := ti_cv_le f g j _ 9999
theorem ti_n_at {f g : Nat → Nat} {j : Nat} (h : f j = g j) : ti_n f j = ti_n g j := by unfold ti_n; rw [h]
theorem ti_fill {g F : Nat → Nat} {a v : Nat} (h : ∀ j, j < a → g j = F j) (hv : v = F a) : ∀ j, j < a + 1 → va_up g a v j = F j := by
  intro j hj
  by_cases e : j = a
  · rw [e, va_up_self]; exact hv
  · rw [va_up_ne _ _ e]; exact h j (by omega)
theorem ti_fill2 {g F : Nat → Nat} {a : Nat} (h : ∀ j, j < a → g j = F j) (hv : g a = F a) : ∀ j, j < a + 1 → g j = F j := by
  intro j hj
  by_cases e : j = a
  · rw [e]; exact hv
  · exact h j (by omega)
