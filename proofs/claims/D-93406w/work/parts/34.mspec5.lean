/-! specs: sums of heights, reductions, what was seen, what happens -/
set_option maxRecDepth 100000
def ti_sh2 (v w : Nat) : Int32 := if v = 1000 then ti_hx w else if w = 1000 then ti_hx v else nI (min v w)
theorem ti_hx_n5 {v : Nat} (h : v < 2 ^ 31) : ti_hx v = -5 ↔ v = 1000 := by
  unfold ti_hx
  by_cases e : v = 1000
  · rw [if_pos e]; exact ⟨fun _ => e, fun _ => rfl⟩
  · rw [if_neg e]; exact ⟨fun z => absurd z (ti_n5 h), fun z => absurd z e⟩
def ti_all1 (K : List (Nat × Nat)) : List (Nat × Nat) → Bool
  | [] => true
  | q :: r => if ti_hb q.1 q.2 (-5) K 0 = true then ti_all1 K r else false
def ti_all2 (F : List (Nat × Nat × Nat)) : List (Nat × Nat) → Bool
  | [] => true
  | q :: r => if ti_hull q.1 q.2 F = true then ti_all2 F r else false
/-- whether all that was seen is so of the jumps J -/
def ti_so (J : List (Nat × Nat)) : List (Nat × Nat × Nat) → Bool
  | [] => true
  | q :: r => if q.1 < J.length ∧ (J.getD q.1 (0, 0)).1 * q.2.2 = q.2.1 * (J.getD q.1 (0, 0)).2 then ti_so J r else false
theorem ti_gr_getD {fa fb : Nat → Nat} {n j : Nat} (h : j < n) : (ti_gr fa fb 0 n).getD j (0, 0) = (fa j, fb j) := by
  rw [List.getD_eq_getElem?_getD, ti_gr_at h, Nat.zero_add]; rfl
/-- an event -/
def ti_hp (w d : Nat) (G : List (Nat × Nat)) : List (Nat × Nat) := if w = 2 then ti_ls d G [] else if w = 1 then (if d < G.length then G.eraseIdx d else G) else if (d / 10, d % 10) ∉ G ∧ G.length < 6 then G ++ [(d / 10, d % 10)] else G
theorem ti_placeM {a b : Nat} {g : List (Nat × Nat)} (hl : g.length < 2 ^ 31) : ti_pm (ti_pl a b g 0) = -1 ↔ (a, b) ∉ g := by
  rw [ti_pm_n1 (fun j hj => by have := ti_pl_ge hj; omega), ti_pl_none]
/-- two of the model's ideals agree in the first two -/
def ti_M2 (x y : ti_Mg) : Prop := ∀ i, i < 2 → ti_G x i = ti_G y i
