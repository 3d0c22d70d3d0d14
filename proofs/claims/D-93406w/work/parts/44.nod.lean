/-! distinct generators have few faces -/
set_option maxRecDepth 100000
theorem ti_pigeon {α β : Type} [BEq β] [LawfulBEq β] (R : α → β → Prop) : ∀ (l : List α) (G : List β), l.Pairwise (fun x y => ∀ g, R x g → R y g → False) → (∀ x ∈ l, ∃ g ∈ G, R x g) → l.length ≤ G.length
  | [], _, _, _ => Nat.zero_le _
  | x :: l, G, hp, h => by
    obtain ⟨h1, h2⟩ := List.pairwise_cons.mp hp
    obtain ⟨g, hg, hR⟩ := h x (List.mem_cons_self ..)
    have h3 := ti_pigeon R l (G.erase g) h2 (fun y hy => by
      obtain ⟨g', hg', hR'⟩ := h y (List.mem_cons_of_mem _ hy)
      refine ⟨g', (List.mem_erase_of_ne ?_).mpr hg', hR'⟩
      intro e
      exact h1 y hy g hR (e ▸ hR'))
    rw [List.length_erase_of_mem hg] at h3
    have : 0 < G.length := List.length_pos_of_mem hg
    rw [List.length_cons]; omega
theorem ti_ct_eq (s t lev : Nat) : ∀ (g : List (Nat × Nat)) (i0 : Nat), ti_ct s t lev g i0 = i0 + (g.filter (fun q => decide (s * q.1 + t * q.2 = lev))).length
  | [], _ => rfl
  | q :: r, i0 => by
    show ti_ct s t lev r (if s * q.1 + t * q.2 = lev then i0 + 1 else i0) = _
    rw [ti_ct_eq s t lev r, List.filter_cons]
    by_cases h : s * q.1 + t * q.2 = lev
    · rw [if_pos h, if_pos (decide_eq_true h), List.length_cons]; omega
    · rw [if_neg h, if_neg (by simpa using h)]
theorem ti_lv_mem (s t : Nat) : ∀ (g : List (Nat × Nat)) (i0 : Nat), ti_lv s t g i0 ≤ i0 ∧ ∀ q ∈ g, ti_lv s t g i0 ≤ s * q.1 + t * q.2
  | [], _ => ⟨Nat.le_refl _, fun _ h => absurd h List.not_mem_nil⟩
  | q :: r, i0 => by
    show ti_lv s t r (min i0 (s * q.1 + t * q.2)) ≤ i0 ∧ _
    have h := ti_lv_mem s t r (min i0 (s * q.1 + t * q.2))
    refine ⟨Nat.le_trans h.1 (Nat.min_le_left _ _), fun x hx => ?_⟩
    rcases List.mem_cons.mp hx with e | e
    · rw [e]; exact Nat.le_trans h.1 (Nat.min_le_right _ _)
    · exact h.2 x e
def ti_B9 : List (Nat × Nat) := (List.range' 1 9).flatMap fun s => (List.range' 1 9).map fun t => (s, t)
theorem ti_r1_eq (G : List (Nat × Nat)) (far s : Nat) : ∀ l : List Nat, ti_r1 G far s l = ((l.map fun t => (s, t)).filter fun x => ti_isf G far x.1 x.2).length
  | [] => rfl
  | t :: r => by
    rw [ti_r1, List.map_cons, List.filter_cons, ti_r1_eq G far s r]
    by_cases h : ti_isf G far s t = true
    · rw [if_pos h, if_pos h, List.length_cons]; omega
    · rw [if_neg h, if_neg h]; omega
theorem ti_r2_eq (G : List (Nat × Nat)) (far : Nat) : ∀ l : List Nat, ti_r2 G far l = ((l.flatMap fun s => (List.range' 1 9).map fun t => (s, t)).filter fun x => ti_isf G far x.1 x.2).length
  | [] => rfl
  | s :: r => by
    rw [ti_r2, List.flatMap_cons, List.filter_append, List.length_append, ti_r2_eq G far r, ti_r1_eq]
theorem ti_cop {s t s' t' : Nat} (hs : 0 < s) (h1 : Nat.gcd s t = 1) (h2 : Nat.gcd s' t' = 1) (h : s * t' = s' * t) : s = s' ∧ t = t' := by
  have e1 : s ∣ s' := (Nat.Coprime.dvd_of_dvd_mul_right h1 (⟨t', h.symm⟩ : s ∣ s' * t))
  have e2 : s' ∣ s := (Nat.Coprime.dvd_of_dvd_mul_right h2 (⟨t, h⟩ : s' ∣ s * t'))
  have e3 := Nat.dvd_antisymm e1 e2
  subst e3
  exact ⟨rfl, (Nat.eq_of_mul_eq_mul_left hs h).symm⟩
theorem ti_edge {s t s' t' d e : Nat} (hd : 0 < d) (h1 : s * d ≤ t * e) (h2 : t' * e = s' * d) : s * t' ≤ s' * t := by
  have a1 : t' * (s * d) ≤ t' * (t * e) := Nat.mul_le_mul_left _ h1
  have a2 : t' * (t * e) = t * (s' * d) := by rw [Nat.mul_left_comm, h2]
  rw [a2] at a1
  have a3 : (s * t') * d ≤ (s' * t) * d := by
    have x1 : (s * t') * d = t' * (s * d) := by rw [Nat.mul_comm s t', Nat.mul_assoc]
    have x2 : (s' * t) * d = t * (s' * d) := by rw [Nat.mul_comm s' t, Nat.mul_assoc]
    rw [x1, x2]; exact a1
  exact Nat.le_of_mul_le_mul_right a3 hd
/-- the point g ends an edge of the slope x on its right -/
def ti_RE (G : List (Nat × Nat)) (x g : Nat × Nat) : Prop :=
  ∃ lev, x.1 * g.1 + x.2 * g.2 = lev ∧ (∀ q ∈ G, lev ≤ x.1 * q.1 + x.2 * q.2) ∧ g ∈ G ∧ ∃ q ∈ G, x.1 * q.1 + x.2 * q.2 = lev ∧ q.1 < g.1
theorem ti_RE_le {G : List (Nat × Nat)} {x y g : Nat × Nat} (hx : ti_RE G x g) (hy : ti_RE G y g) : x.1 * y.2 ≤ y.1 * x.2 := by
  obtain ⟨l1, a1, a2, -, -⟩ := hx
  obtain ⟨l2, b1, -, -, q, hq, b2, b3⟩ := hy
  have c1 := a2 q hq
  rw [← a1] at c1
  rw [← b1] at b2
  obtain ⟨d, hd⟩ : ∃ d, g.1 = q.1 + d := ⟨g.1 - q.1, by omega⟩
  by_cases he : q.2 ≤ g.2
  · obtain ⟨e, he⟩ : ∃ e, g.2 = q.2 + e := ⟨g.2 - q.2, by omega⟩
    rw [hd, he, Nat.mul_add, Nat.mul_add] at b2 c1
    have h0 : y.1 * d = 0 := by omega
    have h1 : x.1 * d = 0 := by omega
    have hd0 : d ≠ 0 := by omega
    have hx0 : x.1 = 0 := (Nat.mul_eq_zero.mp h1).resolve_right hd0
    rw [hx0, Nat.zero_mul]; exact Nat.zero_le _
  · obtain ⟨e, he⟩ : ∃ e, q.2 = g.2 + e := ⟨q.2 - g.2, by omega⟩
    rw [hd, he, Nat.mul_add, Nat.mul_add] at b2 c1
    exact ti_edge (d := d) (e := e) (by omega) (by omega) (by omega)
theorem ti_RE_ex {G : List (Nat × Nat)} (hG : G.Nodup) {far : Nat} {x : Nat × Nat} (ht : 0 < x.2) (h : ti_isf G far x.1 x.2 = true) : ∃ g ∈ G, ti_RE G x g := by
  have h2 := (of_decide_eq_true h).2
  rw [ti_ct_eq, Nat.zero_add] at h2
  have hm : ∀ q ∈ G, ti_lv x.1 x.2 G far ≤ x.1 * q.1 + x.2 * q.2 := (ti_lv_mem x.1 x.2 G far).2
  generalize hl : ti_lv x.1 x.2 G far = lev at h2 hm
  have hnd := hG.filter (fun q => decide (x.1 * q.1 + x.2 * q.2 = lev))
  generalize hf : G.filter (fun q => decide (x.1 * q.1 + x.2 * q.2 = lev)) = L at h2 hnd
  have hin : ∀ q ∈ L, q ∈ G ∧ x.1 * q.1 + x.2 * q.2 = lev := fun q hq => by
    rw [← hf] at hq
    have := List.mem_filter.mp hq
    exact ⟨this.1, of_decide_eq_true this.2⟩
  match L, h2, hnd, hin with
  | u :: v :: r, _, hnd, hin =>
    have hu := hin u (by simp)
    have hv := hin v (by simp)
    have hne : u ≠ v := fun e => (List.nodup_cons.mp hnd).1 (by rw [e]; simp)
    have ha : u.1 ≠ v.1 := fun e => hne (by
      have e2 : x.2 * u.2 = x.2 * v.2 := by have := hu.2; have := hv.2; rw [e] at *; omega
      exact Prod.ext e (Nat.eq_of_mul_eq_mul_left ht e2))
    by_cases hlt : u.1 < v.1
    · exact ⟨v, hv.1, lev, hv.2, hm, hv.1, u, hu.1, hu.2, hlt⟩
    · exact ⟨u, hu.1, lev, hu.2, hm, hu.1, v, hv.1, hv.2, by omega⟩
theorem ti_r2_le {G : List (Nat × Nat)} (hG : G.Nodup) (far : Nat) : ti_r2 G far (List.range' 1 9) ≤ G.length := by
  rw [ti_r2_eq]
  show (ti_B9.filter fun x => ti_isf G far x.1 x.2).length ≤ _
  have hB : ∀ x ∈ ti_B9, 0 < x.1 ∧ 0 < x.2 := by decide
  have hN : ti_B9.Nodup := by decide
  refine ti_pigeon (ti_RE G) _ _ ?_ ?_
  · refine List.Pairwise.imp_of_mem ?_ (hN.filter _)
    intro x y hx hy hne g h1 h2
    have mx := List.mem_filter.mp hx
    have my := List.mem_filter.mp hy
    have gx := (of_decide_eq_true mx.2).1
    have gy := (of_decide_eq_true my.2).1
    have := ti_cop (hB x mx.1).1 gx gy (Nat.le_antisymm (ti_RE_le h1 h2) (ti_RE_le h2 h1))
    exact hne (Prod.ext this.1 this.2)
  · intro x hx
    have mx := List.mem_filter.mp hx
    exact ti_RE_ex hG (hB x mx.1).2 mx.2
