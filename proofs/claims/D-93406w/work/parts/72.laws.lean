/-! plain laws: what TermIdeals computes is what the specs say (faces, hulls, jumps) -/
set_option maxRecDepth 100000
/-! faces -/
theorem ti_lv_far {s t : Nat} (hs : s ≤ 9) (ht : t ≤ 9) : ∀ {G : List (Nat × Nat)}, 0 < G.length → (∀ q ∈ G, q.1 ≤ 9 ∧ q.2 ≤ 9) → ti_lv s t G 9999 = ti_lv s t G 1000
  | [], hG, _ => absurd hG (by decide)
  | q :: r, _, h9 => by
    obtain ⟨h1, h2⟩ := h9 q List.mem_cons_self
    have e1 : s * q.1 ≤ 9 * 9 := Nat.mul_le_mul hs h1
    have e2 : t * q.2 ≤ 9 * 9 := Nat.mul_le_mul ht h2
    show ti_lv s t r (min 9999 (s * q.1 + t * q.2)) = ti_lv s t r (min 1000 (s * q.1 + t * q.2))
    rw [Nat.min_eq_right (by omega), Nat.min_eq_right (by omega)]
theorem ti_fc_far {G : List (Nat × Nat)} (hG : 0 < G.length) (h9 : ∀ q ∈ G, q.1 ≤ 9 ∧ q.2 ≤ 9) {s t : Nat} (hs : s ≤ 9) (ht : t ≤ 9) (L : List (Nat × Nat × Nat)) : ti_fc G 9999 s t L = ti_fc G 1000 s t L := by
  unfold ti_fc ti_isf
  rw [ti_lv_far hs ht hG h9]
theorem ti_f1_far {G : List (Nat × Nat)} (hG : 0 < G.length) (h9 : ∀ q ∈ G, q.1 ≤ 9 ∧ q.2 ≤ 9) {s : Nat} (hs : s ≤ 9) : ∀ (l : List Nat) (L : List (Nat × Nat × Nat)), (∀ t ∈ l, t ≤ 9) → ti_f1 G 9999 s l L = ti_f1 G 1000 s l L
  | [], _, _ => rfl
  | t :: r, L, h => by
    show ti_f1 G 9999 s r (ti_fc G 9999 s t L) = ti_f1 G 1000 s r (ti_fc G 1000 s t L)
    rw [ti_fc_far hG h9 hs (h t List.mem_cons_self)]
    exact ti_f1_far hG h9 hs r _ (fun x hx => h x (List.mem_cons_of_mem _ hx))
theorem ti_f2_far {G : List (Nat × Nat)} (hG : 0 < G.length) (h9 : ∀ q ∈ G, q.1 ≤ 9 ∧ q.2 ≤ 9) : ∀ (l : List Nat) (L : List (Nat × Nat × Nat)), (∀ s ∈ l, s ≤ 9) → ti_f2 G 9999 l L = ti_f2 G 1000 l L
  | [], _, _ => rfl
  | s :: r, L, h => by
    show ti_f2 G 9999 r (ti_f1 G 9999 s (List.range' 1 9) L) = ti_f2 G 1000 r (ti_f1 G 1000 s (List.range' 1 9) L)
    rw [ti_f1_far hG h9 (h s List.mem_cons_self) _ _ (by decide)]
    exact ti_f2_far hG h9 r _ (fun x hx => h x (List.mem_cons_of_mem _ hx))
theorem ti_fi_hd {s t v w : Nat} (hs : 0 < s) (r : List (Nat × Nat × Nat)) : ti_fi (s, t, v) ((0, 1, w) :: r) = (0, 1, w) :: ti_fi (s, t, v) r := by
  rw [ti_fi]
  rw [if_pos (by show 0 * t < s * 1; omega)]
theorem ti_fi_01 (w : Nat) : ∀ L : List (Nat × Nat × Nat), ti_fi (0, 1, w) L = (0, 1, w) :: L
  | [] => rfl
  | y :: r => by
    rw [ti_fi]
    rw [if_neg (by show ¬ (y.1 * 1 < 0 * y.2.1); omega)]
theorem ti_fc_hd {G : List (Nat × Nat)} {far s t w : Nat} (hs : 0 < s) (L : List (Nat × Nat × Nat)) : ti_fc G far s t ((0, 1, w) :: L) = (0, 1, w) :: ti_fc G far s t L := by
  unfold ti_fc
  by_cases h : ti_isf G far s t = true
  · rw [if_pos h, if_pos h]; exact ti_fi_hd hs L
  · rw [if_neg h, if_neg h]
theorem ti_f1_hd {G : List (Nat × Nat)} {far s w : Nat} (hs : 0 < s) : ∀ (l : List Nat) (L : List (Nat × Nat × Nat)), ti_f1 G far s l ((0, 1, w) :: L) = (0, 1, w) :: ti_f1 G far s l L
  | [], _ => rfl
  | t :: r, L => by
    show ti_f1 G far s r (ti_fc G far s t ((0, 1, w) :: L)) = (0, 1, w) :: ti_f1 G far s r (ti_fc G far s t L)
    rw [ti_fc_hd hs]
    exact ti_f1_hd hs r _
theorem ti_f2_hd {G : List (Nat × Nat)} {far w : Nat} : ∀ (l : List Nat) (L : List (Nat × Nat × Nat)), (∀ s ∈ l, 0 < s) → ti_f2 G far l ((0, 1, w) :: L) = (0, 1, w) :: ti_f2 G far l L
  | [], _, _ => rfl
  | s :: r, L, h => by
    show ti_f2 G far r (ti_f1 G far s (List.range' 1 9) ((0, 1, w) :: L)) = (0, 1, w) :: ti_f2 G far r (ti_f1 G far s (List.range' 1 9) L)
    rw [ti_f1_hd (h s List.mem_cons_self)]
    exact ti_f2_hd r _ (fun x hx => h x (List.mem_cons_of_mem _ hx))
/-- both sides tell the same faces -/
theorem ti_fxm {G : List (Nat × Nat)} (hG : 0 < G.length) (h9 : ∀ q ∈ G, q.1 ≤ 9 ∧ q.2 ≤ 9) : (ti_fx G 9999).reverse = ti_FF G := by
  unfold ti_FF ti_fx ti_fm
  rw [ti_fi_01, ti_fi_01, ti_f2_hd _ _ (by decide), ti_f2_far hG h9 _ _ (by decide), ti_lv_far (by decide) (by decide) hG h9, ti_lv_far (by decide) (by decide) hG h9]
theorem ti_gr_9 {fa fb : Nat → Nat} (h1 : ∀ k, fa k ≤ 9) (h2 : ∀ k, fb k ≤ 9) (k n : Nat) : ∀ q ∈ ti_gr fa fb k n, q.1 ≤ 9 ∧ q.2 ≤ 9 := by
  intro q hq
  obtain ⟨j, -, rfl⟩ := List.mem_map.mp hq
  exact ⟨h1 j, h2 j⟩
/-! hulls -/
theorem ti_clm_app (F : List (Nat × Nat × Nat)) (G : List (Nat × Nat)) : ∀ l m : List Nat, ti_clm F G (l ++ m) = (ti_clm F G l && ti_clm F G m)
  | [], m => by simp [ti_clm]
  | k :: r, m => by
    rw [List.cons_append, ti_clm, ti_clm]
    by_cases h : ti_hull (k / 10) (k % 10) F = true ∧ ti_hb (k / 10) (k % 10) (-5) G 0 = false
    · rw [if_pos h, if_pos h]; rfl
    · rw [if_neg h, if_neg h]; exact ti_clm_app F G r m
theorem ti_cl1_m (F : List (Nat × Nat × Nat)) (G : List (Nat × Nat)) (a : Nat) : ∀ l : List Nat, (∀ b ∈ l, b < 10) → ti_cl1 F G a l = ti_clm F G (l.map fun b => 10 * a + b)
  | [], _ => rfl
  | b :: r, h => by
    have hb := h b List.mem_cons_self
    rw [List.map_cons, ti_cl1, ti_clm, show (10 * a + b) / 10 = a by omega, show (10 * a + b) % 10 = b by omega, ti_cl1_m F G a r (fun x hx => h x (List.mem_cons_of_mem _ hx))]
theorem ti_cl2_m (F : List (Nat × Nat × Nat)) (G : List (Nat × Nat)) : ∀ l : List Nat, ti_cl2 F G l = ti_clm F G (l.flatMap fun a => (List.range' 0 10).map fun b => 10 * a + b)
  | [] => rfl
  | a :: r => by
    rw [List.flatMap_cons, ti_clm_app, ti_cl2, ← ti_cl1_m F G a (List.range' 0 10) (by decide), ti_cl2_m F G r]
    cases ti_cl1 F G a (List.range' 0 10) with
    | false => rw [if_pos rfl]; rfl
    | true => rw [if_neg (by decide)]; rfl
theorem ti_cl2_eq (F : List (Nat × Nat × Nat)) (G : List (Nat × Nat)) : ti_cl2 F G (List.range' 0 10) = ti_clm F G (List.range' 0 100) := by
  rw [ti_cl2_m, show ((List.range' 0 10).flatMap fun a => (List.range' 0 10).map fun b => 10 * a + b) = List.range' 0 100 by decide]
/-! jumps -/
/-- of two fractions the first is the less -/
def ti_xl (x y : Nat × Nat) : Prop := x.1 * y.2 < y.1 * x.2
theorem ti_xl_trans {x y z : Nat × Nat} (hx : 0 < x.2) (hz : 0 < z.2) (h1 : ti_xl x y) (h2 : ti_xl y z) : ti_xl x z := by
  unfold ti_xl at *
  have hy : 0 < y.2 := by
    refine Nat.pos_of_ne_zero fun e => ?_
    rw [e] at h2
    have : y.1 * z.2 < z.1 * 0 := h2
    omega
  have e1 : x.1 * y.2 * z.2 < y.1 * x.2 * z.2 := Nat.mul_lt_mul_of_pos_right h1 hz
  have e2 : y.1 * z.2 * x.2 < z.1 * y.2 * x.2 := Nat.mul_lt_mul_of_pos_right h2 hx
  have e3 : y.2 * (x.1 * z.2) < y.2 * (z.1 * x.2) := by
    have a1 : x.1 * y.2 * z.2 = y.2 * (x.1 * z.2) := by rw [Nat.mul_comm x.1 y.2, Nat.mul_assoc]
    have a2 : y.1 * x.2 * z.2 = y.1 * z.2 * x.2 := Nat.mul_right_comm _ _ _
    have a3 : z.1 * y.2 * x.2 = y.2 * (z.1 * x.2) := by rw [Nat.mul_comm z.1 y.2, Nat.mul_assoc]
    omega
  exact Nat.lt_of_mul_lt_mul_left e3
theorem ti_xl_eq {x y z : Nat × Nat} (hy : 0 < y.2) (hz : 0 < z.2) (h1 : ti_xl x y) (h2 : y.1 * z.2 = z.1 * y.2) : ti_xl x z := by
  unfold ti_xl at *
  have e1 : x.1 * y.2 * z.2 < y.1 * x.2 * z.2 := Nat.mul_lt_mul_of_pos_right h1 hz
  have e3 : y.2 * (x.1 * z.2) < y.2 * (z.1 * x.2) := by
    have a1 : x.1 * y.2 * z.2 = y.2 * (x.1 * z.2) := by rw [Nat.mul_comm x.1 y.2, Nat.mul_assoc]
    have a2 : y.1 * x.2 * z.2 = y.1 * z.2 * x.2 := Nat.mul_right_comm _ _ _
    have a3 : z.1 * y.2 * x.2 = y.2 * (z.1 * x.2) := by rw [Nat.mul_comm z.1 y.2, Nat.mul_assoc]
    rw [h2] at a2
    omega
  exact Nat.lt_of_mul_lt_mul_left e3
theorem ti_low_g {x : Nat × Nat} (h : 0 < x.2) : 0 < Nat.gcd x.1 x.2 ∧ x.1 = Nat.gcd x.1 x.2 * (ti_low x).1 ∧ x.2 = Nat.gcd x.1 x.2 * (ti_low x).2 ∧ 0 < (ti_low x).2 ∧ Nat.gcd (ti_low x).1 (ti_low x).2 = 1 := by
  have hg : 0 < Nat.gcd x.1 x.2 := Nat.gcd_pos_of_pos_right _ h
  have h2 : x.2 = Nat.gcd x.1 x.2 * (ti_low x).2 := (Nat.mul_div_cancel' (Nat.gcd_dvd_right x.1 x.2)).symm
  refine ⟨hg, (Nat.mul_div_cancel' (Nat.gcd_dvd_left x.1 x.2)).symm, h2, ?_, ?_⟩
  · refine Nat.pos_of_ne_zero fun e => ?_
    rw [e, Nat.mul_zero] at h2
    omega
  · have := Nat.gcd_div (Nat.gcd_dvd_left x.1 x.2) (Nat.gcd_dvd_right x.1 x.2)
    show Nat.gcd (x.1 / Nat.gcd x.1 x.2) (x.2 / Nat.gcd x.1 x.2) = 1
    rw [this, Nat.div_self hg]
theorem ti_crs (g h a b : Nat) : g * a * (h * b) = g * h * (a * b) := Nat.mul_mul_mul_comm g a h b
theorem ti_low_cr {x y : Nat × Nat} (hx : 0 < x.2) (hy : 0 < y.2) : ∃ g, 0 < g ∧ x.1 * y.2 = g * ((ti_low x).1 * (ti_low y).2) ∧ y.1 * x.2 = g * ((ti_low y).1 * (ti_low x).2) := by
  obtain ⟨g1, g2, g3, -, -⟩ := ti_low_g hx
  obtain ⟨k1, k2, k3, -, -⟩ := ti_low_g hy
  refine ⟨Nat.gcd x.1 x.2 * Nat.gcd y.1 y.2, Nat.mul_pos g1 k1, ?_, ?_⟩
  · have e : x.1 * y.2 = (Nat.gcd x.1 x.2 * (ti_low x).1) * (Nat.gcd y.1 y.2 * (ti_low y).2) := by rw [← g2, ← k3]
    rw [e, ti_crs]
  · have e : y.1 * x.2 = (Nat.gcd y.1 y.2 * (ti_low y).1) * (Nat.gcd x.1 x.2 * (ti_low x).2) := by rw [← k2, ← g3]
    rw [e, ti_crs, Nat.mul_comm (Nat.gcd y.1 y.2)]
theorem ti_low_xl {x y : Nat × Nat} (hx : 0 < x.2) (hy : 0 < y.2) : ti_xl (ti_low x) (ti_low y) ↔ ti_xl x y := by
  obtain ⟨g, h1, h2, h3⟩ := ti_low_cr hx hy
  unfold ti_xl
  rw [h2, h3]
  exact ⟨fun h => Nat.mul_lt_mul_of_pos_left h h1, fun h => Nat.lt_of_mul_lt_mul_left h⟩
theorem ti_low_eq {x y : Nat × Nat} (hx : 0 < x.2) (hy : 0 < y.2) : ti_low x = ti_low y ↔ x.1 * y.2 = y.1 * x.2 := by
  obtain ⟨g, h1, h2, h3⟩ := ti_low_cr hx hy
  constructor
  · intro e
    rw [h2, h3, e]
  · intro e
    rw [h2, h3] at e
    have e2 := Nat.eq_of_mul_eq_mul_left h1 e
    obtain ⟨-, -, -, p1, p2⟩ := ti_low_g hx
    obtain ⟨-, -, -, q1, q2⟩ := ti_low_g hy
    have hc := ti_cop (s := (ti_low x).2) (t := (ti_low x).1) (s' := (ti_low y).2) (t' := (ti_low y).1) p1 (by rw [Nat.gcd_comm]; exact p2) (by rw [Nat.gcd_comm]; exact q2) (by rw [Nat.mul_comm, Nat.mul_comm (ti_low y).2]; exact e2.symm)
    exact Prod.ext hc.2 hc.1
theorem ti_mi_app {x : Nat × Nat} (Q : List (Nat × Nat)) : ∀ P : List (Nat × Nat), (∀ y ∈ P, ti_xl y x) → ti_mi x (P ++ Q) = P ++ ti_mi x Q
  | [], _ => rfl
  | y :: r, h => by
    rw [List.cons_append, ti_mi, if_pos (show y.1 * x.2 < x.1 * y.2 from h y List.mem_cons_self), ti_mi_app Q r (fun z hz => h z (List.mem_cons_of_mem _ hz))]
    rfl
theorem ti_mi_last {z w : Nat × Nat} (hw : ti_xl z w) : ∀ P : List (Nat × Nat), ti_mi z (P ++ [w]) = ti_mi z P ++ [w]
  | [] => by
    have hw' : z.1 * w.2 < w.1 * z.2 := hw
    show ti_mi z [w] = [z, w]
    rw [ti_mi, if_neg (Nat.lt_asymm hw'), if_neg]
    rintro ⟨e1, e2⟩
    rw [e1, e2] at hw'
    exact absurd hw' (Nat.lt_irrefl _)
  | p :: r => by
    rw [List.cons_append, ti_mi, ti_mi]
    by_cases h1 : p.1 * z.2 < z.1 * p.2
    · rw [if_pos h1, if_pos h1, ti_mi_last hw r]; rfl
    · rw [if_neg h1, if_neg h1]
      by_cases h2 : p.1 = z.1 ∧ p.2 = z.2
      · rw [if_pos h2, if_pos h2]; rfl
      · rw [if_neg h2, if_neg h2]; rfl
/-- jumps in their order, the greatest first -/
def ti_srt (J : List (Nat × Nat)) : Prop := (∀ x ∈ J, 0 < x.2) ∧ J.Pairwise fun x y => ti_xl y x
theorem ti_ji_mem {x z : Nat × Nat} : ∀ {D : List (Nat × Nat)}, z ∈ ti_ji x D → z = x ∨ z ∈ D
  | [], h => Or.inl (List.mem_singleton.mp h)
  | y :: r, h => by
    rw [ti_ji] at h
    split at h
    · rcases List.mem_cons.mp h with e | e
      · exact Or.inr (by rw [e]; exact List.mem_cons_self)
      · rcases ti_ji_mem e with e | e
        · exact Or.inl e
        · exact Or.inr (List.mem_cons_of_mem _ e)
    · split at h
      · exact Or.inr h
      · rcases List.mem_cons.mp h with e | e
        · exact Or.inl e
        · exact Or.inr e
theorem ti_ji_srt {x : Nat × Nat} (hx : 0 < x.2) : ∀ {D : List (Nat × Nat)}, ti_srt D → ti_srt (ti_ji x D) ∧ (ti_ji x D).reverse.map ti_low = ti_mi (ti_low x) (D.reverse.map ti_low)
  | [], _ => ⟨⟨fun z hz => by rw [List.mem_singleton.mp hz]; exact hx, List.pairwise_singleton _ _⟩, rfl⟩
  | y :: r, h => by
    obtain ⟨h1, h2⟩ := h
    have hy := h1 y List.mem_cons_self
    obtain ⟨h3, h4⟩ := List.pairwise_cons.mp h2
    have hr : ti_srt r := ⟨fun z hz => h1 z (List.mem_cons_of_mem _ hz), h4⟩
    rw [ti_ji]
    by_cases c1 : x.1 * y.2 < y.1 * x.2
    · rw [if_pos c1]
      obtain ⟨i1, i2⟩ := ti_ji_srt hx hr
      refine ⟨⟨fun z hz => ?_, List.pairwise_cons.mpr ⟨fun z hz => ?_, i1.2⟩⟩, ?_⟩
      · rcases List.mem_cons.mp hz with e | e
        · rw [e]; exact hy
        · exact i1.1 z e
      · rcases ti_ji_mem hz with e | e
        · rw [e]; exact c1
        · exact h3 z e
      · rw [List.reverse_cons, List.map_append, i2, List.reverse_cons, List.map_append]
        exact (ti_mi_last ((ti_low_xl hx hy).mpr c1) _).symm
    · rw [if_neg c1]
      by_cases c2 : y.1 * x.2 = x.1 * y.2
      · rw [if_pos c2]
        refine ⟨⟨h1, h2⟩, ?_⟩
        rw [List.reverse_cons, List.map_append, ti_mi_app _ _ (fun z hz => ?_)]
        · congr 1
          show [ti_low y] = ti_mi (ti_low x) [ti_low y]
          have e := (ti_low_eq hy hx).mpr c2
          rw [e, ti_mi, if_neg (Nat.lt_irrefl _), if_pos ⟨rfl, rfl⟩]
        · obtain ⟨w, hw, rfl⟩ := List.mem_map.mp hz
          have hw := List.mem_reverse.mp hw
          exact (ti_low_xl (hr.1 w hw) hx).mpr (ti_xl_eq hy hx (h3 w hw) c2)
      · rw [if_neg c2]
        have hyx : ti_xl y x := by unfold ti_xl; omega
        have hlt : ∀ z ∈ y :: r, ti_xl z x := fun z hz => by
          rcases List.mem_cons.mp hz with e | e
          · rw [e]; exact hyx
          · exact ti_xl_trans (hr.1 z e) hx (h3 z e) hyx
        refine ⟨⟨fun z hz => ?_, List.pairwise_cons.mpr ⟨hlt, h2⟩⟩, ?_⟩
        · rcases List.mem_cons.mp hz with e | e
          · rw [e]; exact hx
          · exact h1 z e
        · have := ti_mi_app (x := ti_low x) [] ((y :: r).reverse.map ti_low) (fun z hz => by
            obtain ⟨w, hw, rfl⟩ := List.mem_map.mp hz
            have hw := List.mem_reverse.mp hw
            exact (ti_low_xl (h1 w hw) hx).mpr (hlt w hw))
          rw [List.append_nil] at this
          rw [this, List.reverse_cons, List.map_append]
          rfl
theorem ti_jl_srt (F : List (Nat × Nat × Nat)) : ∀ (l : List Nat) (J : List (Nat × Nat)), ti_srt J → ti_srt (ti_jl F l J) ∧ (ti_jl F l J).reverse.map ti_low = ti_ml F l (J.reverse.map ti_low)
  | [], _, h => ⟨h, rfl⟩
  | k :: r, J, h => by
    rw [ti_jl, ti_ml]
    by_cases c : (ti_jf (k / 10) (k % 10) F (0, 0)).2 = 0
    · rw [if_pos c, if_pos c]
      exact ti_jl_srt F r J h
    · rw [if_neg c, if_neg c]
      obtain ⟨h1, h2⟩ := ti_ji_srt (Nat.pos_of_ne_zero c) h
      rw [← h2]
      exact ti_jl_srt F r _ h1
theorem ti_jl_ml (F : List (Nat × Nat × Nat)) (l : List Nat) : (ti_jl F l []).reverse.map ti_low = ti_ml F l [] := (ti_jl_srt F l [] ⟨fun _ h => absurd h List.not_mem_nil, List.Pairwise.nil⟩).2
/-- the rows of jumps, in lowest terms -/
theorem ti_jr {F : List (Nat × Nat × Nat)} {us los : Nat → Nat} {nj : Nat} (h : ti_gr us los 0 nj = (ti_jl F (List.range' 0 100) []).reverse) : (ti_ml F (List.range' 0 100) []).length = nj ∧ ∀ j, j < nj → (ti_ml F (List.range' 0 100) []).getD j (0, 0) = ti_low (us j, los j) ∧ 0 < los j := by
  have e := ti_jl_ml F (List.range' 0 100)
  have hs := (ti_jl_srt F (List.range' 0 100) [] ⟨fun _ h => absurd h List.not_mem_nil, List.Pairwise.nil⟩).1
  rw [← h] at e
  rw [← e]
  refine ⟨by rw [List.length_map, ti_gr_len], fun j hj => ⟨?_, ?_⟩⟩
  · rw [List.getD_eq_getElem?_getD, List.getElem?_map, ti_gr_at hj, Nat.zero_add]; rfl
  · have hm : (us j, los j) ∈ ti_gr us los 0 nj := by
      have := ti_gr_at (fa := us) (fb := los) (k := 0) hj
      rw [Nat.zero_add] at this
      exact List.mem_of_getElem? this
    rw [h] at hm
    exact hs.1 _ (List.mem_reverse.mp hm)
/-- what was seen, by rows that aren't in lowest terms -/
theorem ti_so_x {u l s t : Nat} (hl : 0 < l) : (u * t = l * s) ↔ ((ti_low (u, l)).1 * t = s * (ti_low (u, l)).2) := by
  obtain ⟨g1, g2, g3, -, -⟩ := ti_low_g (x := (u, l)) hl
  have g2 : u = Nat.gcd u l * (ti_low (u, l)).1 := g2
  have g3 : l = Nat.gcd u l * (ti_low (u, l)).2 := g3
  have g1 : 0 < Nat.gcd u l := g1
  have e1 : u * t = Nat.gcd u l * ((ti_low (u, l)).1 * t) := by rw [← Nat.mul_assoc, ← g2]
  have e2 : l * s = Nat.gcd u l * (s * (ti_low (u, l)).2) := by rw [Nat.mul_comm s, ← Nat.mul_assoc, ← g3]
  rw [e1, e2]
  exact ⟨fun h => Nat.eq_of_mul_eq_mul_left g1 h, fun h => by rw [h]⟩
/-! fits: powers tried from the greatest down -/
theorem ti_ftn_up (I : Nat → ti_GL) (SN : List (Nat × Nat × Nat)) (i k letter : Nat) : ∀ (l : List Nat) (c : Nat) (y : Int32), ti_ftn I SN i k letter l (c + 1, y) = ((ti_ftn I SN i k letter l (0, -5)).1 + (c + 1), y)
  | [], c, y => by
    show (c + 1, y) = (0 + (c + 1), y)
    rw [Nat.zero_add]
  | z :: r, c, y => by
    rw [ti_ftn, ti_ftn]
    by_cases h : ti_ftok I SN i k letter z = true
    · rw [if_pos h, if_pos h]
      show ti_ftn I SN i k letter r (c + 1 + 1, if c + 1 = 0 then nI z else y) = ((ti_ftn I SN i k letter r (0 + 1, if 0 = 0 then nI z else -5)).1 + (c + 1), y)
      rw [if_neg (by omega), if_pos rfl, ti_ftn_up I SN i k letter r (c + 1) y, ti_ftn_up I SN i k letter r 0 (nI z)]
      show ((ti_ftn I SN i k letter r (0, -5)).1 + (c + 1 + 1), y) = ((ti_ftn I SN i k letter r (0, -5)).1 + (0 + 1) + (c + 1), y)
      congr 1
      omega
    · rw [if_neg h, if_neg h]
      exact ti_ftn_up I SN i k letter r c y
theorem ti_ftn_s (I : Nat → ti_GL) (SN : List (Nat × Nat × Nat)) (i k letter z : Nat) (r : List Nat) : ti_ftn I SN i k letter (z :: r) (0, -5) = if ti_ftok I SN i k letter z = true then ((ti_ftn I SN i k letter r (0, -5)).1 + 1, nI z) else ti_ftn I SN i k letter r (0, -5) := by
  rw [ti_ftn]
  by_cases h : ti_ftok I SN i k letter z = true
  · rw [if_pos h, if_pos h]
    show ti_ftn I SN i k letter r (0 + 1, if 0 = 0 then nI z else -5) = _
    rw [if_pos rfl, ti_ftn_up]
  · rw [if_neg h, if_neg h]
