/-! plain laws: heights -/
set_option maxRecDepth 100000
theorem ti_ht_iff (a : Nat) : ∀ (g : List (Nat × Nat)) (i0 m : Nat), m ≤ ti_ht a g i0 ↔ m ≤ i0 ∧ ∀ q ∈ g, q.1 ≤ a → m ≤ q.2
  | [], i0, m => ⟨fun h => ⟨h, fun _ hq => absurd hq List.not_mem_nil⟩, fun h => h.1⟩
  | q :: r, i0, m => by
    show m ≤ ti_ht a r (if q.1 ≤ a then min i0 q.2 else i0) ↔ _
    rw [ti_ht_iff a r]
    by_cases c : q.1 ≤ a
    · rw [if_pos c, Nat.le_min]
      constructor
      · rintro ⟨⟨h1, h2⟩, h3⟩
        refine ⟨h1, fun z hz hc => ?_⟩
        rcases List.mem_cons.mp hz with e | e
        · rw [e]; exact h2
        · exact h3 z e hc
      · rintro ⟨h1, h2⟩
        exact ⟨⟨h1, h2 q List.mem_cons_self c⟩, fun z hz hc => h2 z (List.mem_cons_of_mem _ hz) hc⟩
    · rw [if_neg c]
      constructor
      · rintro ⟨h1, h3⟩
        refine ⟨h1, fun z hz hc => ?_⟩
        rcases List.mem_cons.mp hz with e | e
        · rw [e] at hc; exact absurd hc c
        · exact h3 z e hc
      · rintro ⟨h1, h2⟩
        exact ⟨h1, fun z hz hc => h2 z (List.mem_cons_of_mem _ hz) hc⟩
theorem ti_st_iff (G : List (Nat × Nat)) (j m : Nat) : m ≤ ti_st G j ↔ m ≤ 9999 ∧ ∀ q ∈ G, q.1 ≤ j → m ≤ q.2 := ti_ht_iff j G 9999 m
theorem ti_cv_iff (f g : Nat → Nat) (a : Nat) : ∀ (L : List Nat) (z m : Nat), m ≤ ti_cv f g a L z ↔ m ≤ z ∧ ∀ c ∈ L, m ≤ f c + g (a - c)
  | [], z, m => ⟨fun h => ⟨h, fun _ hq => absurd hq List.not_mem_nil⟩, fun h => h.1⟩
  | c :: r, z, m => by
    rw [ti_cv, ti_cv_iff f g a r, Nat.le_min]
    constructor
    · rintro ⟨⟨h1, h2⟩, h3⟩
      refine ⟨h1, fun d hd => ?_⟩
      rcases List.mem_cons.mp hd with e | e
      · rw [e]; exact h2
      · exact h3 d e
    · rintro ⟨h1, h2⟩
      exact ⟨⟨h1, h2 c List.mem_cons_self⟩, fun d hd => h2 d (List.mem_cons_of_mem _ hd)⟩
theorem ti_rng {a c : Nat} : c ∈ List.range' 0 (a + 1) ↔ c ≤ a := by
  rw [List.mem_range'_1]; omega
theorem ti_pr_iff (f g : Nat → Nat) (a m : Nat) : m ≤ ti_pr f g a ↔ m ≤ 9999 ∧ ∀ c, c ≤ a → m ≤ f c + g (a - c) := by
  unfold ti_pr
  rw [ti_cv_iff]
  exact ⟨fun h => ⟨h.1, fun c hc => h.2 c (ti_rng.mpr hc)⟩, fun h => ⟨h.1, fun c hc => h.2 c (ti_rng.mp hc)⟩⟩
theorem ti_pr_comm (f g : Nat → Nat) (a : Nat) : ti_pr f g a = ti_pr g f a := by
  have key : ∀ f g : Nat → Nat, ti_pr f g a ≤ ti_pr g f a := by
    intro f g
    refine (ti_pr_iff g f a _).mpr ⟨ti_pr_le f g a, fun c hc => ?_⟩
    have := ((ti_pr_iff f g a _).mp (Nat.le_refl _)).2 (a - c) (by omega)
    rw [show a - (a - c) = c by omega] at this
    omega
  exact Nat.le_antisymm (key f g) (key g f)
theorem ti_pfx_iff (h : Nat → Nat) (m : Nat) : ∀ y : Nat, m ≤ ti_pfx h y ↔ ∀ x, x ≤ y → m ≤ h x
  | 0 => ⟨fun e x hx => by rw [Nat.le_zero.mp hx]; exact e, fun e => e 0 (Nat.le_refl _)⟩
  | y + 1 => by
    show m ≤ min (h (y + 1)) (ti_pfx h y) ↔ _
    rw [Nat.le_min, ti_pfx_iff h m y]
    constructor
    · rintro ⟨h1, h2⟩ x hx
      by_cases e : x = y + 1
      · rw [e]; exact h1
      · exact h2 x (by omega)
    · intro e
      exact ⟨e _ (Nat.le_refl _), fun x hx => e x (by omega)⟩
theorem ti_tg_iff (h : Nat → Nat) (y m : Nat) (hy : y < 72) : ∀ (G : List (Nat × Nat)) (nx : Nat → Nat), m ≤ ti_tg h G nx y ↔ m ≤ nx y ∧ ∀ q ∈ G, q.1 ≤ y → m ≤ h (y - q.1) + q.2
  | [], nx => ⟨fun e => ⟨e, fun _ hq => absurd hq List.not_mem_nil⟩, fun e => e.1⟩
  | q :: r, nx => by
    show m ≤ ti_tg h r (ti_t1 h q.1 q.2 nx) y ↔ _
    rw [ti_tg_iff h y m hy r]
    have e : ti_t1 h q.1 q.2 nx y = if q.1 ≤ y then min (nx y) (h (y - q.1) + q.2) else nx y := by
      unfold ti_t1 ti_t0
      by_cases c : q.1 ≤ y
      · rw [if_pos c, if_pos ⟨c, by omega⟩]
      · rw [if_neg c, if_neg (fun z => c z.1)]
    rw [e]
    by_cases c : q.1 ≤ y
    · rw [if_pos c, Nat.le_min]
      constructor
      · rintro ⟨⟨h1, h2⟩, h3⟩
        refine ⟨h1, fun z hz hc => ?_⟩
        rcases List.mem_cons.mp hz with e | e
        · rw [e]; exact h2
        · exact h3 z e hc
      · rintro ⟨h1, h2⟩
        exact ⟨⟨h1, h2 q List.mem_cons_self c⟩, fun z hz hc => h2 z (List.mem_cons_of_mem _ hz) hc⟩
    · rw [if_neg c]
      constructor
      · rintro ⟨h1, h3⟩
        refine ⟨h1, fun z hz hc => ?_⟩
        rcases List.mem_cons.mp hz with e | e
        · rw [e] at hc; exact absurd hc c
        · exact h3 z e hc
      · rintro ⟨h1, h2⟩
        exact ⟨h1, fun z hz hc => h2 z (List.mem_cons_of_mem _ hz) hc⟩
theorem ti_tm_iff (h : Nat → Nat) (G : List (Nat × Nat)) {y m : Nat} (hy : y < 72) (hm : m ≤ 1000) : m ≤ ti_tm h G y ↔ ∀ q ∈ G, q.1 ≤ y → m ≤ h (y - q.1) + q.2 := by
  unfold ti_tm
  rw [Nat.le_min, ti_tg_iff h y m hy]
  exact ⟨fun e => e.1.2, fun e => ⟨⟨hm, e⟩, hm⟩⟩
/-- a row of the model and a row of stairs tell the same up to a thousand -/
def ti_alk (h f : Nat → Nat) : Prop := ∀ y, y < 72 → ∀ m, m ≤ 1000 → (m ≤ ti_pfx h y ↔ m ≤ f y)
theorem ti_alk_step {h f : Nat → Nat} (G : List (Nat × Nat)) (hr : ti_alk h f) : ti_alk (ti_tm h G) (ti_pr f (ti_st G)) := by
  intro y hy m hm
  rw [ti_pfx_iff, ti_pr_iff]
  constructor
  · intro e
    refine ⟨by omega, fun c hc => ?_⟩
    by_cases hf : 9999 ≤ ti_st G (y - c)
    · omega
    · have hat : ∃ q ∈ G, q.1 ≤ y - c ∧ q.2 ≤ ti_st G (y - c) := by
        refine Classical.byContradiction fun hn => ?_
        have : ti_st G (y - c) + 1 ≤ ti_st G (y - c) := by
          refine (ti_st_iff G (y - c) _).mpr ⟨by omega, fun q hq hq1 => ?_⟩
          exact Nat.not_le.mp fun z => hn ⟨q, hq, hq1, z⟩
        omega
      obtain ⟨q, hq, h1, h2⟩ := hat
      have e2 : m - q.2 ≤ f c := by
        refine (hr c (by omega) (m - q.2) (by omega)).mp ((ti_pfx_iff h _ c).mpr fun x hx => ?_)
        have := (ti_tm_iff h G (y := x + q.1) (by omega) hm).mp (e (x + q.1) (by omega)) q hq (by omega)
        rw [Nat.add_sub_cancel] at this
        omega
      omega
  · rintro ⟨-, e⟩ x hx
    refine (ti_tm_iff h G (by omega) hm).mpr fun q hq hq1 => ?_
    have e1 := e (x - q.1) (by omega)
    have e2 : ti_st G (y - (x - q.1)) ≤ q.2 := ((ti_st_iff G (y - (x - q.1)) _).mp (Nat.le_refl _)).2 q hq (by omega)
    have e3 : m - q.2 ≤ ti_pfx h (x - q.1) := (hr (x - q.1) (by omega) (m - q.2) (by omega)).mpr (by omega)
    have e4 := (ti_pfx_iff h (m - q.2) (x - q.1)).mp e3 (x - q.1) (Nat.le_refl _)
    omega
/-- powers as stairs -/
def ti_ps (G : List (Nat × Nat)) : Nat → Nat → Nat
  | 0 => fun _ => 0
  | k + 1 => ti_pr (ti_ps G k) (ti_st G)
theorem ti_alk_0 : ti_alk ti_h0 (fun _ => 0) := by
  intro y _ m _
  rw [ti_pfx_iff]
  constructor
  · intro e; exact e 0 (Nat.zero_le _)
  · intro e x _; exact Nat.le_trans e (Nat.zero_le _)
theorem ti_alk_ps (G : List (Nat × Nat)) : ∀ k, ti_alk (ti_pn G k) (ti_ps G k)
  | 0 => ti_alk_0
  | k + 1 => ti_alk_step G (ti_alk_ps G k)
theorem ti_alk_st (G : List (Nat × Nat)) : ti_alk (ti_pn G 1) (ti_st G) := by
  intro y hy m hm
  rw [ti_pfx_iff, ti_st_iff]
  constructor
  · intro e
    refine ⟨by omega, fun q hq hq1 => ?_⟩
    have := (ti_tm_iff ti_h0 G (y := q.1) (by omega) hm).mp (e q.1 hq1) q hq (Nat.le_refl _)
    rw [Nat.sub_self] at this
    have h0 : ti_h0 0 = 0 := rfl
    omega
  · rintro ⟨-, e⟩ x hx
    refine (ti_tm_iff ti_h0 G (by omega) hm).mpr fun q hq hq1 => ?_
    have := e q hq (by omega)
    omega
/-- stairs are low or nothing -/
def ti_gap (c : Nat) (f : Nat → Nat) : Prop := ∀ j, f j ≤ c ∨ f j = 9999
theorem ti_ht_at (a : Nat) : ∀ (g : List (Nat × Nat)) (i0 : Nat), ti_ht a g i0 = i0 ∨ ∃ q ∈ g, ti_ht a g i0 = q.2
  | [], _ => Or.inl rfl
  | q :: r, i0 => by
    show ti_ht a r (if q.1 ≤ a then min i0 q.2 else i0) = i0 ∨ ∃ z ∈ q :: r, ti_ht a r (if q.1 ≤ a then min i0 q.2 else i0) = z.2
    rcases ti_ht_at a r (if q.1 ≤ a then min i0 q.2 else i0) with e | ⟨z, hz, e⟩
    · rw [e]
      by_cases c : q.1 ≤ a
      · rw [if_pos c]
        by_cases d : i0 ≤ q.2
        · exact Or.inl (Nat.min_eq_left d)
        · exact Or.inr ⟨q, List.mem_cons_self, Nat.min_eq_right (by omega)⟩
      · rw [if_neg c]; exact Or.inl rfl
    · exact Or.inr ⟨z, List.mem_cons_of_mem _ hz, e⟩
theorem ti_gap_st {G : List (Nat × Nat)} (h9 : ∀ q ∈ G, q.1 ≤ 9 ∧ q.2 ≤ 9) : ti_gap 9 (ti_st G) := by
  intro j
  rcases ti_ht_at j G 9999 with e | ⟨q, hq, e⟩
  · exact Or.inr e
  · exact Or.inl (by show ti_ht j G 9999 ≤ 9; rw [e]; exact (h9 q hq).2)
theorem ti_cv_at (f g : Nat → Nat) (a : Nat) : ∀ (L : List Nat) (z : Nat), ti_cv f g a L z = z ∨ ∃ c ∈ L, ti_cv f g a L z = f c + g (a - c)
  | [], _ => Or.inl rfl
  | c :: r, z => by
    rw [ti_cv]
    rcases ti_cv_at f g a r (min z (f c + g (a - c))) with e | ⟨d, hd, e⟩
    · rw [e]
      by_cases k : z ≤ f c + g (a - c)
      · exact Or.inl (Nat.min_eq_left k)
      · exact Or.inr ⟨c, List.mem_cons_self, Nat.min_eq_right (by omega)⟩
    · exact Or.inr ⟨d, List.mem_cons_of_mem _ hd, e⟩
theorem ti_gap_pr {c d : Nat} {f g : Nat → Nat} (hf : ti_gap c f) (hg : ti_gap d g) : ti_gap (c + d) (ti_pr f g) := by
  intro j
  have hle := ti_pr_le f g j
  rcases ti_cv_at f g j (List.range' 0 (j + 1)) 9999 with e | ⟨z, -, e⟩
  · exact Or.inr e
  · have e : ti_pr f g j = f z + g (j - z) := e
    rcases hf z with h1 | h1
    · rcases hg (j - z) with h2 | h2
      · exact Or.inl (by omega)
      · exact Or.inr (by omega)
    · exact Or.inr (by omega)
theorem ti_gap_0 : ti_gap 0 (fun _ => 0) := fun _ => Or.inl (Nat.le_refl _)
theorem ti_gap_ps {G : List (Nat × Nat)} (h9 : ∀ q ∈ G, q.1 ≤ 9 ∧ q.2 ≤ 9) : ∀ k, ti_gap (9 * k) (ti_ps G k)
  | 0 => ti_gap_0
  | k + 1 => by
    have := ti_gap_pr (ti_gap_ps h9 k) (ti_gap_st h9)
    rw [show 9 * (k + 1) = 9 * k + 9 by omega]
    exact this
theorem ti_alk_min {h f : Nat → Nat} (hr : ti_alk h f) (hb : ∀ j, h j ≤ 1000) {y : Nat} (hy : y < 72) : ti_pfx h y = min (f y) 1000 := by
  have hp := ti_pfx_le hb y
  have h1 := (hr y hy (ti_pfx h y) hp).mp (Nat.le_refl _)
  have h2 := (hr y hy (min (f y) 1000) (Nat.min_le_right _ _)).mpr (Nat.min_le_left _ _)
  omega
/-- the answer to a height -/
theorem ti_hx_eq {h f : Nat → Nat} {c y : Nat} (hr : ti_alk h f) (hb : ∀ j, h j ≤ 1000) (hg : ti_gap c f) (hc : c < 1000) (hy : y < 72) : ti_hx (ti_pfx h y) = if 9999 ≤ f y then -5 else nI (f y) := by
  rw [ti_alk_min hr hb hy]
  unfold ti_hx
  rcases hg y with h1 | h1
  · rw [Nat.min_eq_left (by omega), if_neg (by omega), if_neg (by omega)]
  · rw [h1, Nat.min_eq_right (by omega), if_pos rfl, if_pos (Nat.le_refl _)]
theorem ti_sh2_eq {h f k g : Nat → Nat} {c y : Nat} (hr : ti_alk h f) (hb : ∀ j, h j ≤ 1000) (hg : ti_gap c f) (kr : ti_alk k g) (kb : ∀ j, k j ≤ 1000) (kg : ti_gap c g) (hc : c < 1000) (hy : y < 72) : ti_sh2 (ti_pfx h y) (ti_pfx k y) = if 9999 ≤ min (f y) (g y) then -5 else nI (min (f y) (g y)) := by
  rw [ti_alk_min hr hb hy, ti_alk_min kr kb hy]
  unfold ti_sh2
  rcases hg y with h1 | h1
  · rw [Nat.min_eq_left (show f y ≤ 1000 by omega), if_neg (by omega)]
    rcases kg y with h2 | h2
    · rw [Nat.min_eq_left (show g y ≤ 1000 by omega), if_neg (by omega), if_neg (by omega)]
    · rw [h2, Nat.min_eq_right (show 1000 ≤ 9999 by decide), if_pos rfl, Nat.min_eq_left (show f y ≤ 9999 by omega), if_neg (by omega)]
      unfold ti_hx
      rw [if_neg (by omega)]
  · rw [h1, Nat.min_eq_right (show 1000 ≤ 9999 by decide), if_pos rfl]
    rcases kg y with h2 | h2
    · rw [Nat.min_eq_left (show g y ≤ 1000 by omega), Nat.min_eq_right (show g y ≤ 9999 by omega), if_neg (show ¬ 9999 ≤ g y by omega)]
      unfold ti_hx
      rw [if_neg (by omega)]
    · rw [h2]
      decide
/-! reductions: places beyond 60 tell nothing new -/
theorem ti_tm_far {h : Nat → Nat} {G : List (Nat × Nat)} {c : Nat} (h9 : ∀ q ∈ G, q.1 ≤ 9 ∧ q.2 ≤ 9) (hc : ∀ x, c < x → x < 72 → h x = 1000) : ∀ x, c + 9 < x → x < 72 → ti_tm h G x = 1000 := by
  intro x h1 h2
  refine Nat.le_antisymm (ti_tm_le h G x) ((ti_tm_iff h G h2 (Nat.le_refl _)).mpr fun q hq hq1 => ?_)
  have := (h9 q hq).1
  rw [hc (x - q.1) (by omega) (by omega)]
  omega
theorem ti_pn_far {G : List (Nat × Nat)} (h9 : ∀ q ∈ G, q.1 ≤ 9 ∧ q.2 ≤ 9) : ∀ k x, 9 * k < x → x < 72 → ti_pn G k x = 1000
  | 0, x, h1, _ => by
    show ti_h0 x = 1000
    unfold ti_h0
    rw [if_neg (by omega)]
  | k + 1, x, h1, h2 => ti_tm_far h9 (c := 9 * k) (fun x h1 h2 => ti_pn_far h9 k x h1 h2) x (by omega) h2
theorem ti_pfx_far {h : Nat → Nat} {c : Nat} (hb : ∀ j, h j ≤ 1000) (hc : ∀ x, c < x → x < 72 → h x = 1000) : ∀ y, c ≤ y → y < 72 → ti_pfx h y = ti_pfx h c := by
  intro y
  induction y with
  | zero => intro h1 _; rw [Nat.le_zero.mp h1]
  | succ y ih =>
    intro h1 h2
    by_cases e : c = y + 1
    · rw [e]
    · show min (h (y + 1)) (ti_pfx h y) = ti_pfx h c
      rw [ih (by omega) (by omega), hc (y + 1) (by omega) h2, Nat.min_eq_right (ti_pfx_le hb c)]
theorem ti_eq_iff (f g : Nat → Nat) : ∀ l : List Nat, ti_eq f g l = true ↔ ∀ j ∈ l, f j = g j
  | [] => ⟨fun _ _ h => absurd h List.not_mem_nil, fun _ => rfl⟩
  | j :: r => by
    rw [ti_eq]
    by_cases c : f j = g j
    · rw [if_pos c, ti_eq_iff f g r]
      constructor
      · intro h x hx
        rcases List.mem_cons.mp hx with e | e
        · rw [e]; exact c
        · exact h x e
      · intro h x hx; exact h x (List.mem_cons_of_mem _ hx)
    · rw [if_neg c]
      exact ⟨fun h => absurd h (by decide), fun h => absurd (h j List.mem_cons_self) c⟩
theorem ti_eq_rows {h f k g : Nat → Nat} {c : Nat} (hr : ti_alk h f) (hb : ∀ j, h j ≤ 1000) (hg : ti_gap c f) (hf : ∀ x, c < x → x < 72 → h x = 1000) (kr : ti_alk k g) (kb : ∀ j, k j ≤ 1000) (kg : ti_gap c g) (kf : ∀ x, c < x → x < 72 → k x = 1000) (hc : c ≤ 60) : ti_eq (ti_pfx h) (ti_pfx k) (List.range' 0 72) = ti_eq f g (List.range' 0 61) := by
  have key : ∀ y, y < 72 → (ti_pfx h y = ti_pfx k y ↔ f y = g y) := by
    intro y hy
    rw [ti_alk_min hr hb hy, ti_alk_min kr kb hy]
    rcases hg y with h1 | h1 <;> rcases kg y with h2 | h2 <;> omega
  apply Bool.eq_iff_iff.mpr
  rw [ti_eq_iff, ti_eq_iff]
  constructor
  · intro e j hj
    have hj := (List.mem_range'_1.mp hj).2
    exact (key j (by omega)).mp (e j (List.mem_range'_1.mpr (by omega)))
  · intro e j hj
    have hj := (List.mem_range'_1.mp hj).2
    by_cases h61 : j < 61
    · exact (key j (by omega)).mpr (e j (List.mem_range'_1.mpr (by omega)))
    · rw [ti_pfx_far hb hf j (by omega) (by omega), ti_pfx_far kb kf j (by omega) (by omega)]
      exact (key c (by omega)).mpr (e c (List.mem_range'_1.mpr (by omega)))
/-- at which power two ideals meet, by stairs -/
def ti_mts (G0 G1 : List (Nat × Nat)) : List Nat → Int32
  | [] => -5
  | r :: rest => if ti_eq (ti_pr (ti_st G0) (ti_ps G1 r)) (ti_ps G1 (r + 1)) (List.range' 0 61) = true then nI r else ti_mts G0 G1 rest
theorem ti_mts_eq {I : Nat → ti_GL} (h0 : ∀ q ∈ I 0, q.1 ≤ 9 ∧ q.2 ≤ 9) (h1 : ∀ q ∈ I 1, q.1 ≤ 9 ∧ q.2 ≤ 9) : ∀ l : List Nat, (∀ r ∈ l, r ≤ 5) → ti_mts (I 0) (I 1) l = ti_mt I l
  | [], _ => rfl
  | r :: rest, h => by
    have hr := h r List.mem_cons_self
    rw [ti_mts, ti_mt, ti_mts_eq h0 h1 rest (fun x hx => h x (List.mem_cons_of_mem _ hx))]
    have e : ti_eq (ti_pfx (ti_tm (ti_pn (I 1) r) (I 0))) (ti_pfx (ti_pn (I 1) (r + 1))) (List.range' 0 72) = ti_eq (ti_pr (ti_ps (I 1) r) (ti_st (I 0))) (ti_ps (I 1) (r + 1)) (List.range' 0 61) :=
      ti_eq_rows (c := 9 * r + 9) (ti_alk_step (I 0) (ti_alk_ps (I 1) r)) (ti_tm_le _ _) (ti_gap_pr (ti_gap_ps h1 r) (ti_gap_st h0)) (ti_tm_far h0 (fun x a b => ti_pn_far h1 r x a b)) (ti_alk_ps (I 1) (r + 1)) (ti_pn_le _ _) (ti_gap_ps h1 (r + 1)) (fun x a b => ti_pn_far h1 (r + 1) x (by omega) b) (by omega)
    rw [e, show ti_pr (ti_st (I 0)) (ti_ps (I 1) r) = ti_pr (ti_ps (I 1) r) (ti_st (I 0)) from funext fun a => ti_pr_comm _ _ a]
theorem ti_ps_le (G : List (Nat × Nat)) : ∀ k j, ti_ps G k j ≤ 9999
  | 0, _ => Nat.zero_le _
  | k + 1, j => ti_pr_le _ _ j
