/-! the tapes of TermIdeals: their rows' cells, and what they are to the plain tapes -/
set_option maxRecDepth 100000
/-- sort (5: none), address, length, items -/
abbrev ti_Tp : Type := Nat × Nat × Nat × (Nat → Int64)
def ti_rv (x : ti_Tp) : Value := if x.1 < 5 then .ref x.2.1 else .null
def ti_kE : Nat → Nat
  | 0 => 1
  | 1 => 2
  | 2 => 0
  | k => k
def ti_ce (E : Nat → ClassId) (x : ti_Tp) : va_E := .inl (E (ti_kE x.1), x.2.2.1, if x.1 = 3 then .inr (.inl x.2.2.2) else .inl (fun k => (x.2.2.2 k).toInt32))
def ti_rc (E : Nat → ClassId) (x : ti_Tp) : va_W := if x.1 < 5 then [(x.2.1, ti_ce E x)] else []
def ti_rows (E : Nat → ClassId) (tp : Nat → ti_Tp) : va_W := (List.range' 0 6).flatMap (fun j => ti_rc E (tp j))
/-- the rows' addresses differ -/
def ti_TD (tp : Nat → ti_Tp) : Prop := ∀ i j, i < 6 → j < 6 → i ≠ j → (tp i).1 < 5 → (tp j).1 < 5 → (tp i).2.1 ≠ (tp j).2.1
theorem ti_rc_mem {E : Nat → ClassId} {x : ti_Tp} {z : Nat × va_E} : z ∈ ti_rc E x ↔ x.1 < 5 ∧ z = (x.2.1, ti_ce E x) := by
  unfold ti_rc
  by_cases h : x.1 < 5
  · rw [if_pos h, List.mem_singleton]; exact ⟨fun e => ⟨h, e⟩, fun e => e.2⟩
  · rw [if_neg h]; exact ⟨fun e => absurd e List.not_mem_nil, fun e => absurd e.1 h⟩
theorem ti_rows_mem {E : Nat → ClassId} {tp : Nat → ti_Tp} {z : Nat × va_E} : z ∈ ti_rows E tp ↔ ∃ j, j < 6 ∧ (tp j).1 < 5 ∧ z = ((tp j).2.1, ti_ce E (tp j)) := by
  unfold ti_rows
  rw [List.mem_flatMap]
  constructor
  · rintro ⟨j, hj, hz⟩
    obtain ⟨i, hi, rfl⟩ := List.mem_range'.mp hj
    exact ⟨_, by omega, ti_rc_mem.mp hz⟩
  · rintro ⟨j, hj, h1, h2⟩
    exact ⟨j, List.mem_range'.mpr ⟨j, hj, by omega⟩, ti_rc_mem.mpr ⟨h1, h2⟩⟩
theorem ti_rows_at {E : Nat → ClassId} {tp : Nat → ti_Tp} {t : Nat} (ht : t < 6) (h : (tp t).1 < 5) : ∃ q : Nat, (ti_rows E tp)[q]? = some ((tp t).2.1, ti_ce E (tp t)) := List.mem_iff_getElem?.mp (ti_rows_mem.mpr ⟨t, ht, h, rfl⟩)
theorem ti_P_mem {D : va_G} {cl : List vw_C} {ws ws' : va_W} {H : Heap} (h : ∀ q ∈ ws', q ∈ ws) (hP : va_P D cl ws H) : va_P D cl ws' H := fun k q hq => by
  obtain ⟨i, hi⟩ := List.mem_iff_getElem?.mp (h q (List.mem_of_getElem? hq))
  exact hP i q hi
theorem ti_D_mem {A : Nat → Prop} {ws ws' : va_W} (h : ∀ q ∈ ws', q ∈ ws) (hn : (ws'.map (·.1)).Nodup) (hD : va_D A ws) : va_D A ws' := by
  refine ⟨fun i j x y hi hj e => ?_, fun k q hq => ?_⟩
  · have h1 : (ws'.map (·.1))[i]? = some x.1 := by rw [List.getElem?_map, hi]; rfl
    have h2 : (ws'.map (·.1))[j]? = some x.1 := by rw [List.getElem?_map, hj, e]; rfl
    have hil := (List.getElem?_eq_some_iff.mp h1).1
    exact (List.getElem?_inj hil hn).mp (h1.trans h2.symm)
  · obtain ⟨i, hi⟩ := List.mem_iff_getElem?.mp (h q (List.mem_of_getElem? hq))
    exact hD.2 i q hi
/-- a row's cell is written: the rows are those of the new state -/
theorem ti_rows_set {E : Nat → ClassId} {tp : Nat → ti_Tp} {t q : Nat} {x : ti_Tp} (ht : t < 6) (h : (tp t).1 < 5) (hD : ti_TD tp) (hq : (ti_rows E tp)[q]? = some ((tp t).2.1, ti_ce E (tp t))) (hx : x.1 < 5) (hxa : x.2.1 = (tp t).2.1) : ∀ z ∈ ti_rows E (va_up tp t x), z ∈ (ti_rows E tp).set q (x.2.1, ti_ce E x) := by
  intro z hz
  have hlt := (List.getElem?_eq_some_iff.mp hq).1
  obtain ⟨j, hj, h1, h2⟩ := ti_rows_mem.mp hz
  by_cases e : j = t
  · rw [e, va_up_self] at h2
    exact List.mem_iff_getElem?.mpr ⟨q, by rw [List.getElem?_set_self hlt, h2]⟩
  · rw [va_up_ne _ _ e] at h1 h2
    obtain ⟨q', hq'⟩ := ti_rows_at (E := E) (tp := tp) hj h1
    have hne : q ≠ q' := fun z9 => by
      rw [z9, hq'] at hq
      have := congrArg (fun w : Nat × va_E => w.1) (Option.some.inj hq)
      exact hD j t hj ht e h1 h this
    exact List.mem_iff_getElem?.mpr ⟨q', by rw [List.getElem?_set_ne hne, hq', h2]⟩
theorem ti_TD_up {tp : Nat → ti_Tp} {t : Nat} {x : ti_Tp} (h : ti_TD tp) (hx : x.1 < 5 → ∀ j, j < 6 → j ≠ t → (tp j).1 < 5 → (tp j).2.1 ≠ x.2.1) : ti_TD (va_up tp t x) := by
  intro i j hi hj hne h1 h2
  by_cases e1 : i = t
  · subst e1
    rw [va_up_self] at h1 ⊢
    have e2 : j ≠ i := Ne.symm hne
    rw [va_up_ne _ _ e2] at h2 ⊢
    exact Ne.symm (hx h1 j hj e2 h2)
  · rw [va_up_ne _ _ e1] at h1 ⊢
    by_cases e2 : j = t
    · subst e2
      rw [va_up_self] at h2 ⊢
      exact hx h2 i hi e1 h1
    · rw [va_up_ne _ _ e2] at h2 ⊢
      exact h i j hi hj hne h1 h2
/-- an item is as its sort has it -/
def ti_nm (s : Nat) (v : Int64) : Prop := v = ti_as (nI s) v
/-- a tape and the plain tape -/
def ti_tie (x : ti_Tp) (P : ti_TP) : Prop := x.2.2.1 ≤ 60 ∧ (x.1 < 5 ∨ (x.1 = 5 ∧ x.2.2.1 = 0)) ∧ P = (if x.1 < 5 then nI x.1 else -1, (List.range' 0 x.2.2.1).map x.2.2.2) ∧ (x.1 < 5 → ∀ k, ti_nm x.1 (x.2.2.2 k))
def ti_TTs (tp : Nat → ti_Tp) (T : Nat → ti_TP) : Prop := ti_TD tp ∧ ∀ t, t < 6 → ti_tie (tp t) (T t)
