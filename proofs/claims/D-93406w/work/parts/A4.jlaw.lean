/-! judge: what firstOther tells is what the plain law says -/
set_option maxRecDepth 100000
theorem ti_hh_eq {G : ti_GL} (h9 : ∀ q ∈ G, q.1 ≤ 9 ∧ q.2 ≤ 9) {a : Nat} (ha : a < 72) : ti_hx (ti_pfx (ti_pn G 1) a) = ti_hh G a := by
  rw [ti_hx_eq (ti_alk_st _) (ti_pn_le _ _) (ti_gap_st h9) (by decide) ha]
  have h := ti_ht_le a G 9999
  unfold ti_hh
  show (if 9999 ≤ ti_ht a G 9999 then (-5 : Int32) else nI (ti_ht a G 9999)) = _
  by_cases e : ti_ht a G 9999 = 9999
  · rw [if_pos (by omega), if_pos e]
  · rw [if_neg (by omega), if_neg e]
theorem ti_fo_jg {G : ti_GL} {g : Nat → Int64} {n j9 : Nat} (h9 : ∀ q ∈ G, q.1 ≤ 9 ∧ q.2 ≤ 9) (hn : n ≤ 60) (hj : j9 < n) (hnm : ∀ k, (g k).toInt32.toInt64 = g k) : ∀ (l : List Nat), (∀ a ∈ l, a < 72) →
    ti_fo G (fun k => (g k).toInt32) n j9 l = ti_jg (fun a => ti_hx (ti_pfx (ti_pn G 1) a)) (nI 0, (List.range' 0 n).map g) (nI j9) l
  | [], _ => rfl
  | a :: r, hl => by
    have ha := hl a List.mem_cons_self
    have hcl : ti_cl (nI j9) = j9 := ti_cl_nI (by omega)
    have ih := ti_fo_jg h9 hn hj hnm r (fun b hb => hl b (List.mem_cons_of_mem _ hb))
    rw [ti_fo, ti_jg, hcl, ih]
    have hlen : ((List.range' 0 n).map g).length = n := by rw [List.length_map, List.length_range']
    show _ = if nI j9 < 0 ∨ nI 0 = -1 ∨ ((List.range' 0 n).map g).length ≤ j9 + a then nI (100 + a) else if ((List.range' 0 n).map g).getD (j9 + a) 0 = (ti_hx (ti_pfx (ti_pn G 1) a)).toInt64 then _ else nI a
    rw [hlen]
    by_cases hk : n ≤ j9 + a
    · rw [if_pos hk, if_pos (Or.inr (Or.inr hk))]
    · have hno : ¬ (nI j9 < 0 ∨ nI 0 = -1 ∨ n ≤ j9 + a) := by
        intro z
        rcases z with z | z | z
        · exact nI_pos (by omega) z
        · exact absurd z (by decide)
        · exact hk z
      rw [if_neg hk, if_neg hno, ti_map_getD (by omega), ti_hh_eq h9 ha]
      have hiff : (g (j9 + a)).toInt32 = ti_hh G a ↔ g (j9 + a) = (ti_hh G a).toInt64 := by
        constructor
        · intro e; rw [← e, hnm]
        · intro e; rw [e, ti_i64]
      by_cases e : (g (j9 + a)).toInt32 = ti_hh G a
      · rw [if_pos e, if_pos (hiff.mp e)]
      · rw [if_neg e, if_neg (fun z => e (hiff.mpr z))]
theorem ti_jg_out {h : Nat → Int32} {its : List Int64} {i : Int32} {s : Int32} {r : List Nat} (hi : ti_lt i its.length = false) : ti_jg h (s, its) i (0 :: r) = nI 100 := by
  rw [ti_jg, if_pos ?_]
  have h1 := of_decide_eq_false hi
  by_cases h0 : i < 0
  · exact Or.inl h0
  · refine Or.inr (Or.inr ?_)
    show its.length ≤ ti_cl i + 0
    have h3 : 0 ≤ i.toInt := by have := Int32.not_lt.mp h0; simpa using Int32.le_iff_toInt_le.mp this
    have h4 : ((ti_cl i : Nat) : Int) = i.toInt := by
      show ((i.toInt.toNat : Nat) : Int) = _
      omega
    refine Nat.not_lt.mp fun z => h1 ⟨h3, ?_⟩
    omega
theorem ti_jg_none {h : Nat → Int32} {its : List Int64} {i : Int32} {r : List Nat} : ti_jg h (-1, its) i (0 :: r) = nI 100 := by
  rw [ti_jg, if_pos (Or.inr (Or.inl rfl))]
