/-! specs: texts; generators stay distinct -/
set_option maxRecDepth 100000
def ti_dg (c : Nat) : Option Nat := if c = 43 then some 3 else if c = 45 then some 2 else if c = 99 then some 1 else if c = 109 then some 1 else if c = 117 then some 0 else if c = 122 then some 1 else none
def ti_dgI (v : Int32) : Int32 := if v = 43 then 3 else if v = 45 then 2 else if v = 99 then 1 else if v = 109 then 1 else if v = 117 then 0 else if v = 122 then 1 else -1
theorem ti_dgI_n {c : Nat} (h : c < 2 ^ 31) : ti_dgI (nI c) = ti_pm (ti_dg c) := by
  unfold ti_dgI ti_dg
  by_cases h1 : c = 43
  · rw [if_pos ((show nI c = 43 ↔ c = 43 from nI_eq (b := 43) h (by decide)).mpr h1), if_pos h1]; rfl
  rw [if_neg (fun z => h1 ((show nI c = 43 ↔ c = 43 from nI_eq (b := 43) h (by decide)).mp z)), if_neg h1]
  by_cases h2 : c = 45
  · rw [if_pos ((show nI c = 45 ↔ c = 45 from nI_eq (b := 45) h (by decide)).mpr h2), if_pos h2]; rfl
  rw [if_neg (fun z => h2 ((show nI c = 45 ↔ c = 45 from nI_eq (b := 45) h (by decide)).mp z)), if_neg h2]
  by_cases h3 : c = 99
  · rw [if_pos ((show nI c = 99 ↔ c = 99 from nI_eq (b := 99) h (by decide)).mpr h3), if_pos h3]; rfl
  rw [if_neg (fun z => h3 ((show nI c = 99 ↔ c = 99 from nI_eq (b := 99) h (by decide)).mp z)), if_neg h3]
  by_cases h4 : c = 109
  · rw [if_pos ((show nI c = 109 ↔ c = 109 from nI_eq (b := 109) h (by decide)).mpr h4), if_pos h4]; rfl
  rw [if_neg (fun z => h4 ((show nI c = 109 ↔ c = 109 from nI_eq (b := 109) h (by decide)).mp z)), if_neg h4]
  by_cases h5 : c = 117
  · rw [if_pos ((show nI c = 117 ↔ c = 117 from nI_eq (b := 117) h (by decide)).mpr h5), if_pos h5]; rfl
  rw [if_neg (fun z => h5 ((show nI c = 117 ↔ c = 117 from nI_eq (b := 117) h (by decide)).mp z)), if_neg h5]
  by_cases h6 : c = 122
  · rw [if_pos ((show nI c = 122 ↔ c = 122 from nI_eq (b := 122) h (by decide)).mpr h6), if_pos h6]; rfl
  rw [if_neg (fun z => h6 ((show nI c = 122 ↔ c = 122 from nI_eq (b := 122) h (by decide)).mp z)), if_neg h6]
  rfl
theorem ti_dg_le {c d : Nat} (h : ti_dg c = some d) : d ≤ 3 := by
  unfold ti_dg at h
  split at h
  · injection h with h; omega
  split at h
  · injection h with h; omega
  split at h
  · injection h with h; omega
  split at h
  · injection h with h; omega
  split at h
  · injection h with h; omega
  split at h
  · injection h with h; omega
  · cases h
/-- digits are read at a place -/
def ti_ds (TX : List Nat) : Nat → Nat → Option (List Nat) × Nat
  | 0, p => (some [], p)
  | k + 1, p => if p < TX.length ∧ 48 ≤ TX.getD p 0 ∧ TX.getD p 0 ≤ 57 then ((ti_ds TX k (p + 1)).1.map (fun r => (TX.getD p 0 - 48) :: r), (ti_ds TX k (p + 1)).2) else (none, p)
/-- a clause is read at a place -/
def ti_c1 (TX : List Nat) (p : Nat) : Option (Nat × List Nat) × Nat :=
  if p < TX.length then match ti_dg (TX.getD p 0) with
    | none => (none, p)
    | some k => ((ti_ds TX k (p + 1)).1.map (fun r => (TX.getD p 0, r)), (ti_ds TX k (p + 1)).2)
  else (none, p)
/-- clauses are read at a place, at most so many more -/
def ti_wh (TX : List Nat) : Nat → Nat → List (Nat × List Nat) → Option (List (Nat × List Nat)) × Nat
  | 0, p, _ => (none, p)
  | m + 1, p, acc => match ti_c1 TX p with
    | (none, q) => (none, q)
    | (some c, q) => if q < TX.length ∧ TX.getD q 0 = 59 ∧ 0 < m then ti_wh TX m (q + 1) (acc ++ [c]) else if q = TX.length then (some (acc ++ [c]), q) else (none, q)
/-- reading again -/
def ti_re (TX : List Nat) : List (Nat × List Nat) → Nat → Prop
  | [], _ => True
  | c :: r, p => ∃ q, ti_c1 TX p = (some c, q) ∧ ti_re TX r (q + 1)
theorem ti_wh_re (TX : List Nat) : ∀ (m p : Nat) (acc L : List (Nat × List Nat)) (e : Nat), ti_wh TX m p acc = (some L, e) → ∃ rest, L = acc ++ rest ∧ ti_re TX rest p
  | 0, p, acc, L, e, h => by rw [ti_wh] at h; cases h
  | m + 1, p, acc, L, e, h => by
    rw [ti_wh] at h
    cases hc : ti_c1 TX p with
    | mk o q =>
      rw [hc] at h
      cases o with
      | none => cases h
      | some c =>
        dsimp only at h
        split at h
        · obtain ⟨rest, h1, h2⟩ := ti_wh_re TX m (q + 1) (acc ++ [c]) L e h
          exact ⟨c :: rest, by rw [h1, List.append_assoc]; rfl, q, hc, h2⟩
        · split at h
          · injection h with h1 h2
            injection h1 with h1
            exact ⟨[c], h1.symm, q, hc, trivial⟩
          · cases h
theorem ti_ds_le (TX : List Nat) : ∀ (k p : Nat), (ti_ds TX k p).2 ≤ p + k ∧ ((ti_ds TX k p).2 ≤ max p TX.length)
  | 0, p => ⟨Nat.le_refl _, Nat.le_max_left _ _⟩
  | k + 1, p => by
    rw [ti_ds]
    split
    · rename_i h
      have := ti_ds_le TX k (p + 1)
      exact ⟨by have := this.1; dsimp only; omega, by have := this.2; dsimp only; omega⟩
    · exact ⟨Nat.le_add_right _ _, Nat.le_max_left _ _⟩
theorem ti_c1_le (TX : List Nat) (p : Nat) : (ti_c1 TX p).2 ≤ max p TX.length := by
  rw [ti_c1]
  split
  · rename_i h
    split
    · exact Nat.le_max_left _ _
    · rename_i k _
      have := (ti_ds_le TX k (p + 1)).2
      dsimp only; omega
  · exact Nat.le_max_left _ _
theorem ti_ds_dig (TX : List Nat) : ∀ (k p : Nat) (r : List Nat), (ti_ds TX k p).1 = some r → r.length = k ∧ ∀ d ∈ r, d ≤ 9
  | 0, p, r, h => by
    injection h with h
    rw [← h]; exact ⟨rfl, fun _ z => absurd z List.not_mem_nil⟩
  | k + 1, p, r, h => by
    rw [ti_ds] at h
    split at h
    · rename_i hh
      cases hq : (ti_ds TX k (p + 1)).1 with
      | none => dsimp only at h; rw [hq] at h; cases h
      | some r' =>
        dsimp only at h; rw [hq] at h
        injection h with h
        have := ti_ds_dig TX k (p + 1) r' hq
        rw [← h]
        refine ⟨by rw [List.length_cons, this.1], fun d hd => ?_⟩
        rcases List.mem_cons.mp hd with e | e
        · omega
        · exact this.2 d e
    · cases h
theorem ti_TX_getD {x : ti_Mt} {p : Nat} (h : p < x.2.1) : (ti_TX x).getD p 0 = x.1 p := by
  rw [List.getD_eq_getElem?_getD]; simp [h]
theorem ti_TX_len (x : ti_Mt) : (ti_TX x).length = x.2.1 := by simp
/-- the digits that were told -/
def ti_tl (g : Nat → Nat) (k : Nat) : List Nat := (List.range' 0 k).map g
theorem ti_tl_push (g : Nat → Nat) (k v : Nat) : ti_tl (va_up g k v) (k + 1) = ti_tl g k ++ [v] := ti_TX_push
theorem ti_tl_at {g : Nat → Nat} {k j : Nat} (h : j < k) : (ti_tl g k).getD j 0 = g j := by
  rw [List.getD_eq_getElem?_getD]; simp [ti_tl, h]
theorem ti_tl_len (g : Nat → Nat) (k : Nat) : (ti_tl g k).length = k := by simp [ti_tl]
/-- a clause is done -/
def ti_Sdo (I : Nat → ti_GL) (DD : ti_DL) (v : Int32) (a b c : Nat) : Int32 × (Nat → ti_GL) × ti_DL :=
  if v = 43 then ti_Sgen I DD (nI a) (nI b) (nI c) else if v = 45 then ti_Sdrop I DD (nI a) (nI b) else if v = 99 then ti_Sclose I DD (nI a) else if v = 109 then ti_Smerge I DD (nI a) else if v = 122 then ti_Sclear I DD (nI a) else ti_Sback I DD
def ti_Sdc (I : Nat → ti_GL) (DD : ti_DL) (c : Nat × List Nat) : Int32 × (Nat → ti_GL) × ti_DL := ti_Sdo I DD (nI c.1) (c.2.getD 0 0) (c.2.getD 1 0) (c.2.getD 2 0)
/-- clauses are done -/
def ti_rd (I : Nat → ti_GL) (DD : ti_DL) : List (Nat × List Nat) → Nat → Nat × (Nat → ti_GL) × ti_DL
  | [], n => (n, I, DD)
  | c :: r, n => ti_rd (ti_Sdc I DD c).2.1 (ti_Sdc I DD c).2.2 r (if (ti_Sdc I DD c).1 < 0 then n else n + 1)
/-- a text is read -/
def ti_Sread (I : Nat → ti_GL) (DD : ti_DL) (TX : List Nat) : Int32 × (Nat → ti_GL) × ti_DL :=
  match (ti_wh TX 12 0 []).1 with
  | none => (-10 - nI (ti_wh TX 12 0 []).2, I, DD)
  | some L => (nI (ti_rd I DD L 0).1, (ti_rd I DD L 0).2)
/-- what is kept of ideals and deeds: their generators are distinct -/
def ti_inv (I : Nat → ti_GL) (DD : ti_DL) : Prop := (∀ i, i < 2 → (I i).Nodup) ∧ ∀ e ∈ DD, e.2.Nodup
theorem ti_keep_mem {x : Nat × ti_GL} {DD : ti_DL} {e : Nat × ti_GL} (h : e ∈ ti_keep x DD) : e = x ∨ e ∈ DD := by
  unfold ti_keep at h
  rcases List.mem_append.mp h with h | h
  · right
    split at h
    · exact List.mem_of_mem_drop h
    · exact h
  · left; exact List.mem_singleton.mp h
theorem ti_inv_up {I : Nat → ti_GL} {DD : ti_DL} (h : ti_inv I DD) {i : Nat} (hi : i < 2) {g : ti_GL} (hg : g.Nodup) : ti_inv (va_up I i g) (ti_keep (i, I i) DD) := by
  refine ⟨fun j hj => ?_, fun e he => ?_⟩
  · by_cases z : j = i
    · rw [z, va_up_self]; exact hg
    · rw [va_up_ne _ _ z]; exact h.1 j hj
  · rcases ti_keep_mem he with z | z
    · rw [z]; exact h.1 i hi
    · exact h.2 e z
theorem ti_cl_bt {v : Int32} (h : ¬ ti_bt v = false) : ti_cl v < 2 := by
  cases hb : ti_bt v with
  | false => exact absurd hb h
  | true =>
    obtain ⟨i, hi, rfl⟩ := ti_bt_nat hb
    rw [ti_cl_nI (by omega)]; exact hi
theorem ti_inv_gen {I : Nat → ti_GL} {DD : ti_DL} (h : ti_inv I DD) (v a b : Int32) : ti_inv (ti_Sgen I DD v a b).2.1 (ti_Sgen I DD v a b).2.2 := by
  unfold ti_Sgen
  split
  · exact h
  rename_i h1
  split
  · exact h
  split
  · exact h
  rename_i h3
  split
  · exact h
  exact ti_inv_up h (ti_cl_bt h1) (ti_nod_app (h.1 _ (ti_cl_bt h1)) h3)
theorem ti_inv_drop {I : Nat → ti_GL} {DD : ti_DL} (h : ti_inv I DD) (v k : Int32) : ti_inv (ti_Sdrop I DD v k).2.1 (ti_Sdrop I DD v k).2.2 := by
  unfold ti_Sdrop
  split
  · exact h
  rename_i h1
  have hb : ti_cl v < 2 := ti_cl_bt (fun z => h1 (by rw [z]; rfl))
  exact ti_inv_up h hb ((h.1 _ hb).sublist (List.eraseIdx_sublist _ _))
theorem ti_inv_clear {I : Nat → ti_GL} {DD : ti_DL} (h : ti_inv I DD) (v : Int32) : ti_inv (ti_Sclear I DD v).2.1 (ti_Sclear I DD v).2.2 := by
  unfold ti_Sclear
  split
  · exact h
  rename_i h1
  split
  · exact h
  exact ti_inv_up h (ti_cl_bt h1) List.nodup_nil
theorem ti_mrg_nod : ∀ (l G : ti_GL), G.Nodup → (ti_mrg G l).Nodup
  | [], _, h => h
  | q :: r, G, h => by
    rw [ti_mrg]
    refine ti_mrg_nod r _ ?_
    by_cases hm : q ∈ G
    · rw [if_pos hm]; exact h
    · rw [if_neg hm]; exact ti_nod_app h hm
theorem ti_inv_merge {I : Nat → ti_GL} {DD : ti_DL} (h : ti_inv I DD) (v : Int32) : ti_inv (ti_Smerge I DD v).2.1 (ti_Smerge I DD v).2.2 := by
  unfold ti_Smerge
  split
  · exact h
  rename_i h1
  split
  · exact h
  exact ti_inv_up h (ti_cl_bt h1) (ti_mrg_nod _ _ (h.1 _ (ti_cl_bt h1)))
theorem ti_cns_sub (F : List (Nat × Nat × Nat)) : ∀ l : List Nat, (ti_cns F l).Sublist (l.map fun k => (k / 10, k % 10))
  | [] => List.Sublist.slnil
  | k :: r => by
    rw [ti_cns, List.map_cons]
    split
    · exact (ti_cns_sub F r).cons₂ _
    · exact (ti_cns_sub F r).cons _
theorem ti_cns_nod (F : List (Nat × Nat × Nat)) : (ti_cns F (List.range' 0 100)).Nodup :=
  List.Nodup.sublist (ti_cns_sub F _) (by
    refine List.Pairwise.map _ (fun a b (h : a ≠ b) => ?_) (List.nodup_range' (step := 1) (by decide))
    intro e
    injection e with e1 e2
    exact h (by omega))
theorem ti_inv_close {I : Nat → ti_GL} {DD : ti_DL} (h : ti_inv I DD) (v : Int32) : ti_inv (ti_Sclose I DD v).2.1 (ti_Sclose I DD v).2.2 := by
  unfold ti_Sclose
  split
  · exact h
  rename_i h1
  split
  · exact h
  split
  · exact h
  exact ti_inv_up h (ti_cl_bt h1) (ti_cns_nod _)
theorem ti_inv_back {I : Nat → ti_GL} {DD : ti_DL} (h : ti_inv I DD) : ti_inv (ti_Sback I DD).2.1 (ti_Sback I DD).2.2 := by
  unfold ti_Sback
  split
  · exact h
  rename_i h1
  have hm : DD.getD (DD.length - 1) (0, []) ∈ DD := by
    rw [List.getD_eq_getElem?_getD, List.getElem?_eq_getElem (by omega), Option.getD_some]
    exact List.getElem_mem _
  refine ⟨fun j hj => ?_, fun e he => h.2 e (List.mem_of_mem_take he)⟩
  dsimp only
  by_cases z : j = (DD.getD (DD.length - 1) (0, [])).1
  · rw [z, va_up_self]; exact h.2 _ hm
  · rw [va_up_ne _ _ z]; exact h.1 j hj
theorem ti_inv_do {I : Nat → ti_GL} {DD : ti_DL} (h : ti_inv I DD) (v : Int32) (a b c : Nat) : ti_inv (ti_Sdo I DD v a b c).2.1 (ti_Sdo I DD v a b c).2.2 := by
  unfold ti_Sdo
  split
  · exact ti_inv_gen h _ _ _
  split
  · exact ti_inv_drop h _ _
  split
  · exact ti_inv_close h _
  split
  · exact ti_inv_merge h _
  split
  · exact ti_inv_clear h _
  · exact ti_inv_back h
theorem ti_inv_rd : ∀ (L : List (Nat × List Nat)) {I : Nat → ti_GL} {DD : ti_DL} (n : Nat), ti_inv I DD → ti_inv (ti_rd I DD L n).2.1 (ti_rd I DD L n).2.2
  | [], _, _, _, h => h
  | c :: r, _, _, _, h => ti_inv_rd r _ (ti_inv_do h _ _ _ _)
theorem ti_inv_read {I : Nat → ti_GL} {DD : ti_DL} (h : ti_inv I DD) (TX : List Nat) : ti_inv (ti_Sread I DD TX).2.1 (ti_Sread I DD TX).2.2 := by
  unfold ti_Sread
  split
  · exact h
  · exact ti_inv_rd _ _ h
