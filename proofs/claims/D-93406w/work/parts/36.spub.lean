/-! what the public methods answer and leave, over lists: I: the two ideals' generators, DD: deeds, TX: text. Shared by TermIdeals and the model. -/
set_option maxRecDepth 100000
abbrev ti_GL : Type := List (Nat × Nat)
abbrev ti_DL : Type := List (Nat × List (Nat × Nat))
abbrev ti_cl (v : Int32) : Nat := v.toNatClampNeg
/-- faces of generators, as both sides have them -/
def ti_FF (G : ti_GL) : List (Nat × Nat × Nat) := (ti_fm G 1000).reverse
def ti_bt (v : Int32) : Bool := ti_in v (nI 0) (nI 1)
def ti_b9 (v : Int32) : Bool := ti_in v (nI 0) (nI 9)
def ti_bf (v : Int32) : Bool := ti_in v (nI 1) (nI 99)
def ti_Sgen (I : Nat → ti_GL) (DD : ti_DL) (v a b : Int32) : Int32 × (Nat → ti_GL) × ti_DL :=
  if ti_bt v = false then (-1, I, DD) else if (ti_b9 a && ti_b9 b) = false then (-2, I, DD) else if (ti_cl a, ti_cl b) ∈ I (ti_cl v) then (-3, I, DD) else if (I (ti_cl v)).length = 6 then (-4, I, DD)
  else (nI ((I (ti_cl v)).length + 1), va_up I (ti_cl v) (I (ti_cl v) ++ [(ti_cl a, ti_cl b)]), ti_keep (ti_cl v, I (ti_cl v)) DD)
def ti_Sdrop (I : Nat → ti_GL) (DD : ti_DL) (v k : Int32) : Int32 × (Nat → ti_GL) × ti_DL :=
  if (ti_bt v && ti_lt k (I (ti_cl v)).length) = false then (-1, I, DD)
  else (nI ((I (ti_cl v)).length - 1), va_up I (ti_cl v) ((I (ti_cl v)).eraseIdx (ti_cl k)), ti_keep (ti_cl v, I (ti_cl v)) DD)
def ti_Sclear (I : Nat → ti_GL) (DD : ti_DL) (v : Int32) : Int32 × (Nat → ti_GL) × ti_DL :=
  if ti_bt v = false then (-1, I, DD) else if (I (ti_cl v)).length = 0 then (-3, I, DD)
  else (nI (I (ti_cl v)).length, va_up I (ti_cl v) [], ti_keep (ti_cl v, I (ti_cl v)) DD)
def ti_mrg (G : ti_GL) : ti_GL → ti_GL
  | [] => G
  | q :: r => ti_mrg (if q ∈ G then G else G ++ [q]) r
def ti_Smerge (I : Nat → ti_GL) (DD : ti_DL) (v : Int32) : Int32 × (Nat → ti_GL) × ti_DL :=
  if ti_bt v = false then (-1, I, DD) else if 6 < (ti_mrg (I (ti_cl v)) (I (1 - ti_cl v))).length then (-4, I, DD)
  else (nI (ti_mrg (I (ti_cl v)) (I (1 - ti_cl v))).length, va_up I (ti_cl v) (ti_mrg (I (ti_cl v)) (I (1 - ti_cl v))), ti_keep (ti_cl v, I (ti_cl v)) DD)
/-- the corners among the terms of a list -/
def ti_cns (F : List (Nat × Nat × Nat)) : List Nat → ti_GL
  | [] => []
  | k :: r => if ti_cn (k / 10) (k % 10) F = true then (k / 10, k % 10) :: ti_cns F r else ti_cns F r
def ti_Sclose (I : Nat → ti_GL) (DD : ti_DL) (v : Int32) : Int32 × (Nat → ti_GL) × ti_DL :=
  if ti_bt v = false then (-1, I, DD) else if (I (ti_cl v)).length = 0 then (-3, I, DD) else if 6 < (ti_cns (ti_FF (I (ti_cl v))) (List.range' 0 100)).length then (-4, I, DD)
  else (nI (ti_cns (ti_FF (I (ti_cl v))) (List.range' 0 100)).length, va_up I (ti_cl v) (ti_cns (ti_FF (I (ti_cl v))) (List.range' 0 100)), ti_keep (ti_cl v, I (ti_cl v)) DD)
def ti_Sback (I : Nat → ti_GL) (DD : ti_DL) : Int32 × (Nat → ti_GL) × ti_DL :=
  if DD.length = 0 then (-3, I, DD) else (nI (DD.length - 1), va_up I (DD.getD (DD.length - 1) (0, [])).1 (DD.getD (DD.length - 1) (0, [])).2, DD.take (DD.length - 1))
def ti_Sfeed (TX : List Nat) (v : Int32) : Int32 × List Nat :=
  if ti_in v (nI 0) (nI 127) = false then (-2, TX) else if TX.length = 100 then (-4, TX) else (nI (TX.length + 1), TX ++ [ti_cl v])
def ti_Sof (I : Nat → ti_GL) (v k w : Int32) : Int32 :=
  if (ti_bt v && ti_lt k (I (ti_cl v)).length) = false then -1 else if w = 0 then nI ((I (ti_cl v)).getD (ti_cl k) (0, 0)).1 else if w = 1 then nI ((I (ti_cl v)).getD (ti_cl k) (0, 0)).2
  else if w = 2 then ti_b (!ti_hb ((I (ti_cl v)).getD (ti_cl k) (0, 0)).1 ((I (ti_cl v)).getD (ti_cl k) (0, 0)).2 (nI (ti_cl k)) (I (ti_cl v)) 0) else -1
/-- of generators: how many faces (2), whether closed (3), how many jumps (4) -/
def ti_Sask (G : ti_GL) (w : Nat) : Int32 := if w = 3 then ti_b (ti_clm (ti_FF G) G (List.range' 0 100)) else if w = 2 then nI (ti_FF G).length else nI (ti_ml (ti_FF G) (List.range' 0 100) []).length
def ti_Stold (I : Nat → ti_GL) (v w : Int32) : Int32 :=
  if (ti_bt v && ti_in w (nI 0) (nI 4)) = false then -1 else if w = 0 then nI (I (ti_cl v)).length else if w = 1 then nI (ti_lst (I (ti_cl v)) (I (ti_cl v)) 0 0)
  else if (I (ti_cl v)).length = 0 then -3 else ti_Sask (I (ti_cl v)) (ti_cl w)
def ti_Sin (I : Nat → ti_GL) (v a b w : Int32) : Int32 :=
  if (ti_bt v && ti_bt w) = false then -1 else if (ti_b9 a && ti_b9 b) = false then -2 else if w = 0 then ti_b (ti_hb (ti_cl a) (ti_cl b) (-5) (I (ti_cl v)) 0)
  else if (I (ti_cl v)).length = 0 then -3 else ti_b (ti_hull (ti_cl a) (ti_cl b) (ti_FF (I (ti_cl v))))
def ti_Sface (I : Nat → ti_GL) (v i w : Int32) : Int32 :=
  if ti_bt v = false then -1 else if (I (ti_cl v)).length = 0 then -3 else if ti_lt i (ti_FF (I (ti_cl v))).length = false then -1
  else if w = 0 then nI ((ti_FF (I (ti_cl v))).getD (ti_cl i) (0, 0, 0)).1 else if w = 1 then nI ((ti_FF (I (ti_cl v))).getD (ti_cl i) (0, 0, 0)).2.1 else if w = 2 then nI ((ti_FF (I (ti_cl v))).getD (ti_cl i) (0, 0, 0)).2.2 else -1
def ti_Sheld (I : Nat → ti_GL) (v a b num den : Int32) : Int32 :=
  if ti_bt v = false then -1 else if (ti_b9 a && ti_b9 b && (ti_bf num && ti_bf den)) = false then -2 else if (I (ti_cl v)).length = 0 then -3
  else ti_b (ti_fb (ti_cl a) (ti_cl b) (ti_cl num) (ti_cl den) (ti_FF (I (ti_cl v))) 0).isNone
def ti_Sreason (I : Nat → ti_GL) (v a b num den i : Int32) : Int32 :=
  if (ti_bt v && ti_in i (nI 0) (nI 4)) = false then -1 else if (ti_b9 a && ti_b9 b && (ti_bf num && ti_bf den)) = false then -2 else if (I (ti_cl v)).length = 0 then -3
  else match ti_fb (ti_cl a) (ti_cl b) (ti_cl num) (ti_cl den) (ti_FF (I (ti_cl v))) 0 with
    | none => -5
    | some f => if i = 0 then nI f else if i = 1 then nI (ti_wt ((ti_FF (I (ti_cl v))).getD f (0, 0, 0)) (ti_cl a) (ti_cl b)) else if i = 2 then nI ((ti_FF (I (ti_cl v))).getD f (0, 0, 0)).2.2 else if i = 3 then num else den
theorem ti_bt_nat {v : Int32} (h : ti_bt v = true) : ∃ i, i < 2 ∧ v = nI i := by
  obtain ⟨j, -, h2, h3⟩ := ti_in_nat (by decide) (by decide) h
  exact ⟨j, by omega, h3⟩
theorem ti_b9_nat {v : Int32} (h : ti_b9 v = true) : ∃ i, i ≤ 9 ∧ v = nI i := by
  obtain ⟨j, -, h2, h3⟩ := ti_in_nat (by decide) (by decide) h
  exact ⟨j, h2, h3⟩
theorem ti_bf_nat {v : Int32} (h : ti_bf v = true) : ∃ i, 1 ≤ i ∧ i ≤ 99 ∧ v = nI i := ti_in_nat (by decide) (by decide) h
theorem ti_cl_nI {i : Nat} (h : i < 2 ^ 31) : ti_cl (nI i) = i := nI_clamp h
/-- the model's ideals are those lists -/
def ti_MI (x : ti_Mg) (I : Nat → ti_GL) : Prop := ∀ i, i < 2 → ti_G x i = I i
theorem ti_MI_up {x y : ti_Mg} {I : Nat → ti_GL} {i : Nat} {g : ti_GL} (h : ti_MI x I) (hi : ti_G y i = g) (hn : ∀ j, j < 2 → j ≠ i → ti_G y j = ti_G x j) : ti_MI y (va_up I i g) := by
  intro j hj
  by_cases e : j = i
  · subst e; rw [va_up_self]; exact hi
  · rw [va_up_ne _ _ e, hn j hj e]; exact h j hj
theorem ti_msz_G {x : ti_Mg} {i c : Nat} : ti_G (va_up x.1 i c, x.2.1, x.2.2) i = ti_gr (ti_ma x i) (ti_mb x i) 0 c := by
  show ti_gr _ _ 0 (va_up x.1 i c i) = _
  rw [va_up_self]
  rfl
theorem ti_msz_Gn {x : ti_Mg} {i j c : Nat} (h : j ≠ i) : ti_G (va_up x.1 i c, x.2.1, x.2.2) j = ti_G x j := by
  show ti_gr _ _ 0 (va_up x.1 i c j) = _
  rw [va_up_ne _ _ h]
  rfl
def ti_frs (G : ti_GL) : ti_GL → Nat → Nat
  | [], z => z
  | q :: r, z => ti_frs G r (z + if q ∈ G then 0 else 1)
theorem ti_mrg_le : ∀ (L G : ti_GL), G.length ≤ (ti_mrg G L).length
  | [], _ => Nat.le_refl _
  | q :: r, G => by
    unfold ti_mrg
    refine Nat.le_trans ?_ (ti_mrg_le r _)
    by_cases h : q ∈ G
    · rw [if_pos h]; exact Nat.le_refl _
    · rw [if_neg h]; simp
theorem ti_frs_acc (G : ti_GL) : ∀ (L : ti_GL) (z : Nat), ti_frs G L z = z + ti_frs G L 0
  | [], z => rfl
  | q :: r, z => by
    unfold ti_frs
    rw [ti_frs_acc G r (z + _), ti_frs_acc G r (0 + _)]
    omega
theorem ti_frs_app {G : ti_GL} {q : Nat × Nat} : ∀ (L : ti_GL) (z : Nat), q ∉ L → ti_frs (G ++ [q]) L z = ti_frs G L z
  | [], _, _ => rfl
  | x :: r, z, h => by
    have hx : ¬ x = q := fun e => h (by rw [e]; exact List.mem_cons_self)
    unfold ti_frs
    rw [ti_frs_app r _ (fun hm => h (List.mem_cons_of_mem _ hm))]
    congr 2
    by_cases hg : x ∈ G
    · rw [if_pos hg, if_pos (List.mem_append_left _ hg)]
    · rw [if_neg hg, if_neg (by simp [hg, hx])]
theorem ti_mrg_len : ∀ (L G : ti_GL), L.Nodup → (ti_mrg G L).length = G.length + ti_frs G L 0
  | [], _, _ => rfl
  | q :: r, G, h => by
    obtain ⟨h1, h2⟩ := List.nodup_cons.mp h
    unfold ti_mrg ti_frs
    rw [ti_mrg_len r _ h2]
    by_cases hg : q ∈ G
    · rw [if_pos hg, if_pos hg]
    · rw [if_neg hg, if_neg hg, ti_frs_app r 0 h1, ti_frs_acc G r (0 + 1)]
      simp
      omega
def ti_cnn (F : List (Nat × Nat × Nat)) : List Nat → Nat → Nat
  | [], z => z
  | k :: r, z => ti_cnn F r (z + if ti_cn (k / 10) (k % 10) F = true then 1 else 0)
theorem ti_cnn_len (F : List (Nat × Nat × Nat)) : ∀ (L : List Nat) (z : Nat), ti_cnn F L z = z + (ti_cns F L).length
  | [], _ => rfl
  | k :: r, z => by
    unfold ti_cnn ti_cns
    rw [ti_cnn_len F r]
    by_cases h : ti_cn (k / 10) (k % 10) F = true
    · rw [if_pos h, if_pos h, List.length_cons]; omega
    · rw [if_neg h, if_neg h]; omega
def ti_mbk (x : ti_Mg) (y : ti_Md) (c w : Nat) : ti_Mg := (va_up x.1 w (y.2.2.1 c), va_cpy y.2.2.2.1 x.2.1 (6 * c) (6 * w) 6, va_cpy y.2.2.2.2 x.2.2 (6 * c) (6 * w) 6)
theorem ti_mbk_ok {x : ti_Mg} {y : ti_Md} (h : ti_Mgok x) (hy : ti_Mdok y) {c w : Nat} : ti_Mgok (ti_mbk x y c w) := ⟨ti_up_le h.1 (hy.2.2.1 c), ti_cpy_le hy.2.2.2.1 h.2.1, ti_cpy_le hy.2.2.2.2 h.2.2⟩
theorem ti_mbk_G {x : ti_Mg} {y : ti_Md} (hy : ti_Mdok y) {c w : Nat} : ti_G (ti_mbk x y c w) w = ti_gr (fun k => y.2.2.2.1 (6 * c + k)) (fun k => y.2.2.2.2 (6 * c + k)) 0 (y.2.2.1 c) := by
  have h6 := hy.2.2.1 c
  show ti_gr _ _ 0 (va_up x.1 w (y.2.2.1 c) w) = _
  rw [va_up_self]
  refine ti_gr_congr fun j hj => ?_
  unfold ti_ma ti_mb ti_mbk
  dsimp only
  rw [pk_cpy_in (by omega) (by omega), pk_cpy_in (by omega) (by omega), show 6 * w + (0 + j) - 6 * w = 0 + j by omega]
  exact ⟨rfl, rfl⟩
theorem ti_mbk_Gn {x : ti_Mg} {y : ti_Md} (h : ti_Mgok x) {c w j : Nat} (hj : j ≠ w) : ti_G (ti_mbk x y c w) j = ti_G x j := by
  have h6 := h.1 j
  show ti_gr _ _ 0 (va_up x.1 w (y.2.2.1 c) j) = _
  rw [va_up_ne _ _ hj]
  refine ti_gr_congr fun k hk => ?_
  unfold ti_ma ti_mb ti_mbk
  dsimp only
  rw [pk_cpy_out (by omega), pk_cpy_out (by omega)]
  exact ⟨rfl, rfl⟩
theorem ti_mdl_take {x : ti_Md} {m : Nat} : ti_mdl (m, x.2) 0 m = (ti_mdl x 0 (m + 1)).take m := by
  apply List.ext_getElem?
  intro j
  rw [List.getElem?_take]
  by_cases hj : j < m
  · rw [if_pos hj, ti_mdl_at hj, ti_mdl_at (by omega)]
  · rw [if_neg hj, List.getElem?_eq_none (by rw [ti_mdl_len]; omega)]
theorem ti_mdl_getD {x : ti_Md} {m j : Nat} (h : j < m) : (ti_mdl x 0 m).getD j (0, []) = (x.2.1 j, ti_gr (fun k => x.2.2.2.1 (6 * j + k)) (fun k => x.2.2.2.2 (6 * j + k)) 0 (x.2.2.1 j)) := by
  rw [List.getD_eq_getElem?_getD, ti_mdl_at h, Nat.zero_add]; rfl
/-- the text in the model -/
abbrev ti_TX (x : ti_Mt) : List Nat := (List.range' 0 x.2.1).map x.1
theorem ti_TX_push {f : Nat → Nat} {n v : Nat} : (List.range' 0 (n + 1)).map (va_up f n v) = (List.range' 0 n).map f ++ [v] := by
  apply List.ext_getElem?
  intro j
  by_cases hj : j < n
  · rw [List.getElem?_append_left (by simpa using hj)]
    simp [hj, show j < n + 1 by omega, va_up_ne f v (show j ≠ n by omega)]
  · by_cases he : j = n
    · subst he
      rw [List.getElem?_append_right (by simp)]
      simp [va_up_self]
    · rw [List.getElem?_eq_none (by simp; omega), List.getElem?_eq_none (by simp; omega)]
theorem ti_MI_len {x : ti_Mg} {I : Nat → ti_GL} (h : ti_MI x I) {i : Nat} (hi : i < 2) : (I i).length = x.1 i := by rw [← h i hi, ti_gr_len]
