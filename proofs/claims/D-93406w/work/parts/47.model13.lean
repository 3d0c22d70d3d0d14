/-! TermIdealsModel: texts (printed by w_model13.py) -/
set_option maxRecDepth 100000
theorem ti_inL_nat {v a b : Nat} (hv : v < 2 ^ 31) (ha : a < 2 ^ 31) (hb : b < 2 ^ 31) : ti_inL (lN v) (lN a) (lN b) = decide (a ≤ v ∧ v ≤ b) := by
  unfold ti_inL
  exact decide_eq_decide.mpr ⟨fun z => ⟨(lN_le ha hv).mp z.1, (lN_le hv hb).mp z.2⟩, fun z => ⟨(lN_le ha hv).mpr z.1, (lN_le hv hb).mpr z.2⟩⟩
/-- a clause's sign -/
def ti_sg (o : Option (Nat × List Nat)) : Int32 := match o with
  | none => -1
  | some c => nI c.1
def ti_ln (o : Option (List (Nat × List Nat))) : Int32 := match o with
  | none => -1
  | some L => nI L.length
theorem ti_wh_len (TX : List Nat) : ∀ (m p : Nat) (acc L : List (Nat × List Nat)) (e : Nat), ti_wh TX m p acc = (some L, e) → L.length ≤ acc.length + m
  | 0, p, acc, L, e, h => by rw [ti_wh] at h; cases h
  | m + 1, p, acc, L, e, h => by
    rw [ti_wh] at h
    cases hc : ti_c1 TX p with
    | mk o q =>
      rw [hc] at h
      cases o with
      | none => cases h
      | some c =>
        dsimp only at h
        split at h
        · have := ti_wh_len TX m (q + 1) (acc ++ [c]) L e h
          rw [List.length_append] at this
          have e1 : [c].length = 1 := rfl
          omega
        · split at h
          · injection h with h1 h2
            injection h1 with h1
            rw [← h1, List.length_append]
            have e1 : [c].length = 1 := rfl
            omega
          · cases h
theorem ti_c1_some {TX : List Nat} {p q : Nat} {c : Nat × List Nat} (h : ti_c1 TX p = (some c, q)) : p < TX.length ∧ ti_dg c.1 = some c.2.length ∧ q ≤ TX.length ∧ (∀ d ∈ c.2, d ≤ 9) ∧ c.1 = TX.getD p 0 := by
  have hp : p < TX.length := Classical.byContradiction fun z => by rw [ti_c1, if_neg z] at h; cases h
  have hq := ti_c1_le TX p
  rw [h] at hq
  rw [ti_c1, if_pos hp] at h
  cases hd : ti_dg (TX.getD p 0) with
  | none => rw [hd] at h; cases h
  | some k =>
    rw [hd] at h
    dsimp only at h
    cases hs : (ti_ds TX k (p + 1)).1 with
    | none => rw [hs] at h; cases h
    | some r =>
      rw [hs] at h
      injection h with h1 h2
      injection h1 with h1
      have := ti_ds_dig TX k (p + 1) r hs
      rw [← h1]
      exact ⟨hp, by rw [this.1]; exact hd, by dsimp only at hq; omega, this.2, rfl⟩
theorem ti_dg_cases {c d : Nat} (h : ti_dg c = some d) : (c = 43 ∧ d = 3) ∨ (c = 45 ∧ d = 2) ∨ (c = 99 ∧ d = 1) ∨ (c = 109 ∧ d = 1) ∨ (c = 117 ∧ d = 0) ∨ (c = 122 ∧ d = 1) := by
  unfold ti_dg at h
  split at h
  · injection h with h; omega
  split at h
  · injection h with h; omega
  split at h
  · injection h with h; omega
  split at h
  · injection h with h; omega
  split at h
  · injection h with h; omega
  split at h
  · injection h with h; omega
  · cases h
theorem ti_do43 (I : Nat → ti_GL) (DD : ti_DL) (a b c : Nat) : ti_Sdo I DD (nI 43) a b c = ti_Sgen I DD (nI a) (nI b) (nI c) := by
  rw [ti_Sdo, if_pos (by decide)]
theorem ti_do45 (I : Nat → ti_GL) (DD : ti_DL) (a b c : Nat) : ti_Sdo I DD (nI 45) a b c = ti_Sdrop I DD (nI a) (nI b) := by
  rw [ti_Sdo, if_neg (by decide), if_pos (by decide)]
theorem ti_do99 (I : Nat → ti_GL) (DD : ti_DL) (a b c : Nat) : ti_Sdo I DD (nI 99) a b c = ti_Sclose I DD (nI a) := by
  rw [ti_Sdo, if_neg (by decide), if_neg (by decide), if_pos (by decide)]
theorem ti_do109 (I : Nat → ti_GL) (DD : ti_DL) (a b c : Nat) : ti_Sdo I DD (nI 109) a b c = ti_Smerge I DD (nI a) := by
  rw [ti_Sdo, if_neg (by decide), if_neg (by decide), if_neg (by decide), if_pos (by decide)]
theorem ti_do122 (I : Nat → ti_GL) (DD : ti_DL) (a b c : Nat) : ti_Sdo I DD (nI 122) a b c = ti_Sclear I DD (nI a) := by
  rw [ti_Sdo, if_neg (by decide), if_neg (by decide), if_neg (by decide), if_neg (by decide), if_pos (by decide)]
theorem ti_do117 (I : Nat → ti_GL) (DD : ti_DL) (a b c : Nat) : ti_Sdo I DD (nI 117) a b c = ti_Sback I DD := by
  rw [ti_Sdo, if_neg (by decide), if_neg (by decide), if_neg (by decide), if_neg (by decide), if_neg (by decide)]
theorem ti_wh_s (TX : List Nat) (m p : Nat) (acc : List (Nat × List Nat)) : ti_wh TX (m + 1) p acc = match ti_c1 TX p with
    | (none, q) => (none, q)
    | (some c, q) => if q < TX.length ∧ TX.getD q 0 = 59 ∧ 0 < m then ti_wh TX m (q + 1) (acc ++ [c]) else if q = TX.length then (some (acc ++ [c]), q) else (none, q) := rfl
theorem ti_do_eq {TX : List Nat} {p q : Nat} {c : Nat × List Nat} (h : ti_c1 TX p = (some c, q)) {t : Nat → Nat} (ht : ti_tl t c.2.length = c.2) (I : Nat → ti_GL) (DD : ti_DL) : ti_Sdo I DD (nI c.1) (t 0) (t 1) (t 2) = ti_Sdc I DD c := by
  have hj : ∀ j, j < c.2.length → t j = c.2.getD j 0 := fun j hj => by rw [← ti_tl_at (g := t) hj, ht]
  have hg := (ti_c1_some h).2.1
  unfold ti_Sdc
  obtain ⟨s, ds⟩ := c
  dsimp only at *
  rcases ti_dg_cases hg with ⟨rfl, e⟩ | ⟨rfl, e⟩ | ⟨rfl, e⟩ | ⟨rfl, e⟩ | ⟨rfl, e⟩ | ⟨rfl, e⟩
  · rw [hj 0 (by omega), hj 1 (by omega), hj 2 (by omega)]
  · rw [ti_do45, ti_do45, hj 0 (by omega), hj 1 (by omega)]
  · rw [ti_do99, ti_do99, hj 0 (by omega)]
  · rw [ti_do109, ti_do109, hj 0 (by omega)]
  · rw [ti_do117, ti_do117]
  · rw [ti_do122, ti_do122, hj 0 (by omega)]
theorem ti_map_app {acc : List Nat} (o : Option (List Nat)) (d : Nat) : (o.map fun r => d :: r).map (fun r => acc ++ r) = o.map (fun r => (acc ++ [d]) ++ r) := by
  cases o with
  | none => rfl
  | some r => simp

set_option maxHeartbeats 1000000 in
theorem met_X7_digitsOf (l : Launch) (D : va_G) (E : Nat → ClassId) (v : Int32) : ti_MetP l D E yX7_digitsOf cX7_digitsOf 1 (some .int) 0 ([]) [.int v] (some (.int (ti_dgI v))) := by
  refine ti_pureI (by decide) (Nat.le_of_ble_eq_true rfl) ?_
  intro p e s m below meth c H locs Q ls S hE hP hl hret
  have hx := S.1
  have hb := S.2.1
  have hown := S.2.2.2.1
  have hts := S.2.2.2.2
  have hK := hE.1
  have hl : lv_has ls 1 [(0, .int v)] := hl
  refine lv_iload_n hx hb dX7_digitsOf_0 rfl (lv_at hl 0 rfl) ?_
  by_cases sw1_0 : v = 43
  · subst sw1_0
    refine lv_lookup (off := 59) (tgt := 60) hx hb dX7_digitsOf_1 (by decide) (by decide) (by decide) ?_
    refine lv_iconst (v := nI 3) hx hb dX7_digitsOf_60 (by decide) ?_
    exact hret _ _ _ dX7_digitsOf_61 (rfl)
  · skip
    by_cases sw1_1 : v = 45
    · subst sw1_1
      refine lv_lookup (off := 61) (tgt := 62) hx hb dX7_digitsOf_1 (by decide) (by decide) (by decide) ?_
      refine lv_iconst (v := nI 2) hx hb dX7_digitsOf_62 (by decide) ?_
      exact hret _ _ _ dX7_digitsOf_63 (rfl)
    · skip
      by_cases sw1_2 : v = 99
      · subst sw1_2
        refine lv_lookup (off := 63) (tgt := 64) hx hb dX7_digitsOf_1 (by decide) (by decide) (by decide) ?_
        refine lv_iconst (v := nI 1) hx hb dX7_digitsOf_64 (by decide) ?_
        exact hret _ _ _ dX7_digitsOf_65 (rfl)
      · skip
        by_cases sw1_3 : v = 109
        · subst sw1_3
          refine lv_lookup (off := 63) (tgt := 64) hx hb dX7_digitsOf_1 (by decide) (by decide) (by decide) ?_
          refine lv_iconst (v := nI 1) hx hb dX7_digitsOf_64 (by decide) ?_
          exact hret _ _ _ dX7_digitsOf_65 (rfl)
        · skip
          by_cases sw1_4 : v = 117
          · subst sw1_4
            refine lv_lookup (off := 65) (tgt := 66) hx hb dX7_digitsOf_1 (by decide) (by decide) (by decide) ?_
            refine lv_iconst (v := nI 0) hx hb dX7_digitsOf_66 (by decide) ?_
            exact hret _ _ _ dX7_digitsOf_67 (rfl)
          · skip
            by_cases sw1_5 : v = 122
            · subst sw1_5
              refine lv_lookup (off := 63) (tgt := 64) hx hb dX7_digitsOf_1 (by decide) (by decide) (by decide) ?_
              refine lv_iconst (v := nI 1) hx hb dX7_digitsOf_64 (by decide) ?_
              exact hret _ _ _ dX7_digitsOf_65 (rfl)
            · skip
              refine lv_lookup (off := 67) (tgt := 68) hx hb dX7_digitsOf_1 (by decide) (by show Op.lookupswitch.offset [(43, 59), (45, 61), (99, 63), (109, 63), (117, 65), (122, 63)] _ _ = _; rw [lv_osw (a := 43) sw1_0 (by decide), lv_osw (a := 45) sw1_1 (by decide), lv_osw (a := 99) sw1_2 (by decide), lv_osw (a := 109) sw1_3 (by decide), lv_osw (a := 117) sw1_4 (by decide), lv_osw (a := 122) sw1_5 (by decide)]; rfl) (by decide) ?_
              refine lv_iconst (v := (-1)) hx hb dX7_digitsOf_68 (by decide) ?_
              exact hret _ _ _ dX7_digitsOf_69 (by rw [ti_dgI, if_neg sw1_0, if_neg sw1_1, if_neg sw1_2, if_neg sw1_3, if_neg sw1_4, if_neg sw1_5])

set_option maxHeartbeats 1000000 in
theorem met_X7_clause (l : Launch) (D : va_G) (E : Nat → ClassId) (ad : Nat → Nat) (xg : ti_Mg) (xd : ti_Md) (xt : ti_Mt) (xf : ti_Mf) (xj : ti_Mj) (xh : ti_Mh) (xs : ti_Ms) (xv : ti_Mv) (xb : ti_Mb) (xq : ti_Mq) (xk : ti_Mk) (hxt : ti_Mtok xt) : ti_MetM (σ := ti_Mt) l D E yX7_clause cX7_clause 4 (some .int) 2 0 0 (ti_wM E ad xg xd xt xf xj xh xs xv xb xq xk) [.ref (ad 0)] (fun u => ti_wM E ad xg xd u xf xj xh xs xv xb xq xk) (fun u => some (.int ((fun _ => ti_sg (ti_c1 (ti_TX xt) xt.2.2.1).1) u))) (fun u => u.1 = xt.1 ∧ u.2.1 = xt.2.1 ∧ u.2.2.1 = (ti_c1 (ti_TX xt) xt.2.2.1).2 ∧ ti_Mtok u ∧ ∀ c, (ti_c1 (ti_TX xt) xt.2.2.1).1 = some c → ti_tl u.2.2.2 c.2.length = c.2) := by
  refine ti_mutI (σ := ti_Mt) (vi := fun _ => ti_sg (ti_c1 (ti_TX xt) xt.2.2.1).1) (by decide) (Nat.le_of_ble_eq_true rfl) ?_
  intro p e s m below meth c H H0 A Q ls S hE hP hD hS hA hinit hl hret
  have hx := S.1
  have hb := S.2.1
  have hown := S.2.2.2.1
  have hts := S.2.2.2.2
  have hK := hE.1
  have hl : lv_has ls 4 [(0, .ref (ad 0))] := hl
  have hs100 := hxt.2.1
  have ha1000 := hxt.2.2.1
  refine lv_aload_n hx hb dX7_clause_0 rfl (lv_at hl 0 rfl) ?_
  refine va_get (v := .int (nI xt.2.2.1)) hx hb hts in_X7 hown hK hP 0 rfl rfl 10 (by decide) (hts _ q1098) (fun _ h => h) rfl dX7_clause_1 ?_
  refine lv_aload_n hx hb dX7_clause_4 rfl (lv_at hl 0 rfl) ?_
  refine va_get (v := .int (nI xt.2.1)) hx hb hts in_X7 hown hK hP 0 rfl rfl 9 (by decide) (hts _ q1097) (fun _ h => h) rfl dX7_clause_5 ?_
  refine tn_ge (tgt := 23) hx hb dX7_clause_8 (by decide) (by omega) (by omega) (fun c8 => ?_) (fun c8 => ?_)
  · skip
    refine lv_iconst (v := (-1)) hx hb dX7_clause_23 (by decide) ?_
    refine lv_istore_n (lv' := [(1, .int ((-1))), (0, .ref (ad 0))]) hx hb dX7_clause_24 rfl hl (by decide) rfl (fun ls hl => ?_)
    refine lv_iload_n hx hb dX7_clause_25 rfl (lv_at hl 0 rfl) ?_
    refine ti_pS (As := [.int ((-1))]) (rest := []) (v := .int (ti_dgI ((((-1)))))) S hE hP [] (met_X7_digitsOf l D E ((((-1))))) rfl (lw_S q1334 q1335 q73 q1336) 1 rfl (by decide +kernel) ⟨Nat.le_of_ble_eq_true rfl, Nat.le_of_ble_eq_true rfl⟩ hl.1 rfl (Nat.le_of_ble_eq_true rfl) ⟨Nat.le_refl _, Nat.le_refl _⟩ dX7_clause_26 ?_
    refine lv_istore_n (lv' := [(2, .int (ti_dgI ((((-1)))))), (1, .int ((-1))), (0, .ref (ad 0))]) hx hb dX7_clause_29 rfl hl (by decide) rfl (fun ls hl => ?_)
    refine lv_iload_n hx hb dX7_clause_30 rfl (lv_at hl 0 rfl) ?_
    refine lv_iconst (v := (-1)) hx hb dX7_clause_31 (by decide) ?_
    refine lv_icmp_ne (tgt := 37) hx hb dX7_clause_32 (by decide) (fun c32 => ?_) (fun c32 => ?_)
    · skip
      exact absurd rfl c32
    · skip
      refine lv_iconst (v := (-1)) hx hb dX7_clause_35 (by decide) ?_
      have hcc : (ti_c1 (ti_TX xt) xt.2.2.1) = (none, xt.2.2.1) := by rw [ti_c1, if_neg (by rw [ti_TX_len]; omega)]
      exact hret xt _ _ _ _ _ _ _ dX7_clause_36 (by rw [hcc]; rfl) (⟨rfl, rfl, by rw [hcc], hxt, fun c hc => by rw [hcc] at hc; cases hc⟩) hP hS (Nat.le_refl _) (Nat.le_refl _)
  · skip
    have hgd : (ti_TX xt).getD xt.2.2.1 0 = xt.1 xt.2.2.1 := ti_TX_getD c8
    have hc127 := hxt.1 xt.2.2.1
    refine lv_aload_n hx hb dX7_clause_11 rfl (lv_at hl 0 rfl) ?_
    refine va_get (v := .ref (ad 8)) hx hb hts in_X7 hown hK hP 0 rfl rfl 8 (by decide) (hts _ q1096) (fun _ h => h) rfl dX7_clause_12 ?_
    refine lv_aload_n hx hb dX7_clause_15 rfl (lv_at hl 0 rfl) ?_
    refine va_get (v := .int (nI xt.2.2.1)) hx hb hts in_X7 hown hK hP 0 rfl rfl 10 (by decide) (hts _ q1098) (fun _ h => h) rfl dX7_clause_16 ?_
    refine tn_iald (f := xt.1) hx hb hK hP 8 0 rfl rfl (by omega) (by decide) dX7_clause_19 ?_
    have b19 := hxt.1 xt.2.2.1
    refine lv_goto (tgt := 24) hx hb dX7_clause_20 (by decide) ?_
    refine lv_istore_n (lv' := [(1, .int (nI (xt.1 xt.2.2.1))), (0, .ref (ad 0))]) hx hb dX7_clause_24 rfl hl (by decide) rfl (fun ls hl => ?_)
    refine lv_iload_n hx hb dX7_clause_25 rfl (lv_at hl 0 rfl) ?_
    refine ti_pS (As := [.int (nI (xt.1 xt.2.2.1))]) (rest := []) (v := .int (ti_dgI (((nI (xt.1 xt.2.2.1)))))) S hE hP [] (met_X7_digitsOf l D E (((nI (xt.1 xt.2.2.1))))) rfl (lw_S q1334 q1335 q73 q1336) 1 rfl (by decide +kernel) ⟨Nat.le_of_ble_eq_true rfl, Nat.le_of_ble_eq_true rfl⟩ hl.1 rfl (Nat.le_of_ble_eq_true rfl) ⟨Nat.le_refl _, Nat.le_refl _⟩ dX7_clause_26 ?_
    refine lv_istore_n (lv' := [(2, .int (ti_dgI (((nI (xt.1 xt.2.2.1)))))), (1, .int (nI (xt.1 xt.2.2.1))), (0, .ref (ad 0))]) hx hb dX7_clause_29 rfl hl (by decide) rfl (fun ls hl => ?_)
    refine lv_iload_n hx hb dX7_clause_30 rfl (lv_at hl 0 rfl) ?_
    refine lv_iconst (v := (-1)) hx hb dX7_clause_31 (by decide) ?_
    refine lv_icmp_ne (tgt := 37) hx hb dX7_clause_32 (by decide) (fun c32 => ?_) (fun c32 => ?_)
    · skip
      rw [ti_dgI_n (by omega)] at c32
      obtain ⟨d, hd⟩ : ∃ d, ti_dg (xt.1 xt.2.2.1) = some d := by
        cases ho : ti_dg (xt.1 xt.2.2.1) with
        | none => rw [ho] at c32; exact absurd rfl c32
        | some d => exact ⟨d, rfl⟩
      have hd3 := ti_dg_le hd
      rw [ti_dgI_n (by omega), hd] at hl
      have hl : lv_has ls 4 [(2, .int (nI d)), (1, .int (nI (xt.1 xt.2.2.1))), (0, .ref (ad 0))] := hl
      have hcc : (ti_c1 (ti_TX xt) xt.2.2.1) = ((ti_ds (ti_TX xt) d (xt.2.2.1 + 1)).1.map (fun r => (xt.1 xt.2.2.1, r)), (ti_ds (ti_TX xt) d (xt.2.2.1 + 1)).2) := by rw [ti_c1, if_pos (by rw [ti_TX_len]; exact c8), hgd, hd]
      refine lv_aload_n hx hb dX7_clause_37 rfl (lv_at hl 2 rfl) ?_
      refine lv_dup hx hb dX7_clause_38 rfl ?_
      refine va_get (v := .int (nI xt.2.2.1)) hx hb hts in_X7 hown hK hP 0 rfl rfl 10 (by decide) (hts _ q1098) (fun _ h => h) rfl dX7_clause_39 ?_
      refine lv_iconst (v := nI 1) hx hb dX7_clause_42 (by decide) ?_
      refine tn_add hx hb dX7_clause_43 ?_
      refine va_put (ty := .int) hx hb hts in_X7 tyX7 tyX7_ok nmX7 hown hK hP hD hS 0 rfl rfl 10 (by decide) (hts _ q1098) (fun _ h => h) rfl rfl rfl rfl (Nat.le_of_ble_eq_true rfl) dX7_clause_44 (fun H locs hP hD hS => ?_)
      have hP : va_P D vwCl (ti_wM E ad xg xd (xt.1, xt.2.1, xt.2.2.1 + 1, xt.2.2.2) xf xj xh xs xv xb xq xk) H := hP
      have hD : va_D A (ti_wM E ad xg xd (xt.1, xt.2.1, xt.2.2.1 + 1, xt.2.2.2) xf xj xh xs xv xb xq xk) := hD
      refine lv_iconst (v := nI 0) hx hb dX7_clause_47 (by decide) ?_
      refine lv_istore_n (lv' := [(3, .int (nI 0)), (2, .int (nI d)), (1, .int (nI (xt.1 xt.2.2.1))), (0, .ref (ad 0))]) hx hb dX7_clause_48 rfl hl (by decide) rfl (fun ls hl => ?_)
      have L49 : ∀ (N : Nat) (k q : Nat) (g : Nat → Nat) (ls : Array Slot) (H : Heap) (locs : List Loc), va_P D vwCl (ti_wM E ad xg xd (xt.1, xt.2.1, q, g) xf xj xh xs xv xb xq xk) H → va_D A (ti_wM E ad xg xd (xt.1, xt.2.1, q, g) xf xj xh xs xv xb xq xk) → va_S A H0 H locs → (d - k) < N → (k ≤ d) → (q ≤ xt.2.1) → (∀ j, g j ≤ 9) → (ti_ds (ti_TX xt) d (xt.2.2.1 + 1) = ((ti_ds (ti_TX xt) (d - k) q).1.map (fun r => ti_tl g k ++ r), (ti_ds (ti_TX xt) (d - k) q).2)) → lv_has ls 4 [(0, .ref (ad 0)), (1, .int (nI (xt.1 xt.2.2.1))), (2, .int (nI d)), (3, .int (nI k))] → W p l e (ti_rm 2 0 0) s m ([.ref (ad 0)] : List Value).toArray below meth c H locs 0 0 Q (F0 m 49 ls []) := by
        intro N
        induction N with
        | zero => intro k q g ls H locs hP hD hS h0; exact absurd h0 (Nat.not_lt_zero _)
        | succ N ih49 =>
          intro k q g ls H locs hP hD hS hN hkd hq hg9 hv hl
          refine lv_iload_n hx hb dX7_clause_49 rfl (lv_at hl 3 rfl) ?_
          refine lv_iload_n hx hb dX7_clause_50 rfl (lv_at hl 2 rfl) ?_
          refine tn_ge (tgt := 123) hx hb dX7_clause_51 (by decide) (by omega) (by omega) (fun c51 => ?_) (fun c51 => ?_)
          · skip
            refine lv_iload_n hx hb dX7_clause_123 rfl (lv_at hl 1 rfl) ?_
            rw [show d - k = 0 by omega] at hv
            have hv : ti_ds (ti_TX xt) d (xt.2.2.1 + 1) = (some (ti_tl g d), q) := by rw [hv]; show (some (ti_tl g k ++ []), q) = _; rw [List.append_nil, show k = d by omega]
            have hc9 : (ti_c1 (ti_TX xt) xt.2.2.1) = (some (xt.1 xt.2.2.1, ti_tl g d), q) := by rw [hcc, hv]; rfl
            exact hret (xt.1, xt.2.1, q, g) _ _ _ _ _ _ _ dX7_clause_124 (by rw [hc9]; rfl) (⟨rfl, rfl, by rw [hc9], ⟨hxt.1, hxt.2.1, by dsimp only; omega, hg9⟩, fun c hc => by rw [hc9] at hc; injection hc with hc; rw [← hc]; show ti_tl g (ti_tl g d).length = _; rw [ti_tl_len]⟩) hP hS (Nat.le_refl _) (Nat.le_refl _)
          · skip
            obtain ⟨m9, hm9⟩ : ∃ m9, d - k = m9 + 1 := ⟨d - k - 1, by omega⟩
            refine lv_aload_n hx hb dX7_clause_54 rfl (lv_at hl 0 rfl) ?_
            refine va_get (v := .int (nI q)) hx hb hts in_X7 hown hK hP 0 rfl rfl 10 (by decide) (hts _ q1098) (fun _ h => h) rfl dX7_clause_55 ?_
            refine lv_aload_n hx hb dX7_clause_58 rfl (lv_at hl 0 rfl) ?_
            refine va_get (v := .int (nI xt.2.1)) hx hb hts in_X7 hown hK hP 0 rfl rfl 9 (by decide) (hts _ q1097) (fun _ h => h) rfl dX7_clause_59 ?_
            refine tn_eq (tgt := 87) hx hb dX7_clause_62 (by decide) (by omega) (by omega) (fun c62 => ?_) (fun c62 => ?_)
            · skip
              refine lv_iconst (v := (-1)) hx hb dX7_clause_87 (by decide) ?_
              have hds : ti_ds (ti_TX xt) (d - k) q = (none, q) := by rw [show d - k = m9 + 1 by omega, ti_ds, if_neg (fun z9 => absurd z9.1 (by rw [ti_TX_len]; omega))]
              rw [hds] at hv
              have hc9 : (ti_c1 (ti_TX xt) xt.2.2.1) = (none, q) := by rw [hcc, hv]; rfl
              exact hret (xt.1, xt.2.1, q, g) _ _ _ _ _ _ _ dX7_clause_88 (by rw [hc9]; rfl) (⟨rfl, rfl, by rw [hc9], ⟨hxt.1, hxt.2.1, by dsimp only; omega, hg9⟩, fun c hc => by rw [hc9] at hc; cases hc⟩) hP hS (Nat.le_refl _) (Nat.le_refl _)
            · skip
              have hgq : (ti_TX xt).getD q 0 = xt.1 q := ti_TX_getD (by omega)
              have hq127 := hxt.1 q
              refine lv_aload_n hx hb dX7_clause_65 rfl (lv_at hl 0 rfl) ?_
              refine va_get (v := .ref (ad 8)) hx hb hts in_X7 hown hK hP 0 rfl rfl 8 (by decide) (hts _ q1096) (fun _ h => h) rfl dX7_clause_66 ?_
              refine lv_aload_n hx hb dX7_clause_69 rfl (lv_at hl 0 rfl) ?_
              refine va_get (v := .int (nI q)) hx hb hts in_X7 hown hK hP 0 rfl rfl 10 (by decide) (hts _ q1098) (fun _ h => h) rfl dX7_clause_70 ?_
              refine tn_iald (f := xt.1) hx hb hK hP 8 0 rfl rfl (by omega) (by decide) dX7_clause_73 ?_
              have b73 := hxt.1 q
              refine lv_i2l (v := lN (xt.1 q)) hx hb dX7_clause_74 (nI_l (by omega)) ?_
              refine lv_ldc2 (v := lN 48) hx hb hown (hts _ q1337) dX7_clause_75 ?_
              refine lv_ldc2 (v := lN 57) hx hb hown (hts _ q1338) dX7_clause_78 ?_
              refine ti_pS (As := [.long (lN (xt.1 q)), .long (lN 48), .long (lN 57)]) (rest := []) (v := .int (ti_b (ti_inL ((lN (xt.1 q))) (lN 48) (lN 57)))) S hE hP [] (met_X7_isFrom l D E ((lN (xt.1 q))) (lN 48) (lN 57)) rfl (lw_S q1234 q1235 q73 q1236) 3 rfl (by decide +kernel) ⟨Nat.le_of_ble_eq_true rfl, Nat.le_of_ble_eq_true rfl⟩ hl.1 rfl (Nat.le_of_ble_eq_true rfl) ⟨Nat.le_refl _, Nat.le_refl _⟩ dX7_clause_81 ?_
              refine tb_ne (tgt := 89) hx hb dX7_clause_84 (by decide) (fun c84 => ?_) (fun c84 => ?_)
              · skip
                rw [ti_inL_nat (by omega) (by decide) (by decide)] at c84
                have c84 := of_decide_eq_true c84
                have hdd : ti_ds (ti_TX xt) (d - k) q = ((ti_ds (ti_TX xt) (d - (k + 1)) (q + 1)).1.map (fun r => ((ti_TX xt).getD q 0 - 48) :: r), (ti_ds (ti_TX xt) (d - (k + 1)) (q + 1)).2) := by rw [show d - k = m9 + 1 by omega, show d - (k + 1) = m9 by omega, ti_ds, if_pos ⟨by rw [ti_TX_len]; omega, by rw [hgq]; omega, by rw [hgq]; omega⟩]
                refine lv_aload_n hx hb dX7_clause_89 rfl (lv_at hl 0 rfl) ?_
                refine va_get (v := .ref (ad 9)) hx hb hts in_X7 hown hK hP 0 rfl rfl 11 (by decide) (hts _ q1099) (fun _ h => h) rfl dX7_clause_90 ?_
                refine lv_iload_n hx hb dX7_clause_93 rfl (lv_at hl 3 rfl) ?_
                refine lv_aload_n hx hb dX7_clause_94 rfl (lv_at hl 0 rfl) ?_
                refine va_get (v := .ref (ad 8)) hx hb hts in_X7 hown hK hP 0 rfl rfl 8 (by decide) (hts _ q1096) (fun _ h => h) rfl dX7_clause_95 ?_
                refine lv_aload_n hx hb dX7_clause_98 rfl (lv_at hl 0 rfl) ?_
                refine va_get (v := .int (nI q)) hx hb hts in_X7 hown hK hP 0 rfl rfl 10 (by decide) (hts _ q1098) (fun _ h => h) rfl dX7_clause_99 ?_
                refine tn_iald (f := xt.1) hx hb hK hP 8 0 rfl rfl (by omega) (by decide) dX7_clause_102 ?_
                have b102 := hxt.1 q
                refine lv_bipush (v := nI 48) hx hb dX7_clause_103 (by decide) ?_
                refine tn_sub hx hb dX7_clause_105 (by omega) ?_
                refine tn_iast (f := g) hx hb hK hP hD hS 9 0 rfl rfl (by omega) (by decide) dX7_clause_106 (fun H locs hP hD hS => ?_)
                have hP : va_P D vwCl (ti_wM E ad xg xd (xt.1, xt.2.1, q, va_up g k ((xt.1 q) - 48)) xf xj xh xs xv xb xq xk) H := hP
                have hD : va_D A (ti_wM E ad xg xd (xt.1, xt.2.1, q, va_up g k ((xt.1 q) - 48)) xf xj xh xs xv xb xq xk) := hD
                refine lv_aload_n hx hb dX7_clause_107 rfl (lv_at hl 0 rfl) ?_
                refine lv_dup hx hb dX7_clause_108 rfl ?_
                refine va_get (v := .int (nI q)) hx hb hts in_X7 hown hK hP 0 rfl rfl 10 (by decide) (hts _ q1098) (fun _ h => h) rfl dX7_clause_109 ?_
                refine lv_iconst (v := nI 1) hx hb dX7_clause_112 (by decide) ?_
                refine tn_add hx hb dX7_clause_113 ?_
                refine va_put (ty := .int) hx hb hts in_X7 tyX7 tyX7_ok nmX7 hown hK hP hD hS 0 rfl rfl 10 (by decide) (hts _ q1098) (fun _ h => h) rfl rfl rfl rfl (Nat.le_of_ble_eq_true rfl) dX7_clause_114 (fun H locs hP hD hS => ?_)
                have hP : va_P D vwCl (ti_wM E ad xg xd (xt.1, xt.2.1, q + 1, va_up g k ((xt.1 q) - 48)) xf xj xh xs xv xb xq xk) H := hP
                have hD : va_D A (ti_wM E ad xg xd (xt.1, xt.2.1, q + 1, va_up g k ((xt.1 q) - 48)) xf xj xh xs xv xb xq xk) := hD
                refine lv_iinc (v := nI (k + 1)) (lv' := [(3, .int (nI (k + 1))), (0, .ref (ad 0)), (1, .int (nI (xt.1 xt.2.2.1))), (2, .int (nI d))]) hx hb dX7_clause_117 hl (k := 3) rfl (nI_1 k) (by decide) rfl (fun ls hl => ?_)
                refine lv_goto (tgt := 49) hx hb dX7_clause_120 (by decide) ?_
                exact ih49 (k + 1) (q + 1) (va_up g k ((xt.1 q) - 48)) _ _ _ hP hD hS (by omega) (by omega) (by omega) (ti_up_le hg9 (by omega)) (by rw [hv, hdd, ti_tl_push, hgq]; exact Prod.ext (ti_map_app _ _) rfl) (lv_sub hl [1, 2, 3, 0] rfl)
              · skip
                rw [ti_inL_nat (by omega) (by decide) (by decide)] at c84
                have c84x : 48 ≤ xt.1 q ∧ xt.1 q ≤ 57 → true = false := fun z => absurd (decide_eq_true z) (by rw [c84]; decide)
                have c84x : 48 ≤ xt.1 q ∧ xt.1 q ≤ 57 → false = true := fun z => (c84x z).symm
                refine lv_iconst (v := (-1)) hx hb dX7_clause_87 (by decide) ?_
                have hds : ti_ds (ti_TX xt) (d - k) q = (none, q) := by rw [show d - k = m9 + 1 by omega, ti_ds, if_neg (fun z9 => absurd (show _ = true from c84x ⟨by have := z9.2.1; rw [hgq] at this; exact this, by have := z9.2.2; rw [hgq] at this; exact this⟩) (by decide))]
                rw [hds] at hv
                have hc9 : (ti_c1 (ti_TX xt) xt.2.2.1) = (none, q) := by rw [hcc, hv]; rfl
                exact hret (xt.1, xt.2.1, q, g) _ _ _ _ _ _ _ dX7_clause_88 (by rw [hc9]; rfl) (⟨rfl, rfl, by rw [hc9], ⟨hxt.1, hxt.2.1, by dsimp only; omega, hg9⟩, fun c hc => by rw [hc9] at hc; cases hc⟩) hP hS (Nat.le_refl _) (Nat.le_refl _)
      exact L49 _ 0 (xt.2.2.1 + 1) xt.2.2.2 _ _ _ hP hD hS (Nat.lt_succ_self _) (by omega) (by omega) (hxt.2.2.2) (by rw [Nat.sub_zero]; show _ = ((ti_ds _ _ _).1.map (fun r => [] ++ r), _); simp) (lv_sub hl [3, 2, 1, 0] rfl)
    · skip
      rw [ti_dgI_n (by omega)] at c32
      have hcc : (ti_c1 (ti_TX xt) xt.2.2.1) = (none, xt.2.2.1) := by
        rw [ti_c1, if_pos (by rw [ti_TX_len]; exact c8), hgd]
        cases ho : ti_dg (xt.1 xt.2.2.1) with
        | none => rfl
        | some d => rw [ho] at c32; exact absurd c32 (by have := ti_dg_le ho; exact ti_n1 (by omega))
      refine lv_iconst (v := (-1)) hx hb dX7_clause_35 (by decide) ?_
      exact hret xt _ _ _ _ _ _ _ dX7_clause_36 (by rw [hcc]; rfl) (⟨rfl, rfl, by rw [hcc], hxt, fun c hc => by rw [hcc] at hc; cases hc⟩) hP hS (Nat.le_refl _) (Nat.le_refl _)

set_option maxHeartbeats 1000000 in
theorem met_X7_clauses (l : Launch) (D : va_G) (E : Nat → ClassId) (ad : Nat → Nat) (xg : ti_Mg) (xd : ti_Md) (xt : ti_Mt) (xf : ti_Mf) (xj : ti_Mj) (xh : ti_Mh) (xs : ti_Ms) (xv : ti_Mv) (xb : ti_Mb) (xq : ti_Mq) (xk : ti_Mk) (hxt : ti_Mtok xt) : ti_MetM (σ := ti_Mt) l D E yX7_clauses cX7_clauses 3 (some .int) 3 0 0 (ti_wM E ad xg xd xt xf xj xh xs xv xb xq xk) [.ref (ad 0)] (fun u => ti_wM E ad xg xd u xf xj xh xs xv xb xq xk) (fun u => some (.int ((fun _ => ti_ln (ti_wh (ti_TX xt) 12 0 []).1) u))) (fun u => u.1 = xt.1 ∧ u.2.1 = xt.2.1 ∧ u.2.2.1 = (ti_wh (ti_TX xt) 12 0 []).2 ∧ ti_Mtok u) := by
  refine ti_mutI (σ := ti_Mt) (vi := fun _ => ti_ln (ti_wh (ti_TX xt) 12 0 []).1) (by decide) (Nat.le_of_ble_eq_true rfl) ?_
  intro p e s m below meth c H H0 A Q ls S hE hP hD hS hA hinit hl hret
  have hx := S.1
  have hb := S.2.1
  have hown := S.2.2.2.1
  have hts := S.2.2.2.2
  have hK := hE.1
  have hl : lv_has ls 3 [(0, .ref (ad 0))] := hl
  have hs100 := hxt.2.1
  refine lv_aload_n hx hb dX7_clauses_0 rfl (lv_at hl 0 rfl) ?_
  refine lv_iconst (v := nI 0) hx hb dX7_clauses_1 (by decide) ?_
  refine va_put (ty := .int) hx hb hts in_X7 tyX7 tyX7_ok nmX7 hown hK hP hD hS 0 rfl rfl 10 (by decide) (hts _ q1098) (fun _ h => h) rfl rfl rfl rfl (Nat.le_of_ble_eq_true rfl) dX7_clauses_2 (fun H locs hP hD hS => ?_)
  have hP : va_P D vwCl (ti_wM E ad xg xd (xt.1, xt.2.1, 0, xt.2.2.2) xf xj xh xs xv xb xq xk) H := hP
  have hD : va_D A (ti_wM E ad xg xd (xt.1, xt.2.1, 0, xt.2.2.2) xf xj xh xs xv xb xq xk) := hD
  refine lv_iconst (v := nI 0) hx hb dX7_clauses_5 (by decide) ?_
  refine lv_istore_n (lv' := [(1, .int (nI 0)), (0, .ref (ad 0))]) hx hb dX7_clauses_6 rfl hl (by decide) rfl (fun ls hl => ?_)
  refine lv_iconst (v := nI 1) hx hb dX7_clauses_7 (by decide) ?_
  refine lv_istore_n (lv' := [(2, .int (nI 1)), (1, .int (nI 0)), (0, .ref (ad 0))]) hx hb dX7_clauses_8 rfl hl (by decide) rfl (fun ls hl => ?_)
  have L9 : ∀ (N : Nat) (z : Bool) (mn q : Nat) (g : Nat → Nat) (acc : List (Nat × List Nat)) (ls : Array Slot) (H : Heap) (locs : List Loc), va_P D vwCl (ti_wM E ad xg xd (xt.1, xt.2.1, q, g) xf xj xh xs xv xb xq xk) H → va_D A (ti_wM E ad xg xd (xt.1, xt.2.1, q, g) xf xj xh xs xv xb xq xk) → va_S A H0 H locs → (13 - mn) < N → (mn ≤ 12) → (z = true → mn < 12) → (q ≤ xt.2.1) → (∀ j, g j ≤ 9) → (acc.length = mn) → ((ti_wh (ti_TX xt) 12 0 []) = (if z = true then ti_wh (ti_TX xt) (12 - mn) q acc else if q = (ti_TX xt).length then (some acc, q) else (none, q))) → lv_has ls 3 [(0, .ref (ad 0)), (1, .int (nI mn)), (2, .int (ti_b z))] → W p l e (ti_rm 3 0 0) s m ([.ref (ad 0)] : List Value).toArray below meth c H locs 0 0 Q (F0 m 9 ls []) := by
    intro N
    induction N with
    | zero => intro z mn q g acc ls H locs hP hD hS h0; exact absurd h0 (Nat.not_lt_zero _)
    | succ N ih9 =>
      intro z mn q g acc ls H locs hP hD hS hN hm hz hq hg9 hacc hv hl
      refine lv_iload_n hx hb dX7_clauses_9 rfl (lv_at hl 2 rfl) ?_
      refine tb_eq (tgt := 84) hx hb dX7_clauses_10 (by decide) (fun c10 => ?_) (fun c10 => ?_)
      · skip
        rw [c10, if_neg (by decide)] at hv
        refine lv_aload_n hx hb dX7_clauses_84 rfl (lv_at hl 0 rfl) ?_
        refine va_get (v := .int (nI q)) hx hb hts in_X7 hown hK hP 0 rfl rfl 10 (by decide) (hts _ q1098) (fun _ h => h) rfl dX7_clauses_85 ?_
        refine lv_aload_n hx hb dX7_clauses_88 rfl (lv_at hl 0 rfl) ?_
        refine va_get (v := .int (nI xt.2.1)) hx hb hts in_X7 hown hK hP 0 rfl rfl 9 (by decide) (hts _ q1097) (fun _ h => h) rfl dX7_clauses_89 ?_
        refine tn_ne (tgt := 99) hx hb dX7_clauses_92 (by decide) (by omega) (by omega) (fun c92 => ?_) (fun c92 => ?_)
        · skip
          rw [if_neg (by rw [ti_TX_len]; exact c92)] at hv
          refine lv_iconst (v := (-1)) hx hb dX7_clauses_99 (by decide) ?_
          exact hret (xt.1, xt.2.1, q, g) _ _ _ _ _ _ _ dX7_clauses_100 (by rw [hv]; rfl) (⟨rfl, rfl, by rw [hv], ⟨hxt.1, hxt.2.1, by dsimp only; omega, hg9⟩⟩) hP hS (Nat.le_refl _) (Nat.le_refl _)
        · skip
          rw [if_pos (by rw [ti_TX_len]; exact c92)] at hv
          refine lv_iload_n hx hb dX7_clauses_95 rfl (lv_at hl 1 rfl) ?_
          refine lv_goto (tgt := 100) hx hb dX7_clauses_96 (by decide) ?_
          exact hret (xt.1, xt.2.1, q, g) _ _ _ _ _ _ _ dX7_clauses_100 (by rw [hv, ← hacc]; rfl) (⟨rfl, rfl, by rw [hv], ⟨hxt.1, hxt.2.1, by dsimp only; omega, hg9⟩⟩) hP hS (Nat.le_refl _) (Nat.le_refl _)
      · skip
        have hz := hz c10
        obtain ⟨m9, hm9⟩ : ∃ m9, 12 - mn = m9 + 1 := ⟨12 - mn - 1, by omega⟩
        rw [c10, if_pos rfl, hm9, ti_wh_s _ m9] at hv
        refine lv_aload_n hx hb dX7_clauses_13 rfl (lv_at hl 0 rfl) ?_
        refine ti_mVa (As := []) (rest := []) S hE hP hD hS hA (met_X7_clause l D E ad xg xd (xt.1, xt.2.1, q, g) xf xj xh xs xv xb xq xk ⟨hxt.1, hxt.2.1, by dsimp only; omega, hg9⟩) (fun _ => rfl) (lw_V q1330 q1332 qs39 q73 q1333) 0 rfl 0 rfl rfl (by decide +kernel) ⟨Nat.le_of_ble_eq_true rfl, Nat.le_of_ble_eq_true rfl⟩ hl.1 rfl (Nat.le_of_ble_eq_true rfl) ⟨Nat.le_refl _, Nat.le_refl _⟩ dX7_clauses_14 (fun u1 H locs hu hP hD hS => ?_)
        obtain ⟨u1a, u1b, q1, g1⟩ := u1
        obtain ⟨e1, e2, e3, e4, e5⟩ := hu
        dsimp only at e1 e2 e3 e5
        subst e1
        subst e2
        have hq1 := ti_c1_le (ti_TX xt) q
        rw [ti_TX_len] at hq1
        change q1 = (ti_c1 (ti_TX xt) q).2 at e3
        have e5 : ∀ c, (ti_c1 (ti_TX xt) q).1 = some c → ti_tl g1 c.2.length = c.2 := e5
        have hg1 : ∀ j, g1 j ≤ 9 := e4.2.2.2
        have hP : va_P D vwCl (ti_wM E ad xg xd (xt.1, xt.2.1, q1, g1) xf xj xh xs xv xb xq xk) H := hP
        have hD : va_D A (ti_wM E ad xg xd (xt.1, xt.2.1, q1, g1) xf xj xh xs xv xb xq xk) := hD
        refine W.eq (g2 := F0 m 17 ls [.int (ti_sg (ti_c1 (ti_TX xt) q).1)]) rfl ?_
        refine lv_iconst (v := (-1)) hx hb dX7_clauses_17 (by decide) ?_
        refine lv_icmp_ne (tgt := 23) hx hb dX7_clauses_18 (by decide) (fun c18 => ?_) (fun c18 => ?_)
        · skip
          obtain ⟨c, hc⟩ : ∃ c, (ti_c1 (ti_TX xt) q).1 = some c := by
            cases ho : (ti_c1 (ti_TX xt) q).1 with
            | none => rw [ho] at c18; exact absurd rfl c18
            | some c => exact ⟨c, rfl⟩
          have hcq : (ti_c1 (ti_TX xt) q) = (some c, q1) := Prod.ext hc e3.symm
          rw [hcq] at hv
          dsimp only at hv
          refine lv_iinc (v := nI (mn + 1)) (lv' := [(1, .int (nI (mn + 1))), (0, .ref (ad 0)), (2, .int (ti_b z))]) hx hb dX7_clauses_23 hl (k := 1) rfl (nI_1 mn) (by decide) rfl (fun ls hl => ?_)
          refine lv_aload_n hx hb dX7_clauses_26 rfl (lv_at hl 1 rfl) ?_
          refine va_get (v := .int (nI q1)) hx hb hts in_X7 hown hK hP 0 rfl rfl 10 (by decide) (hts _ q1098) (fun _ h => h) rfl dX7_clauses_27 ?_
          refine lv_aload_n hx hb dX7_clauses_30 rfl (lv_at hl 1 rfl) ?_
          refine va_get (v := .int (nI xt.2.1)) hx hb hts in_X7 hown hK hP 0 rfl rfl 9 (by decide) (hts _ q1097) (fun _ h => h) rfl dX7_clauses_31 ?_
          refine tn_ge (tgt := 61) hx hb dX7_clauses_34 (by decide) (by omega) (by omega) (fun c34 => ?_) (fun c34 => ?_)
          · skip
            refine lv_iconst (v := nI 0) hx hb dX7_clauses_61 (by decide) ?_
            refine lv_istore_n (lv' := [(2, .int (nI 0)), (1, .int (nI (mn + 1))), (0, .ref (ad 0))]) hx hb dX7_clauses_62 rfl hl (by decide) rfl (fun ls hl => ?_)
            refine lv_aload_n hx hb dX7_clauses_63 rfl (lv_at hl 2 rfl) ?_
            refine lv_dup hx hb dX7_clauses_64 rfl ?_
            refine va_get (v := .int (nI q1)) hx hb hts in_X7 hown hK hP 0 rfl rfl 10 (by decide) (hts _ q1098) (fun _ h => h) rfl dX7_clauses_65 ?_
            refine lv_iload_n hx hb dX7_clauses_68 rfl (lv_at hl 0 rfl) ?_
            refine tn_if_eq (tgt := 76) hx hb dX7_clauses_69 (by decide) (by omega) (fun c69 => ?_) (fun c69 => ?_)
            · skip
              refine lv_iconst (v := nI 0) hx hb dX7_clauses_76 (by decide) ?_
              refine tn_add hx hb dX7_clauses_77 ?_
              refine va_put (ty := .int) hx hb hts in_X7 tyX7 tyX7_ok nmX7 hown hK hP hD hS 0 rfl rfl 10 (by decide) (hts _ q1098) (fun _ h => h) rfl rfl rfl rfl (Nat.le_of_ble_eq_true rfl) dX7_clauses_78 (fun H locs hP hD hS => ?_)
              have hP : va_P D vwCl (ti_wM E ad xg xd (xt.1, xt.2.1, q1 + 0, g1) xf xj xh xs xv xb xq xk) H := hP
              have hD : va_D A (ti_wM E ad xg xd (xt.1, xt.2.1, q1 + 0, g1) xf xj xh xs xv xb xq xk) := hD
              refine lv_goto (tgt := 9) hx hb dX7_clauses_81 (by decide) ?_
              exact ih9 false (mn + 1) (q1 + 0) g1 (acc ++ [c]) _ _ _ hP hD hS (by omega) (by omega) (fun z9 => absurd z9 (by decide)) (by omega) (hg1) (by rw [List.length_append, hacc]; rfl) (by rw [if_neg (by decide), hv, if_neg (fun z9 => absurd z9.1 (by rw [ti_TX_len]; omega)), Nat.add_zero]) (lv_sub hl [2, 1, 0] rfl)
            · skip
              exact absurd rfl c69
          · skip
            have hgq : (ti_TX xt).getD q1 0 = xt.1 q1 := ti_TX_getD (by omega)
            have hq127 := hxt.1 q1
            refine lv_aload_n hx hb dX7_clauses_37 rfl (lv_at hl 1 rfl) ?_
            refine va_get (v := .ref (ad 8)) hx hb hts in_X7 hown hK hP 0 rfl rfl 8 (by decide) (hts _ q1096) (fun _ h => h) rfl dX7_clauses_38 ?_
            refine lv_aload_n hx hb dX7_clauses_41 rfl (lv_at hl 1 rfl) ?_
            refine va_get (v := .int (nI q1)) hx hb hts in_X7 hown hK hP 0 rfl rfl 10 (by decide) (hts _ q1098) (fun _ h => h) rfl dX7_clauses_42 ?_
            refine tn_iald (f := xt.1) hx hb hK hP 8 0 rfl rfl (by omega) (by decide) dX7_clauses_45 ?_
            have b45 := hxt.1 q1
            refine lv_bipush (v := nI 59) hx hb dX7_clauses_46 (by decide) ?_
            refine tn_ne (tgt := 61) hx hb dX7_clauses_48 (by decide) (by omega) (by omega) (fun c48 => ?_) (fun c48 => ?_)
            · skip
              refine lv_iconst (v := nI 0) hx hb dX7_clauses_61 (by decide) ?_
              refine lv_istore_n (lv' := [(2, .int (nI 0)), (1, .int (nI (mn + 1))), (0, .ref (ad 0))]) hx hb dX7_clauses_62 rfl hl (by decide) rfl (fun ls hl => ?_)
              refine lv_aload_n hx hb dX7_clauses_63 rfl (lv_at hl 2 rfl) ?_
              refine lv_dup hx hb dX7_clauses_64 rfl ?_
              refine va_get (v := .int (nI q1)) hx hb hts in_X7 hown hK hP 0 rfl rfl 10 (by decide) (hts _ q1098) (fun _ h => h) rfl dX7_clauses_65 ?_
              refine lv_iload_n hx hb dX7_clauses_68 rfl (lv_at hl 0 rfl) ?_
              refine tn_if_eq (tgt := 76) hx hb dX7_clauses_69 (by decide) (by omega) (fun c69 => ?_) (fun c69 => ?_)
              · skip
                refine lv_iconst (v := nI 0) hx hb dX7_clauses_76 (by decide) ?_
                refine tn_add hx hb dX7_clauses_77 ?_
                refine va_put (ty := .int) hx hb hts in_X7 tyX7 tyX7_ok nmX7 hown hK hP hD hS 0 rfl rfl 10 (by decide) (hts _ q1098) (fun _ h => h) rfl rfl rfl rfl (Nat.le_of_ble_eq_true rfl) dX7_clauses_78 (fun H locs hP hD hS => ?_)
                have hP : va_P D vwCl (ti_wM E ad xg xd (xt.1, xt.2.1, q1 + 0, g1) xf xj xh xs xv xb xq xk) H := hP
                have hD : va_D A (ti_wM E ad xg xd (xt.1, xt.2.1, q1 + 0, g1) xf xj xh xs xv xb xq xk) := hD
                refine lv_goto (tgt := 9) hx hb dX7_clauses_81 (by decide) ?_
                exact ih9 false (mn + 1) (q1 + 0) g1 (acc ++ [c]) _ _ _ hP hD hS (by omega) (by omega) (fun z9 => absurd z9 (by decide)) (by omega) (hg1) (by rw [List.length_append, hacc]; rfl) (by rw [if_neg (by decide), hv, if_neg (fun z9 => c48 (hgq ▸ z9.2.1)), Nat.add_zero]) (lv_sub hl [2, 1, 0] rfl)
              · skip
                exact absurd rfl c69
            · skip
              refine lv_iload_n hx hb dX7_clauses_51 rfl (lv_at hl 0 rfl) ?_
              refine lv_bipush (v := nI 12) hx hb dX7_clauses_52 (by decide) ?_
              refine tn_ge (tgt := 61) hx hb dX7_clauses_54 (by decide) (by omega) (by omega) (fun c54 => ?_) (fun c54 => ?_)
              · skip
                refine lv_iconst (v := nI 0) hx hb dX7_clauses_61 (by decide) ?_
                refine lv_istore_n (lv' := [(2, .int (nI 0)), (1, .int (nI (mn + 1))), (0, .ref (ad 0))]) hx hb dX7_clauses_62 rfl hl (by decide) rfl (fun ls hl => ?_)
                refine lv_aload_n hx hb dX7_clauses_63 rfl (lv_at hl 2 rfl) ?_
                refine lv_dup hx hb dX7_clauses_64 rfl ?_
                refine va_get (v := .int (nI q1)) hx hb hts in_X7 hown hK hP 0 rfl rfl 10 (by decide) (hts _ q1098) (fun _ h => h) rfl dX7_clauses_65 ?_
                refine lv_iload_n hx hb dX7_clauses_68 rfl (lv_at hl 0 rfl) ?_
                refine tn_if_eq (tgt := 76) hx hb dX7_clauses_69 (by decide) (by omega) (fun c69 => ?_) (fun c69 => ?_)
                · skip
                  refine lv_iconst (v := nI 0) hx hb dX7_clauses_76 (by decide) ?_
                  refine tn_add hx hb dX7_clauses_77 ?_
                  refine va_put (ty := .int) hx hb hts in_X7 tyX7 tyX7_ok nmX7 hown hK hP hD hS 0 rfl rfl 10 (by decide) (hts _ q1098) (fun _ h => h) rfl rfl rfl rfl (Nat.le_of_ble_eq_true rfl) dX7_clauses_78 (fun H locs hP hD hS => ?_)
                  have hP : va_P D vwCl (ti_wM E ad xg xd (xt.1, xt.2.1, q1 + 0, g1) xf xj xh xs xv xb xq xk) H := hP
                  have hD : va_D A (ti_wM E ad xg xd (xt.1, xt.2.1, q1 + 0, g1) xf xj xh xs xv xb xq xk) := hD
                  refine lv_goto (tgt := 9) hx hb dX7_clauses_81 (by decide) ?_
                  exact ih9 false (mn + 1) (q1 + 0) g1 (acc ++ [c]) _ _ _ hP hD hS (by omega) (by omega) (fun z9 => absurd z9 (by decide)) (by omega) (hg1) (by rw [List.length_append, hacc]; rfl) (by rw [if_neg (by decide), hv, if_neg (fun z9 => absurd z9.2.2 (by omega)), Nat.add_zero]) (lv_sub hl [2, 1, 0] rfl)
                · skip
                  exact absurd rfl c69
              · skip
                refine lv_iconst (v := nI 1) hx hb dX7_clauses_57 (by decide) ?_
                refine lv_goto (tgt := 62) hx hb dX7_clauses_58 (by decide) ?_
                refine lv_istore_n (lv' := [(2, .int (nI 1)), (1, .int (nI (mn + 1))), (0, .ref (ad 0))]) hx hb dX7_clauses_62 rfl hl (by decide) rfl (fun ls hl => ?_)
                refine lv_aload_n hx hb dX7_clauses_63 rfl (lv_at hl 2 rfl) ?_
                refine lv_dup hx hb dX7_clauses_64 rfl ?_
                refine va_get (v := .int (nI q1)) hx hb hts in_X7 hown hK hP 0 rfl rfl 10 (by decide) (hts _ q1098) (fun _ h => h) rfl dX7_clauses_65 ?_
                refine lv_iload_n hx hb dX7_clauses_68 rfl (lv_at hl 0 rfl) ?_
                refine tn_if_eq (tgt := 76) hx hb dX7_clauses_69 (by decide) (by omega) (fun c69 => ?_) (fun c69 => ?_)
                · skip
                  exact absurd c69 (by decide)
                · skip
                  refine lv_iconst (v := nI 1) hx hb dX7_clauses_72 (by decide) ?_
                  refine lv_goto (tgt := 77) hx hb dX7_clauses_73 (by decide) ?_
                  refine tn_add hx hb dX7_clauses_77 ?_
                  refine va_put (ty := .int) hx hb hts in_X7 tyX7 tyX7_ok nmX7 hown hK hP hD hS 0 rfl rfl 10 (by decide) (hts _ q1098) (fun _ h => h) rfl rfl rfl rfl (Nat.le_of_ble_eq_true rfl) dX7_clauses_78 (fun H locs hP hD hS => ?_)
                  have hP : va_P D vwCl (ti_wM E ad xg xd (xt.1, xt.2.1, q1 + 1, g1) xf xj xh xs xv xb xq xk) H := hP
                  have hD : va_D A (ti_wM E ad xg xd (xt.1, xt.2.1, q1 + 1, g1) xf xj xh xs xv xb xq xk) := hD
                  refine lv_goto (tgt := 9) hx hb dX7_clauses_81 (by decide) ?_
                  exact ih9 true (mn + 1) (q1 + 1) g1 (acc ++ [c]) _ _ _ hP hD hS (by omega) (by omega) (fun _ => by omega) (by omega) (hg1) (by rw [List.length_append, hacc]; rfl) (by rw [if_pos rfl, hv, if_pos ⟨by rw [ti_TX_len]; omega, by rw [hgq]; exact c48, by omega⟩, show 12 - (mn + 1) = m9 by omega]) (lv_sub hl [2, 1, 0] rfl)
        · skip
          have hcq : (ti_c1 (ti_TX xt) q) = (none, q1) := by
            refine Prod.ext ?_ e3.symm
            cases ho : (ti_c1 (ti_TX xt) q).1 with
            | none => rfl
            | some c =>
              rw [ho] at c18
              have := (ti_c1_some (Prod.ext ho rfl)).2.1
              exact absurd c18 (ti_n1 (by rcases ti_dg_cases this with h | h | h | h | h | h <;> omega))
          rw [hcq] at hv
          dsimp only at hv
          refine lv_iconst (v := (-1)) hx hb dX7_clauses_21 (by decide) ?_
          exact hret (xt.1, xt.2.1, q1, g1) _ _ _ _ _ _ _ dX7_clauses_22 (by rw [hv]; rfl) (⟨rfl, rfl, by rw [hv], ⟨hxt.1, hxt.2.1, by dsimp only; omega, hg1⟩⟩) hP hS (Nat.le_refl _) (Nat.le_refl _)
  exact L9 _ true 0 0 xt.2.2.2 ([]) _ _ _ hP hD hS (Nat.lt_succ_self _) (by omega) (fun _ => by omega) (Nat.zero_le _) (hxt.2.2.2) (rfl) (by rw [if_pos rfl]) (lv_sub hl [2, 1, 0] rfl)

set_option maxHeartbeats 1000000 in
theorem met_X7_isDone (l : Launch) (D : va_G) (E : Nat → ClassId) (ad : Nat → Nat) (xg : ti_Mg) (xd : ti_Md) (xt : ti_Mt) (xf : ti_Mf) (xj : ti_Mj) (xh : ti_Mh) (xs : ti_Ms) (xv : ti_Mv) (xb : ti_Mb) (xq : ti_Mq) (xk : ti_Mk) (hxg : ti_Mgok xg) (I : Nat → ti_GL) (hI : ti_MI xg I) (hxd : ti_Mdok xd) (DD : ti_DL) (hDD : ti_mdl xd 0 xd.1 = DD) (hxf : ti_Mfok xf) (hinv : ti_inv I DD) (hxt : ti_Mtok xt) (v : Int32) : ti_MetM (σ := ti_Mg × ti_Md × ti_Mf) l D E yX7_isDone cX7_isDone 2 (some .boolean) 6 0 0 (ti_wM E ad xg xd xt xf xj xh xs xv xb xq xk) [.ref (ad 0), .int v] (fun u => ti_wM E ad u.1 u.2.1 xt u.2.2 xj xh xs xv xb xq xk) (fun u => some (.int (ti_b ((fun _ => !decide ((ti_Sdo I DD v (xt.2.2.2 0) (xt.2.2.2 1) (xt.2.2.2 2)).1 < 0)) u)))) (fun u => ti_MI u.1 (ti_Sdo I DD v (xt.2.2.2 0) (xt.2.2.2 1) (xt.2.2.2 2)).2.1 ∧ ti_mdl u.2.1 0 u.2.1.1 = (ti_Sdo I DD v (xt.2.2.2 0) (xt.2.2.2 1) (xt.2.2.2 2)).2.2 ∧ ti_Mgok u.1 ∧ ti_Mdok u.2.1 ∧ ti_Mfok u.2.2) := by
  refine ti_mutZ (σ := ti_Mg × ti_Md × ti_Mf) (vb := fun _ => !decide ((ti_Sdo I DD v (xt.2.2.2 0) (xt.2.2.2 1) (xt.2.2.2 2)).1 < 0)) (by decide) (Nat.le_of_ble_eq_true rfl) ?_
  intro p e s m below meth c H H0 A Q ls S hE hP hD hS hA hinit hl hret
  have hx := S.1
  have hb := S.2.1
  have hown := S.2.2.2.1
  have hts := S.2.2.2.2
  have hK := hE.1
  have hl : lv_has ls 2 [(0, .ref (ad 0)), (1, .int v)] := hl
  refine lv_iload_n hx hb dX7_isDone_0 rfl (lv_at hl 1 rfl) ?_
  by_cases sw1_0 : v = 43
  · subst sw1_0
    refine lv_lookup (off := 51) (tgt := 52) hx hb dX7_isDone_1 (by decide) (by decide) (by decide) ?_
    refine lv_aload_n hx hb dX7_isDone_52 rfl (lv_at hl 0 rfl) ?_
    refine lv_aload_n hx hb dX7_isDone_53 rfl (lv_at hl 0 rfl) ?_
    refine va_get (v := .ref (ad 9)) hx hb hts in_X7 hown hK hP 0 rfl rfl 11 (by decide) (hts _ q1099) (fun _ h => h) rfl dX7_isDone_54 ?_
    refine lv_iconst (v := nI 0) hx hb dX7_isDone_57 (by decide) ?_
    refine tn_iald (f := xt.2.2.2) hx hb hK hP 9 0 rfl rfl (by omega) (by decide) dX7_isDone_58 ?_
    have b58 := hxt.2.2.2 0
    refine lv_aload_n hx hb dX7_isDone_59 rfl (lv_at hl 0 rfl) ?_
    refine va_get (v := .ref (ad 9)) hx hb hts in_X7 hown hK hP 0 rfl rfl 11 (by decide) (hts _ q1099) (fun _ h => h) rfl dX7_isDone_60 ?_
    refine lv_iconst (v := nI 1) hx hb dX7_isDone_63 (by decide) ?_
    refine tn_iald (f := xt.2.2.2) hx hb hK hP 9 0 rfl rfl (by omega) (by decide) dX7_isDone_64 ?_
    have b64 := hxt.2.2.2 1
    refine lv_aload_n hx hb dX7_isDone_65 rfl (lv_at hl 0 rfl) ?_
    refine va_get (v := .ref (ad 9)) hx hb hts in_X7 hown hK hP 0 rfl rfl 11 (by decide) (hts _ q1099) (fun _ h => h) rfl dX7_isDone_66 ?_
    refine lv_iconst (v := nI 2) hx hb dX7_isDone_69 (by decide) ?_
    refine tn_iald (f := xt.2.2.2) hx hb hK hP 9 0 rfl rfl (by omega) (by decide) dX7_isDone_70 ?_
    have b70 := hxt.2.2.2 2
    refine ti_mVa (As := [.int (nI (xt.2.2.2 0)), .int (nI (xt.2.2.2 1)), .int (nI (xt.2.2.2 2))]) (rest := []) S hE hP hD hS hA (met_X7_generate l D E ad xg xd xt xf xj xh xs xv xb xq xk hxg I hI hxd DD hDD  (((nI (xt.2.2.2 0)))) (((nI (xt.2.2.2 1)))) (((nI (xt.2.2.2 2))))) (fun _ => rfl) (lw_V q1343 q1228 q1229 q73 q1230) 3 rfl 0 rfl rfl (by decide +kernel) ⟨Nat.le_of_ble_eq_true rfl, Nat.le_of_ble_eq_true rfl⟩ hl.1 rfl (Nat.le_of_ble_eq_true rfl) ⟨Nat.le_refl _, Nat.le_refl _⟩ dX7_isDone_71 (fun u9 H locs hu hP hD hS => ?_)
    have hu9 := hu
    have hP : va_P D vwCl (ti_wM E ad u9.1 u9.2 xt xf xj xh xs xv xb xq xk) H := hP
    have hD : va_D A (ti_wM E ad u9.1 u9.2 xt xf xj xh xs xv xb xq xk) := hD
    refine W.eq (g2 := F0 m 74 ls [.int ((ti_Sgen I DD (((nI (xt.2.2.2 0)))) (((nI (xt.2.2.2 1)))) (((nI (xt.2.2.2 2))))).1)]) rfl ?_
    refine lv_if_lt (tgt := 81) hx hb dX7_isDone_74 (by decide) (fun c74 => ?_) (fun c74 => ?_)
    · skip
      refine lv_iconst (v := nI 0) hx hb dX7_isDone_81 (by decide) ?_
      have hs : (ti_Sdo I DD 43 (xt.2.2.2 0) (xt.2.2.2 1) (xt.2.2.2 2)) = ti_Sgen I DD (nI (xt.2.2.2 0)) (nI (xt.2.2.2 1)) (nI (xt.2.2.2 2)) := ti_do43 _ _ _ _ _
      exact hret (u9.1, u9.2, xf) _ _ _ _ _ _ _ dX7_isDone_82 (by rw [hs, decide_eq_true c74]; rfl) (by rw [hs]; exact ⟨hu9.1, hu9.2.1, hu9.2.2.1, hu9.2.2.2, hxf⟩) hP hS (Nat.le_refl _) (Nat.le_refl _)
    · skip
      refine lv_iconst (v := nI 1) hx hb dX7_isDone_77 (by decide) ?_
      refine lv_goto (tgt := 82) hx hb dX7_isDone_78 (by decide) ?_
      have hs : (ti_Sdo I DD 43 (xt.2.2.2 0) (xt.2.2.2 1) (xt.2.2.2 2)) = ti_Sgen I DD (nI (xt.2.2.2 0)) (nI (xt.2.2.2 1)) (nI (xt.2.2.2 2)) := ti_do43 _ _ _ _ _
      exact hret (u9.1, u9.2, xf) _ _ _ _ _ _ _ dX7_isDone_82 (by rw [hs, decide_eq_false c74]; rfl) (by rw [hs]; exact ⟨hu9.1, hu9.2.1, hu9.2.2.1, hu9.2.2.2, hxf⟩) hP hS (Nat.le_refl _) (Nat.le_refl _)
  · skip
    by_cases sw1_1 : v = 45
    · subst sw1_1
      refine lv_lookup (off := 82) (tgt := 83) hx hb dX7_isDone_1 (by decide) (by decide) (by decide) ?_
      refine lv_aload_n hx hb dX7_isDone_83 rfl (lv_at hl 0 rfl) ?_
      refine lv_aload_n hx hb dX7_isDone_84 rfl (lv_at hl 0 rfl) ?_
      refine va_get (v := .ref (ad 9)) hx hb hts in_X7 hown hK hP 0 rfl rfl 11 (by decide) (hts _ q1099) (fun _ h => h) rfl dX7_isDone_85 ?_
      refine lv_iconst (v := nI 0) hx hb dX7_isDone_88 (by decide) ?_
      refine tn_iald (f := xt.2.2.2) hx hb hK hP 9 0 rfl rfl (by omega) (by decide) dX7_isDone_89 ?_
      have b89 := hxt.2.2.2 0
      refine lv_aload_n hx hb dX7_isDone_90 rfl (lv_at hl 0 rfl) ?_
      refine va_get (v := .ref (ad 9)) hx hb hts in_X7 hown hK hP 0 rfl rfl 11 (by decide) (hts _ q1099) (fun _ h => h) rfl dX7_isDone_91 ?_
      refine lv_iconst (v := nI 1) hx hb dX7_isDone_94 (by decide) ?_
      refine tn_iald (f := xt.2.2.2) hx hb hK hP 9 0 rfl rfl (by omega) (by decide) dX7_isDone_95 ?_
      have b95 := hxt.2.2.2 1
      refine ti_mVa (As := [.int (nI (xt.2.2.2 0)), .int (nI (xt.2.2.2 1))]) (rest := []) S hE hP hD hS hA (met_X7_drop l D E ad xg xd xt xf xj xh xs xv xb xq xk hxg I hI hxd DD hDD  (((nI (xt.2.2.2 0)))) (((nI (xt.2.2.2 1))))) (fun _ => rfl) (lw_V q1344 q1262 q1263 q73 q1264) 2 rfl 0 rfl rfl (by decide +kernel) ⟨Nat.le_of_ble_eq_true rfl, Nat.le_of_ble_eq_true rfl⟩ hl.1 rfl (Nat.le_of_ble_eq_true rfl) ⟨Nat.le_refl _, Nat.le_refl _⟩ dX7_isDone_96 (fun u9 H locs hu hP hD hS => ?_)
      have hu9 := hu
      have hP : va_P D vwCl (ti_wM E ad u9.1 u9.2 xt xf xj xh xs xv xb xq xk) H := hP
      have hD : va_D A (ti_wM E ad u9.1 u9.2 xt xf xj xh xs xv xb xq xk) := hD
      refine W.eq (g2 := F0 m 99 ls [.int ((ti_Sdrop I DD (((nI (xt.2.2.2 0)))) (((nI (xt.2.2.2 1))))).1)]) rfl ?_
      refine lv_if_lt (tgt := 106) hx hb dX7_isDone_99 (by decide) (fun c99 => ?_) (fun c99 => ?_)
      · skip
        refine lv_iconst (v := nI 0) hx hb dX7_isDone_106 (by decide) ?_
        have hs : (ti_Sdo I DD 45 (xt.2.2.2 0) (xt.2.2.2 1) (xt.2.2.2 2)) = ti_Sdrop I DD (nI (xt.2.2.2 0)) (nI (xt.2.2.2 1)) := ti_do45 _ _ _ _ _
        exact hret (u9.1, u9.2, xf) _ _ _ _ _ _ _ dX7_isDone_107 (by rw [hs, decide_eq_true c99]; rfl) (by rw [hs]; exact ⟨hu9.1, hu9.2.1, hu9.2.2.1, hu9.2.2.2, hxf⟩) hP hS (Nat.le_refl _) (Nat.le_refl _)
      · skip
        refine lv_iconst (v := nI 1) hx hb dX7_isDone_102 (by decide) ?_
        refine lv_goto (tgt := 107) hx hb dX7_isDone_103 (by decide) ?_
        have hs : (ti_Sdo I DD 45 (xt.2.2.2 0) (xt.2.2.2 1) (xt.2.2.2 2)) = ti_Sdrop I DD (nI (xt.2.2.2 0)) (nI (xt.2.2.2 1)) := ti_do45 _ _ _ _ _
        exact hret (u9.1, u9.2, xf) _ _ _ _ _ _ _ dX7_isDone_107 (by rw [hs, decide_eq_false c99]; rfl) (by rw [hs]; exact ⟨hu9.1, hu9.2.1, hu9.2.2.1, hu9.2.2.2, hxf⟩) hP hS (Nat.le_refl _) (Nat.le_refl _)
    · skip
      by_cases sw1_2 : v = 99
      · subst sw1_2
        refine lv_lookup (off := 126) (tgt := 127) hx hb dX7_isDone_1 (by decide) (by decide) (by decide) ?_
        refine lv_aload_n hx hb dX7_isDone_127 rfl (lv_at hl 0 rfl) ?_
        refine lv_aload_n hx hb dX7_isDone_128 rfl (lv_at hl 0 rfl) ?_
        refine va_get (v := .ref (ad 9)) hx hb hts in_X7 hown hK hP 0 rfl rfl 11 (by decide) (hts _ q1099) (fun _ h => h) rfl dX7_isDone_129 ?_
        refine lv_iconst (v := nI 0) hx hb dX7_isDone_132 (by decide) ?_
        refine tn_iald (f := xt.2.2.2) hx hb hK hP 9 0 rfl rfl (by omega) (by decide) dX7_isDone_133 ?_
        have b133 := hxt.2.2.2 0
        refine ti_mVa (As := [.int (nI (xt.2.2.2 0))]) (rest := []) S hE hP hD hS hA (met_X7_close l D E ad xg xd xt xf xj xh xs xv xb xq xk hxg I hI hxd DD hDD hxf (fun i hi _ => ti_nod6 hxg (by rw [hI i hi]; exact hinv.1 i hi)) (((nI (xt.2.2.2 0))))) (fun _ => rfl) (lw_V q1346 q1282 q1283 q73 q1284) 1 rfl 0 rfl rfl (by decide +kernel) ⟨Nat.le_of_ble_eq_true rfl, Nat.le_of_ble_eq_true rfl⟩ hl.1 rfl (Nat.le_of_ble_eq_true rfl) ⟨Nat.le_refl _, Nat.le_refl _⟩ dX7_isDone_134 (fun u9 H locs hu hP hD hS => ?_)
        have hu9 := hu
        have hP : va_P D vwCl (ti_wM E ad u9.1 u9.2.1 xt u9.2.2 xj xh xs xv xb xq xk) H := hP
        have hD : va_D A (ti_wM E ad u9.1 u9.2.1 xt u9.2.2 xj xh xs xv xb xq xk) := hD
        refine W.eq (g2 := F0 m 137 ls [.int ((ti_Sclose I DD (((nI (xt.2.2.2 0))))).1)]) rfl ?_
        refine lv_if_lt (tgt := 144) hx hb dX7_isDone_137 (by decide) (fun c137 => ?_) (fun c137 => ?_)
        · skip
          refine lv_iconst (v := nI 0) hx hb dX7_isDone_144 (by decide) ?_
          have hs : (ti_Sdo I DD 99 (xt.2.2.2 0) (xt.2.2.2 1) (xt.2.2.2 2)) = ti_Sclose I DD (nI (xt.2.2.2 0)) := ti_do99 _ _ _ _ _
          exact hret u9 _ _ _ _ _ _ _ dX7_isDone_145 (by rw [hs, decide_eq_true c137]; rfl) (by rw [hs]; exact hu9) hP hS (Nat.le_refl _) (Nat.le_refl _)
        · skip
          refine lv_iconst (v := nI 1) hx hb dX7_isDone_140 (by decide) ?_
          refine lv_goto (tgt := 145) hx hb dX7_isDone_141 (by decide) ?_
          have hs : (ti_Sdo I DD 99 (xt.2.2.2 0) (xt.2.2.2 1) (xt.2.2.2 2)) = ti_Sclose I DD (nI (xt.2.2.2 0)) := ti_do99 _ _ _ _ _
          exact hret u9 _ _ _ _ _ _ _ dX7_isDone_145 (by rw [hs, decide_eq_false c137]; rfl) (by rw [hs]; exact hu9) hP hS (Nat.le_refl _) (Nat.le_refl _)
      · skip
        by_cases sw1_3 : v = 109
        · subst sw1_3
          refine lv_lookup (off := 145) (tgt := 146) hx hb dX7_isDone_1 (by decide) (by decide) (by decide) ?_
          refine lv_aload_n hx hb dX7_isDone_146 rfl (lv_at hl 0 rfl) ?_
          refine lv_aload_n hx hb dX7_isDone_147 rfl (lv_at hl 0 rfl) ?_
          refine va_get (v := .ref (ad 9)) hx hb hts in_X7 hown hK hP 0 rfl rfl 11 (by decide) (hts _ q1099) (fun _ h => h) rfl dX7_isDone_148 ?_
          refine lv_iconst (v := nI 0) hx hb dX7_isDone_151 (by decide) ?_
          refine tn_iald (f := xt.2.2.2) hx hb hK hP 9 0 rfl rfl (by omega) (by decide) dX7_isDone_152 ?_
          have b152 := hxt.2.2.2 0
          refine ti_mVa (As := [.int (nI (xt.2.2.2 0))]) (rest := []) S hE hP hD hS hA (met_X7_merge l D E ad xg xd xt xf xj xh xs xv xb xq xk hxg I hI hxd DD hDD hinv.1 (((nI (xt.2.2.2 0))))) (fun _ => rfl) (lw_V q1347 q1278 q1279 q73 q1280) 1 rfl 0 rfl rfl (by decide +kernel) ⟨Nat.le_of_ble_eq_true rfl, Nat.le_of_ble_eq_true rfl⟩ hl.1 rfl (Nat.le_of_ble_eq_true rfl) ⟨Nat.le_refl _, Nat.le_refl _⟩ dX7_isDone_153 (fun u9 H locs hu hP hD hS => ?_)
          have hu9 := hu
          have hP : va_P D vwCl (ti_wM E ad u9.1 u9.2 xt xf xj xh xs xv xb xq xk) H := hP
          have hD : va_D A (ti_wM E ad u9.1 u9.2 xt xf xj xh xs xv xb xq xk) := hD
          refine W.eq (g2 := F0 m 156 ls [.int ((ti_Smerge I DD (((nI (xt.2.2.2 0))))).1)]) rfl ?_
          refine lv_if_lt (tgt := 163) hx hb dX7_isDone_156 (by decide) (fun c156 => ?_) (fun c156 => ?_)
          · skip
            refine lv_iconst (v := nI 0) hx hb dX7_isDone_163 (by decide) ?_
            have hs : (ti_Sdo I DD 109 (xt.2.2.2 0) (xt.2.2.2 1) (xt.2.2.2 2)) = ti_Smerge I DD (nI (xt.2.2.2 0)) := ti_do109 _ _ _ _ _
            exact hret (u9.1, u9.2, xf) _ _ _ _ _ _ _ dX7_isDone_164 (by rw [hs, decide_eq_true c156]; rfl) (by rw [hs]; exact ⟨hu9.1, hu9.2.1, hu9.2.2.1, hu9.2.2.2, hxf⟩) hP hS (Nat.le_refl _) (Nat.le_refl _)
          · skip
            refine lv_iconst (v := nI 1) hx hb dX7_isDone_159 (by decide) ?_
            refine lv_goto (tgt := 164) hx hb dX7_isDone_160 (by decide) ?_
            have hs : (ti_Sdo I DD 109 (xt.2.2.2 0) (xt.2.2.2 1) (xt.2.2.2 2)) = ti_Smerge I DD (nI (xt.2.2.2 0)) := ti_do109 _ _ _ _ _
            exact hret (u9.1, u9.2, xf) _ _ _ _ _ _ _ dX7_isDone_164 (by rw [hs, decide_eq_false c156]; rfl) (by rw [hs]; exact ⟨hu9.1, hu9.2.1, hu9.2.2.1, hu9.2.2.2, hxf⟩) hP hS (Nat.le_refl _) (Nat.le_refl _)
        · skip
          by_cases sw1_4 : v = 122
          · subst sw1_4
            refine lv_lookup (off := 107) (tgt := 108) hx hb dX7_isDone_1 (by decide) (by decide) (by decide) ?_
            refine lv_aload_n hx hb dX7_isDone_108 rfl (lv_at hl 0 rfl) ?_
            refine lv_aload_n hx hb dX7_isDone_109 rfl (lv_at hl 0 rfl) ?_
            refine va_get (v := .ref (ad 9)) hx hb hts in_X7 hown hK hP 0 rfl rfl 11 (by decide) (hts _ q1099) (fun _ h => h) rfl dX7_isDone_110 ?_
            refine lv_iconst (v := nI 0) hx hb dX7_isDone_113 (by decide) ?_
            refine tn_iald (f := xt.2.2.2) hx hb hK hP 9 0 rfl rfl (by omega) (by decide) dX7_isDone_114 ?_
            have b114 := hxt.2.2.2 0
            refine ti_mVa (As := [.int (nI (xt.2.2.2 0))]) (rest := []) S hE hP hD hS hA (met_X7_clear l D E ad xg xd xt xf xj xh xs xv xb xq xk hxg I hI hxd DD hDD  (((nI (xt.2.2.2 0))))) (fun _ => rfl) (lw_V q1345 q1274 q1275 q73 q1276) 1 rfl 0 rfl rfl (by decide +kernel) ⟨Nat.le_of_ble_eq_true rfl, Nat.le_of_ble_eq_true rfl⟩ hl.1 rfl (Nat.le_of_ble_eq_true rfl) ⟨Nat.le_refl _, Nat.le_refl _⟩ dX7_isDone_115 (fun u9 H locs hu hP hD hS => ?_)
            have hu9 := hu
            have hP : va_P D vwCl (ti_wM E ad u9.1 u9.2 xt xf xj xh xs xv xb xq xk) H := hP
            have hD : va_D A (ti_wM E ad u9.1 u9.2 xt xf xj xh xs xv xb xq xk) := hD
            refine W.eq (g2 := F0 m 118 ls [.int ((ti_Sclear I DD (((nI (xt.2.2.2 0))))).1)]) rfl ?_
            refine lv_if_lt (tgt := 125) hx hb dX7_isDone_118 (by decide) (fun c118 => ?_) (fun c118 => ?_)
            · skip
              refine lv_iconst (v := nI 0) hx hb dX7_isDone_125 (by decide) ?_
              have hs : (ti_Sdo I DD 122 (xt.2.2.2 0) (xt.2.2.2 1) (xt.2.2.2 2)) = ti_Sclear I DD (nI (xt.2.2.2 0)) := ti_do122 _ _ _ _ _
              exact hret (u9.1, u9.2, xf) _ _ _ _ _ _ _ dX7_isDone_126 (by rw [hs, decide_eq_true c118]; rfl) (by rw [hs]; exact ⟨hu9.1, hu9.2.1, hu9.2.2.1, hu9.2.2.2, hxf⟩) hP hS (Nat.le_refl _) (Nat.le_refl _)
            · skip
              refine lv_iconst (v := nI 1) hx hb dX7_isDone_121 (by decide) ?_
              refine lv_goto (tgt := 126) hx hb dX7_isDone_122 (by decide) ?_
              have hs : (ti_Sdo I DD 122 (xt.2.2.2 0) (xt.2.2.2 1) (xt.2.2.2 2)) = ti_Sclear I DD (nI (xt.2.2.2 0)) := ti_do122 _ _ _ _ _
              exact hret (u9.1, u9.2, xf) _ _ _ _ _ _ _ dX7_isDone_126 (by rw [hs, decide_eq_false c118]; rfl) (by rw [hs]; exact ⟨hu9.1, hu9.2.1, hu9.2.2.1, hu9.2.2.2, hxf⟩) hP hS (Nat.le_refl _) (Nat.le_refl _)
          · skip
            refine lv_lookup (off := 164) (tgt := 165) hx hb dX7_isDone_1 (by decide) (by show Op.lookupswitch.offset [(43, 51), (45, 82), (99, 126), (109, 145), (122, 107)] _ _ = _; rw [lv_osw (a := 43) sw1_0 (by decide), lv_osw (a := 45) sw1_1 (by decide), lv_osw (a := 99) sw1_2 (by decide), lv_osw (a := 109) sw1_3 (by decide), lv_osw (a := 122) sw1_4 (by decide)]; rfl) (by decide) ?_
            refine lv_aload_n hx hb dX7_isDone_165 rfl (lv_at hl 0 rfl) ?_
            refine ti_mVa (As := []) (rest := []) S hE hP hD hS hA (met_X7_back l D E ad xg xd xt xf xj xh xs xv xb xq xk hxg I hI hxd DD hDD  ) (fun _ => rfl) (lw_V q1348 q1314 q1315 q73 q1316) 0 rfl 0 rfl rfl (by decide +kernel) ⟨Nat.le_of_ble_eq_true rfl, Nat.le_of_ble_eq_true rfl⟩ hl.1 rfl (Nat.le_of_ble_eq_true rfl) ⟨Nat.le_refl _, Nat.le_refl _⟩ dX7_isDone_166 (fun u9 H locs hu hP hD hS => ?_)
            have hu9 := hu
            have hP : va_P D vwCl (ti_wM E ad u9.1 u9.2 xt xf xj xh xs xv xb xq xk) H := hP
            have hD : va_D A (ti_wM E ad u9.1 u9.2 xt xf xj xh xs xv xb xq xk) := hD
            refine W.eq (g2 := F0 m 169 ls [.int ((ti_Sback I DD).1)]) rfl ?_
            refine lv_if_lt (tgt := 176) hx hb dX7_isDone_169 (by decide) (fun c169 => ?_) (fun c169 => ?_)
            · skip
              refine lv_iconst (v := nI 0) hx hb dX7_isDone_176 (by decide) ?_
              have hs : (ti_Sdo I DD v (xt.2.2.2 0) (xt.2.2.2 1) (xt.2.2.2 2)) = ti_Sback I DD := by rw [ti_Sdo, if_neg sw1_0, if_neg sw1_1, if_neg sw1_2, if_neg sw1_3, if_neg sw1_4]
              exact hret (u9.1, u9.2, xf) _ _ _ _ _ _ _ dX7_isDone_177 (by rw [hs, decide_eq_true c169]; rfl) (by rw [hs]; exact ⟨hu9.1, hu9.2.1, hu9.2.2.1, hu9.2.2.2, hxf⟩) hP hS (Nat.le_refl _) (Nat.le_refl _)
            · skip
              refine lv_iconst (v := nI 1) hx hb dX7_isDone_172 (by decide) ?_
              refine lv_goto (tgt := 177) hx hb dX7_isDone_173 (by decide) ?_
              have hs : (ti_Sdo I DD v (xt.2.2.2 0) (xt.2.2.2 1) (xt.2.2.2 2)) = ti_Sback I DD := by rw [ti_Sdo, if_neg sw1_0, if_neg sw1_1, if_neg sw1_2, if_neg sw1_3, if_neg sw1_4]
              exact hret (u9.1, u9.2, xf) _ _ _ _ _ _ _ dX7_isDone_177 (by rw [hs, decide_eq_false c169]; rfl) (by rw [hs]; exact ⟨hu9.1, hu9.2.1, hu9.2.2.1, hu9.2.2.2, hxf⟩) hP hS (Nat.le_refl _) (Nat.le_refl _)
