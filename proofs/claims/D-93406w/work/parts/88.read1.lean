/-! TermIdeals$Reader: here, digit, clause (printed by w_read1.py) -/
set_option maxRecDepth 100000
theorem ti_m1_ne' {c : Nat} (hc : c < 2 ^ 31) : nI c ≠ -1 := fun e => by
  have h : nI c < 0 := by rw [e]; decide
  exact nI_pos hc h

def ti_he (xt : Nat → Nat) (sz pp : Nat) : Int32 := if pp < sz then nI (xt pp) else -1
abbrev ti_wRt (E : Nat → ClassId) (rd t ra : Nat) (xt : Nat → Nat) (sz pp mn : Nat) : va_W := [(rd, .inr (9, [.ref t, .int (nI sz), .int (nI pp), .ref ra, .int (nI mn)])), (t, .inl (E 1, 100, .inl (ti_n xt)))]
theorem ti_he_eq {xt : Nat → Nat} {sz pp c : Nat} (hb : ∀ k, xt k ≤ 127) (hc : c ≤ 127) (h : nI c = ti_he xt sz pp) : pp < sz ∧ xt pp = c := by
  unfold ti_he at h
  have h1 := hb pp
  by_cases hp : pp < sz
  · rw [if_pos hp] at h
    exact ⟨hp, ((nI_eq (by omega) (by omega)).mp h).symm⟩
  · rw [if_neg hp] at h
    exact absurd h (ti_m1_ne' (by omega))
theorem ti_dd {xt : Nat → Nat} {sz pp : Nat} : (pp < (ti_tl xt sz).length ∧ 48 ≤ (ti_tl xt sz).getD pp 0 ∧ (ti_tl xt sz).getD pp 0 ≤ 57) ↔ (pp < sz ∧ 48 ≤ xt pp ∧ xt pp ≤ 57) := by
  rw [ti_tl_len]
  constructor
  · rintro ⟨h1, h2, h3⟩
    rw [ti_tl_at h1] at h2 h3
    exact ⟨h1, h2, h3⟩
  · rintro ⟨h1, h2, h3⟩
    rw [ti_tl_at h1]
    exact ⟨h1, h2, h3⟩
theorem ti_ds_ok {xt : Nat → Nat} {sz pp k : Nat} (h : pp < sz ∧ 48 ≤ xt pp ∧ xt pp ≤ 57) : ti_ds (ti_tl xt sz) (k + 1) pp = ((ti_ds (ti_tl xt sz) k (pp + 1)).1.map (fun r => (xt pp - 48) :: r), (ti_ds (ti_tl xt sz) k (pp + 1)).2) := by
  rw [ti_ds, if_pos (ti_dd.mpr h), ti_tl_at h.1]
theorem ti_ds_no {xt : Nat → Nat} {sz pp k : Nat} (h : ¬ (pp < sz ∧ 48 ≤ xt pp ∧ xt pp ≤ 57)) : ti_ds (ti_tl xt sz) (k + 1) pp = (none, pp) := by
  rw [ti_ds, if_neg (fun z => h (ti_dd.mp z))]
theorem ti_c1_k {xt : Nat → Nat} {sz pp k : Nat} (h : pp < sz) (hk : ti_dg (xt pp) = some k) : ti_c1 (ti_tl xt sz) pp = ((ti_ds (ti_tl xt sz) k (pp + 1)).1.map (fun r => (xt pp, r)), (ti_ds (ti_tl xt sz) k (pp + 1)).2) := by
  rw [ti_c1, if_pos (by rw [ti_tl_len]; exact h), ti_tl_at h, hk]
theorem ti_c1_d {xt : Nat → Nat} {sz pp : Nat} {sg : Int32} (hs : sg = ti_he xt sz pp) (h1 : ¬ sg = 43) (h2 : ¬ sg = 45) (h3 : ¬ sg = 99) (h4 : ¬ sg = 109) (h5 : ¬ sg = 117) (h6 : ¬ sg = 122) : ti_c1 (ti_tl xt sz) pp = (none, pp) := by
  rw [ti_c1, ti_tl_len]
  by_cases hp : pp < sz
  · unfold ti_he at hs
    rw [if_pos hp] at hs
    have hd : ti_dg (xt pp) = none := by
      unfold ti_dg
      rw [if_neg (fun z => h1 (by rw [hs, z]; decide)), if_neg (fun z => h2 (by rw [hs, z]; decide)), if_neg (fun z => h3 (by rw [hs, z]; decide)), if_neg (fun z => h4 (by rw [hs, z]; decide)), if_neg (fun z => h5 (by rw [hs, z]; decide)), if_neg (fun z => h6 (by rw [hs, z]; decide))]
    rw [if_pos hp, ti_tl_at hp, hd]
  · rw [if_neg hp]

theorem ti_d7M : ∀ j, j < 7 → defaultValue (tyX10 j) = vp_V [.null, .null, .null, .null, .null, .int 0, .int 0] j := by
  intro j hj
  match j, hj with
  | 0, _ => rfl
  | 1, _ => rfl
  | 2, _ => rfl
  | 3, _ => rfl
  | 4, _ => rfl
  | 5, _ => rfl
  | 6, _ => rfl

theorem ti_d7O : ∀ j, j < 7 → defaultValue (tyX15 j) = vp_V [.null, .null, .null, .null, .null, .int 0, .int 0] j := by
  intro j hj
  match j, hj with
  | 0, _ => rfl
  | 1, _ => rfl
  | 2, _ => rfl
  | 3, _ => rfl
  | 4, _ => rfl
  | 5, _ => rfl
  | 6, _ => rfl

set_option maxHeartbeats 1000000 in
theorem met_X9_here (l : Launch) (D : va_G) (E : Nat → ClassId) (rd t ra : Nat) (xt : Nat → Nat) (sz pp mn : Nat) (hxt : ∀ k, xt k ≤ 127) (hsz : sz ≤ 100) (hpp : pp ≤ 1000) : ti_MetP l D E yX9_here cX9_here 1 (some .int) 0 (ti_wRt E rd t ra xt sz pp mn) [.ref rd] (some (.int (ti_he xt sz pp))) := by
  refine ti_pureI (by decide) (Nat.le_of_ble_eq_true rfl) ?_
  intro p e s m below meth c H locs Q ls S hE hP hl hret
  have hx := S.1
  have hb := S.2.1
  have hown := S.2.2.2.1
  have hts := S.2.2.2.2
  have hK := hE.1
  have hl : lv_has ls 1 [(0, .ref rd)] := hl
  refine lv_aload_n hx hb dX9_here_0 rfl (lv_at hl 0 rfl) ?_
  refine va_get (v := .int (nI pp)) hx hb hts in_X9 hown hK hP 0 rfl rfl 2 (by decide) (hts _ q494) (fun _ h => h) rfl dX9_here_1 ?_
  refine lv_aload_n hx hb dX9_here_4 rfl (lv_at hl 0 rfl) ?_
  refine va_get (v := .int (nI sz)) hx hb hts in_X9 hown hK hP 0 rfl rfl 1 (by decide) (hts _ q493) (fun _ h => h) rfl dX9_here_5 ?_
  refine tn_ge (tgt := 23) hx hb dX9_here_8 (by decide) (by omega) (by omega) (fun c8 => ?_) (fun c8 => ?_)
  · skip
    refine lv_iconst (v := (-1)) hx hb dX9_here_23 (by decide) ?_
    exact hret _ _ _ dX9_here_24 (by unfold ti_he; rw [if_neg (by omega)])
  · skip
    refine lv_aload_n hx hb dX9_here_11 rfl (lv_at hl 0 rfl) ?_
    refine va_get (v := .ref t) hx hb hts in_X9 hown hK hP 0 rfl rfl 0 (by decide) (hts _ q492) (fun _ h => h) rfl dX9_here_12 ?_
    refine lv_aload_n hx hb dX9_here_15 rfl (lv_at hl 0 rfl) ?_
    refine va_get (v := .int (nI pp)) hx hb hts in_X9 hown hK hP 0 rfl rfl 2 (by decide) (hts _ q494) (fun _ h => h) rfl dX9_here_16 ?_
    refine tn_bald (f := xt) hx hb hK hP 1 1 rfl rfl (by omega) (by decide) dX9_here_19 ?_
    have b19 := hxt pp
    refine lv_goto (tgt := 24) hx hb dX9_here_20 (by decide) ?_
    exact hret _ _ _ dX9_here_24 (by unfold ti_he; rw [if_pos (by omega)])

set_option maxHeartbeats 1000000 in
theorem met_X9_digit_ok (l : Launch) (D : va_G) (E : Nat → ClassId) (rd t ra : Nat) (xt : Nat → Nat) (sz pp mn : Nat) (hxt : ∀ k, xt k ≤ 127) (hsz : sz ≤ 100) (hpp : pp ≤ 1000) (hd : pp < sz ∧ 48 ≤ xt pp ∧ xt pp ≤ 57) : ti_MetM (σ := Unit) l D E yX9_digit cX9_digit 1 (some .int) 1 0 0 (ti_wRt E rd t ra xt sz pp mn) [.ref rd] (fun _ => ti_wRt E rd t ra xt sz (pp + 1) mn) (fun u => some (.int ((fun _ => nI (xt pp - 48)) u))) (fun _ => True) := by
  refine ti_mutI (σ := Unit) (vi := fun _ => nI (xt pp - 48)) (by decide) (Nat.le_of_ble_eq_true rfl) ?_
  intro p e s m below meth c H H0 A Q ls S hE hP hD hS hA hinit hl hret
  have hx := S.1
  have hb := S.2.1
  have hown := S.2.2.2.1
  have hts := S.2.2.2.2
  have hK := hE.1
  have hl : lv_has ls 1 [(0, .ref rd)] := hl
  have h127 := hxt pp
  have hin : ti_in (ti_he xt sz pp) (nI 48) (nI 57) = true := by unfold ti_he; rw [if_pos hd.1, ti_in_nI (by omega) (by decide) (by decide)]; exact decide_eq_true hd.2
  refine lv_aload_n hx hb dX9_digit_0 rfl (lv_at hl 0 rfl) ?_
  refine ti_pV (As := []) (rest := []) (v := .int (ti_he xt sz pp)) S hE hP [0, 1] (met_X9_here l D E rd t ra xt sz pp mn hxt hsz (by omega)) rfl (lw_V q516 q518 qs9 q79 q519) 0 rfl 0 rfl rfl (by decide +kernel) ⟨Nat.le_of_ble_eq_true rfl, Nat.le_of_ble_eq_true rfl⟩ hl.1 rfl (Nat.le_of_ble_eq_true rfl) ⟨Nat.le_refl _, Nat.le_refl _⟩ dX9_digit_1 ?_
  refine lv_bipush (v := nI 48) hx hb dX9_digit_4 (by decide) ?_
  refine lv_bipush (v := nI 57) hx hb dX9_digit_6 (by decide) ?_
  refine ti_pSN (As := [.int (ti_he xt sz pp), .int (nI 48), .int (nI 57)]) (rest := []) (v := .int (ti_b (ti_in (ti_he xt sz pp) (nI 48) (nI 57)))) S hE hP [] (met_X0_in l D E (ti_he xt sz pp) (nI 48) (nI 57)) rfl (lw_meth q304) q524 q303 q66 3 rfl (by decide +kernel) ⟨Nat.le_of_ble_eq_true rfl, Nat.le_of_ble_eq_true rfl⟩ hl.1 rfl (Nat.le_of_ble_eq_true rfl) ⟨Nat.le_refl _, Nat.le_refl _⟩ dX9_digit_8 ?_
  refine tb_ne (tgt := 26) hx hb dX9_digit_11 (by decide) (fun c11 => ?_) (fun c11 => ?_)
  · skip
    refine lv_aload_n hx hb dX9_digit_26 rfl (lv_at hl 0 rfl) ?_
    refine va_get (v := .ref t) hx hb hts in_X9 hown hK hP 0 rfl rfl 0 (by decide) (hts _ q492) (fun _ h => h) rfl dX9_digit_27 ?_
    refine lv_aload_n hx hb dX9_digit_30 rfl (lv_at hl 0 rfl) ?_
    refine lv_dup hx hb dX9_digit_31 rfl ?_
    refine va_get (v := .int (nI pp)) hx hb hts in_X9 hown hK hP 0 rfl rfl 2 (by decide) (hts _ q494) (fun _ h => h) rfl dX9_digit_32 ?_
    refine lv_dup_x1 hx hb dX9_digit_35 rfl rfl ?_
    refine lv_iconst (v := nI 1) hx hb dX9_digit_36 (by decide) ?_
    refine tn_add hx hb dX9_digit_37 ?_
    refine va_put (ty := .int) hx hb hts in_X9 tyX9 tyX9_ok nmX9 hown hK hP hD hS 0 rfl rfl 2 (by decide) (hts _ q494) (fun _ h => h) rfl rfl rfl rfl (Nat.le_of_ble_eq_true rfl) dX9_digit_38 (fun H locs hP hD hS => ?_)
    have hP : va_P D vwCl (ti_wRt E rd t ra xt sz (pp + 1) mn) H := hP
    have hD : va_D A (ti_wRt E rd t ra xt sz (pp + 1) mn) := hD
    refine tn_bald (f := xt) hx hb hK hP 1 1 rfl rfl (by omega) (by decide) dX9_digit_41 ?_
    have b41 := hxt pp
    refine lv_bipush (v := nI 48) hx hb dX9_digit_42 (by decide) ?_
    refine tn_sub hx hb dX9_digit_44 (by omega) ?_
    exact hret () _ _ _ _ _ _ _ dX9_digit_45 (rfl) (trivial) hP hS (Nat.le_refl _) (Nat.le_refl _)
  · skip
    exact absurd hin (by rw [c11]; decide)

set_option maxHeartbeats 2000000 in
theorem met_X9_digit_x (l : Launch) (D : va_G) (E : Nat → ClassId) (htr : l.stackTraces = false) (z0 : Nat) (rd t ra : Nat) (xt : Nat → Nat) (sz pp mn : Nat) (hxt : ∀ k, xt k ≤ 127) (hsz : sz ≤ 100) (hpp : pp ≤ 1000) (hd : ¬ (pp < sz ∧ 48 ≤ xt pp ∧ xt pp ≤ 57)) : ti_MetX (σ := Unit) (τ := Nat × Value × Value) l D E yX9_digit (ws_ yX9_digit cX9_digit 1 (some .int)) 6 1 7 z0 (ti_wRt E rd t ra xt sz pp mn) [.ref rd] (fun _ => True) (fun _ => ti_wRt E rd t ra xt sz pp mn) (fun _ => none) (fun _ => False) (fun _ _ => True) (fun w => RX10) (fun w => w.1) (fun w => ti_wRt E rd t ra xt sz pp mn) (fun w => [(w.1, .inr (10, [.ref w.1, w.2.1, w.2.2, .null, .null, .int 0, .int (nI pp)]))]) (fun _ => True) (fun w H => ti_free w.1 H) := by
  refine ti_metX (by decide) (Nat.le_of_ble_eq_true rfl) ?_
  intro p e s m below meth c H A Q ls S hE hP hD hS hA hZ hAz hx0 hnoex hl hret hq
  obtain ⟨rfl, hr, hlk, hinit⟩ := hq
  have hsz0 := hS.1
  have hx := S.1
  have hb := S.2.1
  have hown := S.2.2.2.1
  have hts := S.2.2.2.2
  have hK := hE.1
  have hl : lv_has ls 1 [(0, .ref rd)] := hl
  have h127 := hxt pp
  have hin : ti_in (ti_he xt sz pp) (nI 48) (nI 57) = false := by
    unfold ti_he
    by_cases h9 : pp < sz
    · rw [if_pos h9, ti_in_nI (by omega) (by decide) (by decide)]; exact decide_eq_false (fun z => hd ⟨h9, z⟩)
    · rw [if_neg h9]; decide
  refine lv_aload_n hx hb dX9_digit_0 rfl (lv_at hl 0 rfl) ?_
  refine ti_pV (As := []) (rest := []) (v := .int (ti_he xt sz pp)) S hE hP [0, 1] (met_X9_here l D E rd t ra xt sz pp mn hxt hsz (by omega)) rfl (lw_V q516 q518 qs9 q79 q519) 0 rfl 0 rfl rfl (by decide +kernel) ⟨Nat.le_of_ble_eq_true rfl, Nat.le_of_ble_eq_true rfl⟩ hl.1 rfl (Nat.le_of_ble_eq_true rfl) ⟨Nat.le_of_ble_eq_true rfl, Nat.le_of_ble_eq_true rfl⟩ dX9_digit_1 ?_
  refine lv_bipush (v := nI 48) hx hb dX9_digit_4 (by decide) ?_
  refine lv_bipush (v := nI 57) hx hb dX9_digit_6 (by decide) ?_
  refine ti_pSN (As := [.int (ti_he xt sz pp), .int (nI 48), .int (nI 57)]) (rest := []) (v := .int (ti_b (ti_in (ti_he xt sz pp) (nI 48) (nI 57)))) S hE hP [] (met_X0_in l D E (ti_he xt sz pp) (nI 48) (nI 57)) rfl (lw_meth q304) q524 q303 q66 3 rfl (by decide +kernel) ⟨Nat.le_of_ble_eq_true rfl, Nat.le_of_ble_eq_true rfl⟩ hl.1 rfl (Nat.le_of_ble_eq_true rfl) ⟨Nat.le_of_ble_eq_true rfl, Nat.le_of_ble_eq_true rfl⟩ dX9_digit_8 ?_
  refine tb_ne (tgt := 26) hx hb dX9_digit_11 (by decide) (fun c11 => ?_) (fun c11 => ?_)
  · skip
    exact absurd hin (by rw [c11]; decide)
  · skip
    refine ti_newM hx hb hts in_X10 tyX10 tyX10_ok hown (hts _ q525) (hts _ q526) (hts _ q80) hK hP hD hS hA (ci := 10) rfl ti_d7M (Nat.le_of_ble_eq_true rfl) (Nat.le_of_ble_eq_true rfl) dX9_digit_14 (fun q1 H hq1 hs1 hf1 ho1 hP hD hS => ?_)
    have hP : va_P D vwCl (ti_wRt E rd t ra xt sz pp mn ++ [(q1, .inr (10, [.null, .null, .null, .null, .null, .int 0, .int 0]))]) H := hP
    have hD : va_D A (ti_wRt E rd t ra xt sz pp mn ++ [(q1, .inr (10, [.null, .null, .null, .null, .null, .int 0, .int 0]))]) := hD
    have fr_q1 : ti_free q1 H := hf1
    refine lv_dup hx hb dX9_digit_17 rfl ?_
    refine lv_aload_n hx hb dX9_digit_18 rfl (lv_at hl 0 rfl) ?_
    refine va_get (v := .int (nI pp)) hx hb hts in_X9 hown hK hP 0 rfl rfl 2 (by decide) (hts _ q494) (fun _ h => h) rfl dX9_digit_19 ?_
    refine ti_fI (As := [.int (nI pp)]) (rest := [.ref q1]) S hE hP hD hS hA rfl hZ hAz fr_q1 [2] rfl (met_X10_init l D E htr z0 q1 (nI pp)) rfl (fun _ => rfl) (lw_meth q536) q80 q534 q535 rfl 1 rfl (by decide +kernel) ⟨Nat.le_of_ble_eq_true rfl, Nat.le_of_ble_eq_true rfl⟩ hl.1 rfl (Nat.le_of_ble_eq_true rfl) ⟨Nat.le_of_ble_eq_true rfl, Nat.le_of_ble_eq_true rfl⟩ dX9_digit_22 (fun w1 H locs hu hxq hFr hP hD hS => ?_)
    have fr_q1 : ti_free q1 H := hxq
    have hP : va_P D vwCl (ti_wRt E rd t ra xt sz pp mn ++ [(q1, .inr (10, [.ref q1, w1.1, w1.2, .null, .null, .int 0, .int (nI pp)]))]) H := hP
    have hD : va_D A (ti_wRt E rd t ra xt sz pp mn ++ [(q1, .inr (10, [.ref q1, w1.1, w1.2, .null, .null, .int 0, .int (nI pp)]))]) := hD
    refine W.eq (g2 := F0 m 25 ls [.ref q1]) rfl ?_
    refine ti_throwOut hx hb hnoex hlk dX9_digit_25 hK (q1, w1) 0 rfl rfl trivial (ti_subC (is := [0, 1]) rfl hP) (ti_subC (is := [2]) rfl hP) (fun k z hz => ?_) fr_q1 hS (Nat.le_of_ble_eq_true rfl) (Nat.le_of_ble_eq_true rfl)
    have hk : k < 1 := (List.getElem?_eq_some_iff.mp hz).1
    match k, hk with
    | 0, _ => cases hz; show s.heap.size ≤ q1; omega

set_option maxHeartbeats 2000000 in
theorem met_X9_clause (l : Launch) (D : va_G) (E : Nat → ClassId) (htr : l.stackTraces = false) (z0 : Nat) (rd t ra : Nat) (xt : Nat → Nat) (sz pp mn : Nat) (hxt : ∀ k, xt k ≤ 127) (hsz : sz ≤ 100) (hpp : pp ≤ 200) : ti_MetY (σ := Nat × (Nat × List Nat) × Nat) (τ := Nat × (Value × Value) × Nat × Nat) l D E yX9_clause (ws_ yX9_clause cX9_clause 5 (some (.object "TermIdeals$Clause"))) 7 2 11 z0 (ti_wRt E rd t ra xt sz pp mn) [.ref rd] (fun u => ti_wRt E rd t ra xt sz u.2.2 mn) (fun u => [(u.1, .inr (11, [.int (nI u.2.1.1), .int (nI (u.2.1.2.getD 0 0)), .int (nI (u.2.1.2.getD 1 0)), .int (nI (u.2.1.2.getD 2 0))]))]) (fun u => some (.ref ((fun u => u.1) u))) (fun u => ti_c1 (ti_tl xt sz) pp = (some u.2.1, u.2.2)) (fun w => RX10) (fun w => w.1) (fun w => ti_wRt E rd t ra xt sz w.2.2.2 mn) (fun w => [(w.1, .inr (10, [.ref w.1, w.2.1.1, w.2.1.2, .null, .null, .int 0, .int (nI w.2.2.1)]))]) (fun w => ti_c1 (ti_tl xt sz) pp = (none, w.2.2.1)) (fun w H => ti_free w.1 H) := by
  refine ti_metY (by decide) (Nat.le_of_ble_eq_true rfl) ?_
  intro p e s m below meth c H A Q ls S hE hP hD hS hA hZ hAz htab hl hret hq
  obtain ⟨hQ, hr, hlk, hinit⟩ := hq
  have hsz0 := hS.1
  have hx := S.1
  have hb := S.2.1
  have hown := S.2.2.2.1
  have hts := S.2.2.2.2
  have hK := hE.1
  have hl : lv_has ls 5 [(0, .ref rd)] := hl
  refine lv_aload_n hx hb dX9_clause_0 rfl (lv_at hl 0 rfl) ?_
  obtain ⟨sg, hsg⟩ : ∃ sg, sg = ti_he xt sz pp := ⟨_, rfl⟩
  refine ti_pV (As := []) (rest := []) (v := .int sg) S hE hP [0, 1] (by rw [hsg]; exact met_X9_here l D E rd t ra xt sz pp mn hxt hsz (by omega)) rfl (lw_V q516 q518 qs9 q79 q519) 0 rfl 0 rfl rfl (by decide +kernel) ⟨Nat.le_of_ble_eq_true rfl, Nat.le_of_ble_eq_true rfl⟩ hl.1 rfl (Nat.le_of_ble_eq_true rfl) ⟨Nat.le_of_ble_eq_true rfl, Nat.le_of_ble_eq_true rfl⟩ dX9_clause_1 ?_
  refine lv_istore_n (lv' := [(1, .int sg), (0, .ref rd)]) hx hb dX9_clause_4 rfl hl (by decide) rfl (fun ls hl => ?_)
  refine lv_aload_n hx hb dX9_clause_5 rfl (lv_at hl 1 rfl) ?_
  refine va_get (v := .int (nI pp)) hx hb hts in_X9 hown hK hP 0 rfl rfl 2 (by decide) (hts _ q494) (fun _ h => h) rfl dX9_clause_6 ?_
  refine lv_istore_n (lv' := [(2, .int (nI pp)), (1, .int sg), (0, .ref rd)]) hx hb dX9_clause_9 rfl hl (by decide) rfl (fun ls hl => ?_)
  refine lv_aload_n hx hb dX9_clause_10 rfl (lv_at hl 2 rfl) ?_
  refine lv_dup hx hb dX9_clause_11 rfl ?_
  refine va_get (v := .int (nI pp)) hx hb hts in_X9 hown hK hP 0 rfl rfl 2 (by decide) (hts _ q494) (fun _ h => h) rfl dX9_clause_12 ?_
  refine lv_iconst (v := nI 1) hx hb dX9_clause_15 (by decide) ?_
  refine tn_add hx hb dX9_clause_16 ?_
  refine va_put (ty := .int) hx hb hts in_X9 tyX9 tyX9_ok nmX9 hown hK hP hD hS 0 rfl rfl 2 (by decide) (hts _ q494) (fun _ h => h) rfl rfl rfl rfl (Nat.le_of_ble_eq_true rfl) dX9_clause_17 (fun H locs hP hD hS => ?_)
  have hP : va_P D vwCl (ti_wRt E rd t ra xt sz (pp + 1) mn) H := hP
  have hD : va_D A (ti_wRt E rd t ra xt sz (pp + 1) mn) := hD
  refine lv_iload_n hx hb dX9_clause_20 rfl (lv_at hl 1 rfl) ?_
  by_cases sw21_0 : sg = 43
  · subst sw21_0
    refine lv_lookup (off := 59) (tgt := 80) hx hb dX9_clause_21 (by decide) (by decide) (by decide) ?_
    obtain ⟨hp9, hx9⟩ := ti_he_eq (c := 43) hxt (by decide) hsg
    have hk9 : ti_dg (xt pp) = some 3 := by rw [hx9]; decide
    have hl : lv_has ls 5 [(2, .int (nI pp)), (1, .int (nI 43)), (0, .ref rd)] := hl
    refine lv_aload_n hx hb dX9_clause_80 rfl (lv_at hl 2 rfl) ?_
    by_cases hd1 : pp + 1 < sz ∧ 48 ≤ xt (pp + 1) ∧ xt (pp + 1) ≤ 57
    · skip
      refine ti_mV (As := []) (rest := []) S hE hP hD hS hA [0, 1] rfl (met_X9_digit_ok l D E rd t ra xt sz (pp + 1) mn hxt hsz (by omega) hd1) rfl (fun _ => rfl) (lw_V q520 q522 qs10 q79 q523) 0 rfl 0 rfl rfl (by decide +kernel) ⟨Nat.le_of_ble_eq_true rfl, Nat.le_of_ble_eq_true rfl⟩ hl.1 rfl (Nat.le_of_ble_eq_true rfl) ⟨Nat.le_of_ble_eq_true rfl, Nat.le_of_ble_eq_true rfl⟩ dX9_clause_81 (fun _ H locs hu hP hD hS => ?_)
      have hP : va_P D vwCl (ti_wRt E rd t ra xt sz ((pp + 1) + 1) mn) H := hP
      have hD : va_D A (ti_wRt E rd t ra xt sz ((pp + 1) + 1) mn) := hD
      refine W.eq (g2 := F0 m 84 ls [.int (nI (xt (pp + 1) - 48))]) rfl ?_
      refine lv_istore_n (lv' := [(3, .int (nI (xt (pp + 1) - 48))), (2, .int (nI pp)), (1, .int (nI 43)), (0, .ref rd)]) hx hb dX9_clause_84 rfl hl (by decide) rfl (fun ls hl => ?_)
      refine lv_aload_n hx hb dX9_clause_85 rfl (lv_at hl 3 rfl) ?_
      by_cases hd2 : (pp + 1) + 1 < sz ∧ 48 ≤ xt ((pp + 1) + 1) ∧ xt ((pp + 1) + 1) ≤ 57
      · skip
        refine ti_mV (As := []) (rest := []) S hE hP hD hS hA [0, 1] rfl (met_X9_digit_ok l D E rd t ra xt sz ((pp + 1) + 1) mn hxt hsz (by omega) hd2) rfl (fun _ => rfl) (lw_V q520 q522 qs10 q79 q523) 0 rfl 0 rfl rfl (by decide +kernel) ⟨Nat.le_of_ble_eq_true rfl, Nat.le_of_ble_eq_true rfl⟩ hl.1 rfl (Nat.le_of_ble_eq_true rfl) ⟨Nat.le_of_ble_eq_true rfl, Nat.le_of_ble_eq_true rfl⟩ dX9_clause_86 (fun _ H locs hu hP hD hS => ?_)
        have hP : va_P D vwCl (ti_wRt E rd t ra xt sz (((pp + 1) + 1) + 1) mn) H := hP
        have hD : va_D A (ti_wRt E rd t ra xt sz (((pp + 1) + 1) + 1) mn) := hD
        refine W.eq (g2 := F0 m 89 ls [.int (nI (xt ((pp + 1) + 1) - 48))]) rfl ?_
        refine lv_istore (lv' := [(4, .int (nI (xt ((pp + 1) + 1) - 48))), (3, .int (nI (xt (pp + 1) - 48))), (2, .int (nI pp)), (1, .int (nI 43)), (0, .ref rd)]) hx hb dX9_clause_89 hl (by decide) rfl (fun ls hl => ?_)
        have hb1 := hS.1
        refine ti_newM hx hb hts in_X11 tyX11 tyX11_ok hown (hts _ q490) (hts _ q544) (hts _ q81) hK hP hD hS hA (ci := 11) rfl ti_df11 (Nat.le_of_ble_eq_true rfl) (Nat.le_of_ble_eq_true rfl) dX9_clause_91 (fun q1 H hq1 hs1 hf1 ho1 hP hD hS => ?_)
        have g_q1 : s.heap.size ≤ q1 := by omega
        have hP : va_P D vwCl (ti_wRt E rd t ra xt sz (((pp + 1) + 1) + 1) mn ++ [(q1, .inr (11, [.int (nI 0), .int (nI 0), .int (nI 0), .int (nI 0)]))]) H := hP
        have hD : va_D A (ti_wRt E rd t ra xt sz (((pp + 1) + 1) + 1) mn ++ [(q1, .inr (11, [.int (nI 0), .int (nI 0), .int (nI 0), .int (nI 0)]))]) := hD
        refine lv_dup hx hb dX9_clause_94 rfl ?_
        refine lv_iload_n hx hb dX9_clause_95 rfl (lv_at hl 3 rfl) ?_
        refine lv_iload_n hx hb dX9_clause_96 rfl (lv_at hl 1 rfl) ?_
        refine lv_iload hx hb dX9_clause_97 (lv_at hl 0 rfl) ?_
        refine lv_aload_n hx hb dX9_clause_99 rfl (lv_at hl 4 rfl) ?_
        by_cases hd3 : ((pp + 1) + 1) + 1 < sz ∧ 48 ≤ xt (((pp + 1) + 1) + 1) ∧ xt (((pp + 1) + 1) + 1) ≤ 57
        · skip
          refine ti_mV (As := []) (rest := [.int (nI (xt ((pp + 1) + 1) - 48)), .int (nI (xt (pp + 1) - 48)), .int (nI 43), .ref q1, .ref q1]) S hE hP hD hS hA [0, 1] rfl (met_X9_digit_ok l D E rd t ra xt sz (((pp + 1) + 1) + 1) mn hxt hsz (by omega) hd3) rfl (fun _ => rfl) (lw_V q520 q522 qs10 q79 q523) 0 rfl 0 rfl rfl (by decide +kernel) ⟨Nat.le_of_ble_eq_true rfl, Nat.le_of_ble_eq_true rfl⟩ hl.1 rfl (Nat.le_of_ble_eq_true rfl) ⟨Nat.le_of_ble_eq_true rfl, Nat.le_of_ble_eq_true rfl⟩ dX9_clause_100 (fun _ H locs hu hP hD hS => ?_)
          have hP : va_P D vwCl (ti_wRt E rd t ra xt sz ((((pp + 1) + 1) + 1) + 1) mn ++ [(q1, .inr (11, [.int (nI 0), .int (nI 0), .int (nI 0), .int (nI 0)]))]) H := hP
          have hD : va_D A (ti_wRt E rd t ra xt sz ((((pp + 1) + 1) + 1) + 1) mn ++ [(q1, .inr (11, [.int (nI 0), .int (nI 0), .int (nI 0), .int (nI 0)]))]) := hD
          refine W.eq (g2 := F0 m 103 ls [.int (nI (xt (((pp + 1) + 1) + 1) - 48)), .int (nI (xt ((pp + 1) + 1) - 48)), .int (nI (xt (pp + 1) - 48)), .int (nI 43), .ref q1, .ref q1]) rfl ?_
          refine ti_mI (As := [.int (nI 43), .int (nI (xt (pp + 1) - 48)), .int (nI (xt ((pp + 1) + 1) - 48)), .int (nI (xt (((pp + 1) + 1) + 1) - 48))]) (rest := [.ref q1]) S hE hP hD hS hA [2] rfl (met_X11_init l D E q1 43 (xt (pp + 1) - 48) (xt ((pp + 1) + 1) - 48) (xt (((pp + 1) + 1) + 1) - 48)) rfl (fun _ => rfl) (lw_meth q547) q81 q545 q546 rfl 4 rfl (by decide +kernel) ⟨Nat.le_of_ble_eq_true rfl, Nat.le_of_ble_eq_true rfl⟩ hl.1 rfl (Nat.le_of_ble_eq_true rfl) ⟨Nat.le_of_ble_eq_true rfl, Nat.le_of_ble_eq_true rfl⟩ dX9_clause_103 (fun _ H locs hu hP hD hS => ?_)
          have hP : va_P D vwCl (ti_wRt E rd t ra xt sz ((((pp + 1) + 1) + 1) + 1) mn ++ [(q1, .inr (11, [.int (nI 43), .int (nI (xt (pp + 1) - 48)), .int (nI (xt ((pp + 1) + 1) - 48)), .int (nI (xt (((pp + 1) + 1) + 1) - 48))]))]) H := hP
          have hD : va_D A (ti_wRt E rd t ra xt sz ((((pp + 1) + 1) + 1) + 1) mn ++ [(q1, .inr (11, [.int (nI 43), .int (nI (xt (pp + 1) - 48)), .int (nI (xt ((pp + 1) + 1) - 48)), .int (nI (xt (((pp + 1) + 1) + 1) - 48))]))]) := hD
          refine W.eq (g2 := F0 m 106 ls [.ref q1]) rfl ?_
          have hv9 : q1 = (fun u => u.1) ((q1, (43, ([xt (pp + 1) - 48, xt ((pp + 1) + 1) - 48, xt (((pp + 1) + 1) + 1) - 48] : List Nat)), (((pp + 1) + 1) + 1) + 1)) := rfl
          refine W.eq (g2 := F0 m 106 ls [.ref ((fun u => u.1) ((q1, (43, ([xt (pp + 1) - 48, xt ((pp + 1) + 1) - 48, xt (((pp + 1) + 1) + 1) - 48] : List Nat)), (((pp + 1) + 1) + 1) + 1)))]) (congrArg (fun z => F0 m 106 ls [.ref z]) hv9) ?_
          exact hret _ ((q1, (43, ([xt (pp + 1) - 48, xt ((pp + 1) + 1) - 48, xt (((pp + 1) + 1) + 1) - 48] : List Nat)), (((pp + 1) + 1) + 1) + 1)) _ _ _ _ (by show ti_c1 (ti_tl xt sz) pp = _; rw [ti_c1_k hp9 hk9, ti_ds_ok hd1, ti_ds_ok hd2, ti_ds_ok hd3, hx9]; rfl) hP hD (ti_nu1 g_q1 ti_nu0) hS (Nat.le_of_ble_eq_true rfl) (Nat.le_of_ble_eq_true rfl) (fun hq hf9 => W.aret hx hb hr (Or.inl ⟨_, rfl⟩) (Or.inr ⟨_, rfl⟩) hq hf9 dX9_clause_106 hlk)
        · skip
          have hsz1 := hS.1
          refine ti_callX (ty_runV (As := []) (rest := [.int (nI (xt ((pp + 1) + 1) - 48)), .int (nI (xt (pp + 1) - 48)), .int (nI 43), .ref q1, .ref q1]) S (met_X9_digit_x l D E htr z0 rd t ra xt sz (((pp + 1) + 1) + 1) mn hxt hsz (by omega) hd3 H.size) (cwV 0 S.2.2.2.2 (lw_V q520 q522 qs10 q79 q523) rfl rfl rfl (by decide +kernel) ⟨Nat.le_of_ble_eq_true rfl, Nat.le_of_ble_eq_true rfl⟩) (ti_preXV (xp := fun _ => True) hE hP hD hS rfl hZ hAz trivial [0, 1] rfl rfl 0 rfl rfl) rfl rfl hl.1 rfl (lv_room (Nat.le_of_ble_eq_true rfl)) dX9_clause_100 ⟨Nat.le_of_ble_eq_true rfl, Nat.le_of_ble_eq_true rfl⟩) hP hD hS hA [0, 1] rfl (fun _ => rfl) (fun _ => rfl) (fun _ _ _ h9 => absurd h9 id) (fun we H locs ce hpx hxx hFr hP hD hPe hnew hS hce hcv hcl => ?_)
          rw [hQ]
          exact ty_out (fun x hx9 => absurd (htab x hx9) id) hlk hce hcv hcl (fun t ht hal => ⟨(we.1, we.2, ((pp + 1) + 1) + 1, ((pp + 1) + 1) + 1), rfl, rfl, by rw [ti_c1_k hp9 hk9, ti_ds_ok hd1, ti_ds_ok hd2, ti_ds_no hd3]; rfl, by rw [ht]; exact ti_subC (is := [0, 1]) rfl hP, by rw [ht]; exact hPe, fun k9 z9 hz9 => Nat.le_trans hsz1 (hnew k9 z9 hz9), by rw [ht]; exact hxx, hS.F ht⟩) hS.2.2 (Nat.le_of_ble_eq_true rfl) (Nat.le_of_ble_eq_true rfl)
      · skip
        have hsz1 := hS.1
        refine ti_callX (ty_runV (As := []) (rest := []) S (met_X9_digit_x l D E htr z0 rd t ra xt sz ((pp + 1) + 1) mn hxt hsz (by omega) hd2 H.size) (cwV 0 S.2.2.2.2 (lw_V q520 q522 qs10 q79 q523) rfl rfl rfl (by decide +kernel) ⟨Nat.le_of_ble_eq_true rfl, Nat.le_of_ble_eq_true rfl⟩) (ti_preXV (xp := fun _ => True) hE hP hD hS rfl hZ hAz trivial [0, 1] rfl rfl 0 rfl rfl) rfl rfl hl.1 rfl (lv_room (Nat.le_of_ble_eq_true rfl)) dX9_clause_86 ⟨Nat.le_of_ble_eq_true rfl, Nat.le_of_ble_eq_true rfl⟩) hP hD hS hA [0, 1] rfl (fun _ => rfl) (fun _ => rfl) (fun _ _ _ h9 => absurd h9 id) (fun we H locs ce hpx hxx hFr hP hD hPe hnew hS hce hcv hcl => ?_)
        rw [hQ]
        exact ty_out (fun x hx9 => absurd (htab x hx9) id) hlk hce hcv hcl (fun t ht hal => ⟨(we.1, we.2, (pp + 1) + 1, (pp + 1) + 1), rfl, rfl, by rw [ti_c1_k hp9 hk9, ti_ds_ok hd1, ti_ds_no hd2]; rfl, by rw [ht]; exact ti_subC (is := [0, 1]) rfl hP, by rw [ht]; exact hPe, fun k9 z9 hz9 => Nat.le_trans hsz1 (hnew k9 z9 hz9), by rw [ht]; exact hxx, hS.F ht⟩) hS.2.2 (Nat.le_of_ble_eq_true rfl) (Nat.le_of_ble_eq_true rfl)
    · skip
      have hsz1 := hS.1
      refine ti_callX (ty_runV (As := []) (rest := []) S (met_X9_digit_x l D E htr z0 rd t ra xt sz (pp + 1) mn hxt hsz (by omega) hd1 H.size) (cwV 0 S.2.2.2.2 (lw_V q520 q522 qs10 q79 q523) rfl rfl rfl (by decide +kernel) ⟨Nat.le_of_ble_eq_true rfl, Nat.le_of_ble_eq_true rfl⟩) (ti_preXV (xp := fun _ => True) hE hP hD hS rfl hZ hAz trivial [0, 1] rfl rfl 0 rfl rfl) rfl rfl hl.1 rfl (lv_room (Nat.le_of_ble_eq_true rfl)) dX9_clause_81 ⟨Nat.le_of_ble_eq_true rfl, Nat.le_of_ble_eq_true rfl⟩) hP hD hS hA [0, 1] rfl (fun _ => rfl) (fun _ => rfl) (fun _ _ _ h9 => absurd h9 id) (fun we H locs ce hpx hxx hFr hP hD hPe hnew hS hce hcv hcl => ?_)
      rw [hQ]
      exact ty_out (fun x hx9 => absurd (htab x hx9) id) hlk hce hcv hcl (fun t ht hal => ⟨(we.1, we.2, pp + 1, pp + 1), rfl, rfl, by rw [ti_c1_k hp9 hk9, ti_ds_no hd1]; rfl, by rw [ht]; exact ti_subC (is := [0, 1]) rfl hP, by rw [ht]; exact hPe, fun k9 z9 hz9 => Nat.le_trans hsz1 (hnew k9 z9 hz9), by rw [ht]; exact hxx, hS.F ht⟩) hS.2.2 (Nat.le_of_ble_eq_true rfl) (Nat.le_of_ble_eq_true rfl)
  · skip
    by_cases sw21_1 : sg = 45
    · subst sw21_1
      refine lv_lookup (off := 86) (tgt := 107) hx hb dX9_clause_21 (by decide) (by decide) (by decide) ?_
      obtain ⟨hp9, hx9⟩ := ti_he_eq (c := 45) hxt (by decide) hsg
      have hk9 : ti_dg (xt pp) = some 2 := by rw [hx9]; decide
      have hl : lv_has ls 5 [(2, .int (nI pp)), (1, .int (nI 45)), (0, .ref rd)] := hl
      refine lv_aload_n hx hb dX9_clause_107 rfl (lv_at hl 2 rfl) ?_
      by_cases hd1 : pp + 1 < sz ∧ 48 ≤ xt (pp + 1) ∧ xt (pp + 1) ≤ 57
      · skip
        refine ti_mV (As := []) (rest := []) S hE hP hD hS hA [0, 1] rfl (met_X9_digit_ok l D E rd t ra xt sz (pp + 1) mn hxt hsz (by omega) hd1) rfl (fun _ => rfl) (lw_V q520 q522 qs10 q79 q523) 0 rfl 0 rfl rfl (by decide +kernel) ⟨Nat.le_of_ble_eq_true rfl, Nat.le_of_ble_eq_true rfl⟩ hl.1 rfl (Nat.le_of_ble_eq_true rfl) ⟨Nat.le_of_ble_eq_true rfl, Nat.le_of_ble_eq_true rfl⟩ dX9_clause_108 (fun _ H locs hu hP hD hS => ?_)
        have hP : va_P D vwCl (ti_wRt E rd t ra xt sz ((pp + 1) + 1) mn) H := hP
        have hD : va_D A (ti_wRt E rd t ra xt sz ((pp + 1) + 1) mn) := hD
        refine W.eq (g2 := F0 m 111 ls [.int (nI (xt (pp + 1) - 48))]) rfl ?_
        refine lv_istore_n (lv' := [(3, .int (nI (xt (pp + 1) - 48))), (2, .int (nI pp)), (1, .int (nI 45)), (0, .ref rd)]) hx hb dX9_clause_111 rfl hl (by decide) rfl (fun ls hl => ?_)
        have hb2 := hS.1
        refine ti_newM hx hb hts in_X11 tyX11 tyX11_ok hown (hts _ q490) (hts _ q544) (hts _ q81) hK hP hD hS hA (ci := 11) rfl ti_df11 (Nat.le_of_ble_eq_true rfl) (Nat.le_of_ble_eq_true rfl) dX9_clause_112 (fun q2 H hq2 hs2 hf2 ho2 hP hD hS => ?_)
        have g_q2 : s.heap.size ≤ q2 := by omega
        have hP : va_P D vwCl (ti_wRt E rd t ra xt sz ((pp + 1) + 1) mn ++ [(q2, .inr (11, [.int (nI 0), .int (nI 0), .int (nI 0), .int (nI 0)]))]) H := hP
        have hD : va_D A (ti_wRt E rd t ra xt sz ((pp + 1) + 1) mn ++ [(q2, .inr (11, [.int (nI 0), .int (nI 0), .int (nI 0), .int (nI 0)]))]) := hD
        refine lv_dup hx hb dX9_clause_115 rfl ?_
        refine lv_iload_n hx hb dX9_clause_116 rfl (lv_at hl 2 rfl) ?_
        refine lv_iload_n hx hb dX9_clause_117 rfl (lv_at hl 0 rfl) ?_
        refine lv_aload_n hx hb dX9_clause_118 rfl (lv_at hl 3 rfl) ?_
        by_cases hd2 : (pp + 1) + 1 < sz ∧ 48 ≤ xt ((pp + 1) + 1) ∧ xt ((pp + 1) + 1) ≤ 57
        · skip
          refine ti_mV (As := []) (rest := [.int (nI (xt (pp + 1) - 48)), .int (nI 45), .ref q2, .ref q2]) S hE hP hD hS hA [0, 1] rfl (met_X9_digit_ok l D E rd t ra xt sz ((pp + 1) + 1) mn hxt hsz (by omega) hd2) rfl (fun _ => rfl) (lw_V q520 q522 qs10 q79 q523) 0 rfl 0 rfl rfl (by decide +kernel) ⟨Nat.le_of_ble_eq_true rfl, Nat.le_of_ble_eq_true rfl⟩ hl.1 rfl (Nat.le_of_ble_eq_true rfl) ⟨Nat.le_of_ble_eq_true rfl, Nat.le_of_ble_eq_true rfl⟩ dX9_clause_119 (fun _ H locs hu hP hD hS => ?_)
          have hP : va_P D vwCl (ti_wRt E rd t ra xt sz (((pp + 1) + 1) + 1) mn ++ [(q2, .inr (11, [.int (nI 0), .int (nI 0), .int (nI 0), .int (nI 0)]))]) H := hP
          have hD : va_D A (ti_wRt E rd t ra xt sz (((pp + 1) + 1) + 1) mn ++ [(q2, .inr (11, [.int (nI 0), .int (nI 0), .int (nI 0), .int (nI 0)]))]) := hD
          refine W.eq (g2 := F0 m 122 ls [.int (nI (xt ((pp + 1) + 1) - 48)), .int (nI (xt (pp + 1) - 48)), .int (nI 45), .ref q2, .ref q2]) rfl ?_
          refine lv_iconst (v := nI 0) hx hb dX9_clause_122 (by decide) ?_
          refine ti_mI (As := [.int (nI 45), .int (nI (xt (pp + 1) - 48)), .int (nI (xt ((pp + 1) + 1) - 48)), .int (nI 0)]) (rest := [.ref q2]) S hE hP hD hS hA [2] rfl (met_X11_init l D E q2 45 (xt (pp + 1) - 48) (xt ((pp + 1) + 1) - 48) 0) rfl (fun _ => rfl) (lw_meth q547) q81 q545 q546 rfl 4 rfl (by decide +kernel) ⟨Nat.le_of_ble_eq_true rfl, Nat.le_of_ble_eq_true rfl⟩ hl.1 rfl (Nat.le_of_ble_eq_true rfl) ⟨Nat.le_of_ble_eq_true rfl, Nat.le_of_ble_eq_true rfl⟩ dX9_clause_123 (fun _ H locs hu hP hD hS => ?_)
          have hP : va_P D vwCl (ti_wRt E rd t ra xt sz (((pp + 1) + 1) + 1) mn ++ [(q2, .inr (11, [.int (nI 45), .int (nI (xt (pp + 1) - 48)), .int (nI (xt ((pp + 1) + 1) - 48)), .int (nI 0)]))]) H := hP
          have hD : va_D A (ti_wRt E rd t ra xt sz (((pp + 1) + 1) + 1) mn ++ [(q2, .inr (11, [.int (nI 45), .int (nI (xt (pp + 1) - 48)), .int (nI (xt ((pp + 1) + 1) - 48)), .int (nI 0)]))]) := hD
          refine W.eq (g2 := F0 m 126 ls [.ref q2]) rfl ?_
          have hv9 : q2 = (fun u => u.1) ((q2, (45, ([xt (pp + 1) - 48, xt ((pp + 1) + 1) - 48] : List Nat)), ((pp + 1) + 1) + 1)) := rfl
          refine W.eq (g2 := F0 m 126 ls [.ref ((fun u => u.1) ((q2, (45, ([xt (pp + 1) - 48, xt ((pp + 1) + 1) - 48] : List Nat)), ((pp + 1) + 1) + 1)))]) (congrArg (fun z => F0 m 126 ls [.ref z]) hv9) ?_
          exact hret _ ((q2, (45, ([xt (pp + 1) - 48, xt ((pp + 1) + 1) - 48] : List Nat)), ((pp + 1) + 1) + 1)) _ _ _ _ (by show ti_c1 (ti_tl xt sz) pp = _; rw [ti_c1_k hp9 hk9, ti_ds_ok hd1, ti_ds_ok hd2, hx9]; rfl) hP hD (ti_nu1 g_q2 ti_nu0) hS (Nat.le_of_ble_eq_true rfl) (Nat.le_of_ble_eq_true rfl) (fun hq hf9 => W.aret hx hb hr (Or.inl ⟨_, rfl⟩) (Or.inr ⟨_, rfl⟩) hq hf9 dX9_clause_126 hlk)
        · skip
          have hsz1 := hS.1
          refine ti_callX (ty_runV (As := []) (rest := [.int (nI (xt (pp + 1) - 48)), .int (nI 45), .ref q2, .ref q2]) S (met_X9_digit_x l D E htr z0 rd t ra xt sz ((pp + 1) + 1) mn hxt hsz (by omega) hd2 H.size) (cwV 0 S.2.2.2.2 (lw_V q520 q522 qs10 q79 q523) rfl rfl rfl (by decide +kernel) ⟨Nat.le_of_ble_eq_true rfl, Nat.le_of_ble_eq_true rfl⟩) (ti_preXV (xp := fun _ => True) hE hP hD hS rfl hZ hAz trivial [0, 1] rfl rfl 0 rfl rfl) rfl rfl hl.1 rfl (lv_room (Nat.le_of_ble_eq_true rfl)) dX9_clause_119 ⟨Nat.le_of_ble_eq_true rfl, Nat.le_of_ble_eq_true rfl⟩) hP hD hS hA [0, 1] rfl (fun _ => rfl) (fun _ => rfl) (fun _ _ _ h9 => absurd h9 id) (fun we H locs ce hpx hxx hFr hP hD hPe hnew hS hce hcv hcl => ?_)
          rw [hQ]
          exact ty_out (fun x hx9 => absurd (htab x hx9) id) hlk hce hcv hcl (fun t ht hal => ⟨(we.1, we.2, (pp + 1) + 1, (pp + 1) + 1), rfl, rfl, by rw [ti_c1_k hp9 hk9, ti_ds_ok hd1, ti_ds_no hd2]; rfl, by rw [ht]; exact ti_subC (is := [0, 1]) rfl hP, by rw [ht]; exact hPe, fun k9 z9 hz9 => Nat.le_trans hsz1 (hnew k9 z9 hz9), by rw [ht]; exact hxx, hS.F ht⟩) hS.2.2 (Nat.le_of_ble_eq_true rfl) (Nat.le_of_ble_eq_true rfl)
      · skip
        have hsz1 := hS.1
        refine ti_callX (ty_runV (As := []) (rest := []) S (met_X9_digit_x l D E htr z0 rd t ra xt sz (pp + 1) mn hxt hsz (by omega) hd1 H.size) (cwV 0 S.2.2.2.2 (lw_V q520 q522 qs10 q79 q523) rfl rfl rfl (by decide +kernel) ⟨Nat.le_of_ble_eq_true rfl, Nat.le_of_ble_eq_true rfl⟩) (ti_preXV (xp := fun _ => True) hE hP hD hS rfl hZ hAz trivial [0, 1] rfl rfl 0 rfl rfl) rfl rfl hl.1 rfl (lv_room (Nat.le_of_ble_eq_true rfl)) dX9_clause_108 ⟨Nat.le_of_ble_eq_true rfl, Nat.le_of_ble_eq_true rfl⟩) hP hD hS hA [0, 1] rfl (fun _ => rfl) (fun _ => rfl) (fun _ _ _ h9 => absurd h9 id) (fun we H locs ce hpx hxx hFr hP hD hPe hnew hS hce hcv hcl => ?_)
        rw [hQ]
        exact ty_out (fun x hx9 => absurd (htab x hx9) id) hlk hce hcv hcl (fun t ht hal => ⟨(we.1, we.2, pp + 1, pp + 1), rfl, rfl, by rw [ti_c1_k hp9 hk9, ti_ds_no hd1]; rfl, by rw [ht]; exact ti_subC (is := [0, 1]) rfl hP, by rw [ht]; exact hPe, fun k9 z9 hz9 => Nat.le_trans hsz1 (hnew k9 z9 hz9), by rw [ht]; exact hxx, hS.F ht⟩) hS.2.2 (Nat.le_of_ble_eq_true rfl) (Nat.le_of_ble_eq_true rfl)
    · skip
      by_cases sw21_2 : sg = 99
      · subst sw21_2
        refine lv_lookup (off := 106) (tgt := 127) hx hb dX9_clause_21 (by decide) (by decide) (by decide) ?_
        obtain ⟨hp9, hx9⟩ := ti_he_eq (c := 99) hxt (by decide) hsg
        have hk9 : ti_dg (xt pp) = some 1 := by rw [hx9]; decide
        have hl : lv_has ls 5 [(2, .int (nI pp)), (1, .int (nI 99)), (0, .ref rd)] := hl
        have hb3 := hS.1
        refine ti_newM hx hb hts in_X11 tyX11 tyX11_ok hown (hts _ q490) (hts _ q544) (hts _ q81) hK hP hD hS hA (ci := 11) rfl ti_df11 (Nat.le_of_ble_eq_true rfl) (Nat.le_of_ble_eq_true rfl) dX9_clause_127 (fun q3 H hq3 hs3 hf3 ho3 hP hD hS => ?_)
        have g_q3 : s.heap.size ≤ q3 := by omega
        have hP : va_P D vwCl (ti_wRt E rd t ra xt sz (pp + 1) mn ++ [(q3, .inr (11, [.int (nI 0), .int (nI 0), .int (nI 0), .int (nI 0)]))]) H := hP
        have hD : va_D A (ti_wRt E rd t ra xt sz (pp + 1) mn ++ [(q3, .inr (11, [.int (nI 0), .int (nI 0), .int (nI 0), .int (nI 0)]))]) := hD
        refine lv_dup hx hb dX9_clause_130 rfl ?_
        refine lv_iload_n hx hb dX9_clause_131 rfl (lv_at hl 1 rfl) ?_
        refine lv_aload_n hx hb dX9_clause_132 rfl (lv_at hl 2 rfl) ?_
        by_cases hd1 : pp + 1 < sz ∧ 48 ≤ xt (pp + 1) ∧ xt (pp + 1) ≤ 57
        · skip
          refine ti_mV (As := []) (rest := [.int (nI 99), .ref q3, .ref q3]) S hE hP hD hS hA [0, 1] rfl (met_X9_digit_ok l D E rd t ra xt sz (pp + 1) mn hxt hsz (by omega) hd1) rfl (fun _ => rfl) (lw_V q520 q522 qs10 q79 q523) 0 rfl 0 rfl rfl (by decide +kernel) ⟨Nat.le_of_ble_eq_true rfl, Nat.le_of_ble_eq_true rfl⟩ hl.1 rfl (Nat.le_of_ble_eq_true rfl) ⟨Nat.le_of_ble_eq_true rfl, Nat.le_of_ble_eq_true rfl⟩ dX9_clause_133 (fun _ H locs hu hP hD hS => ?_)
          have hP : va_P D vwCl (ti_wRt E rd t ra xt sz ((pp + 1) + 1) mn ++ [(q3, .inr (11, [.int (nI 0), .int (nI 0), .int (nI 0), .int (nI 0)]))]) H := hP
          have hD : va_D A (ti_wRt E rd t ra xt sz ((pp + 1) + 1) mn ++ [(q3, .inr (11, [.int (nI 0), .int (nI 0), .int (nI 0), .int (nI 0)]))]) := hD
          refine W.eq (g2 := F0 m 136 ls [.int (nI (xt (pp + 1) - 48)), .int (nI 99), .ref q3, .ref q3]) rfl ?_
          refine lv_iconst (v := nI 0) hx hb dX9_clause_136 (by decide) ?_
          refine lv_iconst (v := nI 0) hx hb dX9_clause_137 (by decide) ?_
          refine ti_mI (As := [.int (nI 99), .int (nI (xt (pp + 1) - 48)), .int (nI 0), .int (nI 0)]) (rest := [.ref q3]) S hE hP hD hS hA [2] rfl (met_X11_init l D E q3 99 (xt (pp + 1) - 48) 0 0) rfl (fun _ => rfl) (lw_meth q547) q81 q545 q546 rfl 4 rfl (by decide +kernel) ⟨Nat.le_of_ble_eq_true rfl, Nat.le_of_ble_eq_true rfl⟩ hl.1 rfl (Nat.le_of_ble_eq_true rfl) ⟨Nat.le_of_ble_eq_true rfl, Nat.le_of_ble_eq_true rfl⟩ dX9_clause_138 (fun _ H locs hu hP hD hS => ?_)
          have hP : va_P D vwCl (ti_wRt E rd t ra xt sz ((pp + 1) + 1) mn ++ [(q3, .inr (11, [.int (nI 99), .int (nI (xt (pp + 1) - 48)), .int (nI 0), .int (nI 0)]))]) H := hP
          have hD : va_D A (ti_wRt E rd t ra xt sz ((pp + 1) + 1) mn ++ [(q3, .inr (11, [.int (nI 99), .int (nI (xt (pp + 1) - 48)), .int (nI 0), .int (nI 0)]))]) := hD
          refine W.eq (g2 := F0 m 141 ls [.ref q3]) rfl ?_
          have hv9 : q3 = (fun u => u.1) ((q3, (99, ([xt (pp + 1) - 48] : List Nat)), (pp + 1) + 1)) := rfl
          refine W.eq (g2 := F0 m 141 ls [.ref ((fun u => u.1) ((q3, (99, ([xt (pp + 1) - 48] : List Nat)), (pp + 1) + 1)))]) (congrArg (fun z => F0 m 141 ls [.ref z]) hv9) ?_
          exact hret _ ((q3, (99, ([xt (pp + 1) - 48] : List Nat)), (pp + 1) + 1)) _ _ _ _ (by show ti_c1 (ti_tl xt sz) pp = _; rw [ti_c1_k hp9 hk9, ti_ds_ok hd1, hx9]; rfl) hP hD (ti_nu1 g_q3 ti_nu0) hS (Nat.le_of_ble_eq_true rfl) (Nat.le_of_ble_eq_true rfl) (fun hq hf9 => W.aret hx hb hr (Or.inl ⟨_, rfl⟩) (Or.inr ⟨_, rfl⟩) hq hf9 dX9_clause_141 hlk)
        · skip
          have hsz1 := hS.1
          refine ti_callX (ty_runV (As := []) (rest := [.int (nI 99), .ref q3, .ref q3]) S (met_X9_digit_x l D E htr z0 rd t ra xt sz (pp + 1) mn hxt hsz (by omega) hd1 H.size) (cwV 0 S.2.2.2.2 (lw_V q520 q522 qs10 q79 q523) rfl rfl rfl (by decide +kernel) ⟨Nat.le_of_ble_eq_true rfl, Nat.le_of_ble_eq_true rfl⟩) (ti_preXV (xp := fun _ => True) hE hP hD hS rfl hZ hAz trivial [0, 1] rfl rfl 0 rfl rfl) rfl rfl hl.1 rfl (lv_room (Nat.le_of_ble_eq_true rfl)) dX9_clause_133 ⟨Nat.le_of_ble_eq_true rfl, Nat.le_of_ble_eq_true rfl⟩) hP hD hS hA [0, 1] rfl (fun _ => rfl) (fun _ => rfl) (fun _ _ _ h9 => absurd h9 id) (fun we H locs ce hpx hxx hFr hP hD hPe hnew hS hce hcv hcl => ?_)
          rw [hQ]
          exact ty_out (fun x hx9 => absurd (htab x hx9) id) hlk hce hcv hcl (fun t ht hal => ⟨(we.1, we.2, pp + 1, pp + 1), rfl, rfl, by rw [ti_c1_k hp9 hk9, ti_ds_no hd1]; rfl, by rw [ht]; exact ti_subC (is := [0, 1]) rfl hP, by rw [ht]; exact hPe, fun k9 z9 hz9 => Nat.le_trans hsz1 (hnew k9 z9 hz9), by rw [ht]; exact hxx, hS.F ht⟩) hS.2.2 (Nat.le_of_ble_eq_true rfl) (Nat.le_of_ble_eq_true rfl)
      · skip
        by_cases sw21_3 : sg = 109
        · subst sw21_3
          refine lv_lookup (off := 106) (tgt := 127) hx hb dX9_clause_21 (by decide) (by decide) (by decide) ?_
          obtain ⟨hp9, hx9⟩ := ti_he_eq (c := 109) hxt (by decide) hsg
          have hk9 : ti_dg (xt pp) = some 1 := by rw [hx9]; decide
          have hl : lv_has ls 5 [(2, .int (nI pp)), (1, .int (nI 109)), (0, .ref rd)] := hl
          have hb4 := hS.1
          refine ti_newM hx hb hts in_X11 tyX11 tyX11_ok hown (hts _ q490) (hts _ q544) (hts _ q81) hK hP hD hS hA (ci := 11) rfl ti_df11 (Nat.le_of_ble_eq_true rfl) (Nat.le_of_ble_eq_true rfl) dX9_clause_127 (fun q4 H hq4 hs4 hf4 ho4 hP hD hS => ?_)
          have g_q4 : s.heap.size ≤ q4 := by omega
          have hP : va_P D vwCl (ti_wRt E rd t ra xt sz (pp + 1) mn ++ [(q4, .inr (11, [.int (nI 0), .int (nI 0), .int (nI 0), .int (nI 0)]))]) H := hP
          have hD : va_D A (ti_wRt E rd t ra xt sz (pp + 1) mn ++ [(q4, .inr (11, [.int (nI 0), .int (nI 0), .int (nI 0), .int (nI 0)]))]) := hD
          refine lv_dup hx hb dX9_clause_130 rfl ?_
          refine lv_iload_n hx hb dX9_clause_131 rfl (lv_at hl 1 rfl) ?_
          refine lv_aload_n hx hb dX9_clause_132 rfl (lv_at hl 2 rfl) ?_
          by_cases hd1 : pp + 1 < sz ∧ 48 ≤ xt (pp + 1) ∧ xt (pp + 1) ≤ 57
          · skip
            refine ti_mV (As := []) (rest := [.int (nI 109), .ref q4, .ref q4]) S hE hP hD hS hA [0, 1] rfl (met_X9_digit_ok l D E rd t ra xt sz (pp + 1) mn hxt hsz (by omega) hd1) rfl (fun _ => rfl) (lw_V q520 q522 qs10 q79 q523) 0 rfl 0 rfl rfl (by decide +kernel) ⟨Nat.le_of_ble_eq_true rfl, Nat.le_of_ble_eq_true rfl⟩ hl.1 rfl (Nat.le_of_ble_eq_true rfl) ⟨Nat.le_of_ble_eq_true rfl, Nat.le_of_ble_eq_true rfl⟩ dX9_clause_133 (fun _ H locs hu hP hD hS => ?_)
            have hP : va_P D vwCl (ti_wRt E rd t ra xt sz ((pp + 1) + 1) mn ++ [(q4, .inr (11, [.int (nI 0), .int (nI 0), .int (nI 0), .int (nI 0)]))]) H := hP
            have hD : va_D A (ti_wRt E rd t ra xt sz ((pp + 1) + 1) mn ++ [(q4, .inr (11, [.int (nI 0), .int (nI 0), .int (nI 0), .int (nI 0)]))]) := hD
            refine W.eq (g2 := F0 m 136 ls [.int (nI (xt (pp + 1) - 48)), .int (nI 109), .ref q4, .ref q4]) rfl ?_
            refine lv_iconst (v := nI 0) hx hb dX9_clause_136 (by decide) ?_
            refine lv_iconst (v := nI 0) hx hb dX9_clause_137 (by decide) ?_
            refine ti_mI (As := [.int (nI 109), .int (nI (xt (pp + 1) - 48)), .int (nI 0), .int (nI 0)]) (rest := [.ref q4]) S hE hP hD hS hA [2] rfl (met_X11_init l D E q4 109 (xt (pp + 1) - 48) 0 0) rfl (fun _ => rfl) (lw_meth q547) q81 q545 q546 rfl 4 rfl (by decide +kernel) ⟨Nat.le_of_ble_eq_true rfl, Nat.le_of_ble_eq_true rfl⟩ hl.1 rfl (Nat.le_of_ble_eq_true rfl) ⟨Nat.le_of_ble_eq_true rfl, Nat.le_of_ble_eq_true rfl⟩ dX9_clause_138 (fun _ H locs hu hP hD hS => ?_)
            have hP : va_P D vwCl (ti_wRt E rd t ra xt sz ((pp + 1) + 1) mn ++ [(q4, .inr (11, [.int (nI 109), .int (nI (xt (pp + 1) - 48)), .int (nI 0), .int (nI 0)]))]) H := hP
            have hD : va_D A (ti_wRt E rd t ra xt sz ((pp + 1) + 1) mn ++ [(q4, .inr (11, [.int (nI 109), .int (nI (xt (pp + 1) - 48)), .int (nI 0), .int (nI 0)]))]) := hD
            refine W.eq (g2 := F0 m 141 ls [.ref q4]) rfl ?_
            have hv9 : q4 = (fun u => u.1) ((q4, (109, ([xt (pp + 1) - 48] : List Nat)), (pp + 1) + 1)) := rfl
            refine W.eq (g2 := F0 m 141 ls [.ref ((fun u => u.1) ((q4, (109, ([xt (pp + 1) - 48] : List Nat)), (pp + 1) + 1)))]) (congrArg (fun z => F0 m 141 ls [.ref z]) hv9) ?_
            exact hret _ ((q4, (109, ([xt (pp + 1) - 48] : List Nat)), (pp + 1) + 1)) _ _ _ _ (by show ti_c1 (ti_tl xt sz) pp = _; rw [ti_c1_k hp9 hk9, ti_ds_ok hd1, hx9]; rfl) hP hD (ti_nu1 g_q4 ti_nu0) hS (Nat.le_of_ble_eq_true rfl) (Nat.le_of_ble_eq_true rfl) (fun hq hf9 => W.aret hx hb hr (Or.inl ⟨_, rfl⟩) (Or.inr ⟨_, rfl⟩) hq hf9 dX9_clause_141 hlk)
          · skip
            have hsz1 := hS.1
            refine ti_callX (ty_runV (As := []) (rest := [.int (nI 109), .ref q4, .ref q4]) S (met_X9_digit_x l D E htr z0 rd t ra xt sz (pp + 1) mn hxt hsz (by omega) hd1 H.size) (cwV 0 S.2.2.2.2 (lw_V q520 q522 qs10 q79 q523) rfl rfl rfl (by decide +kernel) ⟨Nat.le_of_ble_eq_true rfl, Nat.le_of_ble_eq_true rfl⟩) (ti_preXV (xp := fun _ => True) hE hP hD hS rfl hZ hAz trivial [0, 1] rfl rfl 0 rfl rfl) rfl rfl hl.1 rfl (lv_room (Nat.le_of_ble_eq_true rfl)) dX9_clause_133 ⟨Nat.le_of_ble_eq_true rfl, Nat.le_of_ble_eq_true rfl⟩) hP hD hS hA [0, 1] rfl (fun _ => rfl) (fun _ => rfl) (fun _ _ _ h9 => absurd h9 id) (fun we H locs ce hpx hxx hFr hP hD hPe hnew hS hce hcv hcl => ?_)
            rw [hQ]
            exact ty_out (fun x hx9 => absurd (htab x hx9) id) hlk hce hcv hcl (fun t ht hal => ⟨(we.1, we.2, pp + 1, pp + 1), rfl, rfl, by rw [ti_c1_k hp9 hk9, ti_ds_no hd1]; rfl, by rw [ht]; exact ti_subC (is := [0, 1]) rfl hP, by rw [ht]; exact hPe, fun k9 z9 hz9 => Nat.le_trans hsz1 (hnew k9 z9 hz9), by rw [ht]; exact hxx, hS.F ht⟩) hS.2.2 (Nat.le_of_ble_eq_true rfl) (Nat.le_of_ble_eq_true rfl)
        · skip
          by_cases sw21_4 : sg = 117
          · subst sw21_4
            refine lv_lookup (off := 121) (tgt := 142) hx hb dX9_clause_21 (by decide) (by decide) (by decide) ?_
            obtain ⟨hp9, hx9⟩ := ti_he_eq (c := 117) hxt (by decide) hsg
            have hk9 : ti_dg (xt pp) = some 0 := by rw [hx9]; decide
            have hl : lv_has ls 5 [(2, .int (nI pp)), (1, .int (nI 117)), (0, .ref rd)] := hl
            have hb5 := hS.1
            refine ti_newM hx hb hts in_X11 tyX11 tyX11_ok hown (hts _ q490) (hts _ q544) (hts _ q81) hK hP hD hS hA (ci := 11) rfl ti_df11 (Nat.le_of_ble_eq_true rfl) (Nat.le_of_ble_eq_true rfl) dX9_clause_142 (fun q5 H hq5 hs5 hf5 ho5 hP hD hS => ?_)
            have g_q5 : s.heap.size ≤ q5 := by omega
            have hP : va_P D vwCl (ti_wRt E rd t ra xt sz (pp + 1) mn ++ [(q5, .inr (11, [.int (nI 0), .int (nI 0), .int (nI 0), .int (nI 0)]))]) H := hP
            have hD : va_D A (ti_wRt E rd t ra xt sz (pp + 1) mn ++ [(q5, .inr (11, [.int (nI 0), .int (nI 0), .int (nI 0), .int (nI 0)]))]) := hD
            refine lv_dup hx hb dX9_clause_145 rfl ?_
            refine lv_iload_n hx hb dX9_clause_146 rfl (lv_at hl 1 rfl) ?_
            refine lv_iconst (v := nI 0) hx hb dX9_clause_147 (by decide) ?_
            refine lv_iconst (v := nI 0) hx hb dX9_clause_148 (by decide) ?_
            refine lv_iconst (v := nI 0) hx hb dX9_clause_149 (by decide) ?_
            refine ti_mI (As := [.int (nI 117), .int (nI 0), .int (nI 0), .int (nI 0)]) (rest := [.ref q5]) S hE hP hD hS hA [2] rfl (met_X11_init l D E q5 117 0 0 0) rfl (fun _ => rfl) (lw_meth q547) q81 q545 q546 rfl 4 rfl (by decide +kernel) ⟨Nat.le_of_ble_eq_true rfl, Nat.le_of_ble_eq_true rfl⟩ hl.1 rfl (Nat.le_of_ble_eq_true rfl) ⟨Nat.le_of_ble_eq_true rfl, Nat.le_of_ble_eq_true rfl⟩ dX9_clause_150 (fun _ H locs hu hP hD hS => ?_)
            have hP : va_P D vwCl (ti_wRt E rd t ra xt sz (pp + 1) mn ++ [(q5, .inr (11, [.int (nI 117), .int (nI 0), .int (nI 0), .int (nI 0)]))]) H := hP
            have hD : va_D A (ti_wRt E rd t ra xt sz (pp + 1) mn ++ [(q5, .inr (11, [.int (nI 117), .int (nI 0), .int (nI 0), .int (nI 0)]))]) := hD
            refine W.eq (g2 := F0 m 153 ls [.ref q5]) rfl ?_
            have hv9 : q5 = (fun u => u.1) ((q5, (117, ([] : List Nat)), pp + 1)) := rfl
            refine W.eq (g2 := F0 m 153 ls [.ref ((fun u => u.1) ((q5, (117, ([] : List Nat)), pp + 1)))]) (congrArg (fun z => F0 m 153 ls [.ref z]) hv9) ?_
            exact hret _ ((q5, (117, ([] : List Nat)), pp + 1)) _ _ _ _ (by show ti_c1 (ti_tl xt sz) pp = _; rw [ti_c1_k hp9 hk9, hx9]; rfl) hP hD (ti_nu1 g_q5 ti_nu0) hS (Nat.le_of_ble_eq_true rfl) (Nat.le_of_ble_eq_true rfl) (fun hq hf9 => W.aret hx hb hr (Or.inl ⟨_, rfl⟩) (Or.inr ⟨_, rfl⟩) hq hf9 dX9_clause_153 hlk)
          · skip
            by_cases sw21_5 : sg = 122
            · subst sw21_5
              refine lv_lookup (off := 106) (tgt := 127) hx hb dX9_clause_21 (by decide) (by decide) (by decide) ?_
              obtain ⟨hp9, hx9⟩ := ti_he_eq (c := 122) hxt (by decide) hsg
              have hk9 : ti_dg (xt pp) = some 1 := by rw [hx9]; decide
              have hl : lv_has ls 5 [(2, .int (nI pp)), (1, .int (nI 122)), (0, .ref rd)] := hl
              have hb6 := hS.1
              refine ti_newM hx hb hts in_X11 tyX11 tyX11_ok hown (hts _ q490) (hts _ q544) (hts _ q81) hK hP hD hS hA (ci := 11) rfl ti_df11 (Nat.le_of_ble_eq_true rfl) (Nat.le_of_ble_eq_true rfl) dX9_clause_127 (fun q6 H hq6 hs6 hf6 ho6 hP hD hS => ?_)
              have g_q6 : s.heap.size ≤ q6 := by omega
              have hP : va_P D vwCl (ti_wRt E rd t ra xt sz (pp + 1) mn ++ [(q6, .inr (11, [.int (nI 0), .int (nI 0), .int (nI 0), .int (nI 0)]))]) H := hP
              have hD : va_D A (ti_wRt E rd t ra xt sz (pp + 1) mn ++ [(q6, .inr (11, [.int (nI 0), .int (nI 0), .int (nI 0), .int (nI 0)]))]) := hD
              refine lv_dup hx hb dX9_clause_130 rfl ?_
              refine lv_iload_n hx hb dX9_clause_131 rfl (lv_at hl 1 rfl) ?_
              refine lv_aload_n hx hb dX9_clause_132 rfl (lv_at hl 2 rfl) ?_
              by_cases hd1 : pp + 1 < sz ∧ 48 ≤ xt (pp + 1) ∧ xt (pp + 1) ≤ 57
              · skip
                refine ti_mV (As := []) (rest := [.int (nI 122), .ref q6, .ref q6]) S hE hP hD hS hA [0, 1] rfl (met_X9_digit_ok l D E rd t ra xt sz (pp + 1) mn hxt hsz (by omega) hd1) rfl (fun _ => rfl) (lw_V q520 q522 qs10 q79 q523) 0 rfl 0 rfl rfl (by decide +kernel) ⟨Nat.le_of_ble_eq_true rfl, Nat.le_of_ble_eq_true rfl⟩ hl.1 rfl (Nat.le_of_ble_eq_true rfl) ⟨Nat.le_of_ble_eq_true rfl, Nat.le_of_ble_eq_true rfl⟩ dX9_clause_133 (fun _ H locs hu hP hD hS => ?_)
                have hP : va_P D vwCl (ti_wRt E rd t ra xt sz ((pp + 1) + 1) mn ++ [(q6, .inr (11, [.int (nI 0), .int (nI 0), .int (nI 0), .int (nI 0)]))]) H := hP
                have hD : va_D A (ti_wRt E rd t ra xt sz ((pp + 1) + 1) mn ++ [(q6, .inr (11, [.int (nI 0), .int (nI 0), .int (nI 0), .int (nI 0)]))]) := hD
                refine W.eq (g2 := F0 m 136 ls [.int (nI (xt (pp + 1) - 48)), .int (nI 122), .ref q6, .ref q6]) rfl ?_
                refine lv_iconst (v := nI 0) hx hb dX9_clause_136 (by decide) ?_
                refine lv_iconst (v := nI 0) hx hb dX9_clause_137 (by decide) ?_
                refine ti_mI (As := [.int (nI 122), .int (nI (xt (pp + 1) - 48)), .int (nI 0), .int (nI 0)]) (rest := [.ref q6]) S hE hP hD hS hA [2] rfl (met_X11_init l D E q6 122 (xt (pp + 1) - 48) 0 0) rfl (fun _ => rfl) (lw_meth q547) q81 q545 q546 rfl 4 rfl (by decide +kernel) ⟨Nat.le_of_ble_eq_true rfl, Nat.le_of_ble_eq_true rfl⟩ hl.1 rfl (Nat.le_of_ble_eq_true rfl) ⟨Nat.le_of_ble_eq_true rfl, Nat.le_of_ble_eq_true rfl⟩ dX9_clause_138 (fun _ H locs hu hP hD hS => ?_)
                have hP : va_P D vwCl (ti_wRt E rd t ra xt sz ((pp + 1) + 1) mn ++ [(q6, .inr (11, [.int (nI 122), .int (nI (xt (pp + 1) - 48)), .int (nI 0), .int (nI 0)]))]) H := hP
                have hD : va_D A (ti_wRt E rd t ra xt sz ((pp + 1) + 1) mn ++ [(q6, .inr (11, [.int (nI 122), .int (nI (xt (pp + 1) - 48)), .int (nI 0), .int (nI 0)]))]) := hD
                refine W.eq (g2 := F0 m 141 ls [.ref q6]) rfl ?_
                have hv9 : q6 = (fun u => u.1) ((q6, (122, ([xt (pp + 1) - 48] : List Nat)), (pp + 1) + 1)) := rfl
                refine W.eq (g2 := F0 m 141 ls [.ref ((fun u => u.1) ((q6, (122, ([xt (pp + 1) - 48] : List Nat)), (pp + 1) + 1)))]) (congrArg (fun z => F0 m 141 ls [.ref z]) hv9) ?_
                exact hret _ ((q6, (122, ([xt (pp + 1) - 48] : List Nat)), (pp + 1) + 1)) _ _ _ _ (by show ti_c1 (ti_tl xt sz) pp = _; rw [ti_c1_k hp9 hk9, ti_ds_ok hd1, hx9]; rfl) hP hD (ti_nu1 g_q6 ti_nu0) hS (Nat.le_of_ble_eq_true rfl) (Nat.le_of_ble_eq_true rfl) (fun hq hf9 => W.aret hx hb hr (Or.inl ⟨_, rfl⟩) (Or.inr ⟨_, rfl⟩) hq hf9 dX9_clause_141 hlk)
              · skip
                have hsz1 := hS.1
                refine ti_callX (ty_runV (As := []) (rest := [.int (nI 122), .ref q6, .ref q6]) S (met_X9_digit_x l D E htr z0 rd t ra xt sz (pp + 1) mn hxt hsz (by omega) hd1 H.size) (cwV 0 S.2.2.2.2 (lw_V q520 q522 qs10 q79 q523) rfl rfl rfl (by decide +kernel) ⟨Nat.le_of_ble_eq_true rfl, Nat.le_of_ble_eq_true rfl⟩) (ti_preXV (xp := fun _ => True) hE hP hD hS rfl hZ hAz trivial [0, 1] rfl rfl 0 rfl rfl) rfl rfl hl.1 rfl (lv_room (Nat.le_of_ble_eq_true rfl)) dX9_clause_133 ⟨Nat.le_of_ble_eq_true rfl, Nat.le_of_ble_eq_true rfl⟩) hP hD hS hA [0, 1] rfl (fun _ => rfl) (fun _ => rfl) (fun _ _ _ h9 => absurd h9 id) (fun we H locs ce hpx hxx hFr hP hD hPe hnew hS hce hcv hcl => ?_)
                rw [hQ]
                exact ty_out (fun x hx9 => absurd (htab x hx9) id) hlk hce hcv hcl (fun t ht hal => ⟨(we.1, we.2, pp + 1, pp + 1), rfl, rfl, by rw [ti_c1_k hp9 hk9, ti_ds_no hd1]; rfl, by rw [ht]; exact ti_subC (is := [0, 1]) rfl hP, by rw [ht]; exact hPe, fun k9 z9 hz9 => Nat.le_trans hsz1 (hnew k9 z9 hz9), by rw [ht]; exact hxx, hS.F ht⟩) hS.2.2 (Nat.le_of_ble_eq_true rfl) (Nat.le_of_ble_eq_true rfl)
            · skip
              refine lv_lookup (off := 133) (tgt := 154) hx hb dX9_clause_21 (by decide) (by show Op.lookupswitch.offset [(43, 59), (45, 86), (99, 106), (109, 106), (117, 121), (122, 106)] _ _ = _; rw [lv_osw (a := 43) sw21_0 (by decide), lv_osw (a := 45) sw21_1 (by decide), lv_osw (a := 99) sw21_2 (by decide), lv_osw (a := 109) sw21_3 (by decide), lv_osw (a := 117) sw21_4 (by decide), lv_osw (a := 122) sw21_5 (by decide)]; rfl) (by decide) ?_
              have hsz1 := hS.1
              refine ti_newM hx hb hts in_X10 tyX10 tyX10_ok hown (hts _ q525) (hts _ q526) (hts _ q80) hK hP hD hS hA (ci := 10) rfl ti_d7M (Nat.le_of_ble_eq_true rfl) (Nat.le_of_ble_eq_true rfl) dX9_clause_154 (fun q7 H hq7 hs7 hf7 ho7 hP hD hS => ?_)
              have hP : va_P D vwCl (ti_wRt E rd t ra xt sz (pp + 1) mn ++ [(q7, .inr (10, [.null, .null, .null, .null, .null, .int 0, .int 0]))]) H := hP
              have hD : va_D A (ti_wRt E rd t ra xt sz (pp + 1) mn ++ [(q7, .inr (10, [.null, .null, .null, .null, .null, .int 0, .int 0]))]) := hD
              have fr_q7 : ti_free q7 H := hf7
              refine lv_dup hx hb dX9_clause_157 rfl ?_
              refine lv_iload_n hx hb dX9_clause_158 rfl (lv_at hl 0 rfl) ?_
              refine ti_fI (As := [.int (nI pp)]) (rest := [.ref q7]) S hE hP hD hS hA rfl hZ hAz fr_q7 [2] rfl (met_X10_init l D E htr z0 q7 (nI pp)) rfl (fun _ => rfl) (lw_meth q536) q80 q534 q535 rfl 1 rfl (by decide +kernel) ⟨Nat.le_of_ble_eq_true rfl, Nat.le_of_ble_eq_true rfl⟩ hl.1 rfl (Nat.le_of_ble_eq_true rfl) ⟨Nat.le_of_ble_eq_true rfl, Nat.le_of_ble_eq_true rfl⟩ dX9_clause_159 (fun w1 H locs hu hxq hFr hP hD hS => ?_)
              have fr_q7 : ti_free q7 H := hxq
              have hP : va_P D vwCl (ti_wRt E rd t ra xt sz (pp + 1) mn ++ [(q7, .inr (10, [.ref q7, w1.1, w1.2, .null, .null, .int 0, .int (nI pp)]))]) H := hP
              have hD : va_D A (ti_wRt E rd t ra xt sz (pp + 1) mn ++ [(q7, .inr (10, [.ref q7, w1.1, w1.2, .null, .null, .int 0, .int (nI pp)]))]) := hD
              refine W.eq (g2 := F0 m 162 ls [.ref q7]) rfl ?_
              rw [hQ]
              refine ti_throwOut hx hb htab hlk dX9_clause_162 hK (q7, w1, pp, pp + 1) 0 rfl rfl (ti_c1_d hsg sw21_0 sw21_1 sw21_2 sw21_3 sw21_4 sw21_5) (ti_subC (is := [0, 1]) rfl hP) (ti_subC (is := [2]) rfl hP) (fun k z hz => ?_) fr_q7 hS (Nat.le_of_ble_eq_true rfl) (Nat.le_of_ble_eq_true rfl)
              have hk : k < 1 := (List.getElem?_eq_some_iff.mp hz).1
              match k, hk with
              | 0, _ => cases hz; show s.heap.size ≤ q7; omega
