/-! TermIdeals$Faces.bars (printed by w_bars.py) -/
set_option maxRecDepth 100000

theorem ti_bar_ok {a b num den s t l : Nat} (h : ti_bar a b num den (s, t, l) = false) : l = 0 ∨ num * l < ti_wt (s, t, l) a b * den := by
  unfold ti_bar at h
  have h := of_decide_eq_false h
  by_cases h0 : l = 0
  · exact Or.inl h0
  · right
    refine Nat.not_le.mp fun z => h ?_
    exact ⟨Nat.pos_of_ne_zero h0, z⟩
theorem ti_bar_no {a b num den s t l : Nat} (h : ti_bar a b num den (s, t, l) = true) : ¬ (l = 0 ∨ num * l < ti_wt (s, t, l) a b * den) := by
  unfold ti_bar at h
  have h := of_decide_eq_true h
  intro z
  rcases z with z | z
  · exact absurd h.1 (by show ¬ 0 < l; omega)
  · exact absurd h.2 (Nat.not_le.mpr z)

set_option maxHeartbeats 2000000 in
theorem met_X2_bars_ok (l : Launch) (D : va_G) (E : Nat → ClassId) (htr : l.stackTraces = false) (z0 : Nat) (f0 f1 f2 f3 f4 f5 : Nat) (ov : Value) (ss ts lv : Nat → Nat) (nf up low : Nat) (us los : Nat → Nat) (nj : Nat) (hnf : nf ≤ 8) (hss : ∀ k, ss k ≤ 9) (hts9 : ∀ k, ts k ≤ 9) (hlv : ∀ k, lv k ≤ 9999) (a b : Nat) (ha9 : a ≤ 9) (hb9 : b ≤ 9) (num den : Nat) (hnum : num ≤ 99) (hden : den ≤ 99) (hnone : ti_fb a b num den (ti_fr ss ts lv 0 nf) 0 = none) : ti_MetX (σ := Unit) (τ := Unit) l D E yX2_bars (ws_ yX2_bars cX2_bars 6 none) 9 0 0 z0 (ti_wF E f0 f1 f2 f3 f4 f5 ov ss ts lv nf up low us los nj) [.ref f0, .int (nI a), .int (nI b), .int (nI num), .int (nI den)] (fun _ => True) (fun _ => ti_wF E f0 f1 f2 f3 f4 f5 ov ss ts lv nf up low us los nj) (fun _ => none) (fun _ => True) (fun _ _ => True) (fun w => RX14) (fun w => 0) (fun w => ti_wF E f0 f1 f2 f3 f4 f5 ov ss ts lv nf up low us los nj) (fun w => []) (fun w => False) (fun w H => True) := by
  refine ti_metX (by decide) (Nat.le_of_ble_eq_true rfl) ?_
  intro p e s m below meth c H A Q ls S hE hP hD hS hA hZ hAz hx0 htab hl hret hq
  obtain ⟨hQ, hr, hlk, hinit⟩ := hq
  have hsz0 := hS.1
  have hx := S.1
  have hb := S.2.1
  have hown := S.2.2.2.1
  have hts := S.2.2.2.2
  have hK := hE.1
  have hl : lv_has ls 6 [(0, .ref f0), (1, .int (nI a)), (2, .int (nI b)), (3, .int (nI num)), (4, .int (nI den))] := hl
  refine lv_iconst (v := nI 0) hx hb dX2_bars_0 (by decide) ?_
  refine lv_istore (lv' := [(5, .int (nI 0)), (0, .ref f0), (1, .int (nI a)), (2, .int (nI b)), (3, .int (nI num)), (4, .int (nI den))]) hx hb dX2_bars_1 hl (by decide) rfl (fun ls hl => ?_)
  have L3 : ∀ (N : Nat) (k : Nat) (ls : Array Slot) (H : Heap) (locs : List Loc), va_P D vwCl (ti_wF E f0 f1 f2 f3 f4 f5 ov ss ts lv nf up low us los nj) H → va_D A (ti_wF E f0 f1 f2 f3 f4 f5 ov ss ts lv nf up low us los nj) → va_S A s.heap H locs → (nf - k) < N → (k ≤ nf) → (ti_fb a b num den (ti_fr ss ts lv k (nf - k)) k = none) → lv_has ls 6 [(0, .ref f0), (1, .int (nI a)), (2, .int (nI b)), (3, .int (nI num)), (4, .int (nI den)), (5, .int (nI k))] → W p l e (ti_rm 9 0 0) s m ([.ref f0, .int (nI a), .int (nI b), .int (nI num), .int (nI den)] : List Value).toArray below meth c H locs 0 0 Q (F0 m 3 ls []) := by
    intro N
    induction N with
    | zero => intro k ls H locs hP hD hS h0; exact absurd h0 (Nat.not_lt_zero _)
    | succ N ih3 =>
      intro k ls H locs hP hD hS hN hkn hv hl
      refine lv_iload hx hb dX2_bars_3 (lv_at hl 5 rfl) ?_
      refine lv_aload_n hx hb dX2_bars_5 rfl (lv_at hl 0 rfl) ?_
      refine va_get (v := .int (nI nf)) hx hb hts in_X2 hown hK hP 0 rfl rfl 4 (by decide) (hts _ q139) (fun _ h => h) rfl dX2_bars_6 ?_
      refine tn_ge (tgt := 29) hx hb dX2_bars_9 (by decide) (by omega) (by omega) (fun c9 => ?_) (fun c9 => ?_)
      · skip
        exact hret _ () _ _ _ _ trivial hP trivial hS (Nat.le_of_ble_eq_true rfl) (Nat.le_of_ble_eq_true rfl) (fun hq hf9 => W.vret hx hb hr hq hf9 dX2_bars_29 hlk)
      · skip
        obtain ⟨m9, hm9⟩ : ∃ m9, nf - k = m9 + 1 := ⟨nf - k - 1, by omega⟩
        rw [hm9, ti_fr_s, ti_fb] at hv
        have hnb : ti_bar a b num den (ss k, ts k, lv k) = false := by
          cases hbv : ti_bar a b num den (ss k, ts k, lv k) with
          | false => rfl
          | true => rw [hbv, if_pos rfl] at hv; cases hv
        rw [hnb, if_neg (by decide)] at hv
        refine lv_aload_n hx hb dX2_bars_12 rfl (lv_at hl 0 rfl) ?_
        refine lv_iload hx hb dX2_bars_13 (lv_at hl 5 rfl) ?_
        refine lv_iload_n hx hb dX2_bars_15 rfl (lv_at hl 1 rfl) ?_
        refine lv_iload_n hx hb dX2_bars_16 rfl (lv_at hl 2 rfl) ?_
        refine lv_iload_n hx hb dX2_bars_17 rfl (lv_at hl 3 rfl) ?_
        refine lv_iload hx hb dX2_bars_18 (lv_at hl 4 rfl) ?_
        have hok : lv k = 0 ∨ num * lv k < ti_wt (ss k, ts k, lv k) a b * den := ti_bar_ok hnb
        refine ti_callX (ty_runVX (As := [.int (nI k), .int (nI a), .int (nI b), .int (nI num), .int (nI den)]) (rest := []) S (met_X2_asks_ok l D E htr z0 f0 f1 f2 f3 f4 f5 ov ss ts lv nf up low us los nj hnf hss hts9 hlv k (by omega) a b ha9 hb9 num den hnum hden hok H.size) (vx_cwVW 5 S.2.2.2.2 (lw_VW q647 q649 qs14 q68 q650) rfl rfl rfl (by decide +kernel) ⟨Nat.le_of_ble_eq_true rfl, Nat.le_of_ble_eq_true rfl⟩) (ti_preXV (xp := fun _ => True) hE hP hD hS rfl hZ hAz trivial [0, 1, 2, 3, 4, 5] rfl rfl 0 rfl rfl) rfl rfl hl.1 rfl (lv_room (Nat.le_of_ble_eq_true rfl)) dX2_bars_20 ⟨Nat.le_of_ble_eq_true rfl, Nat.le_of_ble_eq_true rfl⟩) hP hD hS hA [0, 1, 2, 3, 4, 5] rfl (fun _ => rfl) (fun _ => rfl) (fun _ H locs _ _ _ hP hD hS => ?_) (fun _ _ _ _ h9 => absurd h9 id)
        have hP : va_P D vwCl (ti_wF E f0 f1 f2 f3 f4 f5 ov ss ts lv nf up low us los nj) H := hP
        have hD : va_D A (ti_wF E f0 f1 f2 f3 f4 f5 ov ss ts lv nf up low us los nj) := hD
        refine lv_iinc (v := nI (k + 1)) (lv' := [(5, .int (nI (k + 1))), (0, .ref f0), (1, .int (nI a)), (2, .int (nI b)), (3, .int (nI num)), (4, .int (nI den))]) hx hb dX2_bars_23 hl (k := 5) rfl (nI_1 k) (by decide) rfl (fun ls hl => ?_)
        refine lv_goto (tgt := 3) hx hb dX2_bars_26 (by decide) ?_
        exact ih3 (k + 1) _ _ _ hP hD hS (by omega) (by omega) (by rw [show nf - (k + 1) = m9 by omega]; exact hv) (lv_sub hl [1, 2, 3, 4, 5, 0] rfl)
  exact L3 _ 0 _ _ _ hP hD hS (Nat.lt_succ_self _) (by omega) (hnone) (lv_sub hl [1, 2, 3, 4, 5, 0] rfl)

set_option maxHeartbeats 2000000 in
theorem met_X2_bars_x (l : Launch) (D : va_G) (E : Nat → ClassId) (htr : l.stackTraces = false) (z0 : Nat) (f0 f1 f2 f3 f4 f5 : Nat) (ov : Value) (ss ts lv : Nat → Nat) (nf up low : Nat) (us los : Nat → Nat) (nj : Nat) (hnf : nf ≤ 8) (hss : ∀ k, ss k ≤ 9) (hts9 : ∀ k, ts k ≤ 9) (hlv : ∀ k, lv k ≤ 9999) (a b : Nat) (ha9 : a ≤ 9) (hb9 : b ≤ 9) (num den : Nat) (hnum : num ≤ 99) (hden : den ≤ 99) (f : Nat) (hsome : ti_fb a b num den (ti_fr ss ts lv 0 nf) 0 = some f) : ti_MetX (σ := Unit) (τ := (Nat × Nat × Nat × Nat × Nat) × (Value × Value) × (Value × Value) × (Value × Value) × (Value × Value) × (Value × Value)) l D E yX2_bars (ws_ yX2_bars cX2_bars 6 none) 9 5 35 z0 (ti_wF E f0 f1 f2 f3 f4 f5 ov ss ts lv nf up low us los nj) [.ref f0, .int (nI a), .int (nI b), .int (nI num), .int (nI den)] (fun _ => True) (fun _ => ti_wF E f0 f1 f2 f3 f4 f5 ov ss ts lv nf up low us los nj) (fun _ => none) (fun _ => False) (fun _ _ => True) (fun w => RX14) (fun w => w.1.1) (fun w => ti_wF E f0 f1 f2 f3 f4 f5 ov ss ts lv nf up low us los nj) (fun w => [(w.1.1, .inr (14, [.ref w.1.2.1, w.2.1.1, w.2.1.2, .null, .null, .int 0, .int (nI f)])), (w.1.2.1, .inr (13, [.ref w.1.2.2.1, w.2.2.1.1, w.2.2.1.2, .null, .null, .int 0, .int (nI (ti_wt (ss f, ts f, lv f) a b))])), (w.1.2.2.1, .inr (12, [.ref w.1.2.2.2.1, w.2.2.2.1.1, w.2.2.2.1.2, .null, .null, .int 0, .int (nI (lv f))])), (w.1.2.2.2.1, .inr (12, [.ref w.1.2.2.2.2, w.2.2.2.2.1.1, w.2.2.2.2.1.2, .null, .null, .int 0, .int (nI num)])), (w.1.2.2.2.2, .inr (12, [.ref w.1.2.2.2.2, w.2.2.2.2.2.1, w.2.2.2.2.2.2, .null, .null, .int 0, .int (nI den)]))]) (fun w => True) (fun w H => ti_free w.1.1 H ∧ ti_free w.1.2.1 H ∧ ti_free w.1.2.2.1 H ∧ ti_free w.1.2.2.2.1 H ∧ ti_free w.1.2.2.2.2 H ∧ w.1.2.1 < w.1.2.2.1 ∧ w.1.2.2.1 < w.1.2.2.2.1 ∧ w.1.2.2.2.1 < w.1.2.2.2.2 ∧ w.1.2.2.2.2 < w.1.1) := by
  refine ti_metX (by decide) (Nat.le_of_ble_eq_true rfl) ?_
  intro p e s m below meth c H A Q ls S hE hP hD hS hA hZ hAz hx0 htab hl hret hq
  obtain ⟨hQ, hr, hlk, hinit⟩ := hq
  have hsz0 := hS.1
  have hx := S.1
  have hb := S.2.1
  have hown := S.2.2.2.1
  have hts := S.2.2.2.2
  have hK := hE.1
  have hl : lv_has ls 6 [(0, .ref f0), (1, .int (nI a)), (2, .int (nI b)), (3, .int (nI num)), (4, .int (nI den))] := hl
  refine lv_iconst (v := nI 0) hx hb dX2_bars_0 (by decide) ?_
  refine lv_istore (lv' := [(5, .int (nI 0)), (0, .ref f0), (1, .int (nI a)), (2, .int (nI b)), (3, .int (nI num)), (4, .int (nI den))]) hx hb dX2_bars_1 hl (by decide) rfl (fun ls hl => ?_)
  have L3 : ∀ (N : Nat) (k : Nat) (ls : Array Slot) (H : Heap) (locs : List Loc), va_P D vwCl (ti_wF E f0 f1 f2 f3 f4 f5 ov ss ts lv nf up low us los nj) H → va_D A (ti_wF E f0 f1 f2 f3 f4 f5 ov ss ts lv nf up low us los nj) → va_S A s.heap H locs → (nf - k) < N → (k ≤ nf) → (ti_fb a b num den (ti_fr ss ts lv k (nf - k)) k = some f) → lv_has ls 6 [(0, .ref f0), (1, .int (nI a)), (2, .int (nI b)), (3, .int (nI num)), (4, .int (nI den)), (5, .int (nI k))] → W p l e (ti_rm 9 5 35) s m ([.ref f0, .int (nI a), .int (nI b), .int (nI num), .int (nI den)] : List Value).toArray below meth c H locs 0 0 Q (F0 m 3 ls []) := by
    intro N
    induction N with
    | zero => intro k ls H locs hP hD hS h0; exact absurd h0 (Nat.not_lt_zero _)
    | succ N ih3 =>
      intro k ls H locs hP hD hS hN hkn hv hl
      refine lv_iload hx hb dX2_bars_3 (lv_at hl 5 rfl) ?_
      refine lv_aload_n hx hb dX2_bars_5 rfl (lv_at hl 0 rfl) ?_
      refine va_get (v := .int (nI nf)) hx hb hts in_X2 hown hK hP 0 rfl rfl 4 (by decide) (hts _ q139) (fun _ h => h) rfl dX2_bars_6 ?_
      refine tn_ge (tgt := 29) hx hb dX2_bars_9 (by decide) (by omega) (by omega) (fun c9 => ?_) (fun c9 => ?_)
      · skip
        rw [show nf - k = 0 by omega] at hv; cases hv
      · skip
        obtain ⟨m9, hm9⟩ : ∃ m9, nf - k = m9 + 1 := ⟨nf - k - 1, by omega⟩
        rw [hm9, ti_fr_s, ti_fb] at hv
        refine lv_aload_n hx hb dX2_bars_12 rfl (lv_at hl 0 rfl) ?_
        refine lv_iload hx hb dX2_bars_13 (lv_at hl 5 rfl) ?_
        refine lv_iload_n hx hb dX2_bars_15 rfl (lv_at hl 1 rfl) ?_
        refine lv_iload_n hx hb dX2_bars_16 rfl (lv_at hl 2 rfl) ?_
        refine lv_iload_n hx hb dX2_bars_17 rfl (lv_at hl 3 rfl) ?_
        refine lv_iload hx hb dX2_bars_18 (lv_at hl 4 rfl) ?_
        cases hbv : ti_bar a b num den (ss k, ts k, lv k) with
        | false =>
          rw [hbv, if_neg (by decide)] at hv
          have hok : lv k = 0 ∨ num * lv k < ti_wt (ss k, ts k, lv k) a b * den := ti_bar_ok hbv
          refine ti_callX (ty_runVX (As := [.int (nI k), .int (nI a), .int (nI b), .int (nI num), .int (nI den)]) (rest := []) S (met_X2_asks_ok l D E htr z0 f0 f1 f2 f3 f4 f5 ov ss ts lv nf up low us los nj hnf hss hts9 hlv k (by omega) a b ha9 hb9 num den hnum hden hok H.size) (vx_cwVW 5 S.2.2.2.2 (lw_VW q647 q649 qs14 q68 q650) rfl rfl rfl (by decide +kernel) ⟨Nat.le_of_ble_eq_true rfl, Nat.le_of_ble_eq_true rfl⟩) (ti_preXV (xp := fun _ => True) hE hP hD hS rfl hZ hAz trivial [0, 1, 2, 3, 4, 5] rfl rfl 0 rfl rfl) rfl rfl hl.1 rfl (lv_room (Nat.le_of_ble_eq_true rfl)) dX2_bars_20 ⟨Nat.le_of_ble_eq_true rfl, Nat.le_of_ble_eq_true rfl⟩) hP hD hS hA [0, 1, 2, 3, 4, 5] rfl (fun _ => rfl) (fun _ => rfl) (fun _ H locs _ _ _ hP hD hS => ?_) (fun _ _ _ _ h9 => absurd h9 id)
          have hP : va_P D vwCl (ti_wF E f0 f1 f2 f3 f4 f5 ov ss ts lv nf up low us los nj) H := hP
          have hD : va_D A (ti_wF E f0 f1 f2 f3 f4 f5 ov ss ts lv nf up low us los nj) := hD
          refine lv_iinc (v := nI (k + 1)) (lv' := [(5, .int (nI (k + 1))), (0, .ref f0), (1, .int (nI a)), (2, .int (nI b)), (3, .int (nI num)), (4, .int (nI den))]) hx hb dX2_bars_23 hl (k := 5) rfl (nI_1 k) (by decide) rfl (fun ls hl => ?_)
          refine lv_goto (tgt := 3) hx hb dX2_bars_26 (by decide) ?_
          exact ih3 (k + 1) _ _ _ hP hD hS (by omega) (by omega) (by rw [show nf - (k + 1) = m9 by omega]; exact hv) (lv_sub hl [1, 2, 3, 4, 5, 0] rfl)
        | true =>
          rw [hbv, if_pos rfl] at hv
          have hkf : k = f := Option.some.inj hv
          subst hkf
          have hsz1 := hS.1
          refine ti_callX (ty_runVX (As := [.int (nI k), .int (nI a), .int (nI b), .int (nI num), .int (nI den)]) (rest := []) S (met_X2_asks_x l D E htr z0 f0 f1 f2 f3 f4 f5 ov ss ts lv nf up low us los nj hnf hss hts9 hlv k (by omega) a b ha9 hb9 num den hnum hden (ti_bar_no hbv) H.size) (vx_cwVW 5 S.2.2.2.2 (lw_VW q647 q649 qs14 q68 q650) rfl rfl rfl (by decide +kernel) ⟨Nat.le_of_ble_eq_true rfl, Nat.le_of_ble_eq_true rfl⟩) (ti_preXV (xp := fun _ => True) hE hP hD hS rfl hZ hAz trivial [0, 1, 2, 3, 4, 5] rfl rfl 0 rfl rfl) rfl rfl hl.1 rfl (lv_room (Nat.le_of_ble_eq_true rfl)) dX2_bars_20 ⟨Nat.le_of_ble_eq_true rfl, Nat.le_of_ble_eq_true rfl⟩) hP hD hS hA [0, 1, 2, 3, 4, 5] rfl (fun _ => rfl) (fun _ => rfl) (fun _ _ _ h9 => absurd h9 id) (fun w H locs ce hpx hxx hFr hP hD hPe hnew hS hce hcv hcl => ?_)
          rw [hQ]
          exact ty_out (fun x hx9 => absurd (htab x hx9) id) hlk hce hcv hcl (fun t ht hal => ⟨w, rfl, rfl, trivial, by rw [ht]; exact hP, by rw [ht]; exact hPe, fun k9 z9 hz9 => Nat.le_trans hsz1 (hnew k9 z9 hz9), by rw [ht]; exact hxx, hS.F ht⟩) hS.2.2 (Nat.le_of_ble_eq_true rfl) (Nat.le_of_ble_eq_true rfl)
  exact L3 _ 0 _ _ _ hP hD hS (Nat.lt_succ_self _) (by omega) (hsome) (lv_sub hl [1, 2, 3, 4, 5, 0] rfl)
