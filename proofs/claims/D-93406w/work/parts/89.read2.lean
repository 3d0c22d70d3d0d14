/-! TermIdeals$Reader: constructor, whole (printed by w_read2.py) -/
set_option maxRecDepth 100000
abbrev ti_wRa (E : Nat → ClassId) (rd t ra : Nat) (xt : Nat → Nat) (sz pp mn : Nat) (fr : Nat → Option Nat) : va_W := [(rd, .inr (9, [.ref t, .int (nI sz), .int (nI pp), .ref ra, .int (nI mn)])), (t, .inl (E 1, 100, .inl (ti_n xt))), (ra, .inl (E 7, 12, .inr (.inr (.inr (.inr fr)))))]
abbrev ti_cC (c : Nat × List Nat) : va_E := .inr (11, [.int (nI c.1), .int (nI (c.2.getD 0 0)), .int (nI (c.2.getD 1 0)), .int (nI (c.2.getD 2 0))])
/-- clauses, with their addresses -/
def ti_cls (T : List (Nat × Nat × List Nat)) : va_W := T.map (fun x => (x.1, ti_cC x.2))
theorem ti_cls_app (T : List (Nat × Nat × List Nat)) (x : Nat × Nat × List Nat) : ti_cls (T ++ [x]) = ti_cls T ++ [(x.1, ti_cC x.2)] := by
  unfold ti_cls; rw [List.map_append]; rfl
theorem ti_cls_len (T : List (Nat × Nat × List Nat)) : (ti_cls T).length = T.length := by unfold ti_cls; rw [List.length_map]
theorem ti_cls_at {ws : va_W} {n k : Nat} {T : List (Nat × Nat × List Nat)} {x : Nat × Nat × List Nat} (hl : ws.length = n) (h : T[k]? = some x) : (ws ++ ti_cls T)[n + k]? = some (x.1, ti_cC x.2) := by
  rw [List.getElem?_append_right (by omega), hl, Nat.add_sub_cancel_left]
  unfold ti_cls
  rw [List.getElem?_map, h]; rfl
theorem ti_last {α : Type} (T : List α) (x : α) : (T ++ [x])[T.length]? = some x := by
  rw [List.getElem?_append_right (Nat.le_refl _), Nat.sub_self]; rfl
def ti_frT (fr : Nat → Option Nat) (T : List (Nat × Nat × List Nat)) : Prop := ∀ (k : Nat) (x : Nat × Nat × List Nat), T[k]? = some x → fr k = some x.1
theorem ti_frT_push {fr : Nat → Option Nat} {T : List (Nat × Nat × List Nat)} (x : Nat × Nat × List Nat) (h : ti_frT fr T) : ti_frT (va_up fr T.length (some x.1)) (T ++ [x]) := by
  intro k y hy
  by_cases hk : k < T.length
  · rw [List.getElem?_append_left hk] at hy
    rw [va_up_ne _ _ (by omega)]
    exact h k y hy
  · have h2 := (List.getElem?_eq_some_iff.mp hy).1
    rw [List.length_append] at h2
    have h3 : [x].length = 1 := rfl
    obtain rfl : k = T.length := by omega
    rw [ti_last] at hy
    cases hy
    rw [va_up_self]
theorem ti_nu_cls {sz : Nat} {T : List (Nat × Nat × List Nat)} {x : Nat × Nat × List Nat} (h : ti_nu sz (ti_cls T)) (hx : sz ≤ x.1) : ti_nu sz (ti_cls (T ++ [x])) := by
  rw [ti_cls_app]; exact ti_nu_app h (ti_nu1 hx ti_nu0)
def ti_wk (TX : List Nat) (m q : Nat) (acc : List (Nat × List Nat)) : Option (List (Nat × List Nat)) × Nat :=
  if q < TX.length ∧ TX.getD q 0 = 59 ∧ 0 < m then ti_wh TX m (q + 1) acc else if q = TX.length then (some acc, q) else (none, q)
theorem ti_wh_no {TX : List Nat} {m p q : Nat} {acc : List (Nat × List Nat)} (h : ti_c1 TX p = (none, q)) : ti_wh TX (m + 1) p acc = (none, q) := by rw [ti_wh, h]
theorem ti_wh_ok {TX : List Nat} {m p q : Nat} {c : Nat × List Nat} {acc : List (Nat × List Nat)} (h : ti_c1 TX p = (some c, q)) : ti_wh TX (m + 1) p acc = ti_wk TX m q (acc ++ [c]) := by rw [ti_wh, h]; rfl
theorem ti_wk_go {xt : Nat → Nat} {sz m q : Nat} {acc : List (Nat × List Nat)} (h1 : q < sz) (h2 : xt q = 59) (h3 : 0 < m) : ti_wk (ti_tl xt sz) m q acc = ti_wh (ti_tl xt sz) m (q + 1) acc := by
  rw [ti_wk, if_pos ⟨by rw [ti_tl_len]; exact h1, by rw [ti_tl_at h1]; exact h2, h3⟩]
theorem ti_wk_end {xt : Nat → Nat} {sz m q : Nat} {acc : List (Nat × List Nat)} (h : ¬ (q < sz ∧ xt q = 59 ∧ 0 < m)) : ti_wk (ti_tl xt sz) m q acc = if q = sz then (some acc, q) else (none, q) := by
  rw [ti_wk, if_neg (fun z => h ⟨by have := z.1; rw [ti_tl_len] at this; exact this, by have h9 := z.1; rw [ti_tl_len] at h9; have := z.2.1; rw [ti_tl_at h9] at this; exact this, z.2.2⟩), ti_tl_len]
theorem ti_c1_pos {xt : Nat → Nat} {sz p q : Nat} {o : Option (Nat × List Nat)} (hp : p ≤ sz) (h : ti_c1 (ti_tl xt sz) p = (o, q)) : q ≤ sz := by
  have := ti_c1_le (ti_tl xt sz) p
  rw [h, ti_tl_len] at this
  have h2 : q ≤ max p sz := this
  omega


set_option maxHeartbeats 2000000 in
theorem met_X9_init (l : Launch) (D : va_G) (E : Nat → ClassId) (rd t sz : Nat) : ti_MetN (σ := Nat) l D E yX9_init cX9_init 3 none 1 1 12 ([(rd, .inr (9, [.null, .int (nI 0), .int (nI 0), .null, .int (nI 0)]))]) [.ref rd, .ref t, .int (nI sz)] (fun u => [(rd, .inr (9, [.ref t, .int (nI sz), .int (nI 0), .ref u, .int (nI 0)]))]) (fun u => [(u, .inl (E 7, 12, .inr (.inr (.inr (.inr (fun _ => none))))))]) (fun _ => none) (fun _ => True) := by
  refine ti_metNV (σ := Nat) (by decide) (Nat.le_of_ble_eq_true rfl) ?_
  intro p e s m below meth c H H0 A Q ls S hE hP hD hS hA hinit hl hret
  have hx := S.1
  have hb := S.2.1
  have hown := S.2.2.2.1
  have hts := S.2.2.2.2
  have hK := hE.1
  have hl : lv_has ls 3 [(0, .ref rd), (1, .ref t), (2, .int (nI sz))] := hl
  refine lv_aload_n hx hb dX9_init_0 rfl (lv_at hl 0 rfl) ?_
  refine W.objInit hx hb hown (hts _ q489) (hts _ q100) (hts _ q101) rfl (by rw [S.2.2.1]; exact hl.1) rfl dX9_init_1 (Nat.le_of_ble_eq_true rfl) (Nat.le_of_ble_eq_true rfl) ?_
  refine W.eq (g2 := F0 m 4 ls []) rfl ?_
  refine lv_aload_n hx hb dX9_init_4 rfl (lv_at hl 0 rfl) ?_
  refine lv_bipush (v := nI 12) hx hb dX9_init_5 (by decide) ?_
  have hb1 := hS.1
  refine ti_newqM hx hb hown (hts _ q490) (hE.nw q491 rfl) hK hP hD hS hA 7 rfl (nI_pos (by decide)) (nI_clamp (by decide)) (Nat.le_of_ble_eq_true rfl) (Nat.le_of_ble_eq_true rfl) (Nat.le_of_ble_eq_true rfl) dX9_init_7 (fun q1 H hq1 hs1 ho1 hP hD hS => ?_)
  have g_q1 : H0.size ≤ q1 := by omega
  have hP : va_P D vwCl ([(rd, .inr (9, [.null, .int (nI 0), .int (nI 0), .null, .int (nI 0)])), (q1, .inl (E 7, 12, .inr (.inr (.inr (.inr (fun _ => none))))))]) H := hP
  have hD : va_D A ([(rd, .inr (9, [.null, .int (nI 0), .int (nI 0), .null, .int (nI 0)])), (q1, .inl (E 7, 12, .inr (.inr (.inr (.inr (fun _ => none))))))]) := hD
  refine va_putF (ty := .array (.object "TermIdeals$Clause")) hx hb hts in_X9 tyX9 tyX9_ok nmX9 hown hK hP hD hS 0 rfl rfl 3 (by decide) (hts _ q495) (fun _ h => h) rfl hinit rfl rfl rfl rfl (Nat.le_of_ble_eq_true rfl) dX9_init_10 (fun H locs hP hD hS => ?_)
  have hP : va_P D vwCl ([(rd, .inr (9, [.null, .int (nI 0), .int (nI 0), .ref q1, .int (nI 0)])), (q1, .inl (E 7, 12, .inr (.inr (.inr (.inr (fun _ => none))))))]) H := hP
  have hD : va_D A ([(rd, .inr (9, [.null, .int (nI 0), .int (nI 0), .ref q1, .int (nI 0)])), (q1, .inl (E 7, 12, .inr (.inr (.inr (.inr (fun _ => none))))))]) := hD
  refine lv_aload_n hx hb dX9_init_13 rfl (lv_at hl 0 rfl) ?_
  refine lv_aload_n hx hb dX9_init_14 rfl (lv_at hl 1 rfl) ?_
  refine va_putF (ty := .array .byte) hx hb hts in_X9 tyX9 tyX9_ok nmX9 hown hK hP hD hS 0 rfl rfl 0 (by decide) (hts _ q492) (fun _ h => h) rfl hinit rfl rfl rfl rfl (Nat.le_of_ble_eq_true rfl) dX9_init_15 (fun H locs hP hD hS => ?_)
  have hP : va_P D vwCl ([(rd, .inr (9, [.ref t, .int (nI 0), .int (nI 0), .ref q1, .int (nI 0)])), (q1, .inl (E 7, 12, .inr (.inr (.inr (.inr (fun _ => none))))))]) H := hP
  have hD : va_D A ([(rd, .inr (9, [.ref t, .int (nI 0), .int (nI 0), .ref q1, .int (nI 0)])), (q1, .inl (E 7, 12, .inr (.inr (.inr (.inr (fun _ => none))))))]) := hD
  refine lv_aload_n hx hb dX9_init_18 rfl (lv_at hl 0 rfl) ?_
  refine lv_iload_n hx hb dX9_init_19 rfl (lv_at hl 2 rfl) ?_
  refine va_putF (ty := .int) hx hb hts in_X9 tyX9 tyX9_ok nmX9 hown hK hP hD hS 0 rfl rfl 1 (by decide) (hts _ q493) (fun _ h => h) rfl hinit rfl rfl rfl rfl (Nat.le_of_ble_eq_true rfl) dX9_init_20 (fun H locs hP hD hS => ?_)
  have hP : va_P D vwCl ([(rd, .inr (9, [.ref t, .int (nI sz), .int (nI 0), .ref q1, .int (nI 0)])), (q1, .inl (E 7, 12, .inr (.inr (.inr (.inr (fun _ => none))))))]) H := hP
  have hD : va_D A ([(rd, .inr (9, [.ref t, .int (nI sz), .int (nI 0), .ref q1, .int (nI 0)])), (q1, .inl (E 7, 12, .inr (.inr (.inr (.inr (fun _ => none))))))]) := hD
  exact hret q1 _ _ _ _ _ _ dX9_init_23 trivial hP hD (ti_nu1 g_q1 ti_nu0) hS (Nat.le_of_ble_eq_true rfl) (Nat.le_of_ble_eq_true rfl)

set_option maxHeartbeats 2000000 in
theorem met_X9_whole (l : Launch) (D : va_G) (E : Nat → ClassId) (htr : l.stackTraces = false) (z0 : Nat) (rd t ra : Nat) (xt : Nat → Nat) (sz : Nat) (fr : Nat → Option Nat) (hxt : ∀ k, xt k ≤ 127) (hsz : sz ≤ 100) : ti_MetY (σ := List (Nat × Nat × List Nat) × Nat × (Nat → Option Nat)) (τ := Nat × (Value × Value) × Nat × Nat × Nat × (Nat → Option Nat)) l D E yX9_whole (ws_ yX9_whole cX9_whole 1 (some (.object "TermIdeals$Reader"))) 8 25 139 z0 (ti_wRa E rd t ra xt sz 0 0 fr) [.ref rd] (fun u => ti_wRa E rd t ra xt sz u.2.1 u.1.length u.2.2) (fun u => ti_cls u.1) (fun u => some (.ref ((fun _ => rd) u))) (fun u => ti_wh (ti_tl xt sz) 12 0 [] = (some (u.1.map (·.2)), u.2.1) ∧ u.1.length ≤ 12 ∧ ti_frT u.2.2 u.1) (fun w => RX10) (fun w => w.1) (fun w => ti_wRa E rd t ra xt sz w.2.2.2.1 w.2.2.2.2.1 w.2.2.2.2.2) (fun w => [(w.1, .inr (10, [.ref w.1, w.2.1.1, w.2.1.2, .null, .null, .int 0, .int (nI w.2.2.1)]))]) (fun w => ti_wh (ti_tl xt sz) 12 0 [] = (none, w.2.2.1)) (fun w H => ti_free w.1 H) := by
  refine ti_metY (by decide) (Nat.le_of_ble_eq_true rfl) ?_
  intro p e s m below meth c H A Q ls S hE hP hD hS hA hZ hAz htab hl hret hq
  obtain ⟨hQ, hr, hlk, hinit⟩ := hq
  have hsz0 := hS.1
  have hx := S.1
  have hb := S.2.1
  have hown := S.2.2.2.1
  have hts := S.2.2.2.2
  have hK := hE.1
  have hl : lv_has ls 1 [(0, .ref rd)] := hl
  refine lv_aload_n hx hb dX9_whole_0 rfl (lv_at hl 0 rfl) ?_
  refine va_get (v := .ref ra) hx hb hts in_X9 hown hK hP 0 rfl rfl 3 (by decide) (hts _ q495) (fun _ h => h) rfl dX9_whole_1 ?_
  refine lv_iconst (v := nI 0) hx hb dX9_whole_4 (by decide) ?_
  refine lv_aload_n hx hb dX9_whole_5 rfl (lv_at hl 0 rfl) ?_
  have hsz1 := hS.1
  refine ti_callY (ty_runV (As := []) (rest := [.int (nI 0), .ref ra]) S (met_X9_clause l D E htr z0 rd t ra xt sz 0 0 hxt hsz (by omega) H.size) (cwV 0 S.2.2.2.2 (lw_V q512 q514 qs8 q79 q515) rfl rfl rfl (by decide +kernel) ⟨Nat.le_of_ble_eq_true rfl, Nat.le_of_ble_eq_true rfl⟩) (ti_preXV (xp := fun _ => True) hE hP hD hS rfl hZ hAz trivial [0, 1] rfl rfl 0 rfl rfl) rfl rfl hl.1 rfl (lv_room (Nat.le_of_ble_eq_true rfl)) dX9_whole_6 ⟨Nat.le_of_ble_eq_true rfl, Nat.le_of_ble_eq_true rfl⟩) hP hD hS hA [0, 1] rfl (fun _ => rfl) (fun _ => rfl) (fun uc H locs hu hn9 hP hD hS => ?_) (fun we H locs ce hpx hxx hP hD hPe hnew hS hce hcv hcl => ?_)
  · skip
    have hgu : s.heap.size ≤ uc.1 := Nat.le_trans hsz1 (hn9 0 _ rfl)
    have hu : ti_c1 (ti_tl xt sz) 0 = (some uc.2.1, uc.2.2) := hu
    have huq : uc.2.2 ≤ sz := ti_c1_pos (by omega) hu
    have hP : va_P D vwCl (ti_wRa E rd t ra xt sz uc.2.2 0 fr ++ ti_cls ([(uc.1, uc.2.1)])) H := hP
    have hD : va_D A (ti_wRa E rd t ra xt sz uc.2.2 0 fr ++ ti_cls ([(uc.1, uc.2.1)])) := hD
    have hwk0 : ti_wk (ti_tl xt sz) 11 uc.2.2 ([] ++ [uc.2.1]) = ti_wh (ti_tl xt sz) (11 + 1) 0 [] := (ti_wh_ok hu).symm
    have hwk0 : ti_wk (ti_tl xt sz) (12 - 1) uc.2.2 ([(uc.1, uc.2.1)].map (·.2)) = ti_wh (ti_tl xt sz) 12 0 [] := hwk0
    refine W.eq (g2 := F0 m 9 ls [.ref uc.1, .int (nI 0), .ref ra]) rfl ?_
    refine tn_aastR hx hb hK hP hD hS 2 7 3 11 rfl rfl rfl rfl (by decide) (by decide) dX9_whole_9 (fun H locs hP hD hS => ?_)
    have hP : va_P D vwCl (ti_wRa E rd t ra xt sz uc.2.2 0 (va_up fr 0 (some uc.1)) ++ ti_cls ([(uc.1, uc.2.1)])) H := hP
    have hD : va_D A (ti_wRa E rd t ra xt sz uc.2.2 0 (va_up fr 0 (some uc.1)) ++ ti_cls ([(uc.1, uc.2.1)])) := hD
    refine lv_aload_n hx hb dX9_whole_10 rfl (lv_at hl 0 rfl) ?_
    refine lv_iconst (v := nI 1) hx hb dX9_whole_11 (by decide) ?_
    refine va_put (ty := .int) hx hb hts in_X9 tyX9 tyX9_ok nmX9 hown hK hP hD hS 0 rfl rfl 4 (by decide) (hts _ q496) (fun _ h => h) rfl rfl rfl rfl (Nat.le_of_ble_eq_true rfl) dX9_whole_12 (fun H locs hP hD hS => ?_)
    have hP : va_P D vwCl (ti_wRa E rd t ra xt sz uc.2.2 1 (va_up fr 0 (some uc.1)) ++ ti_cls ([(uc.1, uc.2.1)])) H := hP
    have hD : va_D A (ti_wRa E rd t ra xt sz uc.2.2 1 (va_up fr 0 (some uc.1)) ++ ti_cls ([(uc.1, uc.2.1)])) := hD
    have L15 : ∀ (N : Nat) (T : List (Nat × Nat × List Nat)) (pp mn : Nat) (fr : Nat → Option Nat) (cz sl : Nat) (ls : Array Slot) (H : Heap) (locs : List Loc), va_P D vwCl (ti_wRa E rd t ra xt sz pp mn fr ++ ti_cls T) H → va_D A (ti_wRa E rd t ra xt sz pp mn fr ++ ti_cls T) → va_S A s.heap H locs → (12 - mn) < N → (mn = T.length) → (1 ≤ mn) → (mn ≤ 12) → (pp ≤ sz) → (ti_frT fr T) → (ti_nu s.heap.size (ti_cls T)) → (cz ≤ 2 * mn) → (sl ≤ 11 * mn) → (ti_wk (ti_tl xt sz) (12 - mn) pp (T.map (·.2)) = ti_wh (ti_tl xt sz) 12 0 []) → lv_has ls 1 [(0, .ref rd)] → W p l e (ti_rm 8 25 139) s m ([.ref rd] : List Value).toArray below meth c H locs cz sl Q (F0 m 15 ls []) := by
      intro N
      induction N with
      | zero => intro T pp mn fr cz sl ls H locs hP hD hS h0; exact absurd h0 (Nat.not_lt_zero _)
      | succ N ih15 =>
        intro T pp mn fr cz sl ls H locs hP hD hS hN hmn hm1 hm12 hpp hfr hnu hcz hsl hwk hl
        refine lv_aload_n hx hb dX9_whole_15 rfl (lv_at hl 0 rfl) ?_
        refine va_get (v := .int (nI mn)) hx hb hts in_X9 hown hK hP 0 rfl rfl 4 (by decide) (hts _ q496) (fun _ h => h) rfl dX9_whole_16 ?_
        refine lv_bipush (v := nI 12) hx hb dX9_whole_19 (by decide) ?_
        refine tn_ge (tgt := 69) hx hb dX9_whole_21 (by decide) (by omega) (by omega) (fun c21 => ?_) (fun c21 => ?_)
        · skip
          have hend : ¬ (pp < sz ∧ xt pp = 59 ∧ 0 < 12 - mn) := fun z => by have := z.2.2; omega
          refine lv_aload_n hx hb dX9_whole_69 rfl (lv_at hl 0 rfl) ?_
          refine va_get (v := .int (nI pp)) hx hb hts in_X9 hown hK hP 0 rfl rfl 2 (by decide) (hts _ q494) (fun _ h => h) rfl dX9_whole_70 ?_
          refine lv_aload_n hx hb dX9_whole_73 rfl (lv_at hl 0 rfl) ?_
          refine va_get (v := .int (nI sz)) hx hb hts in_X9 hown hK hP 0 rfl rfl 1 (by decide) (hts _ q493) (fun _ h => h) rfl dX9_whole_74 ?_
          refine tn_ge (tgt := 92) hx hb dX9_whole_77 (by decide) (by omega) (by omega) (fun c77 => ?_) (fun c77 => ?_)
          · skip
            rw [ti_wk_end hend, if_pos (by omega)] at hwk
            subst hmn
            refine lv_aload_n hx hb dX9_whole_92 rfl (lv_at hl 0 rfl) ?_
            have hv9 : rd = (fun _ => rd) (T, pp, fr) := rfl
            refine W.eq (g2 := F0 m 93 ls [.ref ((fun _ => rd) (T, pp, fr))]) (congrArg (fun z => F0 m 93 ls [.ref z]) hv9) ?_
            exact hret _ (T, pp, fr) _ _ _ _ (⟨hwk.symm, hm12, hfr⟩) hP hD hnu hS (by omega) (by omega) (fun hq hf9 => W.aret hx hb hr (Or.inl ⟨_, rfl⟩) (Or.inr ⟨_, rfl⟩) hq hf9 dX9_whole_93 hlk)
          · skip
            rw [ti_wk_end hend, if_neg (by omega)] at hwk
            have hP := ti_P_l hP
            have hD := ti_D_l hD
            have hsz1 := hS.1
            have hP : va_P D vwCl (ti_wRa E rd t ra xt sz pp mn fr) H := hP
            have hD : va_D A (ti_wRa E rd t ra xt sz pp mn fr) := hD
            refine ti_newM hx hb hts in_X10 tyX10 tyX10_ok hown (hts _ q525) (hts _ q526) (hts _ q80) hK hP hD hS hA (ci := 10) rfl ti_d7M (show cz + 1 ≤ 25 by omega) (show sl + 7 ≤ 139 by omega) dX9_whole_80 (fun q9 H hq9 hs9 hf9 ho9 hP hD hS => ?_)
            have hP : va_P D vwCl (ti_wRa E rd t ra xt sz pp mn fr ++ [(q9, .inr (10, [.null, .null, .null, .null, .null, .int 0, .int 0]))]) H := hP
            have hD : va_D A (ti_wRa E rd t ra xt sz pp mn fr ++ [(q9, .inr (10, [.null, .null, .null, .null, .null, .int 0, .int 0]))]) := hD
            refine lv_dup hx hb dX9_whole_83 rfl ?_
            refine lv_aload_n hx hb dX9_whole_84 rfl (lv_at hl 0 rfl) ?_
            refine va_get (v := .int (nI pp)) hx hb hts in_X9 hown hK hP 0 rfl rfl 2 (by decide) (hts _ q494) (fun _ h => h) rfl dX9_whole_85 ?_
            refine ti_fI (As := [.int (nI pp)]) (rest := [.ref q9]) S hE hP hD hS hA rfl hZ hAz hf9 [3] rfl (met_X10_init l D E htr z0 q9 (nI pp)) rfl (fun _ => rfl) (lw_meth q536) q80 q534 q535 rfl 1 rfl (by decide +kernel) ⟨Nat.le_of_ble_eq_true rfl, Nat.le_of_ble_eq_true rfl⟩ hl.1 rfl (Nat.le_of_ble_eq_true rfl) ⟨show cz + 1 + 0 ≤ 25 by omega, show sl + 7 + 0 ≤ 139 by omega⟩ dX9_whole_88 (fun w1 H locs hu hxq hFr hP hD hS => ?_)
            have fr_q9 : ti_free q9 H := hxq
            have hP : va_P D vwCl (ti_wRa E rd t ra xt sz pp mn fr ++ [(q9, .inr (10, [.ref q9, w1.1, w1.2, .null, .null, .int 0, .int (nI pp)]))]) H := hP
            have hD : va_D A (ti_wRa E rd t ra xt sz pp mn fr ++ [(q9, .inr (10, [.ref q9, w1.1, w1.2, .null, .null, .int 0, .int (nI pp)]))]) := hD
            refine W.eq (g2 := F0 m 91 ls [.ref q9]) rfl ?_
            rw [hQ]
            refine ti_throwOut hx hb htab hlk dX9_whole_91 hK (q9, w1, pp, pp, mn, fr) 0 rfl rfl hwk.symm (ti_subC (is := [0, 1, 2]) rfl hP) (ti_subC (is := [3]) rfl hP) (fun k z hz => ?_) fr_q9 hS (by omega) (by omega)
            have hk : k < 1 := (List.getElem?_eq_some_iff.mp hz).1
            match k, hk with
            | 0, _ => cases hz; show s.heap.size ≤ q9; omega
        · skip
          refine lv_aload_n hx hb dX9_whole_24 rfl (lv_at hl 0 rfl) ?_
          refine ti_pV (As := []) (rest := []) (v := .int (ti_he xt sz pp)) S hE hP [0, 1] (met_X9_here l D E rd t ra xt sz pp mn hxt hsz (by omega)) rfl (lw_V q516 q518 qs9 q79 q519) 0 rfl 0 rfl rfl (by decide +kernel) ⟨Nat.le_of_ble_eq_true rfl, Nat.le_of_ble_eq_true rfl⟩ hl.1 rfl (Nat.le_of_ble_eq_true rfl) ⟨show cz ≤ 25 by omega, show sl ≤ 139 by omega⟩ dX9_whole_25 ?_
          refine lv_bipush (v := nI 59) hx hb dX9_whole_28 (by decide) ?_
          refine lv_icmp_ne (tgt := 69) hx hb dX9_whole_30 (by decide) (fun c30 => ?_) (fun c30 => ?_)
          · skip
            have hend : ¬ (pp < sz ∧ xt pp = 59 ∧ 0 < 12 - mn) := fun z => c30 (by unfold ti_he; rw [if_pos z.1, z.2.1])
            refine lv_aload_n hx hb dX9_whole_69 rfl (lv_at hl 0 rfl) ?_
            refine va_get (v := .int (nI pp)) hx hb hts in_X9 hown hK hP 0 rfl rfl 2 (by decide) (hts _ q494) (fun _ h => h) rfl dX9_whole_70 ?_
            refine lv_aload_n hx hb dX9_whole_73 rfl (lv_at hl 0 rfl) ?_
            refine va_get (v := .int (nI sz)) hx hb hts in_X9 hown hK hP 0 rfl rfl 1 (by decide) (hts _ q493) (fun _ h => h) rfl dX9_whole_74 ?_
            refine tn_ge (tgt := 92) hx hb dX9_whole_77 (by decide) (by omega) (by omega) (fun c77 => ?_) (fun c77 => ?_)
            · skip
              rw [ti_wk_end hend, if_pos (by omega)] at hwk
              subst hmn
              refine lv_aload_n hx hb dX9_whole_92 rfl (lv_at hl 0 rfl) ?_
              have hv9 : rd = (fun _ => rd) (T, pp, fr) := rfl
              refine W.eq (g2 := F0 m 93 ls [.ref ((fun _ => rd) (T, pp, fr))]) (congrArg (fun z => F0 m 93 ls [.ref z]) hv9) ?_
              exact hret _ (T, pp, fr) _ _ _ _ (⟨hwk.symm, hm12, hfr⟩) hP hD hnu hS (by omega) (by omega) (fun hq hf9 => W.aret hx hb hr (Or.inl ⟨_, rfl⟩) (Or.inr ⟨_, rfl⟩) hq hf9 dX9_whole_93 hlk)
            · skip
              rw [ti_wk_end hend, if_neg (by omega)] at hwk
              have hP := ti_P_l hP
              have hD := ti_D_l hD
              have hsz1 := hS.1
              have hP : va_P D vwCl (ti_wRa E rd t ra xt sz pp mn fr) H := hP
              have hD : va_D A (ti_wRa E rd t ra xt sz pp mn fr) := hD
              refine ti_newM hx hb hts in_X10 tyX10 tyX10_ok hown (hts _ q525) (hts _ q526) (hts _ q80) hK hP hD hS hA (ci := 10) rfl ti_d7M (show cz + 1 ≤ 25 by omega) (show sl + 7 ≤ 139 by omega) dX9_whole_80 (fun q9 H hq9 hs9 hf9 ho9 hP hD hS => ?_)
              have hP : va_P D vwCl (ti_wRa E rd t ra xt sz pp mn fr ++ [(q9, .inr (10, [.null, .null, .null, .null, .null, .int 0, .int 0]))]) H := hP
              have hD : va_D A (ti_wRa E rd t ra xt sz pp mn fr ++ [(q9, .inr (10, [.null, .null, .null, .null, .null, .int 0, .int 0]))]) := hD
              refine lv_dup hx hb dX9_whole_83 rfl ?_
              refine lv_aload_n hx hb dX9_whole_84 rfl (lv_at hl 0 rfl) ?_
              refine va_get (v := .int (nI pp)) hx hb hts in_X9 hown hK hP 0 rfl rfl 2 (by decide) (hts _ q494) (fun _ h => h) rfl dX9_whole_85 ?_
              refine ti_fI (As := [.int (nI pp)]) (rest := [.ref q9]) S hE hP hD hS hA rfl hZ hAz hf9 [3] rfl (met_X10_init l D E htr z0 q9 (nI pp)) rfl (fun _ => rfl) (lw_meth q536) q80 q534 q535 rfl 1 rfl (by decide +kernel) ⟨Nat.le_of_ble_eq_true rfl, Nat.le_of_ble_eq_true rfl⟩ hl.1 rfl (Nat.le_of_ble_eq_true rfl) ⟨show cz + 1 + 0 ≤ 25 by omega, show sl + 7 + 0 ≤ 139 by omega⟩ dX9_whole_88 (fun w1 H locs hu hxq hFr hP hD hS => ?_)
              have fr_q9 : ti_free q9 H := hxq
              have hP : va_P D vwCl (ti_wRa E rd t ra xt sz pp mn fr ++ [(q9, .inr (10, [.ref q9, w1.1, w1.2, .null, .null, .int 0, .int (nI pp)]))]) H := hP
              have hD : va_D A (ti_wRa E rd t ra xt sz pp mn fr ++ [(q9, .inr (10, [.ref q9, w1.1, w1.2, .null, .null, .int 0, .int (nI pp)]))]) := hD
              refine W.eq (g2 := F0 m 91 ls [.ref q9]) rfl ?_
              rw [hQ]
              refine ti_throwOut hx hb htab hlk dX9_whole_91 hK (q9, w1, pp, pp, mn, fr) 0 rfl rfl hwk.symm (ti_subC (is := [0, 1, 2]) rfl hP) (ti_subC (is := [3]) rfl hP) (fun k z hz => ?_) fr_q9 hS (by omega) (by omega)
              have hk : k < 1 := (List.getElem?_eq_some_iff.mp hz).1
              match k, hk with
              | 0, _ => cases hz; show s.heap.size ≤ q9; omega
          · skip
            obtain ⟨hq9, hx59⟩ := ti_he_eq (c := 59) hxt (by decide) c30.symm
            obtain ⟨m9, hm9⟩ : ∃ m9, 12 - mn = m9 + 1 := ⟨12 - mn - 1, by omega⟩
            rw [ti_wk_go hq9 hx59 (by omega)] at hwk
            refine lv_aload_n hx hb dX9_whole_33 rfl (lv_at hl 0 rfl) ?_
            refine lv_dup hx hb dX9_whole_34 rfl ?_
            refine va_get (v := .int (nI pp)) hx hb hts in_X9 hown hK hP 0 rfl rfl 2 (by decide) (hts _ q494) (fun _ h => h) rfl dX9_whole_35 ?_
            refine lv_iconst (v := nI 1) hx hb dX9_whole_38 (by decide) ?_
            refine tn_add hx hb dX9_whole_39 ?_
            refine va_put (ty := .int) hx hb hts in_X9 tyX9 tyX9_ok nmX9 hown hK hP hD hS 0 rfl rfl 2 (by decide) (hts _ q494) (fun _ h => h) rfl rfl rfl rfl (Nat.le_of_ble_eq_true rfl) dX9_whole_40 (fun H locs hP hD hS => ?_)
            have hP : va_P D vwCl (ti_wRa E rd t ra xt sz (pp + 1) mn fr ++ ti_cls T) H := hP
            have hD : va_D A (ti_wRa E rd t ra xt sz (pp + 1) mn fr ++ ti_cls T) := hD
            refine lv_aload_n hx hb dX9_whole_43 rfl (lv_at hl 0 rfl) ?_
            refine va_get (v := .ref ra) hx hb hts in_X9 hown hK hP 0 rfl rfl 3 (by decide) (hts _ q495) (fun _ h => h) rfl dX9_whole_44 ?_
            refine lv_aload_n hx hb dX9_whole_47 rfl (lv_at hl 0 rfl) ?_
            refine va_get (v := .int (nI mn)) hx hb hts in_X9 hown hK hP 0 rfl rfl 4 (by decide) (hts _ q496) (fun _ h => h) rfl dX9_whole_48 ?_
            refine lv_aload_n hx hb dX9_whole_51 rfl (lv_at hl 0 rfl) ?_
            have hsz1 := hS.1
            refine ti_callY (ty_runV (As := []) (rest := [.int (nI mn), .ref ra]) S (met_X9_clause l D E htr z0 rd t ra xt sz (pp + 1) mn hxt hsz (by omega) H.size) (cwV 0 S.2.2.2.2 (lw_V q512 q514 qs8 q79 q515) rfl rfl rfl (by decide +kernel) ⟨Nat.le_of_ble_eq_true rfl, Nat.le_of_ble_eq_true rfl⟩) (ti_preXV (xp := fun _ => True) hE hP hD hS rfl hZ hAz trivial [0, 1] rfl rfl 0 rfl rfl) rfl rfl hl.1 rfl (lv_room (Nat.le_of_ble_eq_true rfl)) dX9_whole_52 ⟨show cz + 2 ≤ 25 by omega, show sl + 11 ≤ 139 by omega⟩) hP hD hS hA [0, 1] rfl (fun _ => rfl) (fun _ => rfl) (fun uc H locs hu hn9 hP hD hS => ?_) (fun we H locs ce hpx hxx hP hD hPe hnew hS hce hcv hcl => ?_)
            · skip
              have hgu : s.heap.size ≤ uc.1 := Nat.le_trans hsz1 (hn9 0 _ rfl)
              have hu : ti_c1 (ti_tl xt sz) (pp + 1) = (some uc.2.1, uc.2.2) := hu
              have huq : uc.2.2 ≤ sz := ti_c1_pos (by omega) hu
              have hP : va_P D vwCl (ti_wRa E rd t ra xt sz uc.2.2 mn fr ++ ti_cls (T ++ [(uc.1, uc.2.1)])) H := by rw [ti_cls_app]; exact hP
              have hD : va_D A (ti_wRa E rd t ra xt sz uc.2.2 mn fr ++ ti_cls (T ++ [(uc.1, uc.2.1)])) := by rw [ti_cls_app]; exact hD
              refine W.eq (g2 := F0 m 55 ls [.ref uc.1, .int (nI mn), .ref ra]) rfl ?_
              refine tn_aastR hx hb hK hP hD hS 2 7 (3 + T.length) 11 rfl rfl (ti_cls_at (n := 3) rfl (ti_last T _)) rfl (show mn < 12 by omega) (by decide) dX9_whole_55 (fun H locs hP hD hS => ?_)
              have hP : va_P D vwCl (ti_wRa E rd t ra xt sz uc.2.2 mn (va_up fr mn (some uc.1)) ++ ti_cls (T ++ [(uc.1, uc.2.1)])) H := hP
              have hD : va_D A (ti_wRa E rd t ra xt sz uc.2.2 mn (va_up fr mn (some uc.1)) ++ ti_cls (T ++ [(uc.1, uc.2.1)])) := hD
              refine lv_aload_n hx hb dX9_whole_56 rfl (lv_at hl 0 rfl) ?_
              refine lv_dup hx hb dX9_whole_57 rfl ?_
              refine va_get (v := .int (nI mn)) hx hb hts in_X9 hown hK hP 0 rfl rfl 4 (by decide) (hts _ q496) (fun _ h => h) rfl dX9_whole_58 ?_
              refine lv_iconst (v := nI 1) hx hb dX9_whole_61 (by decide) ?_
              refine tn_add hx hb dX9_whole_62 ?_
              refine va_put (ty := .int) hx hb hts in_X9 tyX9 tyX9_ok nmX9 hown hK hP hD hS 0 rfl rfl 4 (by decide) (hts _ q496) (fun _ h => h) rfl rfl rfl rfl (Nat.le_of_ble_eq_true rfl) dX9_whole_63 (fun H locs hP hD hS => ?_)
              have hP : va_P D vwCl (ti_wRa E rd t ra xt sz uc.2.2 (mn + 1) (va_up fr mn (some uc.1)) ++ ti_cls (T ++ [(uc.1, uc.2.1)])) H := hP
              have hD : va_D A (ti_wRa E rd t ra xt sz uc.2.2 (mn + 1) (va_up fr mn (some uc.1)) ++ ti_cls (T ++ [(uc.1, uc.2.1)])) := hD
              refine lv_goto (tgt := 15) hx hb dX9_whole_66 (by decide) ?_
              exact ih15 (T ++ [(uc.1, uc.2.1)]) uc.2.2 (mn + 1) (va_up fr mn (some uc.1)) (cz + 2) (sl + 11) _ _ _ hP hD hS (by omega) (by rw [List.length_append, hmn]; rfl) (by omega) (by omega) (huq) (by have h9 := ti_frT_push (uc.1, uc.2.1) hfr; rw [← hmn] at h9; exact h9) (ti_nu_cls hnu hgu) (by omega) (by omega) (by rw [show 12 - (mn + 1) = m9 by omega, List.map_append, ← hwk, hm9]; exact (ti_wh_ok hu).symm) (lv_sub hl [0] rfl)
            · skip
              rw [hQ]
              have hP9 : va_P D vwCl (ti_wRa E rd t ra xt sz we.2.2.2 mn fr ++ ti_cls T) H := hP
              have hP9 := ti_P_l hP9
              exact ty_out (fun x hx9 => absurd (htab x hx9) id) hlk hce hcv hcl (fun t ht hal => ⟨(we.1, we.2.1, we.2.2.1, we.2.2.2, mn, fr), rfl, rfl, by rw [← hwk, hm9]; exact ti_wh_no hpx, by rw [ht]; exact hP9, by rw [ht]; exact hPe, fun k9 z9 hz9 => Nat.le_trans hsz1 (hnew k9 z9 hz9), by rw [ht]; exact hxx, hS.F ht⟩) hS.2.2 (by omega) (by omega)
    exact L15 _ ([(uc.1, uc.2.1)]) uc.2.2 1 (va_up fr 0 (some uc.1)) (0 + 2) (0 + 11) _ _ _ hP hD hS (Nat.lt_succ_self _) (rfl) (by omega) (by omega) (huq) (ti_frT_push (T := []) (uc.1, uc.2.1) (fun k x hx => by cases hx)) (ti_nu1 hgu ti_nu0) (by omega) (by omega) (hwk0) (lv_sub hl [0] rfl)
  · skip
    rw [hQ]
    have hP9 : va_P D vwCl (ti_wRa E rd t ra xt sz we.2.2.2 0 fr) H := hP
    exact ty_out (fun x hx9 => absurd (htab x hx9) id) hlk hce hcv hcl (fun t ht hal => ⟨(we.1, we.2.1, we.2.2.1, we.2.2.2, 0, fr), rfl, rfl, ti_wh_no hpx, by rw [ht]; exact hP9, by rw [ht]; exact hPe, fun k9 z9 hz9 => Nat.le_trans hsz1 (hnew k9 z9 hz9), by rw [ht]; exact hxx, hS.F ht⟩) hS.2.2 (Nat.le_of_ble_eq_true rfl) (Nat.le_of_ble_eq_true rfl)
