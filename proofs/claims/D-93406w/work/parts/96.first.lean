/-! TermIdeals: firstOther (printed by w_first.py) -/
set_option maxRecDepth 100000
def ti_hh (G : ti_GL) (a : Nat) : Int32 := if ti_ht a G 9999 = 9999 then -5 else nI (ti_ht a G 9999)
def ti_fo (G : ti_GL) (f : Nat → Int32) (n j : Nat) : List Nat → Int32
  | [] => -5
  | a :: r => if n ≤ j + a then nI (100 + a) else if f (j + a) = ti_hh G a then ti_fo G f n j r else nI a
theorem ti_out_in {j : Int32} {n : Nat} (h : ti_lt j n = false) : ¬ vp_in j n := by
  intro hin
  have h := of_decide_eq_false h
  have h1 : ¬ j < 0 := fun z => hin (Or.inl z)
  have h2 : ¬ n ≤ j.toNatClampNeg := fun z => hin (Or.inr z)
  have h3 : 0 ≤ j.toInt := by
    rw [Int32.lt_iff_toInt_lt] at h1
    have : (0 : Int32).toInt = 0 := rfl
    omega
  have h4 : (j.toNatClampNeg : Int) = j.toInt := by
    show ((j.toInt.toNat : Nat) : Int) = _
    omega
  exact h ⟨h3, by omega⟩

abbrev ti_wFO (E : Nat → ClassId) (ad : Nat → Nat) (tx : Nat) (hi : Bool) (h ua ub : Nat) (fa fb : Nat → Nat) (m9 : Nat) : va_W := [(ad 0, .inr (0, [.ref (ad 1), .ref (ad 2), .ref (ad 5), .ref (ad 11), .ref (ad 14), .ref (ad 16), .ref (ad 18), .ref (ad 20), .ref (ad 22), .int (nI tx), .ref (ad 23), .ref (ad 27), .ref (ad 31), .ref (ad 35), .ref (ad 36), .ref (ad 37), .ref (ad 41), .ref (ad 45), .int (ti_b hi)])), (h, .inr (1, [.ref ua, .ref ub, .int (nI m9)])), (ua, .inl (E 0, 6, .inl (ti_n fa))), (ub, .inl (E 0, 6, .inl (ti_n fb)))]

theorem ti_add0 {j : Int32} : j + nI 0 = j := Int32.add_zero j

set_option maxHeartbeats 2000000 in
theorem met_X0_firstOther_x (l : Launch) (D : va_G) (E : Nat → ClassId) (htr : l.stackTraces = false) (z0 : Nat) (ad : Nat → Nat) (tx : Nat) (hi : Bool) (h ua ub : Nat) (fa fb : Nat → Nat) (m9 : Nat) (hm9 : m9 ≤ 6) (hfa : ∀ k, fa k ≤ 9) (hfb : ∀ k, fb k ≤ 9) (a n : Nat) (hn60 : n ≤ 60) (f : Nat → Int32) (j : Int32) (hin : ti_lt j n = false) : ti_MetB (σ := Unit) (τ := Unit) l D E yX0_firstOther (wsW_ yX0_firstOther cX0_firstOther 6 (some .int) [(3, 44, 54, 336), (3, 44, 54, 338), (45, 53, 54, 336), (45, 53, 54, 338)]) 9 3 222 z0 (ti_wFO E ad tx hi h ua ub fa fb m9 ++ [(a, .inl (E 1, n, .inl f))]) [.ref (ad 0), .ref h, .ref a, .int j] (fun _ => True) (fun _ => ti_wFO E ad tx hi h ua ub fa fb m9 ++ [(a, .inl (E 1, n, .inl f))]) (fun u => some (.int ((fun _ => nI 100) u))) (fun _ => True) (fun _ _ => True) (fun w => RX14) (fun w => 0) (fun w => ti_wFO E ad tx hi h ua ub fa fb m9 ++ [(a, .inl (E 1, n, .inl f))]) (fun w => []) (fun w => False) (fun w H => True) := by
  refine ti_metBH (by decide) (Nat.le_of_ble_eq_true rfl) ?_
  intro p e s m below meth c H A Q ls S hE hP hD hS hA hZ hAz hx0 htab hl hret hq
  obtain ⟨hQ, hr, hlk, hinit⟩ := hq
  have hsz0 := hS.1
  have hx := S.1
  have hb := S.2.1
  have hown := S.2.2.2.1
  have hts := S.2.2.2.2
  have hK := hE.1
  have hl : lv_has ls 6 [(0, .ref (ad 0)), (1, .ref h), (2, .ref a), (3, .int j)] := hl
  refine lv_iconst (v := nI 0) hx hb dX0_firstOther_0 (by decide) ?_
  refine lv_istore (lv' := [(4, .int (nI 0)), (0, .ref (ad 0)), (1, .ref h), (2, .ref a), (3, .int j)]) hx hb dX0_firstOther_1 hl (by decide) rfl (fun ls hl => ?_)
  refine lv_iload hx hb dX0_firstOther_3 (lv_at hl 0 rfl) ?_
  refine lv_bipush (v := nI 9) hx hb dX0_firstOther_5 (by decide) ?_
  refine tn_gt (tgt := 51) hx hb dX0_firstOther_7 (by decide) (by omega) (by omega) (fun c7 => ?_) (fun c7 => ?_)
  · skip
    exact absurd c7 (by decide)
  · skip
    refine lv_aload_n hx hb dX0_firstOther_10 rfl (lv_at hl 2 rfl) ?_
    refine lv_iload hx hb dX0_firstOther_11 (lv_at hl 0 rfl) ?_
    have hht : ti_ht 0 (ti_gr fa fb 0 m9) 9999 ≤ 9999 := ti_ht_le _ _ _
    refine ti_pV (As := [.int (nI 0)]) (rest := []) (v := .int (nI (ti_ht 0 (ti_gr fa fb 0 m9) 9999))) S hE hP [1, 2, 3] (met_X1_height l D E h ua ub fa fb m9 hm9 hfa hfb 0 (by omega)) rfl (lw_V q969 q779 q780 q67 q781) 1 rfl 1 rfl rfl (by decide +kernel) ⟨Nat.le_of_ble_eq_true rfl, Nat.le_of_ble_eq_true rfl⟩ hl.1 rfl (Nat.le_of_ble_eq_true rfl) ⟨Nat.le_of_ble_eq_true rfl, Nat.le_of_ble_eq_true rfl⟩ dX0_firstOther_13 ?_
    refine lv_istore (lv' := [(5, .int (nI (ti_ht 0 (ti_gr fa fb 0 m9) 9999))), (4, .int (nI 0)), (0, .ref (ad 0)), (1, .ref h), (2, .ref a), (3, .int j)]) hx hb dX0_firstOther_16 hl (by decide) rfl (fun ls hl => ?_)
    refine lv_aload_n hx hb dX0_firstOther_18 rfl (lv_at hl 4 rfl) ?_
    refine lv_iload_n hx hb dX0_firstOther_19 rfl (lv_at hl 5 rfl) ?_
    refine lv_iload hx hb dX0_firstOther_20 (lv_at hl 1 rfl) ?_
    refine lv_iadd hx hb dX0_firstOther_22 ?_
    refine vx_baldZ hx hb hK hP 4 1 rfl rfl (by rw [ti_add0]; exact ti_out_in hin) dX0_firstOther_23 (fun tx9 htx => ti_aiob S hE htr hZ hAz hS hl.1 (show n < 2 ^ 31 by omega) htx (Nat.le_of_ble_eq_true rfl) (Nat.le_of_ble_eq_true rfl) (Nat.le_of_ble_eq_true rfl) (Nat.le_of_ble_eq_true rfl) hlk (fun H1 q9 ce hk9 hS hce hcv hcl => ?_))
    have hP := hP.kept (fun k x hx => hk9 x.1 (hP k x hx).lt)
    refine vx_catch hown [] ⟨3, 44, 54, 336⟩ [⟨3, 44, 54, 338⟩, ⟨45, 53, 54, 336⟩, ⟨45, 53, 54, 338⟩] htab (fun z hz => absurd hz List.not_mem_nil) rfl (by decide) (hts _ q928) (hE.use q943 rfl rfl) hce hcv hcl ?_
    refine lv_astore (lv' := [(5, .ref q9), (4, .int (nI 0)), (0, .ref (ad 0)), (1, .ref h), (2, .ref a), (3, .int j)]) hx hb dX0_firstOther_54 hl (by decide) rfl (fun ls hl => ?_)
    refine lv_bipush (v := nI 100) hx hb dX0_firstOther_56 (by decide) ?_
    refine lv_iload hx hb dX0_firstOther_58 (lv_at hl 1 rfl) ?_
    refine tn_add hx hb dX0_firstOther_60 ?_
    have hv9 : (nI 100) = (fun _ => nI 100) () := by decide
    refine W.eq (g2 := F0 m 61 ls [.int ((fun _ => nI 100) ())]) (congrArg (fun z => F0 m 61 ls [.int z]) hv9) ?_
    exact hret _ () _ _ _ _ (trivial) hP trivial hS (Nat.le_of_ble_eq_true rfl) (Nat.le_of_ble_eq_true rfl) (fun hq hf9 => W.iret hx hb hr hq hf9 dX0_firstOther_61 hlk)

theorem ti_vout {n i : Nat} (h : n ≤ i) (hi : i < 2 ^ 31) : ¬ vp_in (nI i) n := fun z => z (Or.inr (by rw [nI_clamp hi]; exact h))

set_option maxHeartbeats 2000000 in
theorem met_X0_firstOther (l : Launch) (D : va_G) (E : Nat → ClassId) (htr : l.stackTraces = false) (z0 : Nat) (ad : Nat → Nat) (tx : Nat) (hi : Bool) (h ua ub : Nat) (fa fb : Nat → Nat) (m9 : Nat) (hm9 : m9 ≤ 6) (hfa : ∀ k, fa k ≤ 9) (hfb : ∀ k, fb k ≤ 9) (a n : Nat) (hn60 : n ≤ 60) (f : Nat → Int32) (j9 : Nat) (hj9 : j9 < n) : ti_MetB (σ := Unit) (τ := Unit) l D E yX0_firstOther (wsW_ yX0_firstOther cX0_firstOther 6 (some .int) [(3, 44, 54, 336), (3, 44, 54, 338), (45, 53, 54, 336), (45, 53, 54, 338)]) 9 3 222 z0 (ti_wFO E ad tx hi h ua ub fa fb m9 ++ [(a, .inl (E 1, n, .inl f))]) [.ref (ad 0), .ref h, .ref a, .int (nI j9)] (fun _ => True) (fun _ => ti_wFO E ad tx hi h ua ub fa fb m9 ++ [(a, .inl (E 1, n, .inl f))]) (fun u => some (.int ((fun _ => ti_fo (ti_gr fa fb 0 m9) f n j9 (List.range' 0 10)) u))) (fun _ => True) (fun _ _ => True) (fun w => RX14) (fun w => 0) (fun w => ti_wFO E ad tx hi h ua ub fa fb m9 ++ [(a, .inl (E 1, n, .inl f))]) (fun w => []) (fun w => False) (fun w H => True) := by
  refine ti_metBH (by decide) (Nat.le_of_ble_eq_true rfl) ?_
  intro p e s m below meth c H A Q ls S hE hP hD hS hA hZ hAz hx0 htab hl hret hq
  obtain ⟨hQ, hr, hlk, hinit⟩ := hq
  have hsz0 := hS.1
  have hx := S.1
  have hb := S.2.1
  have hown := S.2.2.2.1
  have hts := S.2.2.2.2
  have hK := hE.1
  have hl : lv_has ls 6 [(0, .ref (ad 0)), (1, .ref h), (2, .ref a), (3, .int (nI j9))] := hl
  refine lv_iconst (v := nI 0) hx hb dX0_firstOther_0 (by decide) ?_
  refine lv_istore (lv' := [(4, .int (nI 0)), (0, .ref (ad 0)), (1, .ref h), (2, .ref a), (3, .int (nI j9))]) hx hb dX0_firstOther_1 hl (by decide) rfl (fun ls hl => ?_)
  have L3 : ∀ (N : Nat) (k : Nat) (ls : Array Slot) (H : Heap) (locs : List Loc), va_P D vwCl (ti_wFO E ad tx hi h ua ub fa fb m9 ++ [(a, .inl (E 1, n, .inl f))]) H → va_D A (ti_wFO E ad tx hi h ua ub fa fb m9 ++ [(a, .inl (E 1, n, .inl f))]) → va_S A s.heap H locs → (10 - k) < N → (k ≤ 10) → (ti_fo (ti_gr fa fb 0 m9) f n j9 (List.range' k (10 - k)) = ti_fo (ti_gr fa fb 0 m9) f n j9 (List.range' 0 10)) → lv_has ls 6 [(0, .ref (ad 0)), (1, .ref h), (2, .ref a), (3, .int (nI j9)), (4, .int (nI k))] → W p l e (ti_rb 9 3 222) s m ([.ref (ad 0), .ref h, .ref a, .int (nI j9)] : List Value).toArray below meth c H locs 0 0 Q (F0 m 3 ls []) := by
    intro N
    induction N with
    | zero => intro k ls H locs hP hD hS h0; exact absurd h0 (Nat.not_lt_zero _)
    | succ N ih3 =>
      intro k ls H locs hP hD hS hN hk hfo hl
      refine lv_iload hx hb dX0_firstOther_3 (lv_at hl 4 rfl) ?_
      refine lv_bipush (v := nI 9) hx hb dX0_firstOther_5 (by decide) ?_
      refine tn_gt (tgt := 51) hx hb dX0_firstOther_7 (by decide) (by omega) (by omega) (fun c7 => ?_) (fun c7 => ?_)
      · skip
        rw [show 10 - k = 0 by omega] at hfo
        refine lv_bipush (v := (-5)) hx hb dX0_firstOther_51 (by decide) ?_
        have hv9 : ((-5)) = (fun _ => ti_fo (ti_gr fa fb 0 m9) f n j9 (List.range' 0 10)) () := hfo
        refine W.eq (g2 := F0 m 53 ls [.int ((fun _ => ti_fo (ti_gr fa fb 0 m9) f n j9 (List.range' 0 10)) ())]) (congrArg (fun z => F0 m 53 ls [.int z]) hv9) ?_
        exact hret _ () _ _ _ _ (trivial) hP trivial hS (Nat.le_of_ble_eq_true rfl) (Nat.le_of_ble_eq_true rfl) (fun hq hf9 => W.iret hx hb hr hq hf9 dX0_firstOther_53 hlk)
      · skip
        obtain ⟨m8, hm8⟩ : ∃ m8, 10 - k = m8 + 1 := ⟨10 - k - 1, by omega⟩
        rw [hm8, List.range'_succ, ti_fo] at hfo
        refine lv_aload_n hx hb dX0_firstOther_10 rfl (lv_at hl 1 rfl) ?_
        refine lv_iload hx hb dX0_firstOther_11 (lv_at hl 4 rfl) ?_
        have hht : ti_ht k (ti_gr fa fb 0 m9) 9999 ≤ 9999 := ti_ht_le _ _ _
        refine ti_pV (As := [.int (nI k)]) (rest := []) (v := .int (nI (ti_ht k (ti_gr fa fb 0 m9) 9999))) S hE hP [1, 2, 3] (met_X1_height l D E h ua ub fa fb m9 hm9 hfa hfb k (by omega)) rfl (lw_V q969 q779 q780 q67 q781) 1 rfl 1 rfl rfl (by decide +kernel) ⟨Nat.le_of_ble_eq_true rfl, Nat.le_of_ble_eq_true rfl⟩ hl.1 rfl (Nat.le_of_ble_eq_true rfl) ⟨Nat.le_of_ble_eq_true rfl, Nat.le_of_ble_eq_true rfl⟩ dX0_firstOther_13 ?_
        refine lv_istore (lv' := [(5, .int (nI (ti_ht k (ti_gr fa fb 0 m9) 9999))), (0, .ref (ad 0)), (1, .ref h), (2, .ref a), (3, .int (nI j9)), (4, .int (nI k))]) hx hb dX0_firstOther_16 hl (by decide) rfl (fun ls hl => ?_)
        refine lv_aload_n hx hb dX0_firstOther_18 rfl (lv_at hl 3 rfl) ?_
        refine lv_iload_n hx hb dX0_firstOther_19 rfl (lv_at hl 4 rfl) ?_
        refine lv_iload hx hb dX0_firstOther_20 (lv_at hl 5 rfl) ?_
        refine tn_add hx hb dX0_firstOther_22 ?_
        by_cases hin9 : n ≤ j9 + k
        · skip
          refine vx_baldZ hx hb hK hP 4 1 rfl rfl (ti_vout hin9 (by omega)) dX0_firstOther_23 (fun tx9 htx => ti_aiob S hE htr hZ hAz hS hl.1 (show n < 2 ^ 31 by omega) htx (Nat.le_of_ble_eq_true rfl) (Nat.le_of_ble_eq_true rfl) (Nat.le_of_ble_eq_true rfl) (Nat.le_of_ble_eq_true rfl) hlk (fun H1 q9 ce hk9 hS hce hcv hcl => ?_))
          have hP := hP.kept (fun k x hx => hk9 x.1 (hP k x hx).lt)
          refine vx_catch hown [] ⟨3, 44, 54, 336⟩ [⟨3, 44, 54, 338⟩, ⟨45, 53, 54, 336⟩, ⟨45, 53, 54, 338⟩] htab (fun z hz => absurd hz List.not_mem_nil) rfl (by decide) (hts _ q928) (hE.use q943 rfl rfl) hce hcv hcl ?_
          refine lv_astore (lv' := [(5, .ref q9), (0, .ref (ad 0)), (1, .ref h), (2, .ref a), (3, .int (nI j9)), (4, .int (nI k))]) hx hb dX0_firstOther_54 hl (by decide) rfl (fun ls hl => ?_)
          refine lv_bipush (v := nI 100) hx hb dX0_firstOther_56 (by decide) ?_
          refine lv_iload hx hb dX0_firstOther_58 (lv_at hl 5 rfl) ?_
          refine tn_add hx hb dX0_firstOther_60 ?_
          have hv9 : (nI (100 + k)) = (fun _ => ti_fo (ti_gr fa fb 0 m9) f n j9 (List.range' 0 10)) () := by rw [if_pos hin9] at hfo; exact hfo
          refine W.eq (g2 := F0 m 61 ls [.int ((fun _ => ti_fo (ti_gr fa fb 0 m9) f n j9 (List.range' 0 10)) ())]) (congrArg (fun z => F0 m 61 ls [.int z]) hv9) ?_
          exact hret _ () _ _ _ _ (trivial) hP trivial hS (Nat.le_of_ble_eq_true rfl) (Nat.le_of_ble_eq_true rfl) (fun hq hf9 => W.iret hx hb hr hq hf9 dX0_firstOther_61 hlk)
        · skip
          refine tn_baldR (f := f) hx hb hK hP 4 1 rfl rfl (by omega) (by omega) dX0_firstOther_23 ?_
          refine lv_iload hx hb dX0_firstOther_24 (lv_at hl 0 rfl) ?_
          refine lv_sipush (v := nI 9999) hx hb dX0_firstOther_26 (by decide) ?_
          refine tn_ne (tgt := 37) hx hb dX0_firstOther_29 (by decide) (by omega) (by omega) (fun c29 => ?_) (fun c29 => ?_)
          · skip
            refine lv_iload hx hb dX0_firstOther_37 (lv_at hl 0 rfl) ?_
            refine lv_icmp_eq (tgt := 45) hx hb dX0_firstOther_39 (by decide) (fun c39 => ?_) (fun c39 => ?_)
            · skip
              rw [if_neg hin9]  at hfo
              have hhv : ti_hh (ti_gr fa fb 0 m9) k = nI (ti_ht k (ti_gr fa fb 0 m9) 9999) := by unfold ti_hh; rw [if_neg c29]
              rw [if_pos (by rw [hhv]; exact c39)] at hfo
              refine lv_iinc (v := nI (k + 1)) (lv' := [(4, .int (nI (k + 1))), (5, .int (nI (ti_ht k (ti_gr fa fb 0 m9) 9999))), (0, .ref (ad 0)), (1, .ref h), (2, .ref a), (3, .int (nI j9))]) hx hb dX0_firstOther_45 hl (k := 5) rfl (nI_1 k) (by decide) rfl (fun ls hl => ?_)
              refine lv_goto (tgt := 3) hx hb dX0_firstOther_48 (by decide) ?_
              exact ih3 (k + 1) _ _ _ hP hD hS (by omega) (by omega) (by rw [show 10 - (k + 1) = m8 by omega]; exact hfo) (lv_sub hl [2, 3, 4, 5, 0] rfl)
            · skip
              rw [if_neg hin9] at hfo
              have hhv : ti_hh (ti_gr fa fb 0 m9) k = nI (ti_ht k (ti_gr fa fb 0 m9) 9999) := by unfold ti_hh; rw [if_neg c29]
              rw [if_neg (by rw [hhv]; exact c39)] at hfo
              refine lv_iload hx hb dX0_firstOther_42 (lv_at hl 5 rfl) ?_
              have hv9 : (nI k) = (fun _ => ti_fo (ti_gr fa fb 0 m9) f n j9 (List.range' 0 10)) () := hfo
              refine W.eq (g2 := F0 m 44 ls [.int ((fun _ => ti_fo (ti_gr fa fb 0 m9) f n j9 (List.range' 0 10)) ())]) (congrArg (fun z => F0 m 44 ls [.int z]) hv9) ?_
              exact hret _ () _ _ _ _ (trivial) hP trivial hS (Nat.le_of_ble_eq_true rfl) (Nat.le_of_ble_eq_true rfl) (fun hq hf9 => W.iret hx hb hr hq hf9 dX0_firstOther_44 hlk)
          · skip
            refine lv_bipush (v := (-5)) hx hb dX0_firstOther_32 (by decide) ?_
            refine lv_goto (tgt := 39) hx hb dX0_firstOther_34 (by decide) ?_
            refine lv_icmp_eq (tgt := 45) hx hb dX0_firstOther_39 (by decide) (fun c39 => ?_) (fun c39 => ?_)
            · skip
              rw [if_neg hin9]  at hfo
              have hhv : ti_hh (ti_gr fa fb 0 m9) k = -5 := by unfold ti_hh; rw [if_pos c29]
              rw [if_pos (by rw [hhv]; exact c39)] at hfo
              refine lv_iinc (v := nI (k + 1)) (lv' := [(4, .int (nI (k + 1))), (5, .int (nI (ti_ht k (ti_gr fa fb 0 m9) 9999))), (0, .ref (ad 0)), (1, .ref h), (2, .ref a), (3, .int (nI j9))]) hx hb dX0_firstOther_45 hl (k := 5) rfl (nI_1 k) (by decide) rfl (fun ls hl => ?_)
              refine lv_goto (tgt := 3) hx hb dX0_firstOther_48 (by decide) ?_
              exact ih3 (k + 1) _ _ _ hP hD hS (by omega) (by omega) (by rw [show 10 - (k + 1) = m8 by omega]; exact hfo) (lv_sub hl [2, 3, 4, 5, 0] rfl)
            · skip
              rw [if_neg hin9] at hfo
              have hhv : ti_hh (ti_gr fa fb 0 m9) k = -5 := by unfold ti_hh; rw [if_pos c29]
              rw [if_neg (by rw [hhv]; exact c39)] at hfo
              refine lv_iload hx hb dX0_firstOther_42 (lv_at hl 5 rfl) ?_
              have hv9 : (nI k) = (fun _ => ti_fo (ti_gr fa fb 0 m9) f n j9 (List.range' 0 10)) () := hfo
              refine W.eq (g2 := F0 m 44 ls [.int ((fun _ => ti_fo (ti_gr fa fb 0 m9) f n j9 (List.range' 0 10)) ())]) (congrArg (fun z => F0 m 44 ls [.int z]) hv9) ?_
              exact hret _ () _ _ _ _ (trivial) hP trivial hS (Nat.le_of_ble_eq_true rfl) (Nat.le_of_ble_eq_true rfl) (fun hq hf9 => W.iret hx hb hr hq hf9 dX0_firstOther_44 hlk)
  exact L3 _ 0 _ _ _ hP hD hS (Nat.lt_succ_self _) (by omega) (rfl) (lv_sub hl [1, 2, 3, 4, 0] rfl)

set_option maxHeartbeats 2000000 in
theorem met_X0_firstOther_n (l : Launch) (D : va_G) (E : Nat → ClassId) (htr : l.stackTraces = false) (z0 : Nat) (ad : Nat → Nat) (tx : Nat) (hi : Bool) (h ua ub : Nat) (fa fb : Nat → Nat) (m9 : Nat) (hm9 : m9 ≤ 6) (hfa : ∀ k, fa k ≤ 9) (hfb : ∀ k, fb k ≤ 9) (j : Int32) : ti_MetB (σ := Unit) (τ := Unit) l D E yX0_firstOther (wsW_ yX0_firstOther cX0_firstOther 6 (some .int) [(3, 44, 54, 336), (3, 44, 54, 338), (45, 53, 54, 336), (45, 53, 54, 338)]) 9 3 222 z0 (ti_wFO E ad tx hi h ua ub fa fb m9) [.ref (ad 0), .ref h, .null, .int j] (fun _ => True) (fun _ => ti_wFO E ad tx hi h ua ub fa fb m9) (fun u => some (.int ((fun _ => nI 100) u))) (fun _ => True) (fun _ _ => True) (fun w => RX14) (fun w => 0) (fun w => ti_wFO E ad tx hi h ua ub fa fb m9) (fun w => []) (fun w => False) (fun w H => True) := by
  refine ti_metBH (by decide) (Nat.le_of_ble_eq_true rfl) ?_
  intro p e s m below meth c H A Q ls S hE hP hD hS hA hZ hAz hx0 htab hl hret hq
  obtain ⟨hQ, hr, hlk, hinit⟩ := hq
  have hsz0 := hS.1
  have hx := S.1
  have hb := S.2.1
  have hown := S.2.2.2.1
  have hts := S.2.2.2.2
  have hK := hE.1
  have hl : lv_has ls 6 [(0, .ref (ad 0)), (1, .ref h), (2, .null), (3, .int j)] := hl
  refine lv_iconst (v := nI 0) hx hb dX0_firstOther_0 (by decide) ?_
  refine lv_istore (lv' := [(4, .int (nI 0)), (0, .ref (ad 0)), (1, .ref h), (2, .null), (3, .int j)]) hx hb dX0_firstOther_1 hl (by decide) rfl (fun ls hl => ?_)
  refine lv_iload hx hb dX0_firstOther_3 (lv_at hl 0 rfl) ?_
  refine lv_bipush (v := nI 9) hx hb dX0_firstOther_5 (by decide) ?_
  refine tn_gt (tgt := 51) hx hb dX0_firstOther_7 (by decide) (by omega) (by omega) (fun c7 => ?_) (fun c7 => ?_)
  · skip
    exact absurd c7 (by decide)
  · skip
    refine lv_aload_n hx hb dX0_firstOther_10 rfl (lv_at hl 2 rfl) ?_
    refine lv_iload hx hb dX0_firstOther_11 (lv_at hl 0 rfl) ?_
    have hht : ti_ht 0 (ti_gr fa fb 0 m9) 9999 ≤ 9999 := ti_ht_le _ _ _
    refine ti_pV (As := [.int (nI 0)]) (rest := []) (v := .int (nI (ti_ht 0 (ti_gr fa fb 0 m9) 9999))) S hE hP [1, 2, 3] (met_X1_height l D E h ua ub fa fb m9 hm9 hfa hfb 0 (by omega)) rfl (lw_V q969 q779 q780 q67 q781) 1 rfl 1 rfl rfl (by decide +kernel) ⟨Nat.le_of_ble_eq_true rfl, Nat.le_of_ble_eq_true rfl⟩ hl.1 rfl (Nat.le_of_ble_eq_true rfl) ⟨Nat.le_of_ble_eq_true rfl, Nat.le_of_ble_eq_true rfl⟩ dX0_firstOther_13 ?_
    refine lv_istore (lv' := [(5, .int (nI (ti_ht 0 (ti_gr fa fb 0 m9) 9999))), (4, .int (nI 0)), (0, .ref (ad 0)), (1, .ref h), (2, .null), (3, .int j)]) hx hb dX0_firstOther_16 hl (by decide) rfl (fun ls hl => ?_)
    refine lv_aload_nN hx hb dX0_firstOther_18 rfl (lv_at hl 4 rfl) ?_
    refine lv_iload_n hx hb dX0_firstOther_19 rfl (lv_at hl 5 rfl) ?_
    refine lv_iload hx hb dX0_firstOther_20 (lv_at hl 1 rfl) ?_
    refine lv_iadd hx hb dX0_firstOther_22 ?_
    refine vx_baloadN hx hb dX0_firstOther_23 (ti_npr S hE htr hZ hAz hS hl.1 (Nat.le_of_ble_eq_true rfl) (Nat.le_of_ble_eq_true rfl) (Nat.le_of_ble_eq_true rfl) (Nat.le_of_ble_eq_true rfl) hlk (fun H1 q9 ce hk9 hS hce hcv hcl => ?_))
    have hP := hP.kept (fun k x hx => hk9 x.1 (hP k x hx).lt)
    refine vx_catch hown [⟨3, 44, 54, 336⟩] ⟨3, 44, 54, 338⟩ [⟨45, 53, 54, 336⟩, ⟨45, 53, 54, 338⟩] htab (fun z hz => by rw [List.mem_singleton.mp hz]; exact Or.inr ⟨by decide, _, hts _ q928, hZ.2.2.2.2 _ _ (by decide)⟩) rfl (by decide) (hts _ q947) (hE.use q966 rfl rfl) hce hcv hcl ?_
    refine lv_astore (lv' := [(5, .ref q9), (4, .int (nI 0)), (0, .ref (ad 0)), (1, .ref h), (2, .null), (3, .int j)]) hx hb dX0_firstOther_54 hl (by decide) rfl (fun ls hl => ?_)
    refine lv_bipush (v := nI 100) hx hb dX0_firstOther_56 (by decide) ?_
    refine lv_iload hx hb dX0_firstOther_58 (lv_at hl 1 rfl) ?_
    refine tn_add hx hb dX0_firstOther_60 ?_
    have hv9 : (nI 100) = (fun _ => nI 100) () := by decide
    refine W.eq (g2 := F0 m 61 ls [.int ((fun _ => nI 100) ())]) (congrArg (fun z => F0 m 61 ls [.int z]) hv9) ?_
    exact hret _ () _ _ _ _ (trivial) hP trivial hS (Nat.le_of_ble_eq_true rfl) (Nat.le_of_ble_eq_true rfl) (fun hq hf9 => W.iret hx hb hr hq hf9 dX0_firstOther_61 hlk)
