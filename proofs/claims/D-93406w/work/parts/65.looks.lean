/-! TermIdeals$Faces.looks at an ideal that has generators (printed by w_looks.py) -/
set_option maxRecDepth 100000

set_option maxHeartbeats 1000000 in
theorem met_X2_looks (l : Launch) (D : va_G) (E : Nat → ClassId) (f0 f1 f2 f3 f4 f5 : Nat) (ov : Value) (ss ts lv : Nat → Nat) (nf up low : Nat) (us los : Nat → Nat) (nj : Nat) (h ua ub : Nat) (fa fb : Nat → Nat) (n : Nat) (hn : n ≤ 6) (hfa : ∀ k, fa k ≤ 9) (hfb : ∀ k, fb k ≤ 9) (hnf : nf ≤ 8) (hss : ∀ k, ss k ≤ 9) (hts9 : ∀ k, ts k ≤ 9) (hlv : ∀ k, lv k ≤ 9999) (hn0 : 0 < n) (hN : ti_r2 (ti_gr fa fb 0 n) 9999 (List.range' 1 9) ≤ 6) : ti_MetM (σ := (Nat → Nat) × (Nat → Nat) × (Nat → Nat) × Nat) l D E yX2_looks cX2_looks 4 (some (.object "TermIdeals$Faces")) 3 0 0 (ti_wF E f0 f1 f2 f3 f4 f5 ov ss ts lv nf up low us los nj ++ ti_wI E h ua ub fa fb n) [.ref f0, .ref h] (fun u => ti_wF E f0 f1 f2 f3 f4 f5 (.ref h) u.1 u.2.1 u.2.2.1 u.2.2.2 up low us los nj ++ ti_wI E h ua ub fa fb n) (fun u => some (.ref ((fun _ => f0) u))) (fun u => ti_fr u.1 u.2.1 u.2.2.1 0 u.2.2.2 = (ti_fx (ti_gr fa fb 0 n) 9999).reverse ∧ u.2.2.2 ≤ 8 ∧ (∀ k, u.1 k ≤ 9) ∧ (∀ k, u.2.1 k ≤ 9) ∧ (∀ k, u.2.2.1 k ≤ 9999)) := by
  refine ti_mutA (σ := (Nat → Nat) × (Nat → Nat) × (Nat → Nat) × Nat) (va := fun _ => f0) (by decide) (Nat.le_of_ble_eq_true rfl) ?_
  intro p e s m below meth c H H0 A Q ls S hE hP hD hS hA hinit hl hret
  have hx := S.1
  have hb := S.2.1
  have hown := S.2.2.2.1
  have hts := S.2.2.2.2
  have hK := hE.1
  have hl : lv_has ls 4 [(0, .ref f0), (1, .ref h)] := hl
  refine lv_aload_n hx hb dX2_looks_0 rfl (lv_at hl 1 rfl) ?_
  refine va_getN (v := .int (nI n)) hx hb hts in_X1 hown hK hP 6 rfl rfl 2 (by decide) (hE.use q115 rfl rfl) (fun _ h => h) rfl dX2_looks_1 ?_
  refine tn_if_ne (tgt := 15) hx hb dX2_looks_4 (by decide) (by omega) (fun c4 => ?_) (fun c4 => ?_)
  · skip
    refine lv_aload_n hx hb dX2_looks_15 rfl (lv_at hl 0 rfl) ?_
    refine lv_aload_n hx hb dX2_looks_16 rfl (lv_at hl 1 rfl) ?_
    refine va_put (ty := .object "TermIdeals$Ideal") hx hb hts in_X2 tyX2 tyX2_ok nmX2 hown hK hP hD hS 0 rfl rfl 0 (by decide) (hts _ q132) (fun _ h => h) rfl rfl rfl rfl (Nat.le_of_ble_eq_true rfl) dX2_looks_17 (fun H locs hP hD hS => ?_)
    have hP : va_P D vwCl (ti_wF E f0 f1 f2 f3 f4 f5 (.ref h) ss ts lv nf up low us los nj ++ ti_wI E h ua ub fa fb n) H := hP
    have hD : va_D A (ti_wF E f0 f1 f2 f3 f4 f5 (.ref h) ss ts lv nf up low us los nj ++ ti_wI E h ua ub fa fb n) := hD
    refine lv_aload_n hx hb dX2_looks_20 rfl (lv_at hl 0 rfl) ?_
    refine lv_iconst (v := nI 0) hx hb dX2_looks_21 (by decide) ?_
    refine va_put (ty := .int) hx hb hts in_X2 tyX2 tyX2_ok nmX2 hown hK hP hD hS 0 rfl rfl 4 (by decide) (hts _ q139) (fun _ h => h) rfl rfl rfl rfl (Nat.le_of_ble_eq_true rfl) dX2_looks_22 (fun H locs hP hD hS => ?_)
    have hP : va_P D vwCl (ti_wF E f0 f1 f2 f3 f4 f5 (.ref h) ss ts lv 0 up low us los nj ++ ti_wI E h ua ub fa fb n) H := hP
    have hD : va_D A (ti_wF E f0 f1 f2 f3 f4 f5 (.ref h) ss ts lv 0 up low us los nj ++ ti_wI E h ua ub fa fb n) := hD
    refine lv_aload_n hx hb dX2_looks_25 rfl (lv_at hl 0 rfl) ?_
    refine lv_iconst (v := nI 1) hx hb dX2_looks_26 (by decide) ?_
    refine lv_iconst (v := nI 0) hx hb dX2_looks_27 (by decide) ?_
    refine ti_mV (As := [.int (nI 1), .int (nI 0)]) (rest := []) S hE hP hD hS hA [0, 1, 2, 3, 4, 5, 6, 7, 8] rfl (met_X2_comes l D E f0 f1 f2 f3 f4 f5 ss ts lv 0 up low us los nj h ua ub fa fb n hn hfa hfb (by omega) hss hts9 hlv 1 0 (by omega) (by omega) (by decide)) rfl (fun _ => rfl) (lw_V q441 q443 qs4 q68 q444) 2 rfl 0 rfl rfl (by decide +kernel) ⟨Nat.le_of_ble_eq_true rfl, Nat.le_of_ble_eq_true rfl⟩ hl.1 rfl (Nat.le_of_ble_eq_true rfl) ⟨Nat.le_refl _, Nat.le_refl _⟩ dX2_looks_28 (fun va H locs hu hP hD hS => ?_)
    obtain ⟨va1, va2, va3, va4⟩ := hu
    have hP : va_P D vwCl (ti_wF E f0 f1 f2 f3 f4 f5 (.ref h) va.1 va.2.1 va.2.2 (0 + 1) up low us los nj ++ ti_wI E h ua ub fa fb n) H := hP
    have hD : va_D A (ti_wF E f0 f1 f2 f3 f4 f5 (.ref h) va.1 va.2.1 va.2.2 (0 + 1) up low us los nj ++ ti_wI E h ua ub fa fb n) := hD
    refine W.eq (g2 := F0 m 31 ls []) rfl ?_
    refine lv_aload_n hx hb dX2_looks_31 rfl (lv_at hl 0 rfl) ?_
    refine lv_iconst (v := nI 0) hx hb dX2_looks_32 (by decide) ?_
    refine lv_iconst (v := nI 1) hx hb dX2_looks_33 (by decide) ?_
    refine ti_mV (As := [.int (nI 0), .int (nI 1)]) (rest := []) S hE hP hD hS hA [0, 1, 2, 3, 4, 5, 6, 7, 8] rfl (met_X2_comes l D E f0 f1 f2 f3 f4 f5 va.1 va.2.1 va.2.2 (0 + 1) up low us los nj h ua ub fa fb n hn hfa hfb (by omega) va2 va3 va4 0 1 (by omega) (by omega) (by decide)) rfl (fun _ => rfl) (lw_V q441 q443 qs4 q68 q444) 2 rfl 0 rfl rfl (by decide +kernel) ⟨Nat.le_of_ble_eq_true rfl, Nat.le_of_ble_eq_true rfl⟩ hl.1 rfl (Nat.le_of_ble_eq_true rfl) ⟨Nat.le_refl _, Nat.le_refl _⟩ dX2_looks_34 (fun vb H locs hu hP hD hS => ?_)
    obtain ⟨vb1, vb2, vb3, vb4⟩ := hu
    have hP : va_P D vwCl (ti_wF E f0 f1 f2 f3 f4 f5 (.ref h) vb.1 vb.2.1 vb.2.2 (0 + 1 + 1) up low us los nj ++ ti_wI E h ua ub fa fb n) H := hP
    have hD : va_D A (ti_wF E f0 f1 f2 f3 f4 f5 (.ref h) vb.1 vb.2.1 vb.2.2 (0 + 1 + 1) up low us los nj ++ ti_wI E h ua ub fa fb n) := hD
    refine W.eq (g2 := F0 m 37 ls []) rfl ?_
    refine lv_iconst (v := nI 1) hx hb dX2_looks_37 (by decide) ?_
    refine lv_istore_n (lv' := [(2, .int (nI 1)), (0, .ref f0), (1, .ref h)]) hx hb dX2_looks_38 rfl hl (by decide) rfl (fun ls hl => ?_)
    have L39 : ∀ (N : Nat) (s1 : Nat) (y : (Nat → Nat) × (Nat → Nat) × (Nat → Nat)) (z : Nat) (ls : Array Slot) (H : Heap) (locs : List Loc), va_P D vwCl (ti_wF E f0 f1 f2 f3 f4 f5 (.ref h) y.1 y.2.1 y.2.2 z up low us los nj ++ ti_wI E h ua ub fa fb n) H → va_D A (ti_wF E f0 f1 f2 f3 f4 f5 (.ref h) y.1 y.2.1 y.2.2 z up low us los nj ++ ti_wI E h ua ub fa fb n) → va_S A H0 H locs → (10 - s1) < N → (1 ≤ s1) → (s1 ≤ 10) → (∀ k, y.1 k ≤ 9) → (∀ k, y.2.1 k ≤ 9) → (∀ k, y.2.2 k ≤ 9999) → (z + ti_r2 (ti_gr fa fb 0 n) 9999 (List.range' s1 (10 - s1)) ≤ 8) → (ti_f2 (ti_gr fa fb 0 n) 9999 (List.range' 1 9) (ti_fi (0, 1, ti_lv 0 1 (ti_gr fa fb 0 n) 9999) (ti_fi (1, 0, ti_lv 1 0 (ti_gr fa fb 0 n) 9999) [])) = ti_f2 (ti_gr fa fb 0 n) 9999 (List.range' s1 (10 - s1)) (ti_fr y.1 y.2.1 y.2.2 0 z).reverse) → lv_has ls 4 [(0, .ref f0), (1, .ref h), (2, .int (nI s1))] → W p l e (ti_rm 3 0 0) s m ([.ref f0, .ref h] : List Value).toArray below meth c H locs 0 0 Q (F0 m 39 ls []) := by
      intro N
      induction N with
      | zero => intro s1 y z ls H locs hP hD hS h0; exact absurd h0 (Nat.not_lt_zero _)
      | succ N ih39 =>
        intro s1 y z ls H locs hP hD hS hN hs1 hs2 hk1_y hk2_y hk3_y hc hv hl
        refine lv_iload_n hx hb dX2_looks_39 rfl (lv_at hl 2 rfl) ?_
        refine lv_bipush (v := nI 9) hx hb dX2_looks_40 (by decide) ?_
        refine tn_gt (tgt := 98) hx hb dX2_looks_42 (by decide) (by omega) (by omega) (fun c42 => ?_) (fun c42 => ?_)
        · skip
          rw [show 10 - s1 = 0 by omega] at hv hc
          have hv : ti_f2 (ti_gr fa fb 0 n) 9999 (List.range' 1 9) (ti_fi (0, 1, ti_lv 0 1 (ti_gr fa fb 0 n) 9999) (ti_fi (1, 0, ti_lv 1 0 (ti_gr fa fb 0 n) 9999) [])) = (ti_fr y.1 y.2.1 y.2.2 0 z).reverse := hv
          have hc : z + 0 ≤ 8 := hc
          refine lv_aload_n hx hb dX2_looks_98 rfl (lv_at hl 0 rfl) ?_
          exact hret (y.1, y.2.1, y.2.2, z) _ _ _ _ _ _ _ dX2_looks_99 (rfl) (⟨by rw [ti_fx, hv, List.reverse_reverse], by dsimp only; omega, hk1_y, hk2_y, hk3_y⟩) hP hS (Nat.le_refl _) (Nat.le_refl _)
        · skip
          obtain ⟨m9, hm9⟩ : ∃ m9, 10 - s1 = m9 + 1 := ⟨10 - s1 - 1, by omega⟩
          rw [hm9, show List.range' s1 (m9 + 1) = s1 :: List.range' (s1 + 1) m9 from rfl] at hv hc
          refine lv_iconst (v := nI 1) hx hb dX2_looks_45 (by decide) ?_
          refine lv_istore_n (lv' := [(3, .int (nI 1)), (0, .ref f0), (1, .ref h), (2, .int (nI s1))]) hx hb dX2_looks_46 rfl hl (by decide) rfl (fun ls hl => ?_)
          have L47 : ∀ (N : Nat) (t1 : Nat) (y2 : (Nat → Nat) × (Nat → Nat) × (Nat → Nat)) (z2 : Nat) (ls : Array Slot) (H : Heap) (locs : List Loc), va_P D vwCl (ti_wF E f0 f1 f2 f3 f4 f5 (.ref h) y2.1 y2.2.1 y2.2.2 z2 up low us los nj ++ ti_wI E h ua ub fa fb n) H → va_D A (ti_wF E f0 f1 f2 f3 f4 f5 (.ref h) y2.1 y2.2.1 y2.2.2 z2 up low us los nj ++ ti_wI E h ua ub fa fb n) → va_S A H0 H locs → (10 - t1) < N → (1 ≤ t1) → (t1 ≤ 10) → (∀ k, y2.1 k ≤ 9) → (∀ k, y2.2.1 k ≤ 9) → (∀ k, y2.2.2 k ≤ 9999) → (z2 + ti_r1 (ti_gr fa fb 0 n) 9999 s1 (List.range' t1 (10 - t1)) + ti_r2 (ti_gr fa fb 0 n) 9999 (List.range' (s1 + 1) m9) ≤ 8) → (ti_f1 (ti_gr fa fb 0 n) 9999 s1 (List.range' 1 9) (ti_fr y.1 y.2.1 y.2.2 0 z).reverse = ti_f1 (ti_gr fa fb 0 n) 9999 s1 (List.range' t1 (10 - t1)) (ti_fr y2.1 y2.2.1 y2.2.2 0 z2).reverse) → lv_has ls 4 [(0, .ref f0), (1, .ref h), (2, .int (nI s1)), (3, .int (nI t1))] → W p l e (ti_rm 3 0 0) s m ([.ref f0, .ref h] : List Value).toArray below meth c H locs 0 0 Q (F0 m 47 ls []) := by
            intro N
            induction N with
            | zero => intro t1 y2 z2 ls H locs hP hD hS h0; exact absurd h0 (Nat.not_lt_zero _)
            | succ N ih47 =>
              intro t1 y2 z2 ls H locs hP hD hS hN ht1 ht2 hk1_y2 hk2_y2 hk3_y2 hc2 hv2 hl
              refine lv_iload_n hx hb dX2_looks_47 rfl (lv_at hl 3 rfl) ?_
              refine lv_bipush (v := nI 9) hx hb dX2_looks_48 (by decide) ?_
              refine tn_gt (tgt := 92) hx hb dX2_looks_50 (by decide) (by omega) (by omega) (fun c50 => ?_) (fun c50 => ?_)
              · skip
                rw [show 10 - t1 = 0 by omega] at hv2 hc2
                have hv2 : ti_f1 (ti_gr fa fb 0 n) 9999 s1 (List.range' 1 9) (ti_fr y.1 y.2.1 y.2.2 0 z).reverse = (ti_fr y2.1 y2.2.1 y2.2.2 0 z2).reverse := hv2
                have hc2 : z2 + 0 + ti_r2 (ti_gr fa fb 0 n) 9999 (List.range' (s1 + 1) m9) ≤ 8 := hc2
                refine lv_iinc (v := nI (s1 + 1)) (lv' := [(2, .int (nI (s1 + 1))), (0, .ref f0), (1, .ref h), (3, .int (nI t1))]) hx hb dX2_looks_92 hl (k := 2) rfl (nI_1 s1) (by decide) rfl (fun ls hl => ?_)
                refine lv_goto (tgt := 39) hx hb dX2_looks_95 (by decide) ?_
                exact ih39 (s1 + 1) y2 z2 _ _ _ hP hD hS (by omega) (by omega) (by omega) (hk1_y2) (hk2_y2) (hk3_y2) (by rw [show 10 - (s1 + 1) = m9 by omega]; omega) (by rw [hv, ti_f2, hv2, show 10 - (s1 + 1) = m9 by omega]) (lv_sub hl [1, 2, 0] rfl)
              · skip
                obtain ⟨m8, hm8⟩ : ∃ m8, 10 - t1 = m8 + 1 := ⟨10 - t1 - 1, by omega⟩
                rw [hm8, show List.range' t1 (m8 + 1) = t1 :: List.range' (t1 + 1) m8 from rfl] at hv2 hc2
                refine lv_iload_n hx hb dX2_looks_53 rfl (lv_at hl 2 rfl) ?_
                refine lv_i2l (v := lN s1) hx hb dX2_looks_54 (nI_l (by omega)) ?_
                refine lv_iload_n hx hb dX2_looks_55 rfl (lv_at hl 3 rfl) ?_
                refine lv_i2l (v := lN t1) hx hb dX2_looks_56 (nI_l (by omega)) ?_
                refine ti_pSN (As := [.long (lN s1), .long (lN t1)]) (rest := []) (v := .long (lN (Nat.gcd s1 t1))) S hE hP [] (met_X0_divisor l D E s1 t1 (by omega) (by omega)) rfl (lw_meth q454) q452 q453 q66 2 rfl (by decide +kernel) ⟨Nat.le_of_ble_eq_true rfl, Nat.le_of_ble_eq_true rfl⟩ hl.1 rfl (Nat.le_of_ble_eq_true rfl) ⟨Nat.le_refl _, Nat.le_refl _⟩ dX2_looks_57 ?_
                have hgl := Nat.gcd_le_left t1 (show 0 < s1 by omega)
                refine lv_lconst (v := lN 1) hx hb dX2_looks_60 (by decide) ?_
                refine W.lcmp hx hb dX2_looks_61 ?_
                refine tc_neN (tgt := 86) hx hb dX2_looks_62 (by decide) (by omega) (by omega) (fun c62 => ?_) (fun c62 => ?_)
                · skip
                  have hisf : ti_isf (ti_gr fa fb 0 n) 9999 s1 t1 = false := decide_eq_false (fun z9 => c62 z9.1)
                  refine lv_iinc (v := nI (t1 + 1)) (lv' := [(3, .int (nI (t1 + 1))), (0, .ref f0), (1, .ref h), (2, .int (nI s1))]) hx hb dX2_looks_86 hl (k := 3) rfl (nI_1 t1) (by decide) rfl (fun ls hl => ?_)
                  refine lv_goto (tgt := 47) hx hb dX2_looks_89 (by decide) ?_
                  exact ih47 (t1 + 1) y2 z2 _ _ _ hP hD hS (by omega) (by omega) (by omega) (hk1_y2) (hk2_y2) (hk3_y2) (by rw [show 10 - (t1 + 1) = m8 by omega]; rw [ti_r1, hisf, if_neg (by decide)] at hc2; omega) (by rw [hv2, ti_f1, ti_fc, hisf, if_neg (by decide), show 10 - (t1 + 1) = m8 by omega]) (lv_sub hl [1, 2, 3, 0] rfl)
                · skip
                  refine lv_aload_n hx hb dX2_looks_65 rfl (lv_at hl 0 rfl) ?_
                  refine lv_iload_n hx hb dX2_looks_66 rfl (lv_at hl 2 rfl) ?_
                  refine lv_iload_n hx hb dX2_looks_67 rfl (lv_at hl 3 rfl) ?_
                  refine lv_aload_n hx hb dX2_looks_68 rfl (lv_at hl 0 rfl) ?_
                  refine lv_iload_n hx hb dX2_looks_69 rfl (lv_at hl 2 rfl) ?_
                  refine lv_iload_n hx hb dX2_looks_70 rfl (lv_at hl 3 rfl) ?_
                  refine ti_pV (As := [.int (nI s1), .int (nI t1)]) (rest := [.int (nI t1), .int (nI s1), .ref f0]) (v := .int (nI (ti_lv s1 t1 (ti_gr fa fb 0 n) 9999))) S hE hP [0, 1, 2, 3, 4, 5, 6, 7, 8] (met_X2_level l D E f0 f1 f2 f3 f4 f5 y2.1 y2.2.1 y2.2.2 z2 up low us los nj h ua ub fa fb n hn hfa hfb s1 t1 (by omega) (by omega)) rfl (lw_V q445 q447 qs5 q68 q448) 2 rfl 0 rfl rfl (by decide +kernel) ⟨Nat.le_of_ble_eq_true rfl, Nat.le_of_ble_eq_true rfl⟩ hl.1 rfl (Nat.le_of_ble_eq_true rfl) ⟨Nat.le_refl _, Nat.le_refl _⟩ dX2_looks_71 ?_
                  have hlv9 := ti_lv_le s1 t1 (ti_gr fa fb 0 n) 9999
                  refine ti_pV (As := [.int (nI s1), .int (nI t1), .int (nI (ti_lv s1 t1 (ti_gr fa fb 0 n) 9999))]) (rest := []) (v := .int (ti_b (decide (1 < ti_ct s1 t1 (ti_lv s1 t1 (ti_gr fa fb 0 n) 9999) (ti_gr fa fb 0 n) 0)))) S hE hP [0, 1, 2, 3, 4, 5, 6, 7, 8] (met_X2_isFace l D E f0 f1 f2 f3 f4 f5 y2.1 y2.2.1 y2.2.2 z2 up low us los nj h ua ub fa fb n hn hfa hfb s1 t1 (by omega) (by omega) (ti_lv s1 t1 (ti_gr fa fb 0 n) 9999) hlv9) rfl (lw_V q455 q457 qs6 q68 q458) 3 rfl 0 rfl rfl (by decide +kernel) ⟨Nat.le_of_ble_eq_true rfl, Nat.le_of_ble_eq_true rfl⟩ hl.1 rfl (Nat.le_of_ble_eq_true rfl) ⟨Nat.le_refl _, Nat.le_refl _⟩ dX2_looks_74 ?_
                  refine tb_eq (tgt := 86) hx hb dX2_looks_77 (by decide) (fun c77 => ?_) (fun c77 => ?_)
                  · skip
                    have hisf : ti_isf (ti_gr fa fb 0 n) 9999 s1 t1 = false := decide_eq_false (fun z9 => absurd (decide_eq_true z9.2) (by rw [c77]; decide))
                    refine lv_iinc (v := nI (t1 + 1)) (lv' := [(3, .int (nI (t1 + 1))), (0, .ref f0), (1, .ref h), (2, .int (nI s1))]) hx hb dX2_looks_86 hl (k := 3) rfl (nI_1 t1) (by decide) rfl (fun ls hl => ?_)
                    refine lv_goto (tgt := 47) hx hb dX2_looks_89 (by decide) ?_
                    exact ih47 (t1 + 1) y2 z2 _ _ _ hP hD hS (by omega) (by omega) (by omega) (hk1_y2) (hk2_y2) (hk3_y2) (by rw [show 10 - (t1 + 1) = m8 by omega]; rw [ti_r1, hisf, if_neg (by decide)] at hc2; omega) (by rw [hv2, ti_f1, ti_fc, hisf, if_neg (by decide), show 10 - (t1 + 1) = m8 by omega]) (lv_sub hl [1, 2, 3, 0] rfl)
                  · skip
                    have hisf : ti_isf (ti_gr fa fb 0 n) 9999 s1 t1 = true := decide_eq_true ⟨c62, of_decide_eq_true c77⟩
                    refine lv_aload_n hx hb dX2_looks_80 rfl (lv_at hl 0 rfl) ?_
                    refine lv_iload_n hx hb dX2_looks_81 rfl (lv_at hl 2 rfl) ?_
                    refine lv_iload_n hx hb dX2_looks_82 rfl (lv_at hl 3 rfl) ?_
                    refine ti_mV (As := [.int (nI s1), .int (nI t1)]) (rest := []) S hE hP hD hS hA [0, 1, 2, 3, 4, 5, 6, 7, 8] rfl (met_X2_comes l D E f0 f1 f2 f3 f4 f5 y2.1 y2.2.1 y2.2.2 z2 up low us los nj h ua ub fa fb n hn hfa hfb (by omega) hk1_y2 hk2_y2 hk3_y2 s1 t1 (by omega) (by omega) (by rw [ti_r1, hisf, if_pos rfl] at hc2; omega)) rfl (fun _ => rfl) (lw_V q441 q443 qs4 q68 q444) 2 rfl 0 rfl rfl (by decide +kernel) ⟨Nat.le_of_ble_eq_true rfl, Nat.le_of_ble_eq_true rfl⟩ hl.1 rfl (Nat.le_of_ble_eq_true rfl) ⟨Nat.le_refl _, Nat.le_refl _⟩ dX2_looks_83 (fun vc H locs hu hP hD hS => ?_)
                    obtain ⟨vc1, vc2, vc3, vc4⟩ := hu
                    have hP : va_P D vwCl (ti_wF E f0 f1 f2 f3 f4 f5 (.ref h) vc.1 vc.2.1 vc.2.2 (z2 + 1) up low us los nj ++ ti_wI E h ua ub fa fb n) H := hP
                    have hD : va_D A (ti_wF E f0 f1 f2 f3 f4 f5 (.ref h) vc.1 vc.2.1 vc.2.2 (z2 + 1) up low us los nj ++ ti_wI E h ua ub fa fb n) := hD
                    refine W.eq (g2 := F0 m 86 ls []) rfl ?_
                    refine lv_iinc (v := nI (t1 + 1)) (lv' := [(3, .int (nI (t1 + 1))), (0, .ref f0), (1, .ref h), (2, .int (nI s1))]) hx hb dX2_looks_86 hl (k := 3) rfl (nI_1 t1) (by decide) rfl (fun ls hl => ?_)
                    refine lv_goto (tgt := 47) hx hb dX2_looks_89 (by decide) ?_
                    exact ih47 (t1 + 1) vc (z2 + 1) _ _ _ hP hD hS (by omega) (by omega) (by omega) (vc2) (vc3) (vc4) (by rw [show 10 - (t1 + 1) = m8 by omega]; rw [ti_r1, hisf, if_pos rfl] at hc2; omega) (by rw [hv2, ti_f1, ti_fc, hisf, if_pos rfl, vc1, List.reverse_reverse, show 10 - (t1 + 1) = m8 by omega]) (lv_sub hl [1, 2, 3, 0] rfl)
          exact L47 _ 1 y z _ _ _ hP hD hS (Nat.lt_succ_self _) (by omega) (by omega) (hk1_y) (hk2_y) (hk3_y) (by rw [ti_r2] at hc; show z + ti_r1 (ti_gr fa fb 0 n) 9999 s1 (List.range' 1 9) + _ ≤ 8; omega) (rfl) (lv_sub hl [1, 2, 3, 0] rfl)
    exact L39 _ 1 vb (0 + 1 + 1) _ _ _ hP hD hS (Nat.lt_succ_self _) (by omega) (by omega) (vb2) (vb3) (vb4) (by show 0 + 1 + 1 + ti_r2 (ti_gr fa fb 0 n) 9999 (List.range' 1 9) ≤ 8; omega) (by rw [vb1, va1, List.reverse_reverse, List.reverse_reverse]; rfl) (lv_sub hl [1, 2, 0] rfl)
  · skip
    omega
