/-! TermIdealsModel: read (printed by w_model14.py) -/
set_option maxRecDepth 100000
theorem ti_wh_le (TX : List Nat) : ∀ (m p : Nat) (acc : List (Nat × List Nat)), p ≤ TX.length → (ti_wh TX m p acc).2 ≤ TX.length
  | 0, p, acc, h => h
  | m + 1, p, acc, h => by
    rw [ti_wh_s]
    have hc1 := ti_c1_le TX p
    cases hc : ti_c1 TX p with
    | mk o q =>
      rw [hc] at hc1
      dsimp only at hc1
      cases o with
      | none => dsimp only; omega
      | some c =>
        dsimp only
        split
        · rename_i hh; exact ti_wh_le TX m (q + 1) _ hh.1
        · split
          · dsimp only; omega
          · dsimp only; omega

set_option maxHeartbeats 1000000 in
theorem met_X7_read (l : Launch) (D : va_G) (E : Nat → ClassId) (ad : Nat → Nat) (xg : ti_Mg) (xd : ti_Md) (xt : ti_Mt) (xf : ti_Mf) (xj : ti_Mj) (xh : ti_Mh) (xs : ti_Ms) (xv : ti_Mv) (xb : ti_Mb) (xq : ti_Mq) (xk : ti_Mk) (hxg : ti_Mgok xg) (I : Nat → ti_GL) (hI : ti_MI xg I) (hxd : ti_Mdok xd) (DD : ti_DL) (hDD : ti_mdl xd 0 xd.1 = DD) (hxf : ti_Mfok xf) (hinv : ti_inv I DD) (hxt : ti_Mtok xt) : ti_MetM (σ := ti_Mg × ti_Md × ti_Mt × ti_Mf) l D E yX7_read cX7_read 4 (some .int) 7 0 0 (ti_wM E ad xg xd xt xf xj xh xs xv xb xq xk) [.ref (ad 0)] (fun u => ti_wM E ad u.1 u.2.1 u.2.2.1 u.2.2.2 xj xh xs xv xb xq xk) (fun u => some (.int ((fun _ => (ti_Sread I DD (ti_TX xt)).1) u))) (fun u => ti_MI u.1 (ti_Sread I DD (ti_TX xt)).2.1 ∧ ti_mdl u.2.1 0 u.2.1.1 = (ti_Sread I DD (ti_TX xt)).2.2 ∧ ti_Mgok u.1 ∧ ti_Mdok u.2.1 ∧ ti_TX u.2.2.1 = [] ∧ ti_Mtok u.2.2.1 ∧ ti_Mfok u.2.2.2) := by
  refine ti_mutI (σ := ti_Mg × ti_Md × ti_Mt × ti_Mf) (vi := fun _ => (ti_Sread I DD (ti_TX xt)).1) (by decide) (Nat.le_of_ble_eq_true rfl) ?_
  intro p e s m below meth c H H0 A Q ls S hE hP hD hS hA hinit hl hret
  have hx := S.1
  have hb := S.2.1
  have hown := S.2.2.2.1
  have hts := S.2.2.2.2
  have hK := hE.1
  have hl : lv_has ls 4 [(0, .ref (ad 0))] := hl
  have hs100 := hxt.2.1
  refine lv_aload_n hx hb dX7_read_0 rfl (lv_at hl 0 rfl) ?_
  refine ti_mVa (As := []) (rest := []) S hE hP hD hS hA (met_X7_clauses l D E ad xg xd xt xf xj xh xs xv xb xq xk hxt) (fun _ => rfl) (lw_V q1326 q1328 qs38 q73 q1329) 0 rfl 0 rfl rfl (by decide +kernel) ⟨Nat.le_of_ble_eq_true rfl, Nat.le_of_ble_eq_true rfl⟩ hl.1 rfl (Nat.le_of_ble_eq_true rfl) ⟨Nat.le_refl _, Nat.le_refl _⟩ dX7_read_1 (fun u1 H locs hu hP hD hS => ?_)
  obtain ⟨u1a, u1b, q0, g0⟩ := u1
  obtain ⟨e1, e2, e3, e4⟩ := hu
  dsimp only at e1 e2 e3
  subst e1
  subst e2
  have hg0 : ∀ j, g0 j ≤ 9 := e4.2.2.2
  have hq0 := ti_wh_le (ti_TX xt) 12 0 [] (Nat.zero_le _)
  rw [← e3, ti_TX_len] at hq0
  have hP : va_P D vwCl (ti_wM E ad xg xd (xt.1, xt.2.1, q0, g0) xf xj xh xs xv xb xq xk) H := hP
  have hD : va_D A (ti_wM E ad xg xd (xt.1, xt.2.1, q0, g0) xf xj xh xs xv xb xq xk) := hD
  refine W.eq (g2 := F0 m 4 ls [.int (ti_ln (ti_wh (ti_TX xt) 12 0 []).1)]) rfl ?_
  refine lv_istore_n (lv' := [(1, .int (ti_ln (ti_wh (ti_TX xt) 12 0 []).1)), (0, .ref (ad 0))]) hx hb dX7_read_4 rfl hl (by decide) rfl (fun ls hl => ?_)
  refine lv_iload_n hx hb dX7_read_5 rfl (lv_at hl 0 rfl) ?_
  refine lv_iconst (v := (-1)) hx hb dX7_read_6 (by decide) ?_
  refine lv_icmp_ne (tgt := 23) hx hb dX7_read_7 (by decide) (fun c7 => ?_) (fun c7 => ?_)
  · skip
    obtain ⟨L, hL⟩ : ∃ L, (ti_wh (ti_TX xt) 12 0 []).1 = some L := by
      cases ho : (ti_wh (ti_TX xt) 12 0 []).1 with
      | none => rw [ho] at c7; exact absurd rfl c7
      | some L => exact ⟨L, rfl⟩
    have hLe : (ti_wh (ti_TX xt) 12 0 []) = (some L, q0) := Prod.ext hL e3.symm
    have hL12 := ti_wh_len _ _ _ _ _ _ hLe
    have hL12 : L.length ≤ 12 := by simpa using hL12
    obtain ⟨L0, hL0, hre0⟩ := ti_wh_re _ _ _ _ _ _ hLe
    have hL0 : L = L0 := hL0
    subst hL0
    rw [hL] at hl
    have hl : lv_has ls 4 [(1, .int (nI L.length)), (0, .ref (ad 0))] := hl
    have hs : (ti_Sread I DD (ti_TX xt)) = (nI (ti_rd I DD L 0).1, (ti_rd I DD L 0).2) := by rw [ti_Sread, hL]
    refine lv_aload_n hx hb dX7_read_23 rfl (lv_at hl 1 rfl) ?_
    refine lv_iconst (v := nI 0) hx hb dX7_read_24 (by decide) ?_
    refine va_put (ty := .int) hx hb hts in_X7 tyX7 tyX7_ok nmX7 hown hK hP hD hS 0 rfl rfl 10 (by decide) (hts _ q1098) (fun _ h => h) rfl rfl rfl rfl (Nat.le_of_ble_eq_true rfl) dX7_read_25 (fun H locs hP hD hS => ?_)
    have hP : va_P D vwCl (ti_wM E ad xg xd (xt.1, xt.2.1, 0, g0) xf xj xh xs xv xb xq xk) H := hP
    have hD : va_D A (ti_wM E ad xg xd (xt.1, xt.2.1, 0, g0) xf xj xh xs xv xb xq xk) := hD
    refine lv_iconst (v := nI 0) hx hb dX7_read_28 (by decide) ?_
    refine lv_istore_n (lv' := [(2, .int (nI 0)), (1, .int (nI L.length)), (0, .ref (ad 0))]) hx hb dX7_read_29 rfl hl (by decide) rfl (fun ls hl => ?_)
    refine lv_iconst (v := nI 0) hx hb dX7_read_30 (by decide) ?_
    refine lv_istore_n (lv' := [(3, .int (nI 0)), (2, .int (nI 0)), (1, .int (nI L.length)), (0, .ref (ad 0))]) hx hb dX7_read_31 rfl hl (by decide) rfl (fun ls hl => ?_)
    have L32 : ∀ (N : Nat) (dn k q : Nat) (g : Nat → Nat) (I9 : Nat → ti_GL) (D9 : ti_DL) (yg : ti_Mg) (yd : ti_Md) (yf : ti_Mf) (rest : List (Nat × List Nat)) (ls : Array Slot) (H : Heap) (locs : List Loc), va_P D vwCl (ti_wM E ad yg yd (xt.1, xt.2.1, q, g) yf xj xh xs xv xb xq xk) H → va_D A (ti_wM E ad yg yd (xt.1, xt.2.1, q, g) yf xj xh xs xv xb xq xk) → va_S A H0 H locs → (L.length - k) < N → (k + rest.length = L.length) → (dn ≤ k) → (q ≤ xt.2.1 + 1) → (∀ j, g j ≤ 9) → (ti_re (ti_TX xt) rest q) → (ti_rd I DD L 0 = ti_rd I9 D9 rest dn) → (ti_MI yg I9) → (ti_mdl yd 0 yd.1 = D9) → (ti_Mgok yg) → (ti_Mdok yd) → (ti_Mfok yf) → (ti_inv I9 D9) → lv_has ls 4 [(0, .ref (ad 0)), (1, .int (nI L.length)), (2, .int (nI dn)), (3, .int (nI k))] → W p l e (ti_rm 7 0 0) s m ([.ref (ad 0)] : List Value).toArray below meth c H locs 0 0 Q (F0 m 32 ls []) := by
      intro N
      induction N with
      | zero => intro dn k q g I9 D9 yg yd yf rest ls H locs hP hD hS h0; exact absurd h0 (Nat.not_lt_zero _)
      | succ N ih32 =>
        intro dn k q g I9 D9 yg yd yf rest ls H locs hP hD hS hN hk hdn hq hg9 re hv hI9 hD9 hyg hyd hyf hinv9 hl
        refine lv_iload_n hx hb dX7_read_32 rfl (lv_at hl 3 rfl) ?_
        refine lv_iload_n hx hb dX7_read_33 rfl (lv_at hl 1 rfl) ?_
        refine tn_ge (tgt := 72) hx hb dX7_read_34 (by decide) (by omega) (by omega) (fun c34 => ?_) (fun c34 => ?_)
        · skip
          have hr0 : rest = [] := List.eq_nil_of_length_eq_zero (by omega)
          subst hr0
          have hv : ti_rd I DD L 0 = (dn, I9, D9) := hv
          refine lv_aload_n hx hb dX7_read_72 rfl (lv_at hl 0 rfl) ?_
          refine lv_iconst (v := nI 0) hx hb dX7_read_73 (by decide) ?_
          refine va_put (ty := .int) hx hb hts in_X7 tyX7 tyX7_ok nmX7 hown hK hP hD hS 0 rfl rfl 9 (by decide) (hts _ q1097) (fun _ h => h) rfl rfl rfl rfl (Nat.le_of_ble_eq_true rfl) dX7_read_74 (fun H locs hP hD hS => ?_)
          have hP : va_P D vwCl (ti_wM E ad yg yd (xt.1, 0, q, g) yf xj xh xs xv xb xq xk) H := hP
          have hD : va_D A (ti_wM E ad yg yd (xt.1, 0, q, g) yf xj xh xs xv xb xq xk) := hD
          refine lv_iload_n hx hb dX7_read_77 rfl (lv_at hl 2 rfl) ?_
          exact hret ((yg, yd, (xt.1, 0, q, g), yf)) _ _ _ _ _ _ _ dX7_read_78 (by rw [hs, hv]) (by rw [hs, hv]; exact ⟨hI9, hD9, hyg, hyd, rfl, ⟨hxt.1, Nat.zero_le _, by dsimp only; omega, hg9⟩, hyf⟩) hP hS (Nat.le_refl _) (Nat.le_refl _)
        · skip
          obtain ⟨c9, r9, rfl⟩ : ∃ c r, rest = c :: r := by
            cases rest with
            | nil => exact absurd hk (by simp; omega)
            | cons c r => exact ⟨c, r, rfl⟩
          obtain ⟨q2, hc1, hre⟩ := re
          refine lv_iload_n hx hb dX7_read_37 rfl (lv_at hl 2 rfl) ?_
          refine lv_aload_n hx hb dX7_read_38 rfl (lv_at hl 0 rfl) ?_
          refine lv_aload_n hx hb dX7_read_39 rfl (lv_at hl 0 rfl) ?_
          refine ti_mVa (As := []) (rest := [.ref (ad 0), .int (nI dn)]) S hE hP hD hS hA (met_X7_clause l D E ad yg yd (xt.1, xt.2.1, q, g) yf xj xh xs xv xb xq xk ⟨hxt.1, hxt.2.1, by dsimp only; omega, hg9⟩) (fun _ => rfl) (lw_V q1330 q1332 qs39 q73 q1333) 0 rfl 0 rfl rfl (by decide +kernel) ⟨Nat.le_of_ble_eq_true rfl, Nat.le_of_ble_eq_true rfl⟩ hl.1 rfl (Nat.le_of_ble_eq_true rfl) ⟨Nat.le_refl _, Nat.le_refl _⟩ dX7_read_40 (fun u1 H locs hu hP hD hS => ?_)
          obtain ⟨u1a, u1b, q1, g1⟩ := u1
          obtain ⟨e1, e2, e31, e41, e51⟩ := hu
          dsimp only at e1 e2 e31 e51
          subst e1
          subst e2
          have e31 : q1 = (ti_c1 (ti_TX xt) q).2 := e31
          have e51 : ∀ c, (ti_c1 (ti_TX xt) q).1 = some c → ti_tl g1 c.2.length = c.2 := e51
          have hg1 : ∀ j, g1 j ≤ 9 := e41.2.2.2
          rw [hc1] at e31 e51
          have e31 : q1 = q2 := e31
          subst e31
          have e51 := e51 c9 rfl
          have hdo := ti_do_eq hc1 e51 I9 D9
          have hq1 : q1 ≤ xt.2.1 := by have := (ti_c1_some hc1).2.2.1; rw [ti_TX_len] at this; exact this
          have hsg : ti_sg (ti_c1 (ti_TX xt) q).1 = nI c9.1 := by rw [hc1]; rfl
          have hP : va_P D vwCl (ti_wM E ad yg yd (xt.1, xt.2.1, q1, g1) yf xj xh xs xv xb xq xk) H := hP
          have hD : va_D A (ti_wM E ad yg yd (xt.1, xt.2.1, q1, g1) yf xj xh xs xv xb xq xk) := hD
          refine W.eq (g2 := F0 m 43 ls [.int (ti_sg (ti_c1 (ti_TX xt) q).1), .ref (ad 0), .int (nI dn)]) rfl ?_
          refine ti_mVa (As := [.int (ti_sg (ti_c1 (ti_TX xt) q).1)]) (rest := [.int (nI dn)]) S hE hP hD hS hA (met_X7_isDone l D E ad yg yd (xt.1, xt.2.1, q1, g1) yf xj xh xs xv xb xq xk hyg I9 hI9 hyd D9 hD9 hyf hinv9 ⟨hxt.1, hxt.2.1, by dsimp only; omega, hg1⟩ (ti_sg (ti_c1 (ti_TX xt) q).1)) (fun _ => rfl) (lw_V q1339 q1341 qs40 q73 q1342) 1 rfl 0 rfl rfl (by decide +kernel) ⟨Nat.le_of_ble_eq_true rfl, Nat.le_of_ble_eq_true rfl⟩ hl.1 rfl (Nat.le_of_ble_eq_true rfl) ⟨Nat.le_refl _, Nat.le_refl _⟩ dX7_read_43 (fun u2 H locs hu hP hD hS => ?_)
          have hu2 := hu
          dsimp only at hu2
          rw [hsg, hdo] at hu2
          have hP : va_P D vwCl (ti_wM E ad u2.1 u2.2.1 (xt.1, xt.2.1, q1, g1) u2.2.2 xj xh xs xv xb xq xk) H := hP
          have hD : va_D A (ti_wM E ad u2.1 u2.2.1 (xt.1, xt.2.1, q1, g1) u2.2.2 xj xh xs xv xb xq xk) := hD
          refine W.eq (g2 := F0 m 46 ls [.int (ti_b (!decide ((ti_Sdo I9 D9 (ti_sg (ti_c1 (ti_TX xt) q).1) (g1 0) (g1 1) (g1 2)).1 < 0))), .int (nI dn)]) rfl ?_
          refine tb_eq (tgt := 53) hx hb dX7_read_46 (by decide) (fun c46 => ?_) (fun c46 => ?_)
          · skip
            refine lv_iconst (v := nI 0) hx hb dX7_read_53 (by decide) ?_
            refine tn_add hx hb dX7_read_54 ?_
            refine lv_istore_n (lv' := [(2, .int (nI (dn + 0))), (0, .ref (ad 0)), (1, .int (nI L.length)), (3, .int (nI k))]) hx hb dX7_read_55 rfl hl (by decide) rfl (fun ls hl => ?_)
            refine lv_aload_n hx hb dX7_read_56 rfl (lv_at hl 1 rfl) ?_
            refine lv_dup hx hb dX7_read_57 rfl ?_
            refine va_get (v := .int (nI q1)) hx hb hts in_X7 hown hK hP 0 rfl rfl 10 (by decide) (hts _ q1098) (fun _ h => h) rfl dX7_read_58 ?_
            refine lv_iconst (v := nI 1) hx hb dX7_read_61 (by decide) ?_
            refine tn_add hx hb dX7_read_62 ?_
            refine va_put (ty := .int) hx hb hts in_X7 tyX7 tyX7_ok nmX7 hown hK hP hD hS 0 rfl rfl 10 (by decide) (hts _ q1098) (fun _ h => h) rfl rfl rfl rfl (Nat.le_of_ble_eq_true rfl) dX7_read_63 (fun H locs hP hD hS => ?_)
            have hP : va_P D vwCl (ti_wM E ad u2.1 u2.2.1 (xt.1, xt.2.1, q1 + 1, g1) u2.2.2 xj xh xs xv xb xq xk) H := hP
            have hD : va_D A (ti_wM E ad u2.1 u2.2.1 (xt.1, xt.2.1, q1 + 1, g1) u2.2.2 xj xh xs xv xb xq xk) := hD
            refine lv_iinc (v := nI (k + 1)) (lv' := [(3, .int (nI (k + 1))), (2, .int (nI (dn + 0))), (0, .ref (ad 0)), (1, .int (nI L.length))]) hx hb dX7_read_66 hl (k := 3) rfl (nI_1 k) (by decide) rfl (fun ls hl => ?_)
            refine lv_goto (tgt := 32) hx hb dX7_read_69 (by decide) ?_
            exact ih32 (dn + 0) (k + 1) (q1 + 1) g1 ((ti_Sdc I9 D9 c9).2.1) ((ti_Sdc I9 D9 c9).2.2) u2.1 u2.2.1 u2.2.2 r9 _ _ _ hP hD hS (by omega) (by rw [List.length_cons] at hk; omega) (by omega) (by omega) (hg1) (hre) (by rw [hv, ti_rd]; have c46 : ((ti_Sdc I9 D9 c9).1 < 0) := (by rw [hsg, hdo] at c46; simpa using c46); rw [if_pos c46, Nat.add_zero]) (hu2.1) (hu2.2.1) (hu2.2.2.1) (hu2.2.2.2.1) (hu2.2.2.2.2) (ti_inv_do hinv9 _ _ _ _) (lv_sub hl [2, 3, 1, 0] rfl)
          · skip
            refine lv_iconst (v := nI 1) hx hb dX7_read_49 (by decide) ?_
            refine lv_goto (tgt := 54) hx hb dX7_read_50 (by decide) ?_
            refine tn_add hx hb dX7_read_54 ?_
            refine lv_istore_n (lv' := [(2, .int (nI (dn + 1))), (0, .ref (ad 0)), (1, .int (nI L.length)), (3, .int (nI k))]) hx hb dX7_read_55 rfl hl (by decide) rfl (fun ls hl => ?_)
            refine lv_aload_n hx hb dX7_read_56 rfl (lv_at hl 1 rfl) ?_
            refine lv_dup hx hb dX7_read_57 rfl ?_
            refine va_get (v := .int (nI q1)) hx hb hts in_X7 hown hK hP 0 rfl rfl 10 (by decide) (hts _ q1098) (fun _ h => h) rfl dX7_read_58 ?_
            refine lv_iconst (v := nI 1) hx hb dX7_read_61 (by decide) ?_
            refine tn_add hx hb dX7_read_62 ?_
            refine va_put (ty := .int) hx hb hts in_X7 tyX7 tyX7_ok nmX7 hown hK hP hD hS 0 rfl rfl 10 (by decide) (hts _ q1098) (fun _ h => h) rfl rfl rfl rfl (Nat.le_of_ble_eq_true rfl) dX7_read_63 (fun H locs hP hD hS => ?_)
            have hP : va_P D vwCl (ti_wM E ad u2.1 u2.2.1 (xt.1, xt.2.1, q1 + 1, g1) u2.2.2 xj xh xs xv xb xq xk) H := hP
            have hD : va_D A (ti_wM E ad u2.1 u2.2.1 (xt.1, xt.2.1, q1 + 1, g1) u2.2.2 xj xh xs xv xb xq xk) := hD
            refine lv_iinc (v := nI (k + 1)) (lv' := [(3, .int (nI (k + 1))), (2, .int (nI (dn + 1))), (0, .ref (ad 0)), (1, .int (nI L.length))]) hx hb dX7_read_66 hl (k := 3) rfl (nI_1 k) (by decide) rfl (fun ls hl => ?_)
            refine lv_goto (tgt := 32) hx hb dX7_read_69 (by decide) ?_
            exact ih32 (dn + 1) (k + 1) (q1 + 1) g1 ((ti_Sdc I9 D9 c9).2.1) ((ti_Sdc I9 D9 c9).2.2) u2.1 u2.2.1 u2.2.2 r9 _ _ _ hP hD hS (by omega) (by rw [List.length_cons] at hk; omega) (by omega) (by omega) (hg1) (hre) (by rw [hv, ti_rd]; have c46 : ¬ ((ti_Sdc I9 D9 c9).1 < 0) := (by rw [hsg, hdo] at c46; simpa using c46); rw [if_neg c46]) (hu2.1) (hu2.2.1) (hu2.2.2.1) (hu2.2.2.2.1) (hu2.2.2.2.2) (ti_inv_do hinv9 _ _ _ _) (lv_sub hl [2, 3, 1, 0] rfl)
    exact L32 _ 0 0 0 g0 I DD xg xd xf L _ _ _ hP hD hS (Nat.lt_succ_self _) (by omega) (by omega) (by omega) (hg0) (hre0) (rfl) (hI) (hDD) (hxg) (hxd) (hxf) (hinv) (lv_sub hl [3, 2, 1, 0] rfl)
  · skip
    have hL : (ti_wh (ti_TX xt) 12 0 []).1 = none := by
      cases ho : (ti_wh (ti_TX xt) 12 0 []).1 with
      | none => rfl
      | some L =>
        rw [ho] at c7
        have := ti_wh_len _ _ _ _ _ _ (show (ti_wh (ti_TX xt) 12 0 []) = (some L, (ti_wh (ti_TX xt) 12 0 []).2) from Prod.ext ho rfl)
        have hL12 : L.length ≤ 12 := by simpa using this
        exact absurd c7 (ti_n1 (by omega))
    have hs : (ti_Sread I DD (ti_TX xt)) = (-10 - nI (ti_wh (ti_TX xt) 12 0 []).2, I, DD) := by rw [ti_Sread, hL]
    refine lv_aload_n hx hb dX7_read_10 rfl (lv_at hl 1 rfl) ?_
    refine lv_iconst (v := nI 0) hx hb dX7_read_11 (by decide) ?_
    refine va_put (ty := .int) hx hb hts in_X7 tyX7 tyX7_ok nmX7 hown hK hP hD hS 0 rfl rfl 9 (by decide) (hts _ q1097) (fun _ h => h) rfl rfl rfl rfl (Nat.le_of_ble_eq_true rfl) dX7_read_12 (fun H locs hP hD hS => ?_)
    have hP : va_P D vwCl (ti_wM E ad xg xd (xt.1, 0, q0, g0) xf xj xh xs xv xb xq xk) H := hP
    have hD : va_D A (ti_wM E ad xg xd (xt.1, 0, q0, g0) xf xj xh xs xv xb xq xk) := hD
    refine lv_bipush (v := (-10)) hx hb dX7_read_15 (by decide) ?_
    refine lv_aload_n hx hb dX7_read_17 rfl (lv_at hl 1 rfl) ?_
    refine va_get (v := .int (nI q0)) hx hb hts in_X7 hown hK hP 0 rfl rfl 10 (by decide) (hts _ q1098) (fun _ h => h) rfl dX7_read_18 ?_
    refine lv_isub hx hb dX7_read_21 ?_
    exact hret ((xg, xd, (xt.1, 0, q0, g0), xf)) _ _ _ _ _ _ _ dX7_read_22 (by rw [hs, ← e3]) (by rw [hs]; exact ⟨hI, hDD, hxg, hxd, rfl, ⟨hxt.1, Nat.zero_le _, by dsimp only; omega, hg0⟩, hxf⟩) hP hS (Nat.le_refl _) (Nat.le_refl _)
