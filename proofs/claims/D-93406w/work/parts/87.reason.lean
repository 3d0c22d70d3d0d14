/-! TermIdeals: held, reason (printed by w_reason.py) -/
set_option maxRecDepth 100000

theorem ti_c5_if {c0 c1 c2 c3 c4 : Int32} : ∀ {i : Nat}, i ≤ 4 → ti_c5 c0 c1 c2 c3 c4 i = if nI i = 0 then c0 else if nI i = 1 then c1 else if nI i = 2 then c2 else if nI i = 3 then c3 else c4
  | 0, _ => by rw [if_pos (by decide)]; rfl
  | 1, _ => by rw [if_neg (by decide), if_pos (by decide)]; rfl
  | 2, _ => by rw [if_neg (by decide), if_neg (by decide), if_pos (by decide)]; rfl
  | 3, _ => by rw [if_neg (by decide), if_neg (by decide), if_neg (by decide), if_pos (by decide)]; rfl
  | 4, _ => by rw [if_neg (by decide), if_neg (by decide), if_neg (by decide), if_neg (by decide)]; rfl
theorem ti_lt_map {W0 W1 : va_W} {b : Nat} (h : W1.map (·.1) = W0.map (·.1)) (hl : ∀ (k : Nat) (z : Nat × va_E), W0[k]? = some z → z.1 < b) : ∀ (k : Nat) (z : Nat × va_E), W1[k]? = some z → z.1 < b := by
  intro k z hz
  have h1 : (W1.map (·.1))[k]? = some z.1 := by rw [List.getElem?_map, hz]; rfl
  rw [h, List.getElem?_map] at h1
  cases hy : W0[k]? with
  | none => rw [hy] at h1; cases h1
  | some y =>
    rw [hy] at h1
    have h2 : y.1 = z.1 := Option.some.inj h1
    rw [← h2]; exact hl k y hy

set_option maxHeartbeats 2000000 in
theorem met_X0_held (l : Launch) (D : va_G) (E : Nat → ClassId) (htr : l.stackTraces = false) (z0 : Nat) (ad dh du dv jh ju jv kh ku kv : Nat → Nat) (tx : Nat) (hi : Bool) (xi : ti_Ti) (xf : ti_Tf) (hxi : ti_Jok xi) (I : Nat → ti_GL) (hJ : ti_JI xi I) (hxf : ti_Fok xf) (hnd : ∀ i, i < 2 → (I i).Nodup) (v a b num den : Int32) : ti_MetX (σ := ti_Tf) (τ := Unit) l D E yX0_held (wsW_ yX0_held cX0_held 7 (some .int) [(30, 42, 43, 219), (30, 42, 43, 150)]) 11 6 41 z0 (ti_wMJF E ad dh du dv jh ju jv kh ku kv tx hi xi xf) [.ref (ad 0), .int v, .int a, .int b, .int num, .int den] (fun _ => True) (fun u => ti_wMJF E ad dh du dv jh ju jv kh ku kv tx hi xi u) (fun u => some (.int ((fun _ => ti_Sheld I v a b num den) u))) (fun u => ti_Fok u) (fun _ _ => True) (fun w => RX14) (fun w => 0) (fun w => ti_wMJF E ad dh du dv jh ju jv kh ku kv tx hi xi xf) (fun w => []) (fun w => False) (fun w H => True) := by
  refine ti_metXH (by decide) (Nat.le_of_ble_eq_true rfl) ?_
  intro p e s m below meth c H A Q ls S hE hP hD hS hA hZ hAz hx0 htab hl hret hq
  obtain ⟨hQ, hr, hlk, hinit⟩ := hq
  have hsz0 := hS.1
  have hx := S.1
  have hb := S.2.1
  have hown := S.2.2.2.1
  have hts := S.2.2.2.2
  have hK := hE.1
  have hl : lv_has ls 7 [(0, .ref (ad 0)), (1, .int v), (2, .int a), (3, .int b), (4, .int num), (5, .int den)] := hl
  refine lv_iload_n hx hb dX0_held_0 rfl (lv_at hl 1 rfl) ?_
  refine ti_pS (As := [.int v]) (rest := []) (v := .int (ti_b (ti_bt v))) S hE hP [] (met_X0_isIdeal l D E v) rfl (lw_S q299 q300 q66 q301) 1 rfl (by decide +kernel) ⟨Nat.le_of_ble_eq_true rfl, Nat.le_of_ble_eq_true rfl⟩ hl.1 rfl (Nat.le_of_ble_eq_true rfl) ⟨Nat.le_of_ble_eq_true rfl, Nat.le_of_ble_eq_true rfl⟩ dX0_held_1 ?_
  refine tb_ne (tgt := 9) hx hb dX0_held_4 (by decide) (fun c4 => ?_) (fun c4 => ?_)
  · skip
    obtain ⟨i, hi2, rfl⟩ := ti_bt_nat c4
    have hci : ti_cl (nI i) = i := ti_cl_nI (by omega)
    have hlen := ti_JI_len hJ hi2
    refine lv_iload_n hx hb dX0_held_9 rfl (lv_at hl 2 rfl) ?_
    refine lv_iload_n hx hb dX0_held_10 rfl (lv_at hl 3 rfl) ?_
    refine ti_pS (As := [.int a, .int b]) (rest := []) (v := .int (ti_b (ti_b9 a && ti_b9 b))) S hE hP [] (met_X0_isTerm l D E a b) rfl (lw_S q305 q306 q66 q307) 2 rfl (by decide +kernel) ⟨Nat.le_of_ble_eq_true rfl, Nat.le_of_ble_eq_true rfl⟩ hl.1 rfl (Nat.le_of_ble_eq_true rfl) ⟨Nat.le_of_ble_eq_true rfl, Nat.le_of_ble_eq_true rfl⟩ dX0_held_11 ?_
    refine tb_eq (tgt := 27) hx hb dX0_held_14 (by decide) (fun c14 => ?_) (fun c14 => ?_)
    · skip
      refine lv_bipush (v := (-2)) hx hb dX0_held_27 (by decide) ?_
      have hv9 : ((-2)) = (fun _ => ti_Sheld I (nI i) a b num den) xf := by rw [ti_Sheld, if_neg (by rw [c4]; decide), if_pos (by rw [c14]; rfl)]
      refine W.eq (g2 := F0 m 29 ls [.int ((fun _ => ti_Sheld I (nI i) a b num den) xf)]) (congrArg (fun z => F0 m 29 ls [.int z]) hv9) ?_
      exact hret _ xf _ _ _ _ (hxf) hP trivial hS (Nat.le_of_ble_eq_true rfl) (Nat.le_of_ble_eq_true rfl) (fun hq hf9 => W.iret hx hb hr hq hf9 dX0_held_29 hlk)
    · skip
      have hb9 : ti_b9 a = true ∧ ti_b9 b = true := by simpa using c14
      obtain ⟨a9, ha9, rfl⟩ := ti_b9_nat hb9.1
      obtain ⟨b9, hb99, rfl⟩ := ti_b9_nat hb9.2
      have hca : ti_cl (nI a9) = a9 := ti_cl_nI (by omega)
      have hcb : ti_cl (nI b9) = b9 := ti_cl_nI (by omega)
      refine lv_iload hx hb dX0_held_17 (lv_at hl 4 rfl) ?_
      refine lv_iload hx hb dX0_held_19 (lv_at hl 5 rfl) ?_
      refine ti_pS (As := [.int num, .int den]) (rest := []) (v := .int (ti_b (ti_bf num && ti_bf den))) S hE hP [] (met_X0_isFraction l D E num den) rfl (lw_S q636 q637 q66 q638) 2 rfl (by decide +kernel) ⟨Nat.le_of_ble_eq_true rfl, Nat.le_of_ble_eq_true rfl⟩ hl.1 rfl (Nat.le_of_ble_eq_true rfl) ⟨Nat.le_of_ble_eq_true rfl, Nat.le_of_ble_eq_true rfl⟩ dX0_held_21 ?_
      refine tb_ne (tgt := 30) hx hb dX0_held_24 (by decide) (fun c24 => ?_) (fun c24 => ?_)
      · skip
        have hb9 : ti_bf num = true ∧ ti_bf den = true := by simpa using c24
        obtain ⟨nu, hnu1, hnu, rfl⟩ := ti_bf_nat hb9.1
        obtain ⟨de, hde1, hde, rfl⟩ := ti_bf_nat hb9.2
        have hcn : ti_cl (nI nu) = nu := ti_cl_nI (by omega)
        have hcd : ti_cl (nI de) = de := ti_cl_nI (by omega)
        refine lv_aload_n hx hb dX0_held_30 rfl (lv_at hl 0 rfl) ?_
        refine lv_iload_n hx hb dX0_held_31 rfl (lv_at hl 1 rfl) ?_
        refine lv_iload_n hx hb dX0_held_32 rfl (lv_at hl 2 rfl) ?_
        refine lv_iload_n hx hb dX0_held_33 rfl (lv_at hl 3 rfl) ?_
        refine lv_iload hx hb dX0_held_34 (lv_at hl 4 rfl) ?_
        refine lv_iload hx hb dX0_held_36 (lv_at hl 5 rfl) ?_
        by_cases hz9 : xi.2.2 i = 0
        · skip
          refine ti_callX (ty_runV (As := [.int (nI i), .int (nI a9), .int (nI b9), .int (nI nu), .int (nI de)]) (rest := []) S (met_X0_asks_0 l D E htr z0 ad dh du dv jh ju jv kh ku kv tx hi xi xf hxi I hJ hxf hnd i (by omega) a9 b9 ha9 hb99 nu de hnu hde hz9 H.size) (cwV 5 S.2.2.2.2 (lw_V q639 q641 qs13 q66 q642) rfl rfl rfl (by decide +kernel) ⟨Nat.le_of_ble_eq_true rfl, Nat.le_of_ble_eq_true rfl⟩) (ti_preXV (xp := fun _ => True) hE hP hD hS rfl hZ hAz trivial [0, 1, 2, 3, 4, 5, 6, 7, 8, 9, 10, 11, 12, 13] rfl rfl 0 rfl rfl) rfl rfl hl.1 rfl (lv_room (Nat.le_of_ble_eq_true rfl)) dX0_held_38 ⟨Nat.le_of_ble_eq_true rfl, Nat.le_of_ble_eq_true rfl⟩) hP hD hS hA [0, 1, 2, 3, 4, 5, 6, 7, 8, 9, 10, 11, 12, 13] rfl (fun _ => rfl) (fun _ => rfl) (fun _ _ _ h9 => absurd h9 id) (fun we H locs ce hpx hxx hFr hP hD hPe hnew hS hce hcv hcl => ?_)
          have hP : va_P D vwCl (ti_wMJF E ad dh du dv jh ju jv kh ku kv tx hi xi xf) H := ti_asP hP [.inr 0, .inr 1, .inr 2, .inr 3, .inr 4, .inr 5, .inr 6, .inr 7, .inr 8, .inr 9, .inr 10, .inr 11, .inr 12, .inr 13] rfl rfl rfl rfl
          have hD : va_D A (ti_wMJF E ad dh du dv jh ju jv kh ku kv tx hi xi xf) := ti_asD hD [.inr 0, .inr 1, .inr 2, .inr 3, .inr 4, .inr 5, .inr 6, .inr 7, .inr 8, .inr 9, .inr 10, .inr 11, .inr 12, .inr 13] rfl rfl rfl rfl
          refine vx_catch hown [⟨30, 42, 43, 219⟩] ⟨30, 42, 43, 150⟩ [] htab (fun z hz => by rw [List.mem_singleton.mp hz]; exact Or.inr ⟨by decide, _, hts _ q635, hZ.2.2.2.2 _ _ (by decide)⟩) rfl (by decide) (hts _ q356) (hE.use q363 rfl rfl) hce hcv hcl ?_
          refine lv_astore (lv' := [(6, .ref we.1), (0, .ref (ad 0)), (1, .int (nI i)), (2, .int (nI a9)), (3, .int (nI b9)), (4, .int (nI nu)), (5, .int (nI de))]) hx hb dX0_held_43 hl (by decide) rfl (fun ls hl => ?_)
          refine lv_aload hx hb dX0_held_45 (lv_at hl 0 rfl) ?_
          refine va_instNo hx hb hown (hts _ q635) (hZ.2.2.2.2 "TermIdeals$Empty" "TermIdeals$Barred" (by decide)) ⟨ce, hce, by rw [hcv]; rfl, hcl⟩ dX0_held_47 ?_
          refine W.eq (g2 := F0 m 50 ls [.int (nI 0)]) rfl ?_
          refine tn_if_eq (tgt := 57) hx hb dX0_held_50 (by decide) (by omega) (fun c50 => ?_) (fun c50 => ?_)
          · skip
            refine lv_bipush (v := (-3)) hx hb dX0_held_57 (by decide) ?_
            have hv9 : ((-3)) = (fun _ => ti_Sheld I (nI i) (nI a9) (nI b9) (nI nu) (nI de)) xf := by refine Eq.symm ?_; rw [ti_Sheld, if_neg (by rw [c4]; decide), if_neg (by rw [c14, c24]; decide), hci, hca, hcb, hcn, hcd, if_pos (by rw [hlen]; exact hz9)]
            refine W.eq (g2 := F0 m 59 ls [.int ((fun _ => ti_Sheld I (nI i) (nI a9) (nI b9) (nI nu) (nI de)) xf)]) (congrArg (fun z => F0 m 59 ls [.int z]) hv9) ?_
            exact hret _ xf _ _ _ _ (hxf) hP trivial hS (Nat.le_of_ble_eq_true rfl) (Nat.le_of_ble_eq_true rfl) (fun hq hf9 => W.iret hx hb hr hq hf9 dX0_held_59 hlk)
          · skip
            exact absurd c50 (by decide)
        · skip
          have hpos : 0 < xi.2.2 i := Nat.pos_of_ne_zero hz9
          cases hfb : ti_fb a9 b9 nu de (ti_FF (I i)) 0 with
          | none =>
            refine ti_callX (ty_runV (As := [.int (nI i), .int (nI a9), .int (nI b9), .int (nI nu), .int (nI de)]) (rest := []) S (met_X0_asks_ok l D E htr z0 ad dh du dv jh ju jv kh ku kv tx hi xi xf hxi I hJ hxf hnd i (by omega) a9 b9 ha9 hb99 nu de hnu hde hpos hfb H.size) (cwV 5 S.2.2.2.2 (lw_V q639 q641 qs13 q66 q642) rfl rfl rfl (by decide +kernel) ⟨Nat.le_of_ble_eq_true rfl, Nat.le_of_ble_eq_true rfl⟩) (ti_preXV (xp := fun _ => True) hE hP hD hS rfl hZ hAz trivial [0, 1, 2, 3, 4, 5, 6, 7, 8, 9, 10, 11, 12, 13] rfl rfl 0 rfl rfl) rfl rfl hl.1 rfl (lv_room (Nat.le_of_ble_eq_true rfl)) dX0_held_38 ⟨Nat.le_of_ble_eq_true rfl, Nat.le_of_ble_eq_true rfl⟩) hP hD hS hA [0, 1, 2, 3, 4, 5, 6, 7, 8, 9, 10, 11, 12, 13] rfl (fun _ => rfl) (fun _ => rfl) (fun uk H locs hu _ _ hP hD hS => ?_) (fun _ _ _ _ h9 => absurd h9 id)
            have huk : ti_Fok uk := hu
            have hP : va_P D vwCl (ti_wMJF E ad dh du dv jh ju jv kh ku kv tx hi xi uk) H := ti_asP hP [.inr 0, .inr 1, .inr 2, .inr 3, .inr 4, .inr 5, .inr 6, .inr 7, .inr 8, .inr 9, .inr 10, .inr 11, .inr 12, .inr 13] rfl rfl rfl rfl
            have hD : va_D A (ti_wMJF E ad dh du dv jh ju jv kh ku kv tx hi xi uk) := ti_asD hD [.inr 0, .inr 1, .inr 2, .inr 3, .inr 4, .inr 5, .inr 6, .inr 7, .inr 8, .inr 9, .inr 10, .inr 11, .inr 12, .inr 13] rfl rfl rfl rfl
            refine W.eq (g2 := F0 m 41 ls []) rfl ?_
            refine lv_iconst (v := nI 1) hx hb dX0_held_41 (by decide) ?_
            have hv9 : (nI 1) = (fun _ => ti_Sheld I (nI i) (nI a9) (nI b9) (nI nu) (nI de)) uk := by refine Eq.symm ?_; rw [ti_Sheld, if_neg (by rw [c4]; decide), if_neg (by rw [c14, c24]; decide), hci, hca, hcb, hcn, hcd, if_neg (by rw [hlen]; exact hz9), hfb]; rfl
            refine W.eq (g2 := F0 m 42 ls [.int ((fun _ => ti_Sheld I (nI i) (nI a9) (nI b9) (nI nu) (nI de)) uk)]) (congrArg (fun z => F0 m 42 ls [.int z]) hv9) ?_
            exact hret _ uk _ _ _ _ (huk) hP trivial hS (Nat.le_of_ble_eq_true rfl) (Nat.le_of_ble_eq_true rfl) (fun hq hf9 => W.iret hx hb hr hq hf9 dX0_held_42 hlk)
          | some f =>
            have hlt9 : ∀ (k : Nat) (z : Nat × va_E), (ti_wMJF E ad dh du dv jh ju jv kh ku kv tx hi xi xf : va_W)[k]? = some z → z.1 < H.size := fun k z h => (hP k z h).lt
            have hsz1 := hS.1
            refine ti_callX (ty_runV (As := [.int (nI i), .int (nI a9), .int (nI b9), .int (nI nu), .int (nI de)]) (rest := []) S (met_X0_asks_x l D E htr z0 ad dh du dv jh ju jv kh ku kv tx hi xi xf hxi I hJ hxf hnd i (by omega) a9 b9 ha9 hb99 nu de hnu hde hpos f hfb H.size) (cwV 5 S.2.2.2.2 (lw_V q639 q641 qs13 q66 q642) rfl rfl rfl (by decide +kernel) ⟨Nat.le_of_ble_eq_true rfl, Nat.le_of_ble_eq_true rfl⟩) (ti_preXV (xp := fun _ => True) hE hP hD hS rfl hZ hAz trivial [0, 1, 2, 3, 4, 5, 6, 7, 8, 9, 10, 11, 12, 13] rfl rfl 0 rfl rfl) rfl rfl hl.1 rfl (lv_room (Nat.le_of_ble_eq_true rfl)) dX0_held_38 ⟨Nat.le_of_ble_eq_true rfl, Nat.le_of_ble_eq_true rfl⟩) hP hD hS hA [0, 1, 2, 3, 4, 5, 6, 7, 8, 9, 10, 11, 12, 13] rfl (fun _ => rfl) (fun _ => rfl) (fun _ _ _ h9 => absurd h9 id) (fun wb H locs ce hpx hxx hFr hP hD hPe hnew hS hce hcv hcl => ?_)
            obtain ⟨yf, ⟨e0, e1, e2, e3, e4⟩, x0, x1, x2, x3, x4⟩ := wb
            have hpx : ti_Fok yf := hpx
            have hxx : ti_free e0 H ∧ ti_free e1 H ∧ ti_free e2 H ∧ ti_free e3 H ∧ ti_free e4 H ∧ e1 < e2 ∧ e2 < e3 ∧ e3 < e4 ∧ e4 < e0 := hxx
            have hPe : va_P D vwCl (ti_w5 e0 e1 e2 e3 e4 x0 x1 x2 x3 x4 (nI f) (nI (ti_wt ((ti_FF (I i)).getD f (0, 0, 0)) a9 b9)) (nI ((ti_FF (I i)).getD f (0, 0, 0)).2.2) (nI nu) (nI de)) H := hPe
            have ne0 := hnew 0 _ rfl
            have ne1 := hnew 1 _ rfl
            have ne2 := hnew 2 _ rfl
            have ne3 := hnew 3 _ rfl
            have ne4 := hnew 4 _ rfl
            have hP : va_P D vwCl (ti_wMJF E ad dh du dv jh ju jv kh ku kv tx hi xi yf) H := ti_asP hP [.inr 0, .inr 1, .inr 2, .inr 3, .inr 4, .inr 5, .inr 6, .inr 7, .inr 8, .inr 9, .inr 10, .inr 11, .inr 12, .inr 13] rfl rfl rfl rfl
            have hD : va_D A (ti_wMJF E ad dh du dv jh ju jv kh ku kv tx hi xi yf) := ti_asD hD [.inr 0, .inr 1, .inr 2, .inr 3, .inr 4, .inr 5, .inr 6, .inr 7, .inr 8, .inr 9, .inr 10, .inr 11, .inr 12, .inr 13] rfl rfl rfl rfl
            have hce : H[e0]? = some ce := hce
            refine vx_catch hown [] ⟨30, 42, 43, 219⟩ [⟨30, 42, 43, 150⟩] htab (fun z hz => absurd hz List.not_mem_nil) rfl (by decide) (hts _ q635) (hE.use q700 rfl rfl) hce hcv hcl ?_
            refine lv_astore (lv' := [(6, .ref e0), (0, .ref (ad 0)), (1, .int (nI i)), (2, .int (nI a9)), (3, .int (nI b9)), (4, .int (nI nu)), (5, .int (nI de))]) hx hb dX0_held_43 hl (by decide) rfl (fun ls hl => ?_)
            refine lv_aload hx hb dX0_held_45 (lv_at hl 0 rfl) ?_
            refine va_instY hx hb hown (hts _ q635) (hE.use q700 rfl rfl) ⟨ce, hce, by rw [hcv]; rfl, hcl⟩ dX0_held_47 ?_
            refine W.eq (g2 := F0 m 50 ls [.int (nI 1)]) rfl ?_
            refine tn_if_eq (tgt := 57) hx hb dX0_held_50 (by decide) (by omega) (fun c50 => ?_) (fun c50 => ?_)
            · skip
              exact absurd c50 (by decide)
            · skip
              refine lv_iconst (v := nI 0) hx hb dX0_held_53 (by decide) ?_
              refine lv_goto (tgt := 59) hx hb dX0_held_54 (by decide) ?_
              have hv9 : (nI 0) = (fun _ => ti_Sheld I (nI i) (nI a9) (nI b9) (nI nu) (nI de)) yf := by refine Eq.symm ?_; rw [ti_Sheld, if_neg (by rw [c4]; decide), if_neg (by rw [c14, c24]; decide), hci, hca, hcb, hcn, hcd, if_neg (by rw [hlen]; exact hz9), hfb]; rfl
              refine W.eq (g2 := F0 m 59 ls [.int ((fun _ => ti_Sheld I (nI i) (nI a9) (nI b9) (nI nu) (nI de)) yf)]) (congrArg (fun z => F0 m 59 ls [.int z]) hv9) ?_
              exact hret _ yf _ _ _ _ (hpx) hP trivial hS (Nat.le_of_ble_eq_true rfl) (Nat.le_of_ble_eq_true rfl) (fun hq hf9 => W.iret hx hb hr hq hf9 dX0_held_59 hlk)
      · skip
        refine lv_bipush (v := (-2)) hx hb dX0_held_27 (by decide) ?_
        have hv9 : ((-2)) = (fun _ => ti_Sheld I (nI i) (nI a9) (nI b9) num den) xf := by rw [ti_Sheld, if_neg (by rw [c4]; decide), if_pos (by rw [c14, c24]; rfl)]
        refine W.eq (g2 := F0 m 29 ls [.int ((fun _ => ti_Sheld I (nI i) (nI a9) (nI b9) num den) xf)]) (congrArg (fun z => F0 m 29 ls [.int z]) hv9) ?_
        exact hret _ xf _ _ _ _ (hxf) hP trivial hS (Nat.le_of_ble_eq_true rfl) (Nat.le_of_ble_eq_true rfl) (fun hq hf9 => W.iret hx hb hr hq hf9 dX0_held_29 hlk)
  · skip
    refine lv_iconst (v := (-1)) hx hb dX0_held_7 (by decide) ?_
    have hv9 : ((-1)) = (fun _ => ti_Sheld I v a b num den) xf := by rw [ti_Sheld, if_pos c4]
    refine W.eq (g2 := F0 m 8 ls [.int ((fun _ => ti_Sheld I v a b num den) xf)]) (congrArg (fun z => F0 m 8 ls [.int z]) hv9) ?_
    exact hret _ xf _ _ _ _ (hxf) hP trivial hS (Nat.le_of_ble_eq_true rfl) (Nat.le_of_ble_eq_true rfl) (fun hq hf9 => W.iret hx hb hr hq hf9 dX0_held_8 hlk)

set_option maxHeartbeats 2000000 in
theorem met_X0_reason (l : Launch) (D : va_G) (E : Nat → ClassId) (htr : l.stackTraces = false) (z0 : Nat) (ad dh du dv jh ju jv kh ku kv : Nat → Nat) (tx : Nat) (hi : Bool) (xi : ti_Ti) (xf : ti_Tf) (hxi : ti_Jok xi) (I : Nat → ti_GL) (hJ : ti_JI xi I) (hxf : ti_Fok xf) (hnd : ∀ i, i < 2 → (I i).Nodup) (v a b num den j : Int32) : ti_MetX (σ := ti_Tf) (τ := Unit) l D E yX0_reason (wsW_ yX0_reason cX0_reason 8 (some .int) [(40, 53, 54, 219), (40, 53, 64, 150)]) 11 6 41 z0 (ti_wMJF E ad dh du dv jh ju jv kh ku kv tx hi xi xf) [.ref (ad 0), .int v, .int a, .int b, .int num, .int den, .int j] (fun _ => True) (fun u => ti_wMJF E ad dh du dv jh ju jv kh ku kv tx hi xi u) (fun u => some (.int ((fun _ => ti_Sreason I v a b num den j) u))) (fun u => ti_Fok u) (fun _ _ => True) (fun w => RX14) (fun w => 0) (fun w => ti_wMJF E ad dh du dv jh ju jv kh ku kv tx hi xi xf) (fun w => []) (fun w => False) (fun w H => True) := by
  refine ti_metXH (by decide) (Nat.le_of_ble_eq_true rfl) ?_
  intro p e s m below meth c H A Q ls S hE hP hD hS hA hZ hAz hx0 htab hl hret hq
  obtain ⟨hQ, hr, hlk, hinit⟩ := hq
  have hsz0 := hS.1
  have hx := S.1
  have hb := S.2.1
  have hown := S.2.2.2.1
  have hts := S.2.2.2.2
  have hK := hE.1
  have hl : lv_has ls 8 [(0, .ref (ad 0)), (1, .int v), (2, .int a), (3, .int b), (4, .int num), (5, .int den), (6, .int j)] := hl
  refine lv_iload_n hx hb dX0_reason_0 rfl (lv_at hl 1 rfl) ?_
  refine ti_pS (As := [.int v]) (rest := []) (v := .int (ti_b (ti_bt v))) S hE hP [] (met_X0_isIdeal l D E v) rfl (lw_S q299 q300 q66 q301) 1 rfl (by decide +kernel) ⟨Nat.le_of_ble_eq_true rfl, Nat.le_of_ble_eq_true rfl⟩ hl.1 rfl (Nat.le_of_ble_eq_true rfl) ⟨Nat.le_of_ble_eq_true rfl, Nat.le_of_ble_eq_true rfl⟩ dX0_reason_1 ?_
  refine tb_eq (tgt := 17) hx hb dX0_reason_4 (by decide) (fun c4 => ?_) (fun c4 => ?_)
  · skip
    refine lv_iconst (v := (-1)) hx hb dX0_reason_17 (by decide) ?_
    have hv9 : ((-1)) = (fun _ => ti_Sreason I v a b num den j) xf := by rw [ti_Sreason, if_pos (by rw [c4]; rfl)]
    refine W.eq (g2 := F0 m 18 ls [.int ((fun _ => ti_Sreason I v a b num den j) xf)]) (congrArg (fun z => F0 m 18 ls [.int z]) hv9) ?_
    exact hret _ xf _ _ _ _ (hxf) hP trivial hS (Nat.le_of_ble_eq_true rfl) (Nat.le_of_ble_eq_true rfl) (fun hq hf9 => W.iret hx hb hr hq hf9 dX0_reason_18 hlk)
  · skip
    obtain ⟨i, hi2, rfl⟩ := ti_bt_nat c4
    have hci : ti_cl (nI i) = i := ti_cl_nI (by omega)
    have hlen := ti_JI_len hJ hi2
    refine lv_iload hx hb dX0_reason_7 (lv_at hl 6 rfl) ?_
    refine lv_iconst (v := nI 0) hx hb dX0_reason_9 (by decide) ?_
    refine lv_iconst (v := nI 4) hx hb dX0_reason_10 (by decide) ?_
    refine ti_pS (As := [.int j, .int (nI 0), .int (nI 4)]) (rest := []) (v := .int (ti_b (ti_in j (nI 0) (nI 4)))) S hE hP [] (met_X0_in l D E j (nI 0) (nI 4)) rfl (lw_S q302 q303 q66 q304) 3 rfl (by decide +kernel) ⟨Nat.le_of_ble_eq_true rfl, Nat.le_of_ble_eq_true rfl⟩ hl.1 rfl (Nat.le_of_ble_eq_true rfl) ⟨Nat.le_of_ble_eq_true rfl, Nat.le_of_ble_eq_true rfl⟩ dX0_reason_11 ?_
    refine tb_ne (tgt := 19) hx hb dX0_reason_14 (by decide) (fun c14 => ?_) (fun c14 => ?_)
    · skip
      obtain ⟨w9, -, hw4, rfl⟩ := ti_in_nat (by decide) (by decide) c14
      refine lv_iload_n hx hb dX0_reason_19 rfl (lv_at hl 2 rfl) ?_
      refine lv_iload_n hx hb dX0_reason_20 rfl (lv_at hl 3 rfl) ?_
      refine ti_pS (As := [.int a, .int b]) (rest := []) (v := .int (ti_b (ti_b9 a && ti_b9 b))) S hE hP [] (met_X0_isTerm l D E a b) rfl (lw_S q305 q306 q66 q307) 2 rfl (by decide +kernel) ⟨Nat.le_of_ble_eq_true rfl, Nat.le_of_ble_eq_true rfl⟩ hl.1 rfl (Nat.le_of_ble_eq_true rfl) ⟨Nat.le_of_ble_eq_true rfl, Nat.le_of_ble_eq_true rfl⟩ dX0_reason_21 ?_
      refine tb_eq (tgt := 37) hx hb dX0_reason_24 (by decide) (fun c24 => ?_) (fun c24 => ?_)
      · skip
        refine lv_bipush (v := (-2)) hx hb dX0_reason_37 (by decide) ?_
        have hv9 : ((-2)) = (fun _ => ti_Sreason I (nI i) a b num den (nI w9)) xf := by rw [ti_Sreason, if_neg (by rw [c4, c14]; decide), if_pos (by rw [c24]; rfl)]
        refine W.eq (g2 := F0 m 39 ls [.int ((fun _ => ti_Sreason I (nI i) a b num den (nI w9)) xf)]) (congrArg (fun z => F0 m 39 ls [.int z]) hv9) ?_
        exact hret _ xf _ _ _ _ (hxf) hP trivial hS (Nat.le_of_ble_eq_true rfl) (Nat.le_of_ble_eq_true rfl) (fun hq hf9 => W.iret hx hb hr hq hf9 dX0_reason_39 hlk)
      · skip
        have hb9 : ti_b9 a = true ∧ ti_b9 b = true := by simpa using c24
        obtain ⟨a9, ha9, rfl⟩ := ti_b9_nat hb9.1
        obtain ⟨b9, hb99, rfl⟩ := ti_b9_nat hb9.2
        have hca : ti_cl (nI a9) = a9 := ti_cl_nI (by omega)
        have hcb : ti_cl (nI b9) = b9 := ti_cl_nI (by omega)
        refine lv_iload hx hb dX0_reason_27 (lv_at hl 4 rfl) ?_
        refine lv_iload hx hb dX0_reason_29 (lv_at hl 5 rfl) ?_
        refine ti_pS (As := [.int num, .int den]) (rest := []) (v := .int (ti_b (ti_bf num && ti_bf den))) S hE hP [] (met_X0_isFraction l D E num den) rfl (lw_S q636 q637 q66 q638) 2 rfl (by decide +kernel) ⟨Nat.le_of_ble_eq_true rfl, Nat.le_of_ble_eq_true rfl⟩ hl.1 rfl (Nat.le_of_ble_eq_true rfl) ⟨Nat.le_of_ble_eq_true rfl, Nat.le_of_ble_eq_true rfl⟩ dX0_reason_31 ?_
        refine tb_ne (tgt := 40) hx hb dX0_reason_34 (by decide) (fun c34 => ?_) (fun c34 => ?_)
        · skip
          have hb9 : ti_bf num = true ∧ ti_bf den = true := by simpa using c34
          obtain ⟨nu, hnu1, hnu, rfl⟩ := ti_bf_nat hb9.1
          obtain ⟨de, hde1, hde, rfl⟩ := ti_bf_nat hb9.2
          have hcn : ti_cl (nI nu) = nu := ti_cl_nI (by omega)
          have hcd : ti_cl (nI de) = de := ti_cl_nI (by omega)
          refine lv_aload_n hx hb dX0_reason_40 rfl (lv_at hl 0 rfl) ?_
          refine lv_iload_n hx hb dX0_reason_41 rfl (lv_at hl 1 rfl) ?_
          refine lv_iload_n hx hb dX0_reason_42 rfl (lv_at hl 2 rfl) ?_
          refine lv_iload_n hx hb dX0_reason_43 rfl (lv_at hl 3 rfl) ?_
          refine lv_iload hx hb dX0_reason_44 (lv_at hl 4 rfl) ?_
          refine lv_iload hx hb dX0_reason_46 (lv_at hl 5 rfl) ?_
          by_cases hz9 : xi.2.2 i = 0
          · skip
            refine ti_callX (ty_runV (As := [.int (nI i), .int (nI a9), .int (nI b9), .int (nI nu), .int (nI de)]) (rest := []) S (met_X0_asks_0 l D E htr z0 ad dh du dv jh ju jv kh ku kv tx hi xi xf hxi I hJ hxf hnd i (by omega) a9 b9 ha9 hb99 nu de hnu hde hz9 H.size) (cwV 5 S.2.2.2.2 (lw_V q639 q641 qs13 q66 q642) rfl rfl rfl (by decide +kernel) ⟨Nat.le_of_ble_eq_true rfl, Nat.le_of_ble_eq_true rfl⟩) (ti_preXV (xp := fun _ => True) hE hP hD hS rfl hZ hAz trivial [0, 1, 2, 3, 4, 5, 6, 7, 8, 9, 10, 11, 12, 13] rfl rfl 0 rfl rfl) rfl rfl hl.1 rfl (lv_room (Nat.le_of_ble_eq_true rfl)) dX0_reason_48 ⟨Nat.le_of_ble_eq_true rfl, Nat.le_of_ble_eq_true rfl⟩) hP hD hS hA [0, 1, 2, 3, 4, 5, 6, 7, 8, 9, 10, 11, 12, 13] rfl (fun _ => rfl) (fun _ => rfl) (fun _ _ _ h9 => absurd h9 id) (fun we H locs ce hpx hxx hFr hP hD hPe hnew hS hce hcv hcl => ?_)
            have hP : va_P D vwCl (ti_wMJF E ad dh du dv jh ju jv kh ku kv tx hi xi xf) H := ti_asP hP [.inr 0, .inr 1, .inr 2, .inr 3, .inr 4, .inr 5, .inr 6, .inr 7, .inr 8, .inr 9, .inr 10, .inr 11, .inr 12, .inr 13] rfl rfl rfl rfl
            have hD : va_D A (ti_wMJF E ad dh du dv jh ju jv kh ku kv tx hi xi xf) := ti_asD hD [.inr 0, .inr 1, .inr 2, .inr 3, .inr 4, .inr 5, .inr 6, .inr 7, .inr 8, .inr 9, .inr 10, .inr 11, .inr 12, .inr 13] rfl rfl rfl rfl
            refine vx_catch hown [⟨40, 53, 54, 219⟩] ⟨40, 53, 64, 150⟩ [] htab (fun z hz => by rw [List.mem_singleton.mp hz]; exact Or.inr ⟨by decide, _, hts _ q635, hZ.2.2.2.2 _ _ (by decide)⟩) rfl (by decide) (hts _ q356) (hE.use q363 rfl rfl) hce hcv hcl ?_
            refine lv_astore (lv' := [(7, .ref we.1), (0, .ref (ad 0)), (1, .int (nI i)), (2, .int (nI a9)), (3, .int (nI b9)), (4, .int (nI nu)), (5, .int (nI de)), (6, .int (nI w9))]) hx hb dX0_reason_64 hl (by decide) rfl (fun ls hl => ?_)
            refine lv_bipush (v := (-3)) hx hb dX0_reason_66 (by decide) ?_
            have hv9 : ((-3)) = (fun _ => ti_Sreason I (nI i) (nI a9) (nI b9) (nI nu) (nI de) (nI w9)) xf := by refine Eq.symm ?_; rw [ti_Sreason, if_neg (by rw [c4, c14]; decide), if_neg (by rw [c24, c34]; decide), hci, hca, hcb, hcn, hcd, if_pos (by rw [hlen]; exact hz9)]
            refine W.eq (g2 := F0 m 68 ls [.int ((fun _ => ti_Sreason I (nI i) (nI a9) (nI b9) (nI nu) (nI de) (nI w9)) xf)]) (congrArg (fun z => F0 m 68 ls [.int z]) hv9) ?_
            exact hret _ xf _ _ _ _ (hxf) hP trivial hS (Nat.le_of_ble_eq_true rfl) (Nat.le_of_ble_eq_true rfl) (fun hq hf9 => W.iret hx hb hr hq hf9 dX0_reason_68 hlk)
          · skip
            have hpos : 0 < xi.2.2 i := Nat.pos_of_ne_zero hz9
            cases hfb : ti_fb a9 b9 nu de (ti_FF (I i)) 0 with
            | none =>
              refine ti_callX (ty_runV (As := [.int (nI i), .int (nI a9), .int (nI b9), .int (nI nu), .int (nI de)]) (rest := []) S (met_X0_asks_ok l D E htr z0 ad dh du dv jh ju jv kh ku kv tx hi xi xf hxi I hJ hxf hnd i (by omega) a9 b9 ha9 hb99 nu de hnu hde hpos hfb H.size) (cwV 5 S.2.2.2.2 (lw_V q639 q641 qs13 q66 q642) rfl rfl rfl (by decide +kernel) ⟨Nat.le_of_ble_eq_true rfl, Nat.le_of_ble_eq_true rfl⟩) (ti_preXV (xp := fun _ => True) hE hP hD hS rfl hZ hAz trivial [0, 1, 2, 3, 4, 5, 6, 7, 8, 9, 10, 11, 12, 13] rfl rfl 0 rfl rfl) rfl rfl hl.1 rfl (lv_room (Nat.le_of_ble_eq_true rfl)) dX0_reason_48 ⟨Nat.le_of_ble_eq_true rfl, Nat.le_of_ble_eq_true rfl⟩) hP hD hS hA [0, 1, 2, 3, 4, 5, 6, 7, 8, 9, 10, 11, 12, 13] rfl (fun _ => rfl) (fun _ => rfl) (fun uk H locs hu _ _ hP hD hS => ?_) (fun _ _ _ _ h9 => absurd h9 id)
              have huk : ti_Fok uk := hu
              have hP : va_P D vwCl (ti_wMJF E ad dh du dv jh ju jv kh ku kv tx hi xi uk) H := ti_asP hP [.inr 0, .inr 1, .inr 2, .inr 3, .inr 4, .inr 5, .inr 6, .inr 7, .inr 8, .inr 9, .inr 10, .inr 11, .inr 12, .inr 13] rfl rfl rfl rfl
              have hD : va_D A (ti_wMJF E ad dh du dv jh ju jv kh ku kv tx hi xi uk) := ti_asD hD [.inr 0, .inr 1, .inr 2, .inr 3, .inr 4, .inr 5, .inr 6, .inr 7, .inr 8, .inr 9, .inr 10, .inr 11, .inr 12, .inr 13] rfl rfl rfl rfl
              refine W.eq (g2 := F0 m 51 ls []) rfl ?_
              refine lv_bipush (v := (-5)) hx hb dX0_reason_51 (by decide) ?_
              have hv9 : ((-5)) = (fun _ => ti_Sreason I (nI i) (nI a9) (nI b9) (nI nu) (nI de) (nI w9)) uk := by refine Eq.symm ?_; rw [ti_Sreason, if_neg (by rw [c4, c14]; decide), if_neg (by rw [c24, c34]; decide), hci, hca, hcb, hcn, hcd, if_neg (by rw [hlen]; exact hz9), hfb]
              refine W.eq (g2 := F0 m 53 ls [.int ((fun _ => ti_Sreason I (nI i) (nI a9) (nI b9) (nI nu) (nI de) (nI w9)) uk)]) (congrArg (fun z => F0 m 53 ls [.int z]) hv9) ?_
              exact hret _ uk _ _ _ _ (huk) hP trivial hS (Nat.le_of_ble_eq_true rfl) (Nat.le_of_ble_eq_true rfl) (fun hq hf9 => W.iret hx hb hr hq hf9 dX0_reason_53 hlk)
            | some f =>
              have hlt9 : ∀ (k : Nat) (z : Nat × va_E), (ti_wMJF E ad dh du dv jh ju jv kh ku kv tx hi xi xf : va_W)[k]? = some z → z.1 < H.size := fun k z h => (hP k z h).lt
              have hsz1 := hS.1
              refine ti_callX (ty_runV (As := [.int (nI i), .int (nI a9), .int (nI b9), .int (nI nu), .int (nI de)]) (rest := []) S (met_X0_asks_x l D E htr z0 ad dh du dv jh ju jv kh ku kv tx hi xi xf hxi I hJ hxf hnd i (by omega) a9 b9 ha9 hb99 nu de hnu hde hpos f hfb H.size) (cwV 5 S.2.2.2.2 (lw_V q639 q641 qs13 q66 q642) rfl rfl rfl (by decide +kernel) ⟨Nat.le_of_ble_eq_true rfl, Nat.le_of_ble_eq_true rfl⟩) (ti_preXV (xp := fun _ => True) hE hP hD hS rfl hZ hAz trivial [0, 1, 2, 3, 4, 5, 6, 7, 8, 9, 10, 11, 12, 13] rfl rfl 0 rfl rfl) rfl rfl hl.1 rfl (lv_room (Nat.le_of_ble_eq_true rfl)) dX0_reason_48 ⟨Nat.le_of_ble_eq_true rfl, Nat.le_of_ble_eq_true rfl⟩) hP hD hS hA [0, 1, 2, 3, 4, 5, 6, 7, 8, 9, 10, 11, 12, 13] rfl (fun _ => rfl) (fun _ => rfl) (fun _ _ _ h9 => absurd h9 id) (fun wb H locs ce hpx hxx hFr hP hD hPe hnew hS hce hcv hcl => ?_)
              obtain ⟨yf, ⟨e0, e1, e2, e3, e4⟩, x0, x1, x2, x3, x4⟩ := wb
              have hpx : ti_Fok yf := hpx
              have hxx : ti_free e0 H ∧ ti_free e1 H ∧ ti_free e2 H ∧ ti_free e3 H ∧ ti_free e4 H ∧ e1 < e2 ∧ e2 < e3 ∧ e3 < e4 ∧ e4 < e0 := hxx
              have hPe : va_P D vwCl (ti_w5 e0 e1 e2 e3 e4 x0 x1 x2 x3 x4 (nI f) (nI (ti_wt ((ti_FF (I i)).getD f (0, 0, 0)) a9 b9)) (nI ((ti_FF (I i)).getD f (0, 0, 0)).2.2) (nI nu) (nI de)) H := hPe
              have ne0 := hnew 0 _ rfl
              have ne1 := hnew 1 _ rfl
              have ne2 := hnew 2 _ rfl
              have ne3 := hnew 3 _ rfl
              have ne4 := hnew 4 _ rfl
              have hP : va_P D vwCl (ti_wMJF E ad dh du dv jh ju jv kh ku kv tx hi xi yf) H := ti_asP hP [.inr 0, .inr 1, .inr 2, .inr 3, .inr 4, .inr 5, .inr 6, .inr 7, .inr 8, .inr 9, .inr 10, .inr 11, .inr 12, .inr 13] rfl rfl rfl rfl
              have hD : va_D A (ti_wMJF E ad dh du dv jh ju jv kh ku kv tx hi xi yf) := ti_asD hD [.inr 0, .inr 1, .inr 2, .inr 3, .inr 4, .inr 5, .inr 6, .inr 7, .inr 8, .inr 9, .inr 10, .inr 11, .inr 12, .inr 13] rfl rfl rfl rfl
              have hce : H[e0]? = some ce := hce
              refine vx_catch hown [] ⟨40, 53, 54, 219⟩ [⟨40, 53, 64, 150⟩] htab (fun z hz => absurd hz List.not_mem_nil) rfl (by decide) (hts _ q635) (hE.use q700 rfl rfl) hce hcv hcl ?_
              have hD9 : va_D A (ti_w5 e0 e1 e2 e3 e4 x0 x1 x2 x3 x4 (nI f) (nI (ti_wt ((ti_FF (I i)).getD f (0, 0, 0)) a9 b9)) (nI ((ti_FF (I i)).getD f (0, 0, 0)).2.2) (nI nu) (nI de)) := ti_w5D hxx.2.2.2.2.2.1 hxx.2.2.2.2.2.2.1 hxx.2.2.2.2.2.2.2.1 hxx.2.2.2.2.2.2.2.2 ⟨hA _ (Nat.le_trans hsz1 ne0), hA _ (Nat.le_trans hsz1 ne1), hA _ (Nat.le_trans hsz1 ne2), hA _ (Nat.le_trans hsz1 ne3), hA _ (Nat.le_trans hsz1 ne4)⟩
              have hl9 : ∀ (k : Nat) (z : Nat × va_E), (ti_wMJF E ad dh du dv jh ju jv kh ku kv tx hi xi yf : va_W)[k]? = some z → ∀ (j : Nat) (y : Nat × va_E), (ti_w5 e0 e1 e2 e3 e4 x0 x1 x2 x3 x4 (nI f) (nI (ti_wt ((ti_FF (I i)).getD f (0, 0, 0)) a9 b9)) (nI ((ti_FF (I i)).getD f (0, 0, 0)).2.2) (nI nu) (nI de))[j]? = some y → z.1 < y.1 := fun k z hz j y hy => Nat.lt_of_lt_of_le (ti_lt_map (W1 := ti_wMJF E ad dh du dv jh ju jv kh ku kv tx hi xi yf) (W0 := ti_wMJF E ad dh du dv jh ju jv kh ku kv tx hi xi xf) rfl hlt9 k z hz) (hnew j y hy)
              have hD := ti_appD hP hD hD9 hl9
              have hP := hP.app hPe
              have hP : va_P D vwCl (ti_wMJF E ad dh du dv jh ju jv kh ku kv tx hi xi yf ++ [(e0, .inr (14, [.ref e1, x0.1, x0.2, .null, .null, .int 0, .int (nI f)])), (e1, .inr (13, [.ref e2, x1.1, x1.2, .null, .null, .int 0, .int (nI (ti_wt ((ti_FF (I i)).getD f (0, 0, 0)) a9 b9))])), (e2, .inr (12, [.ref e3, x2.1, x2.2, .null, .null, .int 0, .int (nI ((ti_FF (I i)).getD f (0, 0, 0)).2.2)])), (e3, .inr (12, [.ref e4, x3.1, x3.2, .null, .null, .int 0, .int (nI nu)])), (e4, .inr (12, [.ref e4, x4.1, x4.2, .null, .null, .int 0, .int (nI de)]))]) H := hP
              have hD : va_D A (ti_wMJF E ad dh du dv jh ju jv kh ku kv tx hi xi yf ++ [(e0, .inr (14, [.ref e1, x0.1, x0.2, .null, .null, .int 0, .int (nI f)])), (e1, .inr (13, [.ref e2, x1.1, x1.2, .null, .null, .int 0, .int (nI (ti_wt ((ti_FF (I i)).getD f (0, 0, 0)) a9 b9))])), (e2, .inr (12, [.ref e3, x2.1, x2.2, .null, .null, .int 0, .int (nI ((ti_FF (I i)).getD f (0, 0, 0)).2.2)])), (e3, .inr (12, [.ref e4, x3.1, x3.2, .null, .null, .int 0, .int (nI nu)])), (e4, .inr (12, [.ref e4, x4.1, x4.2, .null, .null, .int 0, .int (nI de)]))]) := hD
              refine lv_astore (lv' := [(7, .ref e0), (0, .ref (ad 0)), (1, .int (nI i)), (2, .int (nI a9)), (3, .int (nI b9)), (4, .int (nI nu)), (5, .int (nI de)), (6, .int (nI w9))]) hx hb dX0_reason_54 hl (by decide) rfl (fun ls hl => ?_)
              refine lv_aload hx hb dX0_reason_56 (lv_at hl 0 rfl) ?_
              refine lv_iload hx hb dX0_reason_58 (lv_at hl 7 rfl) ?_
              refine ti_fS (As := [.ref e0, .int (nI w9)]) (rest := []) S hE hP hD hS hA rfl hZ hAz ⟨hxx.1, hxx.2.1, hxx.2.2.1, hxx.2.2.2.1⟩ [14, 15, 16, 17, 18] rfl (met_X0_behind l D E htr z0 e0 e1 e2 e3 e4 x0 x1 x2 x3 x4 (nI f) (nI (ti_wt ((ti_FF (I i)).getD f (0, 0, 0)) a9 b9)) (nI ((ti_FF (I i)).getD f (0, 0, 0)).2.2) (nI nu) (nI de) w9 hw4) rfl (fun _ => rfl) (lw_S q718 q719 q66 q720) 2 rfl (by decide +kernel) ⟨Nat.le_of_ble_eq_true rfl, Nat.le_of_ble_eq_true rfl⟩ hl.1 rfl (Nat.le_of_ble_eq_true rfl) ⟨Nat.le_of_ble_eq_true rfl, Nat.le_of_ble_eq_true rfl⟩ dX0_reason_60 (fun _ H locs _ _ _ hP hD hS => ?_)
              have hP : va_P D vwCl (ti_wMJF E ad dh du dv jh ju jv kh ku kv tx hi xi yf ++ [(e0, .inr (14, [.ref e1, x0.1, x0.2, .null, .null, .int 0, .int (nI f)])), (e1, .inr (13, [.ref e2, x1.1, x1.2, .null, .null, .int 0, .int (nI (ti_wt ((ti_FF (I i)).getD f (0, 0, 0)) a9 b9))])), (e2, .inr (12, [.ref e3, x2.1, x2.2, .null, .null, .int 0, .int (nI ((ti_FF (I i)).getD f (0, 0, 0)).2.2)])), (e3, .inr (12, [.ref e4, x3.1, x3.2, .null, .null, .int 0, .int (nI nu)])), (e4, .inr (12, [.ref e4, x4.1, x4.2, .null, .null, .int 0, .int (nI de)]))]) H := hP
              have hD : va_D A (ti_wMJF E ad dh du dv jh ju jv kh ku kv tx hi xi yf ++ [(e0, .inr (14, [.ref e1, x0.1, x0.2, .null, .null, .int 0, .int (nI f)])), (e1, .inr (13, [.ref e2, x1.1, x1.2, .null, .null, .int 0, .int (nI (ti_wt ((ti_FF (I i)).getD f (0, 0, 0)) a9 b9))])), (e2, .inr (12, [.ref e3, x2.1, x2.2, .null, .null, .int 0, .int (nI ((ti_FF (I i)).getD f (0, 0, 0)).2.2)])), (e3, .inr (12, [.ref e4, x3.1, x3.2, .null, .null, .int 0, .int (nI nu)])), (e4, .inr (12, [.ref e4, x4.1, x4.2, .null, .null, .int 0, .int (nI de)]))]) := hD
              refine W.eq (g2 := F0 m 63 ls [.int (ti_c5 (nI f) (nI (ti_wt ((ti_FF (I i)).getD f (0, 0, 0)) a9 b9)) (nI ((ti_FF (I i)).getD f (0, 0, 0)).2.2) (nI nu) (nI de) w9)]) rfl ?_
              have hP := ti_P_l hP
              have hv9 : (ti_c5 (nI f) (nI (ti_wt ((ti_FF (I i)).getD f (0, 0, 0)) a9 b9)) (nI ((ti_FF (I i)).getD f (0, 0, 0)).2.2) (nI nu) (nI de) w9) = (fun _ => ti_Sreason I (nI i) (nI a9) (nI b9) (nI nu) (nI de) (nI w9)) yf := by refine Eq.symm ?_; rw [ti_Sreason, if_neg (by rw [c4, c14]; decide), if_neg (by rw [c24, c34]; decide), hci, hca, hcb, hcn, hcd, if_neg (by rw [hlen]; exact hz9), hfb]; exact (ti_c5_if hw4).symm
              refine W.eq (g2 := F0 m 63 ls [.int ((fun _ => ti_Sreason I (nI i) (nI a9) (nI b9) (nI nu) (nI de) (nI w9)) yf)]) (congrArg (fun z => F0 m 63 ls [.int z]) hv9) ?_
              exact hret _ yf _ _ _ _ (hpx) hP trivial hS (Nat.le_of_ble_eq_true rfl) (Nat.le_of_ble_eq_true rfl) (fun hq hf9 => W.iret hx hb hr hq hf9 dX0_reason_63 hlk)
        · skip
          refine lv_bipush (v := (-2)) hx hb dX0_reason_37 (by decide) ?_
          have hv9 : ((-2)) = (fun _ => ti_Sreason I (nI i) (nI a9) (nI b9) num den (nI w9)) xf := by rw [ti_Sreason, if_neg (by rw [c4, c14]; decide), if_pos (by rw [c24, c34]; rfl)]
          refine W.eq (g2 := F0 m 39 ls [.int ((fun _ => ti_Sreason I (nI i) (nI a9) (nI b9) num den (nI w9)) xf)]) (congrArg (fun z => F0 m 39 ls [.int z]) hv9) ?_
          exact hret _ xf _ _ _ _ (hxf) hP trivial hS (Nat.le_of_ble_eq_true rfl) (Nat.le_of_ble_eq_true rfl) (fun hq hf9 => W.iret hx hb hr hq hf9 dX0_reason_39 hlk)
    · skip
      refine lv_iconst (v := (-1)) hx hb dX0_reason_17 (by decide) ?_
      have hv9 : ((-1)) = (fun _ => ti_Sreason I (nI i) a b num den j) xf := by rw [ti_Sreason, if_pos (by rw [c4, c14]; rfl)]
      refine W.eq (g2 := F0 m 18 ls [.int ((fun _ => ti_Sreason I (nI i) a b num den j) xf)]) (congrArg (fun z => F0 m 18 ls [.int z]) hv9) ?_
      exact hret _ xf _ _ _ _ (hxf) hP trivial hS (Nat.le_of_ble_eq_true rfl) (Nat.le_of_ble_eq_true rfl) (fun hq hf9 => W.iret hx hb hr hq hf9 dX0_reason_18 hlk)
