/-! TermIdeals: fits (printed by w_own8.py) -/
set_option maxRecDepth 100000

theorem ti_m1_neg {v : Nat} (hv : v ≤ 10) (h : nI v + (-1) < 0) : v = 0 := by
  refine Classical.byContradiction fun hn => ?_
  obtain ⟨m, rfl⟩ : ∃ m, v = m + 1 := ⟨v - 1, by omega⟩
  rw [show nI (m + 1) + (-1) = nI m from pk_m1 m] at h
  exact nI_pos (by omega) h
theorem ti_m1_ne {v : Nat} (h : ¬ nI v + (-1) < 0) : v ≠ 0 := fun e => h (by rw [e]; decide)
theorem ti_pl_at {a b : Nat} : ∀ {g : List (Nat × Nat)} {k j : Nat}, ti_pl a b g k = some j → g[j - k]? = some (a, b)
  | [], _, _, h => by cases h
  | q :: r, k, j, h => by
    have hge := ti_pl_ge h
    unfold ti_pl at h
    by_cases hq : q.1 = a ∧ q.2 = b
    · rw [if_pos hq] at h
      cases h
      rw [Nat.sub_self, List.getElem?_cons_zero, ← hq.1, ← hq.2]
    · rw [if_neg hq] at h
      have h2 := ti_pl_ge h
      have := ti_pl_at h
      rw [show j - k = (j - (k + 1)) + 1 by omega, List.getElem?_cons_succ]
      exact this
theorem ti_px_k {o : Option Nat} {k : Nat} (hj : ∀ j, o = some j → j < 2 ^ 31) (hk : k < 2 ^ 31) : ti_px o = nI k ↔ o = some k := by
  cases o with
  | none => exact ⟨fun e => absurd (show nI k = -5 from e.symm) (ti_n5 hk), fun e => by cases e⟩
  | some j => exact ⟨fun e => by rw [(nI_eq (hj j rfl) hk).mp e], fun e => by cases e; rfl⟩
/-- the place of a pair where all are distinct -/
theorem ti_pl_nodA {a b : Nat} : ∀ {g : List (Nat × Nat)} (k0 k : Nat), g.Nodup → k < g.length → g.getD k (0, 0) = (a, b) → ti_pl a b g k0 = some (k0 + k)
  | [], _, _, _, hk, _ => absurd hk (Nat.not_lt_zero _)
  | q :: r, k0, 0, _, _, he => by
    have he : q = (a, b) := he
    unfold ti_pl
    rw [if_pos (by rw [he]; exact ⟨rfl, rfl⟩), Nat.add_zero]
  | q :: r, k0, k + 1, hn, hk, he => by
    have he : r.getD k (0, 0) = (a, b) := he
    have hk : k < r.length := Nat.lt_of_succ_lt_succ hk
    obtain ⟨h1, h2⟩ := List.nodup_cons.mp hn
    have hm : (a, b) ∈ r := by
      rw [List.getD_eq_getElem?_getD, List.getElem?_eq_getElem hk, Option.getD_some] at he
      rw [← he]; exact List.getElem_mem hk
    unfold ti_pl
    rw [if_neg (fun z => h1 (by rw [show q = (a, b) from Prod.ext z.1 z.2]; exact hm)), ti_pl_nodA (k0 + 1) k h2 hk he]
    congr 1; omega
theorem ti_pl_nod {g : List (Nat × Nat)} (hn : g.Nodup) {a b k : Nat} (hk : k < g.length) (he : g.getD k (0, 0) = (a, b)) : ti_pl a b g 0 = some k := by
  rw [ti_pl_nodA 0 k hn hk he, Nat.zero_add]
theorem ti_gr_set {fa fb : Nat → Nat} {n k a b : Nat} (hk : k < n) : ti_gr (va_up fa k a) (va_up fb k b) 0 n = (ti_gr fa fb 0 n).set k (a, b) := by
  apply List.ext_getElem?
  intro j
  by_cases hj : j < n
  · rw [ti_gr_at hj, List.getElem?_set, Nat.zero_add]
    by_cases e : k = j
    · subst e
      rw [if_pos rfl, if_pos (by rw [ti_gr_len]; exact hk), va_up_self, va_up_self]
    · rw [if_neg e, va_up_ne _ _ (Ne.symm e), va_up_ne _ _ (Ne.symm e), ti_gr_at hj, Nat.zero_add]
  · rw [List.getElem?_eq_none (by rw [ti_gr_len]; omega), List.getElem?_eq_none (by rw [List.length_set, ti_gr_len]; omega)]

set_option maxHeartbeats 4000000 in
theorem met_X0_fits (l : Launch) (D : va_G) (E : Nat → ClassId) (htr : l.stackTraces = false) (z0 : Nat) (ad dh du dv jh ju jv kh ku kv : Nat → Nat) (tx : Nat) (hi : Bool) (xi : ti_Ti) (xr : ti_Tr) (xf : ti_Tf) (xs : ti_Tw) (hxi : ti_Jok xi) (I : Nat → ti_GL) (hJ : ti_JI xi I) (hxf : ti_Fok xf) (hnd : ∀ i, i < 2 → (I i).Nodup) (hxr : ti_Rok xr) (hxs : ti_Wok 4 xs) (SN : List (Nat × Nat × Nat)) (hSN : ti_Wl3 xs = SN) (v k letter w : Int32) : ti_MetX (σ := ti_Tr × ti_Tf) (τ := Unit) l D E yX0_fits (ws_ yX0_fits cX0_fits 11 (some .int)) 8 10 60 z0 (ti_wMJRFS E ad dh du dv jh ju jv kh ku kv tx hi xi xr xf xs) [.ref (ad 0), .int v, .int k, .int letter, .int w] (fun _ => True) (fun u => ti_wMJRFS E ad dh du dv jh ju jv kh ku kv tx hi xi u.1 u.2 xs) (fun u => some (.int ((fun _ => ti_Sfits I SN v k letter w) u))) (fun u => ti_Rok u.1 ∧ ti_Fok u.2) (fun _ _ => True) (fun w => RX14) (fun w => 0) (fun w => ti_wMJRFS E ad dh du dv jh ju jv kh ku kv tx hi xi xr xf xs) (fun w => []) (fun w => False) (fun w H => True) := by
  refine ti_metX (by decide) (Nat.le_of_ble_eq_true rfl) ?_
  intro p e s m below meth c H A Q ls S hE hP hD hS hA hZ hAz hx0 htab hl hret hq
  obtain ⟨hQ, hr, hlk, hinit⟩ := hq
  have hsz0 := hS.1
  have hx := S.1
  have hb := S.2.1
  have hown := S.2.2.2.1
  have hts := S.2.2.2.2
  have hK := hE.1
  have hl : lv_has ls 11 [(0, .ref (ad 0)), (1, .int v), (2, .int k), (3, .int letter), (4, .int w)] := hl
  refine lv_aload_n hx hb dX0_fits_0 rfl (lv_at hl 0 rfl) ?_
  refine lv_iload_n hx hb dX0_fits_1 rfl (lv_at hl 1 rfl) ?_
  refine lv_iload_n hx hb dX0_fits_2 rfl (lv_at hl 2 rfl) ?_
  refine ti_pV (As := [.int v, .int k]) (rest := []) (v := .int (ti_b (ti_bt v && ti_lt k (xi.2.2 (ti_cl v))))) S hE hP [0, 1, 2, 3, 4, 5, 6, 7] (met_X0_isGenerator l D E ad dh du dv jh ju jv kh ku kv tx hi xi hxi v k) rfl (lw_V q331 q333 qs0 q66 q334) 2 rfl 0 rfl rfl (by decide +kernel) ⟨Nat.le_of_ble_eq_true rfl, Nat.le_of_ble_eq_true rfl⟩ hl.1 rfl (Nat.le_of_ble_eq_true rfl) ⟨Nat.le_of_ble_eq_true rfl, Nat.le_of_ble_eq_true rfl⟩ dX0_fits_3 ?_
  refine tb_eq (tgt := 28) hx hb dX0_fits_6 (by decide) (fun c6 => ?_) (fun c6 => ?_)
  · skip
    have hq : (ti_bt v && ti_lt k (I (ti_cl v)).length) = false := by
      cases hv : ti_bt v with
      | false => rfl
      | true =>
        obtain ⟨i, hi2, rfl⟩ := ti_bt_nat hv
        have hci : ti_cl (nI i) = i := ti_cl_nI (by omega)
        rw [hv, hci] at c6
        rw [hci, ti_JI_len hJ hi2]
        exact c6
    refine lv_iconst (v := (-1)) hx hb dX0_fits_28 (by decide) ?_
    have hv9 : ((-1)) = (fun _ => ti_Sfits I SN v k letter w) (xr, xf) := by rw [ti_Sfits, if_pos (by rw [hq]; rfl)]
    refine W.eq (g2 := F0 m 29 ls [.int ((fun _ => ti_Sfits I SN v k letter w) (xr, xf))]) (congrArg (fun z => F0 m 29 ls [.int z]) hv9) ?_
    exact hret _ (xr, xf) _ _ _ _ (⟨hxr, hxf⟩) hP trivial hS (Nat.le_of_ble_eq_true rfl) (Nat.le_of_ble_eq_true rfl) (fun hq hf9 => W.iret hx hb hr hq hf9 dX0_fits_29 hlk)
  · skip
    have hq : ti_bt v = true ∧ ti_lt k (xi.2.2 (ti_cl v)) = true := by simpa using c6
    obtain ⟨i, hi2, rfl⟩ := ti_bt_nat hq.1
    have hci : ti_cl (nI i) = i := ti_cl_nI (by omega)
    rw [hci] at hq
    obtain ⟨k9, hk9, rfl⟩ := ti_lt_nat hq.2
    have h6 := hxi.2.2 i
    have hck : ti_cl (nI k9) = k9 := ti_cl_nI (by omega)
    have hg := hJ i hi2
    have hlen := ti_JI_len hJ hi2
    have hq2 : (ti_bt (nI i) && ti_lt (nI k9) (I i).length) = true := by rw [hlen, hq.1, hq.2]; rfl
    have hgd : (I i).getD k9 (0, 0) = (xi.1 i k9, xi.2.1 i k9) := by rw [← hg]; exact ti_gr_getD hk9
    have hq3 : (ti_bt (nI i) && ti_lt (nI k9) (I (ti_cl (nI i))).length) = true := by rw [hci]; exact hq2
    refine lv_iload_n hx hb dX0_fits_9 rfl (lv_at hl 3 rfl) ?_
    refine lv_iconst (v := nI 0) hx hb dX0_fits_10 (by decide) ?_
    refine lv_iconst (v := nI 1) hx hb dX0_fits_11 (by decide) ?_
    refine ti_pS (As := [.int letter, .int (nI 0), .int (nI 1)]) (rest := []) (v := .int (ti_b (ti_in letter (nI 0) (nI 1)))) S hE hP [] (met_X0_in l D E letter (nI 0) (nI 1)) rfl (lw_S q302 q303 q66 q304) 3 rfl (by decide +kernel) ⟨Nat.le_of_ble_eq_true rfl, Nat.le_of_ble_eq_true rfl⟩ hl.1 rfl (Nat.le_of_ble_eq_true rfl) ⟨Nat.le_of_ble_eq_true rfl, Nat.le_of_ble_eq_true rfl⟩ dX0_fits_12 ?_
    refine tb_eq (tgt := 28) hx hb dX0_fits_15 (by decide) (fun c15 => ?_) (fun c15 => ?_)
    · skip
      have c15 : ti_bt letter = false := c15
      refine lv_iconst (v := (-1)) hx hb dX0_fits_28 (by decide) ?_
      have hv9 : ((-1)) = (fun _ => ti_Sfits I SN (nI i) (nI k9) letter w) (xr, xf) := by rw [ti_Sfits, if_pos (by rw [hq3, c15]; rfl)]
      refine W.eq (g2 := F0 m 29 ls [.int ((fun _ => ti_Sfits I SN (nI i) (nI k9) letter w) (xr, xf))]) (congrArg (fun z => F0 m 29 ls [.int z]) hv9) ?_
      exact hret _ (xr, xf) _ _ _ _ (⟨hxr, hxf⟩) hP trivial hS (Nat.le_of_ble_eq_true rfl) (Nat.le_of_ble_eq_true rfl) (fun hq hf9 => W.iret hx hb hr hq hf9 dX0_fits_29 hlk)
    · skip
      have c15 : ti_bt letter = true := c15
      obtain ⟨le, hle2, rfl⟩ := ti_bt_nat c15
      have hcl9 : ti_cl (nI le) = le := ti_cl_nI (by omega)
      refine lv_iload hx hb dX0_fits_18 (lv_at hl 4 rfl) ?_
      refine lv_iconst (v := nI 0) hx hb dX0_fits_20 (by decide) ?_
      refine lv_iconst (v := nI 1) hx hb dX0_fits_21 (by decide) ?_
      refine ti_pS (As := [.int w, .int (nI 0), .int (nI 1)]) (rest := []) (v := .int (ti_b (ti_in w (nI 0) (nI 1)))) S hE hP [] (met_X0_in l D E w (nI 0) (nI 1)) rfl (lw_S q302 q303 q66 q304) 3 rfl (by decide +kernel) ⟨Nat.le_of_ble_eq_true rfl, Nat.le_of_ble_eq_true rfl⟩ hl.1 rfl (Nat.le_of_ble_eq_true rfl) ⟨Nat.le_of_ble_eq_true rfl, Nat.le_of_ble_eq_true rfl⟩ dX0_fits_22 ?_
      refine tb_ne (tgt := 30) hx hb dX0_fits_25 (by decide) (fun c25 => ?_) (fun c25 => ?_)
      · skip
        rcases (show i = 0 ∨ i = 1 by omega) with rfl | rfl
        · skip
          rcases (show le = 0 ∨ le = 1 by omega) with rfl | rfl
          · skip
            refine lv_iconst (v := nI 0) hx hb dX0_fits_30 (by decide) ?_
            refine lv_istore (lv' := [(5, .int (nI 0)), (0, .ref (ad 0)), (1, .int (nI 0)), (2, .int (nI k9)), (3, .int (nI 0)), (4, .int w)]) hx hb dX0_fits_31 hl (by decide) rfl (fun ls hl => ?_)
            refine lv_bipush (v := (-5)) hx hb dX0_fits_33 (by decide) ?_
            refine lv_istore (lv' := [(6, .int ((-5))), (5, .int (nI 0)), (0, .ref (ad 0)), (1, .int (nI 0)), (2, .int (nI k9)), (3, .int (nI 0)), (4, .int w)]) hx hb dX0_fits_35 hl (by decide) rfl (fun ls hl => ?_)
            refine lv_bipush (v := nI 9) hx hb dX0_fits_37 (by decide) ?_
            refine lv_istore (lv' := [(7, .int (nI 9)), (6, .int ((-5))), (5, .int (nI 0)), (0, .ref (ad 0)), (1, .int (nI 0)), (2, .int (nI k9)), (3, .int (nI 0)), (4, .int w)]) hx hb dX0_fits_39 hl (by decide) rfl (fun ls hl => ?_)
            have hl : lv_has ls 11 [(7, .int (nI 10 + (-1))), (6, .int ((-5))), (5, .int (nI 0)), (0, .ref (ad 0)), (1, .int (nI 0)), (2, .int (nI k9)), (3, .int (nI 0)), (4, .int w)] := hl
            have L41 : ∀ (N : Nat) (v9 nn : Nat) (fd : Int32) (cz sz : Nat) (fa fb : Nat → Nat) (n1 : Nat) (yf : ti_Tf) (ls : Array Slot) (H : Heap) (locs : List Loc), va_P D vwCl (ti_wMJRFS E ad dh du dv jh ju jv kh ku kv tx hi xi (fa, fb, n1) yf xs) H → va_D A (ti_wMJRFS E ad dh du dv jh ju jv kh ku kv tx hi xi (fa, fb, n1) yf xs) → va_S A s.heap H locs → v9 < N → (v9 ≤ 10) → (nn ≤ 10 - v9) → (cz ≤ 10 - v9) → (sz ≤ 6 * (10 - v9)) → (∀ j, fa j ≤ 9) → (∀ j, fb j ≤ 9) → (n1 ≤ 6) → (ti_Fok yf) → ((nn, fd) = ti_ftn I SN 0 k9 0 (List.range' v9 (10 - v9)) (0, -5)) → lv_has ls 11 [(0, .ref (ad 0)), (1, .int (nI 0)), (2, .int (nI k9)), (3, .int (nI 0)), (4, .int w), (5, .int (nI nn)), (6, .int fd), (7, .int (nI v9 + (-1)))] → W p l e (ti_rm 8 10 60) s m ([.ref (ad 0), .int (nI 0), .int (nI k9), .int (nI 0), .int w] : List Value).toArray below meth c H locs cz sz Q (F0 m 41 ls []) := by
              intro N
              induction N with
              | zero => intro v9 nn fd cz sz fa fb n1 yf ls H locs hP hD hS h0; exact absurd h0 (Nat.not_lt_zero _)
              | succ N ih41 =>
                intro v9 nn fd cz sz fa fb n1 yf ls H locs hP hD hS hN hv9 hnn hcz hsz hfa hfb hn1 hyf hft hl
                refine lv_iload hx hb dX0_fits_41 (lv_at hl 7 rfl) ?_
                refine lv_if_lt (tgt := 191) hx hb dX0_fits_43 (by decide) (fun c43 => ?_) (fun c43 => ?_)
                · skip
                  have hv0 : v9 = 0 := ti_m1_neg hv9 c43
                  subst hv0
                  refine lv_iload hx hb dX0_fits_191 (lv_at hl 4 rfl) ?_
                  refine lv_if_ne (tgt := 201) hx hb dX0_fits_193 (by decide) (fun c193 => ?_) (fun c193 => ?_)
                  · skip
                    refine lv_iload hx hb dX0_fits_201 (lv_at hl 6 rfl) ?_
                    have hv9 : fd = (fun _ => ti_Sfits I SN (nI 0) (nI k9) (nI 0) w) (((fa, fb, n1), yf)) := by rw [ti_Sfits, if_neg (by rw [hq3, c15, show ti_bt w = true from c25]; decide), hci, hck, if_neg c193, show List.range' 0 10 = List.range' 0 (10 - 0) from rfl, ← hft]
                    refine W.eq (g2 := F0 m 203 ls [.int ((fun _ => ti_Sfits I SN (nI 0) (nI k9) (nI 0) w) (((fa, fb, n1), yf)))]) (congrArg (fun z => F0 m 203 ls [.int z]) hv9) ?_
                    exact hret _ (((fa, fb, n1), yf)) _ _ _ _ (⟨⟨hfa, hfb, hn1⟩, hyf⟩) hP trivial hS (by omega) (by omega) (fun hq hf9 => W.iret hx hb hr hq hf9 dX0_fits_203 hlk)
                  · skip
                    refine lv_iload hx hb dX0_fits_196 (lv_at hl 5 rfl) ?_
                    refine lv_goto (tgt := 203) hx hb dX0_fits_198 (by decide) ?_
                    have hv9 : (nI nn) = (fun _ => ti_Sfits I SN (nI 0) (nI k9) (nI 0) w) (((fa, fb, n1), yf)) := by rw [ti_Sfits, if_neg (by rw [hq3, c15, show ti_bt w = true from c25]; decide), hci, hck, if_pos c193, show List.range' 0 10 = List.range' 0 (10 - 0) from rfl, ← hft]
                    refine W.eq (g2 := F0 m 203 ls [.int ((fun _ => ti_Sfits I SN (nI 0) (nI k9) (nI 0) w) (((fa, fb, n1), yf)))]) (congrArg (fun z => F0 m 203 ls [.int z]) hv9) ?_
                    exact hret _ (((fa, fb, n1), yf)) _ _ _ _ (⟨⟨hfa, hfb, hn1⟩, hyf⟩) hP trivial hS (by omega) (by omega) (fun hq hf9 => W.iret hx hb hr hq hf9 dX0_fits_203 hlk)
                · skip
                  obtain ⟨mm, rfl⟩ : ∃ mm, v9 = mm + 1 := ⟨v9 - 1, by have := ti_m1_ne c43; omega⟩
                  rw [show nI (mm + 1) + (-1) = nI mm from pk_m1 mm] at hl
                  have hcz10 : cz ≤ 10 := by omega
                  have hsz60 : sz ≤ 60 := by omega
                  refine lv_aload_n hx hb dX0_fits_46 rfl (lv_at hl 0 rfl) ?_
                  refine va_get (v := .ref (ad 2)) hx hb hts in_X0 hown hK hP 0 rfl rfl 1 (by decide) (hts _ q238) (fun _ h => h) rfl dX0_fits_47 ?_
                  refine lv_aload_n hx hb dX0_fits_50 rfl (lv_at hl 0 rfl) ?_
                  refine va_get (v := .ref (ad 1)) hx hb hts in_X0 hown hK hP 0 rfl rfl 0 (by decide) (hts _ q237) (fun _ h => h) rfl dX0_fits_51 ?_
                  refine lv_iload_n hx hb dX0_fits_54 rfl (lv_at hl 1 rfl) ?_
                  refine tn_aald hx hb hK hP 1 5 rfl rfl (by omega) (by decide) dX0_fits_55 ?_
                  refine ti_mV (As := [.ref (jh 0)]) (rest := []) S hE hP hD hS hA [8, 9, 10, 2, 3, 4] rfl (met_X1_takes l D E (ad 2) (ad 3) (ad 4) fa fb n1 (jh 0) (ju 0) (jv 0) (xi.1 0) (xi.2.1 0) (xi.2.2 0)) rfl (fun _ => rfl) (lw_V q347 q317 q318 q67 q319) 1 rfl 8 rfl rfl (by decide +kernel) ⟨Nat.le_of_ble_eq_true rfl, Nat.le_of_ble_eq_true rfl⟩ hl.1 rfl (Nat.le_of_ble_eq_true rfl) ⟨hcz10, hsz60⟩ dX0_fits_56 (fun _ H locs hu hP hD hS => ?_)
                  have hP : va_P D vwCl (ti_wMJRFS E ad dh du dv jh ju jv kh ku kv tx hi xi (xi.1 0, xi.2.1 0, xi.2.2 0) yf xs) H := hP
                  have hD : va_D A (ti_wMJRFS E ad dh du dv jh ju jv kh ku kv tx hi xi (xi.1 0, xi.2.1 0, xi.2.2 0) yf xs) := hD
                  refine W.eq (g2 := F0 m 59 ls []) rfl ?_
                  refine lv_iload_n hx hb dX0_fits_59 rfl (lv_at hl 3 rfl) ?_
                  refine tn_if_ne (tgt := 68) hx hb dX0_fits_60 (by decide) (by omega) (fun c60 => ?_) (fun c60 => ?_)
                  · skip
                    exact absurd rfl c60
                  · skip
                    refine lv_iload hx hb dX0_fits_63 (lv_at hl 7 rfl) ?_
                    refine lv_goto (tgt := 77) hx hb dX0_fits_65 (by decide) ?_
                    refine lv_istore (lv' := [(8, .int (nI mm)), (0, .ref (ad 0)), (1, .int (nI 0)), (2, .int (nI k9)), (3, .int (nI 0)), (4, .int w), (5, .int (nI nn)), (6, .int fd), (7, .int (nI mm))]) hx hb dX0_fits_77 hl (by decide) rfl (fun ls hl => ?_)
                    refine lv_iload_n hx hb dX0_fits_79 rfl (lv_at hl 4 rfl) ?_
                    refine lv_iconst (v := nI 1) hx hb dX0_fits_80 (by decide) ?_
                    refine tn_ne (tgt := 89) hx hb dX0_fits_81 (by decide) (by omega) (by omega) (fun c81 => ?_) (fun c81 => ?_)
                    · skip
                      refine lv_aload_n hx hb dX0_fits_89 rfl (lv_at hl 1 rfl) ?_
                      refine va_get (v := .ref (ad 2)) hx hb hts in_X0 hown hK hP 0 rfl rfl 1 (by decide) (hts _ q238) (fun _ h => h) rfl dX0_fits_90 ?_
                      refine va_getN (v := .ref (ad 4)) hx hb hts in_X1 hown hK hP 8 rfl rfl 1 (by decide) (hE.use q114 rfl rfl) (fun _ h => h) rfl dX0_fits_93 ?_
                      refine lv_iload_n hx hb dX0_fits_96 rfl (lv_at hl 3 rfl) ?_
                      refine tn_iald (f := xi.2.1 0) hx hb hK hP 10 0 rfl rfl (by omega) (by decide) dX0_fits_97 ?_
                      have b97 := (hxi.2.1 0) k9
                      refine lv_istore (lv' := [(9, .int (nI ((xi.2.1 0) k9))), (8, .int (nI mm)), (0, .ref (ad 0)), (1, .int (nI 0)), (2, .int (nI k9)), (3, .int (nI 0)), (4, .int w), (5, .int (nI nn)), (6, .int fd), (7, .int (nI mm))]) hx hb dX0_fits_98 hl (by decide) rfl (fun ls hl => ?_)
                      refine lv_aload_n hx hb dX0_fits_100 rfl (lv_at hl 2 rfl) ?_
                      refine va_get (v := .ref (ad 2)) hx hb hts in_X0 hown hK hP 0 rfl rfl 1 (by decide) (hts _ q238) (fun _ h => h) rfl dX0_fits_101 ?_
                      refine lv_iload hx hb dX0_fits_104 (lv_at hl 1 rfl) ?_
                      refine lv_iload hx hb dX0_fits_106 (lv_at hl 0 rfl) ?_
                      refine ti_pV (As := [.int (nI mm), .int (nI ((xi.2.1 0) k9))]) (rest := []) (v := .int (ti_px (ti_pl mm ((xi.2.1 0) k9) (ti_gr (xi.1 0) (xi.2.1 0) 0 (xi.2.2 0)) 0))) S hE hP [8, 9, 10] (met_X1_placeOf l D E (ad 2) (ad 3) (ad 4) (xi.1 0) (xi.2.1 0) (xi.2.2 0) (hxi.2.2 0) (hxi.1 0) (hxi.2.1 0) mm ((xi.2.1 0) k9) (show mm ≤ 9 by omega) b97) rfl (lw_V q308 q309 q310 q67 q311) 2 rfl 8 rfl rfl (by decide +kernel) ⟨Nat.le_of_ble_eq_true rfl, Nat.le_of_ble_eq_true rfl⟩ hl.1 rfl (Nat.le_of_ble_eq_true rfl) ⟨hcz10, hsz60⟩ dX0_fits_108 ?_
                      refine lv_istore (lv' := [(10, .int (ti_px (ti_pl mm ((xi.2.1 0) k9) (ti_gr (xi.1 0) (xi.2.1 0) 0 (xi.2.2 0)) 0))), (9, .int (nI ((xi.2.1 0) k9))), (8, .int (nI mm)), (0, .ref (ad 0)), (1, .int (nI 0)), (2, .int (nI k9)), (3, .int (nI 0)), (4, .int w), (5, .int (nI nn)), (6, .int fd), (7, .int (nI mm))]) hx hb dX0_fits_111 hl (by decide) rfl (fun ls hl => ?_)
                      have hft9 : ti_ft (I 0) k9 0 mm = (mm, xi.2.1 0 k9) := by unfold ti_ft; rw [hgd]; rfl
                      have hA9 : mm ≤ 9 ∧ xi.2.1 0 k9 ≤ 9 := ⟨by omega, hxi.2.1 0 k9⟩
                      refine lv_iload hx hb dX0_fits_113 (lv_at hl 0 rfl) ?_
                      refine lv_bipush (v := (-5)) hx hb dX0_fits_115 (by decide) ?_
                      refine lv_icmp_eq (tgt := 129) hx hb dX0_fits_117 (by decide) (fun c117 => ?_) (fun c117 => ?_)
                      · skip
                        have hm := (ti_place5 (by rw [ti_gr_len]; omega)).mp c117
                        rw [show (ti_gr (xi.1 0) (xi.2.1 0) 0 (xi.2.2 0)) = I 0 from hg] at hm
                        have hcase : ti_ft (I 0) k9 0 mm = (I 0).getD k9 (0, 0) ∨ ti_ft (I 0) k9 0 mm ∉ I 0 := Or.inr (by rw [hft9]; exact hm)
                        refine lv_aload_n hx hb dX0_fits_129 rfl (lv_at hl 3 rfl) ?_
                        refine va_get (v := .ref (ad 2)) hx hb hts in_X0 hown hK hP 0 rfl rfl 1 (by decide) (hts _ q238) (fun _ h => h) rfl dX0_fits_130 ?_
                        refine va_getN (v := .ref (ad 3)) hx hb hts in_X1 hown hK hP 8 rfl rfl 0 (by decide) (hE.use q111 rfl rfl) (fun _ h => h) rfl dX0_fits_133 ?_
                        refine lv_iload_n hx hb dX0_fits_136 rfl (lv_at hl 5 rfl) ?_
                        refine lv_iload hx hb dX0_fits_137 (lv_at hl 2 rfl) ?_
                        refine tn_iast (f := xi.1 0) hx hb hK hP hD hS 9 0 rfl rfl (by omega) (by decide) dX0_fits_139 (fun H locs hP hD hS => ?_)
                        have hP : va_P D vwCl (ti_wMJRFS E ad dh du dv jh ju jv kh ku kv tx hi xi (va_up (xi.1 0) k9 mm, xi.2.1 0, xi.2.2 0) yf xs) H := hP
                        have hD : va_D A (ti_wMJRFS E ad dh du dv jh ju jv kh ku kv tx hi xi (va_up (xi.1 0) k9 mm, xi.2.1 0, xi.2.2 0) yf xs) := hD
                        refine lv_aload_n hx hb dX0_fits_140 rfl (lv_at hl 3 rfl) ?_
                        refine va_get (v := .ref (ad 2)) hx hb hts in_X0 hown hK hP 0 rfl rfl 1 (by decide) (hts _ q238) (fun _ h => h) rfl dX0_fits_141 ?_
                        refine va_getN (v := .ref (ad 4)) hx hb hts in_X1 hown hK hP 8 rfl rfl 1 (by decide) (hE.use q114 rfl rfl) (fun _ h => h) rfl dX0_fits_144 ?_
                        refine lv_iload_n hx hb dX0_fits_147 rfl (lv_at hl 5 rfl) ?_
                        refine lv_iload hx hb dX0_fits_148 (lv_at hl 1 rfl) ?_
                        refine tn_iast (f := xi.2.1 0) hx hb hK hP hD hS 10 0 rfl rfl (by omega) (by decide) dX0_fits_150 (fun H locs hP hD hS => ?_)
                        have hP : va_P D vwCl (ti_wMJRFS E ad dh du dv jh ju jv kh ku kv tx hi xi (va_up (xi.1 0) k9 mm, va_up (xi.2.1 0) k9 ((xi.2.1 0) k9), xi.2.2 0) yf xs) H := hP
                        have hD : va_D A (ti_wMJRFS E ad dh du dv jh ju jv kh ku kv tx hi xi (va_up (xi.1 0) k9 mm, va_up (xi.2.1 0) k9 ((xi.2.1 0) k9), xi.2.2 0) yf xs) := hD
                        refine lv_aload_n hx hb dX0_fits_151 rfl (lv_at hl 3 rfl) ?_
                        refine lv_iload_n hx hb dX0_fits_152 rfl (lv_at hl 4 rfl) ?_
                        refine tn_if_ne (tgt := 163) hx hb dX0_fits_153 (by decide) (by omega) (fun c153 => ?_) (fun c153 => ?_)
                        · skip
                          exact absurd rfl c153
                        · skip
                          refine lv_aload_n hx hb dX0_fits_156 rfl (lv_at hl 3 rfl) ?_
                          refine va_get (v := .ref (ad 2)) hx hb hts in_X0 hown hK hP 0 rfl rfl 1 (by decide) (hts _ q238) (fun _ h => h) rfl dX0_fits_157 ?_
                          refine lv_goto (tgt := 169) hx hb dX0_fits_160 (by decide) ?_
                          refine ti_callX (ty_runVX (As := [.ref (ad 2)]) (rest := []) S (met_X0_areSo_R l D E htr z0 ad dh du dv jh ju jv kh ku kv tx hi xi (va_up (xi.1 0) k9 mm, va_up (xi.2.1 0) k9 ((xi.2.1 0) k9), xi.2.2 0) yf xs hxi ⟨(ti_up_le (hxi.1 0) hA9.1), (ti_up_le (hxi.2.1 0) hA9.2), (hxi.2.2 0)⟩ hyf hxs (by rw [ti_gr_set hk9, show (ti_gr (xi.1 0) (xi.2.1 0) 0 (xi.2.2 0)) = I 0 from hg]; exact ti_set_nod (hnd 0 (by decide)) (by rw [← hft9]; exact hcase)) H.size) (vx_cwVW 1 S.2.2.2.2 (lw_VW q841 q843 qs19 q66 q844) rfl rfl rfl (by decide +kernel) ⟨Nat.le_of_ble_eq_true rfl, Nat.le_of_ble_eq_true rfl⟩) (ti_preXV (xp := fun _ => True) hE hP hD hS rfl hZ hAz trivial [0, 1, 2, 3, 4, 5, 6, 7, 8, 9, 10, 11, 12, 13, 14, 15, 16, 17, 18, 19, 20] rfl rfl 0 rfl rfl) rfl rfl hl.1 rfl (lv_room (Nat.le_of_ble_eq_true rfl)) dX0_fits_169 ⟨show cz + 1 ≤ 10 by omega, show sz + 6 ≤ 60 by omega⟩) hP hD hS hA [0, 1, 2, 3, 4, 5, 6, 7, 8, 9, 10, 11, 12, 13, 14, 15, 16, 17, 18, 19, 20] rfl (fun _ => rfl) (fun _ => rfl) (fun ua H locs hu _ _ hP hD hS => ?_) (fun _ _ _ _ h9 => absurd h9 id)
                          have hua := hu
                          have hP : va_P D vwCl (ti_wMJRFS E ad dh du dv jh ju jv kh ku kv tx hi xi (va_up (xi.1 0) k9 mm, va_up (xi.2.1 0) k9 ((xi.2.1 0) k9), xi.2.2 0) ua xs) H := ti_asP hP [.inr 0, .inr 1, .inr 2, .inr 3, .inr 4, .inr 5, .inr 6, .inr 7, .inr 8, .inr 9, .inr 10, .inr 11, .inr 12, .inr 13, .inr 14, .inr 15, .inr 16, .inr 17, .inr 18, .inr 19, .inr 20] rfl rfl rfl rfl
                          have hD : va_D A (ti_wMJRFS E ad dh du dv jh ju jv kh ku kv tx hi xi (va_up (xi.1 0) k9 mm, va_up (xi.2.1 0) k9 ((xi.2.1 0) k9), xi.2.2 0) ua xs) := ti_asD hD [.inr 0, .inr 1, .inr 2, .inr 3, .inr 4, .inr 5, .inr 6, .inr 7, .inr 8, .inr 9, .inr 10, .inr 11, .inr 12, .inr 13, .inr 14, .inr 15, .inr 16, .inr 17, .inr 18, .inr 19, .inr 20] rfl rfl rfl rfl
                          refine W.eq (g2 := F0 m 172 ls [.int (ti_b (ti_seen (ti_gr (va_up (xi.1 0) k9 mm) (va_up (xi.2.1 0) k9 ((xi.2.1 0) k9)) 0 (xi.2.2 0)) (ti_Wl3 xs)))]) rfl ?_
                          refine tb_ne (tgt := 178) hx hb dX0_fits_172 (by decide) (fun c172 => ?_) (fun c172 => ?_)
                          · skip
                            have hdd : (decide (ti_ft (I 0) k9 0 mm = (I 0).getD k9 (0, 0)) || decide (ti_ft (I 0) k9 0 mm ∉ I 0)) = true := by
                              rcases hcase with e | e
                              · rw [decide_eq_true e]; rfl
                              · rw [decide_eq_true e]; simp
                            have hok : ti_ftok I SN 0 k9 0 mm = true := by rw [ti_ftok, hdd, if_pos rfl, hft9, ← show (ti_gr (xi.1 0) (xi.2.1 0) 0 (xi.2.2 0)) = I 0 from hJ 0 (by decide), ← ti_gr_set hk9, ← hSN]; exact c172
                            refine lv_iinc (v := nI (nn + 1)) (lv' := [(5, .int (nI (nn + 1))), (10, .int (ti_px (ti_pl mm ((xi.2.1 0) k9) (ti_gr (xi.1 0) (xi.2.1 0) 0 (xi.2.2 0)) 0))), (9, .int (nI ((xi.2.1 0) k9))), (8, .int (nI mm)), (0, .ref (ad 0)), (1, .int (nI 0)), (2, .int (nI k9)), (3, .int (nI 0)), (4, .int w), (6, .int fd), (7, .int (nI mm))]) hx hb dX0_fits_178 hl (k := 8) rfl (nI_1 nn) (by decide) rfl (fun ls hl => ?_)
                            refine lv_iload hx hb dX0_fits_181 (lv_at hl 10 rfl) ?_
                            refine lv_istore (lv' := [(6, .int (nI mm)), (5, .int (nI (nn + 1))), (10, .int (ti_px (ti_pl mm ((xi.2.1 0) k9) (ti_gr (xi.1 0) (xi.2.1 0) 0 (xi.2.2 0)) 0))), (9, .int (nI ((xi.2.1 0) k9))), (8, .int (nI mm)), (0, .ref (ad 0)), (1, .int (nI 0)), (2, .int (nI k9)), (3, .int (nI 0)), (4, .int w), (7, .int (nI mm))]) hx hb dX0_fits_183 hl (by decide) rfl (fun ls hl => ?_)
                            refine lv_iinc (v := nI mm + (-1)) (lv' := [(7, .int (nI mm + (-1))), (6, .int (nI mm)), (5, .int (nI (nn + 1))), (10, .int (ti_px (ti_pl mm ((xi.2.1 0) k9) (ti_gr (xi.1 0) (xi.2.1 0) 0 (xi.2.2 0)) 0))), (9, .int (nI ((xi.2.1 0) k9))), (8, .int (nI mm)), (0, .ref (ad 0)), (1, .int (nI 0)), (2, .int (nI k9)), (3, .int (nI 0)), (4, .int w)]) hx hb dX0_fits_185 hl (k := 10) rfl rfl (by decide) rfl (fun ls hl => ?_)
                            refine lv_goto (tgt := 41) hx hb dX0_fits_188 (by decide) ?_
                            exact ih41 mm (nn + 1) (nI mm) (cz + 1) (sz + 6) (va_up (xi.1 0) k9 mm) (va_up (xi.2.1 0) k9 ((xi.2.1 0) k9)) (xi.2.2 0) ua _ _ _ hP hD hS (by omega) (by omega) (by omega) (by omega) (by omega) (ti_up_le (hxi.1 0) hA9.1) (ti_up_le (hxi.2.1 0) hA9.2) (hxi.2.2 0) (hua) (by rw [show 10 - mm = 10 - (mm + 1) + 1 by omega, List.range'_succ, ti_ftn_s, if_pos hok, ← hft]) (lv_sub hl [6, 7, 8, 9, 10, 2, 1, 0] rfl)
                          · skip
                            have hdd : (decide (ti_ft (I 0) k9 0 mm = (I 0).getD k9 (0, 0)) || decide (ti_ft (I 0) k9 0 mm ∉ I 0)) = true := by
                              rcases hcase with e | e
                              · rw [decide_eq_true e]; rfl
                              · rw [decide_eq_true e]; simp
                            have hbad : ti_ftok I SN 0 k9 0 mm = false := by rw [ti_ftok, hdd, if_pos rfl, hft9, ← show (ti_gr (xi.1 0) (xi.2.1 0) 0 (xi.2.2 0)) = I 0 from hJ 0 (by decide), ← ti_gr_set hk9, ← hSN]; exact c172
                            refine lv_goto (tgt := 185) hx hb dX0_fits_175 (by decide) ?_
                            refine lv_iinc (v := nI mm + (-1)) (lv' := [(7, .int (nI mm + (-1))), (10, .int (ti_px (ti_pl mm ((xi.2.1 0) k9) (ti_gr (xi.1 0) (xi.2.1 0) 0 (xi.2.2 0)) 0))), (9, .int (nI ((xi.2.1 0) k9))), (8, .int (nI mm)), (0, .ref (ad 0)), (1, .int (nI 0)), (2, .int (nI k9)), (3, .int (nI 0)), (4, .int w), (5, .int (nI nn)), (6, .int fd)]) hx hb dX0_fits_185 hl (k := 10) rfl rfl (by decide) rfl (fun ls hl => ?_)
                            refine lv_goto (tgt := 41) hx hb dX0_fits_188 (by decide) ?_
                            exact ih41 mm nn fd (cz + 1) (sz + 6) (va_up (xi.1 0) k9 mm) (va_up (xi.2.1 0) k9 ((xi.2.1 0) k9)) (xi.2.2 0) ua _ _ _ hP hD hS (by omega) (by omega) (by omega) (by omega) (by omega) (ti_up_le (hxi.1 0) hA9.1) (ti_up_le (hxi.2.1 0) hA9.2) (hxi.2.2 0) (hua) (by rw [show 10 - mm = 10 - (mm + 1) + 1 by omega, List.range'_succ, ti_ftn_s, if_neg (by rw [hbad]; decide)]; exact hft) (lv_sub hl [4, 5, 6, 7, 8, 9, 10, 0] rfl)
                      · skip
                        refine lv_iload hx hb dX0_fits_120 (lv_at hl 0 rfl) ?_
                        refine lv_iload_n hx hb dX0_fits_122 rfl (lv_at hl 5 rfl) ?_
                        refine lv_icmp_eq (tgt := 129) hx hb dX0_fits_123 (by decide) (fun c123 => ?_) (fun c123 => ?_)
                        · skip
                          have hpk := (ti_px_k (fun j hj => by have := ti_pl_ge hj; rw [ti_gr_len] at this; omega) (by omega)).mp c123
                          have hpa := ti_pl_at hpk
                          rw [show (ti_gr (xi.1 0) (xi.2.1 0) 0 (xi.2.2 0)) = I 0 from hg, Nat.sub_zero] at hpa
                          have hcase : ti_ft (I 0) k9 0 mm = (I 0).getD k9 (0, 0) ∨ ti_ft (I 0) k9 0 mm ∉ I 0 := Or.inl (by rw [hft9, List.getD_eq_getElem?_getD, hpa]; rfl)
                          refine lv_aload_n hx hb dX0_fits_129 rfl (lv_at hl 3 rfl) ?_
                          refine va_get (v := .ref (ad 2)) hx hb hts in_X0 hown hK hP 0 rfl rfl 1 (by decide) (hts _ q238) (fun _ h => h) rfl dX0_fits_130 ?_
                          refine va_getN (v := .ref (ad 3)) hx hb hts in_X1 hown hK hP 8 rfl rfl 0 (by decide) (hE.use q111 rfl rfl) (fun _ h => h) rfl dX0_fits_133 ?_
                          refine lv_iload_n hx hb dX0_fits_136 rfl (lv_at hl 5 rfl) ?_
                          refine lv_iload hx hb dX0_fits_137 (lv_at hl 2 rfl) ?_
                          refine tn_iast (f := xi.1 0) hx hb hK hP hD hS 9 0 rfl rfl (by omega) (by decide) dX0_fits_139 (fun H locs hP hD hS => ?_)
                          have hP : va_P D vwCl (ti_wMJRFS E ad dh du dv jh ju jv kh ku kv tx hi xi (va_up (xi.1 0) k9 mm, xi.2.1 0, xi.2.2 0) yf xs) H := hP
                          have hD : va_D A (ti_wMJRFS E ad dh du dv jh ju jv kh ku kv tx hi xi (va_up (xi.1 0) k9 mm, xi.2.1 0, xi.2.2 0) yf xs) := hD
                          refine lv_aload_n hx hb dX0_fits_140 rfl (lv_at hl 3 rfl) ?_
                          refine va_get (v := .ref (ad 2)) hx hb hts in_X0 hown hK hP 0 rfl rfl 1 (by decide) (hts _ q238) (fun _ h => h) rfl dX0_fits_141 ?_
                          refine va_getN (v := .ref (ad 4)) hx hb hts in_X1 hown hK hP 8 rfl rfl 1 (by decide) (hE.use q114 rfl rfl) (fun _ h => h) rfl dX0_fits_144 ?_
                          refine lv_iload_n hx hb dX0_fits_147 rfl (lv_at hl 5 rfl) ?_
                          refine lv_iload hx hb dX0_fits_148 (lv_at hl 1 rfl) ?_
                          refine tn_iast (f := xi.2.1 0) hx hb hK hP hD hS 10 0 rfl rfl (by omega) (by decide) dX0_fits_150 (fun H locs hP hD hS => ?_)
                          have hP : va_P D vwCl (ti_wMJRFS E ad dh du dv jh ju jv kh ku kv tx hi xi (va_up (xi.1 0) k9 mm, va_up (xi.2.1 0) k9 ((xi.2.1 0) k9), xi.2.2 0) yf xs) H := hP
                          have hD : va_D A (ti_wMJRFS E ad dh du dv jh ju jv kh ku kv tx hi xi (va_up (xi.1 0) k9 mm, va_up (xi.2.1 0) k9 ((xi.2.1 0) k9), xi.2.2 0) yf xs) := hD
                          refine lv_aload_n hx hb dX0_fits_151 rfl (lv_at hl 3 rfl) ?_
                          refine lv_iload_n hx hb dX0_fits_152 rfl (lv_at hl 4 rfl) ?_
                          refine tn_if_ne (tgt := 163) hx hb dX0_fits_153 (by decide) (by omega) (fun c153 => ?_) (fun c153 => ?_)
                          · skip
                            exact absurd rfl c153
                          · skip
                            refine lv_aload_n hx hb dX0_fits_156 rfl (lv_at hl 3 rfl) ?_
                            refine va_get (v := .ref (ad 2)) hx hb hts in_X0 hown hK hP 0 rfl rfl 1 (by decide) (hts _ q238) (fun _ h => h) rfl dX0_fits_157 ?_
                            refine lv_goto (tgt := 169) hx hb dX0_fits_160 (by decide) ?_
                            refine ti_callX (ty_runVX (As := [.ref (ad 2)]) (rest := []) S (met_X0_areSo_R l D E htr z0 ad dh du dv jh ju jv kh ku kv tx hi xi (va_up (xi.1 0) k9 mm, va_up (xi.2.1 0) k9 ((xi.2.1 0) k9), xi.2.2 0) yf xs hxi ⟨(ti_up_le (hxi.1 0) hA9.1), (ti_up_le (hxi.2.1 0) hA9.2), (hxi.2.2 0)⟩ hyf hxs (by rw [ti_gr_set hk9, show (ti_gr (xi.1 0) (xi.2.1 0) 0 (xi.2.2 0)) = I 0 from hg]; exact ti_set_nod (hnd 0 (by decide)) (by rw [← hft9]; exact hcase)) H.size) (vx_cwVW 1 S.2.2.2.2 (lw_VW q841 q843 qs19 q66 q844) rfl rfl rfl (by decide +kernel) ⟨Nat.le_of_ble_eq_true rfl, Nat.le_of_ble_eq_true rfl⟩) (ti_preXV (xp := fun _ => True) hE hP hD hS rfl hZ hAz trivial [0, 1, 2, 3, 4, 5, 6, 7, 8, 9, 10, 11, 12, 13, 14, 15, 16, 17, 18, 19, 20] rfl rfl 0 rfl rfl) rfl rfl hl.1 rfl (lv_room (Nat.le_of_ble_eq_true rfl)) dX0_fits_169 ⟨show cz + 1 ≤ 10 by omega, show sz + 6 ≤ 60 by omega⟩) hP hD hS hA [0, 1, 2, 3, 4, 5, 6, 7, 8, 9, 10, 11, 12, 13, 14, 15, 16, 17, 18, 19, 20] rfl (fun _ => rfl) (fun _ => rfl) (fun ua H locs hu _ _ hP hD hS => ?_) (fun _ _ _ _ h9 => absurd h9 id)
                            have hua := hu
                            have hP : va_P D vwCl (ti_wMJRFS E ad dh du dv jh ju jv kh ku kv tx hi xi (va_up (xi.1 0) k9 mm, va_up (xi.2.1 0) k9 ((xi.2.1 0) k9), xi.2.2 0) ua xs) H := ti_asP hP [.inr 0, .inr 1, .inr 2, .inr 3, .inr 4, .inr 5, .inr 6, .inr 7, .inr 8, .inr 9, .inr 10, .inr 11, .inr 12, .inr 13, .inr 14, .inr 15, .inr 16, .inr 17, .inr 18, .inr 19, .inr 20] rfl rfl rfl rfl
                            have hD : va_D A (ti_wMJRFS E ad dh du dv jh ju jv kh ku kv tx hi xi (va_up (xi.1 0) k9 mm, va_up (xi.2.1 0) k9 ((xi.2.1 0) k9), xi.2.2 0) ua xs) := ti_asD hD [.inr 0, .inr 1, .inr 2, .inr 3, .inr 4, .inr 5, .inr 6, .inr 7, .inr 8, .inr 9, .inr 10, .inr 11, .inr 12, .inr 13, .inr 14, .inr 15, .inr 16, .inr 17, .inr 18, .inr 19, .inr 20] rfl rfl rfl rfl
                            refine W.eq (g2 := F0 m 172 ls [.int (ti_b (ti_seen (ti_gr (va_up (xi.1 0) k9 mm) (va_up (xi.2.1 0) k9 ((xi.2.1 0) k9)) 0 (xi.2.2 0)) (ti_Wl3 xs)))]) rfl ?_
                            refine tb_ne (tgt := 178) hx hb dX0_fits_172 (by decide) (fun c172 => ?_) (fun c172 => ?_)
                            · skip
                              have hdd : (decide (ti_ft (I 0) k9 0 mm = (I 0).getD k9 (0, 0)) || decide (ti_ft (I 0) k9 0 mm ∉ I 0)) = true := by
                                rcases hcase with e | e
                                · rw [decide_eq_true e]; rfl
                                · rw [decide_eq_true e]; simp
                              have hok : ti_ftok I SN 0 k9 0 mm = true := by rw [ti_ftok, hdd, if_pos rfl, hft9, ← show (ti_gr (xi.1 0) (xi.2.1 0) 0 (xi.2.2 0)) = I 0 from hJ 0 (by decide), ← ti_gr_set hk9, ← hSN]; exact c172
                              refine lv_iinc (v := nI (nn + 1)) (lv' := [(5, .int (nI (nn + 1))), (10, .int (ti_px (ti_pl mm ((xi.2.1 0) k9) (ti_gr (xi.1 0) (xi.2.1 0) 0 (xi.2.2 0)) 0))), (9, .int (nI ((xi.2.1 0) k9))), (8, .int (nI mm)), (0, .ref (ad 0)), (1, .int (nI 0)), (2, .int (nI k9)), (3, .int (nI 0)), (4, .int w), (6, .int fd), (7, .int (nI mm))]) hx hb dX0_fits_178 hl (k := 8) rfl (nI_1 nn) (by decide) rfl (fun ls hl => ?_)
                              refine lv_iload hx hb dX0_fits_181 (lv_at hl 10 rfl) ?_
                              refine lv_istore (lv' := [(6, .int (nI mm)), (5, .int (nI (nn + 1))), (10, .int (ti_px (ti_pl mm ((xi.2.1 0) k9) (ti_gr (xi.1 0) (xi.2.1 0) 0 (xi.2.2 0)) 0))), (9, .int (nI ((xi.2.1 0) k9))), (8, .int (nI mm)), (0, .ref (ad 0)), (1, .int (nI 0)), (2, .int (nI k9)), (3, .int (nI 0)), (4, .int w), (7, .int (nI mm))]) hx hb dX0_fits_183 hl (by decide) rfl (fun ls hl => ?_)
                              refine lv_iinc (v := nI mm + (-1)) (lv' := [(7, .int (nI mm + (-1))), (6, .int (nI mm)), (5, .int (nI (nn + 1))), (10, .int (ti_px (ti_pl mm ((xi.2.1 0) k9) (ti_gr (xi.1 0) (xi.2.1 0) 0 (xi.2.2 0)) 0))), (9, .int (nI ((xi.2.1 0) k9))), (8, .int (nI mm)), (0, .ref (ad 0)), (1, .int (nI 0)), (2, .int (nI k9)), (3, .int (nI 0)), (4, .int w)]) hx hb dX0_fits_185 hl (k := 10) rfl rfl (by decide) rfl (fun ls hl => ?_)
                              refine lv_goto (tgt := 41) hx hb dX0_fits_188 (by decide) ?_
                              exact ih41 mm (nn + 1) (nI mm) (cz + 1) (sz + 6) (va_up (xi.1 0) k9 mm) (va_up (xi.2.1 0) k9 ((xi.2.1 0) k9)) (xi.2.2 0) ua _ _ _ hP hD hS (by omega) (by omega) (by omega) (by omega) (by omega) (ti_up_le (hxi.1 0) hA9.1) (ti_up_le (hxi.2.1 0) hA9.2) (hxi.2.2 0) (hua) (by rw [show 10 - mm = 10 - (mm + 1) + 1 by omega, List.range'_succ, ti_ftn_s, if_pos hok, ← hft]) (lv_sub hl [6, 7, 8, 9, 10, 2, 1, 0] rfl)
                            · skip
                              have hdd : (decide (ti_ft (I 0) k9 0 mm = (I 0).getD k9 (0, 0)) || decide (ti_ft (I 0) k9 0 mm ∉ I 0)) = true := by
                                rcases hcase with e | e
                                · rw [decide_eq_true e]; rfl
                                · rw [decide_eq_true e]; simp
                              have hbad : ti_ftok I SN 0 k9 0 mm = false := by rw [ti_ftok, hdd, if_pos rfl, hft9, ← show (ti_gr (xi.1 0) (xi.2.1 0) 0 (xi.2.2 0)) = I 0 from hJ 0 (by decide), ← ti_gr_set hk9, ← hSN]; exact c172
                              refine lv_goto (tgt := 185) hx hb dX0_fits_175 (by decide) ?_
                              refine lv_iinc (v := nI mm + (-1)) (lv' := [(7, .int (nI mm + (-1))), (10, .int (ti_px (ti_pl mm ((xi.2.1 0) k9) (ti_gr (xi.1 0) (xi.2.1 0) 0 (xi.2.2 0)) 0))), (9, .int (nI ((xi.2.1 0) k9))), (8, .int (nI mm)), (0, .ref (ad 0)), (1, .int (nI 0)), (2, .int (nI k9)), (3, .int (nI 0)), (4, .int w), (5, .int (nI nn)), (6, .int fd)]) hx hb dX0_fits_185 hl (k := 10) rfl rfl (by decide) rfl (fun ls hl => ?_)
                              refine lv_goto (tgt := 41) hx hb dX0_fits_188 (by decide) ?_
                              exact ih41 mm nn fd (cz + 1) (sz + 6) (va_up (xi.1 0) k9 mm) (va_up (xi.2.1 0) k9 ((xi.2.1 0) k9)) (xi.2.2 0) ua _ _ _ hP hD hS (by omega) (by omega) (by omega) (by omega) (by omega) (ti_up_le (hxi.1 0) hA9.1) (ti_up_le (hxi.2.1 0) hA9.2) (hxi.2.2 0) (hua) (by rw [show 10 - mm = 10 - (mm + 1) + 1 by omega, List.range'_succ, ti_ftn_s, if_neg (by rw [hbad]; decide)]; exact hft) (lv_sub hl [4, 5, 6, 7, 8, 9, 10, 0] rfl)
                        · skip
                          have hbad : ti_ftok I SN 0 k9 0 mm = false := by
                            have h1 : ¬ ti_ft (I 0) k9 0 mm = (I 0).getD k9 (0, 0) := fun e => c123 ((ti_px_k (fun j hj => by have := ti_pl_ge hj; rw [ti_gr_len] at this; omega) (by omega)).mpr (by rw [show (ti_gr (xi.1 0) (xi.2.1 0) 0 (xi.2.2 0)) = I 0 from hg]; exact ti_pl_nod (hnd 0 (by decide)) (by rw [hlen]; exact hk9) (e.symm.trans hft9)))
                            have h2 : ¬ ti_ft (I 0) k9 0 mm ∉ I 0 := fun e => c117 ((ti_place5 (by rw [ti_gr_len]; omega)).mpr (by rw [show (ti_gr (xi.1 0) (xi.2.1 0) 0 (xi.2.2 0)) = I 0 from hg]; rw [hft9] at e; exact e))
                            rw [ti_ftok, decide_eq_false h1, decide_eq_false h2]; rfl
                          refine lv_goto (tgt := 185) hx hb dX0_fits_126 (by decide) ?_
                          refine lv_iinc (v := nI mm + (-1)) (lv' := [(7, .int (nI mm + (-1))), (10, .int (ti_px (ti_pl mm ((xi.2.1 0) k9) (ti_gr (xi.1 0) (xi.2.1 0) 0 (xi.2.2 0)) 0))), (9, .int (nI ((xi.2.1 0) k9))), (8, .int (nI mm)), (0, .ref (ad 0)), (1, .int (nI 0)), (2, .int (nI k9)), (3, .int (nI 0)), (4, .int w), (5, .int (nI nn)), (6, .int fd)]) hx hb dX0_fits_185 hl (k := 10) rfl rfl (by decide) rfl (fun ls hl => ?_)
                          refine lv_goto (tgt := 41) hx hb dX0_fits_188 (by decide) ?_
                          exact ih41 mm nn fd cz sz (xi.1 0) (xi.2.1 0) (xi.2.2 0) yf _ _ _ hP hD hS (by omega) (by omega) (by omega) (by omega) (by omega) (hxi.1 0) (hxi.2.1 0) (hxi.2.2 0) (hyf) (by rw [show 10 - mm = 10 - (mm + 1) + 1 by omega, List.range'_succ, ti_ftn_s, if_neg (by rw [hbad]; decide)]; exact hft) (lv_sub hl [4, 5, 6, 7, 8, 9, 10, 0] rfl)
                    · skip
                      exact absurd c81 (by decide)
            exact L41 _ 10 0 (-5) 0 0 xr.1 xr.2.1 xr.2.2 xf _ _ _ hP hD hS (Nat.lt_succ_self _) (by omega) (by omega) (by omega) (by omega) (hxr.1) (hxr.2.1) (hxr.2.2) (hxf) (rfl) (lv_sub hl [3, 4, 5, 6, 7, 2, 1, 0] rfl)
          · skip
            refine lv_iconst (v := nI 0) hx hb dX0_fits_30 (by decide) ?_
            refine lv_istore (lv' := [(5, .int (nI 0)), (0, .ref (ad 0)), (1, .int (nI 0)), (2, .int (nI k9)), (3, .int (nI 1)), (4, .int w)]) hx hb dX0_fits_31 hl (by decide) rfl (fun ls hl => ?_)
            refine lv_bipush (v := (-5)) hx hb dX0_fits_33 (by decide) ?_
            refine lv_istore (lv' := [(6, .int ((-5))), (5, .int (nI 0)), (0, .ref (ad 0)), (1, .int (nI 0)), (2, .int (nI k9)), (3, .int (nI 1)), (4, .int w)]) hx hb dX0_fits_35 hl (by decide) rfl (fun ls hl => ?_)
            refine lv_bipush (v := nI 9) hx hb dX0_fits_37 (by decide) ?_
            refine lv_istore (lv' := [(7, .int (nI 9)), (6, .int ((-5))), (5, .int (nI 0)), (0, .ref (ad 0)), (1, .int (nI 0)), (2, .int (nI k9)), (3, .int (nI 1)), (4, .int w)]) hx hb dX0_fits_39 hl (by decide) rfl (fun ls hl => ?_)
            have hl : lv_has ls 11 [(7, .int (nI 10 + (-1))), (6, .int ((-5))), (5, .int (nI 0)), (0, .ref (ad 0)), (1, .int (nI 0)), (2, .int (nI k9)), (3, .int (nI 1)), (4, .int w)] := hl
            have L41 : ∀ (N : Nat) (v9 nn : Nat) (fd : Int32) (cz sz : Nat) (fa fb : Nat → Nat) (n1 : Nat) (yf : ti_Tf) (ls : Array Slot) (H : Heap) (locs : List Loc), va_P D vwCl (ti_wMJRFS E ad dh du dv jh ju jv kh ku kv tx hi xi (fa, fb, n1) yf xs) H → va_D A (ti_wMJRFS E ad dh du dv jh ju jv kh ku kv tx hi xi (fa, fb, n1) yf xs) → va_S A s.heap H locs → v9 < N → (v9 ≤ 10) → (nn ≤ 10 - v9) → (cz ≤ 10 - v9) → (sz ≤ 6 * (10 - v9)) → (∀ j, fa j ≤ 9) → (∀ j, fb j ≤ 9) → (n1 ≤ 6) → (ti_Fok yf) → ((nn, fd) = ti_ftn I SN 0 k9 1 (List.range' v9 (10 - v9)) (0, -5)) → lv_has ls 11 [(0, .ref (ad 0)), (1, .int (nI 0)), (2, .int (nI k9)), (3, .int (nI 1)), (4, .int w), (5, .int (nI nn)), (6, .int fd), (7, .int (nI v9 + (-1)))] → W p l e (ti_rm 8 10 60) s m ([.ref (ad 0), .int (nI 0), .int (nI k9), .int (nI 1), .int w] : List Value).toArray below meth c H locs cz sz Q (F0 m 41 ls []) := by
              intro N
              induction N with
              | zero => intro v9 nn fd cz sz fa fb n1 yf ls H locs hP hD hS h0; exact absurd h0 (Nat.not_lt_zero _)
              | succ N ih41 =>
                intro v9 nn fd cz sz fa fb n1 yf ls H locs hP hD hS hN hv9 hnn hcz hsz hfa hfb hn1 hyf hft hl
                refine lv_iload hx hb dX0_fits_41 (lv_at hl 7 rfl) ?_
                refine lv_if_lt (tgt := 191) hx hb dX0_fits_43 (by decide) (fun c43 => ?_) (fun c43 => ?_)
                · skip
                  have hv0 : v9 = 0 := ti_m1_neg hv9 c43
                  subst hv0
                  refine lv_iload hx hb dX0_fits_191 (lv_at hl 4 rfl) ?_
                  refine lv_if_ne (tgt := 201) hx hb dX0_fits_193 (by decide) (fun c193 => ?_) (fun c193 => ?_)
                  · skip
                    refine lv_iload hx hb dX0_fits_201 (lv_at hl 6 rfl) ?_
                    have hv9 : fd = (fun _ => ti_Sfits I SN (nI 0) (nI k9) (nI 1) w) (((fa, fb, n1), yf)) := by rw [ti_Sfits, if_neg (by rw [hq3, c15, show ti_bt w = true from c25]; decide), hci, hck, hcl9, if_neg c193, show List.range' 0 10 = List.range' 0 (10 - 0) from rfl, ← hft]
                    refine W.eq (g2 := F0 m 203 ls [.int ((fun _ => ti_Sfits I SN (nI 0) (nI k9) (nI 1) w) (((fa, fb, n1), yf)))]) (congrArg (fun z => F0 m 203 ls [.int z]) hv9) ?_
                    exact hret _ (((fa, fb, n1), yf)) _ _ _ _ (⟨⟨hfa, hfb, hn1⟩, hyf⟩) hP trivial hS (by omega) (by omega) (fun hq hf9 => W.iret hx hb hr hq hf9 dX0_fits_203 hlk)
                  · skip
                    refine lv_iload hx hb dX0_fits_196 (lv_at hl 5 rfl) ?_
                    refine lv_goto (tgt := 203) hx hb dX0_fits_198 (by decide) ?_
                    have hv9 : (nI nn) = (fun _ => ti_Sfits I SN (nI 0) (nI k9) (nI 1) w) (((fa, fb, n1), yf)) := by rw [ti_Sfits, if_neg (by rw [hq3, c15, show ti_bt w = true from c25]; decide), hci, hck, hcl9, if_pos c193, show List.range' 0 10 = List.range' 0 (10 - 0) from rfl, ← hft]
                    refine W.eq (g2 := F0 m 203 ls [.int ((fun _ => ti_Sfits I SN (nI 0) (nI k9) (nI 1) w) (((fa, fb, n1), yf)))]) (congrArg (fun z => F0 m 203 ls [.int z]) hv9) ?_
                    exact hret _ (((fa, fb, n1), yf)) _ _ _ _ (⟨⟨hfa, hfb, hn1⟩, hyf⟩) hP trivial hS (by omega) (by omega) (fun hq hf9 => W.iret hx hb hr hq hf9 dX0_fits_203 hlk)
                · skip
                  obtain ⟨mm, rfl⟩ : ∃ mm, v9 = mm + 1 := ⟨v9 - 1, by have := ti_m1_ne c43; omega⟩
                  rw [show nI (mm + 1) + (-1) = nI mm from pk_m1 mm] at hl
                  have hcz10 : cz ≤ 10 := by omega
                  have hsz60 : sz ≤ 60 := by omega
                  refine lv_aload_n hx hb dX0_fits_46 rfl (lv_at hl 0 rfl) ?_
                  refine va_get (v := .ref (ad 2)) hx hb hts in_X0 hown hK hP 0 rfl rfl 1 (by decide) (hts _ q238) (fun _ h => h) rfl dX0_fits_47 ?_
                  refine lv_aload_n hx hb dX0_fits_50 rfl (lv_at hl 0 rfl) ?_
                  refine va_get (v := .ref (ad 1)) hx hb hts in_X0 hown hK hP 0 rfl rfl 0 (by decide) (hts _ q237) (fun _ h => h) rfl dX0_fits_51 ?_
                  refine lv_iload_n hx hb dX0_fits_54 rfl (lv_at hl 1 rfl) ?_
                  refine tn_aald hx hb hK hP 1 5 rfl rfl (by omega) (by decide) dX0_fits_55 ?_
                  refine ti_mV (As := [.ref (jh 0)]) (rest := []) S hE hP hD hS hA [8, 9, 10, 2, 3, 4] rfl (met_X1_takes l D E (ad 2) (ad 3) (ad 4) fa fb n1 (jh 0) (ju 0) (jv 0) (xi.1 0) (xi.2.1 0) (xi.2.2 0)) rfl (fun _ => rfl) (lw_V q347 q317 q318 q67 q319) 1 rfl 8 rfl rfl (by decide +kernel) ⟨Nat.le_of_ble_eq_true rfl, Nat.le_of_ble_eq_true rfl⟩ hl.1 rfl (Nat.le_of_ble_eq_true rfl) ⟨hcz10, hsz60⟩ dX0_fits_56 (fun _ H locs hu hP hD hS => ?_)
                  have hP : va_P D vwCl (ti_wMJRFS E ad dh du dv jh ju jv kh ku kv tx hi xi (xi.1 0, xi.2.1 0, xi.2.2 0) yf xs) H := hP
                  have hD : va_D A (ti_wMJRFS E ad dh du dv jh ju jv kh ku kv tx hi xi (xi.1 0, xi.2.1 0, xi.2.2 0) yf xs) := hD
                  refine W.eq (g2 := F0 m 59 ls []) rfl ?_
                  refine lv_iload_n hx hb dX0_fits_59 rfl (lv_at hl 3 rfl) ?_
                  refine tn_if_ne (tgt := 68) hx hb dX0_fits_60 (by decide) (by omega) (fun c60 => ?_) (fun c60 => ?_)
                  · skip
                    refine lv_aload_n hx hb dX0_fits_68 rfl (lv_at hl 0 rfl) ?_
                    refine va_get (v := .ref (ad 2)) hx hb hts in_X0 hown hK hP 0 rfl rfl 1 (by decide) (hts _ q238) (fun _ h => h) rfl dX0_fits_69 ?_
                    refine va_getN (v := .ref (ad 3)) hx hb hts in_X1 hown hK hP 8 rfl rfl 0 (by decide) (hE.use q111 rfl rfl) (fun _ h => h) rfl dX0_fits_72 ?_
                    refine lv_iload_n hx hb dX0_fits_75 rfl (lv_at hl 2 rfl) ?_
                    refine tn_iald (f := xi.1 0) hx hb hK hP 9 0 rfl rfl (by omega) (by decide) dX0_fits_76 ?_
                    have b76 := (hxi.1 0) k9
                    refine lv_istore (lv' := [(8, .int (nI ((xi.1 0) k9))), (0, .ref (ad 0)), (1, .int (nI 0)), (2, .int (nI k9)), (3, .int (nI 1)), (4, .int w), (5, .int (nI nn)), (6, .int fd), (7, .int (nI mm))]) hx hb dX0_fits_77 hl (by decide) rfl (fun ls hl => ?_)
                    refine lv_iload_n hx hb dX0_fits_79 rfl (lv_at hl 4 rfl) ?_
                    refine lv_iconst (v := nI 1) hx hb dX0_fits_80 (by decide) ?_
                    refine tn_ne (tgt := 89) hx hb dX0_fits_81 (by decide) (by omega) (by omega) (fun c81 => ?_) (fun c81 => ?_)
                    · skip
                      exact absurd rfl c81
                    · skip
                      refine lv_iload hx hb dX0_fits_84 (lv_at hl 8 rfl) ?_
                      refine lv_goto (tgt := 98) hx hb dX0_fits_86 (by decide) ?_
                      refine lv_istore (lv' := [(9, .int (nI mm)), (8, .int (nI ((xi.1 0) k9))), (0, .ref (ad 0)), (1, .int (nI 0)), (2, .int (nI k9)), (3, .int (nI 1)), (4, .int w), (5, .int (nI nn)), (6, .int fd), (7, .int (nI mm))]) hx hb dX0_fits_98 hl (by decide) rfl (fun ls hl => ?_)
                      refine lv_aload_n hx hb dX0_fits_100 rfl (lv_at hl 2 rfl) ?_
                      refine va_get (v := .ref (ad 2)) hx hb hts in_X0 hown hK hP 0 rfl rfl 1 (by decide) (hts _ q238) (fun _ h => h) rfl dX0_fits_101 ?_
                      refine lv_iload hx hb dX0_fits_104 (lv_at hl 1 rfl) ?_
                      refine lv_iload hx hb dX0_fits_106 (lv_at hl 0 rfl) ?_
                      refine ti_pV (As := [.int (nI ((xi.1 0) k9)), .int (nI mm)]) (rest := []) (v := .int (ti_px (ti_pl ((xi.1 0) k9) mm (ti_gr (xi.1 0) (xi.2.1 0) 0 (xi.2.2 0)) 0))) S hE hP [8, 9, 10] (met_X1_placeOf l D E (ad 2) (ad 3) (ad 4) (xi.1 0) (xi.2.1 0) (xi.2.2 0) (hxi.2.2 0) (hxi.1 0) (hxi.2.1 0) ((xi.1 0) k9) mm b76 (show mm ≤ 9 by omega)) rfl (lw_V q308 q309 q310 q67 q311) 2 rfl 8 rfl rfl (by decide +kernel) ⟨Nat.le_of_ble_eq_true rfl, Nat.le_of_ble_eq_true rfl⟩ hl.1 rfl (Nat.le_of_ble_eq_true rfl) ⟨hcz10, hsz60⟩ dX0_fits_108 ?_
                      refine lv_istore (lv' := [(10, .int (ti_px (ti_pl ((xi.1 0) k9) mm (ti_gr (xi.1 0) (xi.2.1 0) 0 (xi.2.2 0)) 0))), (9, .int (nI mm)), (8, .int (nI ((xi.1 0) k9))), (0, .ref (ad 0)), (1, .int (nI 0)), (2, .int (nI k9)), (3, .int (nI 1)), (4, .int w), (5, .int (nI nn)), (6, .int fd), (7, .int (nI mm))]) hx hb dX0_fits_111 hl (by decide) rfl (fun ls hl => ?_)
                      have hft9 : ti_ft (I 0) k9 1 mm = (xi.1 0 k9, mm) := by unfold ti_ft; rw [hgd]; rfl
                      have hA9 : xi.1 0 k9 ≤ 9 ∧ mm ≤ 9 := ⟨hxi.1 0 k9, by omega⟩
                      refine lv_iload hx hb dX0_fits_113 (lv_at hl 0 rfl) ?_
                      refine lv_bipush (v := (-5)) hx hb dX0_fits_115 (by decide) ?_
                      refine lv_icmp_eq (tgt := 129) hx hb dX0_fits_117 (by decide) (fun c117 => ?_) (fun c117 => ?_)
                      · skip
                        have hm := (ti_place5 (by rw [ti_gr_len]; omega)).mp c117
                        rw [show (ti_gr (xi.1 0) (xi.2.1 0) 0 (xi.2.2 0)) = I 0 from hg] at hm
                        have hcase : ti_ft (I 0) k9 1 mm = (I 0).getD k9 (0, 0) ∨ ti_ft (I 0) k9 1 mm ∉ I 0 := Or.inr (by rw [hft9]; exact hm)
                        refine lv_aload_n hx hb dX0_fits_129 rfl (lv_at hl 3 rfl) ?_
                        refine va_get (v := .ref (ad 2)) hx hb hts in_X0 hown hK hP 0 rfl rfl 1 (by decide) (hts _ q238) (fun _ h => h) rfl dX0_fits_130 ?_
                        refine va_getN (v := .ref (ad 3)) hx hb hts in_X1 hown hK hP 8 rfl rfl 0 (by decide) (hE.use q111 rfl rfl) (fun _ h => h) rfl dX0_fits_133 ?_
                        refine lv_iload_n hx hb dX0_fits_136 rfl (lv_at hl 5 rfl) ?_
                        refine lv_iload hx hb dX0_fits_137 (lv_at hl 2 rfl) ?_
                        refine tn_iast (f := xi.1 0) hx hb hK hP hD hS 9 0 rfl rfl (by omega) (by decide) dX0_fits_139 (fun H locs hP hD hS => ?_)
                        have hP : va_P D vwCl (ti_wMJRFS E ad dh du dv jh ju jv kh ku kv tx hi xi (va_up (xi.1 0) k9 ((xi.1 0) k9), xi.2.1 0, xi.2.2 0) yf xs) H := hP
                        have hD : va_D A (ti_wMJRFS E ad dh du dv jh ju jv kh ku kv tx hi xi (va_up (xi.1 0) k9 ((xi.1 0) k9), xi.2.1 0, xi.2.2 0) yf xs) := hD
                        refine lv_aload_n hx hb dX0_fits_140 rfl (lv_at hl 3 rfl) ?_
                        refine va_get (v := .ref (ad 2)) hx hb hts in_X0 hown hK hP 0 rfl rfl 1 (by decide) (hts _ q238) (fun _ h => h) rfl dX0_fits_141 ?_
                        refine va_getN (v := .ref (ad 4)) hx hb hts in_X1 hown hK hP 8 rfl rfl 1 (by decide) (hE.use q114 rfl rfl) (fun _ h => h) rfl dX0_fits_144 ?_
                        refine lv_iload_n hx hb dX0_fits_147 rfl (lv_at hl 5 rfl) ?_
                        refine lv_iload hx hb dX0_fits_148 (lv_at hl 1 rfl) ?_
                        refine tn_iast (f := xi.2.1 0) hx hb hK hP hD hS 10 0 rfl rfl (by omega) (by decide) dX0_fits_150 (fun H locs hP hD hS => ?_)
                        have hP : va_P D vwCl (ti_wMJRFS E ad dh du dv jh ju jv kh ku kv tx hi xi (va_up (xi.1 0) k9 ((xi.1 0) k9), va_up (xi.2.1 0) k9 mm, xi.2.2 0) yf xs) H := hP
                        have hD : va_D A (ti_wMJRFS E ad dh du dv jh ju jv kh ku kv tx hi xi (va_up (xi.1 0) k9 ((xi.1 0) k9), va_up (xi.2.1 0) k9 mm, xi.2.2 0) yf xs) := hD
                        refine lv_aload_n hx hb dX0_fits_151 rfl (lv_at hl 3 rfl) ?_
                        refine lv_iload_n hx hb dX0_fits_152 rfl (lv_at hl 4 rfl) ?_
                        refine tn_if_ne (tgt := 163) hx hb dX0_fits_153 (by decide) (by omega) (fun c153 => ?_) (fun c153 => ?_)
                        · skip
                          exact absurd rfl c153
                        · skip
                          refine lv_aload_n hx hb dX0_fits_156 rfl (lv_at hl 3 rfl) ?_
                          refine va_get (v := .ref (ad 2)) hx hb hts in_X0 hown hK hP 0 rfl rfl 1 (by decide) (hts _ q238) (fun _ h => h) rfl dX0_fits_157 ?_
                          refine lv_goto (tgt := 169) hx hb dX0_fits_160 (by decide) ?_
                          refine ti_callX (ty_runVX (As := [.ref (ad 2)]) (rest := []) S (met_X0_areSo_R l D E htr z0 ad dh du dv jh ju jv kh ku kv tx hi xi (va_up (xi.1 0) k9 ((xi.1 0) k9), va_up (xi.2.1 0) k9 mm, xi.2.2 0) yf xs hxi ⟨(ti_up_le (hxi.1 0) hA9.1), (ti_up_le (hxi.2.1 0) hA9.2), (hxi.2.2 0)⟩ hyf hxs (by rw [ti_gr_set hk9, show (ti_gr (xi.1 0) (xi.2.1 0) 0 (xi.2.2 0)) = I 0 from hg]; exact ti_set_nod (hnd 0 (by decide)) (by rw [← hft9]; exact hcase)) H.size) (vx_cwVW 1 S.2.2.2.2 (lw_VW q841 q843 qs19 q66 q844) rfl rfl rfl (by decide +kernel) ⟨Nat.le_of_ble_eq_true rfl, Nat.le_of_ble_eq_true rfl⟩) (ti_preXV (xp := fun _ => True) hE hP hD hS rfl hZ hAz trivial [0, 1, 2, 3, 4, 5, 6, 7, 8, 9, 10, 11, 12, 13, 14, 15, 16, 17, 18, 19, 20] rfl rfl 0 rfl rfl) rfl rfl hl.1 rfl (lv_room (Nat.le_of_ble_eq_true rfl)) dX0_fits_169 ⟨show cz + 1 ≤ 10 by omega, show sz + 6 ≤ 60 by omega⟩) hP hD hS hA [0, 1, 2, 3, 4, 5, 6, 7, 8, 9, 10, 11, 12, 13, 14, 15, 16, 17, 18, 19, 20] rfl (fun _ => rfl) (fun _ => rfl) (fun ua H locs hu _ _ hP hD hS => ?_) (fun _ _ _ _ h9 => absurd h9 id)
                          have hua := hu
                          have hP : va_P D vwCl (ti_wMJRFS E ad dh du dv jh ju jv kh ku kv tx hi xi (va_up (xi.1 0) k9 ((xi.1 0) k9), va_up (xi.2.1 0) k9 mm, xi.2.2 0) ua xs) H := ti_asP hP [.inr 0, .inr 1, .inr 2, .inr 3, .inr 4, .inr 5, .inr 6, .inr 7, .inr 8, .inr 9, .inr 10, .inr 11, .inr 12, .inr 13, .inr 14, .inr 15, .inr 16, .inr 17, .inr 18, .inr 19, .inr 20] rfl rfl rfl rfl
                          have hD : va_D A (ti_wMJRFS E ad dh du dv jh ju jv kh ku kv tx hi xi (va_up (xi.1 0) k9 ((xi.1 0) k9), va_up (xi.2.1 0) k9 mm, xi.2.2 0) ua xs) := ti_asD hD [.inr 0, .inr 1, .inr 2, .inr 3, .inr 4, .inr 5, .inr 6, .inr 7, .inr 8, .inr 9, .inr 10, .inr 11, .inr 12, .inr 13, .inr 14, .inr 15, .inr 16, .inr 17, .inr 18, .inr 19, .inr 20] rfl rfl rfl rfl
                          refine W.eq (g2 := F0 m 172 ls [.int (ti_b (ti_seen (ti_gr (va_up (xi.1 0) k9 ((xi.1 0) k9)) (va_up (xi.2.1 0) k9 mm) 0 (xi.2.2 0)) (ti_Wl3 xs)))]) rfl ?_
                          refine tb_ne (tgt := 178) hx hb dX0_fits_172 (by decide) (fun c172 => ?_) (fun c172 => ?_)
                          · skip
                            have hdd : (decide (ti_ft (I 0) k9 1 mm = (I 0).getD k9 (0, 0)) || decide (ti_ft (I 0) k9 1 mm ∉ I 0)) = true := by
                              rcases hcase with e | e
                              · rw [decide_eq_true e]; rfl
                              · rw [decide_eq_true e]; simp
                            have hok : ti_ftok I SN 0 k9 1 mm = true := by rw [ti_ftok, hdd, if_pos rfl, hft9, ← show (ti_gr (xi.1 0) (xi.2.1 0) 0 (xi.2.2 0)) = I 0 from hJ 0 (by decide), ← ti_gr_set hk9, ← hSN]; exact c172
                            refine lv_iinc (v := nI (nn + 1)) (lv' := [(5, .int (nI (nn + 1))), (10, .int (ti_px (ti_pl ((xi.1 0) k9) mm (ti_gr (xi.1 0) (xi.2.1 0) 0 (xi.2.2 0)) 0))), (9, .int (nI mm)), (8, .int (nI ((xi.1 0) k9))), (0, .ref (ad 0)), (1, .int (nI 0)), (2, .int (nI k9)), (3, .int (nI 1)), (4, .int w), (6, .int fd), (7, .int (nI mm))]) hx hb dX0_fits_178 hl (k := 8) rfl (nI_1 nn) (by decide) rfl (fun ls hl => ?_)
                            refine lv_iload hx hb dX0_fits_181 (lv_at hl 10 rfl) ?_
                            refine lv_istore (lv' := [(6, .int (nI mm)), (5, .int (nI (nn + 1))), (10, .int (ti_px (ti_pl ((xi.1 0) k9) mm (ti_gr (xi.1 0) (xi.2.1 0) 0 (xi.2.2 0)) 0))), (9, .int (nI mm)), (8, .int (nI ((xi.1 0) k9))), (0, .ref (ad 0)), (1, .int (nI 0)), (2, .int (nI k9)), (3, .int (nI 1)), (4, .int w), (7, .int (nI mm))]) hx hb dX0_fits_183 hl (by decide) rfl (fun ls hl => ?_)
                            refine lv_iinc (v := nI mm + (-1)) (lv' := [(7, .int (nI mm + (-1))), (6, .int (nI mm)), (5, .int (nI (nn + 1))), (10, .int (ti_px (ti_pl ((xi.1 0) k9) mm (ti_gr (xi.1 0) (xi.2.1 0) 0 (xi.2.2 0)) 0))), (9, .int (nI mm)), (8, .int (nI ((xi.1 0) k9))), (0, .ref (ad 0)), (1, .int (nI 0)), (2, .int (nI k9)), (3, .int (nI 1)), (4, .int w)]) hx hb dX0_fits_185 hl (k := 10) rfl rfl (by decide) rfl (fun ls hl => ?_)
                            refine lv_goto (tgt := 41) hx hb dX0_fits_188 (by decide) ?_
                            exact ih41 mm (nn + 1) (nI mm) (cz + 1) (sz + 6) (va_up (xi.1 0) k9 ((xi.1 0) k9)) (va_up (xi.2.1 0) k9 mm) (xi.2.2 0) ua _ _ _ hP hD hS (by omega) (by omega) (by omega) (by omega) (by omega) (ti_up_le (hxi.1 0) hA9.1) (ti_up_le (hxi.2.1 0) hA9.2) (hxi.2.2 0) (hua) (by rw [show 10 - mm = 10 - (mm + 1) + 1 by omega, List.range'_succ, ti_ftn_s, if_pos hok, ← hft]) (lv_sub hl [6, 7, 8, 9, 10, 2, 1, 0] rfl)
                          · skip
                            have hdd : (decide (ti_ft (I 0) k9 1 mm = (I 0).getD k9 (0, 0)) || decide (ti_ft (I 0) k9 1 mm ∉ I 0)) = true := by
                              rcases hcase with e | e
                              · rw [decide_eq_true e]; rfl
                              · rw [decide_eq_true e]; simp
                            have hbad : ti_ftok I SN 0 k9 1 mm = false := by rw [ti_ftok, hdd, if_pos rfl, hft9, ← show (ti_gr (xi.1 0) (xi.2.1 0) 0 (xi.2.2 0)) = I 0 from hJ 0 (by decide), ← ti_gr_set hk9, ← hSN]; exact c172
                            refine lv_goto (tgt := 185) hx hb dX0_fits_175 (by decide) ?_
                            refine lv_iinc (v := nI mm + (-1)) (lv' := [(7, .int (nI mm + (-1))), (10, .int (ti_px (ti_pl ((xi.1 0) k9) mm (ti_gr (xi.1 0) (xi.2.1 0) 0 (xi.2.2 0)) 0))), (9, .int (nI mm)), (8, .int (nI ((xi.1 0) k9))), (0, .ref (ad 0)), (1, .int (nI 0)), (2, .int (nI k9)), (3, .int (nI 1)), (4, .int w), (5, .int (nI nn)), (6, .int fd)]) hx hb dX0_fits_185 hl (k := 10) rfl rfl (by decide) rfl (fun ls hl => ?_)
                            refine lv_goto (tgt := 41) hx hb dX0_fits_188 (by decide) ?_
                            exact ih41 mm nn fd (cz + 1) (sz + 6) (va_up (xi.1 0) k9 ((xi.1 0) k9)) (va_up (xi.2.1 0) k9 mm) (xi.2.2 0) ua _ _ _ hP hD hS (by omega) (by omega) (by omega) (by omega) (by omega) (ti_up_le (hxi.1 0) hA9.1) (ti_up_le (hxi.2.1 0) hA9.2) (hxi.2.2 0) (hua) (by rw [show 10 - mm = 10 - (mm + 1) + 1 by omega, List.range'_succ, ti_ftn_s, if_neg (by rw [hbad]; decide)]; exact hft) (lv_sub hl [4, 5, 6, 7, 8, 9, 10, 0] rfl)
                      · skip
                        refine lv_iload hx hb dX0_fits_120 (lv_at hl 0 rfl) ?_
                        refine lv_iload_n hx hb dX0_fits_122 rfl (lv_at hl 5 rfl) ?_
                        refine lv_icmp_eq (tgt := 129) hx hb dX0_fits_123 (by decide) (fun c123 => ?_) (fun c123 => ?_)
                        · skip
                          have hpk := (ti_px_k (fun j hj => by have := ti_pl_ge hj; rw [ti_gr_len] at this; omega) (by omega)).mp c123
                          have hpa := ti_pl_at hpk
                          rw [show (ti_gr (xi.1 0) (xi.2.1 0) 0 (xi.2.2 0)) = I 0 from hg, Nat.sub_zero] at hpa
                          have hcase : ti_ft (I 0) k9 1 mm = (I 0).getD k9 (0, 0) ∨ ti_ft (I 0) k9 1 mm ∉ I 0 := Or.inl (by rw [hft9, List.getD_eq_getElem?_getD, hpa]; rfl)
                          refine lv_aload_n hx hb dX0_fits_129 rfl (lv_at hl 3 rfl) ?_
                          refine va_get (v := .ref (ad 2)) hx hb hts in_X0 hown hK hP 0 rfl rfl 1 (by decide) (hts _ q238) (fun _ h => h) rfl dX0_fits_130 ?_
                          refine va_getN (v := .ref (ad 3)) hx hb hts in_X1 hown hK hP 8 rfl rfl 0 (by decide) (hE.use q111 rfl rfl) (fun _ h => h) rfl dX0_fits_133 ?_
                          refine lv_iload_n hx hb dX0_fits_136 rfl (lv_at hl 5 rfl) ?_
                          refine lv_iload hx hb dX0_fits_137 (lv_at hl 2 rfl) ?_
                          refine tn_iast (f := xi.1 0) hx hb hK hP hD hS 9 0 rfl rfl (by omega) (by decide) dX0_fits_139 (fun H locs hP hD hS => ?_)
                          have hP : va_P D vwCl (ti_wMJRFS E ad dh du dv jh ju jv kh ku kv tx hi xi (va_up (xi.1 0) k9 ((xi.1 0) k9), xi.2.1 0, xi.2.2 0) yf xs) H := hP
                          have hD : va_D A (ti_wMJRFS E ad dh du dv jh ju jv kh ku kv tx hi xi (va_up (xi.1 0) k9 ((xi.1 0) k9), xi.2.1 0, xi.2.2 0) yf xs) := hD
                          refine lv_aload_n hx hb dX0_fits_140 rfl (lv_at hl 3 rfl) ?_
                          refine va_get (v := .ref (ad 2)) hx hb hts in_X0 hown hK hP 0 rfl rfl 1 (by decide) (hts _ q238) (fun _ h => h) rfl dX0_fits_141 ?_
                          refine va_getN (v := .ref (ad 4)) hx hb hts in_X1 hown hK hP 8 rfl rfl 1 (by decide) (hE.use q114 rfl rfl) (fun _ h => h) rfl dX0_fits_144 ?_
                          refine lv_iload_n hx hb dX0_fits_147 rfl (lv_at hl 5 rfl) ?_
                          refine lv_iload hx hb dX0_fits_148 (lv_at hl 1 rfl) ?_
                          refine tn_iast (f := xi.2.1 0) hx hb hK hP hD hS 10 0 rfl rfl (by omega) (by decide) dX0_fits_150 (fun H locs hP hD hS => ?_)
                          have hP : va_P D vwCl (ti_wMJRFS E ad dh du dv jh ju jv kh ku kv tx hi xi (va_up (xi.1 0) k9 ((xi.1 0) k9), va_up (xi.2.1 0) k9 mm, xi.2.2 0) yf xs) H := hP
                          have hD : va_D A (ti_wMJRFS E ad dh du dv jh ju jv kh ku kv tx hi xi (va_up (xi.1 0) k9 ((xi.1 0) k9), va_up (xi.2.1 0) k9 mm, xi.2.2 0) yf xs) := hD
                          refine lv_aload_n hx hb dX0_fits_151 rfl (lv_at hl 3 rfl) ?_
                          refine lv_iload_n hx hb dX0_fits_152 rfl (lv_at hl 4 rfl) ?_
                          refine tn_if_ne (tgt := 163) hx hb dX0_fits_153 (by decide) (by omega) (fun c153 => ?_) (fun c153 => ?_)
                          · skip
                            exact absurd rfl c153
                          · skip
                            refine lv_aload_n hx hb dX0_fits_156 rfl (lv_at hl 3 rfl) ?_
                            refine va_get (v := .ref (ad 2)) hx hb hts in_X0 hown hK hP 0 rfl rfl 1 (by decide) (hts _ q238) (fun _ h => h) rfl dX0_fits_157 ?_
                            refine lv_goto (tgt := 169) hx hb dX0_fits_160 (by decide) ?_
                            refine ti_callX (ty_runVX (As := [.ref (ad 2)]) (rest := []) S (met_X0_areSo_R l D E htr z0 ad dh du dv jh ju jv kh ku kv tx hi xi (va_up (xi.1 0) k9 ((xi.1 0) k9), va_up (xi.2.1 0) k9 mm, xi.2.2 0) yf xs hxi ⟨(ti_up_le (hxi.1 0) hA9.1), (ti_up_le (hxi.2.1 0) hA9.2), (hxi.2.2 0)⟩ hyf hxs (by rw [ti_gr_set hk9, show (ti_gr (xi.1 0) (xi.2.1 0) 0 (xi.2.2 0)) = I 0 from hg]; exact ti_set_nod (hnd 0 (by decide)) (by rw [← hft9]; exact hcase)) H.size) (vx_cwVW 1 S.2.2.2.2 (lw_VW q841 q843 qs19 q66 q844) rfl rfl rfl (by decide +kernel) ⟨Nat.le_of_ble_eq_true rfl, Nat.le_of_ble_eq_true rfl⟩) (ti_preXV (xp := fun _ => True) hE hP hD hS rfl hZ hAz trivial [0, 1, 2, 3, 4, 5, 6, 7, 8, 9, 10, 11, 12, 13, 14, 15, 16, 17, 18, 19, 20] rfl rfl 0 rfl rfl) rfl rfl hl.1 rfl (lv_room (Nat.le_of_ble_eq_true rfl)) dX0_fits_169 ⟨show cz + 1 ≤ 10 by omega, show sz + 6 ≤ 60 by omega⟩) hP hD hS hA [0, 1, 2, 3, 4, 5, 6, 7, 8, 9, 10, 11, 12, 13, 14, 15, 16, 17, 18, 19, 20] rfl (fun _ => rfl) (fun _ => rfl) (fun ua H locs hu _ _ hP hD hS => ?_) (fun _ _ _ _ h9 => absurd h9 id)
                            have hua := hu
                            have hP : va_P D vwCl (ti_wMJRFS E ad dh du dv jh ju jv kh ku kv tx hi xi (va_up (xi.1 0) k9 ((xi.1 0) k9), va_up (xi.2.1 0) k9 mm, xi.2.2 0) ua xs) H := ti_asP hP [.inr 0, .inr 1, .inr 2, .inr 3, .inr 4, .inr 5, .inr 6, .inr 7, .inr 8, .inr 9, .inr 10, .inr 11, .inr 12, .inr 13, .inr 14, .inr 15, .inr 16, .inr 17, .inr 18, .inr 19, .inr 20] rfl rfl rfl rfl
                            have hD : va_D A (ti_wMJRFS E ad dh du dv jh ju jv kh ku kv tx hi xi (va_up (xi.1 0) k9 ((xi.1 0) k9), va_up (xi.2.1 0) k9 mm, xi.2.2 0) ua xs) := ti_asD hD [.inr 0, .inr 1, .inr 2, .inr 3, .inr 4, .inr 5, .inr 6, .inr 7, .inr 8, .inr 9, .inr 10, .inr 11, .inr 12, .inr 13, .inr 14, .inr 15, .inr 16, .inr 17, .inr 18, .inr 19, .inr 20] rfl rfl rfl rfl
                            refine W.eq (g2 := F0 m 172 ls [.int (ti_b (ti_seen (ti_gr (va_up (xi.1 0) k9 ((xi.1 0) k9)) (va_up (xi.2.1 0) k9 mm) 0 (xi.2.2 0)) (ti_Wl3 xs)))]) rfl ?_
                            refine tb_ne (tgt := 178) hx hb dX0_fits_172 (by decide) (fun c172 => ?_) (fun c172 => ?_)
                            · skip
                              have hdd : (decide (ti_ft (I 0) k9 1 mm = (I 0).getD k9 (0, 0)) || decide (ti_ft (I 0) k9 1 mm ∉ I 0)) = true := by
                                rcases hcase with e | e
                                · rw [decide_eq_true e]; rfl
                                · rw [decide_eq_true e]; simp
                              have hok : ti_ftok I SN 0 k9 1 mm = true := by rw [ti_ftok, hdd, if_pos rfl, hft9, ← show (ti_gr (xi.1 0) (xi.2.1 0) 0 (xi.2.2 0)) = I 0 from hJ 0 (by decide), ← ti_gr_set hk9, ← hSN]; exact c172
                              refine lv_iinc (v := nI (nn + 1)) (lv' := [(5, .int (nI (nn + 1))), (10, .int (ti_px (ti_pl ((xi.1 0) k9) mm (ti_gr (xi.1 0) (xi.2.1 0) 0 (xi.2.2 0)) 0))), (9, .int (nI mm)), (8, .int (nI ((xi.1 0) k9))), (0, .ref (ad 0)), (1, .int (nI 0)), (2, .int (nI k9)), (3, .int (nI 1)), (4, .int w), (6, .int fd), (7, .int (nI mm))]) hx hb dX0_fits_178 hl (k := 8) rfl (nI_1 nn) (by decide) rfl (fun ls hl => ?_)
                              refine lv_iload hx hb dX0_fits_181 (lv_at hl 10 rfl) ?_
                              refine lv_istore (lv' := [(6, .int (nI mm)), (5, .int (nI (nn + 1))), (10, .int (ti_px (ti_pl ((xi.1 0) k9) mm (ti_gr (xi.1 0) (xi.2.1 0) 0 (xi.2.2 0)) 0))), (9, .int (nI mm)), (8, .int (nI ((xi.1 0) k9))), (0, .ref (ad 0)), (1, .int (nI 0)), (2, .int (nI k9)), (3, .int (nI 1)), (4, .int w), (7, .int (nI mm))]) hx hb dX0_fits_183 hl (by decide) rfl (fun ls hl => ?_)
                              refine lv_iinc (v := nI mm + (-1)) (lv' := [(7, .int (nI mm + (-1))), (6, .int (nI mm)), (5, .int (nI (nn + 1))), (10, .int (ti_px (ti_pl ((xi.1 0) k9) mm (ti_gr (xi.1 0) (xi.2.1 0) 0 (xi.2.2 0)) 0))), (9, .int (nI mm)), (8, .int (nI ((xi.1 0) k9))), (0, .ref (ad 0)), (1, .int (nI 0)), (2, .int (nI k9)), (3, .int (nI 1)), (4, .int w)]) hx hb dX0_fits_185 hl (k := 10) rfl rfl (by decide) rfl (fun ls hl => ?_)
                              refine lv_goto (tgt := 41) hx hb dX0_fits_188 (by decide) ?_
                              exact ih41 mm (nn + 1) (nI mm) (cz + 1) (sz + 6) (va_up (xi.1 0) k9 ((xi.1 0) k9)) (va_up (xi.2.1 0) k9 mm) (xi.2.2 0) ua _ _ _ hP hD hS (by omega) (by omega) (by omega) (by omega) (by omega) (ti_up_le (hxi.1 0) hA9.1) (ti_up_le (hxi.2.1 0) hA9.2) (hxi.2.2 0) (hua) (by rw [show 10 - mm = 10 - (mm + 1) + 1 by omega, List.range'_succ, ti_ftn_s, if_pos hok, ← hft]) (lv_sub hl [6, 7, 8, 9, 10, 2, 1, 0] rfl)
                            · skip
                              have hdd : (decide (ti_ft (I 0) k9 1 mm = (I 0).getD k9 (0, 0)) || decide (ti_ft (I 0) k9 1 mm ∉ I 0)) = true := by
                                rcases hcase with e | e
                                · rw [decide_eq_true e]; rfl
                                · rw [decide_eq_true e]; simp
                              have hbad : ti_ftok I SN 0 k9 1 mm = false := by rw [ti_ftok, hdd, if_pos rfl, hft9, ← show (ti_gr (xi.1 0) (xi.2.1 0) 0 (xi.2.2 0)) = I 0 from hJ 0 (by decide), ← ti_gr_set hk9, ← hSN]; exact c172
                              refine lv_goto (tgt := 185) hx hb dX0_fits_175 (by decide) ?_
                              refine lv_iinc (v := nI mm + (-1)) (lv' := [(7, .int (nI mm + (-1))), (10, .int (ti_px (ti_pl ((xi.1 0) k9) mm (ti_gr (xi.1 0) (xi.2.1 0) 0 (xi.2.2 0)) 0))), (9, .int (nI mm)), (8, .int (nI ((xi.1 0) k9))), (0, .ref (ad 0)), (1, .int (nI 0)), (2, .int (nI k9)), (3, .int (nI 1)), (4, .int w), (5, .int (nI nn)), (6, .int fd)]) hx hb dX0_fits_185 hl (k := 10) rfl rfl (by decide) rfl (fun ls hl => ?_)
                              refine lv_goto (tgt := 41) hx hb dX0_fits_188 (by decide) ?_
                              exact ih41 mm nn fd (cz + 1) (sz + 6) (va_up (xi.1 0) k9 ((xi.1 0) k9)) (va_up (xi.2.1 0) k9 mm) (xi.2.2 0) ua _ _ _ hP hD hS (by omega) (by omega) (by omega) (by omega) (by omega) (ti_up_le (hxi.1 0) hA9.1) (ti_up_le (hxi.2.1 0) hA9.2) (hxi.2.2 0) (hua) (by rw [show 10 - mm = 10 - (mm + 1) + 1 by omega, List.range'_succ, ti_ftn_s, if_neg (by rw [hbad]; decide)]; exact hft) (lv_sub hl [4, 5, 6, 7, 8, 9, 10, 0] rfl)
                        · skip
                          have hbad : ti_ftok I SN 0 k9 1 mm = false := by
                            have h1 : ¬ ti_ft (I 0) k9 1 mm = (I 0).getD k9 (0, 0) := fun e => c123 ((ti_px_k (fun j hj => by have := ti_pl_ge hj; rw [ti_gr_len] at this; omega) (by omega)).mpr (by rw [show (ti_gr (xi.1 0) (xi.2.1 0) 0 (xi.2.2 0)) = I 0 from hg]; exact ti_pl_nod (hnd 0 (by decide)) (by rw [hlen]; exact hk9) (e.symm.trans hft9)))
                            have h2 : ¬ ti_ft (I 0) k9 1 mm ∉ I 0 := fun e => c117 ((ti_place5 (by rw [ti_gr_len]; omega)).mpr (by rw [show (ti_gr (xi.1 0) (xi.2.1 0) 0 (xi.2.2 0)) = I 0 from hg]; rw [hft9] at e; exact e))
                            rw [ti_ftok, decide_eq_false h1, decide_eq_false h2]; rfl
                          refine lv_goto (tgt := 185) hx hb dX0_fits_126 (by decide) ?_
                          refine lv_iinc (v := nI mm + (-1)) (lv' := [(7, .int (nI mm + (-1))), (10, .int (ti_px (ti_pl ((xi.1 0) k9) mm (ti_gr (xi.1 0) (xi.2.1 0) 0 (xi.2.2 0)) 0))), (9, .int (nI mm)), (8, .int (nI ((xi.1 0) k9))), (0, .ref (ad 0)), (1, .int (nI 0)), (2, .int (nI k9)), (3, .int (nI 1)), (4, .int w), (5, .int (nI nn)), (6, .int fd)]) hx hb dX0_fits_185 hl (k := 10) rfl rfl (by decide) rfl (fun ls hl => ?_)
                          refine lv_goto (tgt := 41) hx hb dX0_fits_188 (by decide) ?_
                          exact ih41 mm nn fd cz sz (xi.1 0) (xi.2.1 0) (xi.2.2 0) yf _ _ _ hP hD hS (by omega) (by omega) (by omega) (by omega) (by omega) (hxi.1 0) (hxi.2.1 0) (hxi.2.2 0) (hyf) (by rw [show 10 - mm = 10 - (mm + 1) + 1 by omega, List.range'_succ, ti_ftn_s, if_neg (by rw [hbad]; decide)]; exact hft) (lv_sub hl [4, 5, 6, 7, 8, 9, 10, 0] rfl)
                  · skip
                    exact absurd c60 (by decide)
            exact L41 _ 10 0 (-5) 0 0 xr.1 xr.2.1 xr.2.2 xf _ _ _ hP hD hS (Nat.lt_succ_self _) (by omega) (by omega) (by omega) (by omega) (hxr.1) (hxr.2.1) (hxr.2.2) (hxf) (rfl) (lv_sub hl [3, 4, 5, 6, 7, 2, 1, 0] rfl)
        · skip
          rcases (show le = 0 ∨ le = 1 by omega) with rfl | rfl
          · skip
            refine lv_iconst (v := nI 0) hx hb dX0_fits_30 (by decide) ?_
            refine lv_istore (lv' := [(5, .int (nI 0)), (0, .ref (ad 0)), (1, .int (nI 1)), (2, .int (nI k9)), (3, .int (nI 0)), (4, .int w)]) hx hb dX0_fits_31 hl (by decide) rfl (fun ls hl => ?_)
            refine lv_bipush (v := (-5)) hx hb dX0_fits_33 (by decide) ?_
            refine lv_istore (lv' := [(6, .int ((-5))), (5, .int (nI 0)), (0, .ref (ad 0)), (1, .int (nI 1)), (2, .int (nI k9)), (3, .int (nI 0)), (4, .int w)]) hx hb dX0_fits_35 hl (by decide) rfl (fun ls hl => ?_)
            refine lv_bipush (v := nI 9) hx hb dX0_fits_37 (by decide) ?_
            refine lv_istore (lv' := [(7, .int (nI 9)), (6, .int ((-5))), (5, .int (nI 0)), (0, .ref (ad 0)), (1, .int (nI 1)), (2, .int (nI k9)), (3, .int (nI 0)), (4, .int w)]) hx hb dX0_fits_39 hl (by decide) rfl (fun ls hl => ?_)
            have hl : lv_has ls 11 [(7, .int (nI 10 + (-1))), (6, .int ((-5))), (5, .int (nI 0)), (0, .ref (ad 0)), (1, .int (nI 1)), (2, .int (nI k9)), (3, .int (nI 0)), (4, .int w)] := hl
            have L41 : ∀ (N : Nat) (v9 nn : Nat) (fd : Int32) (cz sz : Nat) (fa fb : Nat → Nat) (n1 : Nat) (yf : ti_Tf) (ls : Array Slot) (H : Heap) (locs : List Loc), va_P D vwCl (ti_wMJRFS E ad dh du dv jh ju jv kh ku kv tx hi xi (fa, fb, n1) yf xs) H → va_D A (ti_wMJRFS E ad dh du dv jh ju jv kh ku kv tx hi xi (fa, fb, n1) yf xs) → va_S A s.heap H locs → v9 < N → (v9 ≤ 10) → (nn ≤ 10 - v9) → (cz ≤ 10 - v9) → (sz ≤ 6 * (10 - v9)) → (∀ j, fa j ≤ 9) → (∀ j, fb j ≤ 9) → (n1 ≤ 6) → (ti_Fok yf) → ((nn, fd) = ti_ftn I SN 1 k9 0 (List.range' v9 (10 - v9)) (0, -5)) → lv_has ls 11 [(0, .ref (ad 0)), (1, .int (nI 1)), (2, .int (nI k9)), (3, .int (nI 0)), (4, .int w), (5, .int (nI nn)), (6, .int fd), (7, .int (nI v9 + (-1)))] → W p l e (ti_rm 8 10 60) s m ([.ref (ad 0), .int (nI 1), .int (nI k9), .int (nI 0), .int w] : List Value).toArray below meth c H locs cz sz Q (F0 m 41 ls []) := by
              intro N
              induction N with
              | zero => intro v9 nn fd cz sz fa fb n1 yf ls H locs hP hD hS h0; exact absurd h0 (Nat.not_lt_zero _)
              | succ N ih41 =>
                intro v9 nn fd cz sz fa fb n1 yf ls H locs hP hD hS hN hv9 hnn hcz hsz hfa hfb hn1 hyf hft hl
                refine lv_iload hx hb dX0_fits_41 (lv_at hl 7 rfl) ?_
                refine lv_if_lt (tgt := 191) hx hb dX0_fits_43 (by decide) (fun c43 => ?_) (fun c43 => ?_)
                · skip
                  have hv0 : v9 = 0 := ti_m1_neg hv9 c43
                  subst hv0
                  refine lv_iload hx hb dX0_fits_191 (lv_at hl 4 rfl) ?_
                  refine lv_if_ne (tgt := 201) hx hb dX0_fits_193 (by decide) (fun c193 => ?_) (fun c193 => ?_)
                  · skip
                    refine lv_iload hx hb dX0_fits_201 (lv_at hl 6 rfl) ?_
                    have hv9 : fd = (fun _ => ti_Sfits I SN (nI 1) (nI k9) (nI 0) w) (((fa, fb, n1), yf)) := by rw [ti_Sfits, if_neg (by rw [hq3, c15, show ti_bt w = true from c25]; decide), hci, hck, hcl9, if_neg c193, show List.range' 0 10 = List.range' 0 (10 - 0) from rfl, ← hft]
                    refine W.eq (g2 := F0 m 203 ls [.int ((fun _ => ti_Sfits I SN (nI 1) (nI k9) (nI 0) w) (((fa, fb, n1), yf)))]) (congrArg (fun z => F0 m 203 ls [.int z]) hv9) ?_
                    exact hret _ (((fa, fb, n1), yf)) _ _ _ _ (⟨⟨hfa, hfb, hn1⟩, hyf⟩) hP trivial hS (by omega) (by omega) (fun hq hf9 => W.iret hx hb hr hq hf9 dX0_fits_203 hlk)
                  · skip
                    refine lv_iload hx hb dX0_fits_196 (lv_at hl 5 rfl) ?_
                    refine lv_goto (tgt := 203) hx hb dX0_fits_198 (by decide) ?_
                    have hv9 : (nI nn) = (fun _ => ti_Sfits I SN (nI 1) (nI k9) (nI 0) w) (((fa, fb, n1), yf)) := by rw [ti_Sfits, if_neg (by rw [hq3, c15, show ti_bt w = true from c25]; decide), hci, hck, hcl9, if_pos c193, show List.range' 0 10 = List.range' 0 (10 - 0) from rfl, ← hft]
                    refine W.eq (g2 := F0 m 203 ls [.int ((fun _ => ti_Sfits I SN (nI 1) (nI k9) (nI 0) w) (((fa, fb, n1), yf)))]) (congrArg (fun z => F0 m 203 ls [.int z]) hv9) ?_
                    exact hret _ (((fa, fb, n1), yf)) _ _ _ _ (⟨⟨hfa, hfb, hn1⟩, hyf⟩) hP trivial hS (by omega) (by omega) (fun hq hf9 => W.iret hx hb hr hq hf9 dX0_fits_203 hlk)
                · skip
                  obtain ⟨mm, rfl⟩ : ∃ mm, v9 = mm + 1 := ⟨v9 - 1, by have := ti_m1_ne c43; omega⟩
                  rw [show nI (mm + 1) + (-1) = nI mm from pk_m1 mm] at hl
                  have hcz10 : cz ≤ 10 := by omega
                  have hsz60 : sz ≤ 60 := by omega
                  refine lv_aload_n hx hb dX0_fits_46 rfl (lv_at hl 0 rfl) ?_
                  refine va_get (v := .ref (ad 2)) hx hb hts in_X0 hown hK hP 0 rfl rfl 1 (by decide) (hts _ q238) (fun _ h => h) rfl dX0_fits_47 ?_
                  refine lv_aload_n hx hb dX0_fits_50 rfl (lv_at hl 0 rfl) ?_
                  refine va_get (v := .ref (ad 1)) hx hb hts in_X0 hown hK hP 0 rfl rfl 0 (by decide) (hts _ q237) (fun _ h => h) rfl dX0_fits_51 ?_
                  refine lv_iload_n hx hb dX0_fits_54 rfl (lv_at hl 1 rfl) ?_
                  refine tn_aald hx hb hK hP 1 5 rfl rfl (by omega) (by decide) dX0_fits_55 ?_
                  refine ti_mV (As := [.ref (jh 1)]) (rest := []) S hE hP hD hS hA [8, 9, 10, 5, 6, 7] rfl (met_X1_takes l D E (ad 2) (ad 3) (ad 4) fa fb n1 (jh 1) (ju 1) (jv 1) (xi.1 1) (xi.2.1 1) (xi.2.2 1)) rfl (fun _ => rfl) (lw_V q347 q317 q318 q67 q319) 1 rfl 8 rfl rfl (by decide +kernel) ⟨Nat.le_of_ble_eq_true rfl, Nat.le_of_ble_eq_true rfl⟩ hl.1 rfl (Nat.le_of_ble_eq_true rfl) ⟨hcz10, hsz60⟩ dX0_fits_56 (fun _ H locs hu hP hD hS => ?_)
                  have hP : va_P D vwCl (ti_wMJRFS E ad dh du dv jh ju jv kh ku kv tx hi xi (xi.1 1, xi.2.1 1, xi.2.2 1) yf xs) H := hP
                  have hD : va_D A (ti_wMJRFS E ad dh du dv jh ju jv kh ku kv tx hi xi (xi.1 1, xi.2.1 1, xi.2.2 1) yf xs) := hD
                  refine W.eq (g2 := F0 m 59 ls []) rfl ?_
                  refine lv_iload_n hx hb dX0_fits_59 rfl (lv_at hl 3 rfl) ?_
                  refine tn_if_ne (tgt := 68) hx hb dX0_fits_60 (by decide) (by omega) (fun c60 => ?_) (fun c60 => ?_)
                  · skip
                    exact absurd rfl c60
                  · skip
                    refine lv_iload hx hb dX0_fits_63 (lv_at hl 7 rfl) ?_
                    refine lv_goto (tgt := 77) hx hb dX0_fits_65 (by decide) ?_
                    refine lv_istore (lv' := [(8, .int (nI mm)), (0, .ref (ad 0)), (1, .int (nI 1)), (2, .int (nI k9)), (3, .int (nI 0)), (4, .int w), (5, .int (nI nn)), (6, .int fd), (7, .int (nI mm))]) hx hb dX0_fits_77 hl (by decide) rfl (fun ls hl => ?_)
                    refine lv_iload_n hx hb dX0_fits_79 rfl (lv_at hl 4 rfl) ?_
                    refine lv_iconst (v := nI 1) hx hb dX0_fits_80 (by decide) ?_
                    refine tn_ne (tgt := 89) hx hb dX0_fits_81 (by decide) (by omega) (by omega) (fun c81 => ?_) (fun c81 => ?_)
                    · skip
                      refine lv_aload_n hx hb dX0_fits_89 rfl (lv_at hl 1 rfl) ?_
                      refine va_get (v := .ref (ad 2)) hx hb hts in_X0 hown hK hP 0 rfl rfl 1 (by decide) (hts _ q238) (fun _ h => h) rfl dX0_fits_90 ?_
                      refine va_getN (v := .ref (ad 4)) hx hb hts in_X1 hown hK hP 8 rfl rfl 1 (by decide) (hE.use q114 rfl rfl) (fun _ h => h) rfl dX0_fits_93 ?_
                      refine lv_iload_n hx hb dX0_fits_96 rfl (lv_at hl 3 rfl) ?_
                      refine tn_iald (f := xi.2.1 1) hx hb hK hP 10 0 rfl rfl (by omega) (by decide) dX0_fits_97 ?_
                      have b97 := (hxi.2.1 1) k9
                      refine lv_istore (lv' := [(9, .int (nI ((xi.2.1 1) k9))), (8, .int (nI mm)), (0, .ref (ad 0)), (1, .int (nI 1)), (2, .int (nI k9)), (3, .int (nI 0)), (4, .int w), (5, .int (nI nn)), (6, .int fd), (7, .int (nI mm))]) hx hb dX0_fits_98 hl (by decide) rfl (fun ls hl => ?_)
                      refine lv_aload_n hx hb dX0_fits_100 rfl (lv_at hl 2 rfl) ?_
                      refine va_get (v := .ref (ad 2)) hx hb hts in_X0 hown hK hP 0 rfl rfl 1 (by decide) (hts _ q238) (fun _ h => h) rfl dX0_fits_101 ?_
                      refine lv_iload hx hb dX0_fits_104 (lv_at hl 1 rfl) ?_
                      refine lv_iload hx hb dX0_fits_106 (lv_at hl 0 rfl) ?_
                      refine ti_pV (As := [.int (nI mm), .int (nI ((xi.2.1 1) k9))]) (rest := []) (v := .int (ti_px (ti_pl mm ((xi.2.1 1) k9) (ti_gr (xi.1 1) (xi.2.1 1) 0 (xi.2.2 1)) 0))) S hE hP [8, 9, 10] (met_X1_placeOf l D E (ad 2) (ad 3) (ad 4) (xi.1 1) (xi.2.1 1) (xi.2.2 1) (hxi.2.2 1) (hxi.1 1) (hxi.2.1 1) mm ((xi.2.1 1) k9) (show mm ≤ 9 by omega) b97) rfl (lw_V q308 q309 q310 q67 q311) 2 rfl 8 rfl rfl (by decide +kernel) ⟨Nat.le_of_ble_eq_true rfl, Nat.le_of_ble_eq_true rfl⟩ hl.1 rfl (Nat.le_of_ble_eq_true rfl) ⟨hcz10, hsz60⟩ dX0_fits_108 ?_
                      refine lv_istore (lv' := [(10, .int (ti_px (ti_pl mm ((xi.2.1 1) k9) (ti_gr (xi.1 1) (xi.2.1 1) 0 (xi.2.2 1)) 0))), (9, .int (nI ((xi.2.1 1) k9))), (8, .int (nI mm)), (0, .ref (ad 0)), (1, .int (nI 1)), (2, .int (nI k9)), (3, .int (nI 0)), (4, .int w), (5, .int (nI nn)), (6, .int fd), (7, .int (nI mm))]) hx hb dX0_fits_111 hl (by decide) rfl (fun ls hl => ?_)
                      have hft9 : ti_ft (I 1) k9 0 mm = (mm, xi.2.1 1 k9) := by unfold ti_ft; rw [hgd]; rfl
                      have hA9 : mm ≤ 9 ∧ xi.2.1 1 k9 ≤ 9 := ⟨by omega, hxi.2.1 1 k9⟩
                      refine lv_iload hx hb dX0_fits_113 (lv_at hl 0 rfl) ?_
                      refine lv_bipush (v := (-5)) hx hb dX0_fits_115 (by decide) ?_
                      refine lv_icmp_eq (tgt := 129) hx hb dX0_fits_117 (by decide) (fun c117 => ?_) (fun c117 => ?_)
                      · skip
                        have hm := (ti_place5 (by rw [ti_gr_len]; omega)).mp c117
                        rw [show (ti_gr (xi.1 1) (xi.2.1 1) 0 (xi.2.2 1)) = I 1 from hg] at hm
                        have hcase : ti_ft (I 1) k9 0 mm = (I 1).getD k9 (0, 0) ∨ ti_ft (I 1) k9 0 mm ∉ I 1 := Or.inr (by rw [hft9]; exact hm)
                        refine lv_aload_n hx hb dX0_fits_129 rfl (lv_at hl 3 rfl) ?_
                        refine va_get (v := .ref (ad 2)) hx hb hts in_X0 hown hK hP 0 rfl rfl 1 (by decide) (hts _ q238) (fun _ h => h) rfl dX0_fits_130 ?_
                        refine va_getN (v := .ref (ad 3)) hx hb hts in_X1 hown hK hP 8 rfl rfl 0 (by decide) (hE.use q111 rfl rfl) (fun _ h => h) rfl dX0_fits_133 ?_
                        refine lv_iload_n hx hb dX0_fits_136 rfl (lv_at hl 5 rfl) ?_
                        refine lv_iload hx hb dX0_fits_137 (lv_at hl 2 rfl) ?_
                        refine tn_iast (f := xi.1 1) hx hb hK hP hD hS 9 0 rfl rfl (by omega) (by decide) dX0_fits_139 (fun H locs hP hD hS => ?_)
                        have hP : va_P D vwCl (ti_wMJRFS E ad dh du dv jh ju jv kh ku kv tx hi xi (va_up (xi.1 1) k9 mm, xi.2.1 1, xi.2.2 1) yf xs) H := hP
                        have hD : va_D A (ti_wMJRFS E ad dh du dv jh ju jv kh ku kv tx hi xi (va_up (xi.1 1) k9 mm, xi.2.1 1, xi.2.2 1) yf xs) := hD
                        refine lv_aload_n hx hb dX0_fits_140 rfl (lv_at hl 3 rfl) ?_
                        refine va_get (v := .ref (ad 2)) hx hb hts in_X0 hown hK hP 0 rfl rfl 1 (by decide) (hts _ q238) (fun _ h => h) rfl dX0_fits_141 ?_
                        refine va_getN (v := .ref (ad 4)) hx hb hts in_X1 hown hK hP 8 rfl rfl 1 (by decide) (hE.use q114 rfl rfl) (fun _ h => h) rfl dX0_fits_144 ?_
                        refine lv_iload_n hx hb dX0_fits_147 rfl (lv_at hl 5 rfl) ?_
                        refine lv_iload hx hb dX0_fits_148 (lv_at hl 1 rfl) ?_
                        refine tn_iast (f := xi.2.1 1) hx hb hK hP hD hS 10 0 rfl rfl (by omega) (by decide) dX0_fits_150 (fun H locs hP hD hS => ?_)
                        have hP : va_P D vwCl (ti_wMJRFS E ad dh du dv jh ju jv kh ku kv tx hi xi (va_up (xi.1 1) k9 mm, va_up (xi.2.1 1) k9 ((xi.2.1 1) k9), xi.2.2 1) yf xs) H := hP
                        have hD : va_D A (ti_wMJRFS E ad dh du dv jh ju jv kh ku kv tx hi xi (va_up (xi.1 1) k9 mm, va_up (xi.2.1 1) k9 ((xi.2.1 1) k9), xi.2.2 1) yf xs) := hD
                        refine lv_aload_n hx hb dX0_fits_151 rfl (lv_at hl 3 rfl) ?_
                        refine lv_iload_n hx hb dX0_fits_152 rfl (lv_at hl 4 rfl) ?_
                        refine tn_if_ne (tgt := 163) hx hb dX0_fits_153 (by decide) (by omega) (fun c153 => ?_) (fun c153 => ?_)
                        · skip
                          refine lv_aload_n hx hb dX0_fits_163 rfl (lv_at hl 3 rfl) ?_
                          refine va_get (v := .ref (ad 1)) hx hb hts in_X0 hown hK hP 0 rfl rfl 0 (by decide) (hts _ q237) (fun _ h => h) rfl dX0_fits_164 ?_
                          refine lv_iconst (v := nI 0) hx hb dX0_fits_167 (by decide) ?_
                          refine tn_aald hx hb hK hP 1 5 rfl rfl (by omega) (by decide) dX0_fits_168 ?_
                          refine ti_callX (ty_runVX (As := [.ref (jh 0)]) (rest := []) S (met_X0_areSo_J l D E htr z0 ad dh du dv jh ju jv kh ku kv tx hi xi (va_up (xi.1 1) k9 mm, va_up (xi.2.1 1) k9 ((xi.2.1 1) k9), xi.2.2 1) yf xs hxi ⟨(ti_up_le (hxi.1 1) hA9.1), (ti_up_le (hxi.2.1 1) hA9.2), (hxi.2.2 1)⟩ hyf hxs (by have h9 := hnd 0 (by decide); rw [← hJ 0 (by decide)] at h9; exact h9) H.size) (vx_cwVW 1 S.2.2.2.2 (lw_VW q841 q843 qs19 q66 q844) rfl rfl rfl (by decide +kernel) ⟨Nat.le_of_ble_eq_true rfl, Nat.le_of_ble_eq_true rfl⟩) (ti_preXV (xp := fun _ => True) hE hP hD hS rfl hZ hAz trivial [0, 1, 2, 3, 4, 5, 6, 7, 8, 9, 10, 11, 12, 13, 14, 15, 16, 17, 18, 19, 20] rfl rfl 0 rfl rfl) rfl rfl hl.1 rfl (lv_room (Nat.le_of_ble_eq_true rfl)) dX0_fits_169 ⟨show cz + 1 ≤ 10 by omega, show sz + 6 ≤ 60 by omega⟩) hP hD hS hA [0, 1, 2, 3, 4, 5, 6, 7, 8, 9, 10, 11, 12, 13, 14, 15, 16, 17, 18, 19, 20] rfl (fun _ => rfl) (fun _ => rfl) (fun ua H locs hu _ _ hP hD hS => ?_) (fun _ _ _ _ h9 => absurd h9 id)
                          have hua := hu
                          have hP : va_P D vwCl (ti_wMJRFS E ad dh du dv jh ju jv kh ku kv tx hi xi (va_up (xi.1 1) k9 mm, va_up (xi.2.1 1) k9 ((xi.2.1 1) k9), xi.2.2 1) ua xs) H := ti_asP hP [.inr 0, .inr 1, .inr 2, .inr 3, .inr 4, .inr 5, .inr 6, .inr 7, .inr 8, .inr 9, .inr 10, .inr 11, .inr 12, .inr 13, .inr 14, .inr 15, .inr 16, .inr 17, .inr 18, .inr 19, .inr 20] rfl rfl rfl rfl
                          have hD : va_D A (ti_wMJRFS E ad dh du dv jh ju jv kh ku kv tx hi xi (va_up (xi.1 1) k9 mm, va_up (xi.2.1 1) k9 ((xi.2.1 1) k9), xi.2.2 1) ua xs) := ti_asD hD [.inr 0, .inr 1, .inr 2, .inr 3, .inr 4, .inr 5, .inr 6, .inr 7, .inr 8, .inr 9, .inr 10, .inr 11, .inr 12, .inr 13, .inr 14, .inr 15, .inr 16, .inr 17, .inr 18, .inr 19, .inr 20] rfl rfl rfl rfl
                          refine W.eq (g2 := F0 m 172 ls [.int (ti_b (ti_seen (ti_gr (xi.1 0) (xi.2.1 0) 0 (xi.2.2 0)) (ti_Wl3 xs)))]) rfl ?_
                          refine tb_ne (tgt := 178) hx hb dX0_fits_172 (by decide) (fun c172 => ?_) (fun c172 => ?_)
                          · skip
                            have hdd : (decide (ti_ft (I 1) k9 0 mm = (I 1).getD k9 (0, 0)) || decide (ti_ft (I 1) k9 0 mm ∉ I 1)) = true := by
                              rcases hcase with e | e
                              · rw [decide_eq_true e]; rfl
                              · rw [decide_eq_true e]; simp
                            have hok : ti_ftok I SN 1 k9 0 mm = true := by rw [ti_ftok, hdd, if_neg (by decide), ← show (ti_gr (xi.1 0) (xi.2.1 0) 0 (xi.2.2 0)) = I 0 from hJ 0 (by decide), ← hSN]; exact c172
                            refine lv_iinc (v := nI (nn + 1)) (lv' := [(5, .int (nI (nn + 1))), (10, .int (ti_px (ti_pl mm ((xi.2.1 1) k9) (ti_gr (xi.1 1) (xi.2.1 1) 0 (xi.2.2 1)) 0))), (9, .int (nI ((xi.2.1 1) k9))), (8, .int (nI mm)), (0, .ref (ad 0)), (1, .int (nI 1)), (2, .int (nI k9)), (3, .int (nI 0)), (4, .int w), (6, .int fd), (7, .int (nI mm))]) hx hb dX0_fits_178 hl (k := 8) rfl (nI_1 nn) (by decide) rfl (fun ls hl => ?_)
                            refine lv_iload hx hb dX0_fits_181 (lv_at hl 10 rfl) ?_
                            refine lv_istore (lv' := [(6, .int (nI mm)), (5, .int (nI (nn + 1))), (10, .int (ti_px (ti_pl mm ((xi.2.1 1) k9) (ti_gr (xi.1 1) (xi.2.1 1) 0 (xi.2.2 1)) 0))), (9, .int (nI ((xi.2.1 1) k9))), (8, .int (nI mm)), (0, .ref (ad 0)), (1, .int (nI 1)), (2, .int (nI k9)), (3, .int (nI 0)), (4, .int w), (7, .int (nI mm))]) hx hb dX0_fits_183 hl (by decide) rfl (fun ls hl => ?_)
                            refine lv_iinc (v := nI mm + (-1)) (lv' := [(7, .int (nI mm + (-1))), (6, .int (nI mm)), (5, .int (nI (nn + 1))), (10, .int (ti_px (ti_pl mm ((xi.2.1 1) k9) (ti_gr (xi.1 1) (xi.2.1 1) 0 (xi.2.2 1)) 0))), (9, .int (nI ((xi.2.1 1) k9))), (8, .int (nI mm)), (0, .ref (ad 0)), (1, .int (nI 1)), (2, .int (nI k9)), (3, .int (nI 0)), (4, .int w)]) hx hb dX0_fits_185 hl (k := 10) rfl rfl (by decide) rfl (fun ls hl => ?_)
                            refine lv_goto (tgt := 41) hx hb dX0_fits_188 (by decide) ?_
                            exact ih41 mm (nn + 1) (nI mm) (cz + 1) (sz + 6) (va_up (xi.1 1) k9 mm) (va_up (xi.2.1 1) k9 ((xi.2.1 1) k9)) (xi.2.2 1) ua _ _ _ hP hD hS (by omega) (by omega) (by omega) (by omega) (by omega) (ti_up_le (hxi.1 1) hA9.1) (ti_up_le (hxi.2.1 1) hA9.2) (hxi.2.2 1) (hua) (by rw [show 10 - mm = 10 - (mm + 1) + 1 by omega, List.range'_succ, ti_ftn_s, if_pos hok, ← hft]) (lv_sub hl [6, 7, 8, 9, 10, 2, 1, 0] rfl)
                          · skip
                            have hdd : (decide (ti_ft (I 1) k9 0 mm = (I 1).getD k9 (0, 0)) || decide (ti_ft (I 1) k9 0 mm ∉ I 1)) = true := by
                              rcases hcase with e | e
                              · rw [decide_eq_true e]; rfl
                              · rw [decide_eq_true e]; simp
                            have hbad : ti_ftok I SN 1 k9 0 mm = false := by rw [ti_ftok, hdd, if_neg (by decide), ← show (ti_gr (xi.1 0) (xi.2.1 0) 0 (xi.2.2 0)) = I 0 from hJ 0 (by decide), ← hSN]; exact c172
                            refine lv_goto (tgt := 185) hx hb dX0_fits_175 (by decide) ?_
                            refine lv_iinc (v := nI mm + (-1)) (lv' := [(7, .int (nI mm + (-1))), (10, .int (ti_px (ti_pl mm ((xi.2.1 1) k9) (ti_gr (xi.1 1) (xi.2.1 1) 0 (xi.2.2 1)) 0))), (9, .int (nI ((xi.2.1 1) k9))), (8, .int (nI mm)), (0, .ref (ad 0)), (1, .int (nI 1)), (2, .int (nI k9)), (3, .int (nI 0)), (4, .int w), (5, .int (nI nn)), (6, .int fd)]) hx hb dX0_fits_185 hl (k := 10) rfl rfl (by decide) rfl (fun ls hl => ?_)
                            refine lv_goto (tgt := 41) hx hb dX0_fits_188 (by decide) ?_
                            exact ih41 mm nn fd (cz + 1) (sz + 6) (va_up (xi.1 1) k9 mm) (va_up (xi.2.1 1) k9 ((xi.2.1 1) k9)) (xi.2.2 1) ua _ _ _ hP hD hS (by omega) (by omega) (by omega) (by omega) (by omega) (ti_up_le (hxi.1 1) hA9.1) (ti_up_le (hxi.2.1 1) hA9.2) (hxi.2.2 1) (hua) (by rw [show 10 - mm = 10 - (mm + 1) + 1 by omega, List.range'_succ, ti_ftn_s, if_neg (by rw [hbad]; decide)]; exact hft) (lv_sub hl [4, 5, 6, 7, 8, 9, 10, 0] rfl)
                        · skip
                          exact absurd c153 (by decide)
                      · skip
                        refine lv_iload hx hb dX0_fits_120 (lv_at hl 0 rfl) ?_
                        refine lv_iload_n hx hb dX0_fits_122 rfl (lv_at hl 5 rfl) ?_
                        refine lv_icmp_eq (tgt := 129) hx hb dX0_fits_123 (by decide) (fun c123 => ?_) (fun c123 => ?_)
                        · skip
                          have hpk := (ti_px_k (fun j hj => by have := ti_pl_ge hj; rw [ti_gr_len] at this; omega) (by omega)).mp c123
                          have hpa := ti_pl_at hpk
                          rw [show (ti_gr (xi.1 1) (xi.2.1 1) 0 (xi.2.2 1)) = I 1 from hg, Nat.sub_zero] at hpa
                          have hcase : ti_ft (I 1) k9 0 mm = (I 1).getD k9 (0, 0) ∨ ti_ft (I 1) k9 0 mm ∉ I 1 := Or.inl (by rw [hft9, List.getD_eq_getElem?_getD, hpa]; rfl)
                          refine lv_aload_n hx hb dX0_fits_129 rfl (lv_at hl 3 rfl) ?_
                          refine va_get (v := .ref (ad 2)) hx hb hts in_X0 hown hK hP 0 rfl rfl 1 (by decide) (hts _ q238) (fun _ h => h) rfl dX0_fits_130 ?_
                          refine va_getN (v := .ref (ad 3)) hx hb hts in_X1 hown hK hP 8 rfl rfl 0 (by decide) (hE.use q111 rfl rfl) (fun _ h => h) rfl dX0_fits_133 ?_
                          refine lv_iload_n hx hb dX0_fits_136 rfl (lv_at hl 5 rfl) ?_
                          refine lv_iload hx hb dX0_fits_137 (lv_at hl 2 rfl) ?_
                          refine tn_iast (f := xi.1 1) hx hb hK hP hD hS 9 0 rfl rfl (by omega) (by decide) dX0_fits_139 (fun H locs hP hD hS => ?_)
                          have hP : va_P D vwCl (ti_wMJRFS E ad dh du dv jh ju jv kh ku kv tx hi xi (va_up (xi.1 1) k9 mm, xi.2.1 1, xi.2.2 1) yf xs) H := hP
                          have hD : va_D A (ti_wMJRFS E ad dh du dv jh ju jv kh ku kv tx hi xi (va_up (xi.1 1) k9 mm, xi.2.1 1, xi.2.2 1) yf xs) := hD
                          refine lv_aload_n hx hb dX0_fits_140 rfl (lv_at hl 3 rfl) ?_
                          refine va_get (v := .ref (ad 2)) hx hb hts in_X0 hown hK hP 0 rfl rfl 1 (by decide) (hts _ q238) (fun _ h => h) rfl dX0_fits_141 ?_
                          refine va_getN (v := .ref (ad 4)) hx hb hts in_X1 hown hK hP 8 rfl rfl 1 (by decide) (hE.use q114 rfl rfl) (fun _ h => h) rfl dX0_fits_144 ?_
                          refine lv_iload_n hx hb dX0_fits_147 rfl (lv_at hl 5 rfl) ?_
                          refine lv_iload hx hb dX0_fits_148 (lv_at hl 1 rfl) ?_
                          refine tn_iast (f := xi.2.1 1) hx hb hK hP hD hS 10 0 rfl rfl (by omega) (by decide) dX0_fits_150 (fun H locs hP hD hS => ?_)
                          have hP : va_P D vwCl (ti_wMJRFS E ad dh du dv jh ju jv kh ku kv tx hi xi (va_up (xi.1 1) k9 mm, va_up (xi.2.1 1) k9 ((xi.2.1 1) k9), xi.2.2 1) yf xs) H := hP
                          have hD : va_D A (ti_wMJRFS E ad dh du dv jh ju jv kh ku kv tx hi xi (va_up (xi.1 1) k9 mm, va_up (xi.2.1 1) k9 ((xi.2.1 1) k9), xi.2.2 1) yf xs) := hD
                          refine lv_aload_n hx hb dX0_fits_151 rfl (lv_at hl 3 rfl) ?_
                          refine lv_iload_n hx hb dX0_fits_152 rfl (lv_at hl 4 rfl) ?_
                          refine tn_if_ne (tgt := 163) hx hb dX0_fits_153 (by decide) (by omega) (fun c153 => ?_) (fun c153 => ?_)
                          · skip
                            refine lv_aload_n hx hb dX0_fits_163 rfl (lv_at hl 3 rfl) ?_
                            refine va_get (v := .ref (ad 1)) hx hb hts in_X0 hown hK hP 0 rfl rfl 0 (by decide) (hts _ q237) (fun _ h => h) rfl dX0_fits_164 ?_
                            refine lv_iconst (v := nI 0) hx hb dX0_fits_167 (by decide) ?_
                            refine tn_aald hx hb hK hP 1 5 rfl rfl (by omega) (by decide) dX0_fits_168 ?_
                            refine ti_callX (ty_runVX (As := [.ref (jh 0)]) (rest := []) S (met_X0_areSo_J l D E htr z0 ad dh du dv jh ju jv kh ku kv tx hi xi (va_up (xi.1 1) k9 mm, va_up (xi.2.1 1) k9 ((xi.2.1 1) k9), xi.2.2 1) yf xs hxi ⟨(ti_up_le (hxi.1 1) hA9.1), (ti_up_le (hxi.2.1 1) hA9.2), (hxi.2.2 1)⟩ hyf hxs (by have h9 := hnd 0 (by decide); rw [← hJ 0 (by decide)] at h9; exact h9) H.size) (vx_cwVW 1 S.2.2.2.2 (lw_VW q841 q843 qs19 q66 q844) rfl rfl rfl (by decide +kernel) ⟨Nat.le_of_ble_eq_true rfl, Nat.le_of_ble_eq_true rfl⟩) (ti_preXV (xp := fun _ => True) hE hP hD hS rfl hZ hAz trivial [0, 1, 2, 3, 4, 5, 6, 7, 8, 9, 10, 11, 12, 13, 14, 15, 16, 17, 18, 19, 20] rfl rfl 0 rfl rfl) rfl rfl hl.1 rfl (lv_room (Nat.le_of_ble_eq_true rfl)) dX0_fits_169 ⟨show cz + 1 ≤ 10 by omega, show sz + 6 ≤ 60 by omega⟩) hP hD hS hA [0, 1, 2, 3, 4, 5, 6, 7, 8, 9, 10, 11, 12, 13, 14, 15, 16, 17, 18, 19, 20] rfl (fun _ => rfl) (fun _ => rfl) (fun ua H locs hu _ _ hP hD hS => ?_) (fun _ _ _ _ h9 => absurd h9 id)
                            have hua := hu
                            have hP : va_P D vwCl (ti_wMJRFS E ad dh du dv jh ju jv kh ku kv tx hi xi (va_up (xi.1 1) k9 mm, va_up (xi.2.1 1) k9 ((xi.2.1 1) k9), xi.2.2 1) ua xs) H := ti_asP hP [.inr 0, .inr 1, .inr 2, .inr 3, .inr 4, .inr 5, .inr 6, .inr 7, .inr 8, .inr 9, .inr 10, .inr 11, .inr 12, .inr 13, .inr 14, .inr 15, .inr 16, .inr 17, .inr 18, .inr 19, .inr 20] rfl rfl rfl rfl
                            have hD : va_D A (ti_wMJRFS E ad dh du dv jh ju jv kh ku kv tx hi xi (va_up (xi.1 1) k9 mm, va_up (xi.2.1 1) k9 ((xi.2.1 1) k9), xi.2.2 1) ua xs) := ti_asD hD [.inr 0, .inr 1, .inr 2, .inr 3, .inr 4, .inr 5, .inr 6, .inr 7, .inr 8, .inr 9, .inr 10, .inr 11, .inr 12, .inr 13, .inr 14, .inr 15, .inr 16, .inr 17, .inr 18, .inr 19, .inr 20] rfl rfl rfl rfl
                            refine W.eq (g2 := F0 m 172 ls [.int (ti_b (ti_seen (ti_gr (xi.1 0) (xi.2.1 0) 0 (xi.2.2 0)) (ti_Wl3 xs)))]) rfl ?_
                            refine tb_ne (tgt := 178) hx hb dX0_fits_172 (by decide) (fun c172 => ?_) (fun c172 => ?_)
                            · skip
                              have hdd : (decide (ti_ft (I 1) k9 0 mm = (I 1).getD k9 (0, 0)) || decide (ti_ft (I 1) k9 0 mm ∉ I 1)) = true := by
                                rcases hcase with e | e
                                · rw [decide_eq_true e]; rfl
                                · rw [decide_eq_true e]; simp
                              have hok : ti_ftok I SN 1 k9 0 mm = true := by rw [ti_ftok, hdd, if_neg (by decide), ← show (ti_gr (xi.1 0) (xi.2.1 0) 0 (xi.2.2 0)) = I 0 from hJ 0 (by decide), ← hSN]; exact c172
                              refine lv_iinc (v := nI (nn + 1)) (lv' := [(5, .int (nI (nn + 1))), (10, .int (ti_px (ti_pl mm ((xi.2.1 1) k9) (ti_gr (xi.1 1) (xi.2.1 1) 0 (xi.2.2 1)) 0))), (9, .int (nI ((xi.2.1 1) k9))), (8, .int (nI mm)), (0, .ref (ad 0)), (1, .int (nI 1)), (2, .int (nI k9)), (3, .int (nI 0)), (4, .int w), (6, .int fd), (7, .int (nI mm))]) hx hb dX0_fits_178 hl (k := 8) rfl (nI_1 nn) (by decide) rfl (fun ls hl => ?_)
                              refine lv_iload hx hb dX0_fits_181 (lv_at hl 10 rfl) ?_
                              refine lv_istore (lv' := [(6, .int (nI mm)), (5, .int (nI (nn + 1))), (10, .int (ti_px (ti_pl mm ((xi.2.1 1) k9) (ti_gr (xi.1 1) (xi.2.1 1) 0 (xi.2.2 1)) 0))), (9, .int (nI ((xi.2.1 1) k9))), (8, .int (nI mm)), (0, .ref (ad 0)), (1, .int (nI 1)), (2, .int (nI k9)), (3, .int (nI 0)), (4, .int w), (7, .int (nI mm))]) hx hb dX0_fits_183 hl (by decide) rfl (fun ls hl => ?_)
                              refine lv_iinc (v := nI mm + (-1)) (lv' := [(7, .int (nI mm + (-1))), (6, .int (nI mm)), (5, .int (nI (nn + 1))), (10, .int (ti_px (ti_pl mm ((xi.2.1 1) k9) (ti_gr (xi.1 1) (xi.2.1 1) 0 (xi.2.2 1)) 0))), (9, .int (nI ((xi.2.1 1) k9))), (8, .int (nI mm)), (0, .ref (ad 0)), (1, .int (nI 1)), (2, .int (nI k9)), (3, .int (nI 0)), (4, .int w)]) hx hb dX0_fits_185 hl (k := 10) rfl rfl (by decide) rfl (fun ls hl => ?_)
                              refine lv_goto (tgt := 41) hx hb dX0_fits_188 (by decide) ?_
                              exact ih41 mm (nn + 1) (nI mm) (cz + 1) (sz + 6) (va_up (xi.1 1) k9 mm) (va_up (xi.2.1 1) k9 ((xi.2.1 1) k9)) (xi.2.2 1) ua _ _ _ hP hD hS (by omega) (by omega) (by omega) (by omega) (by omega) (ti_up_le (hxi.1 1) hA9.1) (ti_up_le (hxi.2.1 1) hA9.2) (hxi.2.2 1) (hua) (by rw [show 10 - mm = 10 - (mm + 1) + 1 by omega, List.range'_succ, ti_ftn_s, if_pos hok, ← hft]) (lv_sub hl [6, 7, 8, 9, 10, 2, 1, 0] rfl)
                            · skip
                              have hdd : (decide (ti_ft (I 1) k9 0 mm = (I 1).getD k9 (0, 0)) || decide (ti_ft (I 1) k9 0 mm ∉ I 1)) = true := by
                                rcases hcase with e | e
                                · rw [decide_eq_true e]; rfl
                                · rw [decide_eq_true e]; simp
                              have hbad : ti_ftok I SN 1 k9 0 mm = false := by rw [ti_ftok, hdd, if_neg (by decide), ← show (ti_gr (xi.1 0) (xi.2.1 0) 0 (xi.2.2 0)) = I 0 from hJ 0 (by decide), ← hSN]; exact c172
                              refine lv_goto (tgt := 185) hx hb dX0_fits_175 (by decide) ?_
                              refine lv_iinc (v := nI mm + (-1)) (lv' := [(7, .int (nI mm + (-1))), (10, .int (ti_px (ti_pl mm ((xi.2.1 1) k9) (ti_gr (xi.1 1) (xi.2.1 1) 0 (xi.2.2 1)) 0))), (9, .int (nI ((xi.2.1 1) k9))), (8, .int (nI mm)), (0, .ref (ad 0)), (1, .int (nI 1)), (2, .int (nI k9)), (3, .int (nI 0)), (4, .int w), (5, .int (nI nn)), (6, .int fd)]) hx hb dX0_fits_185 hl (k := 10) rfl rfl (by decide) rfl (fun ls hl => ?_)
                              refine lv_goto (tgt := 41) hx hb dX0_fits_188 (by decide) ?_
                              exact ih41 mm nn fd (cz + 1) (sz + 6) (va_up (xi.1 1) k9 mm) (va_up (xi.2.1 1) k9 ((xi.2.1 1) k9)) (xi.2.2 1) ua _ _ _ hP hD hS (by omega) (by omega) (by omega) (by omega) (by omega) (ti_up_le (hxi.1 1) hA9.1) (ti_up_le (hxi.2.1 1) hA9.2) (hxi.2.2 1) (hua) (by rw [show 10 - mm = 10 - (mm + 1) + 1 by omega, List.range'_succ, ti_ftn_s, if_neg (by rw [hbad]; decide)]; exact hft) (lv_sub hl [4, 5, 6, 7, 8, 9, 10, 0] rfl)
                          · skip
                            exact absurd c153 (by decide)
                        · skip
                          have hbad : ti_ftok I SN 1 k9 0 mm = false := by
                            have h1 : ¬ ti_ft (I 1) k9 0 mm = (I 1).getD k9 (0, 0) := fun e => c123 ((ti_px_k (fun j hj => by have := ti_pl_ge hj; rw [ti_gr_len] at this; omega) (by omega)).mpr (by rw [show (ti_gr (xi.1 1) (xi.2.1 1) 0 (xi.2.2 1)) = I 1 from hg]; exact ti_pl_nod (hnd 1 (by decide)) (by rw [hlen]; exact hk9) (e.symm.trans hft9)))
                            have h2 : ¬ ti_ft (I 1) k9 0 mm ∉ I 1 := fun e => c117 ((ti_place5 (by rw [ti_gr_len]; omega)).mpr (by rw [show (ti_gr (xi.1 1) (xi.2.1 1) 0 (xi.2.2 1)) = I 1 from hg]; rw [hft9] at e; exact e))
                            rw [ti_ftok, decide_eq_false h1, decide_eq_false h2]; rfl
                          refine lv_goto (tgt := 185) hx hb dX0_fits_126 (by decide) ?_
                          refine lv_iinc (v := nI mm + (-1)) (lv' := [(7, .int (nI mm + (-1))), (10, .int (ti_px (ti_pl mm ((xi.2.1 1) k9) (ti_gr (xi.1 1) (xi.2.1 1) 0 (xi.2.2 1)) 0))), (9, .int (nI ((xi.2.1 1) k9))), (8, .int (nI mm)), (0, .ref (ad 0)), (1, .int (nI 1)), (2, .int (nI k9)), (3, .int (nI 0)), (4, .int w), (5, .int (nI nn)), (6, .int fd)]) hx hb dX0_fits_185 hl (k := 10) rfl rfl (by decide) rfl (fun ls hl => ?_)
                          refine lv_goto (tgt := 41) hx hb dX0_fits_188 (by decide) ?_
                          exact ih41 mm nn fd cz sz (xi.1 1) (xi.2.1 1) (xi.2.2 1) yf _ _ _ hP hD hS (by omega) (by omega) (by omega) (by omega) (by omega) (hxi.1 1) (hxi.2.1 1) (hxi.2.2 1) (hyf) (by rw [show 10 - mm = 10 - (mm + 1) + 1 by omega, List.range'_succ, ti_ftn_s, if_neg (by rw [hbad]; decide)]; exact hft) (lv_sub hl [4, 5, 6, 7, 8, 9, 10, 0] rfl)
                    · skip
                      exact absurd c81 (by decide)
            exact L41 _ 10 0 (-5) 0 0 xr.1 xr.2.1 xr.2.2 xf _ _ _ hP hD hS (Nat.lt_succ_self _) (by omega) (by omega) (by omega) (by omega) (hxr.1) (hxr.2.1) (hxr.2.2) (hxf) (rfl) (lv_sub hl [3, 4, 5, 6, 7, 2, 1, 0] rfl)
          · skip
            refine lv_iconst (v := nI 0) hx hb dX0_fits_30 (by decide) ?_
            refine lv_istore (lv' := [(5, .int (nI 0)), (0, .ref (ad 0)), (1, .int (nI 1)), (2, .int (nI k9)), (3, .int (nI 1)), (4, .int w)]) hx hb dX0_fits_31 hl (by decide) rfl (fun ls hl => ?_)
            refine lv_bipush (v := (-5)) hx hb dX0_fits_33 (by decide) ?_
            refine lv_istore (lv' := [(6, .int ((-5))), (5, .int (nI 0)), (0, .ref (ad 0)), (1, .int (nI 1)), (2, .int (nI k9)), (3, .int (nI 1)), (4, .int w)]) hx hb dX0_fits_35 hl (by decide) rfl (fun ls hl => ?_)
            refine lv_bipush (v := nI 9) hx hb dX0_fits_37 (by decide) ?_
            refine lv_istore (lv' := [(7, .int (nI 9)), (6, .int ((-5))), (5, .int (nI 0)), (0, .ref (ad 0)), (1, .int (nI 1)), (2, .int (nI k9)), (3, .int (nI 1)), (4, .int w)]) hx hb dX0_fits_39 hl (by decide) rfl (fun ls hl => ?_)
            have hl : lv_has ls 11 [(7, .int (nI 10 + (-1))), (6, .int ((-5))), (5, .int (nI 0)), (0, .ref (ad 0)), (1, .int (nI 1)), (2, .int (nI k9)), (3, .int (nI 1)), (4, .int w)] := hl
            have L41 : ∀ (N : Nat) (v9 nn : Nat) (fd : Int32) (cz sz : Nat) (fa fb : Nat → Nat) (n1 : Nat) (yf : ti_Tf) (ls : Array Slot) (H : Heap) (locs : List Loc), va_P D vwCl (ti_wMJRFS E ad dh du dv jh ju jv kh ku kv tx hi xi (fa, fb, n1) yf xs) H → va_D A (ti_wMJRFS E ad dh du dv jh ju jv kh ku kv tx hi xi (fa, fb, n1) yf xs) → va_S A s.heap H locs → v9 < N → (v9 ≤ 10) → (nn ≤ 10 - v9) → (cz ≤ 10 - v9) → (sz ≤ 6 * (10 - v9)) → (∀ j, fa j ≤ 9) → (∀ j, fb j ≤ 9) → (n1 ≤ 6) → (ti_Fok yf) → ((nn, fd) = ti_ftn I SN 1 k9 1 (List.range' v9 (10 - v9)) (0, -5)) → lv_has ls 11 [(0, .ref (ad 0)), (1, .int (nI 1)), (2, .int (nI k9)), (3, .int (nI 1)), (4, .int w), (5, .int (nI nn)), (6, .int fd), (7, .int (nI v9 + (-1)))] → W p l e (ti_rm 8 10 60) s m ([.ref (ad 0), .int (nI 1), .int (nI k9), .int (nI 1), .int w] : List Value).toArray below meth c H locs cz sz Q (F0 m 41 ls []) := by
              intro N
              induction N with
              | zero => intro v9 nn fd cz sz fa fb n1 yf ls H locs hP hD hS h0; exact absurd h0 (Nat.not_lt_zero _)
              | succ N ih41 =>
                intro v9 nn fd cz sz fa fb n1 yf ls H locs hP hD hS hN hv9 hnn hcz hsz hfa hfb hn1 hyf hft hl
                refine lv_iload hx hb dX0_fits_41 (lv_at hl 7 rfl) ?_
                refine lv_if_lt (tgt := 191) hx hb dX0_fits_43 (by decide) (fun c43 => ?_) (fun c43 => ?_)
                · skip
                  have hv0 : v9 = 0 := ti_m1_neg hv9 c43
                  subst hv0
                  refine lv_iload hx hb dX0_fits_191 (lv_at hl 4 rfl) ?_
                  refine lv_if_ne (tgt := 201) hx hb dX0_fits_193 (by decide) (fun c193 => ?_) (fun c193 => ?_)
                  · skip
                    refine lv_iload hx hb dX0_fits_201 (lv_at hl 6 rfl) ?_
                    have hv9 : fd = (fun _ => ti_Sfits I SN (nI 1) (nI k9) (nI 1) w) (((fa, fb, n1), yf)) := by rw [ti_Sfits, if_neg (by rw [hq3, c15, show ti_bt w = true from c25]; decide), hci, hck, if_neg c193, show List.range' 0 10 = List.range' 0 (10 - 0) from rfl, ← hft]
                    refine W.eq (g2 := F0 m 203 ls [.int ((fun _ => ti_Sfits I SN (nI 1) (nI k9) (nI 1) w) (((fa, fb, n1), yf)))]) (congrArg (fun z => F0 m 203 ls [.int z]) hv9) ?_
                    exact hret _ (((fa, fb, n1), yf)) _ _ _ _ (⟨⟨hfa, hfb, hn1⟩, hyf⟩) hP trivial hS (by omega) (by omega) (fun hq hf9 => W.iret hx hb hr hq hf9 dX0_fits_203 hlk)
                  · skip
                    refine lv_iload hx hb dX0_fits_196 (lv_at hl 5 rfl) ?_
                    refine lv_goto (tgt := 203) hx hb dX0_fits_198 (by decide) ?_
                    have hv9 : (nI nn) = (fun _ => ti_Sfits I SN (nI 1) (nI k9) (nI 1) w) (((fa, fb, n1), yf)) := by rw [ti_Sfits, if_neg (by rw [hq3, c15, show ti_bt w = true from c25]; decide), hci, hck, if_pos c193, show List.range' 0 10 = List.range' 0 (10 - 0) from rfl, ← hft]
                    refine W.eq (g2 := F0 m 203 ls [.int ((fun _ => ti_Sfits I SN (nI 1) (nI k9) (nI 1) w) (((fa, fb, n1), yf)))]) (congrArg (fun z => F0 m 203 ls [.int z]) hv9) ?_
                    exact hret _ (((fa, fb, n1), yf)) _ _ _ _ (⟨⟨hfa, hfb, hn1⟩, hyf⟩) hP trivial hS (by omega) (by omega) (fun hq hf9 => W.iret hx hb hr hq hf9 dX0_fits_203 hlk)
                · skip
                  obtain ⟨mm, rfl⟩ : ∃ mm, v9 = mm + 1 := ⟨v9 - 1, by have := ti_m1_ne c43; omega⟩
                  rw [show nI (mm + 1) + (-1) = nI mm from pk_m1 mm] at hl
                  have hcz10 : cz ≤ 10 := by omega
                  have hsz60 : sz ≤ 60 := by omega
                  refine lv_aload_n hx hb dX0_fits_46 rfl (lv_at hl 0 rfl) ?_
                  refine va_get (v := .ref (ad 2)) hx hb hts in_X0 hown hK hP 0 rfl rfl 1 (by decide) (hts _ q238) (fun _ h => h) rfl dX0_fits_47 ?_
                  refine lv_aload_n hx hb dX0_fits_50 rfl (lv_at hl 0 rfl) ?_
                  refine va_get (v := .ref (ad 1)) hx hb hts in_X0 hown hK hP 0 rfl rfl 0 (by decide) (hts _ q237) (fun _ h => h) rfl dX0_fits_51 ?_
                  refine lv_iload_n hx hb dX0_fits_54 rfl (lv_at hl 1 rfl) ?_
                  refine tn_aald hx hb hK hP 1 5 rfl rfl (by omega) (by decide) dX0_fits_55 ?_
                  refine ti_mV (As := [.ref (jh 1)]) (rest := []) S hE hP hD hS hA [8, 9, 10, 5, 6, 7] rfl (met_X1_takes l D E (ad 2) (ad 3) (ad 4) fa fb n1 (jh 1) (ju 1) (jv 1) (xi.1 1) (xi.2.1 1) (xi.2.2 1)) rfl (fun _ => rfl) (lw_V q347 q317 q318 q67 q319) 1 rfl 8 rfl rfl (by decide +kernel) ⟨Nat.le_of_ble_eq_true rfl, Nat.le_of_ble_eq_true rfl⟩ hl.1 rfl (Nat.le_of_ble_eq_true rfl) ⟨hcz10, hsz60⟩ dX0_fits_56 (fun _ H locs hu hP hD hS => ?_)
                  have hP : va_P D vwCl (ti_wMJRFS E ad dh du dv jh ju jv kh ku kv tx hi xi (xi.1 1, xi.2.1 1, xi.2.2 1) yf xs) H := hP
                  have hD : va_D A (ti_wMJRFS E ad dh du dv jh ju jv kh ku kv tx hi xi (xi.1 1, xi.2.1 1, xi.2.2 1) yf xs) := hD
                  refine W.eq (g2 := F0 m 59 ls []) rfl ?_
                  refine lv_iload_n hx hb dX0_fits_59 rfl (lv_at hl 3 rfl) ?_
                  refine tn_if_ne (tgt := 68) hx hb dX0_fits_60 (by decide) (by omega) (fun c60 => ?_) (fun c60 => ?_)
                  · skip
                    refine lv_aload_n hx hb dX0_fits_68 rfl (lv_at hl 0 rfl) ?_
                    refine va_get (v := .ref (ad 2)) hx hb hts in_X0 hown hK hP 0 rfl rfl 1 (by decide) (hts _ q238) (fun _ h => h) rfl dX0_fits_69 ?_
                    refine va_getN (v := .ref (ad 3)) hx hb hts in_X1 hown hK hP 8 rfl rfl 0 (by decide) (hE.use q111 rfl rfl) (fun _ h => h) rfl dX0_fits_72 ?_
                    refine lv_iload_n hx hb dX0_fits_75 rfl (lv_at hl 2 rfl) ?_
                    refine tn_iald (f := xi.1 1) hx hb hK hP 9 0 rfl rfl (by omega) (by decide) dX0_fits_76 ?_
                    have b76 := (hxi.1 1) k9
                    refine lv_istore (lv' := [(8, .int (nI ((xi.1 1) k9))), (0, .ref (ad 0)), (1, .int (nI 1)), (2, .int (nI k9)), (3, .int (nI 1)), (4, .int w), (5, .int (nI nn)), (6, .int fd), (7, .int (nI mm))]) hx hb dX0_fits_77 hl (by decide) rfl (fun ls hl => ?_)
                    refine lv_iload_n hx hb dX0_fits_79 rfl (lv_at hl 4 rfl) ?_
                    refine lv_iconst (v := nI 1) hx hb dX0_fits_80 (by decide) ?_
                    refine tn_ne (tgt := 89) hx hb dX0_fits_81 (by decide) (by omega) (by omega) (fun c81 => ?_) (fun c81 => ?_)
                    · skip
                      exact absurd rfl c81
                    · skip
                      refine lv_iload hx hb dX0_fits_84 (lv_at hl 8 rfl) ?_
                      refine lv_goto (tgt := 98) hx hb dX0_fits_86 (by decide) ?_
                      refine lv_istore (lv' := [(9, .int (nI mm)), (8, .int (nI ((xi.1 1) k9))), (0, .ref (ad 0)), (1, .int (nI 1)), (2, .int (nI k9)), (3, .int (nI 1)), (4, .int w), (5, .int (nI nn)), (6, .int fd), (7, .int (nI mm))]) hx hb dX0_fits_98 hl (by decide) rfl (fun ls hl => ?_)
                      refine lv_aload_n hx hb dX0_fits_100 rfl (lv_at hl 2 rfl) ?_
                      refine va_get (v := .ref (ad 2)) hx hb hts in_X0 hown hK hP 0 rfl rfl 1 (by decide) (hts _ q238) (fun _ h => h) rfl dX0_fits_101 ?_
                      refine lv_iload hx hb dX0_fits_104 (lv_at hl 1 rfl) ?_
                      refine lv_iload hx hb dX0_fits_106 (lv_at hl 0 rfl) ?_
                      refine ti_pV (As := [.int (nI ((xi.1 1) k9)), .int (nI mm)]) (rest := []) (v := .int (ti_px (ti_pl ((xi.1 1) k9) mm (ti_gr (xi.1 1) (xi.2.1 1) 0 (xi.2.2 1)) 0))) S hE hP [8, 9, 10] (met_X1_placeOf l D E (ad 2) (ad 3) (ad 4) (xi.1 1) (xi.2.1 1) (xi.2.2 1) (hxi.2.2 1) (hxi.1 1) (hxi.2.1 1) ((xi.1 1) k9) mm b76 (show mm ≤ 9 by omega)) rfl (lw_V q308 q309 q310 q67 q311) 2 rfl 8 rfl rfl (by decide +kernel) ⟨Nat.le_of_ble_eq_true rfl, Nat.le_of_ble_eq_true rfl⟩ hl.1 rfl (Nat.le_of_ble_eq_true rfl) ⟨hcz10, hsz60⟩ dX0_fits_108 ?_
                      refine lv_istore (lv' := [(10, .int (ti_px (ti_pl ((xi.1 1) k9) mm (ti_gr (xi.1 1) (xi.2.1 1) 0 (xi.2.2 1)) 0))), (9, .int (nI mm)), (8, .int (nI ((xi.1 1) k9))), (0, .ref (ad 0)), (1, .int (nI 1)), (2, .int (nI k9)), (3, .int (nI 1)), (4, .int w), (5, .int (nI nn)), (6, .int fd), (7, .int (nI mm))]) hx hb dX0_fits_111 hl (by decide) rfl (fun ls hl => ?_)
                      have hft9 : ti_ft (I 1) k9 1 mm = (xi.1 1 k9, mm) := by unfold ti_ft; rw [hgd]; rfl
                      have hA9 : xi.1 1 k9 ≤ 9 ∧ mm ≤ 9 := ⟨hxi.1 1 k9, by omega⟩
                      refine lv_iload hx hb dX0_fits_113 (lv_at hl 0 rfl) ?_
                      refine lv_bipush (v := (-5)) hx hb dX0_fits_115 (by decide) ?_
                      refine lv_icmp_eq (tgt := 129) hx hb dX0_fits_117 (by decide) (fun c117 => ?_) (fun c117 => ?_)
                      · skip
                        have hm := (ti_place5 (by rw [ti_gr_len]; omega)).mp c117
                        rw [show (ti_gr (xi.1 1) (xi.2.1 1) 0 (xi.2.2 1)) = I 1 from hg] at hm
                        have hcase : ti_ft (I 1) k9 1 mm = (I 1).getD k9 (0, 0) ∨ ti_ft (I 1) k9 1 mm ∉ I 1 := Or.inr (by rw [hft9]; exact hm)
                        refine lv_aload_n hx hb dX0_fits_129 rfl (lv_at hl 3 rfl) ?_
                        refine va_get (v := .ref (ad 2)) hx hb hts in_X0 hown hK hP 0 rfl rfl 1 (by decide) (hts _ q238) (fun _ h => h) rfl dX0_fits_130 ?_
                        refine va_getN (v := .ref (ad 3)) hx hb hts in_X1 hown hK hP 8 rfl rfl 0 (by decide) (hE.use q111 rfl rfl) (fun _ h => h) rfl dX0_fits_133 ?_
                        refine lv_iload_n hx hb dX0_fits_136 rfl (lv_at hl 5 rfl) ?_
                        refine lv_iload hx hb dX0_fits_137 (lv_at hl 2 rfl) ?_
                        refine tn_iast (f := xi.1 1) hx hb hK hP hD hS 9 0 rfl rfl (by omega) (by decide) dX0_fits_139 (fun H locs hP hD hS => ?_)
                        have hP : va_P D vwCl (ti_wMJRFS E ad dh du dv jh ju jv kh ku kv tx hi xi (va_up (xi.1 1) k9 ((xi.1 1) k9), xi.2.1 1, xi.2.2 1) yf xs) H := hP
                        have hD : va_D A (ti_wMJRFS E ad dh du dv jh ju jv kh ku kv tx hi xi (va_up (xi.1 1) k9 ((xi.1 1) k9), xi.2.1 1, xi.2.2 1) yf xs) := hD
                        refine lv_aload_n hx hb dX0_fits_140 rfl (lv_at hl 3 rfl) ?_
                        refine va_get (v := .ref (ad 2)) hx hb hts in_X0 hown hK hP 0 rfl rfl 1 (by decide) (hts _ q238) (fun _ h => h) rfl dX0_fits_141 ?_
                        refine va_getN (v := .ref (ad 4)) hx hb hts in_X1 hown hK hP 8 rfl rfl 1 (by decide) (hE.use q114 rfl rfl) (fun _ h => h) rfl dX0_fits_144 ?_
                        refine lv_iload_n hx hb dX0_fits_147 rfl (lv_at hl 5 rfl) ?_
                        refine lv_iload hx hb dX0_fits_148 (lv_at hl 1 rfl) ?_
                        refine tn_iast (f := xi.2.1 1) hx hb hK hP hD hS 10 0 rfl rfl (by omega) (by decide) dX0_fits_150 (fun H locs hP hD hS => ?_)
                        have hP : va_P D vwCl (ti_wMJRFS E ad dh du dv jh ju jv kh ku kv tx hi xi (va_up (xi.1 1) k9 ((xi.1 1) k9), va_up (xi.2.1 1) k9 mm, xi.2.2 1) yf xs) H := hP
                        have hD : va_D A (ti_wMJRFS E ad dh du dv jh ju jv kh ku kv tx hi xi (va_up (xi.1 1) k9 ((xi.1 1) k9), va_up (xi.2.1 1) k9 mm, xi.2.2 1) yf xs) := hD
                        refine lv_aload_n hx hb dX0_fits_151 rfl (lv_at hl 3 rfl) ?_
                        refine lv_iload_n hx hb dX0_fits_152 rfl (lv_at hl 4 rfl) ?_
                        refine tn_if_ne (tgt := 163) hx hb dX0_fits_153 (by decide) (by omega) (fun c153 => ?_) (fun c153 => ?_)
                        · skip
                          refine lv_aload_n hx hb dX0_fits_163 rfl (lv_at hl 3 rfl) ?_
                          refine va_get (v := .ref (ad 1)) hx hb hts in_X0 hown hK hP 0 rfl rfl 0 (by decide) (hts _ q237) (fun _ h => h) rfl dX0_fits_164 ?_
                          refine lv_iconst (v := nI 0) hx hb dX0_fits_167 (by decide) ?_
                          refine tn_aald hx hb hK hP 1 5 rfl rfl (by omega) (by decide) dX0_fits_168 ?_
                          refine ti_callX (ty_runVX (As := [.ref (jh 0)]) (rest := []) S (met_X0_areSo_J l D E htr z0 ad dh du dv jh ju jv kh ku kv tx hi xi (va_up (xi.1 1) k9 ((xi.1 1) k9), va_up (xi.2.1 1) k9 mm, xi.2.2 1) yf xs hxi ⟨(ti_up_le (hxi.1 1) hA9.1), (ti_up_le (hxi.2.1 1) hA9.2), (hxi.2.2 1)⟩ hyf hxs (by have h9 := hnd 0 (by decide); rw [← hJ 0 (by decide)] at h9; exact h9) H.size) (vx_cwVW 1 S.2.2.2.2 (lw_VW q841 q843 qs19 q66 q844) rfl rfl rfl (by decide +kernel) ⟨Nat.le_of_ble_eq_true rfl, Nat.le_of_ble_eq_true rfl⟩) (ti_preXV (xp := fun _ => True) hE hP hD hS rfl hZ hAz trivial [0, 1, 2, 3, 4, 5, 6, 7, 8, 9, 10, 11, 12, 13, 14, 15, 16, 17, 18, 19, 20] rfl rfl 0 rfl rfl) rfl rfl hl.1 rfl (lv_room (Nat.le_of_ble_eq_true rfl)) dX0_fits_169 ⟨show cz + 1 ≤ 10 by omega, show sz + 6 ≤ 60 by omega⟩) hP hD hS hA [0, 1, 2, 3, 4, 5, 6, 7, 8, 9, 10, 11, 12, 13, 14, 15, 16, 17, 18, 19, 20] rfl (fun _ => rfl) (fun _ => rfl) (fun ua H locs hu _ _ hP hD hS => ?_) (fun _ _ _ _ h9 => absurd h9 id)
                          have hua := hu
                          have hP : va_P D vwCl (ti_wMJRFS E ad dh du dv jh ju jv kh ku kv tx hi xi (va_up (xi.1 1) k9 ((xi.1 1) k9), va_up (xi.2.1 1) k9 mm, xi.2.2 1) ua xs) H := ti_asP hP [.inr 0, .inr 1, .inr 2, .inr 3, .inr 4, .inr 5, .inr 6, .inr 7, .inr 8, .inr 9, .inr 10, .inr 11, .inr 12, .inr 13, .inr 14, .inr 15, .inr 16, .inr 17, .inr 18, .inr 19, .inr 20] rfl rfl rfl rfl
                          have hD : va_D A (ti_wMJRFS E ad dh du dv jh ju jv kh ku kv tx hi xi (va_up (xi.1 1) k9 ((xi.1 1) k9), va_up (xi.2.1 1) k9 mm, xi.2.2 1) ua xs) := ti_asD hD [.inr 0, .inr 1, .inr 2, .inr 3, .inr 4, .inr 5, .inr 6, .inr 7, .inr 8, .inr 9, .inr 10, .inr 11, .inr 12, .inr 13, .inr 14, .inr 15, .inr 16, .inr 17, .inr 18, .inr 19, .inr 20] rfl rfl rfl rfl
                          refine W.eq (g2 := F0 m 172 ls [.int (ti_b (ti_seen (ti_gr (xi.1 0) (xi.2.1 0) 0 (xi.2.2 0)) (ti_Wl3 xs)))]) rfl ?_
                          refine tb_ne (tgt := 178) hx hb dX0_fits_172 (by decide) (fun c172 => ?_) (fun c172 => ?_)
                          · skip
                            have hdd : (decide (ti_ft (I 1) k9 1 mm = (I 1).getD k9 (0, 0)) || decide (ti_ft (I 1) k9 1 mm ∉ I 1)) = true := by
                              rcases hcase with e | e
                              · rw [decide_eq_true e]; rfl
                              · rw [decide_eq_true e]; simp
                            have hok : ti_ftok I SN 1 k9 1 mm = true := by rw [ti_ftok, hdd, if_neg (by decide), ← show (ti_gr (xi.1 0) (xi.2.1 0) 0 (xi.2.2 0)) = I 0 from hJ 0 (by decide), ← hSN]; exact c172
                            refine lv_iinc (v := nI (nn + 1)) (lv' := [(5, .int (nI (nn + 1))), (10, .int (ti_px (ti_pl ((xi.1 1) k9) mm (ti_gr (xi.1 1) (xi.2.1 1) 0 (xi.2.2 1)) 0))), (9, .int (nI mm)), (8, .int (nI ((xi.1 1) k9))), (0, .ref (ad 0)), (1, .int (nI 1)), (2, .int (nI k9)), (3, .int (nI 1)), (4, .int w), (6, .int fd), (7, .int (nI mm))]) hx hb dX0_fits_178 hl (k := 8) rfl (nI_1 nn) (by decide) rfl (fun ls hl => ?_)
                            refine lv_iload hx hb dX0_fits_181 (lv_at hl 10 rfl) ?_
                            refine lv_istore (lv' := [(6, .int (nI mm)), (5, .int (nI (nn + 1))), (10, .int (ti_px (ti_pl ((xi.1 1) k9) mm (ti_gr (xi.1 1) (xi.2.1 1) 0 (xi.2.2 1)) 0))), (9, .int (nI mm)), (8, .int (nI ((xi.1 1) k9))), (0, .ref (ad 0)), (1, .int (nI 1)), (2, .int (nI k9)), (3, .int (nI 1)), (4, .int w), (7, .int (nI mm))]) hx hb dX0_fits_183 hl (by decide) rfl (fun ls hl => ?_)
                            refine lv_iinc (v := nI mm + (-1)) (lv' := [(7, .int (nI mm + (-1))), (6, .int (nI mm)), (5, .int (nI (nn + 1))), (10, .int (ti_px (ti_pl ((xi.1 1) k9) mm (ti_gr (xi.1 1) (xi.2.1 1) 0 (xi.2.2 1)) 0))), (9, .int (nI mm)), (8, .int (nI ((xi.1 1) k9))), (0, .ref (ad 0)), (1, .int (nI 1)), (2, .int (nI k9)), (3, .int (nI 1)), (4, .int w)]) hx hb dX0_fits_185 hl (k := 10) rfl rfl (by decide) rfl (fun ls hl => ?_)
                            refine lv_goto (tgt := 41) hx hb dX0_fits_188 (by decide) ?_
                            exact ih41 mm (nn + 1) (nI mm) (cz + 1) (sz + 6) (va_up (xi.1 1) k9 ((xi.1 1) k9)) (va_up (xi.2.1 1) k9 mm) (xi.2.2 1) ua _ _ _ hP hD hS (by omega) (by omega) (by omega) (by omega) (by omega) (ti_up_le (hxi.1 1) hA9.1) (ti_up_le (hxi.2.1 1) hA9.2) (hxi.2.2 1) (hua) (by rw [show 10 - mm = 10 - (mm + 1) + 1 by omega, List.range'_succ, ti_ftn_s, if_pos hok, ← hft]) (lv_sub hl [6, 7, 8, 9, 10, 2, 1, 0] rfl)
                          · skip
                            have hdd : (decide (ti_ft (I 1) k9 1 mm = (I 1).getD k9 (0, 0)) || decide (ti_ft (I 1) k9 1 mm ∉ I 1)) = true := by
                              rcases hcase with e | e
                              · rw [decide_eq_true e]; rfl
                              · rw [decide_eq_true e]; simp
                            have hbad : ti_ftok I SN 1 k9 1 mm = false := by rw [ti_ftok, hdd, if_neg (by decide), ← show (ti_gr (xi.1 0) (xi.2.1 0) 0 (xi.2.2 0)) = I 0 from hJ 0 (by decide), ← hSN]; exact c172
                            refine lv_goto (tgt := 185) hx hb dX0_fits_175 (by decide) ?_
                            refine lv_iinc (v := nI mm + (-1)) (lv' := [(7, .int (nI mm + (-1))), (10, .int (ti_px (ti_pl ((xi.1 1) k9) mm (ti_gr (xi.1 1) (xi.2.1 1) 0 (xi.2.2 1)) 0))), (9, .int (nI mm)), (8, .int (nI ((xi.1 1) k9))), (0, .ref (ad 0)), (1, .int (nI 1)), (2, .int (nI k9)), (3, .int (nI 1)), (4, .int w), (5, .int (nI nn)), (6, .int fd)]) hx hb dX0_fits_185 hl (k := 10) rfl rfl (by decide) rfl (fun ls hl => ?_)
                            refine lv_goto (tgt := 41) hx hb dX0_fits_188 (by decide) ?_
                            exact ih41 mm nn fd (cz + 1) (sz + 6) (va_up (xi.1 1) k9 ((xi.1 1) k9)) (va_up (xi.2.1 1) k9 mm) (xi.2.2 1) ua _ _ _ hP hD hS (by omega) (by omega) (by omega) (by omega) (by omega) (ti_up_le (hxi.1 1) hA9.1) (ti_up_le (hxi.2.1 1) hA9.2) (hxi.2.2 1) (hua) (by rw [show 10 - mm = 10 - (mm + 1) + 1 by omega, List.range'_succ, ti_ftn_s, if_neg (by rw [hbad]; decide)]; exact hft) (lv_sub hl [4, 5, 6, 7, 8, 9, 10, 0] rfl)
                        · skip
                          exact absurd c153 (by decide)
                      · skip
                        refine lv_iload hx hb dX0_fits_120 (lv_at hl 0 rfl) ?_
                        refine lv_iload_n hx hb dX0_fits_122 rfl (lv_at hl 5 rfl) ?_
                        refine lv_icmp_eq (tgt := 129) hx hb dX0_fits_123 (by decide) (fun c123 => ?_) (fun c123 => ?_)
                        · skip
                          have hpk := (ti_px_k (fun j hj => by have := ti_pl_ge hj; rw [ti_gr_len] at this; omega) (by omega)).mp c123
                          have hpa := ti_pl_at hpk
                          rw [show (ti_gr (xi.1 1) (xi.2.1 1) 0 (xi.2.2 1)) = I 1 from hg, Nat.sub_zero] at hpa
                          have hcase : ti_ft (I 1) k9 1 mm = (I 1).getD k9 (0, 0) ∨ ti_ft (I 1) k9 1 mm ∉ I 1 := Or.inl (by rw [hft9, List.getD_eq_getElem?_getD, hpa]; rfl)
                          refine lv_aload_n hx hb dX0_fits_129 rfl (lv_at hl 3 rfl) ?_
                          refine va_get (v := .ref (ad 2)) hx hb hts in_X0 hown hK hP 0 rfl rfl 1 (by decide) (hts _ q238) (fun _ h => h) rfl dX0_fits_130 ?_
                          refine va_getN (v := .ref (ad 3)) hx hb hts in_X1 hown hK hP 8 rfl rfl 0 (by decide) (hE.use q111 rfl rfl) (fun _ h => h) rfl dX0_fits_133 ?_
                          refine lv_iload_n hx hb dX0_fits_136 rfl (lv_at hl 5 rfl) ?_
                          refine lv_iload hx hb dX0_fits_137 (lv_at hl 2 rfl) ?_
                          refine tn_iast (f := xi.1 1) hx hb hK hP hD hS 9 0 rfl rfl (by omega) (by decide) dX0_fits_139 (fun H locs hP hD hS => ?_)
                          have hP : va_P D vwCl (ti_wMJRFS E ad dh du dv jh ju jv kh ku kv tx hi xi (va_up (xi.1 1) k9 ((xi.1 1) k9), xi.2.1 1, xi.2.2 1) yf xs) H := hP
                          have hD : va_D A (ti_wMJRFS E ad dh du dv jh ju jv kh ku kv tx hi xi (va_up (xi.1 1) k9 ((xi.1 1) k9), xi.2.1 1, xi.2.2 1) yf xs) := hD
                          refine lv_aload_n hx hb dX0_fits_140 rfl (lv_at hl 3 rfl) ?_
                          refine va_get (v := .ref (ad 2)) hx hb hts in_X0 hown hK hP 0 rfl rfl 1 (by decide) (hts _ q238) (fun _ h => h) rfl dX0_fits_141 ?_
                          refine va_getN (v := .ref (ad 4)) hx hb hts in_X1 hown hK hP 8 rfl rfl 1 (by decide) (hE.use q114 rfl rfl) (fun _ h => h) rfl dX0_fits_144 ?_
                          refine lv_iload_n hx hb dX0_fits_147 rfl (lv_at hl 5 rfl) ?_
                          refine lv_iload hx hb dX0_fits_148 (lv_at hl 1 rfl) ?_
                          refine tn_iast (f := xi.2.1 1) hx hb hK hP hD hS 10 0 rfl rfl (by omega) (by decide) dX0_fits_150 (fun H locs hP hD hS => ?_)
                          have hP : va_P D vwCl (ti_wMJRFS E ad dh du dv jh ju jv kh ku kv tx hi xi (va_up (xi.1 1) k9 ((xi.1 1) k9), va_up (xi.2.1 1) k9 mm, xi.2.2 1) yf xs) H := hP
                          have hD : va_D A (ti_wMJRFS E ad dh du dv jh ju jv kh ku kv tx hi xi (va_up (xi.1 1) k9 ((xi.1 1) k9), va_up (xi.2.1 1) k9 mm, xi.2.2 1) yf xs) := hD
                          refine lv_aload_n hx hb dX0_fits_151 rfl (lv_at hl 3 rfl) ?_
                          refine lv_iload_n hx hb dX0_fits_152 rfl (lv_at hl 4 rfl) ?_
                          refine tn_if_ne (tgt := 163) hx hb dX0_fits_153 (by decide) (by omega) (fun c153 => ?_) (fun c153 => ?_)
                          · skip
                            refine lv_aload_n hx hb dX0_fits_163 rfl (lv_at hl 3 rfl) ?_
                            refine va_get (v := .ref (ad 1)) hx hb hts in_X0 hown hK hP 0 rfl rfl 0 (by decide) (hts _ q237) (fun _ h => h) rfl dX0_fits_164 ?_
                            refine lv_iconst (v := nI 0) hx hb dX0_fits_167 (by decide) ?_
                            refine tn_aald hx hb hK hP 1 5 rfl rfl (by omega) (by decide) dX0_fits_168 ?_
                            refine ti_callX (ty_runVX (As := [.ref (jh 0)]) (rest := []) S (met_X0_areSo_J l D E htr z0 ad dh du dv jh ju jv kh ku kv tx hi xi (va_up (xi.1 1) k9 ((xi.1 1) k9), va_up (xi.2.1 1) k9 mm, xi.2.2 1) yf xs hxi ⟨(ti_up_le (hxi.1 1) hA9.1), (ti_up_le (hxi.2.1 1) hA9.2), (hxi.2.2 1)⟩ hyf hxs (by have h9 := hnd 0 (by decide); rw [← hJ 0 (by decide)] at h9; exact h9) H.size) (vx_cwVW 1 S.2.2.2.2 (lw_VW q841 q843 qs19 q66 q844) rfl rfl rfl (by decide +kernel) ⟨Nat.le_of_ble_eq_true rfl, Nat.le_of_ble_eq_true rfl⟩) (ti_preXV (xp := fun _ => True) hE hP hD hS rfl hZ hAz trivial [0, 1, 2, 3, 4, 5, 6, 7, 8, 9, 10, 11, 12, 13, 14, 15, 16, 17, 18, 19, 20] rfl rfl 0 rfl rfl) rfl rfl hl.1 rfl (lv_room (Nat.le_of_ble_eq_true rfl)) dX0_fits_169 ⟨show cz + 1 ≤ 10 by omega, show sz + 6 ≤ 60 by omega⟩) hP hD hS hA [0, 1, 2, 3, 4, 5, 6, 7, 8, 9, 10, 11, 12, 13, 14, 15, 16, 17, 18, 19, 20] rfl (fun _ => rfl) (fun _ => rfl) (fun ua H locs hu _ _ hP hD hS => ?_) (fun _ _ _ _ h9 => absurd h9 id)
                            have hua := hu
                            have hP : va_P D vwCl (ti_wMJRFS E ad dh du dv jh ju jv kh ku kv tx hi xi (va_up (xi.1 1) k9 ((xi.1 1) k9), va_up (xi.2.1 1) k9 mm, xi.2.2 1) ua xs) H := ti_asP hP [.inr 0, .inr 1, .inr 2, .inr 3, .inr 4, .inr 5, .inr 6, .inr 7, .inr 8, .inr 9, .inr 10, .inr 11, .inr 12, .inr 13, .inr 14, .inr 15, .inr 16, .inr 17, .inr 18, .inr 19, .inr 20] rfl rfl rfl rfl
                            have hD : va_D A (ti_wMJRFS E ad dh du dv jh ju jv kh ku kv tx hi xi (va_up (xi.1 1) k9 ((xi.1 1) k9), va_up (xi.2.1 1) k9 mm, xi.2.2 1) ua xs) := ti_asD hD [.inr 0, .inr 1, .inr 2, .inr 3, .inr 4, .inr 5, .inr 6, .inr 7, .inr 8, .inr 9, .inr 10, .inr 11, .inr 12, .inr 13, .inr 14, .inr 15, .inr 16, .inr 17, .inr 18, .inr 19, .inr 20] rfl rfl rfl rfl
                            refine W.eq (g2 := F0 m 172 ls [.int (ti_b (ti_seen (ti_gr (xi.1 0) (xi.2.1 0) 0 (xi.2.2 0)) (ti_Wl3 xs)))]) rfl ?_
                            refine tb_ne (tgt := 178) hx hb dX0_fits_172 (by decide) (fun c172 => ?_) (fun c172 => ?_)
                            · skip
                              have hdd : (decide (ti_ft (I 1) k9 1 mm = (I 1).getD k9 (0, 0)) || decide (ti_ft (I 1) k9 1 mm ∉ I 1)) = true := by
                                rcases hcase with e | e
                                · rw [decide_eq_true e]; rfl
                                · rw [decide_eq_true e]; simp
                              have hok : ti_ftok I SN 1 k9 1 mm = true := by rw [ti_ftok, hdd, if_neg (by decide), ← show (ti_gr (xi.1 0) (xi.2.1 0) 0 (xi.2.2 0)) = I 0 from hJ 0 (by decide), ← hSN]; exact c172
                              refine lv_iinc (v := nI (nn + 1)) (lv' := [(5, .int (nI (nn + 1))), (10, .int (ti_px (ti_pl ((xi.1 1) k9) mm (ti_gr (xi.1 1) (xi.2.1 1) 0 (xi.2.2 1)) 0))), (9, .int (nI mm)), (8, .int (nI ((xi.1 1) k9))), (0, .ref (ad 0)), (1, .int (nI 1)), (2, .int (nI k9)), (3, .int (nI 1)), (4, .int w), (6, .int fd), (7, .int (nI mm))]) hx hb dX0_fits_178 hl (k := 8) rfl (nI_1 nn) (by decide) rfl (fun ls hl => ?_)
                              refine lv_iload hx hb dX0_fits_181 (lv_at hl 10 rfl) ?_
                              refine lv_istore (lv' := [(6, .int (nI mm)), (5, .int (nI (nn + 1))), (10, .int (ti_px (ti_pl ((xi.1 1) k9) mm (ti_gr (xi.1 1) (xi.2.1 1) 0 (xi.2.2 1)) 0))), (9, .int (nI mm)), (8, .int (nI ((xi.1 1) k9))), (0, .ref (ad 0)), (1, .int (nI 1)), (2, .int (nI k9)), (3, .int (nI 1)), (4, .int w), (7, .int (nI mm))]) hx hb dX0_fits_183 hl (by decide) rfl (fun ls hl => ?_)
                              refine lv_iinc (v := nI mm + (-1)) (lv' := [(7, .int (nI mm + (-1))), (6, .int (nI mm)), (5, .int (nI (nn + 1))), (10, .int (ti_px (ti_pl ((xi.1 1) k9) mm (ti_gr (xi.1 1) (xi.2.1 1) 0 (xi.2.2 1)) 0))), (9, .int (nI mm)), (8, .int (nI ((xi.1 1) k9))), (0, .ref (ad 0)), (1, .int (nI 1)), (2, .int (nI k9)), (3, .int (nI 1)), (4, .int w)]) hx hb dX0_fits_185 hl (k := 10) rfl rfl (by decide) rfl (fun ls hl => ?_)
                              refine lv_goto (tgt := 41) hx hb dX0_fits_188 (by decide) ?_
                              exact ih41 mm (nn + 1) (nI mm) (cz + 1) (sz + 6) (va_up (xi.1 1) k9 ((xi.1 1) k9)) (va_up (xi.2.1 1) k9 mm) (xi.2.2 1) ua _ _ _ hP hD hS (by omega) (by omega) (by omega) (by omega) (by omega) (ti_up_le (hxi.1 1) hA9.1) (ti_up_le (hxi.2.1 1) hA9.2) (hxi.2.2 1) (hua) (by rw [show 10 - mm = 10 - (mm + 1) + 1 by omega, List.range'_succ, ti_ftn_s, if_pos hok, ← hft]) (lv_sub hl [6, 7, 8, 9, 10, 2, 1, 0] rfl)
                            · skip
                              have hdd : (decide (ti_ft (I 1) k9 1 mm = (I 1).getD k9 (0, 0)) || decide (ti_ft (I 1) k9 1 mm ∉ I 1)) = true := by
                                rcases hcase with e | e
                                · rw [decide_eq_true e]; rfl
                                · rw [decide_eq_true e]; simp
                              have hbad : ti_ftok I SN 1 k9 1 mm = false := by rw [ti_ftok, hdd, if_neg (by decide), ← show (ti_gr (xi.1 0) (xi.2.1 0) 0 (xi.2.2 0)) = I 0 from hJ 0 (by decide), ← hSN]; exact c172
                              refine lv_goto (tgt := 185) hx hb dX0_fits_175 (by decide) ?_
                              refine lv_iinc (v := nI mm + (-1)) (lv' := [(7, .int (nI mm + (-1))), (10, .int (ti_px (ti_pl ((xi.1 1) k9) mm (ti_gr (xi.1 1) (xi.2.1 1) 0 (xi.2.2 1)) 0))), (9, .int (nI mm)), (8, .int (nI ((xi.1 1) k9))), (0, .ref (ad 0)), (1, .int (nI 1)), (2, .int (nI k9)), (3, .int (nI 1)), (4, .int w), (5, .int (nI nn)), (6, .int fd)]) hx hb dX0_fits_185 hl (k := 10) rfl rfl (by decide) rfl (fun ls hl => ?_)
                              refine lv_goto (tgt := 41) hx hb dX0_fits_188 (by decide) ?_
                              exact ih41 mm nn fd (cz + 1) (sz + 6) (va_up (xi.1 1) k9 ((xi.1 1) k9)) (va_up (xi.2.1 1) k9 mm) (xi.2.2 1) ua _ _ _ hP hD hS (by omega) (by omega) (by omega) (by omega) (by omega) (ti_up_le (hxi.1 1) hA9.1) (ti_up_le (hxi.2.1 1) hA9.2) (hxi.2.2 1) (hua) (by rw [show 10 - mm = 10 - (mm + 1) + 1 by omega, List.range'_succ, ti_ftn_s, if_neg (by rw [hbad]; decide)]; exact hft) (lv_sub hl [4, 5, 6, 7, 8, 9, 10, 0] rfl)
                          · skip
                            exact absurd c153 (by decide)
                        · skip
                          have hbad : ti_ftok I SN 1 k9 1 mm = false := by
                            have h1 : ¬ ti_ft (I 1) k9 1 mm = (I 1).getD k9 (0, 0) := fun e => c123 ((ti_px_k (fun j hj => by have := ti_pl_ge hj; rw [ti_gr_len] at this; omega) (by omega)).mpr (by rw [show (ti_gr (xi.1 1) (xi.2.1 1) 0 (xi.2.2 1)) = I 1 from hg]; exact ti_pl_nod (hnd 1 (by decide)) (by rw [hlen]; exact hk9) (e.symm.trans hft9)))
                            have h2 : ¬ ti_ft (I 1) k9 1 mm ∉ I 1 := fun e => c117 ((ti_place5 (by rw [ti_gr_len]; omega)).mpr (by rw [show (ti_gr (xi.1 1) (xi.2.1 1) 0 (xi.2.2 1)) = I 1 from hg]; rw [hft9] at e; exact e))
                            rw [ti_ftok, decide_eq_false h1, decide_eq_false h2]; rfl
                          refine lv_goto (tgt := 185) hx hb dX0_fits_126 (by decide) ?_
                          refine lv_iinc (v := nI mm + (-1)) (lv' := [(7, .int (nI mm + (-1))), (10, .int (ti_px (ti_pl ((xi.1 1) k9) mm (ti_gr (xi.1 1) (xi.2.1 1) 0 (xi.2.2 1)) 0))), (9, .int (nI mm)), (8, .int (nI ((xi.1 1) k9))), (0, .ref (ad 0)), (1, .int (nI 1)), (2, .int (nI k9)), (3, .int (nI 1)), (4, .int w), (5, .int (nI nn)), (6, .int fd)]) hx hb dX0_fits_185 hl (k := 10) rfl rfl (by decide) rfl (fun ls hl => ?_)
                          refine lv_goto (tgt := 41) hx hb dX0_fits_188 (by decide) ?_
                          exact ih41 mm nn fd cz sz (xi.1 1) (xi.2.1 1) (xi.2.2 1) yf _ _ _ hP hD hS (by omega) (by omega) (by omega) (by omega) (by omega) (hxi.1 1) (hxi.2.1 1) (hxi.2.2 1) (hyf) (by rw [show 10 - mm = 10 - (mm + 1) + 1 by omega, List.range'_succ, ti_ftn_s, if_neg (by rw [hbad]; decide)]; exact hft) (lv_sub hl [4, 5, 6, 7, 8, 9, 10, 0] rfl)
                  · skip
                    exact absurd c60 (by decide)
            exact L41 _ 10 0 (-5) 0 0 xr.1 xr.2.1 xr.2.2 xf _ _ _ hP hD hS (Nat.lt_succ_self _) (by omega) (by omega) (by omega) (by omega) (hxr.1) (hxr.2.1) (hxr.2.2) (hxf) (rfl) (lv_sub hl [3, 4, 5, 6, 7, 2, 1, 0] rfl)
      · skip
        refine lv_iconst (v := (-1)) hx hb dX0_fits_28 (by decide) ?_
        have hv9 : ((-1)) = (fun _ => ti_Sfits I SN (nI i) (nI k9) (nI le) w) (xr, xf) := by rw [ti_Sfits, if_pos (by rw [hq3, c15, show ti_bt w = false from c25]; rfl)]
        refine W.eq (g2 := F0 m 29 ls [.int ((fun _ => ti_Sfits I SN (nI i) (nI k9) (nI le) w) (xr, xf))]) (congrArg (fun z => F0 m 29 ls [.int z]) hv9) ?_
        exact hret _ (xr, xf) _ _ _ _ (⟨hxr, hxf⟩) hP trivial hS (Nat.le_of_ble_eq_true rfl) (Nat.le_of_ble_eq_true rfl) (fun hq hf9 => W.iret hx hb hr hq hf9 dX0_fits_29 hlk)
