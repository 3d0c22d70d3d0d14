/-! TermIdeals$Faces.looks at an ideal without generators: it throws Empty -/
set_option maxRecDepth 100000
theorem ti_d6 : ∀ j, j < 6 → defaultValue (tyX8 j) = vp_V [.null, .null, .null, .null, .null, .int 0] j := by
  intro j hj
  match j, hj with
  | 0, _ => rfl
  | 1, _ => rfl
  | 2, _ => rfl
  | 3, _ => rfl
  | 4, _ => rfl
  | 5, _ => rfl
abbrev ti_exE (w : Nat × Value × Value) : va_W := [(w.1, .inr (8, [.ref w.1, w.2.1, w.2.2, .null, .null, .int 0]))]
set_option maxHeartbeats 1000000 in
theorem met_X2_looks_0 (l : Launch) (D : va_G) (E : Nat → ClassId) (htr : l.stackTraces = false) (z0 : Nat) (f0 f1 f2 f3 f4 f5 : Nat) (ov : Value) (ss ts lv : Nat → Nat) (nf up low : Nat) (us los : Nat → Nat) (nj : Nat) (h ua ub : Nat) (fa fb : Nat → Nat) :
    ti_MetX (σ := Unit) (τ := Nat × Value × Value) l D E yX2_looks (ws_ yX2_looks cX2_looks 4 (some (.object "TermIdeals$Faces"))) 6 1 6 z0 (ti_wF E f0 f1 f2 f3 f4 f5 ov ss ts lv nf up low us los nj ++ ti_wI E h ua ub fa fb 0) [.ref f0, .ref h] (fun _ => True)
      (fun _ => ti_wF E f0 f1 f2 f3 f4 f5 ov ss ts lv nf up low us los nj ++ ti_wI E h ua ub fa fb 0) (fun _ => none) (fun _ => False) (fun _ _ => True)
      (fun _ => RX8) (fun w => w.1) (fun _ => ti_wF E f0 f1 f2 f3 f4 f5 ov ss ts lv nf up low us los nj ++ ti_wI E h ua ub fa fb 0) ti_exE (fun _ => True) (fun w H => ti_free w.1 H) := by
  refine ti_metX (by decide) (Nat.le_of_ble_eq_true rfl) ?_
  intro p e s m below meth c H A Q ls S hE hP hD hS hA hZ hAz hx0 hnoex hl hret hq
  obtain ⟨rfl, hr, hlk, hinit⟩ := hq
  have hx := S.1
  have hb := S.2.1
  have hown := S.2.2.2.1
  have hts := S.2.2.2.2
  have hK := hE.1
  have hl : lv_has ls 4 [(0, .ref f0), (1, .ref h)] := hl
  refine lv_aload_n hx hb dX2_looks_0 rfl (lv_at hl 1 rfl) ?_
  refine va_getN (v := .int (nI 0)) hx hb hts in_X1 hown hK hP 6 rfl rfl 2 (by decide) (hE.use q115 rfl rfl) (fun _ h => h) rfl dX2_looks_1 ?_
  refine tn_if_ne (tgt := 15) hx hb dX2_looks_4 (by decide) (by decide) (fun c4 => absurd rfl c4) (fun c4 => ?_)
  refine ti_newM hx hb hts in_X8 tyX8 tyX8_ok hown (hts _ q361) (hts _ q362) (hts _ q77) hK hP hD hS hA (ci := 8) rfl ti_d6 (Nat.le_of_ble_eq_true rfl) (Nat.le_of_ble_eq_true rfl) dX2_looks_7 (fun q H1 hq hsz hfr hold hP hD hS1 => ?_)
  refine lv_dup hx hb dX2_looks_10 rfl ?_
  refine ti_fIN (As := []) (rest := [.ref q]) S hE hP hD hS1 hA rfl hZ hAz hfr [9] rfl (met_X8_init l D E htr z0 q) rfl (fun _ => rfl) (lw_meth q423) q77 q421 q422 rfl 0 rfl (by decide +kernel) ⟨Nat.le_of_ble_eq_true rfl, Nat.le_of_ble_eq_true rfl⟩ hl.1 rfl (Nat.le_of_ble_eq_true rfl) ⟨Nat.le_refl _, Nat.le_refl _⟩ dX2_looks_11 (fun w9 H2 locs hu hxq hFr hP hD hS2 => ?_)
  refine ti_throwOut hx hb hnoex hlk dX2_looks_14 hK (q, w9.1, w9.2) 0 rfl rfl trivial (ti_subC (is := [0, 1, 2, 3, 4, 5, 6, 7, 8]) rfl hP) (ti_subC (is := [9]) rfl hP) (fun k z hz => ?_) hxq hS2 (Nat.le_refl _) (Nat.le_refl _)
  have hk : k < 1 := (List.getElem?_eq_some_iff.mp hz).1
  rw [show k = 0 by omega] at hz
  cases hz
  show s.heap.size ≤ q
  rw [hq]; exact hS.1
