/-! TermIdealsModel: the image (printed by w_model16.py) -/
set_option maxRecDepth 100000
/-- an image: ideals, what was seen, what happened, what was booked -/
abbrev ti_KP : Type := Option ((Nat → ti_GL) × List (Nat × Nat × Nat) × ti_GL × ti_GL)
def ti_r3 (f g h : Nat → Nat) : Nat → Nat := fun q => if q % 3 = 0 then f (q / 3) else if q % 3 = 1 then g (q / 3) else h (q / 3)
def ti_e2 (f g : Nat → Nat) : Nat → Nat := fun q => if q % 2 = 0 then f (q / 2) else g (q / 2)
def ti_kg (x : ti_Mk) : ti_Mg := (x.2.1, x.2.2.1, x.2.2.2.1)
def ti_ks (x : ti_Mk) : ti_Ms := (x.2.2.2.2.1, fun r => x.2.2.2.2.2.1 (3 * r), fun r => x.2.2.2.2.2.1 (3 * r + 1), fun r => x.2.2.2.2.2.1 (3 * r + 2))
def ti_kv (x : ti_Mk) : ti_Mv := (x.2.2.2.2.2.2.1, fun r => x.2.2.2.2.2.2.2.1 (2 * r), fun r => x.2.2.2.2.2.2.2.1 (2 * r + 1))
def ti_kb (x : ti_Mk) : ti_Mb := (x.2.2.2.2.2.2.2.2.1, fun r => x.2.2.2.2.2.2.2.2.2 (2 * r), fun r => x.2.2.2.2.2.2.2.2.2 (2 * r + 1))
/-- the model's image -/
def ti_MK (x : ti_Mk) (K : ti_KP) : Prop := match K with
  | none => x.1 = false
  | some (I, SN, EV, BK) => x.1 = true ∧ (ti_MI (ti_kg x) I ∧ ti_Mgok (ti_kg x)) ∧ (ti_sl (ti_ks x) = SN ∧ ti_Msok (ti_ks x)) ∧ (ti_el (ti_kv x) = EV ∧ ti_Mvok (ti_kv x)) ∧ (ti_el (ti_kb x) = BK ∧ ti_Mbok (ti_kb x))
theorem ti_r3_0 (f g h : Nat → Nat) : (fun r => ti_r3 f g h (3 * r)) = f := by
  funext r; unfold ti_r3; rw [if_pos (by omega)]; congr 1; omega
theorem ti_r3_1 (f g h : Nat → Nat) : (fun r => ti_r3 f g h (3 * r + 1)) = g := by
  funext r; unfold ti_r3; rw [if_neg (by omega), if_pos (by omega)]; congr 1; omega
theorem ti_r3_2 (f g h : Nat → Nat) : (fun r => ti_r3 f g h (3 * r + 2)) = h := by
  funext r; unfold ti_r3; rw [if_neg (by omega), if_neg (by omega)]; congr 1; omega
theorem ti_e2_0 (f g : Nat → Nat) : (fun r => ti_e2 f g (2 * r)) = f := by
  funext r; unfold ti_e2; rw [if_pos (by omega)]; congr 1; omega
theorem ti_e2_1 (f g : Nat → Nat) : (fun r => ti_e2 f g (2 * r + 1)) = g := by
  funext r; unfold ti_e2; rw [if_neg (by omega)]; congr 1; omega
/-- what an image answers -/
def ti_both (I : Nat → ti_GL) : Int32 := nI ((I 0).length + (I 1).length)
def ti_Sundo (I : Nat → ti_GL) (DD : ti_DL) (SN : List (Nat × Nat × Nat)) (EV BK : ti_GL) (K : ti_KP) : Int32 × (Nat → ti_GL) × ti_DL × List (Nat × Nat × Nat) × ti_GL × ti_GL := match K with
  | none => (-3, I, DD, SN, EV, BK)
  | some (I', SN', EV', BK') => (ti_both I', I', [], SN', EV', BK')
theorem ti_fill3 {g : Nat → Nat} {f1 f2 f3 : Nat → Nat} {k : Nat} (h : ∀ j, j < 3 * k → g j = ti_r3 f1 f2 f3 j) : ∀ j, j < 3 * (k + 1) → va_up (va_up (va_up g (3 * k) (f1 k)) (3 * k + 1) (f2 k)) (3 * k + 2) (f3 k) j = ti_r3 f1 f2 f3 j := by
  intro j hj
  by_cases e2 : j = 3 * k + 2
  · rw [e2, va_up_self]; exact (congrFun (ti_r3_2 f1 f2 f3) k).symm
  rw [va_up_ne _ _ e2]
  by_cases e1 : j = 3 * k + 1
  · rw [e1, va_up_self]; exact (congrFun (ti_r3_1 f1 f2 f3) k).symm
  rw [va_up_ne _ _ e1]
  by_cases e0 : j = 3 * k
  · rw [e0, va_up_self]; exact (congrFun (ti_r3_0 f1 f2 f3) k).symm
  rw [va_up_ne _ _ e0]
  exact h j (by omega)
theorem ti_fill22 {g : Nat → Nat} {f1 f2 : Nat → Nat} {k : Nat} (h : ∀ j, j < 2 * k → g j = ti_e2 f1 f2 j) : ∀ j, j < 2 * (k + 1) → va_up (va_up g (2 * k) (f1 k)) (2 * k + 1) (f2 k) j = ti_e2 f1 f2 j := by
  intro j hj
  by_cases e1 : j = 2 * k + 1
  · rw [e1, va_up_self]; exact (congrFun (ti_e2_1 f1 f2) k).symm
  rw [va_up_ne _ _ e1]
  by_cases e0 : j = 2 * k
  · rw [e0, va_up_self]; exact (congrFun (ti_e2_0 f1 f2) k).symm
  rw [va_up_ne _ _ e0]
  exact h j (by omega)
theorem ti_two {f g : Nat → Nat} {j : Nat} (h : j < 2) : va_up (va_up g 0 (f 0)) 1 (f 1) j = f j := by
  by_cases e1 : j = 1
  · rw [e1, va_up_self]
  · rw [va_up_ne _ _ e1, show j = 0 by omega, va_up_self]
/-- the first twelve places are those of another row -/
def ti_m12 (f g : Nat → Nat) : Nat → Nat := fun q => if q < 12 then f q else g q
theorem ti_fill12 {f g h : Nat → Nat} {k : Nat} (hk : k < 12) (hh : ∀ q, h q = if q < k then f q else g q) : ∀ q, va_up h k (f k) q = if q < k + 1 then f q else g q := by
  intro q
  by_cases e : q = k
  · rw [e, va_up_self, if_pos (by omega)]
  · rw [va_up_ne _ _ e, hh q]
    by_cases z : q < k
    · rw [if_pos z, if_pos (by omega)]
    · rw [if_neg z, if_neg (by omega)]
theorem ti_m12_G {x y : ti_Mg} (hx : ti_Mgok x) {i : Nat} (hi : i < 2) : ti_G (va_up (va_up y.1 0 (x.1 0)) 1 (x.1 1), ti_m12 x.2.1 y.2.1, ti_m12 x.2.2 y.2.2) i = ti_G x i := by
  have h6 := hx.1 i
  have e : va_up (va_up y.1 0 (x.1 0)) 1 (x.1 1) i = x.1 i := ti_two hi
  show ti_gr _ _ 0 (va_up (va_up y.1 0 (x.1 0)) 1 (x.1 1) i) = _
  rw [e]
  refine ti_gr_congr fun j hj => ⟨?_, ?_⟩
  · show ti_m12 x.2.1 y.2.1 (6 * i + (0 + j)) = _
    unfold ti_m12; rw [if_pos (by omega)]; rfl
  · show ti_m12 x.2.2 y.2.2 (6 * i + (0 + j)) = _
    unfold ti_m12; rw [if_pos (by omega)]; rfl
theorem ti_m12_le {f g : Nat → Nat} {B : Nat} (hf : ∀ k, f k ≤ B) (hg : ∀ k, g k ≤ B) : ∀ k, ti_m12 f g k ≤ B := by
  intro k; unfold ti_m12; split
  · exact hf k
  · exact hg k

set_option maxHeartbeats 1000000 in
theorem met_X7_image (l : Launch) (D : va_G) (E : Nat → ClassId) (ad : Nat → Nat) (xg : ti_Mg) (xd : ti_Md) (xt : ti_Mt) (xf : ti_Mf) (xj : ti_Mj) (xh : ti_Mh) (xs : ti_Ms) (xv : ti_Mv) (xb : ti_Mb) (xq : ti_Mq) (xk : ti_Mk) (hxg : ti_Mgok xg) (I : Nat → ti_GL) (hI : ti_MI xg I) (hxs : ti_Msok xs) (SN : List (Nat × Nat × Nat)) (hSN : ti_sl xs = SN) (hxv : ti_Mvok xv) (EV : ti_GL) (hEV : ti_el xv = EV) (hxb : ti_Mbok xb) (BK : ti_GL) (hBK : ti_el xb = BK) : ti_MetM (σ := ti_Mk) l D E yX7_image cX7_image 2 (some .int) 0 0 0 (ti_wM E ad xg xd xt xf xj xh xs xv xb xq xk) [.ref (ad 0)] (fun u => ti_wM E ad xg xd xt xf xj xh xs xv xb xq u) (fun u => some (.int ((fun _ => ti_both I) u))) (fun u => ti_MK u (some (I, SN, EV, BK))) := by
  refine ti_mutI (σ := ti_Mk) (vi := fun _ => ti_both I) (by decide) (Nat.le_of_ble_eq_true rfl) ?_
  intro p e s m below meth c H H0 A Q ls S hE hP hD hS hA hinit hl hret
  have hx := S.1
  have hb := S.2.1
  have hown := S.2.2.2.1
  have hts := S.2.2.2.2
  have hK := hE.1
  have hl : lv_has ls 2 [(0, .ref (ad 0))] := hl
  refine lv_aload_n hx hb dX7_image_0 rfl (lv_at hl 0 rfl) ?_
  refine lv_iconst (v := nI 1) hx hb dX7_image_1 (by decide) ?_
  refine va_put (ty := .boolean) hx hb hts in_X7 tyX7 tyX7_ok nmX7 hown hK hP hD hS 0 rfl rfl 36 (by decide) (hts _ q1124) (fun _ h => h) rfl rfl rfl rfl (Nat.le_of_ble_eq_true rfl) dX7_image_2 (fun H locs hP hD hS => ?_)
  have hP : va_P D vwCl (ti_wM E ad xg xd xt xf xj xh xs xv xb xq (true, xk.2.1, xk.2.2.1, xk.2.2.2.1, xk.2.2.2.2.1, xk.2.2.2.2.2.1, xk.2.2.2.2.2.2.1, xk.2.2.2.2.2.2.2.1, xk.2.2.2.2.2.2.2.2.1, xk.2.2.2.2.2.2.2.2.2)) H := hP
  have hD : va_D A (ti_wM E ad xg xd xt xf xj xh xs xv xb xq (true, xk.2.1, xk.2.2.1, xk.2.2.2.1, xk.2.2.2.2.1, xk.2.2.2.2.2.1, xk.2.2.2.2.2.2.1, xk.2.2.2.2.2.2.2.1, xk.2.2.2.2.2.2.2.2.1, xk.2.2.2.2.2.2.2.2.2)) := hD
  refine lv_iconst (v := nI 0) hx hb dX7_image_5 (by decide) ?_
  refine lv_istore_n (lv' := [(1, .int (nI 0)), (0, .ref (ad 0))]) hx hb dX7_image_6 rfl hl (by decide) rfl (fun ls hl => ?_)
  have L7 : ∀ (N : Nat) (k : Nat) (g1 g2 : Nat → Nat) (ls : Array Slot) (H : Heap) (locs : List Loc), va_P D vwCl (ti_wM E ad xg xd xt xf xj xh xs xv xb xq (true, xk.2.1, g1, g2, xk.2.2.2.2.1, xk.2.2.2.2.2.1, xk.2.2.2.2.2.2.1, xk.2.2.2.2.2.2.2.1, xk.2.2.2.2.2.2.2.2.1, xk.2.2.2.2.2.2.2.2.2)) H → va_D A (ti_wM E ad xg xd xt xf xj xh xs xv xb xq (true, xk.2.1, g1, g2, xk.2.2.2.2.1, xk.2.2.2.2.2.1, xk.2.2.2.2.2.2.1, xk.2.2.2.2.2.2.2.1, xk.2.2.2.2.2.2.2.2.1, xk.2.2.2.2.2.2.2.2.2)) → va_S A H0 H locs → (12 - k) < N → (k ≤ 12) → (∀ j, j < k → g1 j = xg.2.1 j) → (∀ j, j < k → g2 j = xg.2.2 j) → lv_has ls 2 [(0, .ref (ad 0)), (1, .int (nI k))] → W p l e (ti_rm 0 0 0) s m ([.ref (ad 0)] : List Value).toArray below meth c H locs 0 0 Q (F0 m 7 ls []) := by
    intro N
    induction N with
    | zero => intro k g1 g2 ls H locs hP hD hS h0; exact absurd h0 (Nat.not_lt_zero _)
    | succ N ih7 =>
      intro k g1 g2 ls H locs hP hD hS hN hk h1 h2 hl
      refine lv_iload_n hx hb dX7_image_7 rfl (lv_at hl 1 rfl) ?_
      refine lv_bipush (v := nI 12) hx hb dX7_image_8 (by decide) ?_
      refine tn_ge (tgt := 43) hx hb dX7_image_10 (by decide) (by omega) (by omega) (fun c10 => ?_) (fun c10 => ?_)
      · skip
        have hP := ti_P_rep (g := ti_n xg.2.1) hP 30 rfl (fun j hj => ti_n_at (h1 j (by omega)))
        have hD := ti_D_rep (q := 30) hD rfl (e := .inl (E 0, 12, .inl (ti_n xg.2.1)))
        have hP : va_P D vwCl (ti_wM E ad xg xd xt xf xj xh xs xv xb xq (true, xk.2.1, xg.2.1, g2, xk.2.2.2.2.1, xk.2.2.2.2.2.1, xk.2.2.2.2.2.2.1, xk.2.2.2.2.2.2.2.1, xk.2.2.2.2.2.2.2.2.1, xk.2.2.2.2.2.2.2.2.2)) H := hP
        have hD : va_D A (ti_wM E ad xg xd xt xf xj xh xs xv xb xq (true, xk.2.1, xg.2.1, g2, xk.2.2.2.2.1, xk.2.2.2.2.2.1, xk.2.2.2.2.2.2.1, xk.2.2.2.2.2.2.2.1, xk.2.2.2.2.2.2.2.2.1, xk.2.2.2.2.2.2.2.2.2)) := hD
        have hP := ti_P_rep (g := ti_n xg.2.2) hP 31 rfl (fun j hj => ti_n_at (h2 j (by omega)))
        have hD := ti_D_rep (q := 31) hD rfl (e := .inl (E 0, 12, .inl (ti_n xg.2.2)))
        have hP : va_P D vwCl (ti_wM E ad xg xd xt xf xj xh xs xv xb xq (true, xk.2.1, xg.2.1, xg.2.2, xk.2.2.2.2.1, xk.2.2.2.2.2.1, xk.2.2.2.2.2.2.1, xk.2.2.2.2.2.2.2.1, xk.2.2.2.2.2.2.2.2.1, xk.2.2.2.2.2.2.2.2.2)) H := hP
        have hD : va_D A (ti_wM E ad xg xd xt xf xj xh xs xv xb xq (true, xk.2.1, xg.2.1, xg.2.2, xk.2.2.2.2.1, xk.2.2.2.2.2.1, xk.2.2.2.2.2.2.1, xk.2.2.2.2.2.2.2.1, xk.2.2.2.2.2.2.2.2.1, xk.2.2.2.2.2.2.2.2.2)) := hD
        refine lv_aload_n hx hb dX7_image_43 rfl (lv_at hl 0 rfl) ?_
        refine va_get (v := .ref (ad 29)) hx hb hts in_X7 hown hK hP 0 rfl rfl 37 (by decide) (hts _ q1125) (fun _ h => h) rfl dX7_image_44 ?_
        refine lv_iconst (v := nI 0) hx hb dX7_image_47 (by decide) ?_
        refine lv_aload_n hx hb dX7_image_48 rfl (lv_at hl 0 rfl) ?_
        refine va_get (v := .ref (ad 1)) hx hb hts in_X7 hown hK hP 0 rfl rfl 0 (by decide) (hts _ q1088) (fun _ h => h) rfl dX7_image_49 ?_
        refine lv_iconst (v := nI 0) hx hb dX7_image_52 (by decide) ?_
        refine tn_iald (f := xg.1) hx hb hK hP 1 0 rfl rfl (by omega) (by decide) dX7_image_53 ?_
        refine tn_iast (f := xk.2.1) hx hb hK hP hD hS 29 0 rfl rfl (by omega) (by decide) dX7_image_54 (fun H locs hP hD hS => ?_)
        have hP : va_P D vwCl (ti_wM E ad xg xd xt xf xj xh xs xv xb xq (true, va_up xk.2.1 0 (xg.1 0), xg.2.1, xg.2.2, xk.2.2.2.2.1, xk.2.2.2.2.2.1, xk.2.2.2.2.2.2.1, xk.2.2.2.2.2.2.2.1, xk.2.2.2.2.2.2.2.2.1, xk.2.2.2.2.2.2.2.2.2)) H := hP
        have hD : va_D A (ti_wM E ad xg xd xt xf xj xh xs xv xb xq (true, va_up xk.2.1 0 (xg.1 0), xg.2.1, xg.2.2, xk.2.2.2.2.1, xk.2.2.2.2.2.1, xk.2.2.2.2.2.2.1, xk.2.2.2.2.2.2.2.1, xk.2.2.2.2.2.2.2.2.1, xk.2.2.2.2.2.2.2.2.2)) := hD
        refine lv_aload_n hx hb dX7_image_55 rfl (lv_at hl 0 rfl) ?_
        refine va_get (v := .ref (ad 29)) hx hb hts in_X7 hown hK hP 0 rfl rfl 37 (by decide) (hts _ q1125) (fun _ h => h) rfl dX7_image_56 ?_
        refine lv_iconst (v := nI 1) hx hb dX7_image_59 (by decide) ?_
        refine lv_aload_n hx hb dX7_image_60 rfl (lv_at hl 0 rfl) ?_
        refine va_get (v := .ref (ad 1)) hx hb hts in_X7 hown hK hP 0 rfl rfl 0 (by decide) (hts _ q1088) (fun _ h => h) rfl dX7_image_61 ?_
        refine lv_iconst (v := nI 1) hx hb dX7_image_64 (by decide) ?_
        refine tn_iald (f := xg.1) hx hb hK hP 1 0 rfl rfl (by omega) (by decide) dX7_image_65 ?_
        refine tn_iast (f := va_up xk.2.1 0 (xg.1 0)) hx hb hK hP hD hS 29 0 rfl rfl (by omega) (by decide) dX7_image_66 (fun H locs hP hD hS => ?_)
        have hP : va_P D vwCl (ti_wM E ad xg xd xt xf xj xh xs xv xb xq (true, va_up (va_up xk.2.1 0 (xg.1 0)) 1 (xg.1 1), xg.2.1, xg.2.2, xk.2.2.2.2.1, xk.2.2.2.2.2.1, xk.2.2.2.2.2.2.1, xk.2.2.2.2.2.2.2.1, xk.2.2.2.2.2.2.2.2.1, xk.2.2.2.2.2.2.2.2.2)) H := hP
        have hD : va_D A (ti_wM E ad xg xd xt xf xj xh xs xv xb xq (true, va_up (va_up xk.2.1 0 (xg.1 0)) 1 (xg.1 1), xg.2.1, xg.2.2, xk.2.2.2.2.1, xk.2.2.2.2.2.1, xk.2.2.2.2.2.2.1, xk.2.2.2.2.2.2.2.1, xk.2.2.2.2.2.2.2.2.1, xk.2.2.2.2.2.2.2.2.2)) := hD
        have hP := ti_P_rep (g := ti_n xg.1) hP 29 rfl (fun j hj => ti_n_at (ti_two hj))
        have hD := ti_D_rep (q := 29) hD rfl (e := .inl (E 0, 2, .inl (ti_n xg.1)))
        have hP : va_P D vwCl (ti_wM E ad xg xd xt xf xj xh xs xv xb xq (true, xg.1, xg.2.1, xg.2.2, xk.2.2.2.2.1, xk.2.2.2.2.2.1, xk.2.2.2.2.2.2.1, xk.2.2.2.2.2.2.2.1, xk.2.2.2.2.2.2.2.2.1, xk.2.2.2.2.2.2.2.2.2)) H := hP
        have hD : va_D A (ti_wM E ad xg xd xt xf xj xh xs xv xb xq (true, xg.1, xg.2.1, xg.2.2, xk.2.2.2.2.1, xk.2.2.2.2.2.1, xk.2.2.2.2.2.2.1, xk.2.2.2.2.2.2.2.1, xk.2.2.2.2.2.2.2.2.1, xk.2.2.2.2.2.2.2.2.2)) := hD
        refine lv_aload_n hx hb dX7_image_67 rfl (lv_at hl 0 rfl) ?_
        refine lv_aload_n hx hb dX7_image_68 rfl (lv_at hl 0 rfl) ?_
        refine va_get (v := .int (nI xs.1)) hx hb hts in_X7 hown hK hP 0 rfl rfl 22 (by decide) (hts _ q1110) (fun _ h => h) rfl dX7_image_69 ?_
        refine va_put (ty := .int) hx hb hts in_X7 tyX7 tyX7_ok nmX7 hown hK hP hD hS 0 rfl rfl 40 (by decide) (hts _ q1128) (fun _ h => h) rfl rfl rfl rfl (Nat.le_of_ble_eq_true rfl) dX7_image_72 (fun H locs hP hD hS => ?_)
        have hP : va_P D vwCl (ti_wM E ad xg xd xt xf xj xh xs xv xb xq (true, xg.1, xg.2.1, xg.2.2, xs.1, xk.2.2.2.2.2.1, xk.2.2.2.2.2.2.1, xk.2.2.2.2.2.2.2.1, xk.2.2.2.2.2.2.2.2.1, xk.2.2.2.2.2.2.2.2.2)) H := hP
        have hD : va_D A (ti_wM E ad xg xd xt xf xj xh xs xv xb xq (true, xg.1, xg.2.1, xg.2.2, xs.1, xk.2.2.2.2.2.1, xk.2.2.2.2.2.2.1, xk.2.2.2.2.2.2.2.1, xk.2.2.2.2.2.2.2.2.1, xk.2.2.2.2.2.2.2.2.2)) := hD
        refine lv_iconst (v := nI 0) hx hb dX7_image_75 (by decide) ?_
        refine lv_istore_n (lv' := [(1, .int (nI 0)), (0, .ref (ad 0))]) hx hb dX7_image_76 rfl hl (by decide) rfl (fun ls hl => ?_)
        have L77 : ∀ (N : Nat) (k : Nat) (g : Nat → Nat) (ls : Array Slot) (H : Heap) (locs : List Loc), va_P D vwCl (ti_wM E ad xg xd xt xf xj xh xs xv xb xq (true, xg.1, xg.2.1, xg.2.2, xs.1, g, xk.2.2.2.2.2.2.1, xk.2.2.2.2.2.2.2.1, xk.2.2.2.2.2.2.2.2.1, xk.2.2.2.2.2.2.2.2.2)) H → va_D A (ti_wM E ad xg xd xt xf xj xh xs xv xb xq (true, xg.1, xg.2.1, xg.2.2, xs.1, g, xk.2.2.2.2.2.2.1, xk.2.2.2.2.2.2.2.1, xk.2.2.2.2.2.2.2.2.1, xk.2.2.2.2.2.2.2.2.2)) → va_S A H0 H locs → (4 - k) < N → (k ≤ 4) → (∀ j, j < 3 * k → g j = ti_r3 xs.2.1 xs.2.2.1 xs.2.2.2 j) → lv_has ls 2 [(0, .ref (ad 0)), (1, .int (nI k))] → W p l e (ti_rm 0 0 0) s m ([.ref (ad 0)] : List Value).toArray below meth c H locs 0 0 Q (F0 m 77 ls []) := by
          intro N
          induction N with
          | zero => intro k g ls H locs hP hD hS h0; exact absurd h0 (Nat.not_lt_zero _)
          | succ N ih77 =>
            intro k g ls H locs hP hD hS hN hk h1 hl
            refine lv_iload_n hx hb dX7_image_77 rfl (lv_at hl 1 rfl) ?_
            refine lv_iconst (v := nI 4) hx hb dX7_image_78 (by decide) ?_
            refine tn_ge (tgt := 134) hx hb dX7_image_79 (by decide) (by omega) (by omega) (fun c79 => ?_) (fun c79 => ?_)
            · skip
              have hP := ti_P_rep (g := ti_n (ti_r3 xs.2.1 xs.2.2.1 xs.2.2.2)) hP 32 rfl (fun j hj => ti_n_at (h1 j (by omega)))
              have hD := ti_D_rep (q := 32) hD rfl (e := .inl (E 0, 12, .inl (ti_n (ti_r3 xs.2.1 xs.2.2.1 xs.2.2.2))))
              have hP : va_P D vwCl (ti_wM E ad xg xd xt xf xj xh xs xv xb xq (true, xg.1, xg.2.1, xg.2.2, xs.1, ti_r3 xs.2.1 xs.2.2.1 xs.2.2.2, xk.2.2.2.2.2.2.1, xk.2.2.2.2.2.2.2.1, xk.2.2.2.2.2.2.2.2.1, xk.2.2.2.2.2.2.2.2.2)) H := hP
              have hD : va_D A (ti_wM E ad xg xd xt xf xj xh xs xv xb xq (true, xg.1, xg.2.1, xg.2.2, xs.1, ti_r3 xs.2.1 xs.2.2.1 xs.2.2.2, xk.2.2.2.2.2.2.1, xk.2.2.2.2.2.2.2.1, xk.2.2.2.2.2.2.2.2.1, xk.2.2.2.2.2.2.2.2.2)) := hD
              refine lv_aload_n hx hb dX7_image_134 rfl (lv_at hl 0 rfl) ?_
              refine lv_aload_n hx hb dX7_image_135 rfl (lv_at hl 0 rfl) ?_
              refine va_get (v := .int (nI xv.1)) hx hb hts in_X7 hown hK hP 0 rfl rfl 26 (by decide) (hts _ q1114) (fun _ h => h) rfl dX7_image_136 ?_
              refine va_put (ty := .int) hx hb hts in_X7 tyX7 tyX7_ok nmX7 hown hK hP hD hS 0 rfl rfl 42 (by decide) (hts _ q1130) (fun _ h => h) rfl rfl rfl rfl (Nat.le_of_ble_eq_true rfl) dX7_image_139 (fun H locs hP hD hS => ?_)
              have hP : va_P D vwCl (ti_wM E ad xg xd xt xf xj xh xs xv xb xq (true, xg.1, xg.2.1, xg.2.2, xs.1, ti_r3 xs.2.1 xs.2.2.1 xs.2.2.2, xv.1, xk.2.2.2.2.2.2.2.1, xk.2.2.2.2.2.2.2.2.1, xk.2.2.2.2.2.2.2.2.2)) H := hP
              have hD : va_D A (ti_wM E ad xg xd xt xf xj xh xs xv xb xq (true, xg.1, xg.2.1, xg.2.2, xs.1, ti_r3 xs.2.1 xs.2.2.1 xs.2.2.2, xv.1, xk.2.2.2.2.2.2.2.1, xk.2.2.2.2.2.2.2.2.1, xk.2.2.2.2.2.2.2.2.2)) := hD
              refine lv_aload_n hx hb dX7_image_142 rfl (lv_at hl 0 rfl) ?_
              refine lv_aload_n hx hb dX7_image_143 rfl (lv_at hl 0 rfl) ?_
              refine va_get (v := .int (nI xb.1)) hx hb hts in_X7 hown hK hP 0 rfl rfl 29 (by decide) (hts _ q1117) (fun _ h => h) rfl dX7_image_144 ?_
              refine va_put (ty := .int) hx hb hts in_X7 tyX7 tyX7_ok nmX7 hown hK hP hD hS 0 rfl rfl 44 (by decide) (hts _ q1132) (fun _ h => h) rfl rfl rfl rfl (Nat.le_of_ble_eq_true rfl) dX7_image_147 (fun H locs hP hD hS => ?_)
              have hP : va_P D vwCl (ti_wM E ad xg xd xt xf xj xh xs xv xb xq (true, xg.1, xg.2.1, xg.2.2, xs.1, ti_r3 xs.2.1 xs.2.2.1 xs.2.2.2, xv.1, xk.2.2.2.2.2.2.2.1, xb.1, xk.2.2.2.2.2.2.2.2.2)) H := hP
              have hD : va_D A (ti_wM E ad xg xd xt xf xj xh xs xv xb xq (true, xg.1, xg.2.1, xg.2.2, xs.1, ti_r3 xs.2.1 xs.2.2.1 xs.2.2.2, xv.1, xk.2.2.2.2.2.2.2.1, xb.1, xk.2.2.2.2.2.2.2.2.2)) := hD
              refine lv_iconst (v := nI 0) hx hb dX7_image_150 (by decide) ?_
              refine lv_istore_n (lv' := [(1, .int (nI 0)), (0, .ref (ad 0))]) hx hb dX7_image_151 rfl hl (by decide) rfl (fun ls hl => ?_)
              have L152 : ∀ (N : Nat) (k : Nat) (g1 g2 : Nat → Nat) (ls : Array Slot) (H : Heap) (locs : List Loc), va_P D vwCl (ti_wM E ad xg xd xt xf xj xh xs xv xb xq (true, xg.1, xg.2.1, xg.2.2, xs.1, ti_r3 xs.2.1 xs.2.2.1 xs.2.2.2, xv.1, g1, xb.1, g2)) H → va_D A (ti_wM E ad xg xd xt xf xj xh xs xv xb xq (true, xg.1, xg.2.1, xg.2.2, xs.1, ti_r3 xs.2.1 xs.2.2.1 xs.2.2.2, xv.1, g1, xb.1, g2)) → va_S A H0 H locs → (8 - k) < N → (k ≤ 8) → (∀ j, j < 2 * k → g1 j = ti_e2 xv.2.1 xv.2.2 j) → (∀ j, j < 2 * k → g2 j = ti_e2 xb.2.1 xb.2.2 j) → lv_has ls 2 [(0, .ref (ad 0)), (1, .int (nI k))] → W p l e (ti_rm 0 0 0) s m ([.ref (ad 0)] : List Value).toArray below meth c H locs 0 0 Q (F0 m 152 ls []) := by
                intro N
                induction N with
                | zero => intro k g1 g2 ls H locs hP hD hS h0; exact absurd h0 (Nat.not_lt_zero _)
                | succ N ih152 =>
                  intro k g1 g2 ls H locs hP hD hS hN hk h1 h2 hl
                  refine lv_iload_n hx hb dX7_image_152 rfl (lv_at hl 1 rfl) ?_
                  refine lv_bipush (v := nI 8) hx hb dX7_image_153 (by decide) ?_
                  refine tn_ge (tgt := 224) hx hb dX7_image_155 (by decide) (by omega) (by omega) (fun c155 => ?_) (fun c155 => ?_)
                  · skip
                    have hP := ti_P_rep (g := ti_n (ti_e2 xv.2.1 xv.2.2)) hP 33 rfl (fun j hj => ti_n_at (h1 j (by omega)))
                    have hD := ti_D_rep (q := 33) hD rfl (e := .inl (E 0, 16, .inl (ti_n (ti_e2 xv.2.1 xv.2.2))))
                    have hP : va_P D vwCl (ti_wM E ad xg xd xt xf xj xh xs xv xb xq (true, xg.1, xg.2.1, xg.2.2, xs.1, ti_r3 xs.2.1 xs.2.2.1 xs.2.2.2, xv.1, ti_e2 xv.2.1 xv.2.2, xb.1, g2)) H := hP
                    have hD : va_D A (ti_wM E ad xg xd xt xf xj xh xs xv xb xq (true, xg.1, xg.2.1, xg.2.2, xs.1, ti_r3 xs.2.1 xs.2.2.1 xs.2.2.2, xv.1, ti_e2 xv.2.1 xv.2.2, xb.1, g2)) := hD
                    have hP := ti_P_rep (g := ti_n (ti_e2 xb.2.1 xb.2.2)) hP 34 rfl (fun j hj => ti_n_at (h2 j (by omega)))
                    have hD := ti_D_rep (q := 34) hD rfl (e := .inl (E 0, 16, .inl (ti_n (ti_e2 xb.2.1 xb.2.2))))
                    have hP : va_P D vwCl (ti_wM E ad xg xd xt xf xj xh xs xv xb xq (true, xg.1, xg.2.1, xg.2.2, xs.1, ti_r3 xs.2.1 xs.2.2.1 xs.2.2.2, xv.1, ti_e2 xv.2.1 xv.2.2, xb.1, ti_e2 xb.2.1 xb.2.2)) H := hP
                    have hD : va_D A (ti_wM E ad xg xd xt xf xj xh xs xv xb xq (true, xg.1, xg.2.1, xg.2.2, xs.1, ti_r3 xs.2.1 xs.2.2.1 xs.2.2.2, xv.1, ti_e2 xv.2.1 xv.2.2, xb.1, ti_e2 xb.2.1 xb.2.2)) := hD
                    refine lv_aload_n hx hb dX7_image_224 rfl (lv_at hl 0 rfl) ?_
                    refine va_get (v := .ref (ad 1)) hx hb hts in_X7 hown hK hP 0 rfl rfl 0 (by decide) (hts _ q1088) (fun _ h => h) rfl dX7_image_225 ?_
                    refine lv_iconst (v := nI 0) hx hb dX7_image_228 (by decide) ?_
                    refine tn_iald (f := xg.1) hx hb hK hP 1 0 rfl rfl (by omega) (by decide) dX7_image_229 ?_
                    refine lv_aload_n hx hb dX7_image_230 rfl (lv_at hl 0 rfl) ?_
                    refine va_get (v := .ref (ad 1)) hx hb hts in_X7 hown hK hP 0 rfl rfl 0 (by decide) (hts _ q1088) (fun _ h => h) rfl dX7_image_231 ?_
                    refine lv_iconst (v := nI 1) hx hb dX7_image_234 (by decide) ?_
                    refine tn_iald (f := xg.1) hx hb hK hP 1 0 rfl rfl (by omega) (by decide) dX7_image_235 ?_
                    refine tn_add hx hb dX7_image_236 ?_
                    have hks : ti_ks (true, xg.1, xg.2.1, xg.2.2, xs.1, ti_r3 xs.2.1 xs.2.2.1 xs.2.2.2, xv.1, ti_e2 xv.2.1 xv.2.2, xb.1, ti_e2 xb.2.1 xb.2.2) = xs := by show (xs.1, (fun r => ti_r3 xs.2.1 xs.2.2.1 xs.2.2.2 (3 * r)), (fun r => ti_r3 xs.2.1 xs.2.2.1 xs.2.2.2 (3 * r + 1)), (fun r => ti_r3 xs.2.1 xs.2.2.1 xs.2.2.2 (3 * r + 2))) = xs; rw [ti_r3_0, ti_r3_1, ti_r3_2]
                    have hkv : ti_kv (true, xg.1, xg.2.1, xg.2.2, xs.1, ti_r3 xs.2.1 xs.2.2.1 xs.2.2.2, xv.1, ti_e2 xv.2.1 xv.2.2, xb.1, ti_e2 xb.2.1 xb.2.2) = xv := by show (xv.1, (fun r => ti_e2 xv.2.1 xv.2.2 (2 * r)), (fun r => ti_e2 xv.2.1 xv.2.2 (2 * r + 1))) = xv; rw [ti_e2_0, ti_e2_1]
                    have hkb : ti_kb (true, xg.1, xg.2.1, xg.2.2, xs.1, ti_r3 xs.2.1 xs.2.2.1 xs.2.2.2, xv.1, ti_e2 xv.2.1 xv.2.2, xb.1, ti_e2 xb.2.1 xb.2.2) = xb := by show (xb.1, (fun r => ti_e2 xb.2.1 xb.2.2 (2 * r)), (fun r => ti_e2 xb.2.1 xb.2.2 (2 * r + 1))) = xb; rw [ti_e2_0, ti_e2_1]
                    exact hret (true, xg.1, xg.2.1, xg.2.2, xs.1, ti_r3 xs.2.1 xs.2.2.1 xs.2.2.2, xv.1, ti_e2 xv.2.1 xv.2.2, xb.1, ti_e2 xb.2.1 xb.2.2) _ _ _ _ _ _ _ dX7_image_237 (by rw [ti_both, ti_MI_len hI (by decide), ti_MI_len hI (by decide)]) (⟨rfl, ⟨hI, hxg⟩, ⟨by rw [hks]; exact hSN, by rw [hks]; exact hxs⟩, ⟨by rw [hkv]; exact hEV, by rw [hkv]; exact hxv⟩, ⟨by rw [hkb]; exact hBK, by rw [hkb]; exact hxb⟩⟩) hP hS (Nat.le_refl _) (Nat.le_refl _)
                  · skip
                    refine lv_aload_n hx hb dX7_image_158 rfl (lv_at hl 0 rfl) ?_
                    refine va_get (v := .ref (ad 33)) hx hb hts in_X7 hown hK hP 0 rfl rfl 43 (by decide) (hts _ q1131) (fun _ h => h) rfl dX7_image_159 ?_
                    refine lv_iconst (v := nI 2) hx hb dX7_image_162 (by decide) ?_
                    refine lv_iload_n hx hb dX7_image_163 rfl (lv_at hl 1 rfl) ?_
                    refine tn_mul hx hb dX7_image_164 ?_
                    refine lv_aload_n hx hb dX7_image_165 rfl (lv_at hl 0 rfl) ?_
                    refine va_get (v := .ref (ad 21)) hx hb hts in_X7 hown hK hP 0 rfl rfl 27 (by decide) (hts _ q1115) (fun _ h => h) rfl dX7_image_166 ?_
                    refine lv_iload_n hx hb dX7_image_169 rfl (lv_at hl 1 rfl) ?_
                    refine tn_iald (f := xv.2.1) hx hb hK hP 21 0 rfl rfl (by omega) (by decide) dX7_image_170 ?_
                    refine tn_iast (f := g1) hx hb hK hP hD hS 33 0 rfl rfl (by omega) (by decide) dX7_image_171 (fun H locs hP hD hS => ?_)
                    have hP : va_P D vwCl (ti_wM E ad xg xd xt xf xj xh xs xv xb xq (true, xg.1, xg.2.1, xg.2.2, xs.1, ti_r3 xs.2.1 xs.2.2.1 xs.2.2.2, xv.1, va_up g1 (2 * k) (xv.2.1 k), xb.1, g2)) H := hP
                    have hD : va_D A (ti_wM E ad xg xd xt xf xj xh xs xv xb xq (true, xg.1, xg.2.1, xg.2.2, xs.1, ti_r3 xs.2.1 xs.2.2.1 xs.2.2.2, xv.1, va_up g1 (2 * k) (xv.2.1 k), xb.1, g2)) := hD
                    refine lv_aload_n hx hb dX7_image_172 rfl (lv_at hl 0 rfl) ?_
                    refine va_get (v := .ref (ad 33)) hx hb hts in_X7 hown hK hP 0 rfl rfl 43 (by decide) (hts _ q1131) (fun _ h => h) rfl dX7_image_173 ?_
                    refine lv_iconst (v := nI 2) hx hb dX7_image_176 (by decide) ?_
                    refine lv_iload_n hx hb dX7_image_177 rfl (lv_at hl 1 rfl) ?_
                    refine tn_mul hx hb dX7_image_178 ?_
                    refine lv_iconst (v := nI 1) hx hb dX7_image_179 (by decide) ?_
                    refine tn_add hx hb dX7_image_180 ?_
                    refine lv_aload_n hx hb dX7_image_181 rfl (lv_at hl 0 rfl) ?_
                    refine va_get (v := .ref (ad 22)) hx hb hts in_X7 hown hK hP 0 rfl rfl 28 (by decide) (hts _ q1116) (fun _ h => h) rfl dX7_image_182 ?_
                    refine lv_iload_n hx hb dX7_image_185 rfl (lv_at hl 1 rfl) ?_
                    refine tn_iald (f := xv.2.2) hx hb hK hP 22 0 rfl rfl (by omega) (by decide) dX7_image_186 ?_
                    refine tn_iast (f := va_up g1 (2 * k) (xv.2.1 k)) hx hb hK hP hD hS 33 0 rfl rfl (by omega) (by decide) dX7_image_187 (fun H locs hP hD hS => ?_)
                    have hP : va_P D vwCl (ti_wM E ad xg xd xt xf xj xh xs xv xb xq (true, xg.1, xg.2.1, xg.2.2, xs.1, ti_r3 xs.2.1 xs.2.2.1 xs.2.2.2, xv.1, va_up (va_up g1 (2 * k) (xv.2.1 k)) ((2 * k) + 1) (xv.2.2 k), xb.1, g2)) H := hP
                    have hD : va_D A (ti_wM E ad xg xd xt xf xj xh xs xv xb xq (true, xg.1, xg.2.1, xg.2.2, xs.1, ti_r3 xs.2.1 xs.2.2.1 xs.2.2.2, xv.1, va_up (va_up g1 (2 * k) (xv.2.1 k)) ((2 * k) + 1) (xv.2.2 k), xb.1, g2)) := hD
                    refine lv_aload_n hx hb dX7_image_188 rfl (lv_at hl 0 rfl) ?_
                    refine va_get (v := .ref (ad 34)) hx hb hts in_X7 hown hK hP 0 rfl rfl 45 (by decide) (hts _ q1133) (fun _ h => h) rfl dX7_image_189 ?_
                    refine lv_iconst (v := nI 2) hx hb dX7_image_192 (by decide) ?_
                    refine lv_iload_n hx hb dX7_image_193 rfl (lv_at hl 1 rfl) ?_
                    refine tn_mul hx hb dX7_image_194 ?_
                    refine lv_aload_n hx hb dX7_image_195 rfl (lv_at hl 0 rfl) ?_
                    refine va_get (v := .ref (ad 23)) hx hb hts in_X7 hown hK hP 0 rfl rfl 30 (by decide) (hts _ q1118) (fun _ h => h) rfl dX7_image_196 ?_
                    refine lv_iload_n hx hb dX7_image_199 rfl (lv_at hl 1 rfl) ?_
                    refine tn_iald (f := xb.2.1) hx hb hK hP 23 0 rfl rfl (by omega) (by decide) dX7_image_200 ?_
                    refine tn_iast (f := g2) hx hb hK hP hD hS 34 0 rfl rfl (by omega) (by decide) dX7_image_201 (fun H locs hP hD hS => ?_)
                    have hP : va_P D vwCl (ti_wM E ad xg xd xt xf xj xh xs xv xb xq (true, xg.1, xg.2.1, xg.2.2, xs.1, ti_r3 xs.2.1 xs.2.2.1 xs.2.2.2, xv.1, va_up (va_up g1 (2 * k) (xv.2.1 k)) ((2 * k) + 1) (xv.2.2 k), xb.1, va_up g2 (2 * k) (xb.2.1 k))) H := hP
                    have hD : va_D A (ti_wM E ad xg xd xt xf xj xh xs xv xb xq (true, xg.1, xg.2.1, xg.2.2, xs.1, ti_r3 xs.2.1 xs.2.2.1 xs.2.2.2, xv.1, va_up (va_up g1 (2 * k) (xv.2.1 k)) ((2 * k) + 1) (xv.2.2 k), xb.1, va_up g2 (2 * k) (xb.2.1 k))) := hD
                    refine lv_aload_n hx hb dX7_image_202 rfl (lv_at hl 0 rfl) ?_
                    refine va_get (v := .ref (ad 34)) hx hb hts in_X7 hown hK hP 0 rfl rfl 45 (by decide) (hts _ q1133) (fun _ h => h) rfl dX7_image_203 ?_
                    refine lv_iconst (v := nI 2) hx hb dX7_image_206 (by decide) ?_
                    refine lv_iload_n hx hb dX7_image_207 rfl (lv_at hl 1 rfl) ?_
                    refine tn_mul hx hb dX7_image_208 ?_
                    refine lv_iconst (v := nI 1) hx hb dX7_image_209 (by decide) ?_
                    refine tn_add hx hb dX7_image_210 ?_
                    refine lv_aload_n hx hb dX7_image_211 rfl (lv_at hl 0 rfl) ?_
                    refine va_get (v := .ref (ad 24)) hx hb hts in_X7 hown hK hP 0 rfl rfl 31 (by decide) (hts _ q1119) (fun _ h => h) rfl dX7_image_212 ?_
                    refine lv_iload_n hx hb dX7_image_215 rfl (lv_at hl 1 rfl) ?_
                    refine tn_iald (f := xb.2.2) hx hb hK hP 24 0 rfl rfl (by omega) (by decide) dX7_image_216 ?_
                    refine tn_iast (f := va_up g2 (2 * k) (xb.2.1 k)) hx hb hK hP hD hS 34 0 rfl rfl (by omega) (by decide) dX7_image_217 (fun H locs hP hD hS => ?_)
                    have hP : va_P D vwCl (ti_wM E ad xg xd xt xf xj xh xs xv xb xq (true, xg.1, xg.2.1, xg.2.2, xs.1, ti_r3 xs.2.1 xs.2.2.1 xs.2.2.2, xv.1, va_up (va_up g1 (2 * k) (xv.2.1 k)) ((2 * k) + 1) (xv.2.2 k), xb.1, va_up (va_up g2 (2 * k) (xb.2.1 k)) ((2 * k) + 1) (xb.2.2 k))) H := hP
                    have hD : va_D A (ti_wM E ad xg xd xt xf xj xh xs xv xb xq (true, xg.1, xg.2.1, xg.2.2, xs.1, ti_r3 xs.2.1 xs.2.2.1 xs.2.2.2, xv.1, va_up (va_up g1 (2 * k) (xv.2.1 k)) ((2 * k) + 1) (xv.2.2 k), xb.1, va_up (va_up g2 (2 * k) (xb.2.1 k)) ((2 * k) + 1) (xb.2.2 k))) := hD
                    refine lv_iinc (v := nI (k + 1)) (lv' := [(1, .int (nI (k + 1))), (0, .ref (ad 0))]) hx hb dX7_image_218 hl (k := 1) rfl (nI_1 k) (by decide) rfl (fun ls hl => ?_)
                    refine lv_goto (tgt := 152) hx hb dX7_image_221 (by decide) ?_
                    exact ih152 (k + 1) (va_up (va_up g1 (2 * k) (xv.2.1 k)) ((2 * k) + 1) (xv.2.2 k)) (va_up (va_up g2 (2 * k) (xb.2.1 k)) ((2 * k) + 1) (xb.2.2 k)) _ _ _ hP hD hS (by omega) (by omega) (ti_fill22 h1) (ti_fill22 h2) (lv_sub hl [1, 0] rfl)
              exact L152 _ 0 xk.2.2.2.2.2.2.2.1 xk.2.2.2.2.2.2.2.2.2 _ _ _ hP hD hS (Nat.lt_succ_self _) (by omega) (fun j hj => absurd hj (by omega)) (fun j hj => absurd hj (by omega)) (lv_sub hl [1, 0] rfl)
            · skip
              refine lv_aload_n hx hb dX7_image_82 rfl (lv_at hl 0 rfl) ?_
              refine va_get (v := .ref (ad 32)) hx hb hts in_X7 hown hK hP 0 rfl rfl 41 (by decide) (hts _ q1129) (fun _ h => h) rfl dX7_image_83 ?_
              refine lv_iconst (v := nI 3) hx hb dX7_image_86 (by decide) ?_
              refine lv_iload_n hx hb dX7_image_87 rfl (lv_at hl 1 rfl) ?_
              refine tn_mul hx hb dX7_image_88 ?_
              refine lv_aload_n hx hb dX7_image_89 rfl (lv_at hl 0 rfl) ?_
              refine va_get (v := .ref (ad 18)) hx hb hts in_X7 hown hK hP 0 rfl rfl 23 (by decide) (hts _ q1111) (fun _ h => h) rfl dX7_image_90 ?_
              refine lv_iload_n hx hb dX7_image_93 rfl (lv_at hl 1 rfl) ?_
              refine tn_iald (f := xs.2.1) hx hb hK hP 18 0 rfl rfl (by omega) (by decide) dX7_image_94 ?_
              refine tn_iast (f := g) hx hb hK hP hD hS 32 0 rfl rfl (by omega) (by decide) dX7_image_95 (fun H locs hP hD hS => ?_)
              have hP : va_P D vwCl (ti_wM E ad xg xd xt xf xj xh xs xv xb xq (true, xg.1, xg.2.1, xg.2.2, xs.1, va_up g (3 * k) (xs.2.1 k), xk.2.2.2.2.2.2.1, xk.2.2.2.2.2.2.2.1, xk.2.2.2.2.2.2.2.2.1, xk.2.2.2.2.2.2.2.2.2)) H := hP
              have hD : va_D A (ti_wM E ad xg xd xt xf xj xh xs xv xb xq (true, xg.1, xg.2.1, xg.2.2, xs.1, va_up g (3 * k) (xs.2.1 k), xk.2.2.2.2.2.2.1, xk.2.2.2.2.2.2.2.1, xk.2.2.2.2.2.2.2.2.1, xk.2.2.2.2.2.2.2.2.2)) := hD
              refine lv_aload_n hx hb dX7_image_96 rfl (lv_at hl 0 rfl) ?_
              refine va_get (v := .ref (ad 32)) hx hb hts in_X7 hown hK hP 0 rfl rfl 41 (by decide) (hts _ q1129) (fun _ h => h) rfl dX7_image_97 ?_
              refine lv_iconst (v := nI 3) hx hb dX7_image_100 (by decide) ?_
              refine lv_iload_n hx hb dX7_image_101 rfl (lv_at hl 1 rfl) ?_
              refine tn_mul hx hb dX7_image_102 ?_
              refine lv_iconst (v := nI 1) hx hb dX7_image_103 (by decide) ?_
              refine tn_add hx hb dX7_image_104 ?_
              refine lv_aload_n hx hb dX7_image_105 rfl (lv_at hl 0 rfl) ?_
              refine va_get (v := .ref (ad 19)) hx hb hts in_X7 hown hK hP 0 rfl rfl 24 (by decide) (hts _ q1112) (fun _ h => h) rfl dX7_image_106 ?_
              refine lv_iload_n hx hb dX7_image_109 rfl (lv_at hl 1 rfl) ?_
              refine tn_iald (f := xs.2.2.1) hx hb hK hP 19 0 rfl rfl (by omega) (by decide) dX7_image_110 ?_
              refine tn_iast (f := va_up g (3 * k) (xs.2.1 k)) hx hb hK hP hD hS 32 0 rfl rfl (by omega) (by decide) dX7_image_111 (fun H locs hP hD hS => ?_)
              have hP : va_P D vwCl (ti_wM E ad xg xd xt xf xj xh xs xv xb xq (true, xg.1, xg.2.1, xg.2.2, xs.1, va_up (va_up g (3 * k) (xs.2.1 k)) ((3 * k) + 1) (xs.2.2.1 k), xk.2.2.2.2.2.2.1, xk.2.2.2.2.2.2.2.1, xk.2.2.2.2.2.2.2.2.1, xk.2.2.2.2.2.2.2.2.2)) H := hP
              have hD : va_D A (ti_wM E ad xg xd xt xf xj xh xs xv xb xq (true, xg.1, xg.2.1, xg.2.2, xs.1, va_up (va_up g (3 * k) (xs.2.1 k)) ((3 * k) + 1) (xs.2.2.1 k), xk.2.2.2.2.2.2.1, xk.2.2.2.2.2.2.2.1, xk.2.2.2.2.2.2.2.2.1, xk.2.2.2.2.2.2.2.2.2)) := hD
              refine lv_aload_n hx hb dX7_image_112 rfl (lv_at hl 0 rfl) ?_
              refine va_get (v := .ref (ad 32)) hx hb hts in_X7 hown hK hP 0 rfl rfl 41 (by decide) (hts _ q1129) (fun _ h => h) rfl dX7_image_113 ?_
              refine lv_iconst (v := nI 3) hx hb dX7_image_116 (by decide) ?_
              refine lv_iload_n hx hb dX7_image_117 rfl (lv_at hl 1 rfl) ?_
              refine tn_mul hx hb dX7_image_118 ?_
              refine lv_iconst (v := nI 2) hx hb dX7_image_119 (by decide) ?_
              refine tn_add hx hb dX7_image_120 ?_
              refine lv_aload_n hx hb dX7_image_121 rfl (lv_at hl 0 rfl) ?_
              refine va_get (v := .ref (ad 20)) hx hb hts in_X7 hown hK hP 0 rfl rfl 25 (by decide) (hts _ q1113) (fun _ h => h) rfl dX7_image_122 ?_
              refine lv_iload_n hx hb dX7_image_125 rfl (lv_at hl 1 rfl) ?_
              refine tn_iald (f := xs.2.2.2) hx hb hK hP 20 0 rfl rfl (by omega) (by decide) dX7_image_126 ?_
              refine tn_iast (f := va_up (va_up g (3 * k) (xs.2.1 k)) ((3 * k) + 1) (xs.2.2.1 k)) hx hb hK hP hD hS 32 0 rfl rfl (by omega) (by decide) dX7_image_127 (fun H locs hP hD hS => ?_)
              have hP : va_P D vwCl (ti_wM E ad xg xd xt xf xj xh xs xv xb xq (true, xg.1, xg.2.1, xg.2.2, xs.1, va_up (va_up (va_up g (3 * k) (xs.2.1 k)) ((3 * k) + 1) (xs.2.2.1 k)) ((3 * k) + 2) (xs.2.2.2 k), xk.2.2.2.2.2.2.1, xk.2.2.2.2.2.2.2.1, xk.2.2.2.2.2.2.2.2.1, xk.2.2.2.2.2.2.2.2.2)) H := hP
              have hD : va_D A (ti_wM E ad xg xd xt xf xj xh xs xv xb xq (true, xg.1, xg.2.1, xg.2.2, xs.1, va_up (va_up (va_up g (3 * k) (xs.2.1 k)) ((3 * k) + 1) (xs.2.2.1 k)) ((3 * k) + 2) (xs.2.2.2 k), xk.2.2.2.2.2.2.1, xk.2.2.2.2.2.2.2.1, xk.2.2.2.2.2.2.2.2.1, xk.2.2.2.2.2.2.2.2.2)) := hD
              refine lv_iinc (v := nI (k + 1)) (lv' := [(1, .int (nI (k + 1))), (0, .ref (ad 0))]) hx hb dX7_image_128 hl (k := 1) rfl (nI_1 k) (by decide) rfl (fun ls hl => ?_)
              refine lv_goto (tgt := 77) hx hb dX7_image_131 (by decide) ?_
              exact ih77 (k + 1) (va_up (va_up (va_up g (3 * k) (xs.2.1 k)) ((3 * k) + 1) (xs.2.2.1 k)) ((3 * k) + 2) (xs.2.2.2 k)) _ _ _ hP hD hS (by omega) (by omega) (ti_fill3 h1) (lv_sub hl [1, 0] rfl)
        exact L77 _ 0 xk.2.2.2.2.2.1 _ _ _ hP hD hS (Nat.lt_succ_self _) (by omega) (fun j hj => absurd hj (by omega)) (lv_sub hl [1, 0] rfl)
      · skip
        refine lv_aload_n hx hb dX7_image_13 rfl (lv_at hl 0 rfl) ?_
        refine va_get (v := .ref (ad 30)) hx hb hts in_X7 hown hK hP 0 rfl rfl 38 (by decide) (hts _ q1126) (fun _ h => h) rfl dX7_image_14 ?_
        refine lv_iload_n hx hb dX7_image_17 rfl (lv_at hl 1 rfl) ?_
        refine lv_aload_n hx hb dX7_image_18 rfl (lv_at hl 0 rfl) ?_
        refine va_get (v := .ref (ad 2)) hx hb hts in_X7 hown hK hP 0 rfl rfl 1 (by decide) (hts _ q1089) (fun _ h => h) rfl dX7_image_19 ?_
        refine lv_iload_n hx hb dX7_image_22 rfl (lv_at hl 1 rfl) ?_
        refine tn_iald (f := xg.2.1) hx hb hK hP 2 0 rfl rfl (by omega) (by decide) dX7_image_23 ?_
        refine tn_iast (f := g1) hx hb hK hP hD hS 30 0 rfl rfl (by omega) (by decide) dX7_image_24 (fun H locs hP hD hS => ?_)
        have hP : va_P D vwCl (ti_wM E ad xg xd xt xf xj xh xs xv xb xq (true, xk.2.1, va_up g1 k (xg.2.1 k), g2, xk.2.2.2.2.1, xk.2.2.2.2.2.1, xk.2.2.2.2.2.2.1, xk.2.2.2.2.2.2.2.1, xk.2.2.2.2.2.2.2.2.1, xk.2.2.2.2.2.2.2.2.2)) H := hP
        have hD : va_D A (ti_wM E ad xg xd xt xf xj xh xs xv xb xq (true, xk.2.1, va_up g1 k (xg.2.1 k), g2, xk.2.2.2.2.1, xk.2.2.2.2.2.1, xk.2.2.2.2.2.2.1, xk.2.2.2.2.2.2.2.1, xk.2.2.2.2.2.2.2.2.1, xk.2.2.2.2.2.2.2.2.2)) := hD
        refine lv_aload_n hx hb dX7_image_25 rfl (lv_at hl 0 rfl) ?_
        refine va_get (v := .ref (ad 31)) hx hb hts in_X7 hown hK hP 0 rfl rfl 39 (by decide) (hts _ q1127) (fun _ h => h) rfl dX7_image_26 ?_
        refine lv_iload_n hx hb dX7_image_29 rfl (lv_at hl 1 rfl) ?_
        refine lv_aload_n hx hb dX7_image_30 rfl (lv_at hl 0 rfl) ?_
        refine va_get (v := .ref (ad 3)) hx hb hts in_X7 hown hK hP 0 rfl rfl 2 (by decide) (hts _ q1090) (fun _ h => h) rfl dX7_image_31 ?_
        refine lv_iload_n hx hb dX7_image_34 rfl (lv_at hl 1 rfl) ?_
        refine tn_iald (f := xg.2.2) hx hb hK hP 3 0 rfl rfl (by omega) (by decide) dX7_image_35 ?_
        refine tn_iast (f := g2) hx hb hK hP hD hS 31 0 rfl rfl (by omega) (by decide) dX7_image_36 (fun H locs hP hD hS => ?_)
        have hP : va_P D vwCl (ti_wM E ad xg xd xt xf xj xh xs xv xb xq (true, xk.2.1, va_up g1 k (xg.2.1 k), va_up g2 k (xg.2.2 k), xk.2.2.2.2.1, xk.2.2.2.2.2.1, xk.2.2.2.2.2.2.1, xk.2.2.2.2.2.2.2.1, xk.2.2.2.2.2.2.2.2.1, xk.2.2.2.2.2.2.2.2.2)) H := hP
        have hD : va_D A (ti_wM E ad xg xd xt xf xj xh xs xv xb xq (true, xk.2.1, va_up g1 k (xg.2.1 k), va_up g2 k (xg.2.2 k), xk.2.2.2.2.1, xk.2.2.2.2.2.1, xk.2.2.2.2.2.2.1, xk.2.2.2.2.2.2.2.1, xk.2.2.2.2.2.2.2.2.1, xk.2.2.2.2.2.2.2.2.2)) := hD
        refine lv_iinc (v := nI (k + 1)) (lv' := [(1, .int (nI (k + 1))), (0, .ref (ad 0))]) hx hb dX7_image_37 hl (k := 1) rfl (nI_1 k) (by decide) rfl (fun ls hl => ?_)
        refine lv_goto (tgt := 7) hx hb dX7_image_40 (by decide) ?_
        exact ih7 (k + 1) (va_up g1 k (xg.2.1 k)) (va_up g2 k (xg.2.2 k)) _ _ _ hP hD hS (by omega) (by omega) (ti_fill h1 rfl) (ti_fill h2 rfl) (lv_sub hl [1, 0] rfl)
  exact L7 _ 0 xk.2.2.1 xk.2.2.2.1 _ _ _ hP hD hS (Nat.lt_succ_self _) (by omega) (fun j hj => absurd hj (Nat.not_lt_zero _)) (fun j hj => absurd hj (Nat.not_lt_zero _)) (lv_sub hl [1, 0] rfl)

set_option maxHeartbeats 1000000 in
theorem met_X7_undo (l : Launch) (D : va_G) (E : Nat → ClassId) (ad : Nat → Nat) (xg : ti_Mg) (xd : ti_Md) (xt : ti_Mt) (xf : ti_Mf) (xj : ti_Mj) (xh : ti_Mh) (xs : ti_Ms) (xv : ti_Mv) (xb : ti_Mb) (xq : ti_Mq) (xk : ti_Mk) (hxg : ti_Mgok xg) (I : Nat → ti_GL) (hI : ti_MI xg I) (hxd : ti_Mdok xd) (DD : ti_DL) (hDD : ti_mdl xd 0 xd.1 = DD) (hxs : ti_Msok xs) (SN : List (Nat × Nat × Nat)) (hSN : ti_sl xs = SN) (hxv : ti_Mvok xv) (EV : ti_GL) (hEV : ti_el xv = EV) (hxb : ti_Mbok xb) (BK : ti_GL) (hBK : ti_el xb = BK) (K : ti_KP) (hKK : ti_MK xk K) : ti_MetM (σ := ti_Mg × ti_Md × ti_Ms × ti_Mv × ti_Mb) l D E yX7_undo cX7_undo 2 (some .int) 0 0 0 (ti_wM E ad xg xd xt xf xj xh xs xv xb xq xk) [.ref (ad 0)] (fun u => ti_wM E ad u.1 u.2.1 xt xf xj xh u.2.2.1 u.2.2.2.1 u.2.2.2.2 xq xk) (fun u => some (.int ((fun _ => (ti_Sundo I DD SN EV BK K).1) u))) (fun u => ti_MI u.1 (ti_Sundo I DD SN EV BK K).2.1 ∧ ti_mdl u.2.1 0 u.2.1.1 = (ti_Sundo I DD SN EV BK K).2.2.1 ∧ ti_Mgok u.1 ∧ ti_Mdok u.2.1 ∧ (ti_sl u.2.2.1 = (ti_Sundo I DD SN EV BK K).2.2.2.1 ∧ ti_Msok u.2.2.1) ∧ (ti_el u.2.2.2.1 = (ti_Sundo I DD SN EV BK K).2.2.2.2.1 ∧ ti_Mvok u.2.2.2.1) ∧ (ti_el u.2.2.2.2 = (ti_Sundo I DD SN EV BK K).2.2.2.2.2 ∧ ti_Mbok u.2.2.2.2)) := by
  refine ti_mutI (σ := ti_Mg × ti_Md × ti_Ms × ti_Mv × ti_Mb) (vi := fun _ => (ti_Sundo I DD SN EV BK K).1) (by decide) (Nat.le_of_ble_eq_true rfl) ?_
  intro p e s m below meth c H H0 A Q ls S hE hP hD hS hA hinit hl hret
  have hx := S.1
  have hb := S.2.1
  have hown := S.2.2.2.1
  have hts := S.2.2.2.2
  have hK := hE.1
  have hl : lv_has ls 2 [(0, .ref (ad 0))] := hl
  refine lv_aload_n hx hb dX7_undo_0 rfl (lv_at hl 0 rfl) ?_
  refine va_get (v := .int (ti_b xk.1)) hx hb hts in_X7 hown hK hP 0 rfl rfl 36 (by decide) (hts _ q1124) (fun _ h => h) rfl dX7_undo_1 ?_
  refine tb_ne (tgt := 10) hx hb dX7_undo_4 (by decide) (fun c4 => ?_) (fun c4 => ?_)
  · skip
    obtain ⟨⟨q1, q2, q3, q4⟩, rfl⟩ : ∃ q, K = some q := by
      cases K with
      | none => exact absurd (hKK.symm.trans c4) (by decide)
      | some q => exact ⟨q, rfl⟩
    obtain ⟨-, hK2, hK3, hK4, hK5⟩ := hKK
    refine lv_iconst (v := nI 0) hx hb dX7_undo_10 (by decide) ?_
    refine lv_istore_n (lv' := [(1, .int (nI 0)), (0, .ref (ad 0))]) hx hb dX7_undo_11 rfl hl (by decide) rfl (fun ls hl => ?_)
    have L12 : ∀ (N : Nat) (k : Nat) (g1 g2 : Nat → Nat) (ls : Array Slot) (H : Heap) (locs : List Loc), va_P D vwCl (ti_wM E ad (xg.1, g1, g2) xd xt xf xj xh xs xv xb xq xk) H → va_D A (ti_wM E ad (xg.1, g1, g2) xd xt xf xj xh xs xv xb xq xk) → va_S A H0 H locs → (12 - k) < N → (k ≤ 12) → (∀ q, g1 q = if q < k then xk.2.2.1 q else xg.2.1 q) → (∀ q, g2 q = if q < k then xk.2.2.2.1 q else xg.2.2 q) → lv_has ls 2 [(0, .ref (ad 0)), (1, .int (nI k))] → W p l e (ti_rm 0 0 0) s m ([.ref (ad 0)] : List Value).toArray below meth c H locs 0 0 Q (F0 m 12 ls []) := by
      intro N
      induction N with
      | zero => intro k g1 g2 ls H locs hP hD hS h0; exact absurd h0 (Nat.not_lt_zero _)
      | succ N ih12 =>
        intro k g1 g2 ls H locs hP hD hS hN hk h1 h2 hl
        refine lv_iload_n hx hb dX7_undo_12 rfl (lv_at hl 1 rfl) ?_
        refine lv_bipush (v := nI 12) hx hb dX7_undo_13 (by decide) ?_
        refine tn_ge (tgt := 48) hx hb dX7_undo_15 (by decide) (by omega) (by omega) (fun c15 => ?_) (fun c15 => ?_)
        · skip
          have hP := ti_P_rep (g := ti_n (ti_m12 xk.2.2.1 xg.2.1)) hP 2 rfl (fun j hj => ti_n_at ((h1 j).trans (by rw [show k = 12 by omega]; rfl)))
          have hD := ti_D_rep (q := 2) hD rfl (e := .inl (E 0, 18, .inl (ti_n (ti_m12 xk.2.2.1 xg.2.1))))
          have hP : va_P D vwCl (ti_wM E ad (xg.1, ti_m12 xk.2.2.1 xg.2.1, g2) xd xt xf xj xh xs xv xb xq xk) H := hP
          have hD : va_D A (ti_wM E ad (xg.1, ti_m12 xk.2.2.1 xg.2.1, g2) xd xt xf xj xh xs xv xb xq xk) := hD
          have hP := ti_P_rep (g := ti_n (ti_m12 xk.2.2.2.1 xg.2.2)) hP 3 rfl (fun j hj => ti_n_at ((h2 j).trans (by rw [show k = 12 by omega]; rfl)))
          have hD := ti_D_rep (q := 3) hD rfl (e := .inl (E 0, 18, .inl (ti_n (ti_m12 xk.2.2.2.1 xg.2.2))))
          have hP : va_P D vwCl (ti_wM E ad (xg.1, ti_m12 xk.2.2.1 xg.2.1, ti_m12 xk.2.2.2.1 xg.2.2) xd xt xf xj xh xs xv xb xq xk) H := hP
          have hD : va_D A (ti_wM E ad (xg.1, ti_m12 xk.2.2.1 xg.2.1, ti_m12 xk.2.2.2.1 xg.2.2) xd xt xf xj xh xs xv xb xq xk) := hD
          refine lv_aload_n hx hb dX7_undo_48 rfl (lv_at hl 0 rfl) ?_
          refine va_get (v := .ref (ad 1)) hx hb hts in_X7 hown hK hP 0 rfl rfl 0 (by decide) (hts _ q1088) (fun _ h => h) rfl dX7_undo_49 ?_
          refine lv_iconst (v := nI 0) hx hb dX7_undo_52 (by decide) ?_
          refine lv_aload_n hx hb dX7_undo_53 rfl (lv_at hl 0 rfl) ?_
          refine va_get (v := .ref (ad 29)) hx hb hts in_X7 hown hK hP 0 rfl rfl 37 (by decide) (hts _ q1125) (fun _ h => h) rfl dX7_undo_54 ?_
          refine lv_iconst (v := nI 0) hx hb dX7_undo_57 (by decide) ?_
          refine tn_iald (f := xk.2.1) hx hb hK hP 29 0 rfl rfl (by omega) (by decide) dX7_undo_58 ?_
          refine tn_iast (f := xg.1) hx hb hK hP hD hS 1 0 rfl rfl (by omega) (by decide) dX7_undo_59 (fun H locs hP hD hS => ?_)
          have hP : va_P D vwCl (ti_wM E ad (va_up xg.1 0 (xk.2.1 0), ti_m12 xk.2.2.1 xg.2.1, ti_m12 xk.2.2.2.1 xg.2.2) xd xt xf xj xh xs xv xb xq xk) H := hP
          have hD : va_D A (ti_wM E ad (va_up xg.1 0 (xk.2.1 0), ti_m12 xk.2.2.1 xg.2.1, ti_m12 xk.2.2.2.1 xg.2.2) xd xt xf xj xh xs xv xb xq xk) := hD
          refine lv_aload_n hx hb dX7_undo_60 rfl (lv_at hl 0 rfl) ?_
          refine va_get (v := .ref (ad 1)) hx hb hts in_X7 hown hK hP 0 rfl rfl 0 (by decide) (hts _ q1088) (fun _ h => h) rfl dX7_undo_61 ?_
          refine lv_iconst (v := nI 1) hx hb dX7_undo_64 (by decide) ?_
          refine lv_aload_n hx hb dX7_undo_65 rfl (lv_at hl 0 rfl) ?_
          refine va_get (v := .ref (ad 29)) hx hb hts in_X7 hown hK hP 0 rfl rfl 37 (by decide) (hts _ q1125) (fun _ h => h) rfl dX7_undo_66 ?_
          refine lv_iconst (v := nI 1) hx hb dX7_undo_69 (by decide) ?_
          refine tn_iald (f := xk.2.1) hx hb hK hP 29 0 rfl rfl (by omega) (by decide) dX7_undo_70 ?_
          refine tn_iast (f := va_up xg.1 0 (xk.2.1 0)) hx hb hK hP hD hS 1 0 rfl rfl (by omega) (by decide) dX7_undo_71 (fun H locs hP hD hS => ?_)
          have hP : va_P D vwCl (ti_wM E ad (va_up (va_up xg.1 0 (xk.2.1 0)) 1 (xk.2.1 1), ti_m12 xk.2.2.1 xg.2.1, ti_m12 xk.2.2.2.1 xg.2.2) xd xt xf xj xh xs xv xb xq xk) H := hP
          have hD : va_D A (ti_wM E ad (va_up (va_up xg.1 0 (xk.2.1 0)) 1 (xk.2.1 1), ti_m12 xk.2.2.1 xg.2.1, ti_m12 xk.2.2.2.1 xg.2.2) xd xt xf xj xh xs xv xb xq xk) := hD
          refine lv_aload_n hx hb dX7_undo_72 rfl (lv_at hl 0 rfl) ?_
          refine lv_aload_n hx hb dX7_undo_73 rfl (lv_at hl 0 rfl) ?_
          refine va_get (v := .int (nI xk.2.2.2.2.1)) hx hb hts in_X7 hown hK hP 0 rfl rfl 40 (by decide) (hts _ q1128) (fun _ h => h) rfl dX7_undo_74 ?_
          refine va_put (ty := .int) hx hb hts in_X7 tyX7 tyX7_ok nmX7 hown hK hP hD hS 0 rfl rfl 22 (by decide) (hts _ q1110) (fun _ h => h) rfl rfl rfl rfl (Nat.le_of_ble_eq_true rfl) dX7_undo_77 (fun H locs hP hD hS => ?_)
          have hP : va_P D vwCl (ti_wM E ad (va_up (va_up xg.1 0 (xk.2.1 0)) 1 (xk.2.1 1), ti_m12 xk.2.2.1 xg.2.1, ti_m12 xk.2.2.2.1 xg.2.2) xd xt xf xj xh (xk.2.2.2.2.1, xs.2.1, xs.2.2.1, xs.2.2.2) xv xb xq xk) H := hP
          have hD : va_D A (ti_wM E ad (va_up (va_up xg.1 0 (xk.2.1 0)) 1 (xk.2.1 1), ti_m12 xk.2.2.1 xg.2.1, ti_m12 xk.2.2.2.1 xg.2.2) xd xt xf xj xh (xk.2.2.2.2.1, xs.2.1, xs.2.2.1, xs.2.2.2) xv xb xq xk) := hD
          refine lv_iconst (v := nI 0) hx hb dX7_undo_80 (by decide) ?_
          refine lv_istore_n (lv' := [(1, .int (nI 0)), (0, .ref (ad 0))]) hx hb dX7_undo_81 rfl hl (by decide) rfl (fun ls hl => ?_)
          have L82 : ∀ (N : Nat) (k : Nat) (g1 g2 g3 : Nat → Nat) (ls : Array Slot) (H : Heap) (locs : List Loc), va_P D vwCl (ti_wM E ad (va_up (va_up xg.1 0 (xk.2.1 0)) 1 (xk.2.1 1), ti_m12 xk.2.2.1 xg.2.1, ti_m12 xk.2.2.2.1 xg.2.2) xd xt xf xj xh (xk.2.2.2.2.1, g1, g2, g3) xv xb xq xk) H → va_D A (ti_wM E ad (va_up (va_up xg.1 0 (xk.2.1 0)) 1 (xk.2.1 1), ti_m12 xk.2.2.1 xg.2.1, ti_m12 xk.2.2.2.1 xg.2.2) xd xt xf xj xh (xk.2.2.2.2.1, g1, g2, g3) xv xb xq xk) → va_S A H0 H locs → (4 - k) < N → (k ≤ 4) → (∀ j, j < k → g1 j = (fun r => xk.2.2.2.2.2.1 (3 * r)) j) → (∀ j, j < k → g2 j = (fun r => xk.2.2.2.2.2.1 (3 * r + 1)) j) → (∀ j, j < k → g3 j = (fun r => xk.2.2.2.2.2.1 (3 * r + 2)) j) → lv_has ls 2 [(0, .ref (ad 0)), (1, .int (nI k))] → W p l e (ti_rm 0 0 0) s m ([.ref (ad 0)] : List Value).toArray below meth c H locs 0 0 Q (F0 m 82 ls []) := by
            intro N
            induction N with
            | zero => intro k g1 g2 g3 ls H locs hP hD hS h0; exact absurd h0 (Nat.not_lt_zero _)
            | succ N ih82 =>
              intro k g1 g2 g3 ls H locs hP hD hS hN hk h1 h2 h3 hl
              refine lv_iload_n hx hb dX7_undo_82 rfl (lv_at hl 1 rfl) ?_
              refine lv_iconst (v := nI 4) hx hb dX7_undo_83 (by decide) ?_
              refine tn_ge (tgt := 139) hx hb dX7_undo_84 (by decide) (by omega) (by omega) (fun c84 => ?_) (fun c84 => ?_)
              · skip
                have hP := ti_P_rep (g := ti_n (fun r => xk.2.2.2.2.2.1 (3 * r))) hP 18 rfl (fun j hj => ti_n_at (h1 j (by omega)))
                have hD := ti_D_rep (q := 18) hD rfl (e := .inl (E 0, 4, .inl (ti_n (fun r => xk.2.2.2.2.2.1 (3 * r)))))
                have hP : va_P D vwCl (ti_wM E ad (va_up (va_up xg.1 0 (xk.2.1 0)) 1 (xk.2.1 1), ti_m12 xk.2.2.1 xg.2.1, ti_m12 xk.2.2.2.1 xg.2.2) xd xt xf xj xh (xk.2.2.2.2.1, fun r => xk.2.2.2.2.2.1 (3 * r), g2, g3) xv xb xq xk) H := hP
                have hD : va_D A (ti_wM E ad (va_up (va_up xg.1 0 (xk.2.1 0)) 1 (xk.2.1 1), ti_m12 xk.2.2.1 xg.2.1, ti_m12 xk.2.2.2.1 xg.2.2) xd xt xf xj xh (xk.2.2.2.2.1, fun r => xk.2.2.2.2.2.1 (3 * r), g2, g3) xv xb xq xk) := hD
                have hP := ti_P_rep (g := ti_n (fun r => xk.2.2.2.2.2.1 (3 * r + 1))) hP 19 rfl (fun j hj => ti_n_at (h2 j (by omega)))
                have hD := ti_D_rep (q := 19) hD rfl (e := .inl (E 0, 4, .inl (ti_n (fun r => xk.2.2.2.2.2.1 (3 * r + 1)))))
                have hP : va_P D vwCl (ti_wM E ad (va_up (va_up xg.1 0 (xk.2.1 0)) 1 (xk.2.1 1), ti_m12 xk.2.2.1 xg.2.1, ti_m12 xk.2.2.2.1 xg.2.2) xd xt xf xj xh (xk.2.2.2.2.1, fun r => xk.2.2.2.2.2.1 (3 * r), fun r => xk.2.2.2.2.2.1 (3 * r + 1), g3) xv xb xq xk) H := hP
                have hD : va_D A (ti_wM E ad (va_up (va_up xg.1 0 (xk.2.1 0)) 1 (xk.2.1 1), ti_m12 xk.2.2.1 xg.2.1, ti_m12 xk.2.2.2.1 xg.2.2) xd xt xf xj xh (xk.2.2.2.2.1, fun r => xk.2.2.2.2.2.1 (3 * r), fun r => xk.2.2.2.2.2.1 (3 * r + 1), g3) xv xb xq xk) := hD
                have hP := ti_P_rep (g := ti_n (fun r => xk.2.2.2.2.2.1 (3 * r + 2))) hP 20 rfl (fun j hj => ti_n_at (h3 j (by omega)))
                have hD := ti_D_rep (q := 20) hD rfl (e := .inl (E 0, 4, .inl (ti_n (fun r => xk.2.2.2.2.2.1 (3 * r + 2)))))
                have hP : va_P D vwCl (ti_wM E ad (va_up (va_up xg.1 0 (xk.2.1 0)) 1 (xk.2.1 1), ti_m12 xk.2.2.1 xg.2.1, ti_m12 xk.2.2.2.1 xg.2.2) xd xt xf xj xh (xk.2.2.2.2.1, fun r => xk.2.2.2.2.2.1 (3 * r), fun r => xk.2.2.2.2.2.1 (3 * r + 1), fun r => xk.2.2.2.2.2.1 (3 * r + 2)) xv xb xq xk) H := hP
                have hD : va_D A (ti_wM E ad (va_up (va_up xg.1 0 (xk.2.1 0)) 1 (xk.2.1 1), ti_m12 xk.2.2.1 xg.2.1, ti_m12 xk.2.2.2.1 xg.2.2) xd xt xf xj xh (xk.2.2.2.2.1, fun r => xk.2.2.2.2.2.1 (3 * r), fun r => xk.2.2.2.2.2.1 (3 * r + 1), fun r => xk.2.2.2.2.2.1 (3 * r + 2)) xv xb xq xk) := hD
                refine lv_aload_n hx hb dX7_undo_139 rfl (lv_at hl 0 rfl) ?_
                refine lv_aload_n hx hb dX7_undo_140 rfl (lv_at hl 0 rfl) ?_
                refine va_get (v := .int (nI xk.2.2.2.2.2.2.1)) hx hb hts in_X7 hown hK hP 0 rfl rfl 42 (by decide) (hts _ q1130) (fun _ h => h) rfl dX7_undo_141 ?_
                refine va_put (ty := .int) hx hb hts in_X7 tyX7 tyX7_ok nmX7 hown hK hP hD hS 0 rfl rfl 26 (by decide) (hts _ q1114) (fun _ h => h) rfl rfl rfl rfl (Nat.le_of_ble_eq_true rfl) dX7_undo_144 (fun H locs hP hD hS => ?_)
                have hP : va_P D vwCl (ti_wM E ad (va_up (va_up xg.1 0 (xk.2.1 0)) 1 (xk.2.1 1), ti_m12 xk.2.2.1 xg.2.1, ti_m12 xk.2.2.2.1 xg.2.2) xd xt xf xj xh (xk.2.2.2.2.1, fun r => xk.2.2.2.2.2.1 (3 * r), fun r => xk.2.2.2.2.2.1 (3 * r + 1), fun r => xk.2.2.2.2.2.1 (3 * r + 2)) (xk.2.2.2.2.2.2.1, xv.2.1, xv.2.2) xb xq xk) H := hP
                have hD : va_D A (ti_wM E ad (va_up (va_up xg.1 0 (xk.2.1 0)) 1 (xk.2.1 1), ti_m12 xk.2.2.1 xg.2.1, ti_m12 xk.2.2.2.1 xg.2.2) xd xt xf xj xh (xk.2.2.2.2.1, fun r => xk.2.2.2.2.2.1 (3 * r), fun r => xk.2.2.2.2.2.1 (3 * r + 1), fun r => xk.2.2.2.2.2.1 (3 * r + 2)) (xk.2.2.2.2.2.2.1, xv.2.1, xv.2.2) xb xq xk) := hD
                refine lv_aload_n hx hb dX7_undo_147 rfl (lv_at hl 0 rfl) ?_
                refine lv_aload_n hx hb dX7_undo_148 rfl (lv_at hl 0 rfl) ?_
                refine va_get (v := .int (nI xk.2.2.2.2.2.2.2.2.1)) hx hb hts in_X7 hown hK hP 0 rfl rfl 44 (by decide) (hts _ q1132) (fun _ h => h) rfl dX7_undo_149 ?_
                refine va_put (ty := .int) hx hb hts in_X7 tyX7 tyX7_ok nmX7 hown hK hP hD hS 0 rfl rfl 29 (by decide) (hts _ q1117) (fun _ h => h) rfl rfl rfl rfl (Nat.le_of_ble_eq_true rfl) dX7_undo_152 (fun H locs hP hD hS => ?_)
                have hP : va_P D vwCl (ti_wM E ad (va_up (va_up xg.1 0 (xk.2.1 0)) 1 (xk.2.1 1), ti_m12 xk.2.2.1 xg.2.1, ti_m12 xk.2.2.2.1 xg.2.2) xd xt xf xj xh (xk.2.2.2.2.1, fun r => xk.2.2.2.2.2.1 (3 * r), fun r => xk.2.2.2.2.2.1 (3 * r + 1), fun r => xk.2.2.2.2.2.1 (3 * r + 2)) (xk.2.2.2.2.2.2.1, xv.2.1, xv.2.2) (xk.2.2.2.2.2.2.2.2.1, xb.2.1, xb.2.2) xq xk) H := hP
                have hD : va_D A (ti_wM E ad (va_up (va_up xg.1 0 (xk.2.1 0)) 1 (xk.2.1 1), ti_m12 xk.2.2.1 xg.2.1, ti_m12 xk.2.2.2.1 xg.2.2) xd xt xf xj xh (xk.2.2.2.2.1, fun r => xk.2.2.2.2.2.1 (3 * r), fun r => xk.2.2.2.2.2.1 (3 * r + 1), fun r => xk.2.2.2.2.2.1 (3 * r + 2)) (xk.2.2.2.2.2.2.1, xv.2.1, xv.2.2) (xk.2.2.2.2.2.2.2.2.1, xb.2.1, xb.2.2) xq xk) := hD
                refine lv_iconst (v := nI 0) hx hb dX7_undo_155 (by decide) ?_
                refine lv_istore_n (lv' := [(1, .int (nI 0)), (0, .ref (ad 0))]) hx hb dX7_undo_156 rfl hl (by decide) rfl (fun ls hl => ?_)
                have L157 : ∀ (N : Nat) (k : Nat) (g1 g2 g3 g4 : Nat → Nat) (ls : Array Slot) (H : Heap) (locs : List Loc), va_P D vwCl (ti_wM E ad (va_up (va_up xg.1 0 (xk.2.1 0)) 1 (xk.2.1 1), ti_m12 xk.2.2.1 xg.2.1, ti_m12 xk.2.2.2.1 xg.2.2) xd xt xf xj xh (xk.2.2.2.2.1, fun r => xk.2.2.2.2.2.1 (3 * r), fun r => xk.2.2.2.2.2.1 (3 * r + 1), fun r => xk.2.2.2.2.2.1 (3 * r + 2)) (xk.2.2.2.2.2.2.1, g1, g2) (xk.2.2.2.2.2.2.2.2.1, g3, g4) xq xk) H → va_D A (ti_wM E ad (va_up (va_up xg.1 0 (xk.2.1 0)) 1 (xk.2.1 1), ti_m12 xk.2.2.1 xg.2.1, ti_m12 xk.2.2.2.1 xg.2.2) xd xt xf xj xh (xk.2.2.2.2.1, fun r => xk.2.2.2.2.2.1 (3 * r), fun r => xk.2.2.2.2.2.1 (3 * r + 1), fun r => xk.2.2.2.2.2.1 (3 * r + 2)) (xk.2.2.2.2.2.2.1, g1, g2) (xk.2.2.2.2.2.2.2.2.1, g3, g4) xq xk) → va_S A H0 H locs → (8 - k) < N → (k ≤ 8) → (∀ j, j < k → g1 j = (fun r => xk.2.2.2.2.2.2.2.1 (2 * r)) j) → (∀ j, j < k → g2 j = (fun r => xk.2.2.2.2.2.2.2.1 (2 * r + 1)) j) → (∀ j, j < k → g3 j = (fun r => xk.2.2.2.2.2.2.2.2.2 (2 * r)) j) → (∀ j, j < k → g4 j = (fun r => xk.2.2.2.2.2.2.2.2.2 (2 * r + 1)) j) → lv_has ls 2 [(0, .ref (ad 0)), (1, .int (nI k))] → W p l e (ti_rm 0 0 0) s m ([.ref (ad 0)] : List Value).toArray below meth c H locs 0 0 Q (F0 m 157 ls []) := by
                  intro N
                  induction N with
                  | zero => intro k g1 g2 g3 g4 ls H locs hP hD hS h0; exact absurd h0 (Nat.not_lt_zero _)
                  | succ N ih157 =>
                    intro k g1 g2 g3 g4 ls H locs hP hD hS hN hk h1 h2 h3 h4 hl
                    refine lv_iload_n hx hb dX7_undo_157 rfl (lv_at hl 1 rfl) ?_
                    refine lv_bipush (v := nI 8) hx hb dX7_undo_158 (by decide) ?_
                    refine tn_ge (tgt := 229) hx hb dX7_undo_160 (by decide) (by omega) (by omega) (fun c160 => ?_) (fun c160 => ?_)
                    · skip
                      have hP := ti_P_rep (g := ti_n (fun r => xk.2.2.2.2.2.2.2.1 (2 * r))) hP 21 rfl (fun j hj => ti_n_at (h1 j (by omega)))
                      have hD := ti_D_rep (q := 21) hD rfl (e := .inl (E 0, 8, .inl (ti_n (fun r => xk.2.2.2.2.2.2.2.1 (2 * r)))))
                      have hP : va_P D vwCl (ti_wM E ad (va_up (va_up xg.1 0 (xk.2.1 0)) 1 (xk.2.1 1), ti_m12 xk.2.2.1 xg.2.1, ti_m12 xk.2.2.2.1 xg.2.2) xd xt xf xj xh (xk.2.2.2.2.1, fun r => xk.2.2.2.2.2.1 (3 * r), fun r => xk.2.2.2.2.2.1 (3 * r + 1), fun r => xk.2.2.2.2.2.1 (3 * r + 2)) (xk.2.2.2.2.2.2.1, fun r => xk.2.2.2.2.2.2.2.1 (2 * r), g2) (xk.2.2.2.2.2.2.2.2.1, g3, g4) xq xk) H := hP
                      have hD : va_D A (ti_wM E ad (va_up (va_up xg.1 0 (xk.2.1 0)) 1 (xk.2.1 1), ti_m12 xk.2.2.1 xg.2.1, ti_m12 xk.2.2.2.1 xg.2.2) xd xt xf xj xh (xk.2.2.2.2.1, fun r => xk.2.2.2.2.2.1 (3 * r), fun r => xk.2.2.2.2.2.1 (3 * r + 1), fun r => xk.2.2.2.2.2.1 (3 * r + 2)) (xk.2.2.2.2.2.2.1, fun r => xk.2.2.2.2.2.2.2.1 (2 * r), g2) (xk.2.2.2.2.2.2.2.2.1, g3, g4) xq xk) := hD
                      have hP := ti_P_rep (g := ti_n (fun r => xk.2.2.2.2.2.2.2.1 (2 * r + 1))) hP 22 rfl (fun j hj => ti_n_at (h2 j (by omega)))
                      have hD := ti_D_rep (q := 22) hD rfl (e := .inl (E 0, 8, .inl (ti_n (fun r => xk.2.2.2.2.2.2.2.1 (2 * r + 1)))))
                      have hP : va_P D vwCl (ti_wM E ad (va_up (va_up xg.1 0 (xk.2.1 0)) 1 (xk.2.1 1), ti_m12 xk.2.2.1 xg.2.1, ti_m12 xk.2.2.2.1 xg.2.2) xd xt xf xj xh (xk.2.2.2.2.1, fun r => xk.2.2.2.2.2.1 (3 * r), fun r => xk.2.2.2.2.2.1 (3 * r + 1), fun r => xk.2.2.2.2.2.1 (3 * r + 2)) (xk.2.2.2.2.2.2.1, fun r => xk.2.2.2.2.2.2.2.1 (2 * r), fun r => xk.2.2.2.2.2.2.2.1 (2 * r + 1)) (xk.2.2.2.2.2.2.2.2.1, g3, g4) xq xk) H := hP
                      have hD : va_D A (ti_wM E ad (va_up (va_up xg.1 0 (xk.2.1 0)) 1 (xk.2.1 1), ti_m12 xk.2.2.1 xg.2.1, ti_m12 xk.2.2.2.1 xg.2.2) xd xt xf xj xh (xk.2.2.2.2.1, fun r => xk.2.2.2.2.2.1 (3 * r), fun r => xk.2.2.2.2.2.1 (3 * r + 1), fun r => xk.2.2.2.2.2.1 (3 * r + 2)) (xk.2.2.2.2.2.2.1, fun r => xk.2.2.2.2.2.2.2.1 (2 * r), fun r => xk.2.2.2.2.2.2.2.1 (2 * r + 1)) (xk.2.2.2.2.2.2.2.2.1, g3, g4) xq xk) := hD
                      have hP := ti_P_rep (g := ti_n (fun r => xk.2.2.2.2.2.2.2.2.2 (2 * r))) hP 23 rfl (fun j hj => ti_n_at (h3 j (by omega)))
                      have hD := ti_D_rep (q := 23) hD rfl (e := .inl (E 0, 8, .inl (ti_n (fun r => xk.2.2.2.2.2.2.2.2.2 (2 * r)))))
                      have hP : va_P D vwCl (ti_wM E ad (va_up (va_up xg.1 0 (xk.2.1 0)) 1 (xk.2.1 1), ti_m12 xk.2.2.1 xg.2.1, ti_m12 xk.2.2.2.1 xg.2.2) xd xt xf xj xh (xk.2.2.2.2.1, fun r => xk.2.2.2.2.2.1 (3 * r), fun r => xk.2.2.2.2.2.1 (3 * r + 1), fun r => xk.2.2.2.2.2.1 (3 * r + 2)) (xk.2.2.2.2.2.2.1, fun r => xk.2.2.2.2.2.2.2.1 (2 * r), fun r => xk.2.2.2.2.2.2.2.1 (2 * r + 1)) (xk.2.2.2.2.2.2.2.2.1, fun r => xk.2.2.2.2.2.2.2.2.2 (2 * r), g4) xq xk) H := hP
                      have hD : va_D A (ti_wM E ad (va_up (va_up xg.1 0 (xk.2.1 0)) 1 (xk.2.1 1), ti_m12 xk.2.2.1 xg.2.1, ti_m12 xk.2.2.2.1 xg.2.2) xd xt xf xj xh (xk.2.2.2.2.1, fun r => xk.2.2.2.2.2.1 (3 * r), fun r => xk.2.2.2.2.2.1 (3 * r + 1), fun r => xk.2.2.2.2.2.1 (3 * r + 2)) (xk.2.2.2.2.2.2.1, fun r => xk.2.2.2.2.2.2.2.1 (2 * r), fun r => xk.2.2.2.2.2.2.2.1 (2 * r + 1)) (xk.2.2.2.2.2.2.2.2.1, fun r => xk.2.2.2.2.2.2.2.2.2 (2 * r), g4) xq xk) := hD
                      have hP := ti_P_rep (g := ti_n (fun r => xk.2.2.2.2.2.2.2.2.2 (2 * r + 1))) hP 24 rfl (fun j hj => ti_n_at (h4 j (by omega)))
                      have hD := ti_D_rep (q := 24) hD rfl (e := .inl (E 0, 8, .inl (ti_n (fun r => xk.2.2.2.2.2.2.2.2.2 (2 * r + 1)))))
                      have hP : va_P D vwCl (ti_wM E ad (va_up (va_up xg.1 0 (xk.2.1 0)) 1 (xk.2.1 1), ti_m12 xk.2.2.1 xg.2.1, ti_m12 xk.2.2.2.1 xg.2.2) xd xt xf xj xh (xk.2.2.2.2.1, fun r => xk.2.2.2.2.2.1 (3 * r), fun r => xk.2.2.2.2.2.1 (3 * r + 1), fun r => xk.2.2.2.2.2.1 (3 * r + 2)) (xk.2.2.2.2.2.2.1, fun r => xk.2.2.2.2.2.2.2.1 (2 * r), fun r => xk.2.2.2.2.2.2.2.1 (2 * r + 1)) (xk.2.2.2.2.2.2.2.2.1, fun r => xk.2.2.2.2.2.2.2.2.2 (2 * r), fun r => xk.2.2.2.2.2.2.2.2.2 (2 * r + 1)) xq xk) H := hP
                      have hD : va_D A (ti_wM E ad (va_up (va_up xg.1 0 (xk.2.1 0)) 1 (xk.2.1 1), ti_m12 xk.2.2.1 xg.2.1, ti_m12 xk.2.2.2.1 xg.2.2) xd xt xf xj xh (xk.2.2.2.2.1, fun r => xk.2.2.2.2.2.1 (3 * r), fun r => xk.2.2.2.2.2.1 (3 * r + 1), fun r => xk.2.2.2.2.2.1 (3 * r + 2)) (xk.2.2.2.2.2.2.1, fun r => xk.2.2.2.2.2.2.2.1 (2 * r), fun r => xk.2.2.2.2.2.2.2.1 (2 * r + 1)) (xk.2.2.2.2.2.2.2.2.1, fun r => xk.2.2.2.2.2.2.2.2.2 (2 * r), fun r => xk.2.2.2.2.2.2.2.2.2 (2 * r + 1)) xq xk) := hD
                      refine lv_aload_n hx hb dX7_undo_229 rfl (lv_at hl 0 rfl) ?_
                      refine lv_iconst (v := nI 0) hx hb dX7_undo_230 (by decide) ?_
                      refine va_put (ty := .int) hx hb hts in_X7 tyX7 tyX7_ok nmX7 hown hK hP hD hS 0 rfl rfl 3 (by decide) (hts _ q1091) (fun _ h => h) rfl rfl rfl rfl (Nat.le_of_ble_eq_true rfl) dX7_undo_231 (fun H locs hP hD hS => ?_)
                      have hP : va_P D vwCl (ti_wM E ad (va_up (va_up xg.1 0 (xk.2.1 0)) 1 (xk.2.1 1), ti_m12 xk.2.2.1 xg.2.1, ti_m12 xk.2.2.2.1 xg.2.2) (0, xd.2.1, xd.2.2.1, xd.2.2.2.1, xd.2.2.2.2) xt xf xj xh (xk.2.2.2.2.1, fun r => xk.2.2.2.2.2.1 (3 * r), fun r => xk.2.2.2.2.2.1 (3 * r + 1), fun r => xk.2.2.2.2.2.1 (3 * r + 2)) (xk.2.2.2.2.2.2.1, fun r => xk.2.2.2.2.2.2.2.1 (2 * r), fun r => xk.2.2.2.2.2.2.2.1 (2 * r + 1)) (xk.2.2.2.2.2.2.2.2.1, fun r => xk.2.2.2.2.2.2.2.2.2 (2 * r), fun r => xk.2.2.2.2.2.2.2.2.2 (2 * r + 1)) xq xk) H := hP
                      have hD : va_D A (ti_wM E ad (va_up (va_up xg.1 0 (xk.2.1 0)) 1 (xk.2.1 1), ti_m12 xk.2.2.1 xg.2.1, ti_m12 xk.2.2.2.1 xg.2.2) (0, xd.2.1, xd.2.2.1, xd.2.2.2.1, xd.2.2.2.2) xt xf xj xh (xk.2.2.2.2.1, fun r => xk.2.2.2.2.2.1 (3 * r), fun r => xk.2.2.2.2.2.1 (3 * r + 1), fun r => xk.2.2.2.2.2.1 (3 * r + 2)) (xk.2.2.2.2.2.2.1, fun r => xk.2.2.2.2.2.2.2.1 (2 * r), fun r => xk.2.2.2.2.2.2.2.1 (2 * r + 1)) (xk.2.2.2.2.2.2.2.2.1, fun r => xk.2.2.2.2.2.2.2.2.2 (2 * r), fun r => xk.2.2.2.2.2.2.2.2.2 (2 * r + 1)) xq xk) := hD
                      refine lv_aload_n hx hb dX7_undo_234 rfl (lv_at hl 0 rfl) ?_
                      refine va_get (v := .ref (ad 1)) hx hb hts in_X7 hown hK hP 0 rfl rfl 0 (by decide) (hts _ q1088) (fun _ h => h) rfl dX7_undo_235 ?_
                      refine lv_iconst (v := nI 0) hx hb dX7_undo_238 (by decide) ?_
                      refine tn_iald (f := va_up (va_up xg.1 0 (xk.2.1 0)) 1 (xk.2.1 1)) hx hb hK hP 1 0 rfl rfl (by omega) (by decide) dX7_undo_239 ?_
                      refine lv_aload_n hx hb dX7_undo_240 rfl (lv_at hl 0 rfl) ?_
                      refine va_get (v := .ref (ad 1)) hx hb hts in_X7 hown hK hP 0 rfl rfl 0 (by decide) (hts _ q1088) (fun _ h => h) rfl dX7_undo_241 ?_
                      refine lv_iconst (v := nI 1) hx hb dX7_undo_244 (by decide) ?_
                      refine tn_iald (f := va_up (va_up xg.1 0 (xk.2.1 0)) 1 (xk.2.1 1)) hx hb hK hP 1 0 rfl rfl (by omega) (by decide) dX7_undo_245 ?_
                      refine tn_add hx hb dX7_undo_246 ?_
                      exact hret (((va_up (va_up xg.1 0 (xk.2.1 0)) 1 (xk.2.1 1), ti_m12 xk.2.2.1 xg.2.1, ti_m12 xk.2.2.2.1 xg.2.2), (0, xd.2), ti_ks xk, ti_kv xk, ti_kb xk)) _ _ _ _ _ _ _ dX7_undo_247 (by show nI (va_up (va_up xg.1 0 (xk.2.1 0)) 1 (xk.2.1 1) 0 + va_up (va_up xg.1 0 (xk.2.1 0)) 1 (xk.2.1 1) 1) = ti_both q1; rw [va_up_self, va_up_ne _ _ (by decide), va_up_self, ti_both, ← hK2.1 0 (by decide), ← hK2.1 1 (by decide)]; show _ = nI ((ti_gr _ _ _ _).length + (ti_gr _ _ _ _).length); rw [ti_gr_len, ti_gr_len]; rfl) (⟨fun i hi => (ti_m12_G hK2.2 hi).trans (hK2.1 i hi), rfl, ⟨ti_up_le (ti_up_le hxg.1 (hK2.2.1 0)) (hK2.2.1 1), ti_m12_le hK2.2.2.1 hxg.2.1, ti_m12_le hK2.2.2.2 hxg.2.2⟩, ⟨Nat.zero_le _, hxd.2⟩, hK3, hK4, hK5⟩) hP hS (Nat.le_refl _) (Nat.le_refl _)
                    · skip
                      refine lv_aload_n hx hb dX7_undo_163 rfl (lv_at hl 0 rfl) ?_
                      refine va_get (v := .ref (ad 21)) hx hb hts in_X7 hown hK hP 0 rfl rfl 27 (by decide) (hts _ q1115) (fun _ h => h) rfl dX7_undo_164 ?_
                      refine lv_iload_n hx hb dX7_undo_167 rfl (lv_at hl 1 rfl) ?_
                      refine lv_aload_n hx hb dX7_undo_168 rfl (lv_at hl 0 rfl) ?_
                      refine va_get (v := .ref (ad 33)) hx hb hts in_X7 hown hK hP 0 rfl rfl 43 (by decide) (hts _ q1131) (fun _ h => h) rfl dX7_undo_169 ?_
                      refine lv_iconst (v := nI 2) hx hb dX7_undo_172 (by decide) ?_
                      refine lv_iload_n hx hb dX7_undo_173 rfl (lv_at hl 1 rfl) ?_
                      refine tn_mul hx hb dX7_undo_174 ?_
                      refine tn_iald (f := xk.2.2.2.2.2.2.2.1) hx hb hK hP 33 0 rfl rfl (by omega) (by decide) dX7_undo_175 ?_
                      refine tn_iast (f := g1) hx hb hK hP hD hS 21 0 rfl rfl (by omega) (by decide) dX7_undo_176 (fun H locs hP hD hS => ?_)
                      have hP : va_P D vwCl (ti_wM E ad (va_up (va_up xg.1 0 (xk.2.1 0)) 1 (xk.2.1 1), ti_m12 xk.2.2.1 xg.2.1, ti_m12 xk.2.2.2.1 xg.2.2) xd xt xf xj xh (xk.2.2.2.2.1, fun r => xk.2.2.2.2.2.1 (3 * r), fun r => xk.2.2.2.2.2.1 (3 * r + 1), fun r => xk.2.2.2.2.2.1 (3 * r + 2)) (xk.2.2.2.2.2.2.1, va_up g1 k (xk.2.2.2.2.2.2.2.1 (2 * k)), g2) (xk.2.2.2.2.2.2.2.2.1, g3, g4) xq xk) H := hP
                      have hD : va_D A (ti_wM E ad (va_up (va_up xg.1 0 (xk.2.1 0)) 1 (xk.2.1 1), ti_m12 xk.2.2.1 xg.2.1, ti_m12 xk.2.2.2.1 xg.2.2) xd xt xf xj xh (xk.2.2.2.2.1, fun r => xk.2.2.2.2.2.1 (3 * r), fun r => xk.2.2.2.2.2.1 (3 * r + 1), fun r => xk.2.2.2.2.2.1 (3 * r + 2)) (xk.2.2.2.2.2.2.1, va_up g1 k (xk.2.2.2.2.2.2.2.1 (2 * k)), g2) (xk.2.2.2.2.2.2.2.2.1, g3, g4) xq xk) := hD
                      refine lv_aload_n hx hb dX7_undo_177 rfl (lv_at hl 0 rfl) ?_
                      refine va_get (v := .ref (ad 22)) hx hb hts in_X7 hown hK hP 0 rfl rfl 28 (by decide) (hts _ q1116) (fun _ h => h) rfl dX7_undo_178 ?_
                      refine lv_iload_n hx hb dX7_undo_181 rfl (lv_at hl 1 rfl) ?_
                      refine lv_aload_n hx hb dX7_undo_182 rfl (lv_at hl 0 rfl) ?_
                      refine va_get (v := .ref (ad 33)) hx hb hts in_X7 hown hK hP 0 rfl rfl 43 (by decide) (hts _ q1131) (fun _ h => h) rfl dX7_undo_183 ?_
                      refine lv_iconst (v := nI 2) hx hb dX7_undo_186 (by decide) ?_
                      refine lv_iload_n hx hb dX7_undo_187 rfl (lv_at hl 1 rfl) ?_
                      refine tn_mul hx hb dX7_undo_188 ?_
                      refine lv_iconst (v := nI 1) hx hb dX7_undo_189 (by decide) ?_
                      refine tn_add hx hb dX7_undo_190 ?_
                      refine tn_iald (f := xk.2.2.2.2.2.2.2.1) hx hb hK hP 33 0 rfl rfl (by omega) (by decide) dX7_undo_191 ?_
                      refine tn_iast (f := g2) hx hb hK hP hD hS 22 0 rfl rfl (by omega) (by decide) dX7_undo_192 (fun H locs hP hD hS => ?_)
                      have hP : va_P D vwCl (ti_wM E ad (va_up (va_up xg.1 0 (xk.2.1 0)) 1 (xk.2.1 1), ti_m12 xk.2.2.1 xg.2.1, ti_m12 xk.2.2.2.1 xg.2.2) xd xt xf xj xh (xk.2.2.2.2.1, fun r => xk.2.2.2.2.2.1 (3 * r), fun r => xk.2.2.2.2.2.1 (3 * r + 1), fun r => xk.2.2.2.2.2.1 (3 * r + 2)) (xk.2.2.2.2.2.2.1, va_up g1 k (xk.2.2.2.2.2.2.2.1 (2 * k)), va_up g2 k (xk.2.2.2.2.2.2.2.1 ((2 * k) + 1))) (xk.2.2.2.2.2.2.2.2.1, g3, g4) xq xk) H := hP
                      have hD : va_D A (ti_wM E ad (va_up (va_up xg.1 0 (xk.2.1 0)) 1 (xk.2.1 1), ti_m12 xk.2.2.1 xg.2.1, ti_m12 xk.2.2.2.1 xg.2.2) xd xt xf xj xh (xk.2.2.2.2.1, fun r => xk.2.2.2.2.2.1 (3 * r), fun r => xk.2.2.2.2.2.1 (3 * r + 1), fun r => xk.2.2.2.2.2.1 (3 * r + 2)) (xk.2.2.2.2.2.2.1, va_up g1 k (xk.2.2.2.2.2.2.2.1 (2 * k)), va_up g2 k (xk.2.2.2.2.2.2.2.1 ((2 * k) + 1))) (xk.2.2.2.2.2.2.2.2.1, g3, g4) xq xk) := hD
                      refine lv_aload_n hx hb dX7_undo_193 rfl (lv_at hl 0 rfl) ?_
                      refine va_get (v := .ref (ad 23)) hx hb hts in_X7 hown hK hP 0 rfl rfl 30 (by decide) (hts _ q1118) (fun _ h => h) rfl dX7_undo_194 ?_
                      refine lv_iload_n hx hb dX7_undo_197 rfl (lv_at hl 1 rfl) ?_
                      refine lv_aload_n hx hb dX7_undo_198 rfl (lv_at hl 0 rfl) ?_
                      refine va_get (v := .ref (ad 34)) hx hb hts in_X7 hown hK hP 0 rfl rfl 45 (by decide) (hts _ q1133) (fun _ h => h) rfl dX7_undo_199 ?_
                      refine lv_iconst (v := nI 2) hx hb dX7_undo_202 (by decide) ?_
                      refine lv_iload_n hx hb dX7_undo_203 rfl (lv_at hl 1 rfl) ?_
                      refine tn_mul hx hb dX7_undo_204 ?_
                      refine tn_iald (f := xk.2.2.2.2.2.2.2.2.2) hx hb hK hP 34 0 rfl rfl (by omega) (by decide) dX7_undo_205 ?_
                      refine tn_iast (f := g3) hx hb hK hP hD hS 23 0 rfl rfl (by omega) (by decide) dX7_undo_206 (fun H locs hP hD hS => ?_)
                      have hP : va_P D vwCl (ti_wM E ad (va_up (va_up xg.1 0 (xk.2.1 0)) 1 (xk.2.1 1), ti_m12 xk.2.2.1 xg.2.1, ti_m12 xk.2.2.2.1 xg.2.2) xd xt xf xj xh (xk.2.2.2.2.1, fun r => xk.2.2.2.2.2.1 (3 * r), fun r => xk.2.2.2.2.2.1 (3 * r + 1), fun r => xk.2.2.2.2.2.1 (3 * r + 2)) (xk.2.2.2.2.2.2.1, va_up g1 k (xk.2.2.2.2.2.2.2.1 (2 * k)), va_up g2 k (xk.2.2.2.2.2.2.2.1 ((2 * k) + 1))) (xk.2.2.2.2.2.2.2.2.1, va_up g3 k (xk.2.2.2.2.2.2.2.2.2 (2 * k)), g4) xq xk) H := hP
                      have hD : va_D A (ti_wM E ad (va_up (va_up xg.1 0 (xk.2.1 0)) 1 (xk.2.1 1), ti_m12 xk.2.2.1 xg.2.1, ti_m12 xk.2.2.2.1 xg.2.2) xd xt xf xj xh (xk.2.2.2.2.1, fun r => xk.2.2.2.2.2.1 (3 * r), fun r => xk.2.2.2.2.2.1 (3 * r + 1), fun r => xk.2.2.2.2.2.1 (3 * r + 2)) (xk.2.2.2.2.2.2.1, va_up g1 k (xk.2.2.2.2.2.2.2.1 (2 * k)), va_up g2 k (xk.2.2.2.2.2.2.2.1 ((2 * k) + 1))) (xk.2.2.2.2.2.2.2.2.1, va_up g3 k (xk.2.2.2.2.2.2.2.2.2 (2 * k)), g4) xq xk) := hD
                      refine lv_aload_n hx hb dX7_undo_207 rfl (lv_at hl 0 rfl) ?_
                      refine va_get (v := .ref (ad 24)) hx hb hts in_X7 hown hK hP 0 rfl rfl 31 (by decide) (hts _ q1119) (fun _ h => h) rfl dX7_undo_208 ?_
                      refine lv_iload_n hx hb dX7_undo_211 rfl (lv_at hl 1 rfl) ?_
                      refine lv_aload_n hx hb dX7_undo_212 rfl (lv_at hl 0 rfl) ?_
                      refine va_get (v := .ref (ad 34)) hx hb hts in_X7 hown hK hP 0 rfl rfl 45 (by decide) (hts _ q1133) (fun _ h => h) rfl dX7_undo_213 ?_
                      refine lv_iconst (v := nI 2) hx hb dX7_undo_216 (by decide) ?_
                      refine lv_iload_n hx hb dX7_undo_217 rfl (lv_at hl 1 rfl) ?_
                      refine tn_mul hx hb dX7_undo_218 ?_
                      refine lv_iconst (v := nI 1) hx hb dX7_undo_219 (by decide) ?_
                      refine tn_add hx hb dX7_undo_220 ?_
                      refine tn_iald (f := xk.2.2.2.2.2.2.2.2.2) hx hb hK hP 34 0 rfl rfl (by omega) (by decide) dX7_undo_221 ?_
                      refine tn_iast (f := g4) hx hb hK hP hD hS 24 0 rfl rfl (by omega) (by decide) dX7_undo_222 (fun H locs hP hD hS => ?_)
                      have hP : va_P D vwCl (ti_wM E ad (va_up (va_up xg.1 0 (xk.2.1 0)) 1 (xk.2.1 1), ti_m12 xk.2.2.1 xg.2.1, ti_m12 xk.2.2.2.1 xg.2.2) xd xt xf xj xh (xk.2.2.2.2.1, fun r => xk.2.2.2.2.2.1 (3 * r), fun r => xk.2.2.2.2.2.1 (3 * r + 1), fun r => xk.2.2.2.2.2.1 (3 * r + 2)) (xk.2.2.2.2.2.2.1, va_up g1 k (xk.2.2.2.2.2.2.2.1 (2 * k)), va_up g2 k (xk.2.2.2.2.2.2.2.1 ((2 * k) + 1))) (xk.2.2.2.2.2.2.2.2.1, va_up g3 k (xk.2.2.2.2.2.2.2.2.2 (2 * k)), va_up g4 k (xk.2.2.2.2.2.2.2.2.2 ((2 * k) + 1))) xq xk) H := hP
                      have hD : va_D A (ti_wM E ad (va_up (va_up xg.1 0 (xk.2.1 0)) 1 (xk.2.1 1), ti_m12 xk.2.2.1 xg.2.1, ti_m12 xk.2.2.2.1 xg.2.2) xd xt xf xj xh (xk.2.2.2.2.1, fun r => xk.2.2.2.2.2.1 (3 * r), fun r => xk.2.2.2.2.2.1 (3 * r + 1), fun r => xk.2.2.2.2.2.1 (3 * r + 2)) (xk.2.2.2.2.2.2.1, va_up g1 k (xk.2.2.2.2.2.2.2.1 (2 * k)), va_up g2 k (xk.2.2.2.2.2.2.2.1 ((2 * k) + 1))) (xk.2.2.2.2.2.2.2.2.1, va_up g3 k (xk.2.2.2.2.2.2.2.2.2 (2 * k)), va_up g4 k (xk.2.2.2.2.2.2.2.2.2 ((2 * k) + 1))) xq xk) := hD
                      refine lv_iinc (v := nI (k + 1)) (lv' := [(1, .int (nI (k + 1))), (0, .ref (ad 0))]) hx hb dX7_undo_223 hl (k := 1) rfl (nI_1 k) (by decide) rfl (fun ls hl => ?_)
                      refine lv_goto (tgt := 157) hx hb dX7_undo_226 (by decide) ?_
                      exact ih157 (k + 1) (va_up g1 k (xk.2.2.2.2.2.2.2.1 (2 * k))) (va_up g2 k (xk.2.2.2.2.2.2.2.1 ((2 * k) + 1))) (va_up g3 k (xk.2.2.2.2.2.2.2.2.2 (2 * k))) (va_up g4 k (xk.2.2.2.2.2.2.2.2.2 ((2 * k) + 1))) _ _ _ hP hD hS (by omega) (by omega) (ti_fill h1 rfl) (ti_fill h2 rfl) (ti_fill h3 rfl) (ti_fill h4 rfl) (lv_sub hl [1, 0] rfl)
                exact L157 _ 0 xv.2.1 xv.2.2 xb.2.1 xb.2.2 _ _ _ hP hD hS (Nat.lt_succ_self _) (by omega) (fun j hj => absurd hj (Nat.not_lt_zero _)) (fun j hj => absurd hj (Nat.not_lt_zero _)) (fun j hj => absurd hj (Nat.not_lt_zero _)) (fun j hj => absurd hj (Nat.not_lt_zero _)) (lv_sub hl [1, 0] rfl)
              · skip
                refine lv_aload_n hx hb dX7_undo_87 rfl (lv_at hl 0 rfl) ?_
                refine va_get (v := .ref (ad 18)) hx hb hts in_X7 hown hK hP 0 rfl rfl 23 (by decide) (hts _ q1111) (fun _ h => h) rfl dX7_undo_88 ?_
                refine lv_iload_n hx hb dX7_undo_91 rfl (lv_at hl 1 rfl) ?_
                refine lv_aload_n hx hb dX7_undo_92 rfl (lv_at hl 0 rfl) ?_
                refine va_get (v := .ref (ad 32)) hx hb hts in_X7 hown hK hP 0 rfl rfl 41 (by decide) (hts _ q1129) (fun _ h => h) rfl dX7_undo_93 ?_
                refine lv_iconst (v := nI 3) hx hb dX7_undo_96 (by decide) ?_
                refine lv_iload_n hx hb dX7_undo_97 rfl (lv_at hl 1 rfl) ?_
                refine tn_mul hx hb dX7_undo_98 ?_
                refine tn_iald (f := xk.2.2.2.2.2.1) hx hb hK hP 32 0 rfl rfl (by omega) (by decide) dX7_undo_99 ?_
                refine tn_iast (f := g1) hx hb hK hP hD hS 18 0 rfl rfl (by omega) (by decide) dX7_undo_100 (fun H locs hP hD hS => ?_)
                have hP : va_P D vwCl (ti_wM E ad (va_up (va_up xg.1 0 (xk.2.1 0)) 1 (xk.2.1 1), ti_m12 xk.2.2.1 xg.2.1, ti_m12 xk.2.2.2.1 xg.2.2) xd xt xf xj xh (xk.2.2.2.2.1, va_up g1 k (xk.2.2.2.2.2.1 (3 * k)), g2, g3) xv xb xq xk) H := hP
                have hD : va_D A (ti_wM E ad (va_up (va_up xg.1 0 (xk.2.1 0)) 1 (xk.2.1 1), ti_m12 xk.2.2.1 xg.2.1, ti_m12 xk.2.2.2.1 xg.2.2) xd xt xf xj xh (xk.2.2.2.2.1, va_up g1 k (xk.2.2.2.2.2.1 (3 * k)), g2, g3) xv xb xq xk) := hD
                refine lv_aload_n hx hb dX7_undo_101 rfl (lv_at hl 0 rfl) ?_
                refine va_get (v := .ref (ad 19)) hx hb hts in_X7 hown hK hP 0 rfl rfl 24 (by decide) (hts _ q1112) (fun _ h => h) rfl dX7_undo_102 ?_
                refine lv_iload_n hx hb dX7_undo_105 rfl (lv_at hl 1 rfl) ?_
                refine lv_aload_n hx hb dX7_undo_106 rfl (lv_at hl 0 rfl) ?_
                refine va_get (v := .ref (ad 32)) hx hb hts in_X7 hown hK hP 0 rfl rfl 41 (by decide) (hts _ q1129) (fun _ h => h) rfl dX7_undo_107 ?_
                refine lv_iconst (v := nI 3) hx hb dX7_undo_110 (by decide) ?_
                refine lv_iload_n hx hb dX7_undo_111 rfl (lv_at hl 1 rfl) ?_
                refine tn_mul hx hb dX7_undo_112 ?_
                refine lv_iconst (v := nI 1) hx hb dX7_undo_113 (by decide) ?_
                refine tn_add hx hb dX7_undo_114 ?_
                refine tn_iald (f := xk.2.2.2.2.2.1) hx hb hK hP 32 0 rfl rfl (by omega) (by decide) dX7_undo_115 ?_
                refine tn_iast (f := g2) hx hb hK hP hD hS 19 0 rfl rfl (by omega) (by decide) dX7_undo_116 (fun H locs hP hD hS => ?_)
                have hP : va_P D vwCl (ti_wM E ad (va_up (va_up xg.1 0 (xk.2.1 0)) 1 (xk.2.1 1), ti_m12 xk.2.2.1 xg.2.1, ti_m12 xk.2.2.2.1 xg.2.2) xd xt xf xj xh (xk.2.2.2.2.1, va_up g1 k (xk.2.2.2.2.2.1 (3 * k)), va_up g2 k (xk.2.2.2.2.2.1 ((3 * k) + 1)), g3) xv xb xq xk) H := hP
                have hD : va_D A (ti_wM E ad (va_up (va_up xg.1 0 (xk.2.1 0)) 1 (xk.2.1 1), ti_m12 xk.2.2.1 xg.2.1, ti_m12 xk.2.2.2.1 xg.2.2) xd xt xf xj xh (xk.2.2.2.2.1, va_up g1 k (xk.2.2.2.2.2.1 (3 * k)), va_up g2 k (xk.2.2.2.2.2.1 ((3 * k) + 1)), g3) xv xb xq xk) := hD
                refine lv_aload_n hx hb dX7_undo_117 rfl (lv_at hl 0 rfl) ?_
                refine va_get (v := .ref (ad 20)) hx hb hts in_X7 hown hK hP 0 rfl rfl 25 (by decide) (hts _ q1113) (fun _ h => h) rfl dX7_undo_118 ?_
                refine lv_iload_n hx hb dX7_undo_121 rfl (lv_at hl 1 rfl) ?_
                refine lv_aload_n hx hb dX7_undo_122 rfl (lv_at hl 0 rfl) ?_
                refine va_get (v := .ref (ad 32)) hx hb hts in_X7 hown hK hP 0 rfl rfl 41 (by decide) (hts _ q1129) (fun _ h => h) rfl dX7_undo_123 ?_
                refine lv_iconst (v := nI 3) hx hb dX7_undo_126 (by decide) ?_
                refine lv_iload_n hx hb dX7_undo_127 rfl (lv_at hl 1 rfl) ?_
                refine tn_mul hx hb dX7_undo_128 ?_
                refine lv_iconst (v := nI 2) hx hb dX7_undo_129 (by decide) ?_
                refine tn_add hx hb dX7_undo_130 ?_
                refine tn_iald (f := xk.2.2.2.2.2.1) hx hb hK hP 32 0 rfl rfl (by omega) (by decide) dX7_undo_131 ?_
                refine tn_iast (f := g3) hx hb hK hP hD hS 20 0 rfl rfl (by omega) (by decide) dX7_undo_132 (fun H locs hP hD hS => ?_)
                have hP : va_P D vwCl (ti_wM E ad (va_up (va_up xg.1 0 (xk.2.1 0)) 1 (xk.2.1 1), ti_m12 xk.2.2.1 xg.2.1, ti_m12 xk.2.2.2.1 xg.2.2) xd xt xf xj xh (xk.2.2.2.2.1, va_up g1 k (xk.2.2.2.2.2.1 (3 * k)), va_up g2 k (xk.2.2.2.2.2.1 ((3 * k) + 1)), va_up g3 k (xk.2.2.2.2.2.1 ((3 * k) + 2))) xv xb xq xk) H := hP
                have hD : va_D A (ti_wM E ad (va_up (va_up xg.1 0 (xk.2.1 0)) 1 (xk.2.1 1), ti_m12 xk.2.2.1 xg.2.1, ti_m12 xk.2.2.2.1 xg.2.2) xd xt xf xj xh (xk.2.2.2.2.1, va_up g1 k (xk.2.2.2.2.2.1 (3 * k)), va_up g2 k (xk.2.2.2.2.2.1 ((3 * k) + 1)), va_up g3 k (xk.2.2.2.2.2.1 ((3 * k) + 2))) xv xb xq xk) := hD
                refine lv_iinc (v := nI (k + 1)) (lv' := [(1, .int (nI (k + 1))), (0, .ref (ad 0))]) hx hb dX7_undo_133 hl (k := 1) rfl (nI_1 k) (by decide) rfl (fun ls hl => ?_)
                refine lv_goto (tgt := 82) hx hb dX7_undo_136 (by decide) ?_
                exact ih82 (k + 1) (va_up g1 k (xk.2.2.2.2.2.1 (3 * k))) (va_up g2 k (xk.2.2.2.2.2.1 ((3 * k) + 1))) (va_up g3 k (xk.2.2.2.2.2.1 ((3 * k) + 2))) _ _ _ hP hD hS (by omega) (by omega) (ti_fill h1 rfl) (ti_fill h2 rfl) (ti_fill h3 rfl) (lv_sub hl [1, 0] rfl)
          exact L82 _ 0 xs.2.1 xs.2.2.1 xs.2.2.2 _ _ _ hP hD hS (Nat.lt_succ_self _) (by omega) (fun j hj => absurd hj (Nat.not_lt_zero _)) (fun j hj => absurd hj (Nat.not_lt_zero _)) (fun j hj => absurd hj (Nat.not_lt_zero _)) (lv_sub hl [1, 0] rfl)
        · skip
          refine lv_aload_n hx hb dX7_undo_18 rfl (lv_at hl 0 rfl) ?_
          refine va_get (v := .ref (ad 2)) hx hb hts in_X7 hown hK hP 0 rfl rfl 1 (by decide) (hts _ q1089) (fun _ h => h) rfl dX7_undo_19 ?_
          refine lv_iload_n hx hb dX7_undo_22 rfl (lv_at hl 1 rfl) ?_
          refine lv_aload_n hx hb dX7_undo_23 rfl (lv_at hl 0 rfl) ?_
          refine va_get (v := .ref (ad 30)) hx hb hts in_X7 hown hK hP 0 rfl rfl 38 (by decide) (hts _ q1126) (fun _ h => h) rfl dX7_undo_24 ?_
          refine lv_iload_n hx hb dX7_undo_27 rfl (lv_at hl 1 rfl) ?_
          refine tn_iald (f := xk.2.2.1) hx hb hK hP 30 0 rfl rfl (by omega) (by decide) dX7_undo_28 ?_
          refine tn_iast (f := g1) hx hb hK hP hD hS 2 0 rfl rfl (by omega) (by decide) dX7_undo_29 (fun H locs hP hD hS => ?_)
          have hP : va_P D vwCl (ti_wM E ad (xg.1, va_up g1 k (xk.2.2.1 k), g2) xd xt xf xj xh xs xv xb xq xk) H := hP
          have hD : va_D A (ti_wM E ad (xg.1, va_up g1 k (xk.2.2.1 k), g2) xd xt xf xj xh xs xv xb xq xk) := hD
          refine lv_aload_n hx hb dX7_undo_30 rfl (lv_at hl 0 rfl) ?_
          refine va_get (v := .ref (ad 3)) hx hb hts in_X7 hown hK hP 0 rfl rfl 2 (by decide) (hts _ q1090) (fun _ h => h) rfl dX7_undo_31 ?_
          refine lv_iload_n hx hb dX7_undo_34 rfl (lv_at hl 1 rfl) ?_
          refine lv_aload_n hx hb dX7_undo_35 rfl (lv_at hl 0 rfl) ?_
          refine va_get (v := .ref (ad 31)) hx hb hts in_X7 hown hK hP 0 rfl rfl 39 (by decide) (hts _ q1127) (fun _ h => h) rfl dX7_undo_36 ?_
          refine lv_iload_n hx hb dX7_undo_39 rfl (lv_at hl 1 rfl) ?_
          refine tn_iald (f := xk.2.2.2.1) hx hb hK hP 31 0 rfl rfl (by omega) (by decide) dX7_undo_40 ?_
          refine tn_iast (f := g2) hx hb hK hP hD hS 3 0 rfl rfl (by omega) (by decide) dX7_undo_41 (fun H locs hP hD hS => ?_)
          have hP : va_P D vwCl (ti_wM E ad (xg.1, va_up g1 k (xk.2.2.1 k), va_up g2 k (xk.2.2.2.1 k)) xd xt xf xj xh xs xv xb xq xk) H := hP
          have hD : va_D A (ti_wM E ad (xg.1, va_up g1 k (xk.2.2.1 k), va_up g2 k (xk.2.2.2.1 k)) xd xt xf xj xh xs xv xb xq xk) := hD
          refine lv_iinc (v := nI (k + 1)) (lv' := [(1, .int (nI (k + 1))), (0, .ref (ad 0))]) hx hb dX7_undo_42 hl (k := 1) rfl (nI_1 k) (by decide) rfl (fun ls hl => ?_)
          refine lv_goto (tgt := 12) hx hb dX7_undo_45 (by decide) ?_
          exact ih12 (k + 1) (va_up g1 k (xk.2.2.1 k)) (va_up g2 k (xk.2.2.2.1 k)) _ _ _ hP hD hS (by omega) (by omega) (ti_fill12 (by omega) h1) (ti_fill12 (by omega) h2) (lv_sub hl [1, 0] rfl)
    exact L12 _ 0 xg.2.1 xg.2.2 _ _ _ hP hD hS (Nat.lt_succ_self _) (by omega) (fun q => by rw [if_neg (Nat.not_lt_zero _)]) (fun q => by rw [if_neg (Nat.not_lt_zero _)]) (lv_sub hl [1, 0] rfl)
  · skip
    refine lv_bipush (v := (-3)) hx hb dX7_undo_7 (by decide) ?_
    have hK0 : K = none := by
      cases K with
      | none => rfl
      | some q => exact absurd (hKK.1.symm.trans c4) (by decide)
    subst hK0
    exact hret (xg, xd, xs, xv, xb) _ _ _ _ _ _ _ dX7_undo_9 (rfl) (⟨hI, hDD, hxg, hxd, ⟨hSN, hxs⟩, ⟨hEV, hxv⟩, ⟨hBK, hxb⟩⟩) hP hS (Nat.le_refl _) (Nat.le_refl _)
