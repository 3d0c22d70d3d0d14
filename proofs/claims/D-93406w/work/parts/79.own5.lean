/-! TermIdeals: see, event, book, count, looked, image, undo (printed by w_own5.py) -/
set_option maxRecDepth 100000

def ti_Wok (N : Nat) (x : ti_Tw) : Prop := x.2.2.2 ≤ N ∧ (∀ k, x.1 k ≤ 99) ∧ (∀ k, x.2.1 k ≤ 99) ∧ ∀ k, x.2.2.1 k ≤ 99
abbrev ti_Wl3 (x : ti_Tw) : List (Nat × Nat × Nat) := ti_fr x.1 x.2.1 x.2.2.1 0 x.2.2.2
abbrev ti_Wl2 (x : ti_Tw) : ti_GL := ti_gr x.1 x.2.1 0 x.2.2.2
theorem ti_add3 {N : Nat} {x u : ti_Tw} {a b c : Nat} (hx : ti_Wok N x) (ha : a ≤ 99) (hb : b ≤ 99) (hc : c ≤ 99) (hu : u = if x.2.2.2 = N then (x.1, x.2.1, x.2.2.1, x.2.2.2) else (va_up x.1 x.2.2.2 a, va_up x.2.1 x.2.2.2 b, va_up x.2.2.1 x.2.2.2 c, x.2.2.2 + 1)) :
    ti_Wok N u ∧ ti_Wl3 u = (if (ti_Wl3 x).length = N then ti_Wl3 x else ti_Wl3 x ++ [(a, b, c)]) ∧ ti_Wl2 u = (if (ti_Wl2 x).length = N then ti_Wl2 x else ti_Wl2 x ++ [(a, b)]) := by
  have h1 := hx.1
  rw [ti_fr_len, ti_gr_len]
  by_cases h : x.2.2.2 = N
  · rw [if_pos h] at hu
    rw [if_pos h, if_pos h, hu]
    exact ⟨hx, rfl, rfl⟩
  · rw [if_neg h] at hu
    rw [if_neg h, if_neg h, hu]
    exact ⟨⟨by show x.2.2.2 + 1 ≤ N; omega, ti_up_le hx.2.1 ha, ti_up_le hx.2.2.1 hb, ti_up_le hx.2.2.2 hc⟩, ti_fr_push _ _ _ _ _ _ _, ti_gr_push _ _ _ _ _⟩
theorem ti_ite2 {p : Prop} [Decidable p] {α β γ : Type} (f : α → β) (x y : α) (g : α → γ) : (if p then f x else f y) = f (if p then x else y) := by
  by_cases h : p
  · rw [if_pos h, if_pos h]
  · rw [if_neg h, if_neg h]
/-- an image -/
def ti_TK (hi : Bool) (xk : ti_Ti) (ys yv yb : ti_Tw) (K : ti_KP) : Prop := match K with
  | none => hi = false
  | some (I, SN, EV, BK) => hi = true ∧ (ti_JI xk I ∧ ti_Jok xk) ∧ (ti_Wl3 ys = SN ∧ ti_Wok 4 ys) ∧ (ti_Wl2 yv = EV ∧ ti_Wok 8 yv) ∧ (ti_Wl2 yb = BK ∧ ti_Wok 8 yb)

abbrev ti_wMS (E : Nat → ClassId) (ad dh du dv jh ju jv kh ku kv : Nat → Nat) (tx : Nat) (hi : Bool) (xs : ti_Tw) : va_W := [(ad 0, .inr (0, [.ref (ad 1), .ref (ad 2), .ref (ad 5), .ref (ad 11), .ref (ad 14), .ref (ad 16), .ref (ad 18), .ref (ad 20), .ref (ad 22), .int (nI tx), .ref (ad 23), .ref (ad 27), .ref (ad 31), .ref (ad 35), .ref (ad 36), .ref (ad 37), .ref (ad 41), .ref (ad 45), .int (ti_b hi)])), (ad 23, .inr (5, [.ref (ad 24), .ref (ad 25), .ref (ad 26), .int (nI xs.2.2.2)])), (ad 24, .inl (E 0, 4, .inl (ti_n xs.1))), (ad 25, .inl (E 0, 4, .inl (ti_n xs.2.1))), (ad 26, .inl (E 0, 4, .inl (ti_n xs.2.2.1)))]

abbrev ti_wMV (E : Nat → ClassId) (ad dh du dv jh ju jv kh ku kv : Nat → Nat) (tx : Nat) (hi : Bool) (xv : ti_Tw) : va_W := [(ad 0, .inr (0, [.ref (ad 1), .ref (ad 2), .ref (ad 5), .ref (ad 11), .ref (ad 14), .ref (ad 16), .ref (ad 18), .ref (ad 20), .ref (ad 22), .int (nI tx), .ref (ad 23), .ref (ad 27), .ref (ad 31), .ref (ad 35), .ref (ad 36), .ref (ad 37), .ref (ad 41), .ref (ad 45), .int (ti_b hi)])), (ad 27, .inr (5, [.ref (ad 28), .ref (ad 29), .ref (ad 30), .int (nI xv.2.2.2)])), (ad 28, .inl (E 0, 8, .inl (ti_n xv.1))), (ad 29, .inl (E 0, 8, .inl (ti_n xv.2.1))), (ad 30, .inl (E 0, 8, .inl (ti_n xv.2.2.1)))]

abbrev ti_wMB (E : Nat → ClassId) (ad dh du dv jh ju jv kh ku kv : Nat → Nat) (tx : Nat) (hi : Bool) (xb : ti_Tw) : va_W := [(ad 0, .inr (0, [.ref (ad 1), .ref (ad 2), .ref (ad 5), .ref (ad 11), .ref (ad 14), .ref (ad 16), .ref (ad 18), .ref (ad 20), .ref (ad 22), .int (nI tx), .ref (ad 23), .ref (ad 27), .ref (ad 31), .ref (ad 35), .ref (ad 36), .ref (ad 37), .ref (ad 41), .ref (ad 45), .int (ti_b hi)])), (ad 31, .inr (5, [.ref (ad 32), .ref (ad 33), .ref (ad 34), .int (nI xb.2.2.2)])), (ad 32, .inl (E 0, 8, .inl (ti_n xb.1))), (ad 33, .inl (E 0, 8, .inl (ti_n xb.2.1))), (ad 34, .inl (E 0, 8, .inl (ti_n xb.2.2.1)))]

abbrev ti_wMdSVB (E : Nat → ClassId) (ad dh du dv jh ju jv kh ku kv : Nat → Nat) (tx : Nat) (hi : Bool) (xd : ti_Td) (xs : ti_Tw) (xv : ti_Tw) (xb : ti_Tw) : va_W := [(ad 0, .inr (0, [.ref (ad 1), .ref (ad 2), .ref (ad 5), .ref (ad 11), .ref (ad 14), .ref (ad 16), .ref (ad 18), .ref (ad 20), .ref (ad 22), .int (nI tx), .ref (ad 23), .ref (ad 27), .ref (ad 31), .ref (ad 35), .ref (ad 36), .ref (ad 37), .ref (ad 41), .ref (ad 45), .int (ti_b hi)])), (ad 11, .inr (3, [.ref (ad 12), .ref (ad 13), .int (nI xd.2.2.1)])), (ad 23, .inr (5, [.ref (ad 24), .ref (ad 25), .ref (ad 26), .int (nI xs.2.2.2)])), (ad 24, .inl (E 0, 4, .inl (ti_n xs.1))), (ad 25, .inl (E 0, 4, .inl (ti_n xs.2.1))), (ad 26, .inl (E 0, 4, .inl (ti_n xs.2.2.1))), (ad 27, .inr (5, [.ref (ad 28), .ref (ad 29), .ref (ad 30), .int (nI xv.2.2.2)])), (ad 28, .inl (E 0, 8, .inl (ti_n xv.1))), (ad 29, .inl (E 0, 8, .inl (ti_n xv.2.1))), (ad 30, .inl (E 0, 8, .inl (ti_n xv.2.2.1))), (ad 31, .inr (5, [.ref (ad 32), .ref (ad 33), .ref (ad 34), .int (nI xb.2.2.2)])), (ad 32, .inl (E 0, 8, .inl (ti_n xb.1))), (ad 33, .inl (E 0, 8, .inl (ti_n xb.2.1))), (ad 34, .inl (E 0, 8, .inl (ti_n xb.2.2.1)))]

abbrev ti_wMJSVBKACE (E : Nat → ClassId) (ad dh du dv jh ju jv kh ku kv : Nat → Nat) (tx : Nat) (hi : Bool) (xi : ti_Ti) (xs : ti_Tw) (xv : ti_Tw) (xb : ti_Tw) (xk : ti_Ti) (ys : ti_Tw) (yv : ti_Tw) (yb : ti_Tw) : va_W := [(ad 0, .inr (0, [.ref (ad 1), .ref (ad 2), .ref (ad 5), .ref (ad 11), .ref (ad 14), .ref (ad 16), .ref (ad 18), .ref (ad 20), .ref (ad 22), .int (nI tx), .ref (ad 23), .ref (ad 27), .ref (ad 31), .ref (ad 35), .ref (ad 36), .ref (ad 37), .ref (ad 41), .ref (ad 45), .int (ti_b hi)])), (ad 1, .inl (E 5, 2, .inr (.inr (.inr (.inr (ti_o jh (fun j => j))))))), (jh 0, .inr (1, [.ref (ju 0), .ref (jv 0), .int (nI (xi.2.2 0))])), (ju 0, .inl (E 0, 6, .inl (ti_n (xi.1 0)))), (jv 0, .inl (E 0, 6, .inl (ti_n (xi.2.1 0)))), (jh 1, .inr (1, [.ref (ju 1), .ref (jv 1), .int (nI (xi.2.2 1))])), (ju 1, .inl (E 0, 6, .inl (ti_n (xi.1 1)))), (jv 1, .inl (E 0, 6, .inl (ti_n (xi.2.1 1)))), (ad 23, .inr (5, [.ref (ad 24), .ref (ad 25), .ref (ad 26), .int (nI xs.2.2.2)])), (ad 24, .inl (E 0, 4, .inl (ti_n xs.1))), (ad 25, .inl (E 0, 4, .inl (ti_n xs.2.1))), (ad 26, .inl (E 0, 4, .inl (ti_n xs.2.2.1))), (ad 27, .inr (5, [.ref (ad 28), .ref (ad 29), .ref (ad 30), .int (nI xv.2.2.2)])), (ad 28, .inl (E 0, 8, .inl (ti_n xv.1))), (ad 29, .inl (E 0, 8, .inl (ti_n xv.2.1))), (ad 30, .inl (E 0, 8, .inl (ti_n xv.2.2.1))), (ad 31, .inr (5, [.ref (ad 32), .ref (ad 33), .ref (ad 34), .int (nI xb.2.2.2)])), (ad 32, .inl (E 0, 8, .inl (ti_n xb.1))), (ad 33, .inl (E 0, 8, .inl (ti_n xb.2.1))), (ad 34, .inl (E 0, 8, .inl (ti_n xb.2.2.1))), (ad 36, .inl (E 5, 2, .inr (.inr (.inr (.inr (ti_o kh (fun j => j))))))), (kh 0, .inr (1, [.ref (ku 0), .ref (kv 0), .int (nI (xk.2.2 0))])), (ku 0, .inl (E 0, 6, .inl (ti_n (xk.1 0)))), (kv 0, .inl (E 0, 6, .inl (ti_n (xk.2.1 0)))), (kh 1, .inr (1, [.ref (ku 1), .ref (kv 1), .int (nI (xk.2.2 1))])), (ku 1, .inl (E 0, 6, .inl (ti_n (xk.1 1)))), (kv 1, .inl (E 0, 6, .inl (ti_n (xk.2.1 1)))), (ad 37, .inr (5, [.ref (ad 38), .ref (ad 39), .ref (ad 40), .int (nI ys.2.2.2)])), (ad 38, .inl (E 0, 4, .inl (ti_n ys.1))), (ad 39, .inl (E 0, 4, .inl (ti_n ys.2.1))), (ad 40, .inl (E 0, 4, .inl (ti_n ys.2.2.1))), (ad 41, .inr (5, [.ref (ad 42), .ref (ad 43), .ref (ad 44), .int (nI yv.2.2.2)])), (ad 42, .inl (E 0, 8, .inl (ti_n yv.1))), (ad 43, .inl (E 0, 8, .inl (ti_n yv.2.1))), (ad 44, .inl (E 0, 8, .inl (ti_n yv.2.2.1))), (ad 45, .inr (5, [.ref (ad 46), .ref (ad 47), .ref (ad 48), .int (nI yb.2.2.2)])), (ad 46, .inl (E 0, 8, .inl (ti_n yb.1))), (ad 47, .inl (E 0, 8, .inl (ti_n yb.2.1))), (ad 48, .inl (E 0, 8, .inl (ti_n yb.2.2.1)))]

abbrev ti_wMJdSVBKACE (E : Nat → ClassId) (ad dh du dv jh ju jv kh ku kv : Nat → Nat) (tx : Nat) (hi : Bool) (xi : ti_Ti) (xd : ti_Td) (xs : ti_Tw) (xv : ti_Tw) (xb : ti_Tw) (xk : ti_Ti) (ys : ti_Tw) (yv : ti_Tw) (yb : ti_Tw) : va_W := [(ad 0, .inr (0, [.ref (ad 1), .ref (ad 2), .ref (ad 5), .ref (ad 11), .ref (ad 14), .ref (ad 16), .ref (ad 18), .ref (ad 20), .ref (ad 22), .int (nI tx), .ref (ad 23), .ref (ad 27), .ref (ad 31), .ref (ad 35), .ref (ad 36), .ref (ad 37), .ref (ad 41), .ref (ad 45), .int (ti_b hi)])), (ad 1, .inl (E 5, 2, .inr (.inr (.inr (.inr (ti_o jh (fun j => j))))))), (jh 0, .inr (1, [.ref (ju 0), .ref (jv 0), .int (nI (xi.2.2 0))])), (ju 0, .inl (E 0, 6, .inl (ti_n (xi.1 0)))), (jv 0, .inl (E 0, 6, .inl (ti_n (xi.2.1 0)))), (jh 1, .inr (1, [.ref (ju 1), .ref (jv 1), .int (nI (xi.2.2 1))])), (ju 1, .inl (E 0, 6, .inl (ti_n (xi.1 1)))), (jv 1, .inl (E 0, 6, .inl (ti_n (xi.2.1 1)))), (ad 11, .inr (3, [.ref (ad 12), .ref (ad 13), .int (nI xd.2.2.1)])), (ad 23, .inr (5, [.ref (ad 24), .ref (ad 25), .ref (ad 26), .int (nI xs.2.2.2)])), (ad 24, .inl (E 0, 4, .inl (ti_n xs.1))), (ad 25, .inl (E 0, 4, .inl (ti_n xs.2.1))), (ad 26, .inl (E 0, 4, .inl (ti_n xs.2.2.1))), (ad 27, .inr (5, [.ref (ad 28), .ref (ad 29), .ref (ad 30), .int (nI xv.2.2.2)])), (ad 28, .inl (E 0, 8, .inl (ti_n xv.1))), (ad 29, .inl (E 0, 8, .inl (ti_n xv.2.1))), (ad 30, .inl (E 0, 8, .inl (ti_n xv.2.2.1))), (ad 31, .inr (5, [.ref (ad 32), .ref (ad 33), .ref (ad 34), .int (nI xb.2.2.2)])), (ad 32, .inl (E 0, 8, .inl (ti_n xb.1))), (ad 33, .inl (E 0, 8, .inl (ti_n xb.2.1))), (ad 34, .inl (E 0, 8, .inl (ti_n xb.2.2.1))), (ad 36, .inl (E 5, 2, .inr (.inr (.inr (.inr (ti_o kh (fun j => j))))))), (kh 0, .inr (1, [.ref (ku 0), .ref (kv 0), .int (nI (xk.2.2 0))])), (ku 0, .inl (E 0, 6, .inl (ti_n (xk.1 0)))), (kv 0, .inl (E 0, 6, .inl (ti_n (xk.2.1 0)))), (kh 1, .inr (1, [.ref (ku 1), .ref (kv 1), .int (nI (xk.2.2 1))])), (ku 1, .inl (E 0, 6, .inl (ti_n (xk.1 1)))), (kv 1, .inl (E 0, 6, .inl (ti_n (xk.2.1 1)))), (ad 37, .inr (5, [.ref (ad 38), .ref (ad 39), .ref (ad 40), .int (nI ys.2.2.2)])), (ad 38, .inl (E 0, 4, .inl (ti_n ys.1))), (ad 39, .inl (E 0, 4, .inl (ti_n ys.2.1))), (ad 40, .inl (E 0, 4, .inl (ti_n ys.2.2.1))), (ad 41, .inr (5, [.ref (ad 42), .ref (ad 43), .ref (ad 44), .int (nI yv.2.2.2)])), (ad 42, .inl (E 0, 8, .inl (ti_n yv.1))), (ad 43, .inl (E 0, 8, .inl (ti_n yv.2.1))), (ad 44, .inl (E 0, 8, .inl (ti_n yv.2.2.1))), (ad 45, .inr (5, [.ref (ad 46), .ref (ad 47), .ref (ad 48), .int (nI yb.2.2.2)])), (ad 46, .inl (E 0, 8, .inl (ti_n yb.1))), (ad 47, .inl (E 0, 8, .inl (ti_n yb.2.1))), (ad 48, .inl (E 0, 8, .inl (ti_n yb.2.2.1)))]

set_option maxHeartbeats 1000000 in
theorem met_X0_see (l : Launch) (D : va_G) (E : Nat → ClassId) (ad dh du dv jh ju jv kh ku kv : Nat → Nat) (tx : Nat) (hi : Bool) (xs : ti_Tw) (hxs : ti_Wok 4 xs) (v num den : Int32) : ti_MetM (σ := ti_Tw) l D E yX0_see cX0_see 4 (some .int) 2 0 0 (ti_wMS E ad dh du dv jh ju jv kh ku kv tx hi xs) [.ref (ad 0), .int v, .int num, .int den] (fun u => ti_wMS E ad dh du dv jh ju jv kh ku kv tx hi u) (fun u => some (.int ((fun _ => (ti_Ssee (ti_Wl3 xs) v num den).1) u))) (fun u => ti_Wl3 u = (ti_Ssee (ti_Wl3 xs) v num den).2 ∧ ti_Wok 4 u) := by
  refine ti_mutI (σ := ti_Tw) (vi := fun _ => (ti_Ssee (ti_Wl3 xs) v num den).1) (by decide) (Nat.le_of_ble_eq_true rfl) ?_
  intro p e s m below meth c H H0 A Q ls S hE hP hD hS hA hinit hl hret
  have hx := S.1
  have hb := S.2.1
  have hown := S.2.2.2.1
  have hts := S.2.2.2.2
  have hK := hE.1
  have hl : lv_has ls 4 [(0, .ref (ad 0)), (1, .int v), (2, .int num), (3, .int den)] := hl
  refine lv_iload_n hx hb dX0_see_0 rfl (lv_at hl 1 rfl) ?_
  refine lv_iconst (v := (-1)) hx hb dX0_see_1 (by decide) ?_
  refine lv_icmp_ne (tgt := 13) hx hb dX0_see_2 (by decide) (fun c2 => ?_) (fun c2 => ?_)
  · skip
    refine lv_iload_n hx hb dX0_see_13 rfl (lv_at hl 1 rfl) ?_
    refine lv_iconst (v := nI 0) hx hb dX0_see_14 (by decide) ?_
    refine lv_bipush (v := nI 99) hx hb dX0_see_15 (by decide) ?_
    refine ti_pS (As := [.int v, .int (nI 0), .int (nI 99)]) (rest := []) (v := .int (ti_b (ti_in v (nI 0) (nI 99)))) S hE hP [] (met_X0_in l D E v (nI 0) (nI 99)) rfl (lw_S q302 q303 q66 q304) 3 rfl (by decide +kernel) ⟨Nat.le_of_ble_eq_true rfl, Nat.le_of_ble_eq_true rfl⟩ hl.1 rfl (Nat.le_of_ble_eq_true rfl) ⟨Nat.le_refl _, Nat.le_refl _⟩ dX0_see_17 ?_
    refine tb_ne (tgt := 25) hx hb dX0_see_20 (by decide) (fun c20 => ?_) (fun c20 => ?_)
    · skip
      obtain ⟨i9, -, hi9, rfl⟩ := ti_in_nat (by decide) (by decide) c20
      have hcv : ti_cl (nI i9) = i9 := ti_cl_nI (by omega)
      have hne : ¬ nI i9 = -1 := ti_n1 (by omega)
      refine lv_iload_n hx hb dX0_see_25 rfl (lv_at hl 2 rfl) ?_
      refine lv_iload_n hx hb dX0_see_26 rfl (lv_at hl 3 rfl) ?_
      refine ti_pS (As := [.int num, .int den]) (rest := []) (v := .int (ti_b (ti_bf num && ti_bf den))) S hE hP [] (met_X0_isFraction l D E num den) rfl (lw_S q636 q637 q66 q638) 2 rfl (by decide +kernel) ⟨Nat.le_of_ble_eq_true rfl, Nat.le_of_ble_eq_true rfl⟩ hl.1 rfl (Nat.le_of_ble_eq_true rfl) ⟨Nat.le_refl _, Nat.le_refl _⟩ dX0_see_27 ?_
      refine tb_eq (tgt := 46) hx hb dX0_see_30 (by decide) (fun c30 => ?_) (fun c30 => ?_)
      · skip
        refine lv_bipush (v := (-2)) hx hb dX0_see_46 (by decide) ?_
        have hs : ti_Ssee (ti_Wl3 xs) (nI i9) num den = (-2, ti_Wl3 xs) := by rw [ti_Ssee, if_neg hne, if_neg (by rw [c20]; decide), if_pos c30]
        exact hret xs _ _ _ _ _ _ _ dX0_see_48 (by rw [hs]) (by rw [hs]; exact ⟨rfl, hxs⟩) hP hS (Nat.le_refl _) (Nat.le_refl _)
      · skip
        have hb9 : ti_bf num = true ∧ ti_bf den = true := by simpa using c30
        obtain ⟨nu, hnu1, hnu, rfl⟩ := ti_bf_nat hb9.1
        obtain ⟨de, hde1, hde, rfl⟩ := ti_bf_nat hb9.2
        have hcn : ti_cl (nI nu) = nu := ti_cl_nI (by omega)
        have hcd : ti_cl (nI de) = de := ti_cl_nI (by omega)
        refine lv_aload_n hx hb dX0_see_33 rfl (lv_at hl 0 rfl) ?_
        refine va_get (v := .ref (ad 23)) hx hb hts in_X0 hown hK hP 0 rfl rfl 10 (by decide) (hts _ q247) (fun _ h => h) rfl dX0_see_34 ?_
        refine lv_iload_n hx hb dX0_see_37 rfl (lv_at hl 1 rfl) ?_
        refine lv_iload_n hx hb dX0_see_38 rfl (lv_at hl 2 rfl) ?_
        refine lv_iload_n hx hb dX0_see_39 rfl (lv_at hl 3 rfl) ?_
        refine ti_mV (As := [.int (nI i9), .int (nI nu), .int (nI de)]) (rest := []) S hE hP hD hS hA [1, 2, 3, 4] rfl (met_X5_adds l D E 4 (by decide) (ad 23) (ad 24) (ad 25) (ad 26) xs.1 xs.2.1 xs.2.2.1 xs.2.2.2 hxs.1 i9 nu de) rfl (fun _ => rfl) (lw_V q833 q834 q835 q71 q836) 3 rfl 1 rfl rfl (by decide +kernel) ⟨Nat.le_of_ble_eq_true rfl, Nat.le_of_ble_eq_true rfl⟩ hl.1 rfl (Nat.le_of_ble_eq_true rfl) ⟨Nat.le_refl _, Nat.le_refl _⟩ dX0_see_40 (fun ur H locs hu hP hD hS => ?_)
        have hur := ti_add3 (u := ur) hxs (show i9 ≤ 99 by omega) (show nu ≤ 99 by omega) (show de ≤ 99 by omega) hu
        have hP : va_P D vwCl (ti_wMS E ad dh du dv jh ju jv kh ku kv tx hi ur) H := hP
        have hD : va_D A (ti_wMS E ad dh du dv jh ju jv kh ku kv tx hi ur) := hD
        refine W.eq (g2 := F0 m 43 ls [.int (if xs.2.2.2 = 4 then -4 else nI (xs.2.2.2 + 1))]) rfl ?_
        refine lv_goto (tgt := 48) hx hb dX0_see_43 (by decide) ?_
        have hs : ti_Ssee (ti_Wl3 xs) (nI i9) (nI nu) (nI de) = (if (ti_Wl3 xs).length = 4 then (-4, ti_Wl3 xs) else (nI ((ti_Wl3 xs).length + 1), ti_Wl3 xs ++ [(i9, nu, de)])) := by rw [ti_Ssee, if_neg hne, if_neg (by rw [c20]; decide), if_neg (by rw [c30]; decide), hcv, hcn, hcd]
        rw [ti_fr_len] at hs
        exact hret ur _ _ _ _ _ _ _ dX0_see_48 (by rw [hs]; by_cases h4 : xs.2.2.2 = 4; rw [if_pos h4, if_pos h4]; rw [if_neg h4, if_neg h4]) (⟨by rw [hs, hur.2.1, ti_fr_len]; by_cases h4 : xs.2.2.2 = 4; rw [if_pos h4, if_pos h4]; rw [if_neg h4, if_neg h4], hur.1⟩) hP hS (Nat.le_refl _) (Nat.le_refl _)
    · skip
      refine lv_iconst (v := (-1)) hx hb dX0_see_23 (by decide) ?_
      have hs : ti_Ssee (ti_Wl3 xs) v num den = (-1, ti_Wl3 xs) := by rw [ti_Ssee, if_neg c2, if_pos c20]
      exact hret xs _ _ _ _ _ _ _ dX0_see_24 (by rw [hs]) (by rw [hs]; exact ⟨rfl, hxs⟩) hP hS (Nat.le_refl _) (Nat.le_refl _)
  · skip
    refine lv_aload_n hx hb dX0_see_5 rfl (lv_at hl 0 rfl) ?_
    refine va_get (v := .ref (ad 23)) hx hb hts in_X0 hown hK hP 0 rfl rfl 10 (by decide) (hts _ q247) (fun _ h => h) rfl dX0_see_6 ?_
    refine ti_mV (As := []) (rest := []) S hE hP hD hS hA [1, 2, 3, 4] rfl (met_X5_none l D E 4 (by decide) (ad 23) (ad 24) (ad 25) (ad 26) xs.1 xs.2.1 xs.2.2.1 xs.2.2.2) rfl (fun _ => rfl) (lw_V q829 q830 q831 q71 q832) 0 rfl 1 rfl rfl (by decide +kernel) ⟨Nat.le_of_ble_eq_true rfl, Nat.le_of_ble_eq_true rfl⟩ hl.1 rfl (Nat.le_of_ble_eq_true rfl) ⟨Nat.le_refl _, Nat.le_refl _⟩ dX0_see_9 (fun _ H locs hu hP hD hS => ?_)
    have hP : va_P D vwCl (ti_wMS E ad dh du dv jh ju jv kh ku kv tx hi (xs.1, xs.2.1, xs.2.2.1, 0)) H := hP
    have hD : va_D A (ti_wMS E ad dh du dv jh ju jv kh ku kv tx hi (xs.1, xs.2.1, xs.2.2.1, 0)) := hD
    refine W.eq (g2 := F0 m 12 ls [.int 0]) rfl ?_
    have hs : ti_Ssee (ti_Wl3 xs) v num den = (0, []) := by rw [ti_Ssee, if_pos c2]
    exact hret (xs.1, xs.2.1, xs.2.2.1, 0) _ _ _ _ _ _ _ dX0_see_12 (by rw [hs]) (by rw [hs]; exact ⟨rfl, Nat.zero_le _, hxs.2⟩) hP hS (Nat.le_refl _) (Nat.le_refl _)

theorem ti_ev_ok {x u : ti_Tw} {a b c : Nat} (h : ∀ k, k < x.2.2.2 → x.1 k = 2 → x.2.1 k ≤ 9) (hu : u = if x.2.2.2 = 8 then (x.1, x.2.1, x.2.2.1, x.2.2.2) else (va_up x.1 x.2.2.2 a, va_up x.2.1 x.2.2.2 b, va_up x.2.2.1 x.2.2.2 c, x.2.2.2 + 1)) (hab : a = 2 → b ≤ 9) : ∀ k, k < u.2.2.2 → u.1 k = 2 → u.2.1 k ≤ 9 := by
  by_cases h8 : x.2.2.2 = 8
  · rw [if_pos h8] at hu
    rw [hu]; exact h
  · rw [if_neg h8] at hu
    rw [hu]
    intro k hk h2
    have hk : k < x.2.2.2 + 1 := hk
    have h2 : va_up x.1 x.2.2.2 a k = 2 := h2
    show va_up x.2.1 x.2.2.2 b k ≤ 9
    by_cases e : k = x.2.2.2
    · rw [e, va_up_self] at h2
      rw [e, va_up_self]; exact hab h2
    · rw [va_up_ne _ _ e] at h2
      rw [va_up_ne _ _ e]; exact h k (by omega) h2

set_option maxHeartbeats 1000000 in
theorem met_X0_event (l : Launch) (D : va_G) (E : Nat → ClassId) (ad dh du dv jh ju jv kh ku kv : Nat → Nat) (tx : Nat) (hi : Bool) (xv : ti_Tw) (hxv : ti_Wok 8 xv) (hxe : ∀ k, k < xv.2.2.2 → xv.1 k = 2 → xv.2.1 k ≤ 9) (v d : Int32) : ti_MetM (σ := ti_Tw) l D E yX0_event cX0_event 3 (some .int) 2 0 0 (ti_wMV E ad dh du dv jh ju jv kh ku kv tx hi xv) [.ref (ad 0), .int v, .int d] (fun u => ti_wMV E ad dh du dv jh ju jv kh ku kv tx hi u) (fun u => some (.int ((fun _ => (ti_Sevent (ti_Wl2 xv) v d).1) u))) (fun u => ti_Wl2 u = (ti_Sevent (ti_Wl2 xv) v d).2 ∧ ti_Wok 8 u ∧ ∀ k, k < u.2.2.2 → u.1 k = 2 → u.2.1 k ≤ 9) := by
  refine ti_mutI (σ := ti_Tw) (vi := fun _ => (ti_Sevent (ti_Wl2 xv) v d).1) (by decide) (Nat.le_of_ble_eq_true rfl) ?_
  intro p e s m below meth c H H0 A Q ls S hE hP hD hS hA hinit hl hret
  have hx := S.1
  have hb := S.2.1
  have hown := S.2.2.2.1
  have hts := S.2.2.2.2
  have hK := hE.1
  have hl : lv_has ls 3 [(0, .ref (ad 0)), (1, .int v), (2, .int d)] := hl
  refine lv_iload_n hx hb dX0_event_0 rfl (lv_at hl 1 rfl) ?_
  by_cases sw1_0 : v = (-1)
  · subst sw1_0
    refine lv_tableIn (off := 31) (tgt := 32) hx hb dX0_event_1 (by decide) (by decide) rfl (by decide) ?_
    refine lv_aload_n hx hb dX0_event_32 rfl (lv_at hl 0 rfl) ?_
    refine va_get (v := .ref (ad 27)) hx hb hts in_X0 hown hK hP 0 rfl rfl 11 (by decide) (hts _ q248) (fun _ h => h) rfl dX0_event_33 ?_
    refine ti_mV (As := []) (rest := []) S hE hP hD hS hA [1, 2, 3, 4] rfl (met_X5_none l D E 8 (by decide) (ad 27) (ad 28) (ad 29) (ad 30) xv.1 xv.2.1 xv.2.2.1 xv.2.2.2) rfl (fun _ => rfl) (lw_V q829 q830 q831 q71 q832) 0 rfl 1 rfl rfl (by decide +kernel) ⟨Nat.le_of_ble_eq_true rfl, Nat.le_of_ble_eq_true rfl⟩ hl.1 rfl (Nat.le_of_ble_eq_true rfl) ⟨Nat.le_refl _, Nat.le_refl _⟩ dX0_event_36 (fun _ H locs hu hP hD hS => ?_)
    have hP : va_P D vwCl (ti_wMV E ad dh du dv jh ju jv kh ku kv tx hi (xv.1, xv.2.1, xv.2.2.1, 0)) H := hP
    have hD : va_D A (ti_wMV E ad dh du dv jh ju jv kh ku kv tx hi (xv.1, xv.2.1, xv.2.2.1, 0)) := hD
    refine W.eq (g2 := F0 m 39 ls [.int 0]) rfl ?_
    have hs : ti_Sevent (ti_Wl2 xv) (-1) d = (0, []) := by rw [ti_Sevent, if_pos rfl]
    exact hret (xv.1, xv.2.1, xv.2.2.1, 0) _ _ _ _ _ _ _ dX0_event_39 (by rw [hs]) (by rw [hs]; exact ⟨rfl, ⟨Nat.zero_le _, hxv.2⟩, fun k hk => absurd hk (Nat.not_lt_zero _)⟩) hP hS (Nat.le_refl _) (Nat.le_refl _)
  · skip
    by_cases sw1_1 : v = 0
    · subst sw1_1
      refine lv_tableIn (off := 39) (tgt := 40) hx hb dX0_event_1 (by decide) (by decide) rfl (by decide) ?_
      have hl : lv_has ls 3 [(0, .ref (ad 0)), (1, .int (nI 0)), (2, .int d)] := hl
      refine lv_iload_n hx hb dX0_event_40 rfl (lv_at hl 2 rfl) ?_
      refine lv_iconst (v := nI 0) hx hb dX0_event_41 (by decide) ?_
      refine lv_bipush (v := nI 99) hx hb dX0_event_42 (by decide) ?_
      refine ti_pS (As := [.int d, .int (nI 0), .int (nI 99)]) (rest := []) (v := .int (ti_b (ti_in d (nI 0) (nI 99)))) S hE hP [] (met_X0_in l D E d (nI 0) (nI 99)) rfl (lw_S q302 q303 q66 q304) 3 rfl (by decide +kernel) ⟨Nat.le_of_ble_eq_true rfl, Nat.le_of_ble_eq_true rfl⟩ hl.1 rfl (Nat.le_of_ble_eq_true rfl) ⟨Nat.le_refl _, Nat.le_refl _⟩ dX0_event_44 ?_
      refine tb_eq (tgt := 63) hx hb dX0_event_47 (by decide) (fun c47 => ?_) (fun c47 => ?_)
      · skip
        refine lv_bipush (v := (-2)) hx hb dX0_event_63 (by decide) ?_
        have hs : ti_Sevent (ti_Wl2 xv) 0 d = (-2, ti_Wl2 xv) := by rw [ti_Sevent, if_neg (by decide), if_neg (by decide), if_pos (by unfold ti_may; rw [if_pos rfl]; exact c47)]
        exact hret xv _ _ _ _ _ _ _ dX0_event_65 (by rw [hs]) (by rw [hs]; exact ⟨rfl, hxv, hxe⟩) hP hS (Nat.le_refl _) (Nat.le_refl _)
      · skip
        obtain ⟨i9, hi0, hi9, rfl⟩ := ti_in_nat (by decide) (by decide) c47
        have hcv : ti_cl (nI i9) = i9 := ti_cl_nI (by omega)
        refine lv_aload_n hx hb dX0_event_50 rfl (lv_at hl 0 rfl) ?_
        refine va_get (v := .ref (ad 27)) hx hb hts in_X0 hown hK hP 0 rfl rfl 11 (by decide) (hts _ q248) (fun _ h => h) rfl dX0_event_51 ?_
        refine lv_iload_n hx hb dX0_event_54 rfl (lv_at hl 1 rfl) ?_
        refine lv_iload_n hx hb dX0_event_55 rfl (lv_at hl 2 rfl) ?_
        refine lv_iconst (v := nI 0) hx hb dX0_event_56 (by decide) ?_
        refine ti_mV (As := [.int (nI 0), .int (nI i9), .int (nI 0)]) (rest := []) S hE hP hD hS hA [1, 2, 3, 4] rfl (met_X5_adds l D E 8 (by decide) (ad 27) (ad 28) (ad 29) (ad 30) xv.1 xv.2.1 xv.2.2.1 xv.2.2.2 hxv.1 0 i9 0) rfl (fun _ => rfl) (lw_V q833 q834 q835 q71 q836) 3 rfl 1 rfl rfl (by decide +kernel) ⟨Nat.le_of_ble_eq_true rfl, Nat.le_of_ble_eq_true rfl⟩ hl.1 rfl (Nat.le_of_ble_eq_true rfl) ⟨Nat.le_refl _, Nat.le_refl _⟩ dX0_event_57 (fun ur H locs hu hP hD hS => ?_)
        have hur := ti_add3 (u := ur) hxv (show 0 ≤ 99 by omega) (show i9 ≤ 99 by omega) (show 0 ≤ 99 by omega) hu
        have hP : va_P D vwCl (ti_wMV E ad dh du dv jh ju jv kh ku kv tx hi ur) H := hP
        have hD : va_D A (ti_wMV E ad dh du dv jh ju jv kh ku kv tx hi ur) := hD
        refine W.eq (g2 := F0 m 60 ls [.int (if xv.2.2.2 = 8 then -4 else nI (xv.2.2.2 + 1))]) rfl ?_
        refine lv_goto (tgt := 65) hx hb dX0_event_60 (by decide) ?_
        have hs : ti_Sevent (ti_Wl2 xv) 0 (nI i9) = (if (ti_Wl2 xv).length = 8 then (-4, ti_Wl2 xv) else (nI ((ti_Wl2 xv).length + 1), ti_Wl2 xv ++ [(0, i9)])) := by rw [ti_Sevent, if_neg (by decide), if_neg (by decide), if_neg (by unfold ti_may; rw [if_pos rfl]; rw [c47]; decide), hcv]; rfl
        rw [ti_gr_len] at hs
        exact hret ur _ _ _ _ _ _ _ dX0_event_65 (by rw [hs]; by_cases h4 : xv.2.2.2 = 8; rw [if_pos h4, if_pos h4]; rw [if_neg h4, if_neg h4]) (⟨by rw [hs, hur.2.2, ti_gr_len]; by_cases h4 : xv.2.2.2 = 8; rw [if_pos h4, if_pos h4]; rw [if_neg h4, if_neg h4], hur.1, ti_ev_ok hxe hu (fun h => absurd h (by decide))⟩) hP hS (Nat.le_refl _) (Nat.le_refl _)
    · skip
      by_cases sw1_2 : v = 1
      · subst sw1_2
        refine lv_tableIn (off := 65) (tgt := 66) hx hb dX0_event_1 (by decide) (by decide) rfl (by decide) ?_
        have hl : lv_has ls 3 [(0, .ref (ad 0)), (1, .int (nI 1)), (2, .int d)] := hl
        refine lv_iload_n hx hb dX0_event_66 rfl (lv_at hl 2 rfl) ?_
        refine lv_iconst (v := nI 0) hx hb dX0_event_67 (by decide) ?_
        refine lv_iconst (v := nI 5) hx hb dX0_event_68 (by decide) ?_
        refine ti_pS (As := [.int d, .int (nI 0), .int (nI 5)]) (rest := []) (v := .int (ti_b (ti_in d (nI 0) (nI 5)))) S hE hP [] (met_X0_in l D E d (nI 0) (nI 5)) rfl (lw_S q302 q303 q66 q304) 3 rfl (by decide +kernel) ⟨Nat.le_of_ble_eq_true rfl, Nat.le_of_ble_eq_true rfl⟩ hl.1 rfl (Nat.le_of_ble_eq_true rfl) ⟨Nat.le_refl _, Nat.le_refl _⟩ dX0_event_69 ?_
        refine tb_eq (tgt := 88) hx hb dX0_event_72 (by decide) (fun c72 => ?_) (fun c72 => ?_)
        · skip
          refine lv_bipush (v := (-2)) hx hb dX0_event_88 (by decide) ?_
          have hs : ti_Sevent (ti_Wl2 xv) 1 d = (-2, ti_Wl2 xv) := by rw [ti_Sevent, if_neg (by decide), if_neg (by decide), if_pos (by unfold ti_may; rw [if_neg (by decide), if_pos rfl]; exact c72)]
          exact hret xv _ _ _ _ _ _ _ dX0_event_90 (by rw [hs]) (by rw [hs]; exact ⟨rfl, hxv, hxe⟩) hP hS (Nat.le_refl _) (Nat.le_refl _)
        · skip
          obtain ⟨i9, hi0, hi9, rfl⟩ := ti_in_nat (by decide) (by decide) c72
          have hcv : ti_cl (nI i9) = i9 := ti_cl_nI (by omega)
          refine lv_aload_n hx hb dX0_event_75 rfl (lv_at hl 0 rfl) ?_
          refine va_get (v := .ref (ad 27)) hx hb hts in_X0 hown hK hP 0 rfl rfl 11 (by decide) (hts _ q248) (fun _ h => h) rfl dX0_event_76 ?_
          refine lv_iload_n hx hb dX0_event_79 rfl (lv_at hl 1 rfl) ?_
          refine lv_iload_n hx hb dX0_event_80 rfl (lv_at hl 2 rfl) ?_
          refine lv_iconst (v := nI 0) hx hb dX0_event_81 (by decide) ?_
          refine ti_mV (As := [.int (nI 1), .int (nI i9), .int (nI 0)]) (rest := []) S hE hP hD hS hA [1, 2, 3, 4] rfl (met_X5_adds l D E 8 (by decide) (ad 27) (ad 28) (ad 29) (ad 30) xv.1 xv.2.1 xv.2.2.1 xv.2.2.2 hxv.1 1 i9 0) rfl (fun _ => rfl) (lw_V q833 q834 q835 q71 q836) 3 rfl 1 rfl rfl (by decide +kernel) ⟨Nat.le_of_ble_eq_true rfl, Nat.le_of_ble_eq_true rfl⟩ hl.1 rfl (Nat.le_of_ble_eq_true rfl) ⟨Nat.le_refl _, Nat.le_refl _⟩ dX0_event_82 (fun ur H locs hu hP hD hS => ?_)
          have hur := ti_add3 (u := ur) hxv (show 1 ≤ 99 by omega) (show i9 ≤ 99 by omega) (show 0 ≤ 99 by omega) hu
          have hP : va_P D vwCl (ti_wMV E ad dh du dv jh ju jv kh ku kv tx hi ur) H := hP
          have hD : va_D A (ti_wMV E ad dh du dv jh ju jv kh ku kv tx hi ur) := hD
          refine W.eq (g2 := F0 m 85 ls [.int (if xv.2.2.2 = 8 then -4 else nI (xv.2.2.2 + 1))]) rfl ?_
          refine lv_goto (tgt := 90) hx hb dX0_event_85 (by decide) ?_
          have hs : ti_Sevent (ti_Wl2 xv) 1 (nI i9) = (if (ti_Wl2 xv).length = 8 then (-4, ti_Wl2 xv) else (nI ((ti_Wl2 xv).length + 1), ti_Wl2 xv ++ [(1, i9)])) := by rw [ti_Sevent, if_neg (by decide), if_neg (by decide), if_neg (by unfold ti_may; rw [if_neg (by decide), if_pos rfl]; rw [c72]; decide), hcv]; rfl
          rw [ti_gr_len] at hs
          exact hret ur _ _ _ _ _ _ _ dX0_event_90 (by rw [hs]; by_cases h4 : xv.2.2.2 = 8; rw [if_pos h4, if_pos h4]; rw [if_neg h4, if_neg h4]) (⟨by rw [hs, hur.2.2, ti_gr_len]; by_cases h4 : xv.2.2.2 = 8; rw [if_pos h4, if_pos h4]; rw [if_neg h4, if_neg h4], hur.1, ti_ev_ok hxe hu (fun h => absurd h (by decide))⟩) hP hS (Nat.le_refl _) (Nat.le_refl _)
      · skip
        by_cases sw1_3 : v = 2
        · subst sw1_3
          refine lv_tableIn (off := 90) (tgt := 91) hx hb dX0_event_1 (by decide) (by decide) rfl (by decide) ?_
          have hl : lv_has ls 3 [(0, .ref (ad 0)), (1, .int (nI 2)), (2, .int d)] := hl
          refine lv_iload_n hx hb dX0_event_91 rfl (lv_at hl 2 rfl) ?_
          refine lv_iconst (v := nI 1) hx hb dX0_event_92 (by decide) ?_
          refine lv_bipush (v := nI 9) hx hb dX0_event_93 (by decide) ?_
          refine ti_pS (As := [.int d, .int (nI 1), .int (nI 9)]) (rest := []) (v := .int (ti_b (ti_in d (nI 1) (nI 9)))) S hE hP [] (met_X0_in l D E d (nI 1) (nI 9)) rfl (lw_S q302 q303 q66 q304) 3 rfl (by decide +kernel) ⟨Nat.le_of_ble_eq_true rfl, Nat.le_of_ble_eq_true rfl⟩ hl.1 rfl (Nat.le_of_ble_eq_true rfl) ⟨Nat.le_refl _, Nat.le_refl _⟩ dX0_event_95 ?_
          refine tb_eq (tgt := 114) hx hb dX0_event_98 (by decide) (fun c98 => ?_) (fun c98 => ?_)
          · skip
            refine lv_bipush (v := (-2)) hx hb dX0_event_114 (by decide) ?_
            have hs : ti_Sevent (ti_Wl2 xv) 2 d = (-2, ti_Wl2 xv) := by rw [ti_Sevent, if_neg (by decide), if_neg (by decide), if_pos (by unfold ti_may; rw [if_neg (by decide), if_neg (by decide)]; exact c98)]
            exact hret xv _ _ _ _ _ _ _ dX0_event_116 (by rw [hs]) (by rw [hs]; exact ⟨rfl, hxv, hxe⟩) hP hS (Nat.le_refl _) (Nat.le_refl _)
          · skip
            obtain ⟨i9, hi0, hi9, rfl⟩ := ti_in_nat (by decide) (by decide) c98
            have hcv : ti_cl (nI i9) = i9 := ti_cl_nI (by omega)
            refine lv_aload_n hx hb dX0_event_101 rfl (lv_at hl 0 rfl) ?_
            refine va_get (v := .ref (ad 27)) hx hb hts in_X0 hown hK hP 0 rfl rfl 11 (by decide) (hts _ q248) (fun _ h => h) rfl dX0_event_102 ?_
            refine lv_iload_n hx hb dX0_event_105 rfl (lv_at hl 1 rfl) ?_
            refine lv_iload_n hx hb dX0_event_106 rfl (lv_at hl 2 rfl) ?_
            refine lv_iconst (v := nI 0) hx hb dX0_event_107 (by decide) ?_
            refine ti_mV (As := [.int (nI 2), .int (nI i9), .int (nI 0)]) (rest := []) S hE hP hD hS hA [1, 2, 3, 4] rfl (met_X5_adds l D E 8 (by decide) (ad 27) (ad 28) (ad 29) (ad 30) xv.1 xv.2.1 xv.2.2.1 xv.2.2.2 hxv.1 2 i9 0) rfl (fun _ => rfl) (lw_V q833 q834 q835 q71 q836) 3 rfl 1 rfl rfl (by decide +kernel) ⟨Nat.le_of_ble_eq_true rfl, Nat.le_of_ble_eq_true rfl⟩ hl.1 rfl (Nat.le_of_ble_eq_true rfl) ⟨Nat.le_refl _, Nat.le_refl _⟩ dX0_event_108 (fun ur H locs hu hP hD hS => ?_)
            have hur := ti_add3 (u := ur) hxv (show 2 ≤ 99 by omega) (show i9 ≤ 99 by omega) (show 0 ≤ 99 by omega) hu
            have hP : va_P D vwCl (ti_wMV E ad dh du dv jh ju jv kh ku kv tx hi ur) H := hP
            have hD : va_D A (ti_wMV E ad dh du dv jh ju jv kh ku kv tx hi ur) := hD
            refine W.eq (g2 := F0 m 111 ls [.int (if xv.2.2.2 = 8 then -4 else nI (xv.2.2.2 + 1))]) rfl ?_
            refine lv_goto (tgt := 116) hx hb dX0_event_111 (by decide) ?_
            have hs : ti_Sevent (ti_Wl2 xv) 2 (nI i9) = (if (ti_Wl2 xv).length = 8 then (-4, ti_Wl2 xv) else (nI ((ti_Wl2 xv).length + 1), ti_Wl2 xv ++ [(2, i9)])) := by rw [ti_Sevent, if_neg (by decide), if_neg (by decide), if_neg (by unfold ti_may; rw [if_neg (by decide), if_neg (by decide)]; rw [c98]; decide), hcv]; rfl
            rw [ti_gr_len] at hs
            exact hret ur _ _ _ _ _ _ _ dX0_event_116 (by rw [hs]; by_cases h4 : xv.2.2.2 = 8; rw [if_pos h4, if_pos h4]; rw [if_neg h4, if_neg h4]) (⟨by rw [hs, hur.2.2, ti_gr_len]; by_cases h4 : xv.2.2.2 = 8; rw [if_pos h4, if_pos h4]; rw [if_neg h4, if_neg h4], hur.1, ti_ev_ok hxe hu (fun _ => by omega)⟩) hP hS (Nat.le_refl _) (Nat.le_refl _)
        · skip
          refine lv_tableOut (tgt := 117) hx hb dX0_event_1 (Classical.byContradiction fun z => by
              have z1 : v.toInt = -1 ∨ v.toInt = 0 ∨ v.toInt = 1 ∨ v.toInt = 2 := by omega
              rcases z1 with z2 | z2 | z2 | z2
              · exact sw1_0 (Int32.toInt_inj.mp z2)
              · exact sw1_1 (Int32.toInt_inj.mp z2)
              · exact sw1_2 (Int32.toInt_inj.mp z2)
              · exact sw1_3 (Int32.toInt_inj.mp z2)) (by decide) ?_
          refine lv_iconst (v := (-1)) hx hb dX0_event_117 (by decide) ?_
          have hs : ti_Sevent (ti_Wl2 xv) v d = (-1, ti_Wl2 xv) := by rw [ti_Sevent, if_neg sw1_0, if_pos (ti_out2 sw1_1 sw1_2 sw1_3)]
          exact hret xv _ _ _ _ _ _ _ dX0_event_118 (by rw [hs]) (by rw [hs]; exact ⟨rfl, hxv, hxe⟩) hP hS (Nat.le_refl _) (Nat.le_refl _)

set_option maxHeartbeats 1000000 in
theorem met_X0_book (l : Launch) (D : va_G) (E : Nat → ClassId) (ad dh du dv jh ju jv kh ku kv : Nat → Nat) (tx : Nat) (hi : Bool) (xb : ti_Tw) (hxb : ti_Wok 8 xb) (v z : Int32) : ti_MetM (σ := ti_Tw) l D E yX0_book cX0_book 3 (some .int) 2 0 0 (ti_wMB E ad dh du dv jh ju jv kh ku kv tx hi xb) [.ref (ad 0), .int v, .int z] (fun u => ti_wMB E ad dh du dv jh ju jv kh ku kv tx hi u) (fun u => some (.int ((fun _ => (ti_Sbook (ti_Wl2 xb) v z).1) u))) (fun u => ti_Wl2 u = (ti_Sbook (ti_Wl2 xb) v z).2 ∧ ti_Wok 8 u) := by
  refine ti_mutI (σ := ti_Tw) (vi := fun _ => (ti_Sbook (ti_Wl2 xb) v z).1) (by decide) (Nat.le_of_ble_eq_true rfl) ?_
  intro p e s m below meth c H H0 A Q ls S hE hP hD hS hA hinit hl hret
  have hx := S.1
  have hb := S.2.1
  have hown := S.2.2.2.1
  have hts := S.2.2.2.2
  have hK := hE.1
  have hl : lv_has ls 3 [(0, .ref (ad 0)), (1, .int v), (2, .int z)] := hl
  refine lv_iload_n hx hb dX0_book_0 rfl (lv_at hl 1 rfl) ?_
  refine lv_iconst (v := (-1)) hx hb dX0_book_1 (by decide) ?_
  refine lv_icmp_ne (tgt := 13) hx hb dX0_book_2 (by decide) (fun c2 => ?_) (fun c2 => ?_)
  · skip
    refine lv_iload_n hx hb dX0_book_13 rfl (lv_at hl 1 rfl) ?_
    refine lv_iconst (v := nI 0) hx hb dX0_book_14 (by decide) ?_
    refine lv_bipush (v := nI 99) hx hb dX0_book_15 (by decide) ?_
    refine ti_pS (As := [.int v, .int (nI 0), .int (nI 99)]) (rest := []) (v := .int (ti_b (ti_in v (nI 0) (nI 99)))) S hE hP [] (met_X0_in l D E v (nI 0) (nI 99)) rfl (lw_S q302 q303 q66 q304) 3 rfl (by decide +kernel) ⟨Nat.le_of_ble_eq_true rfl, Nat.le_of_ble_eq_true rfl⟩ hl.1 rfl (Nat.le_of_ble_eq_true rfl) ⟨Nat.le_refl _, Nat.le_refl _⟩ dX0_book_17 ?_
    refine tb_ne (tgt := 25) hx hb dX0_book_20 (by decide) (fun c20 => ?_) (fun c20 => ?_)
    · skip
      obtain ⟨i9, -, hi9, rfl⟩ := ti_in_nat (by decide) (by decide) c20
      have hcv : ti_cl (nI i9) = i9 := ti_cl_nI (by omega)
      have hne : ¬ nI i9 = -1 := ti_n1 (by omega)
      refine lv_iload_n hx hb dX0_book_25 rfl (lv_at hl 2 rfl) ?_
      refine lv_iconst (v := nI 0) hx hb dX0_book_26 (by decide) ?_
      refine lv_iconst (v := nI 1) hx hb dX0_book_27 (by decide) ?_
      refine ti_pS (As := [.int z, .int (nI 0), .int (nI 1)]) (rest := []) (v := .int (ti_b (ti_in z (nI 0) (nI 1)))) S hE hP [] (met_X0_in l D E z (nI 0) (nI 1)) rfl (lw_S q302 q303 q66 q304) 3 rfl (by decide +kernel) ⟨Nat.le_of_ble_eq_true rfl, Nat.le_of_ble_eq_true rfl⟩ hl.1 rfl (Nat.le_of_ble_eq_true rfl) ⟨Nat.le_refl _, Nat.le_refl _⟩ dX0_book_28 ?_
      refine tb_eq (tgt := 47) hx hb dX0_book_31 (by decide) (fun c31 => ?_) (fun c31 => ?_)
      · skip
        have c31 : ti_bt z = false := c31
        refine lv_bipush (v := (-2)) hx hb dX0_book_47 (by decide) ?_
        have hs : ti_Sbook (ti_Wl2 xb) (nI i9) z = (-2, ti_Wl2 xb) := by rw [ti_Sbook, if_neg hne, if_neg (by rw [c20]; decide), if_pos c31]
        exact hret xb _ _ _ _ _ _ _ dX0_book_49 (by rw [hs]) (by rw [hs]; exact ⟨rfl, hxb⟩) hP hS (Nat.le_refl _) (Nat.le_refl _)
      · skip
        have c31 : ti_bt z = true := c31
        have hz := c31
        obtain ⟨z9, hz9, rfl⟩ := ti_bt_nat hz
        have hcz : ti_cl (nI z9) = z9 := ti_cl_nI (by omega)
        refine lv_aload_n hx hb dX0_book_34 rfl (lv_at hl 0 rfl) ?_
        refine va_get (v := .ref (ad 31)) hx hb hts in_X0 hown hK hP 0 rfl rfl 12 (by decide) (hts _ q249) (fun _ h => h) rfl dX0_book_35 ?_
        refine lv_iload_n hx hb dX0_book_38 rfl (lv_at hl 1 rfl) ?_
        refine lv_iload_n hx hb dX0_book_39 rfl (lv_at hl 2 rfl) ?_
        refine lv_iconst (v := nI 0) hx hb dX0_book_40 (by decide) ?_
        refine ti_mV (As := [.int (nI i9), .int (nI z9), .int (nI 0)]) (rest := []) S hE hP hD hS hA [1, 2, 3, 4] rfl (met_X5_adds l D E 8 (by decide) (ad 31) (ad 32) (ad 33) (ad 34) xb.1 xb.2.1 xb.2.2.1 xb.2.2.2 hxb.1 i9 z9 0) rfl (fun _ => rfl) (lw_V q833 q834 q835 q71 q836) 3 rfl 1 rfl rfl (by decide +kernel) ⟨Nat.le_of_ble_eq_true rfl, Nat.le_of_ble_eq_true rfl⟩ hl.1 rfl (Nat.le_of_ble_eq_true rfl) ⟨Nat.le_refl _, Nat.le_refl _⟩ dX0_book_41 (fun ur H locs hu hP hD hS => ?_)
        have hur := ti_add3 (u := ur) hxb (show i9 ≤ 99 by omega) (show z9 ≤ 99 by omega) (show 0 ≤ 99 by omega) hu
        have hP : va_P D vwCl (ti_wMB E ad dh du dv jh ju jv kh ku kv tx hi ur) H := hP
        have hD : va_D A (ti_wMB E ad dh du dv jh ju jv kh ku kv tx hi ur) := hD
        refine W.eq (g2 := F0 m 44 ls [.int (if xb.2.2.2 = 8 then -4 else nI (xb.2.2.2 + 1))]) rfl ?_
        refine lv_goto (tgt := 49) hx hb dX0_book_44 (by decide) ?_
        have hs : ti_Sbook (ti_Wl2 xb) (nI i9) (nI z9) = (if (ti_Wl2 xb).length = 8 then (-4, ti_Wl2 xb) else (nI ((ti_Wl2 xb).length + 1), ti_Wl2 xb ++ [(i9, z9)])) := by rw [ti_Sbook, if_neg hne, if_neg (by rw [c20]; decide), if_neg (by rw [hz]; decide), hcv, hcz]
        rw [ti_gr_len] at hs
        exact hret ur _ _ _ _ _ _ _ dX0_book_49 (by rw [hs]; by_cases h4 : xb.2.2.2 = 8; rw [if_pos h4, if_pos h4]; rw [if_neg h4, if_neg h4]) (⟨by rw [hs, hur.2.2, ti_gr_len]; by_cases h4 : xb.2.2.2 = 8; rw [if_pos h4, if_pos h4]; rw [if_neg h4, if_neg h4], hur.1⟩) hP hS (Nat.le_refl _) (Nat.le_refl _)
    · skip
      refine lv_iconst (v := (-1)) hx hb dX0_book_23 (by decide) ?_
      have hs : ti_Sbook (ti_Wl2 xb) v z = (-1, ti_Wl2 xb) := by rw [ti_Sbook, if_neg c2, if_pos c20]
      exact hret xb _ _ _ _ _ _ _ dX0_book_24 (by rw [hs]) (by rw [hs]; exact ⟨rfl, hxb⟩) hP hS (Nat.le_refl _) (Nat.le_refl _)
  · skip
    refine lv_aload_n hx hb dX0_book_5 rfl (lv_at hl 0 rfl) ?_
    refine va_get (v := .ref (ad 31)) hx hb hts in_X0 hown hK hP 0 rfl rfl 12 (by decide) (hts _ q249) (fun _ h => h) rfl dX0_book_6 ?_
    refine ti_mV (As := []) (rest := []) S hE hP hD hS hA [1, 2, 3, 4] rfl (met_X5_none l D E 8 (by decide) (ad 31) (ad 32) (ad 33) (ad 34) xb.1 xb.2.1 xb.2.2.1 xb.2.2.2) rfl (fun _ => rfl) (lw_V q829 q830 q831 q71 q832) 0 rfl 1 rfl rfl (by decide +kernel) ⟨Nat.le_of_ble_eq_true rfl, Nat.le_of_ble_eq_true rfl⟩ hl.1 rfl (Nat.le_of_ble_eq_true rfl) ⟨Nat.le_refl _, Nat.le_refl _⟩ dX0_book_9 (fun _ H locs hu hP hD hS => ?_)
    have hP : va_P D vwCl (ti_wMB E ad dh du dv jh ju jv kh ku kv tx hi (xb.1, xb.2.1, xb.2.2.1, 0)) H := hP
    have hD : va_D A (ti_wMB E ad dh du dv jh ju jv kh ku kv tx hi (xb.1, xb.2.1, xb.2.2.1, 0)) := hD
    refine W.eq (g2 := F0 m 12 ls [.int 0]) rfl ?_
    have hs : ti_Sbook (ti_Wl2 xb) v z = (0, []) := by rw [ti_Sbook, if_pos c2]
    exact hret (xb.1, xb.2.1, xb.2.2.1, 0) _ _ _ _ _ _ _ dX0_book_12 (by rw [hs]) (by rw [hs]; exact ⟨rfl, Nat.zero_le _, hxb.2⟩) hP hS (Nat.le_refl _) (Nat.le_refl _)

set_option maxHeartbeats 1000000 in
theorem met_X0_count (l : Launch) (D : va_G) (E : Nat → ClassId) (ad dh du dv jh ju jv kh ku kv : Nat → Nat) (tx : Nat) (hi : Bool) (xd : ti_Td) (xs : ti_Tw) (xv : ti_Tw) (xb : ti_Tw) (w : Int32) : ti_MetP l D E yX0_count cX0_count 2 (some .int) 0 (ti_wMdSVB E ad dh du dv jh ju jv kh ku kv tx hi xd xs xv xb) [.ref (ad 0), .int w] (some (.int (ti_Scount xs.2.2.2 xv.2.2.2 xb.2.2.2 tx xd.2.2.1 w))) := by
  refine ti_pureI (by decide) (Nat.le_of_ble_eq_true rfl) ?_
  intro p e s m below meth c H locs Q ls S hE hP hl hret
  have hx := S.1
  have hb := S.2.1
  have hown := S.2.2.2.1
  have hts := S.2.2.2.2
  have hK := hE.1
  have hl : lv_has ls 2 [(0, .ref (ad 0)), (1, .int w)] := hl
  refine lv_iload_n hx hb dX0_count_0 rfl (lv_at hl 1 rfl) ?_
  by_cases sw1_0 : w = 0
  · subst sw1_0
    refine lv_tableIn (off := 35) (tgt := 36) hx hb dX0_count_1 (by decide) (by decide) rfl (by decide) ?_
    refine lv_aload_n hx hb dX0_count_36 rfl (lv_at hl 0 rfl) ?_
    refine va_get (v := .ref (ad 23)) hx hb hts in_X0 hown hK hP 0 rfl rfl 10 (by decide) (hts _ q247) (fun _ h => h) rfl dX0_count_37 ?_
    refine va_getN (v := .int (nI xs.2.2.2)) hx hb hts in_X5 hown hK hP 2 rfl rfl 3 (by decide) (hE.use q214 rfl rfl) (fun _ h => h) rfl dX0_count_40 ?_
    exact hret _ _ _ dX0_count_43 (by rw [ti_Scount, if_pos rfl])
  · skip
    by_cases sw1_1 : w = 1
    · subst sw1_1
      refine lv_tableIn (off := 43) (tgt := 44) hx hb dX0_count_1 (by decide) (by decide) rfl (by decide) ?_
      refine lv_aload_n hx hb dX0_count_44 rfl (lv_at hl 0 rfl) ?_
      refine va_get (v := .ref (ad 27)) hx hb hts in_X0 hown hK hP 0 rfl rfl 11 (by decide) (hts _ q248) (fun _ h => h) rfl dX0_count_45 ?_
      refine va_getN (v := .int (nI xv.2.2.2)) hx hb hts in_X5 hown hK hP 6 rfl rfl 3 (by decide) (hE.use q214 rfl rfl) (fun _ h => h) rfl dX0_count_48 ?_
      exact hret _ _ _ dX0_count_51 (by rw [ti_Scount, if_neg (by decide), if_pos rfl])
    · skip
      by_cases sw1_2 : w = 2
      · subst sw1_2
        refine lv_tableIn (off := 51) (tgt := 52) hx hb dX0_count_1 (by decide) (by decide) rfl (by decide) ?_
        refine lv_aload_n hx hb dX0_count_52 rfl (lv_at hl 0 rfl) ?_
        refine va_get (v := .ref (ad 31)) hx hb hts in_X0 hown hK hP 0 rfl rfl 12 (by decide) (hts _ q249) (fun _ h => h) rfl dX0_count_53 ?_
        refine va_getN (v := .int (nI xb.2.2.2)) hx hb hts in_X5 hown hK hP 10 rfl rfl 3 (by decide) (hE.use q214 rfl rfl) (fun _ h => h) rfl dX0_count_56 ?_
        exact hret _ _ _ dX0_count_59 (by rw [ti_Scount, if_neg (by decide), if_neg (by decide), if_pos rfl])
      · skip
        by_cases sw1_3 : w = 3
        · subst sw1_3
          refine lv_tableIn (off := 59) (tgt := 60) hx hb dX0_count_1 (by decide) (by decide) rfl (by decide) ?_
          refine lv_aload_n hx hb dX0_count_60 rfl (lv_at hl 0 rfl) ?_
          refine va_get (v := .int (nI tx)) hx hb hts in_X0 hown hK hP 0 rfl rfl 9 (by decide) (hts _ q246) (fun _ h => h) rfl dX0_count_61 ?_
          exact hret _ _ _ dX0_count_64 (by rw [ti_Scount, if_neg (by decide), if_neg (by decide), if_neg (by decide), if_pos rfl])
        · skip
          by_cases sw1_4 : w = 4
          · subst sw1_4
            refine lv_tableIn (off := 64) (tgt := 65) hx hb dX0_count_1 (by decide) (by decide) rfl (by decide) ?_
            refine lv_aload_n hx hb dX0_count_65 rfl (lv_at hl 0 rfl) ?_
            refine va_get (v := .ref (ad 11)) hx hb hts in_X0 hown hK hP 0 rfl rfl 3 (by decide) (hts _ q240) (fun _ h => h) rfl dX0_count_66 ?_
            refine va_getN (v := .int (nI xd.2.2.1)) hx hb hts in_X3 hown hK hP 1 rfl rfl 2 (by decide) (hE.use q182 rfl rfl) (fun _ h => h) rfl dX0_count_69 ?_
            exact hret _ _ _ dX0_count_72 (by rw [ti_Scount, if_neg (by decide), if_neg (by decide), if_neg (by decide), if_neg (by decide), if_pos rfl])
          · skip
            refine lv_tableOut (tgt := 73) hx hb dX0_count_1 (Classical.byContradiction fun z => by
                have z1 : w.toInt = 0 ∨ w.toInt = 1 ∨ w.toInt = 2 ∨ w.toInt = 3 ∨ w.toInt = 4 := by omega
                rcases z1 with z2 | z2 | z2 | z2 | z2
                · exact sw1_0 (Int32.toInt_inj.mp z2)
                · exact sw1_1 (Int32.toInt_inj.mp z2)
                · exact sw1_2 (Int32.toInt_inj.mp z2)
                · exact sw1_3 (Int32.toInt_inj.mp z2)
                · exact sw1_4 (Int32.toInt_inj.mp z2)) (by decide) ?_
            refine lv_bipush (v := (-2)) hx hb dX0_count_73 (by decide) ?_
            exact hret _ _ _ dX0_count_75 (by rw [ti_Scount, if_neg sw1_0, if_neg sw1_1, if_neg sw1_2, if_neg sw1_3, if_neg sw1_4])

set_option maxHeartbeats 1000000 in
theorem met_X0_looked (l : Launch) (D : va_G) (E : Nat → ClassId) (ad dh du dv jh ju jv kh ku kv : Nat → Nat) (tx : Nat) (hi : Bool) (xi : ti_Ti) (xb : ti_Tw) (hxi : ti_Jok xi) (I : Nat → ti_GL) (hJ : ti_JI xi I) (hxb : ti_Wok 8 xb) (hxb1 : ∀ k, k < xb.2.2.2 → xb.2.1 k ≤ 1) : ti_MetP l D E yX0_looked cX0_looked 3 (some .int) 3 (ti_wMJB E ad dh du dv jh ju jv kh ku kv tx hi xi xb) [.ref (ad 0)] (some (.int (ti_lkd (I 0) (ti_gr xb.1 xb.2.1 0 xb.2.2.2) 0))) := by
  refine ti_pureI (by decide) (Nat.le_of_ble_eq_true rfl) ?_
  intro p e s m below meth c H locs Q ls S hE hP hl hret
  have hx := S.1
  have hb := S.2.1
  have hown := S.2.2.2.1
  have hts := S.2.2.2.2
  have hK := hE.1
  have hl : lv_has ls 3 [(0, .ref (ad 0))] := hl
  refine lv_iconst (v := nI 0) hx hb dX0_looked_0 (by decide) ?_
  refine lv_istore_n (lv' := [(1, .int (nI 0)), (0, .ref (ad 0))]) hx hb dX0_looked_1 rfl hl (by decide) rfl (fun ls hl => ?_)
  have L2 : ∀ (N : Nat) (k : Nat) (ls : Array Slot), (xb.2.2.2 - k) < N → (k ≤ xb.2.2.2) → (ti_lkd (I 0) (ti_gr xb.1 xb.2.1 k (xb.2.2.2 - k)) k = ti_lkd (I 0) (ti_gr xb.1 xb.2.1 0 xb.2.2.2) 0) → lv_has ls 3 [(0, .ref (ad 0)), (1, .int (nI k))] → W p l e (ti_rm 3 0 0) s m ([.ref (ad 0)] : List Value).toArray below meth c H locs 0 0 Q (F0 m 2 ls []) := by
    intro N
    induction N with
    | zero => intro k ls h0; exact absurd h0 (Nat.not_lt_zero _)
    | succ N ih2 =>
      intro k ls hN hk hlk hl
      refine lv_iload_n hx hb dX0_looked_2 rfl (lv_at hl 1 rfl) ?_
      have h8 := hxb.1
      refine lv_aload_n hx hb dX0_looked_3 rfl (lv_at hl 0 rfl) ?_
      refine va_get (v := .ref (ad 31)) hx hb hts in_X0 hown hK hP 0 rfl rfl 12 (by decide) (hts _ q249) (fun _ h => h) rfl dX0_looked_4 ?_
      refine va_getN (v := .int (nI xb.2.2.2)) hx hb hts in_X5 hown hK hP 8 rfl rfl 3 (by decide) (hE.use q214 rfl rfl) (fun _ h => h) rfl dX0_looked_7 ?_
      refine tn_ge (tgt := 69) hx hb dX0_looked_10 (by decide) (by omega) (by omega) (fun c10 => ?_) (fun c10 => ?_)
      · skip
        refine lv_bipush (v := (-5)) hx hb dX0_looked_69 (by decide) ?_
        exact hret _ _ _ dX0_looked_71 (by rw [show xb.2.2.2 - k = 0 by omega] at hlk; exact hlk)
      · skip
        obtain ⟨m9, hm9⟩ : ∃ m9, xb.2.2.2 - k = m9 + 1 := ⟨xb.2.2.2 - k - 1, by omega⟩
        rw [hm9, ti_gr_s, ti_lkd] at hlk
        have hg := hJ 0 (by decide)
        have h1 := hxb1 k (by omega)
        refine lv_aload_n hx hb dX0_looked_13 rfl (lv_at hl 0 rfl) ?_
        refine va_get (v := .ref (ad 31)) hx hb hts in_X0 hown hK hP 0 rfl rfl 12 (by decide) (hts _ q249) (fun _ h => h) rfl dX0_looked_14 ?_
        refine va_getN (v := .ref (ad 32)) hx hb hts in_X5 hown hK hP 8 rfl rfl 0 (by decide) (hE.use q208 rfl rfl) (fun _ h => h) rfl dX0_looked_17 ?_
        refine lv_iload_n hx hb dX0_looked_20 rfl (lv_at hl 1 rfl) ?_
        refine tn_iald (f := xb.1) hx hb hK hP 9 0 rfl rfl (by omega) (by decide) dX0_looked_21 ?_
        have b21 := hxb.2.1 k
        refine lv_istore_n (lv' := [(2, .int (nI (xb.1 k))), (0, .ref (ad 0)), (1, .int (nI k))]) hx hb dX0_looked_22 rfl hl (by decide) rfl (fun ls hl => ?_)
        refine lv_aload_n hx hb dX0_looked_23 rfl (lv_at hl 1 rfl) ?_
        refine va_get (v := .ref (ad 1)) hx hb hts in_X0 hown hK hP 0 rfl rfl 0 (by decide) (hts _ q237) (fun _ h => h) rfl dX0_looked_24 ?_
        refine lv_iconst (v := nI 0) hx hb dX0_looked_27 (by decide) ?_
        refine tn_aald hx hb hK hP 1 5 rfl rfl (by omega) (by decide) dX0_looked_28 ?_
        refine lv_iload_n hx hb dX0_looked_29 rfl (lv_at hl 0 rfl) ?_
        refine lv_bipush (v := nI 10) hx hb dX0_looked_30 (by decide) ?_
        refine tn_div hx hb dX0_looked_32 (by omega) (by omega) (by omega) ?_
        refine lv_iload_n hx hb dX0_looked_33 rfl (lv_at hl 0 rfl) ?_
        refine lv_bipush (v := nI 10) hx hb dX0_looked_34 (by decide) ?_
        refine tn_rem hx hb dX0_looked_36 (by omega) (by omega) (by omega) ?_
        refine ti_pV (As := [.int (nI ((xb.1 k) / 10)), .int (nI ((xb.1 k) % 10))]) (rest := []) (v := .int (ti_b (ti_hb ((xb.1 k) / 10) ((xb.1 k) % 10) (-5) (ti_gr (xi.1 0) (xi.2.1 0) 0 (xi.2.2 0)) 0))) S hE hP [2, 3, 4] (met_X1_holds l D E (jh 0) (ju 0) (jv 0) (xi.1 0) (xi.2.1 0) (xi.2.2 0) (hxi.2.2 0) (hxi.1 0) (hxi.2.1 0) ((xb.1 k) / 10) ((xb.1 k) % 10) (by omega) (by omega)) rfl (lw_V q626 q603 q604 q67 q605) 2 rfl 2 rfl rfl (by decide +kernel) ⟨Nat.le_of_ble_eq_true rfl, Nat.le_of_ble_eq_true rfl⟩ hl.1 rfl (Nat.le_of_ble_eq_true rfl) ⟨Nat.le_refl _, Nat.le_refl _⟩ dX0_looked_37 ?_
        refine lv_aload_n hx hb dX0_looked_40 rfl (lv_at hl 1 rfl) ?_
        refine va_get (v := .ref (ad 31)) hx hb hts in_X0 hown hK hP 0 rfl rfl 12 (by decide) (hts _ q249) (fun _ h => h) rfl dX0_looked_41 ?_
        refine va_getN (v := .ref (ad 33)) hx hb hts in_X5 hown hK hP 8 rfl rfl 1 (by decide) (hE.use q210 rfl rfl) (fun _ h => h) rfl dX0_looked_44 ?_
        refine lv_iload_n hx hb dX0_looked_47 rfl (lv_at hl 2 rfl) ?_
        refine tn_iald (f := xb.2.1) hx hb hK hP 10 0 rfl rfl (by omega) (by decide) dX0_looked_48 ?_
        have b48 := hxb.2.2.1 k
        refine lv_iconst (v := nI 1) hx hb dX0_looked_49 (by decide) ?_
        refine tn_ne (tgt := 57) hx hb dX0_looked_50 (by decide) (by omega) (by omega) (fun c50 => ?_) (fun c50 => ?_)
        · skip
          refine lv_iconst (v := nI 0) hx hb dX0_looked_57 (by decide) ?_
          refine lv_icmp_eq (tgt := 63) hx hb dX0_looked_58 (by decide) (fun c58 => ?_) (fun c58 => ?_)
          · skip
            rw [show (ti_gr (xi.1 0) (xi.2.1 0) 0 (xi.2.2 0)) = I 0 from hg] at c58
            rw [if_pos (by rw [show xb.2.1 k = 0 by omega]; exact c58)] at hlk
            refine lv_iinc (v := nI (k + 1)) (lv' := [(1, .int (nI (k + 1))), (2, .int (nI (xb.1 k))), (0, .ref (ad 0))]) hx hb dX0_looked_63 hl (k := 2) rfl (nI_1 k) (by decide) rfl (fun ls hl => ?_)
            refine lv_goto (tgt := 2) hx hb dX0_looked_66 (by decide) ?_
            exact ih2 (k + 1) _ (by omega) (by omega) (by rw [show xb.2.2.2 - (k + 1) = m9 by omega]; exact hlk) (lv_sub hl [2, 0] rfl)
          · skip
            rw [show (ti_gr (xi.1 0) (xi.2.1 0) 0 (xi.2.2 0)) = I 0 from hg] at c58
            rw [if_neg (by rw [show xb.2.1 k = 0 by omega]; exact c58)] at hlk
            refine lv_iload_n hx hb dX0_looked_61 rfl (lv_at hl 2 rfl) ?_
            exact hret _ _ _ dX0_looked_62 (hlk)
        · skip
          refine lv_iconst (v := nI 1) hx hb dX0_looked_53 (by decide) ?_
          refine lv_goto (tgt := 58) hx hb dX0_looked_54 (by decide) ?_
          refine lv_icmp_eq (tgt := 63) hx hb dX0_looked_58 (by decide) (fun c58 => ?_) (fun c58 => ?_)
          · skip
            rw [show (ti_gr (xi.1 0) (xi.2.1 0) 0 (xi.2.2 0)) = I 0 from hg] at c58
            rw [if_pos (by rw [show xb.2.1 k = 1 from c50]; exact c58)] at hlk
            refine lv_iinc (v := nI (k + 1)) (lv' := [(1, .int (nI (k + 1))), (2, .int (nI (xb.1 k))), (0, .ref (ad 0))]) hx hb dX0_looked_63 hl (k := 2) rfl (nI_1 k) (by decide) rfl (fun ls hl => ?_)
            refine lv_goto (tgt := 2) hx hb dX0_looked_66 (by decide) ?_
            exact ih2 (k + 1) _ (by omega) (by omega) (by rw [show xb.2.2.2 - (k + 1) = m9 by omega]; exact hlk) (lv_sub hl [2, 0] rfl)
          · skip
            rw [show (ti_gr (xi.1 0) (xi.2.1 0) 0 (xi.2.2 0)) = I 0 from hg] at c58
            rw [if_neg (by rw [show xb.2.1 k = 1 from c50]; exact c58)] at hlk
            refine lv_iload_n hx hb dX0_looked_61 rfl (lv_at hl 2 rfl) ?_
            exact hret _ _ _ dX0_looked_62 (hlk)
  exact L2 _ 0 _ (Nat.lt_succ_self _) (by omega) (rfl) (lv_sub hl [1, 0] rfl)

set_option maxHeartbeats 1000000 in
theorem met_X0_image (l : Launch) (D : va_G) (E : Nat → ClassId) (ad dh du dv jh ju jv kh ku kv : Nat → Nat) (tx : Nat) (hi : Bool) (xi : ti_Ti) (xs : ti_Tw) (xv : ti_Tw) (xb : ti_Tw) (xk : ti_Ti) (ys : ti_Tw) (yv : ti_Tw) (yb : ti_Tw) (hxi : ti_Jok xi) (I : Nat → ti_GL) (hJ : ti_JI xi I) (hxs : ti_Wok 4 xs) (SN : List (Nat × Nat × Nat)) (hSN : ti_Wl3 xs = SN) (hxv : ti_Wok 8 xv) (EV : ti_GL) (hEV : ti_Wl2 xv = EV) (hxb : ti_Wok 8 xb) (BK : ti_GL) (hBK : ti_Wl2 xb = BK) : ti_MetM (σ := Bool × ti_Ti × ti_Tw × ti_Tw × ti_Tw) l D E yX0_image cX0_image 2 (some .int) 2 0 0 (ti_wMJSVBKACE E ad dh du dv jh ju jv kh ku kv tx hi xi xs xv xb xk ys yv yb) [.ref (ad 0)] (fun u => ti_wMJSVBKACE E ad dh du dv jh ju jv kh ku kv tx u.1 xi xs xv xb u.2.1 u.2.2.1 u.2.2.2.1 u.2.2.2.2) (fun u => some (.int ((fun _ => ti_both I) u))) (fun u => ti_TK u.1 u.2.1 u.2.2.1 u.2.2.2.1 u.2.2.2.2 (some (I, SN, EV, BK))) := by
  refine ti_mutI (σ := Bool × ti_Ti × ti_Tw × ti_Tw × ti_Tw) (vi := fun _ => ti_both I) (by decide) (Nat.le_of_ble_eq_true rfl) ?_
  intro p e s m below meth c H H0 A Q ls S hE hP hD hS hA hinit hl hret
  have hx := S.1
  have hb := S.2.1
  have hown := S.2.2.2.1
  have hts := S.2.2.2.2
  have hK := hE.1
  have hl : lv_has ls 2 [(0, .ref (ad 0))] := hl
  refine lv_iconst (v := nI 0) hx hb dX0_image_0 (by decide) ?_
  refine lv_istore_n (lv' := [(1, .int (nI 0)), (0, .ref (ad 0))]) hx hb dX0_image_1 rfl hl (by decide) rfl (fun ls hl => ?_)
  refine lv_iload_n hx hb dX0_image_2 rfl (lv_at hl 0 rfl) ?_
  refine lv_iconst (v := nI 2) hx hb dX0_image_3 (by decide) ?_
  refine tn_ge (tgt := 28) hx hb dX0_image_4 (by decide) (by omega) (by omega) (fun c4 => ?_) (fun c4 => ?_)
  · skip
    exact absurd c4 (by decide)
  · skip
    refine lv_aload_n hx hb dX0_image_7 rfl (lv_at hl 1 rfl) ?_
    refine va_get (v := .ref (ad 36)) hx hb hts in_X0 hown hK hP 0 rfl rfl 14 (by decide) (hts _ q251) (fun _ h => h) rfl dX0_image_8 ?_
    refine lv_iload_n hx hb dX0_image_11 rfl (lv_at hl 0 rfl) ?_
    refine tn_aald hx hb hK hP 20 5 rfl rfl (by omega) (by decide) dX0_image_12 ?_
    refine lv_aload_n hx hb dX0_image_13 rfl (lv_at hl 1 rfl) ?_
    refine va_get (v := .ref (ad 1)) hx hb hts in_X0 hown hK hP 0 rfl rfl 0 (by decide) (hts _ q237) (fun _ h => h) rfl dX0_image_14 ?_
    refine lv_iload_n hx hb dX0_image_17 rfl (lv_at hl 0 rfl) ?_
    refine tn_aald hx hb hK hP 1 5 rfl rfl (by omega) (by decide) dX0_image_18 ?_
    refine ti_mV (As := [.ref (jh 0)]) (rest := []) S hE hP hD hS hA [21, 22, 23, 2, 3, 4] rfl (met_X1_takes l D E (kh 0) (ku 0) (kv 0) (xk.1 0) (xk.2.1 0) (xk.2.2 0) (jh 0) (ju 0) (jv 0) (xi.1 0) (xi.2.1 0) (xi.2.2 0)) rfl (fun _ => rfl) (lw_V q347 q317 q318 q67 q319) 1 rfl 21 rfl rfl (by decide +kernel) ⟨Nat.le_of_ble_eq_true rfl, Nat.le_of_ble_eq_true rfl⟩ hl.1 rfl (Nat.le_of_ble_eq_true rfl) ⟨Nat.le_refl _, Nat.le_refl _⟩ dX0_image_19 (fun _ H locs hu hP hD hS => ?_)
    have hP : va_P D vwCl (ti_wMJSVBKACE E ad dh du dv jh ju jv kh ku kv tx hi xi xs xv xb (ti_j2 (xi.1 0) (xk.1 1), ti_j2 (xi.2.1 0) (xk.2.1 1), ti_j2 (xi.2.2 0) (xk.2.2 1)) ys yv yb) H := ti_asP hP [.inl 0, .inl 1, .inr 3, .inr 4, .inr 5, .inl 5, .inl 6, .inl 7, .inl 8, .inl 9, .inl 10, .inl 11, .inl 12, .inl 13, .inl 14, .inl 15, .inl 16, .inl 17, .inl 18, .inl 19, .inl 20, .inr 0, .inr 1, .inr 2, .inl 24, .inl 25, .inl 26, .inl 27, .inl 28, .inl 29, .inl 30, .inl 31, .inl 32, .inl 33, .inl 34, .inl 35, .inl 36, .inl 37, .inl 38] rfl rfl rfl rfl
    have hD : va_D A (ti_wMJSVBKACE E ad dh du dv jh ju jv kh ku kv tx hi xi xs xv xb (ti_j2 (xi.1 0) (xk.1 1), ti_j2 (xi.2.1 0) (xk.2.1 1), ti_j2 (xi.2.2 0) (xk.2.2 1)) ys yv yb) := ti_asD hD [.inl 0, .inl 1, .inr 3, .inr 4, .inr 5, .inl 5, .inl 6, .inl 7, .inl 8, .inl 9, .inl 10, .inl 11, .inl 12, .inl 13, .inl 14, .inl 15, .inl 16, .inl 17, .inl 18, .inl 19, .inl 20, .inr 0, .inr 1, .inr 2, .inl 24, .inl 25, .inl 26, .inl 27, .inl 28, .inl 29, .inl 30, .inl 31, .inl 32, .inl 33, .inl 34, .inl 35, .inl 36, .inl 37, .inl 38] rfl rfl rfl rfl
    refine W.eq (g2 := F0 m 22 ls []) rfl ?_
    refine lv_iinc (v := nI 1) (lv' := [(1, .int (nI 1)), (0, .ref (ad 0))]) hx hb dX0_image_22 hl (k := 0) rfl (by decide) (by decide) rfl (fun ls hl => ?_)
    refine lv_goto (tgt := 2) hx hb dX0_image_25 (by decide) ?_
    refine lv_iload_n hx hb dX0_image_2 rfl (lv_at hl 0 rfl) ?_
    refine lv_iconst (v := nI 2) hx hb dX0_image_3 (by decide) ?_
    refine tn_ge (tgt := 28) hx hb dX0_image_4 (by decide) (by omega) (by omega) (fun c4 => ?_) (fun c4 => ?_)
    · skip
      exact absurd c4 (by decide)
    · skip
      refine lv_aload_n hx hb dX0_image_7 rfl (lv_at hl 1 rfl) ?_
      refine va_get (v := .ref (ad 36)) hx hb hts in_X0 hown hK hP 0 rfl rfl 14 (by decide) (hts _ q251) (fun _ h => h) rfl dX0_image_8 ?_
      refine lv_iload_n hx hb dX0_image_11 rfl (lv_at hl 0 rfl) ?_
      refine tn_aald hx hb hK hP 20 5 rfl rfl (by omega) (by decide) dX0_image_12 ?_
      refine lv_aload_n hx hb dX0_image_13 rfl (lv_at hl 1 rfl) ?_
      refine va_get (v := .ref (ad 1)) hx hb hts in_X0 hown hK hP 0 rfl rfl 0 (by decide) (hts _ q237) (fun _ h => h) rfl dX0_image_14 ?_
      refine lv_iload_n hx hb dX0_image_17 rfl (lv_at hl 0 rfl) ?_
      refine tn_aald hx hb hK hP 1 5 rfl rfl (by omega) (by decide) dX0_image_18 ?_
      refine ti_mV (As := [.ref (jh 1)]) (rest := []) S hE hP hD hS hA [24, 25, 26, 5, 6, 7] rfl (met_X1_takes l D E (kh 1) (ku 1) (kv 1) (xk.1 1) (xk.2.1 1) (xk.2.2 1) (jh 1) (ju 1) (jv 1) (xi.1 1) (xi.2.1 1) (xi.2.2 1)) rfl (fun _ => rfl) (lw_V q347 q317 q318 q67 q319) 1 rfl 24 rfl rfl (by decide +kernel) ⟨Nat.le_of_ble_eq_true rfl, Nat.le_of_ble_eq_true rfl⟩ hl.1 rfl (Nat.le_of_ble_eq_true rfl) ⟨Nat.le_refl _, Nat.le_refl _⟩ dX0_image_19 (fun _ H locs hu hP hD hS => ?_)
      have hP : va_P D vwCl (ti_wMJSVBKACE E ad dh du dv jh ju jv kh ku kv tx hi xi xs xv xb (ti_j2 (xi.1 0) (xi.1 1), ti_j2 (xi.2.1 0) (xi.2.1 1), ti_j2 (xi.2.2 0) (xi.2.2 1)) ys yv yb) H := ti_asP hP [.inl 0, .inl 1, .inl 2, .inl 3, .inl 4, .inr 3, .inr 4, .inr 5, .inl 8, .inl 9, .inl 10, .inl 11, .inl 12, .inl 13, .inl 14, .inl 15, .inl 16, .inl 17, .inl 18, .inl 19, .inl 20, .inl 21, .inl 22, .inl 23, .inr 0, .inr 1, .inr 2, .inl 27, .inl 28, .inl 29, .inl 30, .inl 31, .inl 32, .inl 33, .inl 34, .inl 35, .inl 36, .inl 37, .inl 38] rfl rfl rfl rfl
      have hD : va_D A (ti_wMJSVBKACE E ad dh du dv jh ju jv kh ku kv tx hi xi xs xv xb (ti_j2 (xi.1 0) (xi.1 1), ti_j2 (xi.2.1 0) (xi.2.1 1), ti_j2 (xi.2.2 0) (xi.2.2 1)) ys yv yb) := ti_asD hD [.inl 0, .inl 1, .inl 2, .inl 3, .inl 4, .inr 3, .inr 4, .inr 5, .inl 8, .inl 9, .inl 10, .inl 11, .inl 12, .inl 13, .inl 14, .inl 15, .inl 16, .inl 17, .inl 18, .inl 19, .inl 20, .inl 21, .inl 22, .inl 23, .inr 0, .inr 1, .inr 2, .inl 27, .inl 28, .inl 29, .inl 30, .inl 31, .inl 32, .inl 33, .inl 34, .inl 35, .inl 36, .inl 37, .inl 38] rfl rfl rfl rfl
      refine W.eq (g2 := F0 m 22 ls []) rfl ?_
      refine lv_iinc (v := nI 2) (lv' := [(1, .int (nI 2)), (0, .ref (ad 0))]) hx hb dX0_image_22 hl (k := 0) rfl (by decide) (by decide) rfl (fun ls hl => ?_)
      refine lv_goto (tgt := 2) hx hb dX0_image_25 (by decide) ?_
      refine lv_iload_n hx hb dX0_image_2 rfl (lv_at hl 0 rfl) ?_
      refine lv_iconst (v := nI 2) hx hb dX0_image_3 (by decide) ?_
      refine tn_ge (tgt := 28) hx hb dX0_image_4 (by decide) (by omega) (by omega) (fun c4 => ?_) (fun c4 => ?_)
      · skip
        refine lv_aload_n hx hb dX0_image_28 rfl (lv_at hl 1 rfl) ?_
        refine va_get (v := .ref (ad 37)) hx hb hts in_X0 hown hK hP 0 rfl rfl 15 (by decide) (hts _ q252) (fun _ h => h) rfl dX0_image_29 ?_
        refine lv_aload_n hx hb dX0_image_32 rfl (lv_at hl 1 rfl) ?_
        refine va_get (v := .ref (ad 23)) hx hb hts in_X0 hown hK hP 0 rfl rfl 10 (by decide) (hts _ q247) (fun _ h => h) rfl dX0_image_33 ?_
        refine ti_mV (As := [.ref (ad 23)]) (rest := []) S hE hP hD hS hA [27, 28, 29, 30, 8, 9, 10, 11] rfl (met_X5_takes l D E 4 (by decide) (ad 37) (ad 38) (ad 39) (ad 40) ys.1 ys.2.1 ys.2.2.1 ys.2.2.2 (ad 23) (ad 24) (ad 25) (ad 26) xs.1 xs.2.1 xs.2.2.1 xs.2.2.2) rfl (fun _ => rfl) (lw_V q974 q975 q976 q71 q977) 1 rfl 27 rfl rfl (by decide +kernel) ⟨Nat.le_of_ble_eq_true rfl, Nat.le_of_ble_eq_true rfl⟩ hl.1 rfl (Nat.le_of_ble_eq_true rfl) ⟨Nat.le_refl _, Nat.le_refl _⟩ dX0_image_36 (fun _ H locs hu hP hD hS => ?_)
        have hP : va_P D vwCl (ti_wMJSVBKACE E ad dh du dv jh ju jv kh ku kv tx hi xi xs xv xb (ti_j2 (xi.1 0) (xi.1 1), ti_j2 (xi.2.1 0) (xi.2.1 1), ti_j2 (xi.2.2 0) (xi.2.2 1)) xs yv yb) H := ti_asP hP [.inl 0, .inl 1, .inl 2, .inl 3, .inl 4, .inl 5, .inl 6, .inl 7, .inr 4, .inr 5, .inr 6, .inr 7, .inl 12, .inl 13, .inl 14, .inl 15, .inl 16, .inl 17, .inl 18, .inl 19, .inl 20, .inl 21, .inl 22, .inl 23, .inl 24, .inl 25, .inl 26, .inr 0, .inr 1, .inr 2, .inr 3, .inl 31, .inl 32, .inl 33, .inl 34, .inl 35, .inl 36, .inl 37, .inl 38] rfl rfl rfl rfl
        have hD : va_D A (ti_wMJSVBKACE E ad dh du dv jh ju jv kh ku kv tx hi xi xs xv xb (ti_j2 (xi.1 0) (xi.1 1), ti_j2 (xi.2.1 0) (xi.2.1 1), ti_j2 (xi.2.2 0) (xi.2.2 1)) xs yv yb) := ti_asD hD [.inl 0, .inl 1, .inl 2, .inl 3, .inl 4, .inl 5, .inl 6, .inl 7, .inr 4, .inr 5, .inr 6, .inr 7, .inl 12, .inl 13, .inl 14, .inl 15, .inl 16, .inl 17, .inl 18, .inl 19, .inl 20, .inl 21, .inl 22, .inl 23, .inl 24, .inl 25, .inl 26, .inr 0, .inr 1, .inr 2, .inr 3, .inl 31, .inl 32, .inl 33, .inl 34, .inl 35, .inl 36, .inl 37, .inl 38] rfl rfl rfl rfl
        refine W.eq (g2 := F0 m 39 ls []) rfl ?_
        refine lv_aload_n hx hb dX0_image_39 rfl (lv_at hl 1 rfl) ?_
        refine va_get (v := .ref (ad 41)) hx hb hts in_X0 hown hK hP 0 rfl rfl 16 (by decide) (hts _ q253) (fun _ h => h) rfl dX0_image_40 ?_
        refine lv_aload_n hx hb dX0_image_43 rfl (lv_at hl 1 rfl) ?_
        refine va_get (v := .ref (ad 27)) hx hb hts in_X0 hown hK hP 0 rfl rfl 11 (by decide) (hts _ q248) (fun _ h => h) rfl dX0_image_44 ?_
        refine ti_mV (As := [.ref (ad 27)]) (rest := []) S hE hP hD hS hA [31, 32, 33, 34, 12, 13, 14, 15] rfl (met_X5_takes l D E 8 (by decide) (ad 41) (ad 42) (ad 43) (ad 44) yv.1 yv.2.1 yv.2.2.1 yv.2.2.2 (ad 27) (ad 28) (ad 29) (ad 30) xv.1 xv.2.1 xv.2.2.1 xv.2.2.2) rfl (fun _ => rfl) (lw_V q974 q975 q976 q71 q977) 1 rfl 31 rfl rfl (by decide +kernel) ⟨Nat.le_of_ble_eq_true rfl, Nat.le_of_ble_eq_true rfl⟩ hl.1 rfl (Nat.le_of_ble_eq_true rfl) ⟨Nat.le_refl _, Nat.le_refl _⟩ dX0_image_47 (fun _ H locs hu hP hD hS => ?_)
        have hP : va_P D vwCl (ti_wMJSVBKACE E ad dh du dv jh ju jv kh ku kv tx hi xi xs xv xb (ti_j2 (xi.1 0) (xi.1 1), ti_j2 (xi.2.1 0) (xi.2.1 1), ti_j2 (xi.2.2 0) (xi.2.2 1)) xs xv yb) H := ti_asP hP [.inl 0, .inl 1, .inl 2, .inl 3, .inl 4, .inl 5, .inl 6, .inl 7, .inl 8, .inl 9, .inl 10, .inl 11, .inr 4, .inr 5, .inr 6, .inr 7, .inl 16, .inl 17, .inl 18, .inl 19, .inl 20, .inl 21, .inl 22, .inl 23, .inl 24, .inl 25, .inl 26, .inl 27, .inl 28, .inl 29, .inl 30, .inr 0, .inr 1, .inr 2, .inr 3, .inl 35, .inl 36, .inl 37, .inl 38] rfl rfl rfl rfl
        have hD : va_D A (ti_wMJSVBKACE E ad dh du dv jh ju jv kh ku kv tx hi xi xs xv xb (ti_j2 (xi.1 0) (xi.1 1), ti_j2 (xi.2.1 0) (xi.2.1 1), ti_j2 (xi.2.2 0) (xi.2.2 1)) xs xv yb) := ti_asD hD [.inl 0, .inl 1, .inl 2, .inl 3, .inl 4, .inl 5, .inl 6, .inl 7, .inl 8, .inl 9, .inl 10, .inl 11, .inr 4, .inr 5, .inr 6, .inr 7, .inl 16, .inl 17, .inl 18, .inl 19, .inl 20, .inl 21, .inl 22, .inl 23, .inl 24, .inl 25, .inl 26, .inl 27, .inl 28, .inl 29, .inl 30, .inr 0, .inr 1, .inr 2, .inr 3, .inl 35, .inl 36, .inl 37, .inl 38] rfl rfl rfl rfl
        refine W.eq (g2 := F0 m 50 ls []) rfl ?_
        refine lv_aload_n hx hb dX0_image_50 rfl (lv_at hl 1 rfl) ?_
        refine va_get (v := .ref (ad 45)) hx hb hts in_X0 hown hK hP 0 rfl rfl 17 (by decide) (hts _ q254) (fun _ h => h) rfl dX0_image_51 ?_
        refine lv_aload_n hx hb dX0_image_54 rfl (lv_at hl 1 rfl) ?_
        refine va_get (v := .ref (ad 31)) hx hb hts in_X0 hown hK hP 0 rfl rfl 12 (by decide) (hts _ q249) (fun _ h => h) rfl dX0_image_55 ?_
        refine ti_mV (As := [.ref (ad 31)]) (rest := []) S hE hP hD hS hA [35, 36, 37, 38, 16, 17, 18, 19] rfl (met_X5_takes l D E 8 (by decide) (ad 45) (ad 46) (ad 47) (ad 48) yb.1 yb.2.1 yb.2.2.1 yb.2.2.2 (ad 31) (ad 32) (ad 33) (ad 34) xb.1 xb.2.1 xb.2.2.1 xb.2.2.2) rfl (fun _ => rfl) (lw_V q974 q975 q976 q71 q977) 1 rfl 35 rfl rfl (by decide +kernel) ⟨Nat.le_of_ble_eq_true rfl, Nat.le_of_ble_eq_true rfl⟩ hl.1 rfl (Nat.le_of_ble_eq_true rfl) ⟨Nat.le_refl _, Nat.le_refl _⟩ dX0_image_58 (fun _ H locs hu hP hD hS => ?_)
        have hP : va_P D vwCl (ti_wMJSVBKACE E ad dh du dv jh ju jv kh ku kv tx hi xi xs xv xb (ti_j2 (xi.1 0) (xi.1 1), ti_j2 (xi.2.1 0) (xi.2.1 1), ti_j2 (xi.2.2 0) (xi.2.2 1)) xs xv xb) H := ti_asP hP [.inl 0, .inl 1, .inl 2, .inl 3, .inl 4, .inl 5, .inl 6, .inl 7, .inl 8, .inl 9, .inl 10, .inl 11, .inl 12, .inl 13, .inl 14, .inl 15, .inr 4, .inr 5, .inr 6, .inr 7, .inl 20, .inl 21, .inl 22, .inl 23, .inl 24, .inl 25, .inl 26, .inl 27, .inl 28, .inl 29, .inl 30, .inl 31, .inl 32, .inl 33, .inl 34, .inr 0, .inr 1, .inr 2, .inr 3] rfl rfl rfl rfl
        have hD : va_D A (ti_wMJSVBKACE E ad dh du dv jh ju jv kh ku kv tx hi xi xs xv xb (ti_j2 (xi.1 0) (xi.1 1), ti_j2 (xi.2.1 0) (xi.2.1 1), ti_j2 (xi.2.2 0) (xi.2.2 1)) xs xv xb) := ti_asD hD [.inl 0, .inl 1, .inl 2, .inl 3, .inl 4, .inl 5, .inl 6, .inl 7, .inl 8, .inl 9, .inl 10, .inl 11, .inl 12, .inl 13, .inl 14, .inl 15, .inr 4, .inr 5, .inr 6, .inr 7, .inl 20, .inl 21, .inl 22, .inl 23, .inl 24, .inl 25, .inl 26, .inl 27, .inl 28, .inl 29, .inl 30, .inl 31, .inl 32, .inl 33, .inl 34, .inr 0, .inr 1, .inr 2, .inr 3] rfl rfl rfl rfl
        refine W.eq (g2 := F0 m 61 ls []) rfl ?_
        refine lv_aload_n hx hb dX0_image_61 rfl (lv_at hl 1 rfl) ?_
        refine lv_iconst (v := nI 1) hx hb dX0_image_62 (by decide) ?_
        refine va_put (ty := .boolean) hx hb hts in_X0 tyX0 tyX0_ok nmX0 hown hK hP hD hS 0 rfl rfl 18 (by decide) (hts _ q255) (fun _ h => h) rfl rfl rfl rfl (Nat.le_of_ble_eq_true rfl) dX0_image_63 (fun H locs hP hD hS => ?_)
        have hP : va_P D vwCl (ti_wMJSVBKACE E ad dh du dv jh ju jv kh ku kv tx true xi xs xv xb (ti_j2 (xi.1 0) (xi.1 1), ti_j2 (xi.2.1 0) (xi.2.1 1), ti_j2 (xi.2.2 0) (xi.2.2 1)) xs xv xb) H := hP
        have hD : va_D A (ti_wMJSVBKACE E ad dh du dv jh ju jv kh ku kv tx true xi xs xv xb (ti_j2 (xi.1 0) (xi.1 1), ti_j2 (xi.2.1 0) (xi.2.1 1), ti_j2 (xi.2.2 0) (xi.2.2 1)) xs xv xb) := hD
        refine lv_aload_n hx hb dX0_image_66 rfl (lv_at hl 1 rfl) ?_
        refine ti_pV (As := []) (rest := []) (v := .int (ti_both I)) S hE hP [0, 1, 2, 3, 4, 5, 6, 7] (met_X0_both l D E ad dh du dv jh ju jv kh ku kv tx true xi hxi I hJ) rfl (lw_V q979 q981 qs22 q66 q982) 0 rfl 0 rfl rfl (by decide +kernel) ⟨Nat.le_of_ble_eq_true rfl, Nat.le_of_ble_eq_true rfl⟩ hl.1 rfl (Nat.le_of_ble_eq_true rfl) ⟨Nat.le_refl _, Nat.le_refl _⟩ dX0_image_67 ?_
        exact hret ((true, (ti_j2 (xi.1 0) (xi.1 1), ti_j2 (xi.2.1 0) (xi.2.1 1), ti_j2 (xi.2.2 0) (xi.2.2 1)), xs, xv, xb)) _ _ _ _ _ _ _ dX0_image_70 (rfl) (⟨rfl, ⟨ti_JI2 (hJ 0 (by decide)) (hJ 1 (by decide)), ti_Jok2 (hxi.1 0) (hxi.1 1) (hxi.2.1 0) (hxi.2.1 1) (hxi.2.2 0) (hxi.2.2 1)⟩, ⟨hSN, hxs⟩, ⟨hEV, hxv⟩, ⟨hBK, hxb⟩⟩) hP hS (Nat.le_refl _) (Nat.le_refl _)
      · skip
        exact absurd c4 (by decide)

set_option maxHeartbeats 1000000 in
theorem met_X0_undo (l : Launch) (D : va_G) (E : Nat → ClassId) (ad dh du dv jh ju jv kh ku kv : Nat → Nat) (tx : Nat) (hi : Bool) (xi : ti_Ti) (xd : ti_Td) (xs : ti_Tw) (xv : ti_Tw) (xb : ti_Tw) (xk : ti_Ti) (ys : ti_Tw) (yv : ti_Tw) (yb : ti_Tw) (hxi : ti_Jok xi) (I : Nat → ti_GL) (hJ : ti_JI xi I) (hxd : ti_Dok xd) (DD : ti_DL) (hDD : ti_Dl xd = DD) (hxs : ti_Wok 4 xs) (SN : List (Nat × Nat × Nat)) (hSN : ti_Wl3 xs = SN) (hxv : ti_Wok 8 xv) (EV : ti_GL) (hEV : ti_Wl2 xv = EV) (hxb : ti_Wok 8 xb) (BK : ti_GL) (hBK : ti_Wl2 xb = BK) (K : ti_KP) (hK9 : ti_TK hi xk ys yv yb K) : ti_MetM (σ := ti_Ti × Nat × ti_Tw × ti_Tw × ti_Tw) l D E yX0_undo cX0_undo 2 (some .int) 2 0 0 (ti_wMJdSVBKACE E ad dh du dv jh ju jv kh ku kv tx hi xi xd xs xv xb xk ys yv yb) [.ref (ad 0)] (fun u => ti_wMJdSVBKACE E ad dh du dv jh ju jv kh ku kv tx hi u.1 (xd.1, xd.2.1, u.2.1, xd.2.2.2.1, xd.2.2.2.2.1, xd.2.2.2.2.2) u.2.2.1 u.2.2.2.1 u.2.2.2.2 xk ys yv yb) (fun u => some (.int ((fun _ => (ti_Sundo I DD SN EV BK K).1) u))) (fun u => ti_JI u.1 (ti_Sundo I DD SN EV BK K).2.1 ∧ ti_Jok u.1 ∧ (∀ D9 : ti_Td, D9 = (xd.1, xd.2.1, u.2.1, xd.2.2.2.1, xd.2.2.2.2.1, xd.2.2.2.2.2) → ti_Dl D9 = (ti_Sundo I DD SN EV BK K).2.2.1 ∧ ti_Dok D9) ∧ (ti_Wl3 u.2.2.1 = (ti_Sundo I DD SN EV BK K).2.2.2.1 ∧ ti_Wok 4 u.2.2.1) ∧ (ti_Wl2 u.2.2.2.1 = (ti_Sundo I DD SN EV BK K).2.2.2.2.1 ∧ ti_Wok 8 u.2.2.2.1) ∧ (ti_Wl2 u.2.2.2.2 = (ti_Sundo I DD SN EV BK K).2.2.2.2.2 ∧ ti_Wok 8 u.2.2.2.2)) := by
  refine ti_mutI (σ := ti_Ti × Nat × ti_Tw × ti_Tw × ti_Tw) (vi := fun _ => (ti_Sundo I DD SN EV BK K).1) (by decide) (Nat.le_of_ble_eq_true rfl) ?_
  intro p e s m below meth c H H0 A Q ls S hE hP hD hS hA hinit hl hret
  have hx := S.1
  have hb := S.2.1
  have hown := S.2.2.2.1
  have hts := S.2.2.2.2
  have hK := hE.1
  have hl : lv_has ls 2 [(0, .ref (ad 0))] := hl
  refine lv_aload_n hx hb dX0_undo_0 rfl (lv_at hl 0 rfl) ?_
  refine va_get (v := .int (ti_b hi)) hx hb hts in_X0 hown hK hP 0 rfl rfl 18 (by decide) (hts _ q255) (fun _ h => h) rfl dX0_undo_1 ?_
  refine tb_ne (tgt := 10) hx hb dX0_undo_4 (by decide) (fun c4 => ?_) (fun c4 => ?_)
  · skip
    obtain ⟨q9, hK0⟩ : ∃ q9, K = some q9 := by
      cases K with
      | none => exact absurd (c4.symm.trans (show hi = false from hK9)) (by decide)
      | some q => exact ⟨q, rfl⟩
    subst hK0
    obtain ⟨I', SN', EV', BK'⟩ := q9
    obtain ⟨hK1, hK2, hK3, hK4, hK5⟩ := hK9
    refine lv_iconst (v := nI 0) hx hb dX0_undo_10 (by decide) ?_
    refine lv_istore_n (lv' := [(1, .int (nI 0)), (0, .ref (ad 0))]) hx hb dX0_undo_11 rfl hl (by decide) rfl (fun ls hl => ?_)
    refine lv_iload_n hx hb dX0_undo_12 rfl (lv_at hl 0 rfl) ?_
    refine lv_iconst (v := nI 2) hx hb dX0_undo_13 (by decide) ?_
    refine tn_ge (tgt := 38) hx hb dX0_undo_14 (by decide) (by omega) (by omega) (fun c14 => ?_) (fun c14 => ?_)
    · skip
      exact absurd c14 (by decide)
    · skip
      refine lv_aload_n hx hb dX0_undo_17 rfl (lv_at hl 1 rfl) ?_
      refine va_get (v := .ref (ad 1)) hx hb hts in_X0 hown hK hP 0 rfl rfl 0 (by decide) (hts _ q237) (fun _ h => h) rfl dX0_undo_18 ?_
      refine lv_iload_n hx hb dX0_undo_21 rfl (lv_at hl 0 rfl) ?_
      refine tn_aald hx hb hK hP 1 5 rfl rfl (by omega) (by decide) dX0_undo_22 ?_
      refine lv_aload_n hx hb dX0_undo_23 rfl (lv_at hl 1 rfl) ?_
      refine va_get (v := .ref (ad 36)) hx hb hts in_X0 hown hK hP 0 rfl rfl 14 (by decide) (hts _ q251) (fun _ h => h) rfl dX0_undo_24 ?_
      refine lv_iload_n hx hb dX0_undo_27 rfl (lv_at hl 0 rfl) ?_
      refine tn_aald hx hb hK hP 21 5 rfl rfl (by omega) (by decide) dX0_undo_28 ?_
      refine ti_mV (As := [.ref (kh 0)]) (rest := []) S hE hP hD hS hA [2, 3, 4, 22, 23, 24] rfl (met_X1_takes l D E (jh 0) (ju 0) (jv 0) (xi.1 0) (xi.2.1 0) (xi.2.2 0) (kh 0) (ku 0) (kv 0) (xk.1 0) (xk.2.1 0) (xk.2.2 0)) rfl (fun _ => rfl) (lw_V q347 q317 q318 q67 q319) 1 rfl 2 rfl rfl (by decide +kernel) ⟨Nat.le_of_ble_eq_true rfl, Nat.le_of_ble_eq_true rfl⟩ hl.1 rfl (Nat.le_of_ble_eq_true rfl) ⟨Nat.le_refl _, Nat.le_refl _⟩ dX0_undo_29 (fun _ H locs hu hP hD hS => ?_)
      have hP : va_P D vwCl (ti_wMJdSVBKACE E ad dh du dv jh ju jv kh ku kv tx hi (ti_j2 (xk.1 0) (xi.1 1), ti_j2 (xk.2.1 0) (xi.2.1 1), ti_j2 (xk.2.2 0) (xi.2.2 1)) xd xs xv xb xk ys yv yb) H := ti_asP hP [.inl 0, .inl 1, .inr 0, .inr 1, .inr 2, .inl 5, .inl 6, .inl 7, .inl 8, .inl 9, .inl 10, .inl 11, .inl 12, .inl 13, .inl 14, .inl 15, .inl 16, .inl 17, .inl 18, .inl 19, .inl 20, .inl 21, .inr 3, .inr 4, .inr 5, .inl 25, .inl 26, .inl 27, .inl 28, .inl 29, .inl 30, .inl 31, .inl 32, .inl 33, .inl 34, .inl 35, .inl 36, .inl 37, .inl 38, .inl 39] rfl rfl rfl rfl
      have hD : va_D A (ti_wMJdSVBKACE E ad dh du dv jh ju jv kh ku kv tx hi (ti_j2 (xk.1 0) (xi.1 1), ti_j2 (xk.2.1 0) (xi.2.1 1), ti_j2 (xk.2.2 0) (xi.2.2 1)) xd xs xv xb xk ys yv yb) := ti_asD hD [.inl 0, .inl 1, .inr 0, .inr 1, .inr 2, .inl 5, .inl 6, .inl 7, .inl 8, .inl 9, .inl 10, .inl 11, .inl 12, .inl 13, .inl 14, .inl 15, .inl 16, .inl 17, .inl 18, .inl 19, .inl 20, .inl 21, .inr 3, .inr 4, .inr 5, .inl 25, .inl 26, .inl 27, .inl 28, .inl 29, .inl 30, .inl 31, .inl 32, .inl 33, .inl 34, .inl 35, .inl 36, .inl 37, .inl 38, .inl 39] rfl rfl rfl rfl
      refine W.eq (g2 := F0 m 32 ls []) rfl ?_
      refine lv_iinc (v := nI 1) (lv' := [(1, .int (nI 1)), (0, .ref (ad 0))]) hx hb dX0_undo_32 hl (k := 0) rfl (by decide) (by decide) rfl (fun ls hl => ?_)
      refine lv_goto (tgt := 12) hx hb dX0_undo_35 (by decide) ?_
      refine lv_iload_n hx hb dX0_undo_12 rfl (lv_at hl 0 rfl) ?_
      refine lv_iconst (v := nI 2) hx hb dX0_undo_13 (by decide) ?_
      refine tn_ge (tgt := 38) hx hb dX0_undo_14 (by decide) (by omega) (by omega) (fun c14 => ?_) (fun c14 => ?_)
      · skip
        exact absurd c14 (by decide)
      · skip
        refine lv_aload_n hx hb dX0_undo_17 rfl (lv_at hl 1 rfl) ?_
        refine va_get (v := .ref (ad 1)) hx hb hts in_X0 hown hK hP 0 rfl rfl 0 (by decide) (hts _ q237) (fun _ h => h) rfl dX0_undo_18 ?_
        refine lv_iload_n hx hb dX0_undo_21 rfl (lv_at hl 0 rfl) ?_
        refine tn_aald hx hb hK hP 1 5 rfl rfl (by omega) (by decide) dX0_undo_22 ?_
        refine lv_aload_n hx hb dX0_undo_23 rfl (lv_at hl 1 rfl) ?_
        refine va_get (v := .ref (ad 36)) hx hb hts in_X0 hown hK hP 0 rfl rfl 14 (by decide) (hts _ q251) (fun _ h => h) rfl dX0_undo_24 ?_
        refine lv_iload_n hx hb dX0_undo_27 rfl (lv_at hl 0 rfl) ?_
        refine tn_aald hx hb hK hP 21 5 rfl rfl (by omega) (by decide) dX0_undo_28 ?_
        refine ti_mV (As := [.ref (kh 1)]) (rest := []) S hE hP hD hS hA [5, 6, 7, 25, 26, 27] rfl (met_X1_takes l D E (jh 1) (ju 1) (jv 1) (xi.1 1) (xi.2.1 1) (xi.2.2 1) (kh 1) (ku 1) (kv 1) (xk.1 1) (xk.2.1 1) (xk.2.2 1)) rfl (fun _ => rfl) (lw_V q347 q317 q318 q67 q319) 1 rfl 5 rfl rfl (by decide +kernel) ⟨Nat.le_of_ble_eq_true rfl, Nat.le_of_ble_eq_true rfl⟩ hl.1 rfl (Nat.le_of_ble_eq_true rfl) ⟨Nat.le_refl _, Nat.le_refl _⟩ dX0_undo_29 (fun _ H locs hu hP hD hS => ?_)
        have hP : va_P D vwCl (ti_wMJdSVBKACE E ad dh du dv jh ju jv kh ku kv tx hi (ti_j2 (xk.1 0) (xk.1 1), ti_j2 (xk.2.1 0) (xk.2.1 1), ti_j2 (xk.2.2 0) (xk.2.2 1)) xd xs xv xb xk ys yv yb) H := ti_asP hP [.inl 0, .inl 1, .inl 2, .inl 3, .inl 4, .inr 0, .inr 1, .inr 2, .inl 8, .inl 9, .inl 10, .inl 11, .inl 12, .inl 13, .inl 14, .inl 15, .inl 16, .inl 17, .inl 18, .inl 19, .inl 20, .inl 21, .inl 22, .inl 23, .inl 24, .inr 3, .inr 4, .inr 5, .inl 28, .inl 29, .inl 30, .inl 31, .inl 32, .inl 33, .inl 34, .inl 35, .inl 36, .inl 37, .inl 38, .inl 39] rfl rfl rfl rfl
        have hD : va_D A (ti_wMJdSVBKACE E ad dh du dv jh ju jv kh ku kv tx hi (ti_j2 (xk.1 0) (xk.1 1), ti_j2 (xk.2.1 0) (xk.2.1 1), ti_j2 (xk.2.2 0) (xk.2.2 1)) xd xs xv xb xk ys yv yb) := ti_asD hD [.inl 0, .inl 1, .inl 2, .inl 3, .inl 4, .inr 0, .inr 1, .inr 2, .inl 8, .inl 9, .inl 10, .inl 11, .inl 12, .inl 13, .inl 14, .inl 15, .inl 16, .inl 17, .inl 18, .inl 19, .inl 20, .inl 21, .inl 22, .inl 23, .inl 24, .inr 3, .inr 4, .inr 5, .inl 28, .inl 29, .inl 30, .inl 31, .inl 32, .inl 33, .inl 34, .inl 35, .inl 36, .inl 37, .inl 38, .inl 39] rfl rfl rfl rfl
        refine W.eq (g2 := F0 m 32 ls []) rfl ?_
        refine lv_iinc (v := nI 2) (lv' := [(1, .int (nI 2)), (0, .ref (ad 0))]) hx hb dX0_undo_32 hl (k := 0) rfl (by decide) (by decide) rfl (fun ls hl => ?_)
        refine lv_goto (tgt := 12) hx hb dX0_undo_35 (by decide) ?_
        refine lv_iload_n hx hb dX0_undo_12 rfl (lv_at hl 0 rfl) ?_
        refine lv_iconst (v := nI 2) hx hb dX0_undo_13 (by decide) ?_
        refine tn_ge (tgt := 38) hx hb dX0_undo_14 (by decide) (by omega) (by omega) (fun c14 => ?_) (fun c14 => ?_)
        · skip
          refine lv_aload_n hx hb dX0_undo_38 rfl (lv_at hl 1 rfl) ?_
          refine va_get (v := .ref (ad 11)) hx hb hts in_X0 hown hK hP 0 rfl rfl 3 (by decide) (hts _ q240) (fun _ h => h) rfl dX0_undo_39 ?_
          refine lv_iconst (v := nI 0) hx hb dX0_undo_42 (by decide) ?_
          refine va_putN (ty := .int) hx hb hts in_X3 tyX3 tyX3_ok nmX3 hown hK hP hD hS 8 rfl rfl 2 (by decide) (hE.use q182 rfl rfl) (fun _ h => h) rfl rfl rfl rfl (Nat.le_of_ble_eq_true rfl) dX0_undo_43 (fun H locs hP hD hS => ?_)
          have hP : va_P D vwCl (ti_wMJdSVBKACE E ad dh du dv jh ju jv kh ku kv tx hi (ti_j2 (xk.1 0) (xk.1 1), ti_j2 (xk.2.1 0) (xk.2.1 1), ti_j2 (xk.2.2 0) (xk.2.2 1)) (xd.1, xd.2.1, 0, xd.2.2.2.1, xd.2.2.2.2.1, xd.2.2.2.2.2) xs xv xb xk ys yv yb) H := hP
          have hD : va_D A (ti_wMJdSVBKACE E ad dh du dv jh ju jv kh ku kv tx hi (ti_j2 (xk.1 0) (xk.1 1), ti_j2 (xk.2.1 0) (xk.2.1 1), ti_j2 (xk.2.2 0) (xk.2.2 1)) (xd.1, xd.2.1, 0, xd.2.2.2.1, xd.2.2.2.2.1, xd.2.2.2.2.2) xs xv xb xk ys yv yb) := hD
          refine lv_aload_n hx hb dX0_undo_46 rfl (lv_at hl 1 rfl) ?_
          refine va_get (v := .ref (ad 23)) hx hb hts in_X0 hown hK hP 0 rfl rfl 10 (by decide) (hts _ q247) (fun _ h => h) rfl dX0_undo_47 ?_
          refine lv_aload_n hx hb dX0_undo_50 rfl (lv_at hl 1 rfl) ?_
          refine va_get (v := .ref (ad 37)) hx hb hts in_X0 hown hK hP 0 rfl rfl 15 (by decide) (hts _ q252) (fun _ h => h) rfl dX0_undo_51 ?_
          refine ti_mV (As := [.ref (ad 37)]) (rest := []) S hE hP hD hS hA [9, 10, 11, 12, 28, 29, 30, 31] rfl (met_X5_takes l D E 4 (by decide) (ad 23) (ad 24) (ad 25) (ad 26) xs.1 xs.2.1 xs.2.2.1 xs.2.2.2 (ad 37) (ad 38) (ad 39) (ad 40) ys.1 ys.2.1 ys.2.2.1 ys.2.2.2) rfl (fun _ => rfl) (lw_V q974 q975 q976 q71 q977) 1 rfl 9 rfl rfl (by decide +kernel) ⟨Nat.le_of_ble_eq_true rfl, Nat.le_of_ble_eq_true rfl⟩ hl.1 rfl (Nat.le_of_ble_eq_true rfl) ⟨Nat.le_refl _, Nat.le_refl _⟩ dX0_undo_54 (fun _ H locs hu hP hD hS => ?_)
          have hP : va_P D vwCl (ti_wMJdSVBKACE E ad dh du dv jh ju jv kh ku kv tx hi (ti_j2 (xk.1 0) (xk.1 1), ti_j2 (xk.2.1 0) (xk.2.1 1), ti_j2 (xk.2.2 0) (xk.2.2 1)) (xd.1, xd.2.1, 0, xd.2.2.2.1, xd.2.2.2.2.1, xd.2.2.2.2.2) ys xv xb xk ys yv yb) H := ti_asP hP [.inl 0, .inl 1, .inl 2, .inl 3, .inl 4, .inl 5, .inl 6, .inl 7, .inl 8, .inr 0, .inr 1, .inr 2, .inr 3, .inl 13, .inl 14, .inl 15, .inl 16, .inl 17, .inl 18, .inl 19, .inl 20, .inl 21, .inl 22, .inl 23, .inl 24, .inl 25, .inl 26, .inl 27, .inr 4, .inr 5, .inr 6, .inr 7, .inl 32, .inl 33, .inl 34, .inl 35, .inl 36, .inl 37, .inl 38, .inl 39] rfl rfl rfl rfl
          have hD : va_D A (ti_wMJdSVBKACE E ad dh du dv jh ju jv kh ku kv tx hi (ti_j2 (xk.1 0) (xk.1 1), ti_j2 (xk.2.1 0) (xk.2.1 1), ti_j2 (xk.2.2 0) (xk.2.2 1)) (xd.1, xd.2.1, 0, xd.2.2.2.1, xd.2.2.2.2.1, xd.2.2.2.2.2) ys xv xb xk ys yv yb) := ti_asD hD [.inl 0, .inl 1, .inl 2, .inl 3, .inl 4, .inl 5, .inl 6, .inl 7, .inl 8, .inr 0, .inr 1, .inr 2, .inr 3, .inl 13, .inl 14, .inl 15, .inl 16, .inl 17, .inl 18, .inl 19, .inl 20, .inl 21, .inl 22, .inl 23, .inl 24, .inl 25, .inl 26, .inl 27, .inr 4, .inr 5, .inr 6, .inr 7, .inl 32, .inl 33, .inl 34, .inl 35, .inl 36, .inl 37, .inl 38, .inl 39] rfl rfl rfl rfl
          refine W.eq (g2 := F0 m 57 ls []) rfl ?_
          refine lv_aload_n hx hb dX0_undo_57 rfl (lv_at hl 1 rfl) ?_
          refine va_get (v := .ref (ad 27)) hx hb hts in_X0 hown hK hP 0 rfl rfl 11 (by decide) (hts _ q248) (fun _ h => h) rfl dX0_undo_58 ?_
          refine lv_aload_n hx hb dX0_undo_61 rfl (lv_at hl 1 rfl) ?_
          refine va_get (v := .ref (ad 41)) hx hb hts in_X0 hown hK hP 0 rfl rfl 16 (by decide) (hts _ q253) (fun _ h => h) rfl dX0_undo_62 ?_
          refine ti_mV (As := [.ref (ad 41)]) (rest := []) S hE hP hD hS hA [13, 14, 15, 16, 32, 33, 34, 35] rfl (met_X5_takes l D E 8 (by decide) (ad 27) (ad 28) (ad 29) (ad 30) xv.1 xv.2.1 xv.2.2.1 xv.2.2.2 (ad 41) (ad 42) (ad 43) (ad 44) yv.1 yv.2.1 yv.2.2.1 yv.2.2.2) rfl (fun _ => rfl) (lw_V q974 q975 q976 q71 q977) 1 rfl 13 rfl rfl (by decide +kernel) ⟨Nat.le_of_ble_eq_true rfl, Nat.le_of_ble_eq_true rfl⟩ hl.1 rfl (Nat.le_of_ble_eq_true rfl) ⟨Nat.le_refl _, Nat.le_refl _⟩ dX0_undo_65 (fun _ H locs hu hP hD hS => ?_)
          have hP : va_P D vwCl (ti_wMJdSVBKACE E ad dh du dv jh ju jv kh ku kv tx hi (ti_j2 (xk.1 0) (xk.1 1), ti_j2 (xk.2.1 0) (xk.2.1 1), ti_j2 (xk.2.2 0) (xk.2.2 1)) (xd.1, xd.2.1, 0, xd.2.2.2.1, xd.2.2.2.2.1, xd.2.2.2.2.2) ys yv xb xk ys yv yb) H := ti_asP hP [.inl 0, .inl 1, .inl 2, .inl 3, .inl 4, .inl 5, .inl 6, .inl 7, .inl 8, .inl 9, .inl 10, .inl 11, .inl 12, .inr 0, .inr 1, .inr 2, .inr 3, .inl 17, .inl 18, .inl 19, .inl 20, .inl 21, .inl 22, .inl 23, .inl 24, .inl 25, .inl 26, .inl 27, .inl 28, .inl 29, .inl 30, .inl 31, .inr 4, .inr 5, .inr 6, .inr 7, .inl 36, .inl 37, .inl 38, .inl 39] rfl rfl rfl rfl
          have hD : va_D A (ti_wMJdSVBKACE E ad dh du dv jh ju jv kh ku kv tx hi (ti_j2 (xk.1 0) (xk.1 1), ti_j2 (xk.2.1 0) (xk.2.1 1), ti_j2 (xk.2.2 0) (xk.2.2 1)) (xd.1, xd.2.1, 0, xd.2.2.2.1, xd.2.2.2.2.1, xd.2.2.2.2.2) ys yv xb xk ys yv yb) := ti_asD hD [.inl 0, .inl 1, .inl 2, .inl 3, .inl 4, .inl 5, .inl 6, .inl 7, .inl 8, .inl 9, .inl 10, .inl 11, .inl 12, .inr 0, .inr 1, .inr 2, .inr 3, .inl 17, .inl 18, .inl 19, .inl 20, .inl 21, .inl 22, .inl 23, .inl 24, .inl 25, .inl 26, .inl 27, .inl 28, .inl 29, .inl 30, .inl 31, .inr 4, .inr 5, .inr 6, .inr 7, .inl 36, .inl 37, .inl 38, .inl 39] rfl rfl rfl rfl
          refine W.eq (g2 := F0 m 68 ls []) rfl ?_
          refine lv_aload_n hx hb dX0_undo_68 rfl (lv_at hl 1 rfl) ?_
          refine va_get (v := .ref (ad 31)) hx hb hts in_X0 hown hK hP 0 rfl rfl 12 (by decide) (hts _ q249) (fun _ h => h) rfl dX0_undo_69 ?_
          refine lv_aload_n hx hb dX0_undo_72 rfl (lv_at hl 1 rfl) ?_
          refine va_get (v := .ref (ad 45)) hx hb hts in_X0 hown hK hP 0 rfl rfl 17 (by decide) (hts _ q254) (fun _ h => h) rfl dX0_undo_73 ?_
          refine ti_mV (As := [.ref (ad 45)]) (rest := []) S hE hP hD hS hA [17, 18, 19, 20, 36, 37, 38, 39] rfl (met_X5_takes l D E 8 (by decide) (ad 31) (ad 32) (ad 33) (ad 34) xb.1 xb.2.1 xb.2.2.1 xb.2.2.2 (ad 45) (ad 46) (ad 47) (ad 48) yb.1 yb.2.1 yb.2.2.1 yb.2.2.2) rfl (fun _ => rfl) (lw_V q974 q975 q976 q71 q977) 1 rfl 17 rfl rfl (by decide +kernel) ⟨Nat.le_of_ble_eq_true rfl, Nat.le_of_ble_eq_true rfl⟩ hl.1 rfl (Nat.le_of_ble_eq_true rfl) ⟨Nat.le_refl _, Nat.le_refl _⟩ dX0_undo_76 (fun _ H locs hu hP hD hS => ?_)
          have hP : va_P D vwCl (ti_wMJdSVBKACE E ad dh du dv jh ju jv kh ku kv tx hi (ti_j2 (xk.1 0) (xk.1 1), ti_j2 (xk.2.1 0) (xk.2.1 1), ti_j2 (xk.2.2 0) (xk.2.2 1)) (xd.1, xd.2.1, 0, xd.2.2.2.1, xd.2.2.2.2.1, xd.2.2.2.2.2) ys yv yb xk ys yv yb) H := ti_asP hP [.inl 0, .inl 1, .inl 2, .inl 3, .inl 4, .inl 5, .inl 6, .inl 7, .inl 8, .inl 9, .inl 10, .inl 11, .inl 12, .inl 13, .inl 14, .inl 15, .inl 16, .inr 0, .inr 1, .inr 2, .inr 3, .inl 21, .inl 22, .inl 23, .inl 24, .inl 25, .inl 26, .inl 27, .inl 28, .inl 29, .inl 30, .inl 31, .inl 32, .inl 33, .inl 34, .inl 35, .inr 4, .inr 5, .inr 6, .inr 7] rfl rfl rfl rfl
          have hD : va_D A (ti_wMJdSVBKACE E ad dh du dv jh ju jv kh ku kv tx hi (ti_j2 (xk.1 0) (xk.1 1), ti_j2 (xk.2.1 0) (xk.2.1 1), ti_j2 (xk.2.2 0) (xk.2.2 1)) (xd.1, xd.2.1, 0, xd.2.2.2.1, xd.2.2.2.2.1, xd.2.2.2.2.2) ys yv yb xk ys yv yb) := ti_asD hD [.inl 0, .inl 1, .inl 2, .inl 3, .inl 4, .inl 5, .inl 6, .inl 7, .inl 8, .inl 9, .inl 10, .inl 11, .inl 12, .inl 13, .inl 14, .inl 15, .inl 16, .inr 0, .inr 1, .inr 2, .inr 3, .inl 21, .inl 22, .inl 23, .inl 24, .inl 25, .inl 26, .inl 27, .inl 28, .inl 29, .inl 30, .inl 31, .inl 32, .inl 33, .inl 34, .inl 35, .inr 4, .inr 5, .inr 6, .inr 7] rfl rfl rfl rfl
          refine W.eq (g2 := F0 m 79 ls []) rfl ?_
          refine lv_aload_n hx hb dX0_undo_79 rfl (lv_at hl 1 rfl) ?_
          refine ti_pV (As := []) (rest := []) (v := .int (ti_both I')) S hE hP [0, 1, 2, 3, 4, 5, 6, 7] (met_X0_both l D E ad dh du dv jh ju jv kh ku kv tx hi (ti_j2 (xk.1 0) (xk.1 1), ti_j2 (xk.2.1 0) (xk.2.1 1), ti_j2 (xk.2.2 0) (xk.2.2 1)) (ti_Jok2 (hK2.2.1 0) (hK2.2.1 1) (hK2.2.2.1 0) (hK2.2.2.1 1) (hK2.2.2.2 0) (hK2.2.2.2 1)) I' (ti_JI2 (hK2.1 0 (by decide)) (hK2.1 1 (by decide)))) rfl (lw_V q979 q981 qs22 q66 q982) 0 rfl 0 rfl rfl (by decide +kernel) ⟨Nat.le_of_ble_eq_true rfl, Nat.le_of_ble_eq_true rfl⟩ hl.1 rfl (Nat.le_of_ble_eq_true rfl) ⟨Nat.le_refl _, Nat.le_refl _⟩ dX0_undo_80 ?_
          exact hret (((ti_j2 (xk.1 0) (xk.1 1), ti_j2 (xk.2.1 0) (xk.2.1 1), ti_j2 (xk.2.2 0) (xk.2.2 1)), 0, ys, yv, yb)) _ _ _ _ _ _ _ dX0_undo_83 (rfl) (⟨ti_JI2 (hK2.1 0 (by decide)) (hK2.1 1 (by decide)), ti_Jok2 (hK2.2.1 0) (hK2.2.1 1) (hK2.2.2.1 0) (hK2.2.2.1 1) (hK2.2.2.2 0) (hK2.2.2.2 1), fun D9 h9 => by subst h9; exact ⟨rfl, ⟨Nat.zero_le _, hxd.2⟩⟩, hK3, hK4, hK5⟩) hP hS (Nat.le_refl _) (Nat.le_refl _)
        · skip
          exact absurd c14 (by decide)
  · skip
    have hK0 : K = none := by
      cases K with
      | none => rfl
      | some q => exact absurd (hK9.1.symm.trans c4) (by decide)
    subst hK0
    refine lv_bipush (v := (-3)) hx hb dX0_undo_7 (by decide) ?_
    exact hret (xi, xd.2.2.1, xs, xv, xb) _ _ _ _ _ _ _ dX0_undo_9 (rfl) (⟨hJ, hxi, fun D9 h9 => by subst h9; exact ⟨hDD, hxd⟩, ⟨hSN, hxs⟩, ⟨hEV, hxv⟩, ⟨hBK, hxb⟩⟩) hP hS (Nat.le_refl _) (Nat.le_refl _)
