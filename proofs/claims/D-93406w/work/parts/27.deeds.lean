/-! TermIdeals$Deeds (printed by w_deeds.py) -/
set_option maxRecDepth 100000

set_option maxHeartbeats 1000000 in
theorem met_X3_keeps (l : Launch) (D : va_G) (E : Nat → ClassId) (d0 d1 d2 : Nat) (hI uI vI : Nat → Nat) (pm wh : Nat → Nat) (many : Nat) (FA FB : Nat → Nat → Nat) (NN : Nat → Nat) (h ua ub : Nat) (fa fb : Nat → Nat) (n : Nat) (w : Nat) (hI0 : ti_DI pm wh many FA FB NN) (hfa : ∀ j, fa j ≤ 9) (hfb : ∀ j, fb j ≤ 9) (hn : n ≤ 6) (hw : w ≤ 1) : ti_MetM (σ := (Nat → Nat) × (Nat → Nat) × Nat × (Nat → Nat → Nat) × (Nat → Nat → Nat) × (Nat → Nat)) l D E yX3_keeps cX3_keeps 5 none 2 0 0 (ti_wD E d0 d1 d2 hI uI vI pm wh many FA FB NN ++ ti_wI E h ua ub fa fb n) [.ref d0, .int (nI w), .ref h] (fun u => ti_wD E d0 d1 d2 hI uI vI u.1 u.2.1 u.2.2.1 u.2.2.2.1 u.2.2.2.2.1 u.2.2.2.2.2 ++ ti_wI E h ua ub fa fb n) (fun _ => none) (fun u => ti_dl u.2.1 u.1 u.2.2.2.1 u.2.2.2.2.1 u.2.2.2.2.2 0 u.2.2.1 = ti_keep (w, ti_gr fa fb 0 n) (ti_dl wh pm FA FB NN 0 many) ∧ ti_DI u.1 u.2.1 u.2.2.1 u.2.2.2.1 u.2.2.2.2.1 u.2.2.2.2.2 ∧ 0 < u.2.2.1) := by
  refine ti_mutV (σ := (Nat → Nat) × (Nat → Nat) × Nat × (Nat → Nat → Nat) × (Nat → Nat → Nat) × (Nat → Nat)) (by decide) (Nat.le_of_ble_eq_true rfl) ?_
  intro p e s m below meth c H H0 A Q ls S hE hP hD hS hA hinit hl hret
  have hx := S.1
  have hb := S.2.1
  have hown := S.2.2.2.1
  have hts := S.2.2.2.2
  have hK := hE.1
  have hl : lv_has ls 5 [(0, .ref d0), (1, .int (nI w)), (2, .ref h)] := hl
  have hm10 := hI0.1
  have hpm := hI0.2.1
  have hwh := hI0.2.2.2.2.2
  refine lv_aload_n hx hb dX3_keeps_0 rfl (lv_at hl 0 rfl) ?_
  refine va_get (v := .int (nI many)) hx hb hts in_X3 hown hK hP 0 rfl rfl 2 (by decide) (hts _ q181) (fun _ h => h) rfl dX3_keeps_1 ?_
  refine lv_bipush (v := nI 10) hx hb dX3_keeps_4 (by decide) ?_
  refine tn_ne (tgt := 82) hx hb dX3_keeps_6 (by decide) (by omega) (by omega) (fun c6 => ?_) (fun c6 => ?_)
  · skip
    refine lv_aload_n hx hb dX3_keeps_82 rfl (lv_at hl 0 rfl) ?_
    refine va_get (v := .ref d1) hx hb hts in_X3 hown hK hP 0 rfl rfl 0 (by decide) (hts _ q179) (fun _ h => h) rfl dX3_keeps_83 ?_
    refine lv_aload_n hx hb dX3_keeps_86 rfl (lv_at hl 0 rfl) ?_
    refine va_get (v := .int (nI many)) hx hb hts in_X3 hown hK hP 0 rfl rfl 2 (by decide) (hts _ q181) (fun _ h => h) rfl dX3_keeps_87 ?_
    refine tn_aald hx hb hK hP 1 5 rfl rfl (by omega) (by decide) dX3_keeps_90 ?_
    refine lv_aload_n hx hb dX3_keeps_91 rfl (lv_at hl 2 rfl) ?_
    refine ti_kept S hE hP hD hS hA q316 ⟨Nat.le_of_ble_eq_true rfl, Nat.le_of_ble_eq_true rfl⟩ hl.1 (Nat.le_of_ble_eq_true rfl) ⟨Nat.le_refl _, Nat.le_refl _⟩ dX3_keeps_92 (pm many) (hpm.1 _ (by omega)) (fun H locs hP hD hS => ?_)
    have hP : va_P D vwCl (ti_wD E d0 d1 d2 hI uI vI pm wh many (va_up FA (pm many) fa) (va_up FB (pm many) fb) (va_up NN (pm many) n) ++ ti_wI E h ua ub fa fb n) H := hP
    have hD : va_D A (ti_wD E d0 d1 d2 hI uI vI pm wh many (va_up FA (pm many) fa) (va_up FB (pm many) fb) (va_up NN (pm many) n) ++ ti_wI E h ua ub fa fb n) := hD
    refine lv_aload_n hx hb dX3_keeps_95 rfl (lv_at hl 0 rfl) ?_
    refine va_get (v := .ref d2) hx hb hts in_X3 hown hK hP 0 rfl rfl 1 (by decide) (hts _ q180) (fun _ h => h) rfl dX3_keeps_96 ?_
    refine lv_aload_n hx hb dX3_keeps_99 rfl (lv_at hl 0 rfl) ?_
    refine va_get (v := .int (nI many)) hx hb hts in_X3 hown hK hP 0 rfl rfl 2 (by decide) (hts _ q181) (fun _ h => h) rfl dX3_keeps_100 ?_
    refine lv_iload_n hx hb dX3_keeps_103 rfl (lv_at hl 1 rfl) ?_
    refine tn_iast hx hb hK hP hD hS 2 0 rfl rfl (by omega) (by decide) dX3_keeps_104 (fun H locs hP hD hS => ?_)
    have hP : va_P D vwCl (ti_wD E d0 d1 d2 hI uI vI pm (va_up wh many w) many (va_up FA (pm many) fa) (va_up FB (pm many) fb) (va_up NN (pm many) n) ++ ti_wI E h ua ub fa fb n) H := hP
    have hD : va_D A (ti_wD E d0 d1 d2 hI uI vI pm (va_up wh many w) many (va_up FA (pm many) fa) (va_up FB (pm many) fb) (va_up NN (pm many) n) ++ ti_wI E h ua ub fa fb n) := hD
    refine lv_aload_n hx hb dX3_keeps_105 rfl (lv_at hl 0 rfl) ?_
    refine lv_dup hx hb dX3_keeps_106 rfl ?_
    refine va_get (v := .int (nI many)) hx hb hts in_X3 hown hK hP 0 rfl rfl 2 (by decide) (hts _ q181) (fun _ h => h) rfl dX3_keeps_107 ?_
    refine lv_iconst (v := nI 1) hx hb dX3_keeps_110 (by decide) ?_
    refine tn_add hx hb dX3_keeps_111 ?_
    refine va_put (ty := .int) hx hb hts in_X3 tyX3 tyX3_ok nmX3 hown hK hP hD hS 0 rfl rfl 2 (by decide) (hts _ q181) (fun _ h => h) rfl rfl rfl rfl (Nat.le_of_ble_eq_true rfl) dX3_keeps_112 (fun H locs hP hD hS => ?_)
    have hP : va_P D vwCl (ti_wD E d0 d1 d2 hI uI vI pm (va_up wh many w) (many + 1) (va_up FA (pm many) fa) (va_up FB (pm many) fb) (va_up NN (pm many) n) ++ ti_wI E h ua ub fa fb n) H := hP
    have hD : va_D A (ti_wD E d0 d1 d2 hI uI vI pm (va_up wh many w) (many + 1) (va_up FA (pm many) fa) (va_up FB (pm many) fb) (va_up NN (pm many) n) ++ ti_wI E h ua ub fa fb n) := hD
    exact hret ((pm, va_up wh many w, many + 1, va_up FA (pm many) fa, va_up FB (pm many) fb, va_up NN (pm many) n)) _ _ _ _ _ _ dX3_keeps_115 (⟨by rw [ti_dl_push (by omega) hpm, ti_keep, if_neg (by rw [ti_dl_len]; exact c6)], ⟨by dsimp only; omega, hpm, ti_up2_le hI0.2.2.1 hfa, ti_up2_le hI0.2.2.2.1 hfb, ti_up_le hI0.2.2.2.2.1 hn, ti_up_le hI0.2.2.2.2.2 hw⟩, by dsimp only; omega⟩) hP hS (Nat.le_refl _) (Nat.le_refl _)
  · skip
    refine lv_aload_n hx hb dX3_keeps_9 rfl (lv_at hl 0 rfl) ?_
    refine va_get (v := .ref d1) hx hb hts in_X3 hown hK hP 0 rfl rfl 0 (by decide) (hts _ q179) (fun _ h => h) rfl dX3_keeps_10 ?_
    refine lv_iconst (v := nI 0) hx hb dX3_keeps_13 (by decide) ?_
    refine tn_aald hx hb hK hP 1 5 rfl rfl (by omega) (by decide) dX3_keeps_14 ?_
    refine lv_astore_n (lv' := [(3, .ref (hI (pm 0))), (0, .ref d0), (1, .int (nI w)), (2, .ref h)]) hx hb dX3_keeps_15 rfl hl (by decide) rfl (fun ls hl => ?_)
    refine lv_iconst (v := nI 1) hx hb dX3_keeps_16 (by decide) ?_
    refine lv_istore (lv' := [(4, .int (nI 1)), (3, .ref (hI (pm 0))), (0, .ref d0), (1, .int (nI w)), (2, .ref h)]) hx hb dX3_keeps_17 hl (by decide) rfl (fun ls hl => ?_)
    have L19 : ∀ (N : Nat) (k : Nat) (p1 w1 : Nat → Nat) (ls : Array Slot) (H : Heap) (locs : List Loc), va_P D vwCl (ti_wD E d0 d1 d2 hI uI vI p1 w1 many FA FB NN ++ ti_wI E h ua ub fa fb n) H → va_D A (ti_wD E d0 d1 d2 hI uI vI p1 w1 many FA FB NN ++ ti_wI E h ua ub fa fb n) → va_S A H0 H locs → (10 - k) < N → (1 ≤ k) → (k ≤ 10) → (p1 = ti_sh 0 (k - 1) pm) → (w1 = ti_sh 0 (k - 1) wh) → lv_has ls 5 [(0, .ref d0), (1, .int (nI w)), (2, .ref h), (3, .ref (hI (pm 0))), (4, .int (nI k))] → W p l e (ti_rm 2 0 0) s m ([.ref d0, .int (nI w), .ref h] : List Value).toArray below meth c H locs 0 0 Q (F0 m 19 ls []) := by
      intro N
      induction N with
      | zero => intro k p1 w1 ls H locs hP hD hS h0; exact absurd h0 (Nat.not_lt_zero _)
      | succ N ih19 =>
        intro k p1 w1 ls H locs hP hD hS hN hk1 hk2 e1 e2 hl
        refine lv_iload hx hb dX3_keeps_19 (lv_at hl 4 rfl) ?_
        refine lv_bipush (v := nI 10) hx hb dX3_keeps_21 (by decide) ?_
        refine tn_ge (tgt := 64) hx hb dX3_keeps_23 (by decide) (by omega) (by omega) (fun c23 => ?_) (fun c23 => ?_)
        · skip
          have hp0 := ti_perm_rot hI0.2.1
          refine lv_aload_n hx hb dX3_keeps_64 rfl (lv_at hl 0 rfl) ?_
          refine va_get (v := .ref d1) hx hb hts in_X3 hown hK hP 0 rfl rfl 0 (by decide) (hts _ q179) (fun _ h => h) rfl dX3_keeps_65 ?_
          refine lv_bipush (v := nI 9) hx hb dX3_keeps_68 (by decide) ?_
          refine lv_aload_n hx hb dX3_keeps_70 rfl (lv_at hl 3 rfl) ?_
          refine tn_aast hx hb hK hP hD hS 1 5 (3 + 3 * (pm 0)) 1 rfl rfl (ti_wD_at (hpm.1 0 (by omega))) rfl (by omega) (by decide) dX3_keeps_71 (fun H locs hP hD hS => ?_)
          have hP : va_P D vwCl (ti_wD E d0 d1 d2 hI uI vI (va_up p1 9 (pm 0)) w1 many FA FB NN ++ ti_wI E h ua ub fa fb n) H := hP
          have hD : va_D A (ti_wD E d0 d1 d2 hI uI vI (va_up p1 9 (pm 0)) w1 many FA FB NN ++ ti_wI E h ua ub fa fb n) := hD
          have hpm : ti_perm (va_up p1 9 (pm 0)) := by rw [e1, show k - 1 = 9 by omega]; exact hp0
          refine lv_aload_n hx hb dX3_keeps_72 rfl (lv_at hl 0 rfl) ?_
          refine lv_dup hx hb dX3_keeps_73 rfl ?_
          refine va_get (v := .int (nI many)) hx hb hts in_X3 hown hK hP 0 rfl rfl 2 (by decide) (hts _ q181) (fun _ h => h) rfl dX3_keeps_74 ?_
          refine lv_iconst (v := nI 1) hx hb dX3_keeps_77 (by decide) ?_
          refine tn_sub hx hb dX3_keeps_78 (by omega) ?_
          refine va_put (ty := .int) hx hb hts in_X3 tyX3 tyX3_ok nmX3 hown hK hP hD hS 0 rfl rfl 2 (by decide) (hts _ q181) (fun _ h => h) rfl rfl rfl rfl (Nat.le_of_ble_eq_true rfl) dX3_keeps_79 (fun H locs hP hD hS => ?_)
          have hP : va_P D vwCl (ti_wD E d0 d1 d2 hI uI vI (va_up p1 9 (pm 0)) w1 (many - 1) FA FB NN ++ ti_wI E h ua ub fa fb n) H := hP
          have hD : va_D A (ti_wD E d0 d1 d2 hI uI vI (va_up p1 9 (pm 0)) w1 (many - 1) FA FB NN ++ ti_wI E h ua ub fa fb n) := hD
          refine lv_aload_n hx hb dX3_keeps_82 rfl (lv_at hl 0 rfl) ?_
          refine va_get (v := .ref d1) hx hb hts in_X3 hown hK hP 0 rfl rfl 0 (by decide) (hts _ q179) (fun _ h => h) rfl dX3_keeps_83 ?_
          refine lv_aload_n hx hb dX3_keeps_86 rfl (lv_at hl 0 rfl) ?_
          refine va_get (v := .int (nI (many - 1))) hx hb hts in_X3 hown hK hP 0 rfl rfl 2 (by decide) (hts _ q181) (fun _ h => h) rfl dX3_keeps_87 ?_
          refine tn_aald hx hb hK hP 1 5 rfl rfl (by omega) (by decide) dX3_keeps_90 ?_
          refine lv_aload_n hx hb dX3_keeps_91 rfl (lv_at hl 2 rfl) ?_
          refine ti_kept S hE hP hD hS hA q316 ⟨Nat.le_of_ble_eq_true rfl, Nat.le_of_ble_eq_true rfl⟩ hl.1 (Nat.le_of_ble_eq_true rfl) ⟨Nat.le_refl _, Nat.le_refl _⟩ dX3_keeps_92 ((va_up p1 9 (pm 0)) (many - 1)) (hpm.1 _ (by omega)) (fun H locs hP hD hS => ?_)
          have hP : va_P D vwCl (ti_wD E d0 d1 d2 hI uI vI (va_up p1 9 (pm 0)) w1 (many - 1) (va_up FA ((va_up p1 9 (pm 0)) (many - 1)) fa) (va_up FB ((va_up p1 9 (pm 0)) (many - 1)) fb) (va_up NN ((va_up p1 9 (pm 0)) (many - 1)) n) ++ ti_wI E h ua ub fa fb n) H := hP
          have hD : va_D A (ti_wD E d0 d1 d2 hI uI vI (va_up p1 9 (pm 0)) w1 (many - 1) (va_up FA ((va_up p1 9 (pm 0)) (many - 1)) fa) (va_up FB ((va_up p1 9 (pm 0)) (many - 1)) fb) (va_up NN ((va_up p1 9 (pm 0)) (many - 1)) n) ++ ti_wI E h ua ub fa fb n) := hD
          refine lv_aload_n hx hb dX3_keeps_95 rfl (lv_at hl 0 rfl) ?_
          refine va_get (v := .ref d2) hx hb hts in_X3 hown hK hP 0 rfl rfl 1 (by decide) (hts _ q180) (fun _ h => h) rfl dX3_keeps_96 ?_
          refine lv_aload_n hx hb dX3_keeps_99 rfl (lv_at hl 0 rfl) ?_
          refine va_get (v := .int (nI (many - 1))) hx hb hts in_X3 hown hK hP 0 rfl rfl 2 (by decide) (hts _ q181) (fun _ h => h) rfl dX3_keeps_100 ?_
          refine lv_iload_n hx hb dX3_keeps_103 rfl (lv_at hl 1 rfl) ?_
          refine tn_iast hx hb hK hP hD hS 2 0 rfl rfl (by omega) (by decide) dX3_keeps_104 (fun H locs hP hD hS => ?_)
          have hP : va_P D vwCl (ti_wD E d0 d1 d2 hI uI vI (va_up p1 9 (pm 0)) (va_up w1 (many - 1) w) (many - 1) (va_up FA ((va_up p1 9 (pm 0)) (many - 1)) fa) (va_up FB ((va_up p1 9 (pm 0)) (many - 1)) fb) (va_up NN ((va_up p1 9 (pm 0)) (many - 1)) n) ++ ti_wI E h ua ub fa fb n) H := hP
          have hD : va_D A (ti_wD E d0 d1 d2 hI uI vI (va_up p1 9 (pm 0)) (va_up w1 (many - 1) w) (many - 1) (va_up FA ((va_up p1 9 (pm 0)) (many - 1)) fa) (va_up FB ((va_up p1 9 (pm 0)) (many - 1)) fb) (va_up NN ((va_up p1 9 (pm 0)) (many - 1)) n) ++ ti_wI E h ua ub fa fb n) := hD
          refine lv_aload_n hx hb dX3_keeps_105 rfl (lv_at hl 0 rfl) ?_
          refine lv_dup hx hb dX3_keeps_106 rfl ?_
          refine va_get (v := .int (nI (many - 1))) hx hb hts in_X3 hown hK hP 0 rfl rfl 2 (by decide) (hts _ q181) (fun _ h => h) rfl dX3_keeps_107 ?_
          refine lv_iconst (v := nI 1) hx hb dX3_keeps_110 (by decide) ?_
          refine tn_add hx hb dX3_keeps_111 ?_
          refine va_put (ty := .int) hx hb hts in_X3 tyX3 tyX3_ok nmX3 hown hK hP hD hS 0 rfl rfl 2 (by decide) (hts _ q181) (fun _ h => h) rfl rfl rfl rfl (Nat.le_of_ble_eq_true rfl) dX3_keeps_112 (fun H locs hP hD hS => ?_)
          have hP : va_P D vwCl (ti_wD E d0 d1 d2 hI uI vI (va_up p1 9 (pm 0)) (va_up w1 (many - 1) w) ((many - 1) + 1) (va_up FA ((va_up p1 9 (pm 0)) (many - 1)) fa) (va_up FB ((va_up p1 9 (pm 0)) (many - 1)) fb) (va_up NN ((va_up p1 9 (pm 0)) (many - 1)) n) ++ ti_wI E h ua ub fa fb n) H := hP
          have hD : va_D A (ti_wD E d0 d1 d2 hI uI vI (va_up p1 9 (pm 0)) (va_up w1 (many - 1) w) ((many - 1) + 1) (va_up FA ((va_up p1 9 (pm 0)) (many - 1)) fa) (va_up FB ((va_up p1 9 (pm 0)) (many - 1)) fb) (va_up NN ((va_up p1 9 (pm 0)) (many - 1)) n) ++ ti_wI E h ua ub fa fb n) := hD
          exact hret ((va_up p1 9 (pm 0), va_up w1 (many - 1) w, (many - 1) + 1, va_up FA ((va_up p1 9 (pm 0)) (many - 1)) fa, va_up FB ((va_up p1 9 (pm 0)) (many - 1)) fb, va_up NN ((va_up p1 9 (pm 0)) (many - 1)) n)) _ _ _ _ _ _ dX3_keeps_115 (⟨by rw [show many - 1 + 1 = 9 + 1 by omega, show many - 1 = 9 by omega, ti_dl_push (by omega) hpm, e1, e2, show k - 1 = 9 by omega, ti_dl_rot, ti_keep, if_pos (by rw [ti_dl_len]; exact c6), show many = 10 by omega], ⟨by dsimp only; omega, hpm, ti_up2_le hI0.2.2.1 hfa, ti_up2_le hI0.2.2.2.1 hfb, ti_up_le hI0.2.2.2.2.1 hn, ti_up_le (by rw [e2]; exact ti_sh_le hI0.2.2.2.2.2) hw⟩, by dsimp only; omega⟩) hP hS (Nat.le_refl _) (Nat.le_refl _)
        · skip
          refine lv_aload_n hx hb dX3_keeps_26 rfl (lv_at hl 0 rfl) ?_
          refine va_get (v := .ref d1) hx hb hts in_X3 hown hK hP 0 rfl rfl 0 (by decide) (hts _ q179) (fun _ h => h) rfl dX3_keeps_27 ?_
          refine lv_iload hx hb dX3_keeps_30 (lv_at hl 4 rfl) ?_
          refine lv_iconst (v := nI 1) hx hb dX3_keeps_32 (by decide) ?_
          refine tn_sub hx hb dX3_keeps_33 (by omega) ?_
          refine lv_aload_n hx hb dX3_keeps_34 rfl (lv_at hl 0 rfl) ?_
          refine va_get (v := .ref d1) hx hb hts in_X3 hown hK hP 0 rfl rfl 0 (by decide) (hts _ q179) (fun _ h => h) rfl dX3_keeps_35 ?_
          refine lv_iload hx hb dX3_keeps_38 (lv_at hl 4 rfl) ?_
          refine tn_aald hx hb hK hP 1 5 rfl rfl (by omega) (by decide) dX3_keeps_40 ?_
          refine tn_aast hx hb hK hP hD hS 1 5 (3 + 3 * (p1 k)) 1 rfl rfl (ti_wD_at (by rw [e1]; unfold ti_sh; rw [if_neg (by omega)]; exact hpm.1 _ (by omega))) rfl (by omega) (by decide) dX3_keeps_41 (fun H locs hP hD hS => ?_)
          have hP : va_P D vwCl (ti_wD E d0 d1 d2 hI uI vI (va_up p1 (k - 1) (p1 k)) w1 many FA FB NN ++ ti_wI E h ua ub fa fb n) H := hP
          have hD : va_D A (ti_wD E d0 d1 d2 hI uI vI (va_up p1 (k - 1) (p1 k)) w1 many FA FB NN ++ ti_wI E h ua ub fa fb n) := hD
          refine lv_aload_n hx hb dX3_keeps_42 rfl (lv_at hl 0 rfl) ?_
          refine va_get (v := .ref d2) hx hb hts in_X3 hown hK hP 0 rfl rfl 1 (by decide) (hts _ q180) (fun _ h => h) rfl dX3_keeps_43 ?_
          refine lv_iload hx hb dX3_keeps_46 (lv_at hl 4 rfl) ?_
          refine lv_iconst (v := nI 1) hx hb dX3_keeps_48 (by decide) ?_
          refine tn_sub hx hb dX3_keeps_49 (by omega) ?_
          refine lv_aload_n hx hb dX3_keeps_50 rfl (lv_at hl 0 rfl) ?_
          refine va_get (v := .ref d2) hx hb hts in_X3 hown hK hP 0 rfl rfl 1 (by decide) (hts _ q180) (fun _ h => h) rfl dX3_keeps_51 ?_
          refine lv_iload hx hb dX3_keeps_54 (lv_at hl 4 rfl) ?_
          refine tn_iald hx hb hK hP 2 0 rfl rfl (by omega) (by decide) dX3_keeps_56 ?_
          refine tn_iast hx hb hK hP hD hS 2 0 rfl rfl (by omega) (by decide) dX3_keeps_57 (fun H locs hP hD hS => ?_)
          have hP : va_P D vwCl (ti_wD E d0 d1 d2 hI uI vI (va_up p1 (k - 1) (p1 k)) (va_up w1 (k - 1) (w1 k)) many FA FB NN ++ ti_wI E h ua ub fa fb n) H := hP
          have hD : va_D A (ti_wD E d0 d1 d2 hI uI vI (va_up p1 (k - 1) (p1 k)) (va_up w1 (k - 1) (w1 k)) many FA FB NN ++ ti_wI E h ua ub fa fb n) := hD
          refine lv_iinc (v := nI (k + 1)) (lv' := [(4, .int (nI (k + 1))), (0, .ref d0), (1, .int (nI w)), (2, .ref h), (3, .ref (hI (pm 0)))]) hx hb dX3_keeps_58 hl (k := 4) rfl (nI_1 k) (by decide) rfl (fun ls hl => ?_)
          refine lv_goto (tgt := 19) hx hb dX3_keeps_61 (by decide) ?_
          exact ih19 (k + 1) (va_up p1 (k - 1) (p1 k)) (va_up w1 (k - 1) (w1 k)) _ _ _ hP hD hS (by omega) (by omega) (by omega) (by rw [e1]; exact ti_sh_up1 hk1 pm) (by rw [e2]; exact ti_sh_up1 hk1 wh) (lv_sub hl [1, 2, 3, 4, 0] rfl)
    exact L19 _ 1 pm wh _ _ _ hP hD hS (Nat.lt_succ_self _) (by omega) (by omega) (ti_sh_0 0 pm).symm (ti_sh_0 0 wh).symm (lv_sub hl [2, 3, 4, 1, 0] rfl)

set_option maxHeartbeats 1000000 in
theorem met_X3_back (l : Launch) (D : va_G) (E : Nat → ClassId) (d0 d1 d2 : Nat) (hI uI vI : Nat → Nat) (pm wh : Nat → Nat) (many : Nat) (FA FB : Nat → Nat → Nat) (NN : Nat → Nat) (j0 : Nat) (hJ uJ vJ : Nat → Nat) (GA GB : Nat → Nat → Nat) (GN : Nat → Nat) (hI0 : ti_DI pm wh many FA FB NN) (hm : 0 < many) : ti_MetM (σ := Unit) l D E yX3_back cX3_back 2 none 2 0 0 (ti_wD E d0 d1 d2 hI uI vI pm wh many FA FB NN ++ ti_wJ E j0 hJ uJ vJ GA GB GN) [.ref d0, .ref j0] (fun _ => ti_wD E d0 d1 d2 hI uI vI pm wh (many - 1) FA FB NN ++ ti_wJ E j0 hJ uJ vJ (va_up GA (wh (many - 1)) (FA (pm (many - 1)))) (va_up GB (wh (many - 1)) (FB (pm (many - 1)))) (va_up GN (wh (many - 1)) (NN (pm (many - 1))))) (fun _ => none) (fun _ => True) := by
  refine ti_mutV (σ := Unit) (by decide) (Nat.le_of_ble_eq_true rfl) ?_
  intro p e s m below meth c H H0 A Q ls S hE hP hD hS hA hinit hl hret
  have hx := S.1
  have hb := S.2.1
  have hown := S.2.2.2.1
  have hts := S.2.2.2.2
  have hK := hE.1
  have hl : lv_has ls 2 [(0, .ref d0), (1, .ref j0)] := hl
  have hm10 := hI0.1
  have hwh := hI0.2.2.2.2.2
  refine lv_aload_n hx hb dX3_back_0 rfl (lv_at hl 0 rfl) ?_
  refine lv_dup hx hb dX3_back_1 rfl ?_
  refine va_get (v := .int (nI many)) hx hb hts in_X3 hown hK hP 0 rfl rfl 2 (by decide) (hts _ q181) (fun _ h => h) rfl dX3_back_2 ?_
  refine lv_iconst (v := nI 1) hx hb dX3_back_5 (by decide) ?_
  refine tn_sub hx hb dX3_back_6 (by omega) ?_
  refine va_put (ty := .int) hx hb hts in_X3 tyX3 tyX3_ok nmX3 hown hK hP hD hS 0 rfl rfl 2 (by decide) (hts _ q181) (fun _ h => h) rfl rfl rfl rfl (Nat.le_of_ble_eq_true rfl) dX3_back_7 (fun H locs hP hD hS => ?_)
  have hP : va_P D vwCl (ti_wD E d0 d1 d2 hI uI vI pm wh (many - 1) FA FB NN ++ ti_wJ E j0 hJ uJ vJ GA GB GN) H := hP
  have hD : va_D A (ti_wD E d0 d1 d2 hI uI vI pm wh (many - 1) FA FB NN ++ ti_wJ E j0 hJ uJ vJ GA GB GN) := hD
  refine lv_aload_n hx hb dX3_back_10 rfl (lv_at hl 1 rfl) ?_
  refine lv_aload_n hx hb dX3_back_11 rfl (lv_at hl 0 rfl) ?_
  refine va_get (v := .ref d2) hx hb hts in_X3 hown hK hP 0 rfl rfl 1 (by decide) (hts _ q180) (fun _ h => h) rfl dX3_back_12 ?_
  refine lv_aload_n hx hb dX3_back_15 rfl (lv_at hl 0 rfl) ?_
  refine va_get (v := .int (nI (many - 1))) hx hb hts in_X3 hown hK hP 0 rfl rfl 2 (by decide) (hts _ q181) (fun _ h => h) rfl dX3_back_16 ?_
  refine tn_iald hx hb hK hP 2 0 rfl rfl (by omega) (by decide) dX3_back_19 ?_
  have b19 := hwh (many - 1)
  refine tn_aald hx hb hK hP 33 5 rfl rfl (by have := hwh (many - 1); omega) (by decide) dX3_back_20 ?_
  refine lv_aload_n hx hb dX3_back_21 rfl (lv_at hl 0 rfl) ?_
  refine va_get (v := .ref d1) hx hb hts in_X3 hown hK hP 0 rfl rfl 0 (by decide) (hts _ q179) (fun _ h => h) rfl dX3_back_22 ?_
  refine lv_aload_n hx hb dX3_back_25 rfl (lv_at hl 0 rfl) ?_
  refine va_get (v := .int (nI (many - 1))) hx hb hts in_X3 hown hK hP 0 rfl rfl 2 (by decide) (hts _ q181) (fun _ h => h) rfl dX3_back_26 ?_
  refine tn_aald hx hb hK hP 1 5 rfl rfl (by omega) (by decide) dX3_back_29 ?_
  refine ti_took S hE hP hD hS hA q316 ⟨Nat.le_of_ble_eq_true rfl, Nat.le_of_ble_eq_true rfl⟩ hl.1 (Nat.le_of_ble_eq_true rfl) ⟨Nat.le_refl _, Nat.le_refl _⟩ dX3_back_30 (wh (many - 1)) (by have := hI0.2.2.2.2.2 (many - 1); omega) (pm (many - 1)) (hI0.2.1.1 _ (by omega)) (fun H locs hP hD hS => ?_)
  have hP : va_P D vwCl (ti_wD E d0 d1 d2 hI uI vI pm wh (many - 1) FA FB NN ++ ti_wJ E j0 hJ uJ vJ (va_up GA (wh (many - 1)) (FA (pm (many - 1)))) (va_up GB (wh (many - 1)) (FB (pm (many - 1)))) (va_up GN (wh (many - 1)) (NN (pm (many - 1))))) H := hP
  have hD : va_D A (ti_wD E d0 d1 d2 hI uI vI pm wh (many - 1) FA FB NN ++ ti_wJ E j0 hJ uJ vJ (va_up GA (wh (many - 1)) (FA (pm (many - 1)))) (va_up GB (wh (many - 1)) (FB (pm (many - 1)))) (va_up GN (wh (many - 1)) (NN (pm (many - 1))))) := hD
  exact hret () _ _ _ _ _ _ dX3_back_33 (trivial) hP hS (Nat.le_refl _) (Nat.le_refl _)
