/-! TermIdealsModel: tapes (printed by w_model15.py) -/
set_option maxRecDepth 100000
section TLB
variable {p : Program} {l : Launch} {e : Env} {R : Room} {s : State} {m : MethodId} {args : Array Value} {below : List Frame} {meth : Method} {c : Code} {H : Heap} {locs : List Loc} {cells slots : Nat} {Q : State → Prop}
variable {cc : ByteArray} {pc : Nat} {ls : Array Slot} {rest : List Value}
theorem ti_lN_add (x y : Nat) : lN x + lN y = lN (x + y) := (Int64.ofNat_add x y).symm
theorem ti_lN_lt {x y : Nat} (hx : x < 2 ^ 63) (hy : y < 2 ^ 63) : lN x < lN y ↔ x < y := by
  rw [Int64.lt_iff_toInt_lt]
  unfold lN
  rw [lg_ofNat_toInt hx, lg_ofNat_toInt hy]; omega
theorem tl_add (hx : p.tables.exec = Jvm.exec) (hb : c.code = cc) {x y : Nat} (hd : decode cc pc = .ok (.ladd, 1)) (k : W p l e R s m args below meth c H locs cells slots Q (F0 m (pc + 1) ls (.long (lN (x + y)) :: rest))) : W p l e R s m args below meth c H locs cells slots Q (F0 m pc ls (.long (lN y) :: .long (lN x) :: rest)) :=
  lv_ladd hx hb hd (by rw [ti_lN_add]; exact k)
theorem tc_ltN (hx : p.tables.exec = Jvm.exec) (hb : c.code = cc) {x y : Nat} {off : Int} {tgt : Nat} (hd : decode cc pc = .ok (.ifCond .lt off, 3)) (ht : (pc : Int) + off = (tgt : Int)) (h1 : x < 2 ^ 63) (h2 : y < 2 ^ 63) (kt : x < y → W p l e R s m args below meth c H locs cells slots Q (F0 m tgt ls rest)) (kf : ¬ x < y → W p l e R s m args below meth c H locs cells slots Q (F0 m (pc + 3) ls rest)) : W p l e R s m args below meth c H locs cells slots Q (F0 m pc ls (.int (lg_cmp (lN x) (lN y)) :: rest)) :=
  tc_lt hx hb hd ht (fun h => kt ((ti_lN_lt h1 h2).mp h)) (fun h => kf fun z => h ((ti_lN_lt h1 h2).mpr z))
end TLB
theorem ti_inL_m (s : Int32) : ti_inL s.toInt64 (-1) (lN 4) = ti_in s (-1) 4 := by
  unfold ti_in ti_inL
  have e1 : ((-1 : Int64) ≤ s.toInt64) ↔ ((-1 : Int32) ≤ s) := by
    rw [Int64.le_iff_toInt_le, Int32.le_iff_toInt_le, Int32.toInt_toInt64]; exact Iff.rfl
  have e2 : (s.toInt64 ≤ lN 4) ↔ (s ≤ 4) := by
    rw [Int64.le_iff_toInt_le, Int32.le_iff_toInt_le, lN_toInt (by decide), Int32.toInt_toInt64]; exact Iff.rfl
  exact decide_eq_decide.mpr ⟨fun z => ⟨e1.mp z.1, e2.mp z.2⟩, fun z => ⟨e1.mpr z.1, e2.mpr z.2⟩⟩
theorem ti_sort_nat {s : Int32} (h : ti_in s (-1) 4 = true) : s = -1 ∨ ∃ j, j ≤ 4 ∧ s = nI j := by
  obtain ⟨h1, h2⟩ := of_decide_eq_true h
  by_cases hs : s < 0
  · left
    apply Int32.toInt_inj.mp
    rw [Int32.le_iff_toInt_le] at h1
    rw [Int32.lt_iff_toInt_lt] at hs
    have e1 : (-1 : Int32).toInt = -1 := by decide
    have e2 : (0 : Int32).toInt = 0 := by decide
    omega
  · right
    obtain ⟨j, hj, rfl⟩ := nI_of hs
    exact ⟨j, (nI_leI hj (by decide)).mp h2, rfl⟩
theorem ti_up_id {α : Type} (f : Nat → α) (t : Nat) : va_up f t (f t) = f := by
  funext j
  by_cases e : j = t
  · rw [e, va_up_self]
  · rw [va_up_ne _ _ e]
theorem ti_subI {a b : Nat} (ha : a < 2 ^ 31) (hb : b < 2 ^ 31) : (nI a - nI b).toInt = (a : Int) - b := by
  rw [Int32.toInt_sub, nI_toInt ha, nI_toInt hb]
  exact Int.bmod_eq_of_le (by omega) (by omega)
theorem ti_qi_set {x : ti_Mq} {t i : Nat} {v : Int64} (hi : i < x.2.1 t) : (ti_qi x t).set i v = (List.range' 0 (x.2.1 t)).map fun k => va_up x.2.2.1 (60 * t + i) v (60 * t + k) := by
  apply List.ext_getElem?
  intro j
  by_cases hj : j < x.2.1 t
  · rw [List.getElem?_set]
    by_cases e : i = j
    · subst e; simp [ti_qi, hj, va_up_self]
    · rw [if_neg e]
      have : va_up x.2.2.1 (60 * t + i) v (60 * t + j) = x.2.2.1 (60 * t + j) := va_up_ne _ _ (by omega)
      simp [ti_qi, hj, this]
  · rw [List.getElem?_eq_none (by rw [List.length_set, ti_qi_len]; omega), List.getElem?_eq_none (by simp; omega)]
theorem ti_mv_eq {x : ti_Mq} {t i o j n : Nat} {g : Nat → Int64} (hn : n + i ≤ x.2.1 t) (hj : n + j ≤ x.2.1 o) (ho : x.2.1 o ≤ 60) (hg : ∀ q, g q = if 60 * o + j ≤ q ∧ q < 60 * o + j + n then x.2.2.1 (60 * t + i + (q - (60 * o + j))) else x.2.2.1 q) :
    ti_mv (ti_qi x t) (ti_qi x o) i j n = (List.range' 0 (x.2.1 o)).map fun k => g (60 * o + k) := by
  unfold ti_mv
  rw [ti_qi_len]
  refine List.map_congr_left fun k hk => ?_
  obtain ⟨z, hz, rfl⟩ := List.mem_range'.mp hk
  rw [hg]
  by_cases hh : j ≤ 0 + 1 * z ∧ 0 + 1 * z < j + n
  · rw [if_pos hh, if_pos (by omega), ti_qi_at (by omega)]
    exact congrArg x.2.2.1 (by omega)
  · rw [if_neg hh, if_neg (by omega), ti_qi_at (by omega)]

set_option maxHeartbeats 1000000 in
theorem met_X7_asSort (l : Launch) (D : va_G) (E : Nat → ClassId) (sort : Int32) (v : Int64) : ti_MetP l D E yX7_asSort cX7_asSort 3 (some .long) 0 ([]) [.int sort, .long v] (some (.long (ti_as sort v))) := by
  refine ti_pureJ (by decide) (Nat.le_of_ble_eq_true rfl) ?_
  intro p e s m below meth c H locs Q ls S hE hP hl hret
  have hx := S.1
  have hb := S.2.1
  have hown := S.2.2.2.1
  have hts := S.2.2.2.2
  have hK := hE.1
  have hl : lv_has ls 3 [(0, .int sort), (1, .long v)] := hl
  refine lv_iload_n hx hb dX7_asSort_0 rfl (lv_at hl 0 rfl) ?_
  by_cases sw1_0 : sort = 0
  · subst sw1_0
    refine lv_tableIn (off := 31) (tgt := 32) hx hb dX7_asSort_1 (by decide) (by decide) rfl (by decide) ?_
    refine lv_lload_n hx hb dX7_asSort_32 rfl (lv_at hl 1 rfl) ?_
    refine lv_l2i (v := Int64.toInt32 v) hx hb dX7_asSort_33 rfl ?_
    refine lv_i2b (v := ((Int64.toInt32 v)).toInt8.toInt32) hx hb dX7_asSort_34 rfl ?_
    refine lv_i2l (v := Int32.toInt64 ((((Int64.toInt32 v)).toInt8.toInt32))) hx hb dX7_asSort_35 rfl ?_
    exact hret _ _ _ dX7_asSort_36 (rfl)
  · skip
    by_cases sw1_1 : sort = 1
    · subst sw1_1
      refine lv_tableIn (off := 36) (tgt := 37) hx hb dX7_asSort_1 (by decide) (by decide) rfl (by decide) ?_
      refine lv_lload_n hx hb dX7_asSort_37 rfl (lv_at hl 1 rfl) ?_
      refine lv_l2i (v := Int64.toInt32 v) hx hb dX7_asSort_38 rfl ?_
      refine lv_i2s (v := ((Int64.toInt32 v)).toInt16.toInt32) hx hb dX7_asSort_39 rfl ?_
      refine lv_i2l (v := Int32.toInt64 ((((Int64.toInt32 v)).toInt16.toInt32))) hx hb dX7_asSort_40 rfl ?_
      exact hret _ _ _ dX7_asSort_41 (rfl)
    · skip
      by_cases sw1_2 : sort = 2
      · subst sw1_2
        refine lv_tableIn (off := 41) (tgt := 42) hx hb dX7_asSort_1 (by decide) (by decide) rfl (by decide) ?_
        refine lv_lload_n hx hb dX7_asSort_42 rfl (lv_at hl 1 rfl) ?_
        refine lv_l2i (v := Int64.toInt32 v) hx hb dX7_asSort_43 rfl ?_
        refine lv_i2l (v := Int32.toInt64 (Int64.toInt32 v)) hx hb dX7_asSort_44 rfl ?_
        exact hret _ _ _ dX7_asSort_45 (rfl)
      · skip
        by_cases sw1_3 : sort = 3
        · subst sw1_3
          refine lv_tableIn (off := 45) (tgt := 46) hx hb dX7_asSort_1 (by decide) (by decide) rfl (by decide) ?_
          refine lv_lload_n hx hb dX7_asSort_46 rfl (lv_at hl 1 rfl) ?_
          exact hret _ _ _ dX7_asSort_47 (rfl)
        · skip
          refine lv_tableOut (tgt := 48) hx hb dX7_asSort_1 (Classical.byContradiction fun z => by
              have z1 : sort.toInt = 0 ∨ sort.toInt = 1 ∨ sort.toInt = 2 ∨ sort.toInt = 3 := by omega
              rcases z1 with z2 | z2 | z2 | z2
              · exact sw1_0 (Int32.toInt_inj.mp z2)
              · exact sw1_1 (Int32.toInt_inj.mp z2)
              · exact sw1_2 (Int32.toInt_inj.mp z2)
              · exact sw1_3 (Int32.toInt_inj.mp z2)) (by decide) ?_
          refine lv_lload_n hx hb dX7_asSort_48 rfl (lv_at hl 1 rfl) ?_
          refine lv_lconst (v := lN 0) hx hb dX7_asSort_49 (by decide) ?_
          refine W.lcmp hx hb dX7_asSort_50 ?_
          refine tc_eq (tgt := 58) hx hb dX7_asSort_51 (by decide) (fun c51 => ?_) (fun c51 => ?_)
          · skip
            refine lv_lconst (v := lN 0) hx hb dX7_asSort_58 (by decide) ?_
            exact hret _ _ _ dX7_asSort_59 (by rw [ti_as, if_neg sw1_0, if_neg sw1_1, if_neg sw1_2, if_neg sw1_3, if_pos (show v = 0 from c51)]; rfl)
          · skip
            refine lv_lconst (v := lN 1) hx hb dX7_asSort_54 (by decide) ?_
            refine lv_goto (tgt := 59) hx hb dX7_asSort_55 (by decide) ?_
            exact hret _ _ _ dX7_asSort_59 (by rw [ti_as, if_neg sw1_0, if_neg sw1_1, if_neg sw1_2, if_neg sw1_3, if_neg (show ¬ v = 0 from c51)]; rfl)

set_option maxHeartbeats 1000000 in
theorem met_X7_tape (l : Launch) (D : va_G) (E : Nat → ClassId) (ad : Nat → Nat) (xg : ti_Mg) (xd : ti_Md) (xt : ti_Mt) (xf : ti_Mf) (xj : ti_Mj) (xh : ti_Mh) (xs : ti_Ms) (xv : ti_Mv) (xb : ti_Mb) (xq : ti_Mq) (xk : ti_Mk) (T : Nat → ti_TP) (hT : ti_MT xq T) (t sg nn : Int32) : ti_MetM (σ := ti_Mq) l D E yX7_tape cX7_tape 5 (some .int) 2 0 0 (ti_wM E ad xg xd xt xf xj xh xs xv xb xq xk) [.ref (ad 0), .int t, .int sg, .int nn] (fun u => ti_wM E ad xg xd xt xf xj xh xs xv xb u xk) (fun u => some (.int ((fun _ => (ti_Stape T t sg nn).1) u))) (fun u => ti_MT u (ti_Stape T t sg nn).2) := by
  refine ti_mutI (σ := ti_Mq) (vi := fun _ => (ti_Stape T t sg nn).1) (by decide) (Nat.le_of_ble_eq_true rfl) ?_
  intro p e s m below meth c H H0 A Q ls S hE hP hD hS hA hinit hl hret
  have hx := S.1
  have hb := S.2.1
  have hown := S.2.2.2.1
  have hts := S.2.2.2.2
  have hK := hE.1
  have hl : lv_has ls 5 [(0, .ref (ad 0)), (1, .int t), (2, .int sg), (3, .int nn)] := hl
  refine lv_iload_n hx hb dX7_tape_0 rfl (lv_at hl 1 rfl) ?_
  refine ti_pS (As := [.int t]) (rest := []) (v := .int (ti_b (ti_t5 t))) S hE hP [] (met_X7_isTape l D E t) rfl (lw_S q1541 q1542 q73 q1543) 1 rfl (by decide +kernel) ⟨Nat.le_of_ble_eq_true rfl, Nat.le_of_ble_eq_true rfl⟩ hl.1 rfl (Nat.le_of_ble_eq_true rfl) ⟨Nat.le_refl _, Nat.le_refl _⟩ dX7_tape_1 ?_
  refine tb_ne (tgt := 9) hx hb dX7_tape_4 (by decide) (fun c4 => ?_) (fun c4 => ?_)
  · skip
    obtain ⟨t9, ht96, rfl⟩ := ti_t5_nat c4
    have hct9 : ti_cl (nI t9) = t9 := ti_cl_nI (by omega)
    have hlt9 := hT.1 t9
    have hTt9 := hT.2.2.2 t9 ht96
    refine lv_iload_n hx hb dX7_tape_9 rfl (lv_at hl 2 rfl) ?_
    refine lv_i2l (v := Int32.toInt64 sg) hx hb dX7_tape_10 rfl ?_
    refine lv_ldc2 (v := (-1)) hx hb hown (hts _ q1548) dX7_tape_11 ?_
    refine lv_ldc2 (v := lN 4) hx hb hown (hts _ q1362) dX7_tape_14 ?_
    refine ti_pS (As := [.long (Int32.toInt64 sg), .long ((-1)), .long (lN 4)]) (rest := []) (v := .int (ti_b (ti_inL (Int32.toInt64 sg) (((-1))) (lN 4)))) S hE hP [] (met_X7_isFrom l D E (Int32.toInt64 sg) (((-1))) (lN 4)) rfl (lw_S q1234 q1235 q73 q1236) 3 rfl (by decide +kernel) ⟨Nat.le_of_ble_eq_true rfl, Nat.le_of_ble_eq_true rfl⟩ hl.1 rfl (Nat.le_of_ble_eq_true rfl) ⟨Nat.le_refl _, Nat.le_refl _⟩ dX7_tape_17 ?_
    refine tb_eq (tgt := 34) hx hb dX7_tape_20 (by decide) (fun c20 => ?_) (fun c20 => ?_)
    · skip
      rw [ti_inL_m] at c20
      refine lv_bipush (v := (-2)) hx hb dX7_tape_34 (by decide) ?_
      have hs : ti_Stape T (nI t9) sg nn = (-2, T) := by rw [ti_Stape, if_neg (by rw [c4]; decide), if_pos c20]
      exact hret xq _ _ _ _ _ _ _ dX7_tape_36 (by rw [hs]) (by rw [hs]; exact hT) hP hS (Nat.le_refl _) (Nat.le_refl _)
    · skip
      rw [ti_inL_m] at c20
      refine lv_iload_n hx hb dX7_tape_23 rfl (lv_at hl 2 rfl) ?_
      refine lv_iconst (v := (-1)) hx hb dX7_tape_24 (by decide) ?_
      refine lv_icmp_eq (tgt := 37) hx hb dX7_tape_25 (by decide) (fun c25 => ?_) (fun c25 => ?_)
      · skip
        refine lv_iload_n hx hb dX7_tape_37 rfl (lv_at hl 2 rfl) ?_
        refine lv_iconst (v := (-1)) hx hb dX7_tape_38 (by decide) ?_
        refine lv_icmp_eq (tgt := 49) hx hb dX7_tape_39 (by decide) (fun c39 => ?_) (fun c39 => ?_)
        · skip
          refine lv_aload_n hx hb dX7_tape_49 rfl (lv_at hl 0 rfl) ?_
          refine va_get (v := .ref (ad 25)) hx hb hts in_X7 hown hK hP 0 rfl rfl 32 (by decide) (hts _ q1120) (fun _ h => h) rfl dX7_tape_50 ?_
          refine lv_iload_n hx hb dX7_tape_53 rfl (lv_at hl 1 rfl) ?_
          refine lv_iload_n hx hb dX7_tape_54 rfl (lv_at hl 2 rfl) ?_
          refine tn_iastR (f := xq.1) hx hb hK hP hD hS 25 0 rfl rfl (by omega) (by decide) dX7_tape_55 (fun H locs hP hD hS => ?_)
          have hP : va_P D vwCl (ti_wM E ad xg xd xt xf xj xh xs xv xb (va_up xq.1 t9 sg, xq.2.1, xq.2.2.1, xq.2.2.2) xk) H := hP
          have hD : va_D A (ti_wM E ad xg xd xt xf xj xh xs xv xb (va_up xq.1 t9 sg, xq.2.1, xq.2.2.1, xq.2.2.2) xk) := hD
          refine lv_aload_n hx hb dX7_tape_56 rfl (lv_at hl 0 rfl) ?_
          refine va_get (v := .ref (ad 26)) hx hb hts in_X7 hown hK hP 0 rfl rfl 33 (by decide) (hts _ q1121) (fun _ h => h) rfl dX7_tape_57 ?_
          refine lv_iload_n hx hb dX7_tape_60 rfl (lv_at hl 1 rfl) ?_
          refine lv_iload_n hx hb dX7_tape_61 rfl (lv_at hl 2 rfl) ?_
          refine lv_iconst (v := (-1)) hx hb dX7_tape_62 (by decide) ?_
          refine lv_icmp_ne (tgt := 70) hx hb dX7_tape_63 (by decide) (fun c63 => ?_) (fun c63 => ?_)
          · skip
            exact absurd c25 c63
          · skip
            refine lv_iconst (v := nI 0) hx hb dX7_tape_66 (by decide) ?_
            refine lv_goto (tgt := 71) hx hb dX7_tape_67 (by decide) ?_
            refine tn_iast (f := xq.2.1) hx hb hK hP hD hS 26 0 rfl rfl (by omega) (by decide) dX7_tape_71 (fun H locs hP hD hS => ?_)
            have hP : va_P D vwCl (ti_wM E ad xg xd xt xf xj xh xs xv xb (va_up xq.1 t9 sg, va_up xq.2.1 t9 0, xq.2.2.1, xq.2.2.2) xk) H := hP
            have hD : va_D A (ti_wM E ad xg xd xt xf xj xh xs xv xb (va_up xq.1 t9 sg, va_up xq.2.1 t9 0, xq.2.2.1, xq.2.2.2) xk) := hD
            refine lv_iconst (v := nI 0) hx hb dX7_tape_72 (by decide) ?_
            refine lv_istore (lv' := [(4, .int (nI 0)), (0, .ref (ad 0)), (1, .int (nI t9)), (2, .int sg), (3, .int nn)]) hx hb dX7_tape_73 hl (by decide) rfl (fun ls hl => ?_)
            have L75 : ∀ (N : Nat) (k : Nat) (g : Nat → Int64) (ls : Array Slot) (H : Heap) (locs : List Loc), va_P D vwCl (ti_wM E ad xg xd xt xf xj xh xs xv xb (va_up xq.1 t9 sg, va_up xq.2.1 t9 0, g, xq.2.2.2) xk) H → va_D A (ti_wM E ad xg xd xt xf xj xh xs xv xb (va_up xq.1 t9 sg, va_up xq.2.1 t9 0, g, xq.2.2.2) xk) → va_S A H0 H locs → (60 - k) < N → (k ≤ 60) → (∀ q, q / 60 ≠ t9 → g q = xq.2.2.1 q) → (∀ j, j < k → g (60 * t9 + j) = 0) → lv_has ls 5 [(0, .ref (ad 0)), (1, .int (nI t9)), (4, .int (nI k))] → W p l e (ti_rm 2 0 0) s m ([.ref (ad 0), .int (nI t9), .int sg, .int nn] : List Value).toArray below meth c H locs 0 0 Q (F0 m 75 ls []) := by
              intro N
              induction N with
              | zero => intro k g ls H locs hP hD hS h0; exact absurd h0 (Nat.not_lt_zero _)
              | succ N ih75 =>
                intro k g ls H locs hP hD hS hN hk hg1 hg2 hl
                refine lv_iload hx hb dX7_tape_75 (lv_at hl 2 rfl) ?_
                refine lv_bipush (v := nI 60) hx hb dX7_tape_77 (by decide) ?_
                refine tn_ge (tgt := 101) hx hb dX7_tape_79 (by decide) (by omega) (by omega) (fun c79 => ?_) (fun c79 => ?_)
                · skip
                  refine lv_iconst (v := nI 1) hx hb dX7_tape_101 (by decide) ?_
                  have hs : ti_Stape T (nI t9) sg nn = (1, va_up T t9 (-1, [])) := by rw [ti_Stape, if_neg (by rw [c4]; decide), if_neg (by rw [c20]; decide), if_pos c25, hct9]
                  exact hret (va_up xq.1 t9 sg, va_up xq.2.1 t9 0, g, xq.2.2.2) _ _ _ _ _ _ _ dX7_tape_102 (by rw [hs]; rfl) (by rw [hs]; exact by rw [← c25]; exact ti_MT_up hT (by omega) (Or.inl c25) (fun _ => rfl) hg1 rfl) hP hS (Nat.le_refl _) (Nat.le_refl _)
                · skip
                  refine lv_aload_n hx hb dX7_tape_82 rfl (lv_at hl 0 rfl) ?_
                  refine va_get (v := .ref (ad 27)) hx hb hts in_X7 hown hK hP 0 rfl rfl 34 (by decide) (hts _ q1122) (fun _ h => h) rfl dX7_tape_83 ?_
                  refine lv_bipush (v := nI 60) hx hb dX7_tape_86 (by decide) ?_
                  refine lv_iload_n hx hb dX7_tape_88 rfl (lv_at hl 1 rfl) ?_
                  refine tn_mul hx hb dX7_tape_89 ?_
                  refine lv_iload hx hb dX7_tape_90 (lv_at hl 2 rfl) ?_
                  refine tn_add hx hb dX7_tape_92 ?_
                  refine lv_lconst (v := lN 0) hx hb dX7_tape_93 (by decide) ?_
                  refine tn_last (f := g) hx hb hK hP hD hS 27 3 rfl rfl (by omega) (by decide) dX7_tape_94 (fun H locs hP hD hS => ?_)
                  have hP : va_P D vwCl (ti_wM E ad xg xd xt xf xj xh xs xv xb (va_up xq.1 t9 sg, va_up xq.2.1 t9 0, va_up g ((60 * t9) + k) (lN 0), xq.2.2.2) xk) H := hP
                  have hD : va_D A (ti_wM E ad xg xd xt xf xj xh xs xv xb (va_up xq.1 t9 sg, va_up xq.2.1 t9 0, va_up g ((60 * t9) + k) (lN 0), xq.2.2.2) xk) := hD
                  refine lv_iinc (v := nI (k + 1)) (lv' := [(4, .int (nI (k + 1))), (0, .ref (ad 0)), (1, .int (nI t9))]) hx hb dX7_tape_95 hl (k := 2) rfl (nI_1 k) (by decide) rfl (fun ls hl => ?_)
                  refine lv_goto (tgt := 75) hx hb dX7_tape_98 (by decide) ?_
                  exact ih75 (k + 1) (va_up g ((60 * t9) + k) (lN 0)) _ _ _ hP hD hS (by omega) (by omega) (fun q hq => by rw [va_up_ne _ _ (by omega)]; exact hg1 q hq) (fun j hj => by
                        by_cases e : j = k
                        · rw [e, va_up_self]; rfl
                        · rw [va_up_ne _ _ (by omega)]; exact hg2 j (by omega)) (lv_sub hl [1, 2, 0] rfl)
            exact L75 _ 0 xq.2.2.1 _ _ _ hP hD hS (Nat.lt_succ_self _) (by omega) (fun _ _ => rfl) (fun j hj => absurd hj (Nat.not_lt_zero _)) (lv_sub hl [1, 2, 0] rfl)
        · skip
          exact absurd c25 c39
      · skip
        refine lv_iload_n hx hb dX7_tape_28 rfl (lv_at hl 3 rfl) ?_
        refine lv_bipush (v := nI 60) hx hb dX7_tape_29 (by decide) ?_
        refine lv_icmp_le (tgt := 37) hx hb dX7_tape_31 (by decide) (fun c31 => ?_) (fun c31 => ?_)
        · skip
          have c31 : nn ≤ 60 := c31
          refine lv_iload_n hx hb dX7_tape_37 rfl (lv_at hl 2 rfl) ?_
          refine lv_iconst (v := (-1)) hx hb dX7_tape_38 (by decide) ?_
          refine lv_icmp_eq (tgt := 49) hx hb dX7_tape_39 (by decide) (fun c39 => ?_) (fun c39 => ?_)
          · skip
            exact absurd c39 c25
          · skip
            refine lv_iload_n hx hb dX7_tape_42 rfl (lv_at hl 3 rfl) ?_
            refine lv_if_ge (tgt := 49) hx hb dX7_tape_43 (by decide) (fun c43 => ?_) (fun c43 => ?_)
            · skip
              have c43 : ¬ nn < 0 := Int32.not_lt.mpr c43
              obtain ⟨n9, hn931, rfl⟩ := nI_of (x := nn) c43
              have hcn9 : ti_cl (nI n9) = n9 := ti_cl_nI (by omega)
              have hn60 : n9 ≤ 60 := (nI_leI (b := 60) hn931 (by decide)).mp c31
              refine lv_aload_n hx hb dX7_tape_49 rfl (lv_at hl 0 rfl) ?_
              refine va_get (v := .ref (ad 25)) hx hb hts in_X7 hown hK hP 0 rfl rfl 32 (by decide) (hts _ q1120) (fun _ h => h) rfl dX7_tape_50 ?_
              refine lv_iload_n hx hb dX7_tape_53 rfl (lv_at hl 1 rfl) ?_
              refine lv_iload_n hx hb dX7_tape_54 rfl (lv_at hl 2 rfl) ?_
              refine tn_iastR (f := xq.1) hx hb hK hP hD hS 25 0 rfl rfl (by omega) (by decide) dX7_tape_55 (fun H locs hP hD hS => ?_)
              have hP : va_P D vwCl (ti_wM E ad xg xd xt xf xj xh xs xv xb (va_up xq.1 t9 sg, xq.2.1, xq.2.2.1, xq.2.2.2) xk) H := hP
              have hD : va_D A (ti_wM E ad xg xd xt xf xj xh xs xv xb (va_up xq.1 t9 sg, xq.2.1, xq.2.2.1, xq.2.2.2) xk) := hD
              refine lv_aload_n hx hb dX7_tape_56 rfl (lv_at hl 0 rfl) ?_
              refine va_get (v := .ref (ad 26)) hx hb hts in_X7 hown hK hP 0 rfl rfl 33 (by decide) (hts _ q1121) (fun _ h => h) rfl dX7_tape_57 ?_
              refine lv_iload_n hx hb dX7_tape_60 rfl (lv_at hl 1 rfl) ?_
              refine lv_iload_n hx hb dX7_tape_61 rfl (lv_at hl 2 rfl) ?_
              refine lv_iconst (v := (-1)) hx hb dX7_tape_62 (by decide) ?_
              refine lv_icmp_ne (tgt := 70) hx hb dX7_tape_63 (by decide) (fun c63 => ?_) (fun c63 => ?_)
              · skip
                refine lv_iload_n hx hb dX7_tape_70 rfl (lv_at hl 3 rfl) ?_
                refine tn_iast (f := xq.2.1) hx hb hK hP hD hS 26 0 rfl rfl (by omega) (by decide) dX7_tape_71 (fun H locs hP hD hS => ?_)
                have hP : va_P D vwCl (ti_wM E ad xg xd xt xf xj xh xs xv xb (va_up xq.1 t9 sg, va_up xq.2.1 t9 n9, xq.2.2.1, xq.2.2.2) xk) H := hP
                have hD : va_D A (ti_wM E ad xg xd xt xf xj xh xs xv xb (va_up xq.1 t9 sg, va_up xq.2.1 t9 n9, xq.2.2.1, xq.2.2.2) xk) := hD
                refine lv_iconst (v := nI 0) hx hb dX7_tape_72 (by decide) ?_
                refine lv_istore (lv' := [(4, .int (nI 0)), (0, .ref (ad 0)), (1, .int (nI t9)), (2, .int sg), (3, .int (nI n9))]) hx hb dX7_tape_73 hl (by decide) rfl (fun ls hl => ?_)
                have L75 : ∀ (N : Nat) (k : Nat) (g : Nat → Int64) (ls : Array Slot) (H : Heap) (locs : List Loc), va_P D vwCl (ti_wM E ad xg xd xt xf xj xh xs xv xb (va_up xq.1 t9 sg, va_up xq.2.1 t9 n9, g, xq.2.2.2) xk) H → va_D A (ti_wM E ad xg xd xt xf xj xh xs xv xb (va_up xq.1 t9 sg, va_up xq.2.1 t9 n9, g, xq.2.2.2) xk) → va_S A H0 H locs → (60 - k) < N → (k ≤ 60) → (∀ q, q / 60 ≠ t9 → g q = xq.2.2.1 q) → (∀ j, j < k → g (60 * t9 + j) = 0) → lv_has ls 5 [(0, .ref (ad 0)), (1, .int (nI t9)), (4, .int (nI k))] → W p l e (ti_rm 2 0 0) s m ([.ref (ad 0), .int (nI t9), .int sg, .int (nI n9)] : List Value).toArray below meth c H locs 0 0 Q (F0 m 75 ls []) := by
                  intro N
                  induction N with
                  | zero => intro k g ls H locs hP hD hS h0; exact absurd h0 (Nat.not_lt_zero _)
                  | succ N ih75 =>
                    intro k g ls H locs hP hD hS hN hk hg1 hg2 hl
                    refine lv_iload hx hb dX7_tape_75 (lv_at hl 2 rfl) ?_
                    refine lv_bipush (v := nI 60) hx hb dX7_tape_77 (by decide) ?_
                    refine tn_ge (tgt := 101) hx hb dX7_tape_79 (by decide) (by omega) (by omega) (fun c79 => ?_) (fun c79 => ?_)
                    · skip
                      refine lv_iconst (v := nI 1) hx hb dX7_tape_101 (by decide) ?_
                      have hs : ti_Stape T (nI t9) sg (nI n9) = (1, va_up T t9 (sg, List.replicate n9 0)) := by rw [ti_Stape, if_neg (by rw [c4]; decide), if_neg (by rw [c20]; decide), if_neg c25, if_neg (Int32.not_lt.mpr c31), if_neg c43, hct9, hcn9]
                      exact hret (va_up xq.1 t9 sg, va_up xq.2.1 t9 n9, g, xq.2.2.2) _ _ _ _ _ _ _ dX7_tape_102 (by rw [hs]; rfl) (by rw [hs]; exact ti_MT_up hT hn60 (ti_sort_nat c20) (fun z => absurd z c25) hg1 (List.eq_replicate_iff.mpr ⟨by simp, fun b hb => by obtain ⟨k0, hk0, rfl⟩ := List.mem_map.mp hb; obtain ⟨z0, hz0, rfl⟩ := List.mem_range'.mp hk0; exact hg2 _ (by omega)⟩).symm) hP hS (Nat.le_refl _) (Nat.le_refl _)
                    · skip
                      refine lv_aload_n hx hb dX7_tape_82 rfl (lv_at hl 0 rfl) ?_
                      refine va_get (v := .ref (ad 27)) hx hb hts in_X7 hown hK hP 0 rfl rfl 34 (by decide) (hts _ q1122) (fun _ h => h) rfl dX7_tape_83 ?_
                      refine lv_bipush (v := nI 60) hx hb dX7_tape_86 (by decide) ?_
                      refine lv_iload_n hx hb dX7_tape_88 rfl (lv_at hl 1 rfl) ?_
                      refine tn_mul hx hb dX7_tape_89 ?_
                      refine lv_iload hx hb dX7_tape_90 (lv_at hl 2 rfl) ?_
                      refine tn_add hx hb dX7_tape_92 ?_
                      refine lv_lconst (v := lN 0) hx hb dX7_tape_93 (by decide) ?_
                      refine tn_last (f := g) hx hb hK hP hD hS 27 3 rfl rfl (by omega) (by decide) dX7_tape_94 (fun H locs hP hD hS => ?_)
                      have hP : va_P D vwCl (ti_wM E ad xg xd xt xf xj xh xs xv xb (va_up xq.1 t9 sg, va_up xq.2.1 t9 n9, va_up g ((60 * t9) + k) (lN 0), xq.2.2.2) xk) H := hP
                      have hD : va_D A (ti_wM E ad xg xd xt xf xj xh xs xv xb (va_up xq.1 t9 sg, va_up xq.2.1 t9 n9, va_up g ((60 * t9) + k) (lN 0), xq.2.2.2) xk) := hD
                      refine lv_iinc (v := nI (k + 1)) (lv' := [(4, .int (nI (k + 1))), (0, .ref (ad 0)), (1, .int (nI t9))]) hx hb dX7_tape_95 hl (k := 2) rfl (nI_1 k) (by decide) rfl (fun ls hl => ?_)
                      refine lv_goto (tgt := 75) hx hb dX7_tape_98 (by decide) ?_
                      exact ih75 (k + 1) (va_up g ((60 * t9) + k) (lN 0)) _ _ _ hP hD hS (by omega) (by omega) (fun q hq => by rw [va_up_ne _ _ (by omega)]; exact hg1 q hq) (fun j hj => by
                            by_cases e : j = k
                            · rw [e, va_up_self]; rfl
                            · rw [va_up_ne _ _ (by omega)]; exact hg2 j (by omega)) (lv_sub hl [1, 2, 0] rfl)
                exact L75 _ 0 xq.2.2.1 _ _ _ hP hD hS (Nat.lt_succ_self _) (by omega) (fun _ _ => rfl) (fun j hj => absurd hj (Nat.not_lt_zero _)) (lv_sub hl [1, 2, 0] rfl)
              · skip
                exact absurd c63 c25
            · skip
              have c43 : nn < 0 := Int32.not_le.mp c43
              refine lv_bipush (v := (-14)) hx hb dX7_tape_46 (by decide) ?_
              have hs : ti_Stape T (nI t9) sg nn = (-14, T) := by rw [ti_Stape, if_neg (by rw [c4]; decide), if_neg (by rw [c20]; decide), if_neg c25, if_neg (Int32.not_lt.mpr c31), if_pos c43]
              exact hret xq _ _ _ _ _ _ _ dX7_tape_48 (by rw [hs]) (by rw [hs]; exact hT) hP hS (Nat.le_refl _) (Nat.le_refl _)
        · skip
          have c31 : ¬ nn ≤ 60 := c31
          refine lv_bipush (v := (-2)) hx hb dX7_tape_34 (by decide) ?_
          have hs : ti_Stape T (nI t9) sg nn = (-2, T) := by rw [ti_Stape, if_neg (by rw [c4]; decide), if_neg (by rw [c20]; decide), if_neg c25, if_pos (Int32.not_le.mp c31)]
          exact hret xq _ _ _ _ _ _ _ dX7_tape_36 (by rw [hs]) (by rw [hs]; exact hT) hP hS (Nat.le_refl _) (Nat.le_refl _)
  · skip
    refine lv_iconst (v := (-1)) hx hb dX7_tape_7 (by decide) ?_
    have hs : ti_Stape T t sg nn = (-1, T) := by rw [ti_Stape, if_pos c4]
    exact hret xq _ _ _ _ _ _ _ dX7_tape_8 (by rw [hs]) (by rw [hs]; exact hT) hP hS (Nat.le_refl _) (Nat.le_refl _)

set_option maxHeartbeats 1000000 in
theorem met_X7_item (l : Launch) (D : va_G) (E : Nat → ClassId) (ad : Nat → Nat) (xg : ti_Mg) (xd : ti_Md) (xt : ti_Mt) (xf : ti_Mf) (xj : ti_Mj) (xh : ti_Mh) (xs : ti_Ms) (xv : ti_Mv) (xb : ti_Mb) (xq : ti_Mq) (xk : ti_Mk) (T : Nat → ti_TP) (hT : ti_MT xq T) (t j : Int32) (v : Int64) : ti_MetM (σ := ti_Mq) l D E yX7_item cX7_item 5 (some .int) 2 0 0 (ti_wM E ad xg xd xt xf xj xh xs xv xb xq xk) [.ref (ad 0), .int t, .int j, .long v] (fun u => ti_wM E ad xg xd xt xf xj xh xs xv xb u xk) (fun u => some (.int ((fun _ => (ti_Sitem T t j v).1) u))) (fun u => ti_MT u (ti_Sitem T t j v).2) := by
  refine ti_mutI (σ := ti_Mq) (vi := fun _ => (ti_Sitem T t j v).1) (by decide) (Nat.le_of_ble_eq_true rfl) ?_
  intro p e s m below meth c H H0 A Q ls S hE hP hD hS hA hinit hl hret
  have hx := S.1
  have hb := S.2.1
  have hown := S.2.2.2.1
  have hts := S.2.2.2.2
  have hK := hE.1
  have hl : lv_has ls 5 [(0, .ref (ad 0)), (1, .int t), (2, .int j), (3, .long v)] := hl
  refine lv_iload_n hx hb dX7_item_0 rfl (lv_at hl 1 rfl) ?_
  refine ti_pS (As := [.int t]) (rest := []) (v := .int (ti_b (ti_t5 t))) S hE hP [] (met_X7_isTape l D E t) rfl (lw_S q1541 q1542 q73 q1543) 1 rfl (by decide +kernel) ⟨Nat.le_of_ble_eq_true rfl, Nat.le_of_ble_eq_true rfl⟩ hl.1 rfl (Nat.le_of_ble_eq_true rfl) ⟨Nat.le_refl _, Nat.le_refl _⟩ dX7_item_1 ?_
  refine tb_ne (tgt := 9) hx hb dX7_item_4 (by decide) (fun c4 => ?_) (fun c4 => ?_)
  · skip
    obtain ⟨t9, ht96, rfl⟩ := ti_t5_nat c4
    have hct9 : ti_cl (nI t9) = t9 := ti_cl_nI (by omega)
    have hlt9 := hT.1 t9
    have hTt9 := hT.2.2.2 t9 ht96
    refine lv_aload_n hx hb dX7_item_9 rfl (lv_at hl 0 rfl) ?_
    refine va_get (v := .ref (ad 25)) hx hb hts in_X7 hown hK hP 0 rfl rfl 32 (by decide) (hts _ q1120) (fun _ h => h) rfl dX7_item_10 ?_
    refine lv_iload_n hx hb dX7_item_13 rfl (lv_at hl 1 rfl) ?_
    refine tn_ialdR (f := xq.1) hx hb hK hP 25 0 rfl rfl (by omega) (by decide) dX7_item_14 ?_
    refine lv_iconst (v := (-1)) hx hb dX7_item_15 (by decide) ?_
    refine lv_icmp_ne (tgt := 22) hx hb dX7_item_16 (by decide) (fun c16 => ?_) (fun c16 => ?_)
    · skip
      refine lv_iload_n hx hb dX7_item_22 rfl (lv_at hl 2 rfl) ?_
      refine lv_i2l (v := Int32.toInt64 j) hx hb dX7_item_23 rfl ?_
      refine lv_lconst (v := lN 0) hx hb dX7_item_24 (by decide) ?_
      refine lv_aload_n hx hb dX7_item_25 rfl (lv_at hl 0 rfl) ?_
      refine va_get (v := .ref (ad 26)) hx hb hts in_X7 hown hK hP 0 rfl rfl 33 (by decide) (hts _ q1121) (fun _ h => h) rfl dX7_item_26 ?_
      refine lv_iload_n hx hb dX7_item_29 rfl (lv_at hl 1 rfl) ?_
      refine tn_iald (f := xq.2.1) hx hb hK hP 26 0 rfl rfl (by omega) (by decide) dX7_item_30 ?_
      refine lv_iconst (v := nI 1) hx hb dX7_item_31 (by decide) ?_
      refine lv_isub hx hb dX7_item_32 ?_
      refine lv_i2l (v := Int32.toInt64 (((nI (xq.2.1 t9)) - (nI 1)))) hx hb dX7_item_33 rfl ?_
      refine ti_pS (As := [.long (Int32.toInt64 j), .long (lN 0), .long (Int32.toInt64 (((nI (xq.2.1 t9)) - (nI 1))))]) (rest := []) (v := .int (ti_b (ti_inL (Int32.toInt64 j) (lN 0) ((Int32.toInt64 (((nI (xq.2.1 t9)) - (nI 1)))))))) S hE hP [] (met_X7_isFrom l D E (Int32.toInt64 j) (lN 0) ((Int32.toInt64 (((nI (xq.2.1 t9)) - (nI 1)))))) rfl (lw_S q1234 q1235 q73 q1236) 3 rfl (by decide +kernel) ⟨Nat.le_of_ble_eq_true rfl, Nat.le_of_ble_eq_true rfl⟩ hl.1 rfl (Nat.le_of_ble_eq_true rfl) ⟨Nat.le_refl _, Nat.le_refl _⟩ dX7_item_34 ?_
      refine tb_ne (tgt := 43) hx hb dX7_item_37 (by decide) (fun c37 => ?_) (fun c37 => ?_)
      · skip
        rw [ti_inL_lt (by omega)] at c37
        obtain ⟨j9, hj9, rfl⟩ := ti_lt_nat c37
        have hcj : ti_cl (nI j9) = j9 := ti_cl_nI (by omega)
        refine lv_aload_n hx hb dX7_item_43 rfl (lv_at hl 0 rfl) ?_
        refine va_get (v := .ref (ad 27)) hx hb hts in_X7 hown hK hP 0 rfl rfl 34 (by decide) (hts _ q1122) (fun _ h => h) rfl dX7_item_44 ?_
        refine lv_bipush (v := nI 60) hx hb dX7_item_47 (by decide) ?_
        refine lv_iload_n hx hb dX7_item_49 rfl (lv_at hl 1 rfl) ?_
        refine tn_mul hx hb dX7_item_50 ?_
        refine lv_iload_n hx hb dX7_item_51 rfl (lv_at hl 2 rfl) ?_
        refine tn_add hx hb dX7_item_52 ?_
        refine lv_aload_n hx hb dX7_item_53 rfl (lv_at hl 0 rfl) ?_
        refine va_get (v := .ref (ad 25)) hx hb hts in_X7 hown hK hP 0 rfl rfl 32 (by decide) (hts _ q1120) (fun _ h => h) rfl dX7_item_54 ?_
        refine lv_iload_n hx hb dX7_item_57 rfl (lv_at hl 1 rfl) ?_
        refine tn_ialdR (f := xq.1) hx hb hK hP 25 0 rfl rfl (by omega) (by decide) dX7_item_58 ?_
        refine lv_lload_n hx hb dX7_item_59 rfl (lv_at hl 3 rfl) ?_
        refine ti_pS (As := [.int (xq.1 t9), .long v]) (rest := [.int (nI ((60 * t9) + j9)), .ref (ad 27)]) (v := .long (ti_as (xq.1 t9) v)) S hE hP [] (met_X7_asSort l D E (xq.1 t9) v) rfl (lw_S q1553 q1554 q73 q1555) 2 rfl (by decide +kernel) ⟨Nat.le_of_ble_eq_true rfl, Nat.le_of_ble_eq_true rfl⟩ hl.1 rfl (Nat.le_of_ble_eq_true rfl) ⟨Nat.le_refl _, Nat.le_refl _⟩ dX7_item_60 ?_
        refine tn_last (f := xq.2.2.1) hx hb hK hP hD hS 27 3 rfl rfl (by omega) (by decide) dX7_item_63 (fun H locs hP hD hS => ?_)
        have hP : va_P D vwCl (ti_wM E ad xg xd xt xf xj xh xs xv xb (xq.1, xq.2.1, va_up xq.2.2.1 ((60 * t9) + j9) ((ti_as (xq.1 t9) v)), xq.2.2.2) xk) H := hP
        have hD : va_D A (ti_wM E ad xg xd xt xf xj xh xs xv xb (xq.1, xq.2.1, va_up xq.2.2.1 ((60 * t9) + j9) ((ti_as (xq.1 t9) v)), xq.2.2.2) xk) := hD
        refine lv_iconst (v := nI 1) hx hb dX7_item_64 (by decide) ?_
        have hs : ti_Sitem T (nI t9) (nI j9) v = (1, va_up T t9 (xq.1 t9, (ti_qi xq t9).set j9 (ti_as (xq.1 t9) v))) := by rw [ti_Sitem, if_neg (by rw [c4]; decide), hct9, hTt9, if_neg c16, ti_qi_len, if_neg (by rw [c37]; decide), hcj]
        exact hret ((xq.1, xq.2.1, va_up xq.2.2.1 (60 * t9 + j9) (ti_as (xq.1 t9) v), xq.2.2.2)) _ _ _ _ _ _ _ dX7_item_65 (by rw [hs]; rfl) (by rw [hs]; exact by have h9 := ti_MT_up hT (t := t9) (s := xq.1 t9) (n := xq.2.1 t9) (g := va_up xq.2.2.1 (60 * t9 + j9) (ti_as (xq.1 t9) v)) (mv := xq.2.2.2) hlt9 (hT.2.1 t9 ht96) (hT.2.2.1 t9 ht96) (fun q hq => va_up_ne _ _ (by omega)) (ti_qi_set hj9); rw [ti_up_id, ti_up_id] at h9; exact h9) hP hS (Nat.le_refl _) (Nat.le_refl _)
      · skip
        rw [ti_inL_lt (by omega)] at c37
        refine lv_bipush (v := (-13)) hx hb dX7_item_40 (by decide) ?_
        have hs : ti_Sitem T (nI t9) j v = (-13, T) := by rw [ti_Sitem, if_neg (by rw [c4]; decide), hct9, hTt9, if_neg c16, ti_qi_len, if_pos c37]
        exact hret xq _ _ _ _ _ _ _ dX7_item_42 (by rw [hs]) (by rw [hs]; exact hT) hP hS (Nat.le_refl _) (Nat.le_refl _)
    · skip
      refine lv_bipush (v := (-11)) hx hb dX7_item_19 (by decide) ?_
      have hs : ti_Sitem T (nI t9) j v = (-11, T) := by rw [ti_Sitem, if_neg (by rw [c4]; decide), hct9, hTt9, if_pos c16]
      exact hret xq _ _ _ _ _ _ _ dX7_item_21 (by rw [hs]) (by rw [hs]; exact hT) hP hS (Nat.le_refl _) (Nat.le_refl _)
  · skip
    refine lv_iconst (v := (-1)) hx hb dX7_item_7 (by decide) ?_
    have hs : ti_Sitem T t j v = (-1, T) := by rw [ti_Sitem, if_pos c4]
    exact hret xq _ _ _ _ _ _ _ dX7_item_8 (by rw [hs]) (by rw [hs]; exact hT) hP hS (Nat.le_refl _) (Nat.le_refl _)

set_option maxHeartbeats 1000000 in
theorem met_X7_peek (l : Launch) (D : va_G) (E : Nat → ClassId) (ad : Nat → Nat) (xg : ti_Mg) (xd : ti_Md) (xt : ti_Mt) (xf : ti_Mf) (xj : ti_Mj) (xh : ti_Mh) (xs : ti_Ms) (xv : ti_Mv) (xb : ti_Mb) (xq : ti_Mq) (xk : ti_Mk) (T : Nat → ti_TP) (hT : ti_MT xq T) (t j : Int32) : ti_MetP l D E yX7_peek cX7_peek 3 (some .long) 2 (ti_wM E ad xg xd xt xf xj xh xs xv xb xq xk) [.ref (ad 0), .int t, .int j] (some (.long (ti_Speek T t j))) := by
  refine ti_pureJ (by decide) (Nat.le_of_ble_eq_true rfl) ?_
  intro p e s m below meth c H locs Q ls S hE hP hl hret
  have hx := S.1
  have hb := S.2.1
  have hown := S.2.2.2.1
  have hts := S.2.2.2.2
  have hK := hE.1
  have hl : lv_has ls 3 [(0, .ref (ad 0)), (1, .int t), (2, .int j)] := hl
  refine lv_iload_n hx hb dX7_peek_0 rfl (lv_at hl 1 rfl) ?_
  refine ti_pS (As := [.int t]) (rest := []) (v := .int (ti_b (ti_t5 t))) S hE hP [] (met_X7_isTape l D E t) rfl (lw_S q1541 q1542 q73 q1543) 1 rfl (by decide +kernel) ⟨Nat.le_of_ble_eq_true rfl, Nat.le_of_ble_eq_true rfl⟩ hl.1 rfl (Nat.le_of_ble_eq_true rfl) ⟨Nat.le_refl _, Nat.le_refl _⟩ dX7_peek_1 ?_
  refine tb_eq (tgt := 39) hx hb dX7_peek_4 (by decide) (fun c4 => ?_) (fun c4 => ?_)
  · skip
    refine lv_ldc2 (v := (-9223372036854775808)) hx hb hown (hts _ q1426) dX7_peek_39 ?_
    exact hret _ _ _ dX7_peek_42 (by rw [ti_Speek, if_pos (by rw [c4]; rfl)]; rfl)
  · skip
    obtain ⟨t9, ht96, rfl⟩ := ti_t5_nat c4
    have hct9 : ti_cl (nI t9) = t9 := ti_cl_nI (by omega)
    have hlt9 := hT.1 t9
    have hTt9 := hT.2.2.2 t9 ht96
    refine lv_iload_n hx hb dX7_peek_7 rfl (lv_at hl 2 rfl) ?_
    refine lv_i2l (v := Int32.toInt64 j) hx hb dX7_peek_8 rfl ?_
    refine lv_lconst (v := lN 0) hx hb dX7_peek_9 (by decide) ?_
    refine lv_aload_n hx hb dX7_peek_10 rfl (lv_at hl 0 rfl) ?_
    refine va_get (v := .ref (ad 26)) hx hb hts in_X7 hown hK hP 0 rfl rfl 33 (by decide) (hts _ q1121) (fun _ h => h) rfl dX7_peek_11 ?_
    refine lv_iload_n hx hb dX7_peek_14 rfl (lv_at hl 1 rfl) ?_
    refine tn_iald (f := xq.2.1) hx hb hK hP 26 0 rfl rfl (by omega) (by decide) dX7_peek_15 ?_
    refine lv_iconst (v := nI 1) hx hb dX7_peek_16 (by decide) ?_
    refine lv_isub hx hb dX7_peek_17 ?_
    refine lv_i2l (v := Int32.toInt64 (((nI (xq.2.1 t9)) - (nI 1)))) hx hb dX7_peek_18 rfl ?_
    refine ti_pS (As := [.long (Int32.toInt64 j), .long (lN 0), .long (Int32.toInt64 (((nI (xq.2.1 t9)) - (nI 1))))]) (rest := []) (v := .int (ti_b (ti_inL (Int32.toInt64 j) (lN 0) ((Int32.toInt64 (((nI (xq.2.1 t9)) - (nI 1)))))))) S hE hP [] (met_X7_isFrom l D E (Int32.toInt64 j) (lN 0) ((Int32.toInt64 (((nI (xq.2.1 t9)) - (nI 1)))))) rfl (lw_S q1234 q1235 q73 q1236) 3 rfl (by decide +kernel) ⟨Nat.le_of_ble_eq_true rfl, Nat.le_of_ble_eq_true rfl⟩ hl.1 rfl (Nat.le_of_ble_eq_true rfl) ⟨Nat.le_refl _, Nat.le_refl _⟩ dX7_peek_19 ?_
    refine tb_eq (tgt := 39) hx hb dX7_peek_22 (by decide) (fun c22 => ?_) (fun c22 => ?_)
    · skip
      rw [ti_inL_lt (by omega)] at c22
      refine lv_ldc2 (v := (-9223372036854775808)) hx hb hown (hts _ q1426) dX7_peek_39 ?_
      exact hret _ _ _ dX7_peek_42 (by rw [ti_Speek, hct9, hTt9, ti_qi_len, if_pos (by rw [c22]; simp)]; rfl)
    · skip
      rw [ti_inL_lt (by omega)] at c22
      obtain ⟨j9, hj9, rfl⟩ := ti_lt_nat c22
      have hcj : ti_cl (nI j9) = j9 := ti_cl_nI (by omega)
      refine lv_aload_n hx hb dX7_peek_25 rfl (lv_at hl 0 rfl) ?_
      refine va_get (v := .ref (ad 27)) hx hb hts in_X7 hown hK hP 0 rfl rfl 34 (by decide) (hts _ q1122) (fun _ h => h) rfl dX7_peek_26 ?_
      refine lv_bipush (v := nI 60) hx hb dX7_peek_29 (by decide) ?_
      refine lv_iload_n hx hb dX7_peek_31 rfl (lv_at hl 1 rfl) ?_
      refine tn_mul hx hb dX7_peek_32 ?_
      refine lv_iload_n hx hb dX7_peek_33 rfl (lv_at hl 2 rfl) ?_
      refine tn_add hx hb dX7_peek_34 ?_
      refine tn_lald (f := xq.2.2.1) hx hb hK hP 27 3 rfl rfl (by omega) (by decide) dX7_peek_35 ?_
      refine lv_goto (tgt := 42) hx hb dX7_peek_36 (by decide) ?_
      exact hret _ _ _ dX7_peek_42 (by rw [ti_Speek, hct9, hTt9, ti_qi_len, if_neg (by rw [c4, c22]; decide), hcj]; exact (ti_qi_at hj9).symm)

set_option maxHeartbeats 1000000 in
theorem met_X7_shift (l : Launch) (D : va_G) (E : Nat → ClassId) (ad : Nat → Nat) (xg : ti_Mg) (xd : ti_Md) (xt : ti_Mt) (xf : ti_Mf) (xj : ti_Mj) (xh : ti_Mh) (xs : ti_Ms) (xv : ti_Mv) (xb : ti_Mb) (xq : ti_Mq) (xk : ti_Mk) (T : Nat → ti_TP) (hT : ti_MT xq T) (t ii ot jj nn : Int32) : ti_MetM (σ := ti_Mq) l D E yX7_shift cX7_shift 7 (some .int) 2 0 0 (ti_wM E ad xg xd xt xf xj xh xs xv xb xq xk) [.ref (ad 0), .int t, .int ii, .int ot, .int jj, .int nn] (fun u => ti_wM E ad xg xd xt xf xj xh xs xv xb u xk) (fun u => some (.int ((fun _ => (ti_Sshift T t ii ot jj nn).1) u))) (fun u => ti_MT u (ti_Sshift T t ii ot jj nn).2) := by
  refine ti_mutI (σ := ti_Mq) (vi := fun _ => (ti_Sshift T t ii ot jj nn).1) (by decide) (Nat.le_of_ble_eq_true rfl) ?_
  intro p e s m below meth c H H0 A Q ls S hE hP hD hS hA hinit hl hret
  have hx := S.1
  have hb := S.2.1
  have hown := S.2.2.2.1
  have hts := S.2.2.2.2
  have hK := hE.1
  have hl : lv_has ls 7 [(0, .ref (ad 0)), (1, .int t), (2, .int ii), (3, .int ot), (4, .int jj), (5, .int nn)] := hl
  refine lv_iload_n hx hb dX7_shift_0 rfl (lv_at hl 1 rfl) ?_
  refine ti_pS (As := [.int t]) (rest := []) (v := .int (ti_b (ti_t5 t))) S hE hP [] (met_X7_isTape l D E t) rfl (lw_S q1541 q1542 q73 q1543) 1 rfl (by decide +kernel) ⟨Nat.le_of_ble_eq_true rfl, Nat.le_of_ble_eq_true rfl⟩ hl.1 rfl (Nat.le_of_ble_eq_true rfl) ⟨Nat.le_refl _, Nat.le_refl _⟩ dX7_shift_1 ?_
  refine tb_eq (tgt := 14) hx hb dX7_shift_4 (by decide) (fun c4 => ?_) (fun c4 => ?_)
  · skip
    refine lv_iconst (v := (-1)) hx hb dX7_shift_14 (by decide) ?_
    have hs : ti_Sshift T t ii ot jj nn = (-1, T) := by rw [ti_Sshift, if_pos (by rw [c4]; simp)]
    exact hret xq _ _ _ _ _ _ _ dX7_shift_15 (by rw [hs]) (by rw [hs]; exact hT) hP hS (Nat.le_refl _) (Nat.le_refl _)
  · skip
    obtain ⟨t9, ht96, rfl⟩ := ti_t5_nat c4
    have hct9 : ti_cl (nI t9) = t9 := ti_cl_nI (by omega)
    have hlt9 := hT.1 t9
    have hTt9 := hT.2.2.2 t9 ht96
    refine lv_iload_n hx hb dX7_shift_7 rfl (lv_at hl 3 rfl) ?_
    refine ti_pS (As := [.int ot]) (rest := []) (v := .int (ti_b (ti_t5 ot))) S hE hP [] (met_X7_isTape l D E ot) rfl (lw_S q1541 q1542 q73 q1543) 1 rfl (by decide +kernel) ⟨Nat.le_of_ble_eq_true rfl, Nat.le_of_ble_eq_true rfl⟩ hl.1 rfl (Nat.le_of_ble_eq_true rfl) ⟨Nat.le_refl _, Nat.le_refl _⟩ dX7_shift_8 ?_
    refine tb_ne (tgt := 16) hx hb dX7_shift_11 (by decide) (fun c11 => ?_) (fun c11 => ?_)
    · skip
      obtain ⟨o9, ho96, rfl⟩ := ti_t5_nat c11
      have hco9 : ti_cl (nI o9) = o9 := ti_cl_nI (by omega)
      have hlo9 := hT.1 o9
      have hTo9 := hT.2.2.2 o9 ho96
      have hbb : ¬ (ti_t5 (nI t9) && ti_t5 (nI o9)) = false := by rw [c4, c11]; decide
      refine lv_aload_n hx hb dX7_shift_16 rfl (lv_at hl 0 rfl) ?_
      refine va_get (v := .ref (ad 25)) hx hb hts in_X7 hown hK hP 0 rfl rfl 32 (by decide) (hts _ q1120) (fun _ h => h) rfl dX7_shift_17 ?_
      refine lv_iload_n hx hb dX7_shift_20 rfl (lv_at hl 1 rfl) ?_
      refine tn_ialdR (f := xq.1) hx hb hK hP 25 0 rfl rfl (by omega) (by decide) dX7_shift_21 ?_
      refine lv_iconst (v := (-1)) hx hb dX7_shift_22 (by decide) ?_
      refine lv_icmp_eq (tgt := 36) hx hb dX7_shift_23 (by decide) (fun c23 => ?_) (fun c23 => ?_)
      · skip
        refine lv_bipush (v := (-11)) hx hb dX7_shift_36 (by decide) ?_
        have hs : ti_Sshift T (nI t9) ii (nI o9) jj nn = (-11, T) := by rw [ti_Sshift, if_neg hbb, hct9, hco9, hTt9, hTo9, if_pos (Or.inl c23)]
        exact hret xq _ _ _ _ _ _ _ dX7_shift_38 (by rw [hs]) (by rw [hs]; exact hT) hP hS (Nat.le_refl _) (Nat.le_refl _)
      · skip
        refine lv_aload_n hx hb dX7_shift_26 rfl (lv_at hl 0 rfl) ?_
        refine va_get (v := .ref (ad 25)) hx hb hts in_X7 hown hK hP 0 rfl rfl 32 (by decide) (hts _ q1120) (fun _ h => h) rfl dX7_shift_27 ?_
        refine lv_iload_n hx hb dX7_shift_30 rfl (lv_at hl 3 rfl) ?_
        refine tn_ialdR (f := xq.1) hx hb hK hP 25 0 rfl rfl (by omega) (by decide) dX7_shift_31 ?_
        refine lv_iconst (v := (-1)) hx hb dX7_shift_32 (by decide) ?_
        refine lv_icmp_ne (tgt := 39) hx hb dX7_shift_33 (by decide) (fun c33 => ?_) (fun c33 => ?_)
        · skip
          refine lv_aload_n hx hb dX7_shift_39 rfl (lv_at hl 0 rfl) ?_
          refine va_get (v := .ref (ad 25)) hx hb hts in_X7 hown hK hP 0 rfl rfl 32 (by decide) (hts _ q1120) (fun _ h => h) rfl dX7_shift_40 ?_
          refine lv_iload_n hx hb dX7_shift_43 rfl (lv_at hl 1 rfl) ?_
          refine tn_ialdR (f := xq.1) hx hb hK hP 25 0 rfl rfl (by omega) (by decide) dX7_shift_44 ?_
          refine lv_aload_n hx hb dX7_shift_45 rfl (lv_at hl 0 rfl) ?_
          refine va_get (v := .ref (ad 25)) hx hb hts in_X7 hown hK hP 0 rfl rfl 32 (by decide) (hts _ q1120) (fun _ h => h) rfl dX7_shift_46 ?_
          refine lv_iload_n hx hb dX7_shift_49 rfl (lv_at hl 3 rfl) ?_
          refine tn_ialdR (f := xq.1) hx hb hK hP 25 0 rfl rfl (by omega) (by decide) dX7_shift_50 ?_
          refine lv_icmp_eq (tgt := 57) hx hb dX7_shift_51 (by decide) (fun c51 => ?_) (fun c51 => ?_)
          · skip
            refine lv_iload hx hb dX7_shift_57 (lv_at hl 5 rfl) ?_
            refine lv_if_lt (tgt := 98) hx hb dX7_shift_59 (by decide) (fun c59 => ?_) (fun c59 => ?_)
            · skip
              refine lv_bipush (v := (-13)) hx hb dX7_shift_98 (by decide) ?_
              have hs : ti_Sshift T (nI t9) ii (nI o9) jj nn = (-13, T) := by rw [ti_Sshift, if_neg hbb, hct9, hco9, hTt9, hTo9, if_neg (fun z => z.elim c23 c33), if_neg (fun z => z c51), if_pos (Or.inl c59)]
              exact hret xq _ _ _ _ _ _ _ dX7_shift_100 (by rw [hs]) (by rw [hs]; exact hT) hP hS (Nat.le_refl _) (Nat.le_refl _)
            · skip
              obtain ⟨n9, hn931, rfl⟩ := nI_of (x := nn) c59
              have hcn9 : ti_cl (nI n9) = n9 := ti_cl_nI (by omega)
              refine lv_iload_n hx hb dX7_shift_62 rfl (lv_at hl 2 rfl) ?_
              refine lv_if_lt (tgt := 98) hx hb dX7_shift_63 (by decide) (fun c63 => ?_) (fun c63 => ?_)
              · skip
                refine lv_bipush (v := (-13)) hx hb dX7_shift_98 (by decide) ?_
                have hs : ti_Sshift T (nI t9) ii (nI o9) jj (nI n9) = (-13, T) := by rw [ti_Sshift, if_neg hbb, hct9, hco9, hTt9, hTo9, if_neg (fun z => z.elim c23 c33), if_neg (fun z => z c51), if_pos (Or.inr (Or.inl c63))]
                exact hret xq _ _ _ _ _ _ _ dX7_shift_100 (by rw [hs]) (by rw [hs]; exact hT) hP hS (Nat.le_refl _) (Nat.le_refl _)
              · skip
                obtain ⟨i9, hi931, rfl⟩ := nI_of (x := ii) c63
                have hci9 : ti_cl (nI i9) = i9 := ti_cl_nI (by omega)
                refine lv_iload hx hb dX7_shift_66 (lv_at hl 4 rfl) ?_
                refine lv_if_lt (tgt := 98) hx hb dX7_shift_68 (by decide) (fun c68 => ?_) (fun c68 => ?_)
                · skip
                  refine lv_bipush (v := (-13)) hx hb dX7_shift_98 (by decide) ?_
                  have hs : ti_Sshift T (nI t9) (nI i9) (nI o9) jj (nI n9) = (-13, T) := by rw [ti_Sshift, if_neg hbb, hct9, hco9, hTt9, hTo9, if_neg (fun z => z.elim c23 c33), if_neg (fun z => z c51), if_pos (Or.inr (Or.inr (Or.inl c68)))]
                  exact hret xq _ _ _ _ _ _ _ dX7_shift_100 (by rw [hs]) (by rw [hs]; exact hT) hP hS (Nat.le_refl _) (Nat.le_refl _)
                · skip
                  obtain ⟨j9, hj931, rfl⟩ := nI_of (x := jj) c68
                  have hcj9 : ti_cl (nI j9) = j9 := ti_cl_nI (by omega)
                  have hsub1 : (nI (xq.2.1 t9) - nI i9).toInt = (xq.2.1 t9 : Int) - i9 := ti_subI (by omega) (by omega)
                  have hsub2 : (nI (xq.2.1 o9) - nI j9).toInt = (xq.2.1 o9 : Int) - j9 := ti_subI (by omega) (by omega)
                  refine lv_iload hx hb dX7_shift_71 (lv_at hl 5 rfl) ?_
                  refine lv_aload_n hx hb dX7_shift_73 rfl (lv_at hl 0 rfl) ?_
                  refine va_get (v := .ref (ad 26)) hx hb hts in_X7 hown hK hP 0 rfl rfl 33 (by decide) (hts _ q1121) (fun _ h => h) rfl dX7_shift_74 ?_
                  refine lv_iload_n hx hb dX7_shift_77 rfl (lv_at hl 1 rfl) ?_
                  refine tn_iald (f := xq.2.1) hx hb hK hP 26 0 rfl rfl (by omega) (by decide) dX7_shift_78 ?_
                  refine lv_iload_n hx hb dX7_shift_79 rfl (lv_at hl 2 rfl) ?_
                  refine lv_isub hx hb dX7_shift_80 ?_
                  refine lv_icmp_gt (tgt := 98) hx hb dX7_shift_81 (by decide) (fun c81 => ?_) (fun c81 => ?_)
                  · skip
                    refine lv_bipush (v := (-13)) hx hb dX7_shift_98 (by decide) ?_
                    have hs : ti_Sshift T (nI t9) (nI i9) (nI o9) (nI j9) (nI n9) = (-13, T) := by rw [ti_Sshift, if_neg hbb, hct9, hco9, hTt9, hTo9, if_neg (fun z => z.elim c23 c33), if_neg (fun z => z c51), if_pos (Or.inr (Or.inr (Or.inr (Or.inl (by rw [ti_qi_len, nI_toInt hi931, ← hsub1]; exact Int32.lt_iff_toInt_lt.mp c81)))))]
                    exact hret xq _ _ _ _ _ _ _ dX7_shift_100 (by rw [hs]) (by rw [hs]; exact hT) hP hS (Nat.le_refl _) (Nat.le_refl _)
                  · skip
                    refine lv_iload hx hb dX7_shift_84 (lv_at hl 5 rfl) ?_
                    refine lv_aload_n hx hb dX7_shift_86 rfl (lv_at hl 0 rfl) ?_
                    refine va_get (v := .ref (ad 26)) hx hb hts in_X7 hown hK hP 0 rfl rfl 33 (by decide) (hts _ q1121) (fun _ h => h) rfl dX7_shift_87 ?_
                    refine lv_iload_n hx hb dX7_shift_90 rfl (lv_at hl 3 rfl) ?_
                    refine tn_iald (f := xq.2.1) hx hb hK hP 26 0 rfl rfl (by omega) (by decide) dX7_shift_91 ?_
                    refine lv_iload hx hb dX7_shift_92 (lv_at hl 4 rfl) ?_
                    refine lv_isub hx hb dX7_shift_94 ?_
                    refine lv_icmp_le (tgt := 101) hx hb dX7_shift_95 (by decide) (fun c95 => ?_) (fun c95 => ?_)
                    · skip
                      have hno1 : ((ti_qi xq t9).length : Int) - (nI i9).toInt ≥ (nI n9).toInt := by
                        rw [ti_qi_len, nI_toInt hi931, ← hsub1]; exact Int.not_lt.mp (fun z => c81 (Int32.lt_iff_toInt_lt.mpr z))
                      have hno2 : ((ti_qi xq o9).length : Int) - (nI j9).toInt ≥ (nI n9).toInt := by
                        rw [ti_qi_len, nI_toInt hj931, ← hsub2]; exact Int32.le_iff_toInt_le.mp c95
                      have hno : ¬ (nI n9 < 0 ∨ nI i9 < 0 ∨ nI j9 < 0 ∨ ((ti_qi xq t9).length : Int) - (nI i9).toInt < (nI n9).toInt ∨ ((ti_qi xq o9).length : Int) - (nI j9).toInt < (nI n9).toInt) := by
                        intro z
                        rcases z with z | z | z | z | z
                        · exact c59 z
                        · exact c63 z
                        · exact c68 z
                        · omega
                        · omega
                      rw [ti_qi_len, nI_toInt hi931, nI_toInt hn931] at hno1
                      rw [ti_qi_len, nI_toInt hj931, nI_toInt hn931] at hno2
                      refine lv_iconst (v := nI 0) hx hb dX7_shift_101 (by decide) ?_
                      refine lv_istore (lv' := [(6, .int (nI 0)), (0, .ref (ad 0)), (1, .int (nI t9)), (2, .int (nI i9)), (3, .int (nI o9)), (4, .int (nI j9)), (5, .int (nI n9))]) hx hb dX7_shift_102 hl (by decide) rfl (fun ls hl => ?_)
                      have L104 : ∀ (N : Nat) (k : Nat) (g : Nat → Int64) (ls : Array Slot) (H : Heap) (locs : List Loc), va_P D vwCl (ti_wM E ad xg xd xt xf xj xh xs xv xb (xq.1, xq.2.1, xq.2.2.1, g) xk) H → va_D A (ti_wM E ad xg xd xt xf xj xh xs xv xb (xq.1, xq.2.1, xq.2.2.1, g) xk) → va_S A H0 H locs → (n9 - k) < N → (k ≤ n9) → (∀ q, q < k → g q = xq.2.2.1 (60 * t9 + i9 + q)) → lv_has ls 7 [(0, .ref (ad 0)), (1, .int (nI t9)), (2, .int (nI i9)), (3, .int (nI o9)), (4, .int (nI j9)), (5, .int (nI n9)), (6, .int (nI k))] → W p l e (ti_rm 2 0 0) s m ([.ref (ad 0), .int (nI t9), .int (nI i9), .int (nI o9), .int (nI j9), .int (nI n9)] : List Value).toArray below meth c H locs 0 0 Q (F0 m 104 ls []) := by
                        intro N
                        induction N with
                        | zero => intro k g ls H locs hP hD hS h0; exact absurd h0 (Nat.not_lt_zero _)
                        | succ N ih104 =>
                          intro k g ls H locs hP hD hS hN hk hg hl
                          refine lv_iload hx hb dX7_shift_104 (lv_at hl 6 rfl) ?_
                          refine lv_iload hx hb dX7_shift_106 (lv_at hl 5 rfl) ?_
                          refine tn_ge (tgt := 138) hx hb dX7_shift_108 (by decide) (by omega) (by omega) (fun c108 => ?_) (fun c108 => ?_)
                          · skip
                            refine lv_iconst (v := nI 0) hx hb dX7_shift_138 (by decide) ?_
                            refine lv_istore (lv' := [(6, .int (nI 0)), (0, .ref (ad 0)), (1, .int (nI t9)), (2, .int (nI i9)), (3, .int (nI o9)), (4, .int (nI j9)), (5, .int (nI n9))]) hx hb dX7_shift_139 hl (by decide) rfl (fun ls hl => ?_)
                            have L141 : ∀ (N : Nat) (k : Nat) (g2 : Nat → Int64) (ls : Array Slot) (H : Heap) (locs : List Loc), va_P D vwCl (ti_wM E ad xg xd xt xf xj xh xs xv xb (xq.1, xq.2.1, g2, g) xk) H → va_D A (ti_wM E ad xg xd xt xf xj xh xs xv xb (xq.1, xq.2.1, g2, g) xk) → va_S A H0 H locs → (n9 - k) < N → (k ≤ n9) → (∀ q, g2 q = if 60 * o9 + j9 ≤ q ∧ q < 60 * o9 + j9 + k then xq.2.2.1 (60 * t9 + i9 + (q - (60 * o9 + j9))) else xq.2.2.1 q) → lv_has ls 7 [(0, .ref (ad 0)), (1, .int (nI t9)), (2, .int (nI i9)), (3, .int (nI o9)), (4, .int (nI j9)), (5, .int (nI n9)), (6, .int (nI k))] → W p l e (ti_rm 2 0 0) s m ([.ref (ad 0), .int (nI t9), .int (nI i9), .int (nI o9), .int (nI j9), .int (nI n9)] : List Value).toArray below meth c H locs 0 0 Q (F0 m 141 ls []) := by
                              intro N
                              induction N with
                              | zero => intro k g2 ls H locs hP hD hS h0; exact absurd h0 (Nat.not_lt_zero _)
                              | succ N ih141 =>
                                intro k g2 ls H locs hP hD hS hN hk hg2 hl
                                refine lv_iload hx hb dX7_shift_141 (lv_at hl 6 rfl) ?_
                                refine lv_iload hx hb dX7_shift_143 (lv_at hl 5 rfl) ?_
                                refine tn_ge (tgt := 176) hx hb dX7_shift_145 (by decide) (by omega) (by omega) (fun c145 => ?_) (fun c145 => ?_)
                                · skip
                                  refine lv_iload hx hb dX7_shift_176 (lv_at hl 5 rfl) ?_
                                  have hg3 : ∀ q, g2 q = if 60 * o9 + j9 ≤ q ∧ q < 60 * o9 + j9 + n9 then xq.2.2.1 (60 * t9 + i9 + (q - (60 * o9 + j9))) else xq.2.2.1 q := by rw [← show k = n9 by omega]; exact hg2
                                  have h9 := ti_MT_up hT (t := o9) (s := xq.1 o9) (n := xq.2.1 o9) (g := g2) (mv := g) hlo9 (hT.2.1 o9 ho96) (hT.2.2.1 o9 ho96) (fun q hq => by rw [hg3 q, if_neg (by omega)]) (ti_mv_eq (by omega) (by omega) hlo9 hg3)
                                  rw [ti_up_id, ti_up_id] at h9
                                  have hs : ti_Sshift T (nI t9) (nI i9) (nI o9) (nI j9) (nI n9) = (nI n9, va_up T o9 (xq.1 o9, ti_mv (ti_qi xq t9) (ti_qi xq o9) i9 j9 n9)) := by rw [ti_Sshift, if_neg hbb, hct9, hco9, hTt9, hTo9, if_neg (fun z => z.elim c23 c33), if_neg (fun z => z c51), if_neg hno, hci9, hcj9, hcn9]
                                  exact hret (xq.1, xq.2.1, g2, g) _ _ _ _ _ _ _ dX7_shift_178 (by rw [hs]) (by rw [hs]; exact h9) hP hS (Nat.le_refl _) (Nat.le_refl _)
                                · skip
                                  refine lv_aload_n hx hb dX7_shift_148 rfl (lv_at hl 0 rfl) ?_
                                  refine va_get (v := .ref (ad 27)) hx hb hts in_X7 hown hK hP 0 rfl rfl 34 (by decide) (hts _ q1122) (fun _ h => h) rfl dX7_shift_149 ?_
                                  refine lv_bipush (v := nI 60) hx hb dX7_shift_152 (by decide) ?_
                                  refine lv_iload_n hx hb dX7_shift_154 rfl (lv_at hl 3 rfl) ?_
                                  refine tn_mul hx hb dX7_shift_155 ?_
                                  refine lv_iload hx hb dX7_shift_156 (lv_at hl 4 rfl) ?_
                                  refine tn_add hx hb dX7_shift_158 ?_
                                  refine lv_iload hx hb dX7_shift_159 (lv_at hl 6 rfl) ?_
                                  refine tn_add hx hb dX7_shift_161 ?_
                                  refine lv_aload_n hx hb dX7_shift_162 rfl (lv_at hl 0 rfl) ?_
                                  refine va_get (v := .ref (ad 28)) hx hb hts in_X7 hown hK hP 0 rfl rfl 35 (by decide) (hts _ q1123) (fun _ h => h) rfl dX7_shift_163 ?_
                                  refine lv_iload hx hb dX7_shift_166 (lv_at hl 6 rfl) ?_
                                  refine tn_lald (f := g) hx hb hK hP 28 3 rfl rfl (by omega) (by decide) dX7_shift_168 ?_
                                  refine tn_last (f := g2) hx hb hK hP hD hS 27 3 rfl rfl (by omega) (by decide) dX7_shift_169 (fun H locs hP hD hS => ?_)
                                  have hP : va_P D vwCl (ti_wM E ad xg xd xt xf xj xh xs xv xb (xq.1, xq.2.1, va_up g2 (((60 * o9) + j9) + k) (g k), g) xk) H := hP
                                  have hD : va_D A (ti_wM E ad xg xd xt xf xj xh xs xv xb (xq.1, xq.2.1, va_up g2 (((60 * o9) + j9) + k) (g k), g) xk) := hD
                                  refine lv_iinc (v := nI (k + 1)) (lv' := [(6, .int (nI (k + 1))), (0, .ref (ad 0)), (1, .int (nI t9)), (2, .int (nI i9)), (3, .int (nI o9)), (4, .int (nI j9)), (5, .int (nI n9))]) hx hb dX7_shift_170 hl (k := 6) rfl (nI_1 k) (by decide) rfl (fun ls hl => ?_)
                                  refine lv_goto (tgt := 141) hx hb dX7_shift_173 (by decide) ?_
                                  exact ih141 (k + 1) (va_up g2 (((60 * o9) + j9) + k) (g k)) _ _ _ hP hD hS (by omega) (by omega) (fun q => by
                                        by_cases e : q = 60 * o9 + j9 + k
                                        · rw [e, va_up_self, if_pos (by omega), hg k (by omega), show 60 * o9 + j9 + k - (60 * o9 + j9) = k by omega]
                                        · rw [va_up_ne _ _ e, hg2 q]
                                          by_cases hh : 60 * o9 + j9 ≤ q ∧ q < 60 * o9 + j9 + k
                                          · rw [if_pos hh, if_pos (by omega)]
                                          · rw [if_neg hh, if_neg (by omega)]) (lv_sub hl [1, 2, 3, 4, 5, 6, 0] rfl)
                            exact L141 _ 0 xq.2.2.1 _ _ _ hP hD hS (Nat.lt_succ_self _) (by omega) (fun q => by rw [if_neg (by omega)]) (lv_sub hl [1, 2, 3, 4, 5, 6, 0] rfl)
                          · skip
                            refine lv_aload_n hx hb dX7_shift_111 rfl (lv_at hl 0 rfl) ?_
                            refine va_get (v := .ref (ad 28)) hx hb hts in_X7 hown hK hP 0 rfl rfl 35 (by decide) (hts _ q1123) (fun _ h => h) rfl dX7_shift_112 ?_
                            refine lv_iload hx hb dX7_shift_115 (lv_at hl 6 rfl) ?_
                            refine lv_aload_n hx hb dX7_shift_117 rfl (lv_at hl 0 rfl) ?_
                            refine va_get (v := .ref (ad 27)) hx hb hts in_X7 hown hK hP 0 rfl rfl 34 (by decide) (hts _ q1122) (fun _ h => h) rfl dX7_shift_118 ?_
                            refine lv_bipush (v := nI 60) hx hb dX7_shift_121 (by decide) ?_
                            refine lv_iload_n hx hb dX7_shift_123 rfl (lv_at hl 1 rfl) ?_
                            refine tn_mul hx hb dX7_shift_124 ?_
                            refine lv_iload_n hx hb dX7_shift_125 rfl (lv_at hl 2 rfl) ?_
                            refine tn_add hx hb dX7_shift_126 ?_
                            refine lv_iload hx hb dX7_shift_127 (lv_at hl 6 rfl) ?_
                            refine tn_add hx hb dX7_shift_129 ?_
                            refine tn_lald (f := xq.2.2.1) hx hb hK hP 27 3 rfl rfl (by omega) (by decide) dX7_shift_130 ?_
                            refine tn_last (f := g) hx hb hK hP hD hS 28 3 rfl rfl (by omega) (by decide) dX7_shift_131 (fun H locs hP hD hS => ?_)
                            have hP : va_P D vwCl (ti_wM E ad xg xd xt xf xj xh xs xv xb (xq.1, xq.2.1, xq.2.2.1, va_up g k ((xq.2.2.1 (((60 * t9) + i9) + k)))) xk) H := hP
                            have hD : va_D A (ti_wM E ad xg xd xt xf xj xh xs xv xb (xq.1, xq.2.1, xq.2.2.1, va_up g k ((xq.2.2.1 (((60 * t9) + i9) + k)))) xk) := hD
                            refine lv_iinc (v := nI (k + 1)) (lv' := [(6, .int (nI (k + 1))), (0, .ref (ad 0)), (1, .int (nI t9)), (2, .int (nI i9)), (3, .int (nI o9)), (4, .int (nI j9)), (5, .int (nI n9))]) hx hb dX7_shift_132 hl (k := 6) rfl (nI_1 k) (by decide) rfl (fun ls hl => ?_)
                            refine lv_goto (tgt := 104) hx hb dX7_shift_135 (by decide) ?_
                            exact ih104 (k + 1) (va_up g k ((xq.2.2.1 (((60 * t9) + i9) + k)))) _ _ _ hP hD hS (by omega) (by omega) (fun q hq => by
                                  by_cases e : q = k
                                  · rw [e, va_up_self]
                                  · rw [va_up_ne _ _ e]; exact hg q (by omega)) (lv_sub hl [1, 2, 3, 4, 5, 6, 0] rfl)
                      exact L104 _ 0 xq.2.2.2 _ _ _ hP hD hS (Nat.lt_succ_self _) (by omega) (fun q hq => absurd hq (Nat.not_lt_zero _)) (lv_sub hl [1, 2, 3, 4, 5, 6, 0] rfl)
                    · skip
                      refine lv_bipush (v := (-13)) hx hb dX7_shift_98 (by decide) ?_
                      have hs : ti_Sshift T (nI t9) (nI i9) (nI o9) (nI j9) (nI n9) = (-13, T) := by rw [ti_Sshift, if_neg hbb, hct9, hco9, hTt9, hTo9, if_neg (fun z => z.elim c23 c33), if_neg (fun z => z c51), if_pos (Or.inr (Or.inr (Or.inr (Or.inr (by rw [ti_qi_len, nI_toInt hj931, ← hsub2]; exact Int32.lt_iff_toInt_lt.mp (Int32.not_le.mp c95))))))]
                      exact hret xq _ _ _ _ _ _ _ dX7_shift_100 (by rw [hs]) (by rw [hs]; exact hT) hP hS (Nat.le_refl _) (Nat.le_refl _)
          · skip
            refine lv_bipush (v := (-12)) hx hb dX7_shift_54 (by decide) ?_
            have hs : ti_Sshift T (nI t9) ii (nI o9) jj nn = (-12, T) := by rw [ti_Sshift, if_neg hbb, hct9, hco9, hTt9, hTo9, if_neg (fun z => z.elim c23 c33), if_pos c51]
            exact hret xq _ _ _ _ _ _ _ dX7_shift_56 (by rw [hs]) (by rw [hs]; exact hT) hP hS (Nat.le_refl _) (Nat.le_refl _)
        · skip
          refine lv_bipush (v := (-11)) hx hb dX7_shift_36 (by decide) ?_
          have hs : ti_Sshift T (nI t9) ii (nI o9) jj nn = (-11, T) := by rw [ti_Sshift, if_neg hbb, hct9, hco9, hTt9, hTo9, if_pos (Or.inr c33)]
          exact hret xq _ _ _ _ _ _ _ dX7_shift_38 (by rw [hs]) (by rw [hs]; exact hT) hP hS (Nat.le_refl _) (Nat.le_refl _)
    · skip
      refine lv_iconst (v := (-1)) hx hb dX7_shift_14 (by decide) ?_
      have hs : ti_Sshift T (nI t9) ii ot jj nn = (-1, T) := by rw [ti_Sshift, if_pos (by rw [c11]; simp)]
      exact hret xq _ _ _ _ _ _ _ dX7_shift_15 (by rw [hs]) (by rw [hs]; exact hT) hP hS (Nat.le_refl _) (Nat.le_refl _)

set_option maxHeartbeats 1000000 in
theorem met_X7_judge (l : Launch) (D : va_G) (E : Nat → ClassId) (ad : Nat → Nat) (xg : ti_Mg) (xd : ti_Md) (xt : ti_Mt) (xf : ti_Mf) (xj : ti_Mj) (xh : ti_Mh) (xs : ti_Ms) (xv : ti_Mv) (xb : ti_Mb) (xq : ti_Mq) (xk : ti_Mk) (hxg : ti_Mgok xg) (I : Nat → ti_GL) (hI : ti_MI xg I) (hxh : ti_Mhok xh) (T : Nat → ti_TP) (hT : ti_MT xq T) (v t ii : Int32) : ti_MetM (σ := ti_Mh) l D E yX7_judge cX7_judge 7 (some .int) 4 0 0 (ti_wM E ad xg xd xt xf xj xh xs xv xb xq xk) [.ref (ad 0), .int v, .int t, .int ii] (fun u => ti_wM E ad xg xd xt xf xj u xs xv xb xq xk) (fun u => some (.int ((fun _ => ti_Sjudge I T v t ii) u))) (fun u => ti_Mhok u) := by
  refine ti_mutI (σ := ti_Mh) (vi := fun _ => ti_Sjudge I T v t ii) (by decide) (Nat.le_of_ble_eq_true rfl) ?_
  intro p e s m below meth c H H0 A Q ls S hE hP hD hS hA hinit hl hret
  have hx := S.1
  have hb := S.2.1
  have hown := S.2.2.2.1
  have hts := S.2.2.2.2
  have hK := hE.1
  have hl : lv_has ls 7 [(0, .ref (ad 0)), (1, .int v), (2, .int t), (3, .int ii)] := hl
  refine lv_iload_n hx hb dX7_judge_0 rfl (lv_at hl 1 rfl) ?_
  refine ti_pS (As := [.int v]) (rest := []) (v := .int (ti_b (ti_bt v))) S hE hP [] (met_X7_isIdeal l D E v) rfl (lw_S q1231 q1232 q73 q1233) 1 rfl (by decide +kernel) ⟨Nat.le_of_ble_eq_true rfl, Nat.le_of_ble_eq_true rfl⟩ hl.1 rfl (Nat.le_of_ble_eq_true rfl) ⟨Nat.le_refl _, Nat.le_refl _⟩ dX7_judge_1 ?_
  refine tb_eq (tgt := 14) hx hb dX7_judge_4 (by decide) (fun c4 => ?_) (fun c4 => ?_)
  · skip
    refine lv_iconst (v := (-1)) hx hb dX7_judge_14 (by decide) ?_
    exact hret xh _ _ _ _ _ _ _ dX7_judge_15 (by rw [ti_Sjudge, if_pos (by rw [c4]; simp)]) (hxh) hP hS (Nat.le_refl _) (Nat.le_refl _)
  · skip
    obtain ⟨i, hi2, rfl⟩ := ti_bt_nat c4
    have hci : ti_cl (nI i) = i := ti_cl_nI (by omega)
    have hg := hI i hi2
    have hlen := ti_MI_len hI hi2
    have h6 := hxg.1 i
    refine lv_iload_n hx hb dX7_judge_7 rfl (lv_at hl 2 rfl) ?_
    refine ti_pS (As := [.int t]) (rest := []) (v := .int (ti_b (ti_t5 t))) S hE hP [] (met_X7_isTape l D E t) rfl (lw_S q1541 q1542 q73 q1543) 1 rfl (by decide +kernel) ⟨Nat.le_of_ble_eq_true rfl, Nat.le_of_ble_eq_true rfl⟩ hl.1 rfl (Nat.le_of_ble_eq_true rfl) ⟨Nat.le_refl _, Nat.le_refl _⟩ dX7_judge_8 ?_
    refine tb_ne (tgt := 16) hx hb dX7_judge_11 (by decide) (fun c11 => ?_) (fun c11 => ?_)
    · skip
      obtain ⟨t9, ht96, rfl⟩ := ti_t5_nat c11
      have hct9 : ti_cl (nI t9) = t9 := ti_cl_nI (by omega)
      have hlt9 := hT.1 t9
      have hTt9 := hT.2.2.2 t9 ht96
      have hbb : ¬ (ti_bt (nI i) && ti_t5 (nI t9)) = false := by rw [c4, c11]; decide
      refine lv_aload_n hx hb dX7_judge_16 rfl (lv_at hl 0 rfl) ?_
      refine va_get (v := .ref (ad 25)) hx hb hts in_X7 hown hK hP 0 rfl rfl 32 (by decide) (hts _ q1120) (fun _ h => h) rfl dX7_judge_17 ?_
      refine lv_iload_n hx hb dX7_judge_20 rfl (lv_at hl 2 rfl) ?_
      refine tn_ialdR (f := xq.1) hx hb hK hP 25 0 rfl rfl (by omega) (by decide) dX7_judge_21 ?_
      refine lv_if_le (tgt := 28) hx hb dX7_judge_22 (by decide) (fun c22 => ?_) (fun c22 => ?_)
      · skip
        rcases Classical.em (ii < 0) with hneg | hneg
        · skip
          refine lv_iconst (v := nI 0) hx hb dX7_judge_28 (by decide) ?_
          refine lv_istore (lv' := [(4, .int (nI 0)), (0, .ref (ad 0)), (1, .int (nI i)), (2, .int (nI t9)), (3, .int ii)]) hx hb dX7_judge_29 hl (by decide) rfl (fun ls hl => ?_)
          have L31 : ∀ (N : Nat) (k : Nat) (y : ti_Mh) (ls : Array Slot) (H : Heap) (locs : List Loc), va_P D vwCl (ti_wM E ad xg xd xt xf xj y xs xv xb xq xk) H → va_D A (ti_wM E ad xg xd xt xf xj y xs xv xb xq xk) → va_S A H0 H locs → (10 - k) < N → (k ≤ 10) → (ti_Mhok y) → (ti_jg (fun a => ti_hx (ti_pfx (ti_pn (I i) 1) a)) (xq.1 t9, ti_qi xq t9) ii (List.range' 0 10) = ti_jg (fun a => ti_hx (ti_pfx (ti_pn (I i) 1) a)) (xq.1 t9, ti_qi xq t9) ii (List.range' k (10 - k))) → lv_has ls 7 [(0, .ref (ad 0)), (1, .int (nI i)), (2, .int (nI t9)), (3, .int ii), (4, .int (nI k))] → W p l e (ti_rm 4 0 0) s m ([.ref (ad 0), .int (nI i), .int (nI t9), .int ii] : List Value).toArray below meth c H locs 0 0 Q (F0 m 31 ls []) := by
            intro N
            induction N with
            | zero => intro k y ls H locs hP hD hS h0; exact absurd h0 (Nat.not_lt_zero _)
            | succ N ih31 =>
              intro k y ls H locs hP hD hS hN hk hy hv hl
              refine lv_iload hx hb dX7_judge_31 (lv_at hl 4 rfl) ?_
              refine lv_bipush (v := nI 10) hx hb dX7_judge_33 (by decide) ?_
              refine tn_ge (tgt := 113) hx hb dX7_judge_35 (by decide) (by omega) (by omega) (fun c35 => ?_) (fun c35 => ?_)
              · skip
                rw [show 10 - k = 0 by omega] at hv
                refine lv_bipush (v := (-5)) hx hb dX7_judge_113 (by decide) ?_
                exact hret y _ _ _ _ _ _ _ dX7_judge_115 (by rw [ti_Sjudge, if_neg hbb, hci, hct9, hTt9, if_neg (Int32.not_lt.mpr c22), hv]; rfl) (hy) hP hS (Nat.le_refl _) (Nat.le_refl _)
              · skip
                obtain ⟨m9, hm9⟩ : ∃ m9, 10 - k = m9 + 1 := ⟨10 - k - 1, by omega⟩
                rw [hm9, show List.range' k (m9 + 1) = k :: List.range' (k + 1) m9 from rfl] at hv
                refine lv_iload_n hx hb dX7_judge_38 rfl (lv_at hl 3 rfl) ?_
                refine lv_i2l (v := Int32.toInt64 ii) hx hb dX7_judge_39 rfl ?_
                refine lv_iload hx hb dX7_judge_40 (lv_at hl 4 rfl) ?_
                refine lv_i2l (v := lN k) hx hb dX7_judge_42 (nI_l (by omega)) ?_
                refine lv_ladd hx hb dX7_judge_43 ?_
                refine lv_lstore (lv' := [(5, .long ((Int32.toInt64 ii) + (lN k))), (0, .ref (ad 0)), (1, .int (nI i)), (2, .int (nI t9)), (3, .int ii), (4, .int (nI k))]) hx hb dX7_judge_44 hl (by decide) rfl (fun ls hl => ?_)
                refine lv_iload_n hx hb dX7_judge_46 rfl (lv_at hl 4 rfl) ?_
                refine lv_if_lt (tgt := 73) hx hb dX7_judge_47 (by decide) (fun c47 => ?_) (fun c47 => ?_)
                · skip
                  refine lv_bipush (v := nI 100) hx hb dX7_judge_73 (by decide) ?_
                  refine lv_iload hx hb dX7_judge_75 (lv_at hl 5 rfl) ?_
                  refine tn_add hx hb dX7_judge_77 ?_
                  exact hret y _ _ _ _ _ _ _ dX7_judge_78 (by rw [ti_Sjudge, if_neg hbb, hci, hct9, hTt9, if_neg (Int32.not_lt.mpr c22), hv, ti_jg, if_pos (Or.inl hneg)]) (hy) hP hS (Nat.le_refl _) (Nat.le_refl _)
                · skip
                  exact absurd hneg c47
          exact L31 _ 0 xh _ _ _ hP hD hS (Nat.lt_succ_self _) (by omega) (hxh) (rfl) (lv_sub hl [1, 2, 3, 4, 0] rfl)
        · skip
          obtain ⟨i9, hi931, rfl⟩ := nI_of (x := ii) hneg
          have hci9 : ti_cl (nI i9) = i9 := ti_cl_nI (by omega)
          refine lv_iconst (v := nI 0) hx hb dX7_judge_28 (by decide) ?_
          refine lv_istore (lv' := [(4, .int (nI 0)), (0, .ref (ad 0)), (1, .int (nI i)), (2, .int (nI t9)), (3, .int (nI i9))]) hx hb dX7_judge_29 hl (by decide) rfl (fun ls hl => ?_)
          have L31 : ∀ (N : Nat) (k : Nat) (y : ti_Mh) (ls : Array Slot) (H : Heap) (locs : List Loc), va_P D vwCl (ti_wM E ad xg xd xt xf xj y xs xv xb xq xk) H → va_D A (ti_wM E ad xg xd xt xf xj y xs xv xb xq xk) → va_S A H0 H locs → (10 - k) < N → (k ≤ 10) → (ti_Mhok y) → (ti_jg (fun a => ti_hx (ti_pfx (ti_pn (I i) 1) a)) (xq.1 t9, ti_qi xq t9) (nI i9) (List.range' 0 10) = ti_jg (fun a => ti_hx (ti_pfx (ti_pn (I i) 1) a)) (xq.1 t9, ti_qi xq t9) (nI i9) (List.range' k (10 - k))) → lv_has ls 7 [(0, .ref (ad 0)), (1, .int (nI i)), (2, .int (nI t9)), (3, .int (nI i9)), (4, .int (nI k))] → W p l e (ti_rm 4 0 0) s m ([.ref (ad 0), .int (nI i), .int (nI t9), .int (nI i9)] : List Value).toArray below meth c H locs 0 0 Q (F0 m 31 ls []) := by
            intro N
            induction N with
            | zero => intro k y ls H locs hP hD hS h0; exact absurd h0 (Nat.not_lt_zero _)
            | succ N ih31 =>
              intro k y ls H locs hP hD hS hN hk hy hv hl
              refine lv_iload hx hb dX7_judge_31 (lv_at hl 4 rfl) ?_
              refine lv_bipush (v := nI 10) hx hb dX7_judge_33 (by decide) ?_
              refine tn_ge (tgt := 113) hx hb dX7_judge_35 (by decide) (by omega) (by omega) (fun c35 => ?_) (fun c35 => ?_)
              · skip
                rw [show 10 - k = 0 by omega] at hv
                refine lv_bipush (v := (-5)) hx hb dX7_judge_113 (by decide) ?_
                exact hret y _ _ _ _ _ _ _ dX7_judge_115 (by rw [ti_Sjudge, if_neg hbb, hci, hct9, hTt9, if_neg (Int32.not_lt.mpr c22), hv]; rfl) (hy) hP hS (Nat.le_refl _) (Nat.le_refl _)
              · skip
                obtain ⟨m9, hm9⟩ : ∃ m9, 10 - k = m9 + 1 := ⟨10 - k - 1, by omega⟩
                rw [hm9, show List.range' k (m9 + 1) = k :: List.range' (k + 1) m9 from rfl] at hv
                refine lv_iload_n hx hb dX7_judge_38 rfl (lv_at hl 3 rfl) ?_
                refine lv_i2l (v := lN i9) hx hb dX7_judge_39 (nI_l (by omega)) ?_
                refine lv_iload hx hb dX7_judge_40 (lv_at hl 4 rfl) ?_
                refine lv_i2l (v := lN k) hx hb dX7_judge_42 (nI_l (by omega)) ?_
                refine tl_add hx hb dX7_judge_43 ?_
                refine lv_lstore (lv' := [(5, .long (lN (i9 + k))), (0, .ref (ad 0)), (1, .int (nI i)), (2, .int (nI t9)), (3, .int (nI i9)), (4, .int (nI k))]) hx hb dX7_judge_44 hl (by decide) rfl (fun ls hl => ?_)
                refine lv_iload_n hx hb dX7_judge_46 rfl (lv_at hl 4 rfl) ?_
                refine tn_if_lt (tgt := 73) hx hb dX7_judge_47 (by decide) (by omega) ?_
                refine lv_aload_n hx hb dX7_judge_50 rfl (lv_at hl 1 rfl) ?_
                refine va_get (v := .ref (ad 25)) hx hb hts in_X7 hown hK hP 0 rfl rfl 32 (by decide) (hts _ q1120) (fun _ h => h) rfl dX7_judge_51 ?_
                refine lv_iload_n hx hb dX7_judge_54 rfl (lv_at hl 3 rfl) ?_
                refine tn_ialdR (f := xq.1) hx hb hK hP 25 0 rfl rfl (by omega) (by decide) dX7_judge_55 ?_
                refine lv_iconst (v := (-1)) hx hb dX7_judge_56 (by decide) ?_
                refine lv_icmp_eq (tgt := 73) hx hb dX7_judge_57 (by decide) (fun c57 => ?_) (fun c57 => ?_)
                · skip
                  refine lv_bipush (v := nI 100) hx hb dX7_judge_73 (by decide) ?_
                  refine lv_iload hx hb dX7_judge_75 (lv_at hl 5 rfl) ?_
                  refine tn_add hx hb dX7_judge_77 ?_
                  exact hret y _ _ _ _ _ _ _ dX7_judge_78 (by rw [ti_Sjudge, if_neg hbb, hci, hct9, hTt9, if_neg (Int32.not_lt.mpr c22), hv, ti_jg, if_pos (Or.inr (Or.inl c57))]) (hy) hP hS (Nat.le_refl _) (Nat.le_refl _)
                · skip
                  refine lv_lload hx hb dX7_judge_60 (lv_at hl 0 rfl) ?_
                  refine lv_aload_n hx hb dX7_judge_62 rfl (lv_at hl 1 rfl) ?_
                  refine va_get (v := .ref (ad 26)) hx hb hts in_X7 hown hK hP 0 rfl rfl 33 (by decide) (hts _ q1121) (fun _ h => h) rfl dX7_judge_63 ?_
                  refine lv_iload_n hx hb dX7_judge_66 rfl (lv_at hl 3 rfl) ?_
                  refine tn_iald (f := xq.2.1) hx hb hK hP 26 0 rfl rfl (by omega) (by decide) dX7_judge_67 ?_
                  refine lv_i2l (v := lN (xq.2.1 t9)) hx hb dX7_judge_68 (nI_l (by omega)) ?_
                  refine W.lcmp hx hb dX7_judge_69 ?_
                  refine tc_ltN (tgt := 79) hx hb dX7_judge_70 (by decide) (by omega) (by omega) (fun c70 => ?_) (fun c70 => ?_)
                  · skip
                    have hcon : ¬ (nI i9 < 0 ∨ xq.1 t9 = -1 ∨ (ti_qi xq t9).length ≤ ti_cl (nI i9) + k) := by rw [ti_qi_len, hci9]; exact fun z => z.elim hneg (fun z => z.elim c57 (fun z => absurd z (by omega)))
                    have hitm : (ti_qi xq t9).getD (ti_cl (nI i9) + k) 0 = xq.2.2.1 (60 * t9 + (i9 + k)) := by rw [hci9]; exact ti_qi_at c70
                    refine lv_aload_n hx hb dX7_judge_79 rfl (lv_at hl 1 rfl) ?_
                    refine va_get (v := .ref (ad 27)) hx hb hts in_X7 hown hK hP 0 rfl rfl 34 (by decide) (hts _ q1122) (fun _ h => h) rfl dX7_judge_80 ?_
                    refine lv_bipush (v := nI 60) hx hb dX7_judge_83 (by decide) ?_
                    refine lv_iload_n hx hb dX7_judge_85 rfl (lv_at hl 3 rfl) ?_
                    refine tn_mul hx hb dX7_judge_86 ?_
                    refine lv_lload hx hb dX7_judge_87 (lv_at hl 0 rfl) ?_
                    refine lv_l2i (v := nI (i9 + k)) hx hb dX7_judge_89 (lN_i (i9 + k)) ?_
                    refine tn_add hx hb dX7_judge_90 ?_
                    refine tn_lald (f := xq.2.2.1) hx hb hK hP 27 3 rfl rfl (by omega) (by decide) dX7_judge_91 ?_
                    refine lv_aload_n hx hb dX7_judge_92 rfl (lv_at hl 1 rfl) ?_
                    refine lv_iload_n hx hb dX7_judge_93 rfl (lv_at hl 2 rfl) ?_
                    refine lv_iload hx hb dX7_judge_94 (lv_at hl 5 rfl) ?_
                    refine ti_mVa (As := [.int (nI i), .int (nI k)]) (rest := [.long (xq.2.2.1 ((60 * t9) + (i9 + k)))]) S hE hP hD hS hA (met_X7_heightOf l D E ad xg xd xt xf xj y xs xv xb xq xk hxg i (by omega) hy k (by omega)) (fun _ => rfl) (lw_V q1446 q1448 qs52 q73 q1449) 2 rfl 0 rfl rfl (by decide +kernel) ⟨Nat.le_of_ble_eq_true rfl, Nat.le_of_ble_eq_true rfl⟩ hl.1 rfl (Nat.le_of_ble_eq_true rfl) ⟨Nat.le_refl _, Nat.le_refl _⟩ dX7_judge_96 (fun u1 H locs hu hP hD hS => ?_)
                    have hu1 := hu
                    have hP : va_P D vwCl (ti_wM E ad xg xd xt xf xj u1 xs xv xb xq xk) H := hP
                    have hD : va_D A (ti_wM E ad xg xd xt xf xj u1 xs xv xb xq xk) := hD
                    refine W.eq (g2 := F0 m 99 ls [.int (ti_hx (ti_pfx (ti_pn (ti_G xg i) 1) k)), .long (xq.2.2.1 ((60 * t9) + (i9 + k)))]) rfl ?_
                    refine lv_i2l (v := Int32.toInt64 ((ti_hx (ti_pfx (ti_pn (ti_G xg i) 1) k)))) hx hb dX7_judge_99 rfl ?_
                    refine W.lcmp hx hb dX7_judge_100 ?_
                    refine tc_eq (tgt := 107) hx hb dX7_judge_101 (by decide) (fun c101 => ?_) (fun c101 => ?_)
                    · skip
                      refine lv_iinc (v := nI (k + 1)) (lv' := [(4, .int (nI (k + 1))), (5, .long (lN (i9 + k))), (0, .ref (ad 0)), (1, .int (nI i)), (2, .int (nI t9)), (3, .int (nI i9))]) hx hb dX7_judge_107 hl (k := 5) rfl (nI_1 k) (by decide) rfl (fun ls hl => ?_)
                      refine lv_goto (tgt := 31) hx hb dX7_judge_110 (by decide) ?_
                      exact ih31 (k + 1) u1 _ _ _ hP hD hS (by omega) (by omega) (hu1) (by rw [hv, ti_jg, if_neg hcon, if_pos (by rw [hitm, c101, hg]), show 10 - (k + 1) = m9 by omega]) (lv_sub hl [2, 3, 4, 5, 0] rfl)
                    · skip
                      refine lv_iload hx hb dX7_judge_104 (lv_at hl 5 rfl) ?_
                      exact hret u1 _ _ _ _ _ _ _ dX7_judge_106 (by rw [ti_Sjudge, if_neg hbb, hci, hct9, hTt9, if_neg (Int32.not_lt.mpr c22), hv, ti_jg, if_neg hcon, if_neg (by rw [hitm, ← hg]; exact c101)]) (hu1) hP hS (Nat.le_refl _) (Nat.le_refl _)
                  · skip
                    refine lv_bipush (v := nI 100) hx hb dX7_judge_73 (by decide) ?_
                    refine lv_iload hx hb dX7_judge_75 (lv_at hl 5 rfl) ?_
                    refine tn_add hx hb dX7_judge_77 ?_
                    exact hret y _ _ _ _ _ _ _ dX7_judge_78 (by rw [ti_Sjudge, if_neg hbb, hci, hct9, hTt9, if_neg (Int32.not_lt.mpr c22), hv, ti_jg, if_pos (Or.inr (Or.inr (by rw [ti_qi_len, hci9]; omega)))]) (hy) hP hS (Nat.le_refl _) (Nat.le_refl _)
          exact L31 _ 0 xh _ _ _ hP hD hS (Nat.lt_succ_self _) (by omega) (hxh) (rfl) (lv_sub hl [1, 2, 3, 4, 0] rfl)
      · skip
        refine lv_bipush (v := (-12)) hx hb dX7_judge_25 (by decide) ?_
        exact hret xh _ _ _ _ _ _ _ dX7_judge_27 (by rw [ti_Sjudge, if_neg hbb, hci, hct9, hTt9, if_pos (Int32.not_le.mp c22)]) (hxh) hP hS (Nat.le_refl _) (Nat.le_refl _)
    · skip
      refine lv_iconst (v := (-1)) hx hb dX7_judge_14 (by decide) ?_
      exact hret xh _ _ _ _ _ _ _ dX7_judge_15 (by rw [ti_Sjudge, if_pos (by rw [c11]; simp)]) (hxh) hP hS (Nat.le_refl _) (Nat.le_refl _)
