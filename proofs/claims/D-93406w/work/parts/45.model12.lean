/-! TermIdealsModel: public methods, seventh part (printed by w_model12.py) -/
set_option maxRecDepth 100000
theorem ti_nod_app {G : ti_GL} {x : Nat × Nat} (h : G.Nodup) (hx : x ∉ G) : (G ++ [x]).Nodup := by
  refine List.nodup_append.mpr ⟨h, List.nodup_cons.mpr ⟨List.not_mem_nil, List.nodup_nil⟩, ?_⟩
  intro a ha b hb e
  rw [List.mem_singleton.mp hb] at e
  exact hx (e ▸ ha)
theorem ti_ls_nod (d : Nat) : ∀ (G acc : ti_GL), acc.Nodup → (ti_ls d G acc).Nodup
  | [], _, h => h
  | q :: r, acc, h => by
    rw [ti_ls]
    refine ti_ls_nod d r _ ?_
    by_cases hm : (q.1 - d, q.2 - d) ∈ acc
    · rw [if_pos hm]; exact h
    · rw [if_neg hm]; exact ti_nod_app h hm
theorem ti_hp_nod {G : ti_GL} (h : G.Nodup) (w d : Nat) : (ti_hp w d G).Nodup := by
  unfold ti_hp
  split
  · exact ti_ls_nod d G [] List.nodup_nil
  · split
    · split
      · exact h.sublist (List.eraseIdx_sublist _ _)
      · exact h
    · split
      · rename_i z; exact ti_nod_app h z.1
      · exact h
theorem ti_ev_nod : ∀ (EV G : ti_GL), G.Nodup → (ti_ev G EV).Nodup
  | [], _, h => h
  | q :: r, G, h => by rw [ti_ev]; exact ti_ev_nod r _ (ti_hp_nod h _ _)
/-- how many there are -/
def ti_Scount (a b c d e : Nat) (w : Int32) : Int32 := if w = 0 then nI a else if w = 1 then nI b else if w = 2 then nI c else if w = 3 then nI d else if w = 4 then nI e else -2
/-- one generator put into a row of the model -/
def ti_mset (x : ti_Mg) (p a b : Nat) : ti_Mg := (x.1, va_up x.2.1 p a, va_up x.2.2 p b)
theorem ti_mset_ok {x : ti_Mg} (h : ti_Mgok x) {p a b : Nat} (ha : a ≤ 9) (hb : b ≤ 9) : ti_Mgok (ti_mset x p a b) := ⟨h.1, ti_up_le h.2.1 ha, ti_up_le h.2.2 hb⟩
theorem ti_mset_G {x : ti_Mg} (h : ti_Mgok x) {i k a b : Nat} (hk : k < x.1 i) : ti_G (ti_mset x (6 * i + k) a b) i = (ti_G x i).set k (a, b) := by
  apply List.ext_getElem?
  intro j
  show (ti_gr (ti_ma (ti_mset x (6 * i + k) a b) i) (ti_mb (ti_mset x (6 * i + k) a b) i) 0 (x.1 i))[j]? = _
  by_cases hj : j < x.1 i
  · rw [ti_gr_at hj, List.getElem?_set]
    show some (va_up x.2.1 (6 * i + k) a (6 * i + (0 + j)), va_up x.2.2 (6 * i + k) b (6 * i + (0 + j))) = _
    by_cases e : k = j
    · subst e
      rw [if_pos rfl, if_pos (by show k < (ti_gr _ _ _ _).length; rw [ti_gr_len]; exact hk), Nat.zero_add, va_up_self, va_up_self]
    · rw [if_neg e, va_up_ne _ _ (by omega), va_up_ne _ _ (by omega)]
      show _ = (ti_gr _ _ 0 (x.1 i))[j]?
      rw [ti_gr_at hj]; rfl
  · rw [List.getElem?_eq_none (by rw [ti_gr_len]; omega), List.getElem?_eq_none (by rw [List.length_set]; show (ti_gr _ _ _ _).length ≤ j; rw [ti_gr_len]; omega)]
theorem ti_mset_Gn {x : ti_Mg} (h : ti_Mgok x) {i i' k a b : Nat} (hk : k < x.1 i) (hi : i' ≠ i) : ti_G (ti_mset x (6 * i + k) a b) i' = ti_G x i' := by
  have h6 := h.1 i'
  have h7 := h.1 i
  refine ti_gr_congr fun j hj => ?_
  have hj : j < x.1 i' := hj
  exact ⟨va_up_ne _ _ (by omega), va_up_ne _ _ (by omega)⟩
theorem ti_set_nod {G : ti_GL} (h : G.Nodup) {k : Nat} {x : Nat × Nat} (hx : x = G.getD k (0, 0) ∨ x ∉ G) : (G.set k x).Nodup := by
  by_cases hk : k < G.length
  · rcases hx with e | hx
    · rw [List.getD_eq_getElem?_getD, List.getElem?_eq_getElem hk, Option.getD_some] at e
      rw [e, List.set_getElem_self]; exact h
    · rw [List.set_eq_take_append_cons_drop, if_pos hk]
      have h' : (G.take k ++ G.drop k).Nodup := by rw [List.take_append_drop]; exact h
      obtain ⟨a1, a2, a3⟩ := List.nodup_append.mp h'
      have hs : (G.drop (k + 1)).Sublist (G.drop k) := by rw [← List.drop_drop (i := 1) (j := k)]; exact List.drop_sublist _ _
      refine List.nodup_append.mpr ⟨a1, List.nodup_cons.mpr ⟨fun z => hx (List.mem_of_mem_drop z), a2.sublist hs⟩, ?_⟩
      intro u hu v hv e
      rcases List.mem_cons.mp hv with e2 | e2
      · rw [e, e2] at hu; exact hx (List.mem_of_mem_take hu)
      · exact a3 u hu v (hs.subset e2) e
  · rw [List.set_eq_of_length_le (by omega)]; exact h
theorem ti_gr_mem {fa fb : Nat → Nat} {n k : Nat} (h : k < n) : (fa k, fb k) ∈ ti_gr fa fb 0 n := by
  refine List.mem_of_getElem? (i := k) ?_
  rw [ti_gr_at h, Nat.zero_add]
theorem ti_nod6 {x : ti_Mg} (hx : ti_Mgok x) {i : Nat} (h : (ti_G x i).Nodup) : ti_r2 (ti_G x i) 1000 (List.range' 1 9) ≤ 6 :=
  Nat.le_trans (ti_r2_le h 1000) (by show (ti_gr _ _ _ _).length ≤ 6; rw [ti_gr_len]; exact hx.1 i)
theorem ti_up_back (f : Nat → Nat) (p v : Nat) : va_up (va_up f p v) p (f p) = f := by
  funext j
  by_cases e : j = p
  · rw [e, va_up_self]
  · rw [va_up_ne _ _ e, va_up_ne _ _ e]

set_option maxHeartbeats 1000000 in
theorem met_X7_count (l : Launch) (D : va_G) (E : Nat → ClassId) (ad : Nat → Nat) (xg : ti_Mg) (xd : ti_Md) (xt : ti_Mt) (xf : ti_Mf) (xj : ti_Mj) (xh : ti_Mh) (xs : ti_Ms) (xv : ti_Mv) (xb : ti_Mb) (xq : ti_Mq) (xk : ti_Mk) (w : Int32) : ti_MetP l D E yX7_count cX7_count 2 (some .int) 0 (ti_wM E ad xg xd xt xf xj xh xs xv xb xq xk) [.ref (ad 0), .int w] (some (.int (ti_Scount xs.1 xv.1 xb.1 xt.2.1 xd.1 w))) := by
  refine ti_pureI (by decide) (Nat.le_of_ble_eq_true rfl) ?_
  intro p e s m below meth c H locs Q ls S hE hP hl hret
  have hx := S.1
  have hb := S.2.1
  have hown := S.2.2.2.1
  have hts := S.2.2.2.2
  have hK := hE.1
  have hl : lv_has ls 2 [(0, .ref (ad 0)), (1, .int w)] := hl
  refine lv_iload_n hx hb dX7_count_0 rfl (lv_at hl 1 rfl) ?_
  by_cases sw1_0 : w = 0
  · subst sw1_0
    refine lv_tableIn (off := 35) (tgt := 36) hx hb dX7_count_1 (by decide) (by decide) rfl (by decide) ?_
    refine lv_aload_n hx hb dX7_count_36 rfl (lv_at hl 0 rfl) ?_
    refine va_get (v := .int (nI xs.1)) hx hb hts in_X7 hown hK hP 0 rfl rfl 22 (by decide) (hts _ q1110) (fun _ h => h) rfl dX7_count_37 ?_
    exact hret _ _ _ dX7_count_40 (rfl)
  · skip
    by_cases sw1_1 : w = 1
    · subst sw1_1
      refine lv_tableIn (off := 40) (tgt := 41) hx hb dX7_count_1 (by decide) (by decide) rfl (by decide) ?_
      refine lv_aload_n hx hb dX7_count_41 rfl (lv_at hl 0 rfl) ?_
      refine va_get (v := .int (nI xv.1)) hx hb hts in_X7 hown hK hP 0 rfl rfl 26 (by decide) (hts _ q1114) (fun _ h => h) rfl dX7_count_42 ?_
      exact hret _ _ _ dX7_count_45 (rfl)
    · skip
      by_cases sw1_2 : w = 2
      · subst sw1_2
        refine lv_tableIn (off := 45) (tgt := 46) hx hb dX7_count_1 (by decide) (by decide) rfl (by decide) ?_
        refine lv_aload_n hx hb dX7_count_46 rfl (lv_at hl 0 rfl) ?_
        refine va_get (v := .int (nI xb.1)) hx hb hts in_X7 hown hK hP 0 rfl rfl 29 (by decide) (hts _ q1117) (fun _ h => h) rfl dX7_count_47 ?_
        exact hret _ _ _ dX7_count_50 (rfl)
      · skip
        by_cases sw1_3 : w = 3
        · subst sw1_3
          refine lv_tableIn (off := 50) (tgt := 51) hx hb dX7_count_1 (by decide) (by decide) rfl (by decide) ?_
          refine lv_aload_n hx hb dX7_count_51 rfl (lv_at hl 0 rfl) ?_
          refine va_get (v := .int (nI xt.2.1)) hx hb hts in_X7 hown hK hP 0 rfl rfl 9 (by decide) (hts _ q1097) (fun _ h => h) rfl dX7_count_52 ?_
          exact hret _ _ _ dX7_count_55 (rfl)
        · skip
          by_cases sw1_4 : w = 4
          · subst sw1_4
            refine lv_tableIn (off := 55) (tgt := 56) hx hb dX7_count_1 (by decide) (by decide) rfl (by decide) ?_
            refine lv_aload_n hx hb dX7_count_56 rfl (lv_at hl 0 rfl) ?_
            refine va_get (v := .int (nI xd.1)) hx hb hts in_X7 hown hK hP 0 rfl rfl 3 (by decide) (hts _ q1091) (fun _ h => h) rfl dX7_count_57 ?_
            exact hret _ _ _ dX7_count_60 (rfl)
          · skip
            refine lv_tableOut (tgt := 61) hx hb dX7_count_1 (Classical.byContradiction fun z => by
                have z1 : w.toInt = 0 ∨ w.toInt = 1 ∨ w.toInt = 2 ∨ w.toInt = 3 ∨ w.toInt = 4 := by omega
                rcases z1 with z2 | z2 | z2 | z2 | z2
                · exact sw1_0 (Int32.toInt_inj.mp z2)
                · exact sw1_1 (Int32.toInt_inj.mp z2)
                · exact sw1_2 (Int32.toInt_inj.mp z2)
                · exact sw1_3 (Int32.toInt_inj.mp z2)
                · exact sw1_4 (Int32.toInt_inj.mp z2)) (by decide) ?_
            refine lv_bipush (v := (-2)) hx hb dX7_count_61 (by decide) ?_
            exact hret _ _ _ dX7_count_63 (by rw [ti_Scount, if_neg sw1_0, if_neg sw1_1, if_neg sw1_2, if_neg sw1_3, if_neg sw1_4])

set_option maxHeartbeats 1000000 in
theorem met_X7_isSeen (l : Launch) (D : va_G) (E : Nat → ClassId) (ad : Nat → Nat) (xg : ti_Mg) (xd : ti_Md) (xt : ti_Mt) (xf : ti_Mf) (xj : ti_Mj) (xh : ti_Mh) (xs : ti_Ms) (xv : ti_Mv) (xb : ti_Mb) (xq : ti_Mq) (xk : ti_Mk) (hxg : ti_Mgok xg) (hxf : ti_Mfok xf) (hxj : ti_Mjok xj) (hxs : ti_Msok xs) (SN : List (Nat × Nat × Nat)) (hSN : ti_sl xs = SN) (hnd : (ti_G xg 0).Nodup) : ti_MetM (σ := ti_Mf × ti_Mj) l D E yX7_isSeen cX7_isSeen 3 (some .boolean) 4 0 0 (ti_wM E ad xg xd xt xf xj xh xs xv xb xq xk) [.ref (ad 0)] (fun u => ti_wM E ad xg xd xt u.1 u.2 xh xs xv xb xq xk) (fun u => some (.int (ti_b ((fun _ => ti_seen (ti_G xg 0) SN) u)))) (fun u => ti_Mfok u.1 ∧ ti_Mjok u.2) := by
  refine ti_mutZ (σ := ti_Mf × ti_Mj) (vb := fun _ => ti_seen (ti_G xg 0) SN) (by decide) (Nat.le_of_ble_eq_true rfl) ?_
  intro p e s m below meth c H H0 A Q ls S hE hP hD hS hA hinit hl hret
  have hx := S.1
  have hb := S.2.1
  have hown := S.2.2.2.1
  have hts := S.2.2.2.2
  have hK := hE.1
  have hl : lv_has ls 3 [(0, .ref (ad 0))] := hl
  have h4 := hxs.1
  have h6 := hxg.1 0
  have hgl : (ti_G xg 0).length = xg.1 0 := ti_gr_len _ _ _ _
  have hlen : SN.length = xs.1 := by rw [← hSN, ti_sl_len]
  refine lv_aload_n hx hb dX7_isSeen_0 rfl (lv_at hl 0 rfl) ?_
  refine va_get (v := .int (nI xs.1)) hx hb hts in_X7 hown hK hP 0 rfl rfl 22 (by decide) (hts _ q1110) (fun _ h => h) rfl dX7_isSeen_1 ?_
  refine tn_if_ne (tgt := 9) hx hb dX7_isSeen_4 (by decide) (by omega) (fun c4 => ?_) (fun c4 => ?_)
  · skip
    refine lv_aload_n hx hb dX7_isSeen_9 rfl (lv_at hl 0 rfl) ?_
    refine va_get (v := .ref (ad 1)) hx hb hts in_X7 hown hK hP 0 rfl rfl 0 (by decide) (hts _ q1088) (fun _ h => h) rfl dX7_isSeen_10 ?_
    refine lv_iconst (v := nI 0) hx hb dX7_isSeen_13 (by decide) ?_
    refine tn_iald (f := xg.1) hx hb hK hP 1 0 rfl rfl (by omega) (by decide) dX7_isSeen_14 ?_
    have b14 := hxg.1 0
    refine tn_if_ne (tgt := 20) hx hb dX7_isSeen_15 (by decide) (by omega) (fun c15 => ?_) (fun c15 => ?_)
    · skip
      refine lv_aload_n hx hb dX7_isSeen_20 rfl (lv_at hl 0 rfl) ?_
      refine lv_iconst (v := nI 0) hx hb dX7_isSeen_21 (by decide) ?_
      refine ti_mVa (As := [.int (nI 0)]) (rest := []) S hE hP hD hS hA (met_X7_tellsFaces l D E ad xg xd xt xf xj xh xs xv xb xq xk hxg 0 (by decide) (Nat.le_trans (ti_r2_le hnd 1000) (by show (ti_gr _ _ _ _).length ≤ 6; rw [ti_gr_len]; exact hxg.1 0)) hxf) (fun _ => rfl) (lw_V q1285 q1287 qs32 q73 q1288) 1 rfl 0 rfl rfl (by decide +kernel) ⟨Nat.le_of_ble_eq_true rfl, Nat.le_of_ble_eq_true rfl⟩ hl.1 rfl (Nat.le_of_ble_eq_true rfl) ⟨Nat.le_refl _, Nat.le_refl _⟩ dX7_isSeen_22 (fun u1 H locs hu hP hD hS => ?_)
      obtain ⟨hF1, hF2⟩ := hu
      have hF3 : ti_F u1 = ti_FF (ti_G xg 0) := hF1
      have hP : va_P D vwCl (ti_wM E ad xg xd xt u1 xj xh xs xv xb xq xk) H := hP
      have hD : va_D A (ti_wM E ad xg xd xt u1 xj xh xs xv xb xq xk) := hD
      refine W.eq (g2 := F0 m 25 ls []) rfl ?_
      refine lv_aload_n hx hb dX7_isSeen_25 rfl (lv_at hl 0 rfl) ?_
      refine ti_mVa (As := []) (rest := []) S hE hP hD hS hA (met_X7_tellsJumps l D E ad xg xd xt u1 xj xh xs xv xb xq xk hF2 hxj) (fun _ => rfl) (lw_V q1379 q1381 qs46 q73 q1382) 0 rfl 0 rfl rfl (by decide +kernel) ⟨Nat.le_of_ble_eq_true rfl, Nat.le_of_ble_eq_true rfl⟩ hl.1 rfl (Nat.le_of_ble_eq_true rfl) ⟨Nat.le_refl _, Nat.le_refl _⟩ dX7_isSeen_26 (fun u2 H locs hu hP hD hS => ?_)
      obtain ⟨hJ1, hJ2⟩ := hu
      rw [hF3] at hJ1
      have hJl : (ti_ml (ti_FF (ti_G xg 0)) (List.range' 0 100) []).length = u2.1 := by rw [← hJ1, ti_gr_len]
      have hj100 := hJ2.1
      have hP : va_P D vwCl (ti_wM E ad xg xd xt u1 u2 xh xs xv xb xq xk) H := hP
      have hD : va_D A (ti_wM E ad xg xd xt u1 u2 xh xs xv xb xq xk) := hD
      refine W.eq (g2 := F0 m 29 ls []) rfl ?_
      refine lv_iconst (v := nI 1) hx hb dX7_isSeen_29 (by decide) ?_
      refine lv_istore_n (lv' := [(1, .int (nI 1)), (0, .ref (ad 0))]) hx hb dX7_isSeen_30 rfl hl (by decide) rfl (fun ls hl => ?_)
      refine lv_iconst (v := nI 0) hx hb dX7_isSeen_31 (by decide) ?_
      refine lv_istore_n (lv' := [(2, .int (nI 0)), (1, .int (nI 1)), (0, .ref (ad 0))]) hx hb dX7_isSeen_32 rfl hl (by decide) rfl (fun ls hl => ?_)
      have L33 : ∀ (N : Nat) (z : Bool) (k : Nat) (ls : Array Slot) (H : Heap) (locs : List Loc), va_P D vwCl (ti_wM E ad xg xd xt u1 u2 xh xs xv xb xq xk) H → va_D A (ti_wM E ad xg xd xt u1 u2 xh xs xv xb xq xk) → va_S A H0 H locs → (xs.1 - k) < N → (k ≤ xs.1) → (ti_so (ti_ml (ti_FF (ti_G xg 0)) (List.range' 0 100) []) SN = (z && ti_so (ti_ml (ti_FF (ti_G xg 0)) (List.range' 0 100) []) (ti_fr xs.2.1 xs.2.2.1 xs.2.2.2 k (xs.1 - k)))) → lv_has ls 3 [(0, .ref (ad 0)), (1, .int (ti_b z)), (2, .int (nI k))] → W p l e (ti_rm 4 0 0) s m ([.ref (ad 0)] : List Value).toArray below meth c H locs 0 0 Q (F0 m 33 ls []) := by
        intro N
        induction N with
        | zero => intro z k ls H locs hP hD hS h0; exact absurd h0 (Nat.not_lt_zero _)
        | succ N ih33 =>
          intro z k ls H locs hP hD hS hN hkn hv hl
          refine lv_iload_n hx hb dX7_isSeen_33 rfl (lv_at hl 2 rfl) ?_
          refine lv_aload_n hx hb dX7_isSeen_34 rfl (lv_at hl 0 rfl) ?_
          refine va_get (v := .int (nI xs.1)) hx hb hts in_X7 hown hK hP 0 rfl rfl 22 (by decide) (hts _ q1110) (fun _ h => h) rfl dX7_isSeen_35 ?_
          refine tn_ge (tgt := 109) hx hb dX7_isSeen_38 (by decide) (by omega) (by omega) (fun c38 => ?_) (fun c38 => ?_)
          · skip
            rw [show xs.1 - k = 0 by omega, ti_fr_0] at hv
            have hv : ti_so (ti_ml (ti_FF (ti_G xg 0)) (List.range' 0 100) []) SN = z := by rw [hv]; cases z <;> rfl
            refine lv_iload_n hx hb dX7_isSeen_109 rfl (lv_at hl 1 rfl) ?_
            exact hret (u1, u2) _ _ _ _ _ _ _ dX7_isSeen_110 (by rw [ti_seen, if_neg (by omega), if_neg (by omega), hv]) (⟨hF2, hJ2⟩) hP hS (Nat.le_refl _) (Nat.le_refl _)
          · skip
            obtain ⟨m9, hm9⟩ : ∃ m9, xs.1 - k = m9 + 1 := ⟨xs.1 - k - 1, by omega⟩
            rw [hm9, ti_fr_s] at hv
            have hb99 := hxs.2.1 k
            refine lv_iload_n hx hb dX7_isSeen_41 rfl (lv_at hl 1 rfl) ?_
            refine tb_eq (tgt := 101) hx hb dX7_isSeen_42 (by decide) (fun c42 => ?_) (fun c42 => ?_)
            · skip
              refine lv_iconst (v := nI 0) hx hb dX7_isSeen_101 (by decide) ?_
              refine lv_istore_n (lv' := [(1, .int (nI 0)), (0, .ref (ad 0)), (2, .int (nI k))]) hx hb dX7_isSeen_102 rfl hl (by decide) rfl (fun ls hl => ?_)
              refine lv_iinc (v := nI (k + 1)) (lv' := [(2, .int (nI (k + 1))), (1, .int (nI 0)), (0, .ref (ad 0))]) hx hb dX7_isSeen_103 hl (k := 2) rfl (nI_1 k) (by decide) rfl (fun ls hl => ?_)
              refine lv_goto (tgt := 33) hx hb dX7_isSeen_106 (by decide) ?_
              exact ih33 false (k + 1) _ _ _ hP hD hS (by omega) (by omega) (by rw [hv, c42]; rfl) (lv_sub hl [2, 1, 0] rfl)
            · skip
              refine lv_aload_n hx hb dX7_isSeen_45 rfl (lv_at hl 0 rfl) ?_
              refine va_get (v := .ref (ad 18)) hx hb hts in_X7 hown hK hP 0 rfl rfl 23 (by decide) (hts _ q1111) (fun _ h => h) rfl dX7_isSeen_46 ?_
              refine lv_iload_n hx hb dX7_isSeen_49 rfl (lv_at hl 2 rfl) ?_
              refine tn_iald (f := xs.2.1) hx hb hK hP 18 0 rfl rfl (by omega) (by decide) dX7_isSeen_50 ?_
              have b50 := hxs.2.1 k
              refine lv_aload_n hx hb dX7_isSeen_51 rfl (lv_at hl 0 rfl) ?_
              refine va_get (v := .int (nI u2.1)) hx hb hts in_X7 hown hK hP 0 rfl rfl 16 (by decide) (hts _ q1104) (fun _ h => h) rfl dX7_isSeen_52 ?_
              refine tn_ge (tgt := 101) hx hb dX7_isSeen_55 (by decide) (by omega) (by omega) (fun c55 => ?_) (fun c55 => ?_)
              · skip
                refine lv_iconst (v := nI 0) hx hb dX7_isSeen_101 (by decide) ?_
                refine lv_istore_n (lv' := [(1, .int (nI 0)), (0, .ref (ad 0)), (2, .int (nI k))]) hx hb dX7_isSeen_102 rfl hl (by decide) rfl (fun ls hl => ?_)
                refine lv_iinc (v := nI (k + 1)) (lv' := [(2, .int (nI (k + 1))), (1, .int (nI 0)), (0, .ref (ad 0))]) hx hb dX7_isSeen_103 hl (k := 2) rfl (nI_1 k) (by decide) rfl (fun ls hl => ?_)
                refine lv_goto (tgt := 33) hx hb dX7_isSeen_106 (by decide) ?_
                exact ih33 false (k + 1) _ _ _ hP hD hS (by omega) (by omega) (by rw [hv, c42, ti_so, if_neg (fun z9 => absurd (hJl ▸ z9.1) (Nat.not_lt.mpr c55))]; rfl) (lv_sub hl [2, 1, 0] rfl)
              · skip
                have hjd : (ti_ml (ti_FF (ti_G xg 0)) (List.range' 0 100) []).getD (xs.2.1 k) (0, 0) = (u2.2.1 (xs.2.1 k), u2.2.2 (xs.2.1 k)) := by rw [← hJ1]; exact ti_gr_getD (by omega)
                refine lv_aload_n hx hb dX7_isSeen_58 rfl (lv_at hl 0 rfl) ?_
                refine va_get (v := .ref (ad 13)) hx hb hts in_X7 hown hK hP 0 rfl rfl 17 (by decide) (hts _ q1105) (fun _ h => h) rfl dX7_isSeen_59 ?_
                refine lv_aload_n hx hb dX7_isSeen_62 rfl (lv_at hl 0 rfl) ?_
                refine va_get (v := .ref (ad 18)) hx hb hts in_X7 hown hK hP 0 rfl rfl 23 (by decide) (hts _ q1111) (fun _ h => h) rfl dX7_isSeen_63 ?_
                refine lv_iload_n hx hb dX7_isSeen_66 rfl (lv_at hl 2 rfl) ?_
                refine tn_iald (f := xs.2.1) hx hb hK hP 18 0 rfl rfl (by omega) (by decide) dX7_isSeen_67 ?_
                have b67 := hxs.2.1 k
                refine tn_iald (f := u2.2.1) hx hb hK hP 13 0 rfl rfl (by omega) (by decide) dX7_isSeen_68 ?_
                have b68 := hJ2.2.1 (xs.2.1 k)
                refine lv_aload_n hx hb dX7_isSeen_69 rfl (lv_at hl 0 rfl) ?_
                refine va_get (v := .ref (ad 20)) hx hb hts in_X7 hown hK hP 0 rfl rfl 25 (by decide) (hts _ q1113) (fun _ h => h) rfl dX7_isSeen_70 ?_
                refine lv_iload_n hx hb dX7_isSeen_73 rfl (lv_at hl 2 rfl) ?_
                refine tn_iald (f := xs.2.2.2) hx hb hK hP 20 0 rfl rfl (by omega) (by decide) dX7_isSeen_74 ?_
                have b74 := hxs.2.2.2 k
                refine tn_mul hx hb dX7_isSeen_75 ?_
                have b75 : (u2.2.1 (xs.2.1 k)) * (xs.2.2.2 k) ≤ 99000 := Nat.mul_le_mul b68 b74
                refine lv_aload_n hx hb dX7_isSeen_76 rfl (lv_at hl 0 rfl) ?_
                refine va_get (v := .ref (ad 19)) hx hb hts in_X7 hown hK hP 0 rfl rfl 24 (by decide) (hts _ q1112) (fun _ h => h) rfl dX7_isSeen_77 ?_
                refine lv_iload_n hx hb dX7_isSeen_80 rfl (lv_at hl 2 rfl) ?_
                refine tn_iald (f := xs.2.2.1) hx hb hK hP 19 0 rfl rfl (by omega) (by decide) dX7_isSeen_81 ?_
                have b81 := hxs.2.2.1 k
                refine lv_aload_n hx hb dX7_isSeen_82 rfl (lv_at hl 0 rfl) ?_
                refine va_get (v := .ref (ad 14)) hx hb hts in_X7 hown hK hP 0 rfl rfl 18 (by decide) (hts _ q1106) (fun _ h => h) rfl dX7_isSeen_83 ?_
                refine lv_aload_n hx hb dX7_isSeen_86 rfl (lv_at hl 0 rfl) ?_
                refine va_get (v := .ref (ad 18)) hx hb hts in_X7 hown hK hP 0 rfl rfl 23 (by decide) (hts _ q1111) (fun _ h => h) rfl dX7_isSeen_87 ?_
                refine lv_iload_n hx hb dX7_isSeen_90 rfl (lv_at hl 2 rfl) ?_
                refine tn_iald (f := xs.2.1) hx hb hK hP 18 0 rfl rfl (by omega) (by decide) dX7_isSeen_91 ?_
                have b91 := hxs.2.1 k
                refine tn_iald (f := u2.2.2) hx hb hK hP 14 0 rfl rfl (by omega) (by decide) dX7_isSeen_92 ?_
                have b92 := hJ2.2.2 (xs.2.1 k)
                refine tn_mul hx hb dX7_isSeen_93 ?_
                have b93 : (xs.2.2.1 k) * (u2.2.2 (xs.2.1 k)) ≤ 99000 := Nat.mul_le_mul b81 b92
                refine tn_ne (tgt := 101) hx hb dX7_isSeen_94 (by decide) (by omega) (by omega) (fun c94 => ?_) (fun c94 => ?_)
                · skip
                  refine lv_iconst (v := nI 0) hx hb dX7_isSeen_101 (by decide) ?_
                  refine lv_istore_n (lv' := [(1, .int (nI 0)), (0, .ref (ad 0)), (2, .int (nI k))]) hx hb dX7_isSeen_102 rfl hl (by decide) rfl (fun ls hl => ?_)
                  refine lv_iinc (v := nI (k + 1)) (lv' := [(2, .int (nI (k + 1))), (1, .int (nI 0)), (0, .ref (ad 0))]) hx hb dX7_isSeen_103 hl (k := 2) rfl (nI_1 k) (by decide) rfl (fun ls hl => ?_)
                  refine lv_goto (tgt := 33) hx hb dX7_isSeen_106 (by decide) ?_
                  exact ih33 false (k + 1) _ _ _ hP hD hS (by omega) (by omega) (by rw [hv, c42, ti_so, if_neg (fun z9 => c94 (by have z8 := z9.2; rw [hjd] at z8; exact z8))]; rfl) (lv_sub hl [2, 1, 0] rfl)
                · skip
                  refine lv_iconst (v := nI 1) hx hb dX7_isSeen_97 (by decide) ?_
                  refine lv_goto (tgt := 102) hx hb dX7_isSeen_98 (by decide) ?_
                  refine lv_istore_n (lv' := [(1, .int (nI 1)), (0, .ref (ad 0)), (2, .int (nI k))]) hx hb dX7_isSeen_102 rfl hl (by decide) rfl (fun ls hl => ?_)
                  refine lv_iinc (v := nI (k + 1)) (lv' := [(2, .int (nI (k + 1))), (1, .int (nI 1)), (0, .ref (ad 0))]) hx hb dX7_isSeen_103 hl (k := 2) rfl (nI_1 k) (by decide) rfl (fun ls hl => ?_)
                  refine lv_goto (tgt := 33) hx hb dX7_isSeen_106 (by decide) ?_
                  exact ih33 true (k + 1) _ _ _ hP hD hS (by omega) (by omega) (by rw [hv, c42, ti_so, if_pos ⟨by rw [hJl]; omega, by rw [hjd]; exact c94⟩, show xs.1 - (k + 1) = m9 by omega]) (lv_sub hl [2, 1, 0] rfl)
      exact L33 _ true 0 _ _ _ hP hD hS (Nat.lt_succ_self _) (by omega) (by rw [← hSN]; exact (Bool.true_and _).symm) (lv_sub hl [2, 1, 0] rfl)
    · skip
      refine lv_iconst (v := nI 0) hx hb dX7_isSeen_18 (by decide) ?_
      exact hret (xf, xj) _ _ _ _ _ _ _ dX7_isSeen_19 (by rw [ti_seen, if_neg (by omega), if_pos (by omega)]; rfl) (⟨hxf, hxj⟩) hP hS (Nat.le_refl _) (Nat.le_refl _)
  · skip
    refine lv_iconst (v := nI 1) hx hb dX7_isSeen_7 (by decide) ?_
    exact hret (xf, xj) _ _ _ _ _ _ _ dX7_isSeen_8 (by rw [ti_seen, if_pos (by omega)]; rfl) (⟨hxf, hxj⟩) hP hS (Nat.le_refl _) (Nat.le_refl _)

set_option maxHeartbeats 1000000 in
theorem met_X7_happens (l : Launch) (D : va_G) (E : Nat → ClassId) (ad : Nat → Nat) (xg : ti_Mg) (xd : ti_Md) (xt : ti_Mt) (xf : ti_Mf) (xj : ti_Mj) (xh : ti_Mh) (xs : ti_Ms) (xv : ti_Mv) (xb : ti_Mb) (xq : ti_Mq) (xk : ti_Mk) (hxg : ti_Mgok xg) (w d : Nat) (hw2 : w ≤ 2) (hd99 : d ≤ 99) (hd9 : w = 2 → d ≤ 9) : ti_MetM (σ := ti_Mg) l D E yX7_happens cX7_happens 3 none 4 0 0 (ti_wM E ad xg xd xt xf xj xh xs xv xb xq xk) [.ref (ad 0), .int (nI w), .int (nI d)] (fun u => ti_wM E ad u xd xt xf xj xh xs xv xb xq xk) (fun _ => none) (fun u => ti_G u 2 = ti_hp w d (ti_G xg 2) ∧ ti_M2 u xg ∧ ti_Mgok u) := by
  refine ti_mutV (σ := ti_Mg) (by decide) (Nat.le_of_ble_eq_true rfl) ?_
  intro p e s m below meth c H H0 A Q ls S hE hP hD hS hA hinit hl hret
  have hx := S.1
  have hb := S.2.1
  have hown := S.2.2.2.1
  have hts := S.2.2.2.2
  have hK := hE.1
  have hl : lv_has ls 3 [(0, .ref (ad 0)), (1, .int (nI w)), (2, .int (nI d))] := hl
  have h6 := hxg.1 2
  have hgl : (ti_G xg 2).length = xg.1 2 := ti_gr_len _ _ _ _
  refine lv_iload_n hx hb dX7_happens_0 rfl (lv_at hl 1 rfl) ?_
  refine lv_iconst (v := nI 2) hx hb dX7_happens_1 (by decide) ?_
  refine tn_ne (tgt := 13) hx hb dX7_happens_2 (by decide) (by omega) (by omega) (fun c2 => ?_) (fun c2 => ?_)
  · skip
    refine lv_iload_n hx hb dX7_happens_13 rfl (lv_at hl 1 rfl) ?_
    refine lv_iconst (v := nI 1) hx hb dX7_happens_14 (by decide) ?_
    refine tn_ne (tgt := 37) hx hb dX7_happens_15 (by decide) (by omega) (by omega) (fun c15 => ?_) (fun c15 => ?_)
    · skip
      refine lv_aload_n hx hb dX7_happens_37 rfl (lv_at hl 0 rfl) ?_
      refine lv_iconst (v := nI 2) hx hb dX7_happens_38 (by decide) ?_
      refine lv_iload_n hx hb dX7_happens_39 rfl (lv_at hl 2 rfl) ?_
      refine lv_bipush (v := nI 10) hx hb dX7_happens_40 (by decide) ?_
      refine tn_div hx hb dX7_happens_42 (by omega) (by omega) (by omega) ?_
      refine lv_iload_n hx hb dX7_happens_43 rfl (lv_at hl 2 rfl) ?_
      refine lv_bipush (v := nI 10) hx hb dX7_happens_44 (by decide) ?_
      refine tn_rem hx hb dX7_happens_46 (by omega) (by omega) (by omega) ?_
      refine ti_pVa (As := [.int (nI 2), .int (nI (d / 10)), .int (nI (d % 10))]) (rest := []) (v := .int (ti_pm (ti_pl (d / 10) (d % 10) (ti_G xg 2) 0))) S hE hP (met_X7_which l D E ad xg xd xt xf xj xh xs xv xb xq xk hxg 2 (by decide) (d / 10) (d % 10) (by omega) (by omega)) (lw_V q1241 q1243 qs25 q73 q1244) 3 rfl 0 rfl rfl (by decide +kernel) ⟨Nat.le_of_ble_eq_true rfl, Nat.le_of_ble_eq_true rfl⟩ hl.1 rfl (Nat.le_of_ble_eq_true rfl) ⟨Nat.le_refl _, Nat.le_refl _⟩ dX7_happens_47 ?_
      refine lv_iconst (v := (-1)) hx hb dX7_happens_50 (by decide) ?_
      refine lv_icmp_ne (tgt := 78) hx hb dX7_happens_51 (by decide) (fun c51 => ?_) (fun c51 => ?_)
      · skip
        exact hret xg _ _ _ _ _ _ dX7_happens_78 (⟨by rw [ti_hp, if_neg (by omega), if_neg (by omega), if_neg (fun z => c51 ((ti_placeM (by rw [hgl]; omega)).mpr z.1))], fun _ _ => rfl, hxg⟩) hP hS (Nat.le_refl _) (Nat.le_refl _)
      · skip
        refine lv_aload_n hx hb dX7_happens_54 rfl (lv_at hl 0 rfl) ?_
        refine va_get (v := .ref (ad 1)) hx hb hts in_X7 hown hK hP 0 rfl rfl 0 (by decide) (hts _ q1088) (fun _ h => h) rfl dX7_happens_55 ?_
        refine lv_iconst (v := nI 2) hx hb dX7_happens_58 (by decide) ?_
        refine tn_iald (f := xg.1) hx hb hK hP 1 0 rfl rfl (by omega) (by decide) dX7_happens_59 ?_
        have b59 := hxg.1 2
        refine lv_bipush (v := nI 6) hx hb dX7_happens_60 (by decide) ?_
        refine tn_ge (tgt := 78) hx hb dX7_happens_62 (by decide) (by omega) (by omega) (fun c62 => ?_) (fun c62 => ?_)
        · skip
          exact hret xg _ _ _ _ _ _ dX7_happens_78 (⟨by rw [ti_hp, if_neg (by omega), if_neg (by omega), if_neg (fun z => absurd z.2 (by omega))], fun _ _ => rfl, hxg⟩) hP hS (Nat.le_refl _) (Nat.le_refl _)
        · skip
          refine lv_aload_n hx hb dX7_happens_65 rfl (lv_at hl 0 rfl) ?_
          refine lv_iconst (v := nI 2) hx hb dX7_happens_66 (by decide) ?_
          refine lv_iload_n hx hb dX7_happens_67 rfl (lv_at hl 2 rfl) ?_
          refine lv_bipush (v := nI 10) hx hb dX7_happens_68 (by decide) ?_
          refine tn_div hx hb dX7_happens_70 (by omega) (by omega) (by omega) ?_
          refine lv_iload_n hx hb dX7_happens_71 rfl (lv_at hl 2 rfl) ?_
          refine lv_bipush (v := nI 10) hx hb dX7_happens_72 (by decide) ?_
          refine tn_rem hx hb dX7_happens_74 (by omega) (by omega) (by omega) ?_
          refine ti_mVa (As := [.int (nI 2), .int (nI (d / 10)), .int (nI (d % 10))]) (rest := []) S hE hP hD hS hA (met_X7_comes l D E ad xg xd xt xf xj xh xs xv xb xq xk 2 (by decide) (d / 10) (d % 10) (by omega)) (fun _ => rfl) (lw_V q1257 q1259 qs29 q73 q1260) 3 rfl 0 rfl rfl (by decide +kernel) ⟨Nat.le_of_ble_eq_true rfl, Nat.le_of_ble_eq_true rfl⟩ hl.1 rfl (Nat.le_of_ble_eq_true rfl) ⟨Nat.le_refl _, Nat.le_refl _⟩ dX7_happens_75 (fun _ H locs hu hP hD hS => ?_)
          have hP : va_P D vwCl (ti_wM E ad (ti_mcm xg 2 (d / 10) (d % 10)) xd xt xf xj xh xs xv xb xq xk) H := hP
          have hD : va_D A (ti_wM E ad (ti_mcm xg 2 (d / 10) (d % 10)) xd xt xf xj xh xs xv xb xq xk) := hD
          refine W.eq (g2 := F0 m 78 ls []) rfl ?_
          exact hret ((ti_mcm xg 2 (d / 10) (d % 10))) _ _ _ _ _ _ dX7_happens_78 (⟨by rw [ti_hp, if_neg (by omega), if_neg (by omega), if_pos ⟨(ti_placeM (by rw [hgl]; omega)).mp c51, by omega⟩]; exact ti_mcm_G, fun i hi => ti_mcm_Gn hxg (by omega) (by omega), ti_mcm_ok hxg (by omega) (by omega) (by omega)⟩) hP hS (Nat.le_refl _) (Nat.le_refl _)
    · skip
      refine lv_iload_n hx hb dX7_happens_18 rfl (lv_at hl 2 rfl) ?_
      refine lv_aload_n hx hb dX7_happens_19 rfl (lv_at hl 0 rfl) ?_
      refine va_get (v := .ref (ad 1)) hx hb hts in_X7 hown hK hP 0 rfl rfl 0 (by decide) (hts _ q1088) (fun _ h => h) rfl dX7_happens_20 ?_
      refine lv_iconst (v := nI 2) hx hb dX7_happens_23 (by decide) ?_
      refine tn_iald (f := xg.1) hx hb hK hP 1 0 rfl rfl (by omega) (by decide) dX7_happens_24 ?_
      have b24 := hxg.1 2
      refine tn_ge (tgt := 78) hx hb dX7_happens_25 (by decide) (by omega) (by omega) (fun c25 => ?_) (fun c25 => ?_)
      · skip
        exact hret xg _ _ _ _ _ _ dX7_happens_78 (⟨by rw [ti_hp, if_neg (by omega), if_pos (by omega), if_neg (by omega)], fun _ _ => rfl, hxg⟩) hP hS (Nat.le_refl _) (Nat.le_refl _)
      · skip
        refine lv_aload_n hx hb dX7_happens_28 rfl (lv_at hl 0 rfl) ?_
        refine lv_iconst (v := nI 2) hx hb dX7_happens_29 (by decide) ?_
        refine lv_iload_n hx hb dX7_happens_30 rfl (lv_at hl 2 rfl) ?_
        refine ti_mVa (As := [.int (nI 2), .int (nI d)]) (rest := []) S hE hP hD hS hA (met_X7_goes l D E ad xg xd xt xf xj xh xs xv xb xq xk hxg 2 (by decide) d (by omega)) (fun _ => rfl) (lw_V q1269 q1271 qs31 q73 q1272) 2 rfl 0 rfl rfl (by decide +kernel) ⟨Nat.le_of_ble_eq_true rfl, Nat.le_of_ble_eq_true rfl⟩ hl.1 rfl (Nat.le_of_ble_eq_true rfl) ⟨Nat.le_refl _, Nat.le_refl _⟩ dX7_happens_31 (fun _ H locs hu hP hD hS => ?_)
        have hP : va_P D vwCl (ti_wM E ad (ti_mgo xg 2 d) xd xt xf xj xh xs xv xb xq xk) H := hP
        have hD : va_D A (ti_wM E ad (ti_mgo xg 2 d) xd xt xf xj xh xs xv xb xq xk) := hD
        refine W.eq (g2 := F0 m 34 ls []) rfl ?_
        refine lv_goto (tgt := 78) hx hb dX7_happens_34 (by decide) ?_
        exact hret (ti_mgo xg 2 d) _ _ _ _ _ _ dX7_happens_78 (⟨by rw [ti_hp, if_neg (by omega), if_pos (by omega), if_pos (by omega)]; exact ti_mgo_G (by omega), fun i hi => ti_mgo_Gn hxg (by omega), ti_mgo_ok hxg⟩) hP hS (Nat.le_refl _) (Nat.le_refl _)
  · skip
    refine lv_aload_n hx hb dX7_happens_5 rfl (lv_at hl 0 rfl) ?_
    refine lv_iload_n hx hb dX7_happens_6 rfl (lv_at hl 2 rfl) ?_
    refine ti_mVa (As := [.int (nI d)]) (rest := []) S hE hP hD hS hA (met_X7_lessens l D E ad xg xd xt xf xj xh xs xv xb xq xk hxg d (hd9 c2)) (fun _ => rfl) (lw_V q1524 q1526 qs64 q73 q1527) 1 rfl 0 rfl rfl (by decide +kernel) ⟨Nat.le_of_ble_eq_true rfl, Nat.le_of_ble_eq_true rfl⟩ hl.1 rfl (Nat.le_of_ble_eq_true rfl) ⟨Nat.le_refl _, Nat.le_refl _⟩ dX7_happens_7 (fun u1 H locs hu hP hD hS => ?_)
    obtain ⟨u11, u12, u13⟩ := hu
    have hP : va_P D vwCl (ti_wM E ad u1 xd xt xf xj xh xs xv xb xq xk) H := hP
    have hD : va_D A (ti_wM E ad u1 xd xt xf xj xh xs xv xb xq xk) := hD
    refine W.eq (g2 := F0 m 10 ls []) rfl ?_
    refine lv_goto (tgt := 78) hx hb dX7_happens_10 (by decide) ?_
    exact hret u1 _ _ _ _ _ _ dX7_happens_78 (⟨by rw [ti_hp, if_pos (by omega)]; exact u11, u12, u13⟩) hP hS (Nat.le_refl _) (Nat.le_refl _)

set_option maxHeartbeats 1000000 in
theorem met_X7_after (l : Launch) (D : va_G) (E : Nat → ClassId) (ad : Nat → Nat) (xg : ti_Mg) (xd : ti_Md) (xt : ti_Mt) (xf : ti_Mf) (xj : ti_Mj) (xh : ti_Mh) (xs : ti_Ms) (xv : ti_Mv) (xb : ti_Mb) (xq : ti_Mq) (xk : ti_Mk) (hxg : ti_Mgok xg) (I : Nat → ti_GL) (hI : ti_MI xg I) (hxf : ti_Mfok xf) (hxj : ti_Mjok xj) (hxv : ti_Mvok xv) (EV : ti_GL) (hEV : ti_el xv = EV) (hev9 : ∀ q ∈ EV, q.1 = 2 → q.2 ≤ 9) (hnd0 : (I 0).Nodup) (w : Int32) : ti_MetM (σ := ti_Mg × ti_Mf × ti_Mj) l D E yX7_after cX7_after 3 (some .int) 6 0 0 (ti_wM E ad xg xd xt xf xj xh xs xv xb xq xk) [.ref (ad 0), .int w] (fun u => ti_wM E ad u.1 xd xt u.2.1 u.2.2 xh xs xv xb xq xk) (fun u => some (.int ((fun _ => ti_Safter (I 0) EV w) u))) (fun u => ti_MI u.1 I ∧ ti_Mgok u.1 ∧ ti_Mfok u.2.1 ∧ ti_Mjok u.2.2) := by
  refine ti_mutI (σ := ti_Mg × ti_Mf × ti_Mj) (vi := fun _ => ti_Safter (I 0) EV w) (by decide) (Nat.le_of_ble_eq_true rfl) ?_
  intro p e s m below meth c H H0 A Q ls S hE hP hD hS hA hinit hl hret
  have hx := S.1
  have hb := S.2.1
  have hown := S.2.2.2.1
  have hts := S.2.2.2.2
  have hK := hE.1
  have hl : lv_has ls 3 [(0, .ref (ad 0)), (1, .int w)] := hl
  have h8 := hxv.1
  refine lv_iload_n hx hb dX7_after_0 rfl (lv_at hl 1 rfl) ?_
  refine lv_i2l (v := Int32.toInt64 w) hx hb dX7_after_1 rfl ?_
  refine lv_lconst (v := lN 0) hx hb dX7_after_2 (by decide) ?_
  refine lv_ldc2 (v := lN 2) hx hb hown (hts _ q1353) dX7_after_3 ?_
  refine ti_pS (As := [.long (Int32.toInt64 w), .long (lN 0), .long (lN 2)]) (rest := []) (v := .int (ti_b (ti_inL (Int32.toInt64 w) (lN 0) (lN 2)))) S hE hP [] (met_X7_isFrom l D E (Int32.toInt64 w) (lN 0) (lN 2)) rfl (lw_S q1234 q1235 q73 q1236) 3 rfl (by decide +kernel) ⟨Nat.le_of_ble_eq_true rfl, Nat.le_of_ble_eq_true rfl⟩ hl.1 rfl (Nat.le_of_ble_eq_true rfl) ⟨Nat.le_refl _, Nat.le_refl _⟩ dX7_after_6 ?_
  refine tb_ne (tgt := 14) hx hb dX7_after_9 (by decide) (fun c9 => ?_) (fun c9 => ?_)
  · skip
    rw [ti_inL_i (by decide) (by decide)] at c9
    obtain ⟨w9, hw9lo, hw9hi, rfl⟩ := ti_in_nat (by decide) (by decide) c9
    have hcw9 : ti_cl (nI w9) = w9 := ti_cl_nI (by omega)
    have hbb : ¬ ti_in (nI w9) (nI 0) (nI 2) = false := by rw [c9]; decide
    have hw0 := ti_nI_0 (show w9 < 2 ^ 31 by omega)
    have hw1 := ti_nI_1 (show w9 < 2 ^ 31 by omega)
    refine lv_aload_n hx hb dX7_after_14 rfl (lv_at hl 0 rfl) ?_
    refine lv_iconst (v := nI 0) hx hb dX7_after_15 (by decide) ?_
    refine lv_iconst (v := nI 2) hx hb dX7_after_16 (by decide) ?_
    refine ti_mVa (As := [.int (nI 0), .int (nI 2)]) (rest := []) S hE hP hD hS hA (met_X7_likens l D E ad xg xd xt xf xj xh xs xv xb xq xk 0 (by decide) 2 (by decide) (by decide)) (fun _ => rfl) (lw_V q1516 q1518 qs62 q73 q1519) 2 rfl 0 rfl rfl (by decide +kernel) ⟨Nat.le_of_ble_eq_true rfl, Nat.le_of_ble_eq_true rfl⟩ hl.1 rfl (Nat.le_of_ble_eq_true rfl) ⟨Nat.le_refl _, Nat.le_refl _⟩ dX7_after_17 (fun _ H locs hu hP hD hS => ?_)
    have hP : va_P D vwCl (ti_wM E ad (ti_mlk xg 0 2) xd xt xf xj xh xs xv xb xq xk) H := hP
    have hD : va_D A (ti_wM E ad (ti_mlk xg 0 2) xd xt xf xj xh xs xv xb xq xk) := hD
    refine W.eq (g2 := F0 m 20 ls []) rfl ?_
    refine lv_iconst (v := nI 0) hx hb dX7_after_20 (by decide) ?_
    refine lv_istore_n (lv' := [(2, .int (nI 0)), (0, .ref (ad 0)), (1, .int (nI w9))]) hx hb dX7_after_21 rfl hl (by decide) rfl (fun ls hl => ?_)
    have L22 : ∀ (N : Nat) (k : Nat) (y : ti_Mg) (ls : Array Slot) (H : Heap) (locs : List Loc), va_P D vwCl (ti_wM E ad y xd xt xf xj xh xs xv xb xq xk) H → va_D A (ti_wM E ad y xd xt xf xj xh xs xv xb xq xk) → va_S A H0 H locs → (xv.1 - k) < N → (k ≤ xv.1) → (ti_Mgok y) → (ti_M2 y xg) → ((ti_G y 2).Nodup) → (ti_ev (I 0) EV = ti_ev (ti_G y 2) (ti_gr xv.2.1 xv.2.2 k (xv.1 - k))) → lv_has ls 3 [(0, .ref (ad 0)), (1, .int (nI w9)), (2, .int (nI k))] → W p l e (ti_rm 6 0 0) s m ([.ref (ad 0), .int (nI w9)] : List Value).toArray below meth c H locs 0 0 Q (F0 m 22 ls []) := by
      intro N
      induction N with
      | zero => intro k y ls H locs hP hD hS h0; exact absurd h0 (Nat.not_lt_zero _)
      | succ N ih22 =>
        intro k y ls H locs hP hD hS hN hkn hy h2 nd hv hl
        refine lv_iload_n hx hb dX7_after_22 rfl (lv_at hl 2 rfl) ?_
        refine lv_aload_n hx hb dX7_after_23 rfl (lv_at hl 0 rfl) ?_
        refine va_get (v := .int (nI xv.1)) hx hb hts in_X7 hown hK hP 0 rfl rfl 26 (by decide) (hts _ q1114) (fun _ h => h) rfl dX7_after_24 ?_
        refine tn_ge (tgt := 52) hx hb dX7_after_27 (by decide) (by omega) (by omega) (fun c27 => ?_) (fun c27 => ?_)
        · skip
          rw [show xv.1 - k = 0 by omega] at hv
          have hv : ti_ev (I 0) EV = ti_G y 2 := hv
          have hy6 := hy.1 2
          have hgl : (ti_G y 2).length = y.1 2 := ti_gr_len _ _ _ _
          have hMI : ti_MI y I := fun i hi => (h2 i hi).trans (hI i hi)
          refine lv_iload_n hx hb dX7_after_52 rfl (lv_at hl 1 rfl) ?_
          refine tn_if_ne (tgt := 63) hx hb dX7_after_53 (by decide) (by omega) (fun c53 => ?_) (fun c53 => ?_)
          · skip
            refine lv_aload_n hx hb dX7_after_63 rfl (lv_at hl 0 rfl) ?_
            refine va_get (v := .ref (ad 1)) hx hb hts in_X7 hown hK hP 0 rfl rfl 0 (by decide) (hts _ q1088) (fun _ h => h) rfl dX7_after_64 ?_
            refine lv_iconst (v := nI 2) hx hb dX7_after_67 (by decide) ?_
            refine tn_iald (f := y.1) hx hb hK hP 1 0 rfl rfl (by omega) (by decide) dX7_after_68 ?_
            refine tn_if_ne (tgt := 75) hx hb dX7_after_69 (by decide) (by omega) (fun c69 => ?_) (fun c69 => ?_)
            · skip
              refine lv_aload_n hx hb dX7_after_75 rfl (lv_at hl 0 rfl) ?_
              refine lv_iconst (v := nI 2) hx hb dX7_after_76 (by decide) ?_
              refine lv_iload_n hx hb dX7_after_77 rfl (lv_at hl 1 rfl) ?_
              refine lv_iconst (v := nI 1) hx hb dX7_after_78 (by decide) ?_
              refine tn_ne (tgt := 86) hx hb dX7_after_79 (by decide) (by omega) (by omega) (fun c79 => ?_) (fun c79 => ?_)
              · skip
                refine lv_iconst (v := nI 3) hx hb dX7_after_86 (by decide) ?_
                refine ti_mVa (As := [.int (nI 2), .int (nI 3)]) (rest := []) S hE hP hD hS hA (met_X7_asked l D E ad y xd xt xf xj xh xs xv xb xq xk hy 2 (by decide) (ti_nod6 hy nd) hxf hxj 3 (by decide)) (fun _ => rfl) (lw_V q1367 q1369 qs43 q73 q1370) 2 rfl 0 rfl rfl (by decide +kernel) ⟨Nat.le_of_ble_eq_true rfl, Nat.le_of_ble_eq_true rfl⟩ hl.1 rfl (Nat.le_of_ble_eq_true rfl) ⟨Nat.le_refl _, Nat.le_refl _⟩ dX7_after_87 (fun u9 H locs hu hP hD hS => ?_)
                have hu9 := hu
                have hP : va_P D vwCl (ti_wM E ad y xd xt u9.1 u9.2 xh xs xv xb xq xk) H := hP
                have hD : va_D A (ti_wM E ad y xd xt u9.1 u9.2 xh xs xv xb xq xk) := hD
                refine W.eq (g2 := F0 m 90 ls [.int (ti_Sask (ti_G y 2) 3)]) rfl ?_
                exact hret (y, u9) _ _ _ _ _ _ _ dX7_after_90 (by rw [ti_Safter, if_neg hbb, if_neg (fun z => c53 (hw0.mp z)), hv, if_neg (by omega), if_neg (fun z => c79 (hw1.mp z))]) (⟨hMI, hy, hu9⟩) hP hS (Nat.le_refl _) (Nat.le_refl _)
              · skip
                refine lv_iconst (v := nI 4) hx hb dX7_after_82 (by decide) ?_
                refine lv_goto (tgt := 87) hx hb dX7_after_83 (by decide) ?_
                refine ti_mVa (As := [.int (nI 2), .int (nI 4)]) (rest := []) S hE hP hD hS hA (met_X7_asked l D E ad y xd xt xf xj xh xs xv xb xq xk hy 2 (by decide) (ti_nod6 hy nd) hxf hxj 4 (by decide)) (fun _ => rfl) (lw_V q1367 q1369 qs43 q73 q1370) 2 rfl 0 rfl rfl (by decide +kernel) ⟨Nat.le_of_ble_eq_true rfl, Nat.le_of_ble_eq_true rfl⟩ hl.1 rfl (Nat.le_of_ble_eq_true rfl) ⟨Nat.le_refl _, Nat.le_refl _⟩ dX7_after_87 (fun u9 H locs hu hP hD hS => ?_)
                have hu9 := hu
                have hP : va_P D vwCl (ti_wM E ad y xd xt u9.1 u9.2 xh xs xv xb xq xk) H := hP
                have hD : va_D A (ti_wM E ad y xd xt u9.1 u9.2 xh xs xv xb xq xk) := hD
                refine W.eq (g2 := F0 m 90 ls [.int (ti_Sask (ti_G y 2) 4)]) rfl ?_
                exact hret (y, u9) _ _ _ _ _ _ _ dX7_after_90 (by rw [ti_Safter, if_neg hbb, if_neg (fun z => c53 (hw0.mp z)), hv, if_neg (by omega), if_pos (hw1.mpr c79)]) (⟨hMI, hy, hu9⟩) hP hS (Nat.le_refl _) (Nat.le_refl _)
            · skip
              refine lv_bipush (v := (-3)) hx hb dX7_after_72 (by decide) ?_
              exact hret (y, xf, xj) _ _ _ _ _ _ _ dX7_after_74 (by rw [ti_Safter, if_neg hbb, if_neg (fun z => c53 (hw0.mp z)), hv, if_pos (by omega)]) (⟨hMI, hy, hxf, hxj⟩) hP hS (Nat.le_refl _) (Nat.le_refl _)
          · skip
            refine lv_aload_n hx hb dX7_after_56 rfl (lv_at hl 0 rfl) ?_
            refine va_get (v := .ref (ad 1)) hx hb hts in_X7 hown hK hP 0 rfl rfl 0 (by decide) (hts _ q1088) (fun _ h => h) rfl dX7_after_57 ?_
            refine lv_iconst (v := nI 2) hx hb dX7_after_60 (by decide) ?_
            refine tn_iald (f := y.1) hx hb hK hP 1 0 rfl rfl (by omega) (by decide) dX7_after_61 ?_
            exact hret (y, xf, xj) _ _ _ _ _ _ _ dX7_after_62 (by rw [ti_Safter, if_neg hbb, if_pos (hw0.mpr c53), hv, hgl]) (⟨hMI, hy, hxf, hxj⟩) hP hS (Nat.le_refl _) (Nat.le_refl _)
        · skip
          obtain ⟨m9, hm9⟩ : ∃ m9, xv.1 - k = m9 + 1 := ⟨xv.1 - k - 1, by omega⟩
          rw [hm9, ti_gr_s] at hv
          have hk9 : xv.2.1 k = 2 → xv.2.2 k ≤ 9 := hev9 (xv.2.1 k, xv.2.2 k) (by rw [← hEV]; exact ti_gr_mem (by omega))
          refine lv_aload_n hx hb dX7_after_30 rfl (lv_at hl 0 rfl) ?_
          refine lv_aload_n hx hb dX7_after_31 rfl (lv_at hl 0 rfl) ?_
          refine va_get (v := .ref (ad 21)) hx hb hts in_X7 hown hK hP 0 rfl rfl 27 (by decide) (hts _ q1115) (fun _ h => h) rfl dX7_after_32 ?_
          refine lv_iload_n hx hb dX7_after_35 rfl (lv_at hl 2 rfl) ?_
          refine tn_iald (f := xv.2.1) hx hb hK hP 21 0 rfl rfl (by omega) (by decide) dX7_after_36 ?_
          have b36 := hxv.2.1 k
          refine lv_aload_n hx hb dX7_after_37 rfl (lv_at hl 0 rfl) ?_
          refine va_get (v := .ref (ad 22)) hx hb hts in_X7 hown hK hP 0 rfl rfl 28 (by decide) (hts _ q1116) (fun _ h => h) rfl dX7_after_38 ?_
          refine lv_iload_n hx hb dX7_after_41 rfl (lv_at hl 2 rfl) ?_
          refine tn_iald (f := xv.2.2) hx hb hK hP 22 0 rfl rfl (by omega) (by decide) dX7_after_42 ?_
          have b42 := hxv.2.2 k
          refine ti_mVa (As := [.int (nI (xv.2.1 k)), .int (nI (xv.2.2 k))]) (rest := []) S hE hP hD hS hA (met_X7_happens l D E ad y xd xt xf xj xh xs xv xb xq xk hy (xv.2.1 k) (xv.2.2 k) (hxv.2.1 k) (hxv.2.2 k) hk9) (fun _ => rfl) (lw_V q1520 q1522 qs63 q73 q1523) 2 rfl 0 rfl rfl (by decide +kernel) ⟨Nat.le_of_ble_eq_true rfl, Nat.le_of_ble_eq_true rfl⟩ hl.1 rfl (Nat.le_of_ble_eq_true rfl) ⟨Nat.le_refl _, Nat.le_refl _⟩ dX7_after_43 (fun u1 H locs hu hP hD hS => ?_)
          obtain ⟨u11, u12, u13⟩ := hu
          have hP : va_P D vwCl (ti_wM E ad u1 xd xt xf xj xh xs xv xb xq xk) H := hP
          have hD : va_D A (ti_wM E ad u1 xd xt xf xj xh xs xv xb xq xk) := hD
          refine W.eq (g2 := F0 m 46 ls []) rfl ?_
          refine lv_iinc (v := nI (k + 1)) (lv' := [(2, .int (nI (k + 1))), (0, .ref (ad 0)), (1, .int (nI w9))]) hx hb dX7_after_46 hl (k := 2) rfl (nI_1 k) (by decide) rfl (fun ls hl => ?_)
          refine lv_goto (tgt := 22) hx hb dX7_after_49 (by decide) ?_
          exact ih22 (k + 1) u1 _ _ _ hP hD hS (by omega) (by omega) (u13) (fun i hi => (u12 i hi).trans (h2 i hi)) (by rw [u11]; exact ti_hp_nod nd _ _) (by rw [hv, ti_ev, u11, show xv.1 - (k + 1) = m9 by omega]) (lv_sub hl [1, 2, 0] rfl)
    exact L22 _ 0 (ti_mlk xg 0 2) _ _ _ hP hD hS (Nat.lt_succ_self _) (by omega) (ti_mlk_ok hxg) (fun i hi => ti_mlk_Gn hxg (by omega)) (by rw [ti_mlk_G hxg, hI 0 (by decide)]; exact hnd0) (by rw [ti_mlk_G hxg, hI 0 (by decide), ← hEV]; rfl) (lv_sub hl [1, 2, 0] rfl)
  · skip
    rw [ti_inL_i (by decide) (by decide)] at c9
    refine lv_iconst (v := (-1)) hx hb dX7_after_12 (by decide) ?_
    exact hret (xg, xf, xj) _ _ _ _ _ _ _ dX7_after_13 (by rw [ti_Safter, if_pos c9]) (⟨hI, hxg, hxf, hxj⟩) hP hS (Nat.le_refl _) (Nat.le_refl _)

set_option maxHeartbeats 1000000 in
theorem met_X7_fits (l : Launch) (D : va_G) (E : Nat → ClassId) (ad : Nat → Nat) (xg : ti_Mg) (xd : ti_Md) (xt : ti_Mt) (xf : ti_Mf) (xj : ti_Mj) (xh : ti_Mh) (xs : ti_Ms) (xv : ti_Mv) (xb : ti_Mb) (xq : ti_Mq) (xk : ti_Mk) (hxg : ti_Mgok xg) (I : Nat → ti_GL) (hI : ti_MI xg I) (hxf : ti_Mfok xf) (hxj : ti_Mjok xj) (hxs : ti_Msok xs) (SN : List (Nat × Nat × Nat)) (hSN : ti_sl xs = SN) (hnd0 : (I 0).Nodup) (v k letter w : Int32) : ti_MetM (σ := ti_Mf × ti_Mj) l D E yX7_fits cX7_fits 13 (some .int) 5 0 0 (ti_wM E ad xg xd xt xf xj xh xs xv xb xq xk) [.ref (ad 0), .int v, .int k, .int letter, .int w] (fun u => ti_wM E ad xg xd xt u.1 u.2 xh xs xv xb xq xk) (fun u => some (.int ((fun _ => ti_Sfits I SN v k letter w) u))) (fun u => ti_Mfok u.1 ∧ ti_Mjok u.2) := by
  refine ti_mutI (σ := ti_Mf × ti_Mj) (vi := fun _ => ti_Sfits I SN v k letter w) (by decide) (Nat.le_of_ble_eq_true rfl) ?_
  intro p e s m below meth c H H0 A Q ls S hE hP hD hS hA hinit hl hret
  have hx := S.1
  have hb := S.2.1
  have hown := S.2.2.2.1
  have hts := S.2.2.2.2
  have hK := hE.1
  have hl : lv_has ls 13 [(0, .ref (ad 0)), (1, .int v), (2, .int k), (3, .int letter), (4, .int w)] := hl
  refine lv_aload_n hx hb dX7_fits_0 rfl (lv_at hl 0 rfl) ?_
  refine lv_iload_n hx hb dX7_fits_1 rfl (lv_at hl 1 rfl) ?_
  refine lv_iload_n hx hb dX7_fits_2 rfl (lv_at hl 2 rfl) ?_
  refine ti_pVa (As := [.int v, .int k]) (rest := []) (v := .int (ti_b (ti_bt v && ti_lt k (xg.1 (ti_cl v))))) S hE hP (met_X7_isGenerator l D E ad xg xd xt xf xj xh xs xv xb xq xk hxg v k) (lw_V q1265 q1267 qs30 q73 q1268) 2 rfl 0 rfl rfl (by decide +kernel) ⟨Nat.le_of_ble_eq_true rfl, Nat.le_of_ble_eq_true rfl⟩ hl.1 rfl (Nat.le_of_ble_eq_true rfl) ⟨Nat.le_refl _, Nat.le_refl _⟩ dX7_fits_3 ?_
  refine tb_eq (tgt := 30) hx hb dX7_fits_6 (by decide) (fun c6 => ?_) (fun c6 => ?_)
  · skip
    have hq : (ti_bt v && ti_lt k (I (ti_cl v)).length) = false := by
      cases hv : ti_bt v with
      | false => rfl
      | true =>
        obtain ⟨i, hi2, rfl⟩ := ti_bt_nat hv
        have hci : ti_cl (nI i) = i := ti_cl_nI (by omega)
        rw [hv, hci] at c6
        rw [hci, ti_MI_len hI hi2]
        exact c6
    refine lv_iconst (v := (-1)) hx hb dX7_fits_30 (by decide) ?_
    exact hret (xf, xj) _ _ _ _ _ _ _ dX7_fits_31 (by rw [ti_Sfits, if_pos (by rw [hq]; rfl)]) (⟨hxf, hxj⟩) hP hS (Nat.le_refl _) (Nat.le_refl _)
  · skip
    have hq : ti_bt v = true ∧ ti_lt k (xg.1 (ti_cl v)) = true := by simpa using c6
    obtain ⟨i, hi2, rfl⟩ := ti_bt_nat hq.1
    have hci : ti_cl (nI i) = i := ti_cl_nI (by omega)
    rw [hci] at hq
    obtain ⟨k9, hk9, rfl⟩ := ti_lt_nat hq.2
    have h6 := hxg.1 i
    have hck : ti_cl (nI k9) = k9 := ti_cl_nI (by omega)
    have hg := hI i hi2
    have hlen := ti_MI_len hI hi2
    have hq2 : (ti_bt (nI i) && ti_lt (nI k9) (I i).length) = true := by rw [hlen, hq.1, hq.2]; rfl
    have hgd : (I i).getD k9 (0, 0) = (ti_ma xg i k9, ti_mb xg i k9) := by rw [← hg]; exact ti_gr_getD hk9
    have ha9 : ti_ma xg i k9 ≤ 9 := hxg.2.1 _
    have hb9 : ti_mb xg i k9 ≤ 9 := hxg.2.2 _
    refine lv_iload_n hx hb dX7_fits_9 rfl (lv_at hl 3 rfl) ?_
    refine lv_i2l (v := Int32.toInt64 letter) hx hb dX7_fits_10 rfl ?_
    refine lv_lconst (v := lN 0) hx hb dX7_fits_11 (by decide) ?_
    refine lv_lconst (v := lN 1) hx hb dX7_fits_12 (by decide) ?_
    refine ti_pS (As := [.long (Int32.toInt64 letter), .long (lN 0), .long (lN 1)]) (rest := []) (v := .int (ti_b (ti_inL (Int32.toInt64 letter) (lN 0) (lN 1)))) S hE hP [] (met_X7_isFrom l D E (Int32.toInt64 letter) (lN 0) (lN 1)) rfl (lw_S q1234 q1235 q73 q1236) 3 rfl (by decide +kernel) ⟨Nat.le_of_ble_eq_true rfl, Nat.le_of_ble_eq_true rfl⟩ hl.1 rfl (Nat.le_of_ble_eq_true rfl) ⟨Nat.le_refl _, Nat.le_refl _⟩ dX7_fits_13 ?_
    refine tb_eq (tgt := 30) hx hb dX7_fits_16 (by decide) (fun c16 => ?_) (fun c16 => ?_)
    · skip
      have c16 : ti_bt letter = false := by rw [← c16]; exact (ti_inL_i (by decide) (by decide)).symm
      refine lv_iconst (v := (-1)) hx hb dX7_fits_30 (by decide) ?_
      exact hret (xf, xj) _ _ _ _ _ _ _ dX7_fits_31 (by rw [ti_Sfits, if_pos (by rw [c16]; simp)]) (⟨hxf, hxj⟩) hP hS (Nat.le_refl _) (Nat.le_refl _)
    · skip
      have c16 : ti_bt letter = true := by rw [← c16]; exact (ti_inL_i (by decide) (by decide)).symm
      obtain ⟨l9, hl9, rfl⟩ := ti_bt_nat c16
      have hcl : ti_cl (nI l9) = l9 := ti_cl_nI (by omega)
      refine lv_iload hx hb dX7_fits_19 (lv_at hl 4 rfl) ?_
      refine lv_i2l (v := Int32.toInt64 w) hx hb dX7_fits_21 rfl ?_
      refine lv_lconst (v := lN 0) hx hb dX7_fits_22 (by decide) ?_
      refine lv_lconst (v := lN 1) hx hb dX7_fits_23 (by decide) ?_
      refine ti_pS (As := [.long (Int32.toInt64 w), .long (lN 0), .long (lN 1)]) (rest := []) (v := .int (ti_b (ti_inL (Int32.toInt64 w) (lN 0) (lN 1)))) S hE hP [] (met_X7_isFrom l D E (Int32.toInt64 w) (lN 0) (lN 1)) rfl (lw_S q1234 q1235 q73 q1236) 3 rfl (by decide +kernel) ⟨Nat.le_of_ble_eq_true rfl, Nat.le_of_ble_eq_true rfl⟩ hl.1 rfl (Nat.le_of_ble_eq_true rfl) ⟨Nat.le_refl _, Nat.le_refl _⟩ dX7_fits_24 ?_
      refine tb_ne (tgt := 32) hx hb dX7_fits_27 (by decide) (fun c27 => ?_) (fun c27 => ?_)
      · skip
        have c27 : ti_bt w = true := by rw [← c27]; exact (ti_inL_i (by decide) (by decide)).symm
        obtain ⟨w9, hw9, rfl⟩ := ti_bt_nat c27
        have hbb : ¬ (ti_bt (nI i) && ti_lt (nI k9) (I i).length && (ti_bt (nI l9) && ti_bt (nI w9))) = false := by rw [hq2, c16, c27]; decide
        refine lv_aload_n hx hb dX7_fits_32 rfl (lv_at hl 0 rfl) ?_
        refine lv_iload_n hx hb dX7_fits_33 rfl (lv_at hl 1 rfl) ?_
        refine lv_iload_n hx hb dX7_fits_34 rfl (lv_at hl 2 rfl) ?_
        refine ti_pVa (As := [.int (nI i), .int (nI k9)]) (rest := []) (v := .int (nI (ti_ma xg i k9))) S hE hP (met_X7_a l D E ad xg xd xt xf xj xh xs xv xb xq xk i k9 (by omega)) (lw_V q1245 q1247 qs26 q73 q1248) 2 rfl 0 rfl rfl (by decide +kernel) ⟨Nat.le_of_ble_eq_true rfl, Nat.le_of_ble_eq_true rfl⟩ hl.1 rfl (Nat.le_of_ble_eq_true rfl) ⟨Nat.le_refl _, Nat.le_refl _⟩ dX7_fits_35 ?_
        have ha35 : ti_ma xg i k9 ≤ 9 := hxg.2.1 _
        refine lv_istore (lv' := [(5, .int (nI (ti_ma xg i k9))), (0, .ref (ad 0)), (1, .int (nI i)), (2, .int (nI k9)), (3, .int (nI l9)), (4, .int (nI w9))]) hx hb dX7_fits_38 hl (by decide) rfl (fun ls hl => ?_)
        refine lv_aload_n hx hb dX7_fits_40 rfl (lv_at hl 1 rfl) ?_
        refine lv_iload_n hx hb dX7_fits_41 rfl (lv_at hl 2 rfl) ?_
        refine lv_iload_n hx hb dX7_fits_42 rfl (lv_at hl 3 rfl) ?_
        refine ti_pVa (As := [.int (nI i), .int (nI k9)]) (rest := []) (v := .int (nI (ti_mb xg i k9))) S hE hP (met_X7_b l D E ad xg xd xt xf xj xh xs xv xb xq xk i k9 (by omega)) (lw_V q1249 q1251 qs27 q73 q1252) 2 rfl 0 rfl rfl (by decide +kernel) ⟨Nat.le_of_ble_eq_true rfl, Nat.le_of_ble_eq_true rfl⟩ hl.1 rfl (Nat.le_of_ble_eq_true rfl) ⟨Nat.le_refl _, Nat.le_refl _⟩ dX7_fits_43 ?_
        have hb43 : ti_mb xg i k9 ≤ 9 := hxg.2.2 _
        refine lv_istore (lv' := [(6, .int (nI (ti_mb xg i k9))), (5, .int (nI (ti_ma xg i k9))), (0, .ref (ad 0)), (1, .int (nI i)), (2, .int (nI k9)), (3, .int (nI l9)), (4, .int (nI w9))]) hx hb dX7_fits_46 hl (by decide) rfl (fun ls hl => ?_)
        refine lv_iconst (v := nI 0) hx hb dX7_fits_48 (by decide) ?_
        refine lv_istore (lv' := [(7, .int (nI 0)), (6, .int (nI (ti_mb xg i k9))), (5, .int (nI (ti_ma xg i k9))), (0, .ref (ad 0)), (1, .int (nI i)), (2, .int (nI k9)), (3, .int (nI l9)), (4, .int (nI w9))]) hx hb dX7_fits_49 hl (by decide) rfl (fun ls hl => ?_)
        refine lv_bipush (v := (-5)) hx hb dX7_fits_51 (by decide) ?_
        refine lv_istore (lv' := [(8, .int ((-5))), (7, .int (nI 0)), (6, .int (nI (ti_mb xg i k9))), (5, .int (nI (ti_ma xg i k9))), (0, .ref (ad 0)), (1, .int (nI i)), (2, .int (nI k9)), (3, .int (nI l9)), (4, .int (nI w9))]) hx hb dX7_fits_53 hl (by decide) rfl (fun ls hl => ?_)
        refine lv_iconst (v := nI 0) hx hb dX7_fits_55 (by decide) ?_
        refine lv_istore (lv' := [(9, .int (nI 0)), (8, .int ((-5))), (7, .int (nI 0)), (6, .int (nI (ti_mb xg i k9))), (5, .int (nI (ti_ma xg i k9))), (0, .ref (ad 0)), (1, .int (nI i)), (2, .int (nI k9)), (3, .int (nI l9)), (4, .int (nI w9))]) hx hb dX7_fits_56 hl (by decide) rfl (fun ls hl => ?_)
        have L58 : ∀ (N : Nat) (z c9 : Nat) (fs : Int32) (y1 : ti_Mf) (y2 : ti_Mj) (ls : Array Slot) (H : Heap) (locs : List Loc), va_P D vwCl (ti_wM E ad xg xd xt y1 y2 xh xs xv xb xq xk) H → va_D A (ti_wM E ad xg xd xt y1 y2 xh xs xv xb xq xk) → va_S A H0 H locs → (10 - z) < N → (z ≤ 10) → (c9 ≤ z) → (ti_Mfok y1) → (ti_Mjok y2) → (ti_ftn I SN i k9 l9 (List.range' 0 10) (0, -5) = ti_ftn I SN i k9 l9 (List.range' z (10 - z)) (c9, fs)) → lv_has ls 13 [(0, .ref (ad 0)), (1, .int (nI i)), (2, .int (nI k9)), (3, .int (nI l9)), (4, .int (nI w9)), (5, .int (nI (ti_ma xg i k9))), (6, .int (nI (ti_mb xg i k9))), (7, .int (nI c9)), (8, .int fs), (9, .int (nI z))] → W p l e (ti_rm 5 0 0) s m ([.ref (ad 0), .int (nI i), .int (nI k9), .int (nI l9), .int (nI w9)] : List Value).toArray below meth c H locs 0 0 Q (F0 m 58 ls []) := by
          intro N
          induction N with
          | zero => intro z c9 fs y1 y2 ls H locs hP hD hS h0; exact absurd h0 (Nat.not_lt_zero _)
          | succ N ih58 =>
            intro z c9 fs y1 y2 ls H locs hP hD hS hN hz hcz hy1 hy2 hv hl
            refine lv_iload hx hb dX7_fits_58 (lv_at hl 9 rfl) ?_
            refine lv_bipush (v := nI 10) hx hb dX7_fits_60 (by decide) ?_
            refine tn_ge (tgt := 213) hx hb dX7_fits_62 (by decide) (by omega) (by omega) (fun c62 => ?_) (fun c62 => ?_)
            · skip
              rw [show 10 - z = 0 by omega] at hv
              have hv : ti_ftn I SN i k9 l9 (List.range' 0 10) (0, -5) = (c9, fs) := hv
              refine lv_iload hx hb dX7_fits_213 (lv_at hl 4 rfl) ?_
              refine tn_if_ne (tgt := 223) hx hb dX7_fits_215 (by decide) (by omega) (fun c215 => ?_) (fun c215 => ?_)
              · skip
                refine lv_iload hx hb dX7_fits_223 (lv_at hl 8 rfl) ?_
                exact hret (y1, y2) _ _ _ _ _ _ _ dX7_fits_225 (by rw [ti_Sfits, hci, if_neg hbb, hck, hcl, if_neg (fun z => c215 ((ti_nI_0 (show w9 < 2 ^ 31 by omega)).mp z)), hv]) (⟨hy1, hy2⟩) hP hS (Nat.le_refl _) (Nat.le_refl _)
              · skip
                refine lv_iload hx hb dX7_fits_218 (lv_at hl 7 rfl) ?_
                refine lv_goto (tgt := 225) hx hb dX7_fits_220 (by decide) ?_
                exact hret (y1, y2) _ _ _ _ _ _ _ dX7_fits_225 (by rw [ti_Sfits, hci, if_neg hbb, hck, hcl, if_pos ((ti_nI_0 (show w9 < 2 ^ 31 by omega)).mpr c215), hv]) (⟨hy1, hy2⟩) hP hS (Nat.le_refl _) (Nat.le_refl _)
            · skip
              obtain ⟨m9, hm9⟩ : ∃ m9, 10 - z = m9 + 1 := ⟨10 - z - 1, by omega⟩
              rw [hm9, show List.range' z (m9 + 1) = z :: List.range' (z + 1) m9 from rfl] at hv
              refine lv_iload_n hx hb dX7_fits_65 rfl (lv_at hl 3 rfl) ?_
              refine tn_if_ne (tgt := 74) hx hb dX7_fits_66 (by decide) (by omega) (fun c66 => ?_) (fun c66 => ?_)
              · skip
                refine lv_iload hx hb dX7_fits_74 (lv_at hl 5 rfl) ?_
                refine lv_istore (lv' := [(10, .int (nI (ti_ma xg i k9))), (0, .ref (ad 0)), (1, .int (nI i)), (2, .int (nI k9)), (3, .int (nI l9)), (4, .int (nI w9)), (5, .int (nI (ti_ma xg i k9))), (6, .int (nI (ti_mb xg i k9))), (7, .int (nI c9)), (8, .int fs), (9, .int (nI z))]) hx hb dX7_fits_76 hl (by decide) rfl (fun ls hl => ?_)
                refine lv_iload_n hx hb dX7_fits_78 rfl (lv_at hl 4 rfl) ?_
                refine lv_iconst (v := nI 1) hx hb dX7_fits_79 (by decide) ?_
                refine tn_ne (tgt := 88) hx hb dX7_fits_80 (by decide) (by omega) (by omega) (fun c80 => ?_) (fun c80 => ?_)
                · skip
                  omega
                · skip
                  refine lv_iload hx hb dX7_fits_83 (lv_at hl 10 rfl) ?_
                  refine lv_goto (tgt := 90) hx hb dX7_fits_85 (by decide) ?_
                  refine lv_istore (lv' := [(11, .int (nI z)), (10, .int (nI (ti_ma xg i k9))), (0, .ref (ad 0)), (1, .int (nI i)), (2, .int (nI k9)), (3, .int (nI l9)), (4, .int (nI w9)), (5, .int (nI (ti_ma xg i k9))), (6, .int (nI (ti_mb xg i k9))), (7, .int (nI c9)), (8, .int fs), (9, .int (nI z))]) hx hb dX7_fits_90 hl (by decide) rfl (fun ls hl => ?_)
                  refine lv_iload hx hb dX7_fits_92 (lv_at hl 1 rfl) ?_
                  refine lv_iload hx hb dX7_fits_94 (lv_at hl 7 rfl) ?_
                  refine tn_ne (tgt := 106) hx hb dX7_fits_96 (by decide) (by omega) (by omega) (fun c96 => ?_) (fun c96 => ?_)
                  · skip
                    exact absurd rfl c96
                  · skip
                    refine lv_iload hx hb dX7_fits_99 (lv_at hl 0 rfl) ?_
                    refine lv_iload hx hb dX7_fits_101 (lv_at hl 8 rfl) ?_
                    refine tn_eq (tgt := 119) hx hb dX7_fits_103 (by decide) (by omega) (by omega) (fun c103 => ?_) (fun c103 => ?_)
                    · skip
                      refine lv_iconst (v := nI 1) hx hb dX7_fits_119 (by decide) ?_
                      refine lv_goto (tgt := 124) hx hb dX7_fits_120 (by decide) ?_
                      have hft : ti_ft (I i) k9 l9 z = (ti_ma xg i k9, z) := by rw [ti_ft, hgd, if_neg c66, if_pos (by omega)]
                      have hsm : (ti_ma xg i k9, z) = (ti_ma xg i k9, ti_mb xg i k9) := by rw [c103]
                      refine lv_istore (lv' := [(12, .int (nI 1)), (11, .int (nI z)), (10, .int (nI (ti_ma xg i k9))), (0, .ref (ad 0)), (1, .int (nI i)), (2, .int (nI k9)), (3, .int (nI l9)), (4, .int (nI w9)), (5, .int (nI (ti_ma xg i k9))), (6, .int (nI (ti_mb xg i k9))), (7, .int (nI c9)), (8, .int fs), (9, .int (nI z))]) hx hb dX7_fits_124 hl (by decide) rfl (fun ls hl => ?_)
                      refine lv_aload_n hx hb dX7_fits_126 rfl (lv_at hl 3 rfl) ?_
                      refine va_get (v := .ref (ad 2)) hx hb hts in_X7 hown hK hP 0 rfl rfl 1 (by decide) (hts _ q1089) (fun _ h => h) rfl dX7_fits_127 ?_
                      refine lv_bipush (v := nI 6) hx hb dX7_fits_130 (by decide) ?_
                      refine lv_iload_n hx hb dX7_fits_132 rfl (lv_at hl 4 rfl) ?_
                      refine tn_mul hx hb dX7_fits_133 ?_
                      refine lv_iload_n hx hb dX7_fits_134 rfl (lv_at hl 5 rfl) ?_
                      refine tn_add hx hb dX7_fits_135 ?_
                      refine lv_iload hx hb dX7_fits_136 (lv_at hl 2 rfl) ?_
                      refine tn_iast (f := xg.2.1) hx hb hK hP hD hS 2 0 rfl rfl (by omega) (by decide) dX7_fits_138 (fun H locs hP hD hS => ?_)
                      have hP : va_P D vwCl (ti_wM E ad (xg.1, va_up xg.2.1 ((6 * i) + k9) (ti_ma xg i k9), xg.2.2) xd xt y1 y2 xh xs xv xb xq xk) H := hP
                      have hD : va_D A (ti_wM E ad (xg.1, va_up xg.2.1 ((6 * i) + k9) (ti_ma xg i k9), xg.2.2) xd xt y1 y2 xh xs xv xb xq xk) := hD
                      refine lv_aload_n hx hb dX7_fits_139 rfl (lv_at hl 3 rfl) ?_
                      refine va_get (v := .ref (ad 3)) hx hb hts in_X7 hown hK hP 0 rfl rfl 2 (by decide) (hts _ q1090) (fun _ h => h) rfl dX7_fits_140 ?_
                      refine lv_bipush (v := nI 6) hx hb dX7_fits_143 (by decide) ?_
                      refine lv_iload_n hx hb dX7_fits_145 rfl (lv_at hl 4 rfl) ?_
                      refine tn_mul hx hb dX7_fits_146 ?_
                      refine lv_iload_n hx hb dX7_fits_147 rfl (lv_at hl 5 rfl) ?_
                      refine tn_add hx hb dX7_fits_148 ?_
                      refine lv_iload hx hb dX7_fits_149 (lv_at hl 1 rfl) ?_
                      refine tn_iast (f := xg.2.2) hx hb hK hP hD hS 3 0 rfl rfl (by omega) (by decide) dX7_fits_151 (fun H locs hP hD hS => ?_)
                      have hP : va_P D vwCl (ti_wM E ad (xg.1, va_up xg.2.1 ((6 * i) + k9) (ti_ma xg i k9), va_up xg.2.2 ((6 * i) + k9) z) xd xt y1 y2 xh xs xv xb xq xk) H := hP
                      have hD : va_D A (ti_wM E ad (xg.1, va_up xg.2.1 ((6 * i) + k9) (ti_ma xg i k9), va_up xg.2.2 ((6 * i) + k9) z) xd xt y1 y2 xh xs xv xb xq xk) := hD
                      refine lv_iload hx hb dX7_fits_152 (lv_at hl 0 rfl) ?_
                      refine tn_if_eq (tgt := 181) hx hb dX7_fits_154 (by decide) (by omega) (fun c154 => ?_) (fun c154 => ?_)
                      · skip
                        exact absurd c154 (by decide)
                      · skip
                        have hor : (ti_ma xg i k9, z) = (I i).getD k9 (0, 0) ∨ (ti_ma xg i k9, z) ∉ I i := Or.inl (hsm.trans hgd.symm)
                        have hG0 : ti_G (ti_mset xg (6 * i + k9) (ti_ma xg i k9) z) 0 = (if i = 0 then (I 0).set k9 (ti_ma xg i k9, z) else I 0) := by
                          by_cases hi0 : i = 0
                          · subst hi0; rw [if_pos rfl, ti_mset_G hxg hk9, hg]
                          · rw [if_neg hi0, ti_mset_Gn hxg hk9 (fun e => hi0 e.symm)]; exact hI 0 (by decide)
                        have hnds : (ti_G (ti_mset xg (6 * i + k9) (ti_ma xg i k9) z) 0).Nodup := by
                          rw [hG0]
                          by_cases hi0 : i = 0
                          · subst hi0; rw [if_pos rfl]; exact ti_set_nod hnd0 hor
                          · rw [if_neg hi0]; exact hnd0
                        have hk1 : ti_ftok I SN i k9 l9 z = ti_seen (ti_G (ti_mset xg (6 * i + k9) (ti_ma xg i k9) z) 0) SN := by
                          rw [ti_ftok, hG0, hft]
                          have hx1 : (decide ((ti_ma xg i k9, z) = (I i).getD k9 (0, 0)) || decide ((ti_ma xg i k9, z) ∉ I i)) = true := by rcases hor with h | h <;> simp [h]
                          rw [hx1]; rfl
                        refine lv_aload_n hx hb dX7_fits_157 rfl (lv_at hl 3 rfl) ?_
                        refine ti_mVa (As := []) (rest := []) S hE hP hD hS hA (met_X7_isSeen l D E ad (xg.1, va_up xg.2.1 ((6 * i) + k9) (ti_ma xg i k9), va_up xg.2.2 ((6 * i) + k9) z) xd xt y1 y2 xh xs xv xb xq xk (ti_mset_ok hxg (by omega) (by omega)) hy1 hy2 hxs SN hSN hnds) (fun _ => rfl) (lw_V q1494 q1496 qs61 q73 q1497) 0 rfl 0 rfl rfl (by decide +kernel) ⟨Nat.le_of_ble_eq_true rfl, Nat.le_of_ble_eq_true rfl⟩ hl.1 rfl (Nat.le_of_ble_eq_true rfl) ⟨Nat.le_refl _, Nat.le_refl _⟩ dX7_fits_158 (fun u1 H locs hu hP hD hS => ?_)
                        have hu1 := hu
                        have hP : va_P D vwCl (ti_wM E ad (xg.1, va_up xg.2.1 ((6 * i) + k9) (ti_ma xg i k9), va_up xg.2.2 ((6 * i) + k9) z) xd xt u1.1 u1.2 xh xs xv xb xq xk) H := hP
                        have hD : va_D A (ti_wM E ad (xg.1, va_up xg.2.1 ((6 * i) + k9) (ti_ma xg i k9), va_up xg.2.2 ((6 * i) + k9) z) xd xt u1.1 u1.2 xh xs xv xb xq xk) := hD
                        refine W.eq (g2 := F0 m 161 ls [.int (ti_b (ti_seen (ti_G (ti_mset xg (6 * i + k9) (ti_ma xg i k9) z) 0) SN))]) rfl ?_
                        refine tb_eq (tgt := 181) hx hb dX7_fits_161 (by decide) (fun c161 => ?_) (fun c161 => ?_)
                        · skip
                          refine lv_aload_n hx hb dX7_fits_181 rfl (lv_at hl 3 rfl) ?_
                          refine va_get (v := .ref (ad 2)) hx hb hts in_X7 hown hK hP 0 rfl rfl 1 (by decide) (hts _ q1089) (fun _ h => h) rfl dX7_fits_182 ?_
                          refine lv_bipush (v := nI 6) hx hb dX7_fits_185 (by decide) ?_
                          refine lv_iload_n hx hb dX7_fits_187 rfl (lv_at hl 4 rfl) ?_
                          refine tn_mul hx hb dX7_fits_188 ?_
                          refine lv_iload_n hx hb dX7_fits_189 rfl (lv_at hl 5 rfl) ?_
                          refine tn_add hx hb dX7_fits_190 ?_
                          refine lv_iload hx hb dX7_fits_191 (lv_at hl 8 rfl) ?_
                          refine tn_iast (f := va_up xg.2.1 ((6 * i) + k9) (ti_ma xg i k9)) hx hb hK hP hD hS 2 0 rfl rfl (by omega) (by decide) dX7_fits_193 (fun H locs hP hD hS => ?_)
                          have hP : va_P D vwCl (ti_wM E ad (xg.1, va_up (va_up xg.2.1 ((6 * i) + k9) (ti_ma xg i k9)) ((6 * i) + k9) (ti_ma xg i k9), va_up xg.2.2 ((6 * i) + k9) z) xd xt u1.1 u1.2 xh xs xv xb xq xk) H := hP
                          have hD : va_D A (ti_wM E ad (xg.1, va_up (va_up xg.2.1 ((6 * i) + k9) (ti_ma xg i k9)) ((6 * i) + k9) (ti_ma xg i k9), va_up xg.2.2 ((6 * i) + k9) z) xd xt u1.1 u1.2 xh xs xv xb xq xk) := hD
                          refine lv_aload_n hx hb dX7_fits_194 rfl (lv_at hl 3 rfl) ?_
                          refine va_get (v := .ref (ad 3)) hx hb hts in_X7 hown hK hP 0 rfl rfl 2 (by decide) (hts _ q1090) (fun _ h => h) rfl dX7_fits_195 ?_
                          refine lv_bipush (v := nI 6) hx hb dX7_fits_198 (by decide) ?_
                          refine lv_iload_n hx hb dX7_fits_200 rfl (lv_at hl 4 rfl) ?_
                          refine tn_mul hx hb dX7_fits_201 ?_
                          refine lv_iload_n hx hb dX7_fits_202 rfl (lv_at hl 5 rfl) ?_
                          refine tn_add hx hb dX7_fits_203 ?_
                          refine lv_iload hx hb dX7_fits_204 (lv_at hl 9 rfl) ?_
                          refine tn_iast (f := va_up xg.2.2 ((6 * i) + k9) z) hx hb hK hP hD hS 3 0 rfl rfl (by omega) (by decide) dX7_fits_206 (fun H locs hP hD hS => ?_)
                          have hP : va_P D vwCl (ti_wM E ad (xg.1, va_up (va_up xg.2.1 ((6 * i) + k9) (ti_ma xg i k9)) ((6 * i) + k9) (ti_ma xg i k9), va_up (va_up xg.2.2 ((6 * i) + k9) z) ((6 * i) + k9) (ti_mb xg i k9)) xd xt u1.1 u1.2 xh xs xv xb xq xk) H := hP
                          have hD : va_D A (ti_wM E ad (xg.1, va_up (va_up xg.2.1 ((6 * i) + k9) (ti_ma xg i k9)) ((6 * i) + k9) (ti_ma xg i k9), va_up (va_up xg.2.2 ((6 * i) + k9) z) ((6 * i) + k9) (ti_mb xg i k9)) xd xt u1.1 u1.2 xh xs xv xb xq xk) := hD
                          have hP := ti_P_rep (g := ti_n xg.2.1) hP 2 rfl (fun j _ => congrFun (congrArg ti_n (ti_up_back xg.2.1 (6 * i + k9) (ti_ma xg i k9))) j)
                          have hD := ti_D_rep (q := 2) hD rfl (e := .inl (E 0, 18, .inl (ti_n xg.2.1)))
                          have hP : va_P D vwCl (ti_wM E ad (xg.1, xg.2.1, va_up (va_up xg.2.2 ((6 * i) + k9) z) ((6 * i) + k9) (ti_mb xg i k9)) xd xt u1.1 u1.2 xh xs xv xb xq xk) H := hP
                          have hD : va_D A (ti_wM E ad (xg.1, xg.2.1, va_up (va_up xg.2.2 ((6 * i) + k9) z) ((6 * i) + k9) (ti_mb xg i k9)) xd xt u1.1 u1.2 xh xs xv xb xq xk) := hD
                          have hP := ti_P_rep (g := ti_n xg.2.2) hP 3 rfl (fun j _ => congrFun (congrArg ti_n (ti_up_back xg.2.2 (6 * i + k9) z)) j)
                          have hD := ti_D_rep (q := 3) hD rfl (e := .inl (E 0, 18, .inl (ti_n xg.2.2)))
                          have hP : va_P D vwCl (ti_wM E ad xg xd xt u1.1 u1.2 xh xs xv xb xq xk) H := hP
                          have hD : va_D A (ti_wM E ad xg xd xt u1.1 u1.2 xh xs xv xb xq xk) := hD
                          refine lv_iinc (v := nI (z + 1)) (lv' := [(9, .int (nI (z + 1))), (12, .int (nI 1)), (11, .int (nI z)), (10, .int (nI (ti_ma xg i k9))), (0, .ref (ad 0)), (1, .int (nI i)), (2, .int (nI k9)), (3, .int (nI l9)), (4, .int (nI w9)), (5, .int (nI (ti_ma xg i k9))), (6, .int (nI (ti_mb xg i k9))), (7, .int (nI c9)), (8, .int fs)]) hx hb dX7_fits_207 hl (k := 12) rfl (nI_1 z) (by decide) rfl (fun ls hl => ?_)
                          refine lv_goto (tgt := 58) hx hb dX7_fits_210 (by decide) ?_
                          exact ih58 (z + 1) c9 fs u1.1 u1.2 _ _ _ hP hD hS (by omega) (by omega) (by omega) (hu1.1) (hu1.2) (by rw [hv, ti_ftn, if_neg (by rw [hk1, c161]; decide), show 10 - (z + 1) = m9 by omega]) (lv_sub hl [4, 5, 6, 7, 8, 9, 10, 11, 12, 0] rfl)
                        · skip
                          refine lv_iload hx hb dX7_fits_164 (lv_at hl 10 rfl) ?_
                          refine tn_if_ne (tgt := 174) hx hb dX7_fits_166 (by decide) (by omega) (fun c166 => ?_) (fun c166 => ?_)
                          · skip
                            refine lv_iload hx hb dX7_fits_174 (lv_at hl 11 rfl) ?_
                            refine lv_istore (lv' := [(8, .int fs), (12, .int (nI 1)), (11, .int (nI z)), (10, .int (nI (ti_ma xg i k9))), (0, .ref (ad 0)), (1, .int (nI i)), (2, .int (nI k9)), (3, .int (nI l9)), (4, .int (nI w9)), (5, .int (nI (ti_ma xg i k9))), (6, .int (nI (ti_mb xg i k9))), (7, .int (nI c9)), (9, .int (nI z))]) hx hb dX7_fits_176 hl (by decide) rfl (fun ls hl => ?_)
                            refine lv_iinc (v := nI (c9 + 1)) (lv' := [(7, .int (nI (c9 + 1))), (8, .int fs), (12, .int (nI 1)), (11, .int (nI z)), (10, .int (nI (ti_ma xg i k9))), (0, .ref (ad 0)), (1, .int (nI i)), (2, .int (nI k9)), (3, .int (nI l9)), (4, .int (nI w9)), (5, .int (nI (ti_ma xg i k9))), (6, .int (nI (ti_mb xg i k9))), (9, .int (nI z))]) hx hb dX7_fits_178 hl (k := 11) rfl (nI_1 c9) (by decide) rfl (fun ls hl => ?_)
                            refine lv_aload_n hx hb dX7_fits_181 rfl (lv_at hl 5 rfl) ?_
                            refine va_get (v := .ref (ad 2)) hx hb hts in_X7 hown hK hP 0 rfl rfl 1 (by decide) (hts _ q1089) (fun _ h => h) rfl dX7_fits_182 ?_
                            refine lv_bipush (v := nI 6) hx hb dX7_fits_185 (by decide) ?_
                            refine lv_iload_n hx hb dX7_fits_187 rfl (lv_at hl 6 rfl) ?_
                            refine tn_mul hx hb dX7_fits_188 ?_
                            refine lv_iload_n hx hb dX7_fits_189 rfl (lv_at hl 7 rfl) ?_
                            refine tn_add hx hb dX7_fits_190 ?_
                            refine lv_iload hx hb dX7_fits_191 (lv_at hl 10 rfl) ?_
                            refine tn_iast (f := va_up xg.2.1 ((6 * i) + k9) (ti_ma xg i k9)) hx hb hK hP hD hS 2 0 rfl rfl (by omega) (by decide) dX7_fits_193 (fun H locs hP hD hS => ?_)
                            have hP : va_P D vwCl (ti_wM E ad (xg.1, va_up (va_up xg.2.1 ((6 * i) + k9) (ti_ma xg i k9)) ((6 * i) + k9) (ti_ma xg i k9), va_up xg.2.2 ((6 * i) + k9) z) xd xt u1.1 u1.2 xh xs xv xb xq xk) H := hP
                            have hD : va_D A (ti_wM E ad (xg.1, va_up (va_up xg.2.1 ((6 * i) + k9) (ti_ma xg i k9)) ((6 * i) + k9) (ti_ma xg i k9), va_up xg.2.2 ((6 * i) + k9) z) xd xt u1.1 u1.2 xh xs xv xb xq xk) := hD
                            refine lv_aload_n hx hb dX7_fits_194 rfl (lv_at hl 5 rfl) ?_
                            refine va_get (v := .ref (ad 3)) hx hb hts in_X7 hown hK hP 0 rfl rfl 2 (by decide) (hts _ q1090) (fun _ h => h) rfl dX7_fits_195 ?_
                            refine lv_bipush (v := nI 6) hx hb dX7_fits_198 (by decide) ?_
                            refine lv_iload_n hx hb dX7_fits_200 rfl (lv_at hl 6 rfl) ?_
                            refine tn_mul hx hb dX7_fits_201 ?_
                            refine lv_iload_n hx hb dX7_fits_202 rfl (lv_at hl 7 rfl) ?_
                            refine tn_add hx hb dX7_fits_203 ?_
                            refine lv_iload hx hb dX7_fits_204 (lv_at hl 11 rfl) ?_
                            refine tn_iast (f := va_up xg.2.2 ((6 * i) + k9) z) hx hb hK hP hD hS 3 0 rfl rfl (by omega) (by decide) dX7_fits_206 (fun H locs hP hD hS => ?_)
                            have hP : va_P D vwCl (ti_wM E ad (xg.1, va_up (va_up xg.2.1 ((6 * i) + k9) (ti_ma xg i k9)) ((6 * i) + k9) (ti_ma xg i k9), va_up (va_up xg.2.2 ((6 * i) + k9) z) ((6 * i) + k9) (ti_mb xg i k9)) xd xt u1.1 u1.2 xh xs xv xb xq xk) H := hP
                            have hD : va_D A (ti_wM E ad (xg.1, va_up (va_up xg.2.1 ((6 * i) + k9) (ti_ma xg i k9)) ((6 * i) + k9) (ti_ma xg i k9), va_up (va_up xg.2.2 ((6 * i) + k9) z) ((6 * i) + k9) (ti_mb xg i k9)) xd xt u1.1 u1.2 xh xs xv xb xq xk) := hD
                            have hP := ti_P_rep (g := ti_n xg.2.1) hP 2 rfl (fun j _ => congrFun (congrArg ti_n (ti_up_back xg.2.1 (6 * i + k9) (ti_ma xg i k9))) j)
                            have hD := ti_D_rep (q := 2) hD rfl (e := .inl (E 0, 18, .inl (ti_n xg.2.1)))
                            have hP : va_P D vwCl (ti_wM E ad (xg.1, xg.2.1, va_up (va_up xg.2.2 ((6 * i) + k9) z) ((6 * i) + k9) (ti_mb xg i k9)) xd xt u1.1 u1.2 xh xs xv xb xq xk) H := hP
                            have hD : va_D A (ti_wM E ad (xg.1, xg.2.1, va_up (va_up xg.2.2 ((6 * i) + k9) z) ((6 * i) + k9) (ti_mb xg i k9)) xd xt u1.1 u1.2 xh xs xv xb xq xk) := hD
                            have hP := ti_P_rep (g := ti_n xg.2.2) hP 3 rfl (fun j _ => congrFun (congrArg ti_n (ti_up_back xg.2.2 (6 * i + k9) z)) j)
                            have hD := ti_D_rep (q := 3) hD rfl (e := .inl (E 0, 18, .inl (ti_n xg.2.2)))
                            have hP : va_P D vwCl (ti_wM E ad xg xd xt u1.1 u1.2 xh xs xv xb xq xk) H := hP
                            have hD : va_D A (ti_wM E ad xg xd xt u1.1 u1.2 xh xs xv xb xq xk) := hD
                            refine lv_iinc (v := nI (z + 1)) (lv' := [(9, .int (nI (z + 1))), (7, .int (nI (c9 + 1))), (8, .int fs), (12, .int (nI 1)), (11, .int (nI z)), (10, .int (nI (ti_ma xg i k9))), (0, .ref (ad 0)), (1, .int (nI i)), (2, .int (nI k9)), (3, .int (nI l9)), (4, .int (nI w9)), (5, .int (nI (ti_ma xg i k9))), (6, .int (nI (ti_mb xg i k9)))]) hx hb dX7_fits_207 hl (k := 12) rfl (nI_1 z) (by decide) rfl (fun ls hl => ?_)
                            refine lv_goto (tgt := 58) hx hb dX7_fits_210 (by decide) ?_
                            exact ih58 (z + 1) (c9 + 1) fs u1.1 u1.2 _ _ _ hP hD hS (by omega) (by omega) (by omega) (hu1.1) (hu1.2) (by rw [hv, ti_ftn, if_pos (by rw [hk1, c161]), show 10 - (z + 1) = m9 by omega]; show ti_ftn _ _ _ _ _ _ (c9 + 1, if c9 = 0 then nI z else fs) = _; rw [if_neg c166]) (lv_sub hl [6, 7, 8, 9, 10, 11, 12, 1, 2, 0] rfl)
                          · skip
                            refine lv_iload hx hb dX7_fits_169 (lv_at hl 12 rfl) ?_
                            refine lv_goto (tgt := 176) hx hb dX7_fits_171 (by decide) ?_
                            refine lv_istore (lv' := [(8, .int (nI z)), (12, .int (nI 1)), (11, .int (nI z)), (10, .int (nI (ti_ma xg i k9))), (0, .ref (ad 0)), (1, .int (nI i)), (2, .int (nI k9)), (3, .int (nI l9)), (4, .int (nI w9)), (5, .int (nI (ti_ma xg i k9))), (6, .int (nI (ti_mb xg i k9))), (7, .int (nI c9)), (9, .int (nI z))]) hx hb dX7_fits_176 hl (by decide) rfl (fun ls hl => ?_)
                            refine lv_iinc (v := nI (c9 + 1)) (lv' := [(7, .int (nI (c9 + 1))), (8, .int (nI z)), (12, .int (nI 1)), (11, .int (nI z)), (10, .int (nI (ti_ma xg i k9))), (0, .ref (ad 0)), (1, .int (nI i)), (2, .int (nI k9)), (3, .int (nI l9)), (4, .int (nI w9)), (5, .int (nI (ti_ma xg i k9))), (6, .int (nI (ti_mb xg i k9))), (9, .int (nI z))]) hx hb dX7_fits_178 hl (k := 11) rfl (nI_1 c9) (by decide) rfl (fun ls hl => ?_)
                            refine lv_aload_n hx hb dX7_fits_181 rfl (lv_at hl 5 rfl) ?_
                            refine va_get (v := .ref (ad 2)) hx hb hts in_X7 hown hK hP 0 rfl rfl 1 (by decide) (hts _ q1089) (fun _ h => h) rfl dX7_fits_182 ?_
                            refine lv_bipush (v := nI 6) hx hb dX7_fits_185 (by decide) ?_
                            refine lv_iload_n hx hb dX7_fits_187 rfl (lv_at hl 6 rfl) ?_
                            refine tn_mul hx hb dX7_fits_188 ?_
                            refine lv_iload_n hx hb dX7_fits_189 rfl (lv_at hl 7 rfl) ?_
                            refine tn_add hx hb dX7_fits_190 ?_
                            refine lv_iload hx hb dX7_fits_191 (lv_at hl 10 rfl) ?_
                            refine tn_iast (f := va_up xg.2.1 ((6 * i) + k9) (ti_ma xg i k9)) hx hb hK hP hD hS 2 0 rfl rfl (by omega) (by decide) dX7_fits_193 (fun H locs hP hD hS => ?_)
                            have hP : va_P D vwCl (ti_wM E ad (xg.1, va_up (va_up xg.2.1 ((6 * i) + k9) (ti_ma xg i k9)) ((6 * i) + k9) (ti_ma xg i k9), va_up xg.2.2 ((6 * i) + k9) z) xd xt u1.1 u1.2 xh xs xv xb xq xk) H := hP
                            have hD : va_D A (ti_wM E ad (xg.1, va_up (va_up xg.2.1 ((6 * i) + k9) (ti_ma xg i k9)) ((6 * i) + k9) (ti_ma xg i k9), va_up xg.2.2 ((6 * i) + k9) z) xd xt u1.1 u1.2 xh xs xv xb xq xk) := hD
                            refine lv_aload_n hx hb dX7_fits_194 rfl (lv_at hl 5 rfl) ?_
                            refine va_get (v := .ref (ad 3)) hx hb hts in_X7 hown hK hP 0 rfl rfl 2 (by decide) (hts _ q1090) (fun _ h => h) rfl dX7_fits_195 ?_
                            refine lv_bipush (v := nI 6) hx hb dX7_fits_198 (by decide) ?_
                            refine lv_iload_n hx hb dX7_fits_200 rfl (lv_at hl 6 rfl) ?_
                            refine tn_mul hx hb dX7_fits_201 ?_
                            refine lv_iload_n hx hb dX7_fits_202 rfl (lv_at hl 7 rfl) ?_
                            refine tn_add hx hb dX7_fits_203 ?_
                            refine lv_iload hx hb dX7_fits_204 (lv_at hl 11 rfl) ?_
                            refine tn_iast (f := va_up xg.2.2 ((6 * i) + k9) z) hx hb hK hP hD hS 3 0 rfl rfl (by omega) (by decide) dX7_fits_206 (fun H locs hP hD hS => ?_)
                            have hP : va_P D vwCl (ti_wM E ad (xg.1, va_up (va_up xg.2.1 ((6 * i) + k9) (ti_ma xg i k9)) ((6 * i) + k9) (ti_ma xg i k9), va_up (va_up xg.2.2 ((6 * i) + k9) z) ((6 * i) + k9) (ti_mb xg i k9)) xd xt u1.1 u1.2 xh xs xv xb xq xk) H := hP
                            have hD : va_D A (ti_wM E ad (xg.1, va_up (va_up xg.2.1 ((6 * i) + k9) (ti_ma xg i k9)) ((6 * i) + k9) (ti_ma xg i k9), va_up (va_up xg.2.2 ((6 * i) + k9) z) ((6 * i) + k9) (ti_mb xg i k9)) xd xt u1.1 u1.2 xh xs xv xb xq xk) := hD
                            have hP := ti_P_rep (g := ti_n xg.2.1) hP 2 rfl (fun j _ => congrFun (congrArg ti_n (ti_up_back xg.2.1 (6 * i + k9) (ti_ma xg i k9))) j)
                            have hD := ti_D_rep (q := 2) hD rfl (e := .inl (E 0, 18, .inl (ti_n xg.2.1)))
                            have hP : va_P D vwCl (ti_wM E ad (xg.1, xg.2.1, va_up (va_up xg.2.2 ((6 * i) + k9) z) ((6 * i) + k9) (ti_mb xg i k9)) xd xt u1.1 u1.2 xh xs xv xb xq xk) H := hP
                            have hD : va_D A (ti_wM E ad (xg.1, xg.2.1, va_up (va_up xg.2.2 ((6 * i) + k9) z) ((6 * i) + k9) (ti_mb xg i k9)) xd xt u1.1 u1.2 xh xs xv xb xq xk) := hD
                            have hP := ti_P_rep (g := ti_n xg.2.2) hP 3 rfl (fun j _ => congrFun (congrArg ti_n (ti_up_back xg.2.2 (6 * i + k9) z)) j)
                            have hD := ti_D_rep (q := 3) hD rfl (e := .inl (E 0, 18, .inl (ti_n xg.2.2)))
                            have hP : va_P D vwCl (ti_wM E ad xg xd xt u1.1 u1.2 xh xs xv xb xq xk) H := hP
                            have hD : va_D A (ti_wM E ad xg xd xt u1.1 u1.2 xh xs xv xb xq xk) := hD
                            refine lv_iinc (v := nI (z + 1)) (lv' := [(9, .int (nI (z + 1))), (7, .int (nI (c9 + 1))), (8, .int (nI z)), (12, .int (nI 1)), (11, .int (nI z)), (10, .int (nI (ti_ma xg i k9))), (0, .ref (ad 0)), (1, .int (nI i)), (2, .int (nI k9)), (3, .int (nI l9)), (4, .int (nI w9)), (5, .int (nI (ti_ma xg i k9))), (6, .int (nI (ti_mb xg i k9)))]) hx hb dX7_fits_207 hl (k := 12) rfl (nI_1 z) (by decide) rfl (fun ls hl => ?_)
                            refine lv_goto (tgt := 58) hx hb dX7_fits_210 (by decide) ?_
                            exact ih58 (z + 1) (c9 + 1) (nI z) u1.1 u1.2 _ _ _ hP hD hS (by omega) (by omega) (by omega) (hu1.1) (hu1.2) (by rw [hv, ti_ftn, if_pos (by rw [hk1, c161]), show 10 - (z + 1) = m9 by omega]; show ti_ftn _ _ _ _ _ _ (c9 + 1, if c9 = 0 then nI z else fs) = _; rw [if_pos c166]) (lv_sub hl [6, 7, 8, 9, 10, 11, 12, 1, 2, 0] rfl)
                    · skip
                      refine lv_aload_n hx hb dX7_fits_106 rfl (lv_at hl 2 rfl) ?_
                      refine lv_iload_n hx hb dX7_fits_107 rfl (lv_at hl 3 rfl) ?_
                      refine lv_iload hx hb dX7_fits_108 (lv_at hl 1 rfl) ?_
                      refine lv_iload hx hb dX7_fits_110 (lv_at hl 0 rfl) ?_
                      refine ti_pVa (As := [.int (nI i), .int (nI (ti_ma xg i k9)), .int (nI z)]) (rest := []) (v := .int (ti_pm (ti_pl (ti_ma xg i k9) z (ti_G xg i) 0))) S hE hP (met_X7_which l D E ad xg xd xt y1 y2 xh xs xv xb xq xk hxg i (by omega) (ti_ma xg i k9) z (by omega) (by omega)) (lw_V q1241 q1243 qs25 q73 q1244) 3 rfl 0 rfl rfl (by decide +kernel) ⟨Nat.le_of_ble_eq_true rfl, Nat.le_of_ble_eq_true rfl⟩ hl.1 rfl (Nat.le_of_ble_eq_true rfl) ⟨Nat.le_refl _, Nat.le_refl _⟩ dX7_fits_112 ?_
                      refine lv_iconst (v := (-1)) hx hb dX7_fits_115 (by decide) ?_
                      refine lv_icmp_ne (tgt := 123) hx hb dX7_fits_116 (by decide) (fun c116 => ?_) (fun c116 => ?_)
                      · skip
                        have hmem : (ti_ma xg i k9, z) ∈ I i := by rw [← hg]; exact Classical.not_not.mp fun z9 => c116 ((ti_placeM (by show (ti_gr _ _ _ _).length < _; rw [ti_gr_len]; omega)).mpr z9)
                        refine lv_iconst (v := nI 0) hx hb dX7_fits_123 (by decide) ?_
                        have hft : ti_ft (I i) k9 l9 z = (ti_ma xg i k9, z) := by rw [ti_ft, hgd, if_neg c66, if_pos (by omega)]
                        have hk0 : ti_ftok I SN i k9 l9 z = false := by rw [ti_ftok, hft, hgd, decide_eq_false (fun e => c103 (congrArg Prod.snd e)), decide_eq_false (fun h => h hmem)]; rfl
                        refine lv_istore (lv' := [(12, .int (nI 0)), (11, .int (nI z)), (10, .int (nI (ti_ma xg i k9))), (0, .ref (ad 0)), (1, .int (nI i)), (2, .int (nI k9)), (3, .int (nI l9)), (4, .int (nI w9)), (5, .int (nI (ti_ma xg i k9))), (6, .int (nI (ti_mb xg i k9))), (7, .int (nI c9)), (8, .int fs), (9, .int (nI z))]) hx hb dX7_fits_124 hl (by decide) rfl (fun ls hl => ?_)
                        refine lv_aload_n hx hb dX7_fits_126 rfl (lv_at hl 3 rfl) ?_
                        refine va_get (v := .ref (ad 2)) hx hb hts in_X7 hown hK hP 0 rfl rfl 1 (by decide) (hts _ q1089) (fun _ h => h) rfl dX7_fits_127 ?_
                        refine lv_bipush (v := nI 6) hx hb dX7_fits_130 (by decide) ?_
                        refine lv_iload_n hx hb dX7_fits_132 rfl (lv_at hl 4 rfl) ?_
                        refine tn_mul hx hb dX7_fits_133 ?_
                        refine lv_iload_n hx hb dX7_fits_134 rfl (lv_at hl 5 rfl) ?_
                        refine tn_add hx hb dX7_fits_135 ?_
                        refine lv_iload hx hb dX7_fits_136 (lv_at hl 2 rfl) ?_
                        refine tn_iast (f := xg.2.1) hx hb hK hP hD hS 2 0 rfl rfl (by omega) (by decide) dX7_fits_138 (fun H locs hP hD hS => ?_)
                        have hP : va_P D vwCl (ti_wM E ad (xg.1, va_up xg.2.1 ((6 * i) + k9) (ti_ma xg i k9), xg.2.2) xd xt y1 y2 xh xs xv xb xq xk) H := hP
                        have hD : va_D A (ti_wM E ad (xg.1, va_up xg.2.1 ((6 * i) + k9) (ti_ma xg i k9), xg.2.2) xd xt y1 y2 xh xs xv xb xq xk) := hD
                        refine lv_aload_n hx hb dX7_fits_139 rfl (lv_at hl 3 rfl) ?_
                        refine va_get (v := .ref (ad 3)) hx hb hts in_X7 hown hK hP 0 rfl rfl 2 (by decide) (hts _ q1090) (fun _ h => h) rfl dX7_fits_140 ?_
                        refine lv_bipush (v := nI 6) hx hb dX7_fits_143 (by decide) ?_
                        refine lv_iload_n hx hb dX7_fits_145 rfl (lv_at hl 4 rfl) ?_
                        refine tn_mul hx hb dX7_fits_146 ?_
                        refine lv_iload_n hx hb dX7_fits_147 rfl (lv_at hl 5 rfl) ?_
                        refine tn_add hx hb dX7_fits_148 ?_
                        refine lv_iload hx hb dX7_fits_149 (lv_at hl 1 rfl) ?_
                        refine tn_iast (f := xg.2.2) hx hb hK hP hD hS 3 0 rfl rfl (by omega) (by decide) dX7_fits_151 (fun H locs hP hD hS => ?_)
                        have hP : va_P D vwCl (ti_wM E ad (xg.1, va_up xg.2.1 ((6 * i) + k9) (ti_ma xg i k9), va_up xg.2.2 ((6 * i) + k9) z) xd xt y1 y2 xh xs xv xb xq xk) H := hP
                        have hD : va_D A (ti_wM E ad (xg.1, va_up xg.2.1 ((6 * i) + k9) (ti_ma xg i k9), va_up xg.2.2 ((6 * i) + k9) z) xd xt y1 y2 xh xs xv xb xq xk) := hD
                        refine lv_iload hx hb dX7_fits_152 (lv_at hl 0 rfl) ?_
                        refine tn_if_eq (tgt := 181) hx hb dX7_fits_154 (by decide) (by omega) (fun c154 => ?_) (fun c154 => ?_)
                        · skip
                          refine lv_aload_n hx hb dX7_fits_181 rfl (lv_at hl 3 rfl) ?_
                          refine va_get (v := .ref (ad 2)) hx hb hts in_X7 hown hK hP 0 rfl rfl 1 (by decide) (hts _ q1089) (fun _ h => h) rfl dX7_fits_182 ?_
                          refine lv_bipush (v := nI 6) hx hb dX7_fits_185 (by decide) ?_
                          refine lv_iload_n hx hb dX7_fits_187 rfl (lv_at hl 4 rfl) ?_
                          refine tn_mul hx hb dX7_fits_188 ?_
                          refine lv_iload_n hx hb dX7_fits_189 rfl (lv_at hl 5 rfl) ?_
                          refine tn_add hx hb dX7_fits_190 ?_
                          refine lv_iload hx hb dX7_fits_191 (lv_at hl 8 rfl) ?_
                          refine tn_iast (f := va_up xg.2.1 ((6 * i) + k9) (ti_ma xg i k9)) hx hb hK hP hD hS 2 0 rfl rfl (by omega) (by decide) dX7_fits_193 (fun H locs hP hD hS => ?_)
                          have hP : va_P D vwCl (ti_wM E ad (xg.1, va_up (va_up xg.2.1 ((6 * i) + k9) (ti_ma xg i k9)) ((6 * i) + k9) (ti_ma xg i k9), va_up xg.2.2 ((6 * i) + k9) z) xd xt y1 y2 xh xs xv xb xq xk) H := hP
                          have hD : va_D A (ti_wM E ad (xg.1, va_up (va_up xg.2.1 ((6 * i) + k9) (ti_ma xg i k9)) ((6 * i) + k9) (ti_ma xg i k9), va_up xg.2.2 ((6 * i) + k9) z) xd xt y1 y2 xh xs xv xb xq xk) := hD
                          refine lv_aload_n hx hb dX7_fits_194 rfl (lv_at hl 3 rfl) ?_
                          refine va_get (v := .ref (ad 3)) hx hb hts in_X7 hown hK hP 0 rfl rfl 2 (by decide) (hts _ q1090) (fun _ h => h) rfl dX7_fits_195 ?_
                          refine lv_bipush (v := nI 6) hx hb dX7_fits_198 (by decide) ?_
                          refine lv_iload_n hx hb dX7_fits_200 rfl (lv_at hl 4 rfl) ?_
                          refine tn_mul hx hb dX7_fits_201 ?_
                          refine lv_iload_n hx hb dX7_fits_202 rfl (lv_at hl 5 rfl) ?_
                          refine tn_add hx hb dX7_fits_203 ?_
                          refine lv_iload hx hb dX7_fits_204 (lv_at hl 9 rfl) ?_
                          refine tn_iast (f := va_up xg.2.2 ((6 * i) + k9) z) hx hb hK hP hD hS 3 0 rfl rfl (by omega) (by decide) dX7_fits_206 (fun H locs hP hD hS => ?_)
                          have hP : va_P D vwCl (ti_wM E ad (xg.1, va_up (va_up xg.2.1 ((6 * i) + k9) (ti_ma xg i k9)) ((6 * i) + k9) (ti_ma xg i k9), va_up (va_up xg.2.2 ((6 * i) + k9) z) ((6 * i) + k9) (ti_mb xg i k9)) xd xt y1 y2 xh xs xv xb xq xk) H := hP
                          have hD : va_D A (ti_wM E ad (xg.1, va_up (va_up xg.2.1 ((6 * i) + k9) (ti_ma xg i k9)) ((6 * i) + k9) (ti_ma xg i k9), va_up (va_up xg.2.2 ((6 * i) + k9) z) ((6 * i) + k9) (ti_mb xg i k9)) xd xt y1 y2 xh xs xv xb xq xk) := hD
                          have hP := ti_P_rep (g := ti_n xg.2.1) hP 2 rfl (fun j _ => congrFun (congrArg ti_n (ti_up_back xg.2.1 (6 * i + k9) (ti_ma xg i k9))) j)
                          have hD := ti_D_rep (q := 2) hD rfl (e := .inl (E 0, 18, .inl (ti_n xg.2.1)))
                          have hP : va_P D vwCl (ti_wM E ad (xg.1, xg.2.1, va_up (va_up xg.2.2 ((6 * i) + k9) z) ((6 * i) + k9) (ti_mb xg i k9)) xd xt y1 y2 xh xs xv xb xq xk) H := hP
                          have hD : va_D A (ti_wM E ad (xg.1, xg.2.1, va_up (va_up xg.2.2 ((6 * i) + k9) z) ((6 * i) + k9) (ti_mb xg i k9)) xd xt y1 y2 xh xs xv xb xq xk) := hD
                          have hP := ti_P_rep (g := ti_n xg.2.2) hP 3 rfl (fun j _ => congrFun (congrArg ti_n (ti_up_back xg.2.2 (6 * i + k9) z)) j)
                          have hD := ti_D_rep (q := 3) hD rfl (e := .inl (E 0, 18, .inl (ti_n xg.2.2)))
                          have hP : va_P D vwCl (ti_wM E ad xg xd xt y1 y2 xh xs xv xb xq xk) H := hP
                          have hD : va_D A (ti_wM E ad xg xd xt y1 y2 xh xs xv xb xq xk) := hD
                          refine lv_iinc (v := nI (z + 1)) (lv' := [(9, .int (nI (z + 1))), (12, .int (nI 0)), (11, .int (nI z)), (10, .int (nI (ti_ma xg i k9))), (0, .ref (ad 0)), (1, .int (nI i)), (2, .int (nI k9)), (3, .int (nI l9)), (4, .int (nI w9)), (5, .int (nI (ti_ma xg i k9))), (6, .int (nI (ti_mb xg i k9))), (7, .int (nI c9)), (8, .int fs)]) hx hb dX7_fits_207 hl (k := 12) rfl (nI_1 z) (by decide) rfl (fun ls hl => ?_)
                          refine lv_goto (tgt := 58) hx hb dX7_fits_210 (by decide) ?_
                          exact ih58 (z + 1) c9 fs y1 y2 _ _ _ hP hD hS (by omega) (by omega) (by omega) (hy1) (hy2) (by rw [hv, ti_ftn, if_neg (by rw [hk0]; decide), show 10 - (z + 1) = m9 by omega]) (lv_sub hl [4, 5, 6, 7, 8, 9, 10, 11, 12, 0] rfl)
                        · skip
                          exact absurd rfl c154
                      · skip
                        have hmem : (ti_ma xg i k9, z) ∉ I i := by rw [← hg]; exact (ti_placeM (by show (ti_gr _ _ _ _).length < _; rw [ti_gr_len]; omega)).mp c116
                        refine lv_iconst (v := nI 1) hx hb dX7_fits_119 (by decide) ?_
                        refine lv_goto (tgt := 124) hx hb dX7_fits_120 (by decide) ?_
                        have hft : ti_ft (I i) k9 l9 z = (ti_ma xg i k9, z) := by rw [ti_ft, hgd, if_neg c66, if_pos (by omega)]
                        refine lv_istore (lv' := [(12, .int (nI 1)), (11, .int (nI z)), (10, .int (nI (ti_ma xg i k9))), (0, .ref (ad 0)), (1, .int (nI i)), (2, .int (nI k9)), (3, .int (nI l9)), (4, .int (nI w9)), (5, .int (nI (ti_ma xg i k9))), (6, .int (nI (ti_mb xg i k9))), (7, .int (nI c9)), (8, .int fs), (9, .int (nI z))]) hx hb dX7_fits_124 hl (by decide) rfl (fun ls hl => ?_)
                        refine lv_aload_n hx hb dX7_fits_126 rfl (lv_at hl 3 rfl) ?_
                        refine va_get (v := .ref (ad 2)) hx hb hts in_X7 hown hK hP 0 rfl rfl 1 (by decide) (hts _ q1089) (fun _ h => h) rfl dX7_fits_127 ?_
                        refine lv_bipush (v := nI 6) hx hb dX7_fits_130 (by decide) ?_
                        refine lv_iload_n hx hb dX7_fits_132 rfl (lv_at hl 4 rfl) ?_
                        refine tn_mul hx hb dX7_fits_133 ?_
                        refine lv_iload_n hx hb dX7_fits_134 rfl (lv_at hl 5 rfl) ?_
                        refine tn_add hx hb dX7_fits_135 ?_
                        refine lv_iload hx hb dX7_fits_136 (lv_at hl 2 rfl) ?_
                        refine tn_iast (f := xg.2.1) hx hb hK hP hD hS 2 0 rfl rfl (by omega) (by decide) dX7_fits_138 (fun H locs hP hD hS => ?_)
                        have hP : va_P D vwCl (ti_wM E ad (xg.1, va_up xg.2.1 ((6 * i) + k9) (ti_ma xg i k9), xg.2.2) xd xt y1 y2 xh xs xv xb xq xk) H := hP
                        have hD : va_D A (ti_wM E ad (xg.1, va_up xg.2.1 ((6 * i) + k9) (ti_ma xg i k9), xg.2.2) xd xt y1 y2 xh xs xv xb xq xk) := hD
                        refine lv_aload_n hx hb dX7_fits_139 rfl (lv_at hl 3 rfl) ?_
                        refine va_get (v := .ref (ad 3)) hx hb hts in_X7 hown hK hP 0 rfl rfl 2 (by decide) (hts _ q1090) (fun _ h => h) rfl dX7_fits_140 ?_
                        refine lv_bipush (v := nI 6) hx hb dX7_fits_143 (by decide) ?_
                        refine lv_iload_n hx hb dX7_fits_145 rfl (lv_at hl 4 rfl) ?_
                        refine tn_mul hx hb dX7_fits_146 ?_
                        refine lv_iload_n hx hb dX7_fits_147 rfl (lv_at hl 5 rfl) ?_
                        refine tn_add hx hb dX7_fits_148 ?_
                        refine lv_iload hx hb dX7_fits_149 (lv_at hl 1 rfl) ?_
                        refine tn_iast (f := xg.2.2) hx hb hK hP hD hS 3 0 rfl rfl (by omega) (by decide) dX7_fits_151 (fun H locs hP hD hS => ?_)
                        have hP : va_P D vwCl (ti_wM E ad (xg.1, va_up xg.2.1 ((6 * i) + k9) (ti_ma xg i k9), va_up xg.2.2 ((6 * i) + k9) z) xd xt y1 y2 xh xs xv xb xq xk) H := hP
                        have hD : va_D A (ti_wM E ad (xg.1, va_up xg.2.1 ((6 * i) + k9) (ti_ma xg i k9), va_up xg.2.2 ((6 * i) + k9) z) xd xt y1 y2 xh xs xv xb xq xk) := hD
                        refine lv_iload hx hb dX7_fits_152 (lv_at hl 0 rfl) ?_
                        refine tn_if_eq (tgt := 181) hx hb dX7_fits_154 (by decide) (by omega) (fun c154 => ?_) (fun c154 => ?_)
                        · skip
                          exact absurd c154 (by decide)
                        · skip
                          have hor : (ti_ma xg i k9, z) = (I i).getD k9 (0, 0) ∨ (ti_ma xg i k9, z) ∉ I i := Or.inr hmem
                          have hG0 : ti_G (ti_mset xg (6 * i + k9) (ti_ma xg i k9) z) 0 = (if i = 0 then (I 0).set k9 (ti_ma xg i k9, z) else I 0) := by
                            by_cases hi0 : i = 0
                            · subst hi0; rw [if_pos rfl, ti_mset_G hxg hk9, hg]
                            · rw [if_neg hi0, ti_mset_Gn hxg hk9 (fun e => hi0 e.symm)]; exact hI 0 (by decide)
                          have hnds : (ti_G (ti_mset xg (6 * i + k9) (ti_ma xg i k9) z) 0).Nodup := by
                            rw [hG0]
                            by_cases hi0 : i = 0
                            · subst hi0; rw [if_pos rfl]; exact ti_set_nod hnd0 hor
                            · rw [if_neg hi0]; exact hnd0
                          have hk1 : ti_ftok I SN i k9 l9 z = ti_seen (ti_G (ti_mset xg (6 * i + k9) (ti_ma xg i k9) z) 0) SN := by
                            rw [ti_ftok, hG0, hft]
                            have hx1 : (decide ((ti_ma xg i k9, z) = (I i).getD k9 (0, 0)) || decide ((ti_ma xg i k9, z) ∉ I i)) = true := by rcases hor with h | h <;> simp [h]
                            rw [hx1]; rfl
                          refine lv_aload_n hx hb dX7_fits_157 rfl (lv_at hl 3 rfl) ?_
                          refine ti_mVa (As := []) (rest := []) S hE hP hD hS hA (met_X7_isSeen l D E ad (xg.1, va_up xg.2.1 ((6 * i) + k9) (ti_ma xg i k9), va_up xg.2.2 ((6 * i) + k9) z) xd xt y1 y2 xh xs xv xb xq xk (ti_mset_ok hxg (by omega) (by omega)) hy1 hy2 hxs SN hSN hnds) (fun _ => rfl) (lw_V q1494 q1496 qs61 q73 q1497) 0 rfl 0 rfl rfl (by decide +kernel) ⟨Nat.le_of_ble_eq_true rfl, Nat.le_of_ble_eq_true rfl⟩ hl.1 rfl (Nat.le_of_ble_eq_true rfl) ⟨Nat.le_refl _, Nat.le_refl _⟩ dX7_fits_158 (fun u1 H locs hu hP hD hS => ?_)
                          have hu1 := hu
                          have hP : va_P D vwCl (ti_wM E ad (xg.1, va_up xg.2.1 ((6 * i) + k9) (ti_ma xg i k9), va_up xg.2.2 ((6 * i) + k9) z) xd xt u1.1 u1.2 xh xs xv xb xq xk) H := hP
                          have hD : va_D A (ti_wM E ad (xg.1, va_up xg.2.1 ((6 * i) + k9) (ti_ma xg i k9), va_up xg.2.2 ((6 * i) + k9) z) xd xt u1.1 u1.2 xh xs xv xb xq xk) := hD
                          refine W.eq (g2 := F0 m 161 ls [.int (ti_b (ti_seen (ti_G (ti_mset xg (6 * i + k9) (ti_ma xg i k9) z) 0) SN))]) rfl ?_
                          refine tb_eq (tgt := 181) hx hb dX7_fits_161 (by decide) (fun c161 => ?_) (fun c161 => ?_)
                          · skip
                            refine lv_aload_n hx hb dX7_fits_181 rfl (lv_at hl 3 rfl) ?_
                            refine va_get (v := .ref (ad 2)) hx hb hts in_X7 hown hK hP 0 rfl rfl 1 (by decide) (hts _ q1089) (fun _ h => h) rfl dX7_fits_182 ?_
                            refine lv_bipush (v := nI 6) hx hb dX7_fits_185 (by decide) ?_
                            refine lv_iload_n hx hb dX7_fits_187 rfl (lv_at hl 4 rfl) ?_
                            refine tn_mul hx hb dX7_fits_188 ?_
                            refine lv_iload_n hx hb dX7_fits_189 rfl (lv_at hl 5 rfl) ?_
                            refine tn_add hx hb dX7_fits_190 ?_
                            refine lv_iload hx hb dX7_fits_191 (lv_at hl 8 rfl) ?_
                            refine tn_iast (f := va_up xg.2.1 ((6 * i) + k9) (ti_ma xg i k9)) hx hb hK hP hD hS 2 0 rfl rfl (by omega) (by decide) dX7_fits_193 (fun H locs hP hD hS => ?_)
                            have hP : va_P D vwCl (ti_wM E ad (xg.1, va_up (va_up xg.2.1 ((6 * i) + k9) (ti_ma xg i k9)) ((6 * i) + k9) (ti_ma xg i k9), va_up xg.2.2 ((6 * i) + k9) z) xd xt u1.1 u1.2 xh xs xv xb xq xk) H := hP
                            have hD : va_D A (ti_wM E ad (xg.1, va_up (va_up xg.2.1 ((6 * i) + k9) (ti_ma xg i k9)) ((6 * i) + k9) (ti_ma xg i k9), va_up xg.2.2 ((6 * i) + k9) z) xd xt u1.1 u1.2 xh xs xv xb xq xk) := hD
                            refine lv_aload_n hx hb dX7_fits_194 rfl (lv_at hl 3 rfl) ?_
                            refine va_get (v := .ref (ad 3)) hx hb hts in_X7 hown hK hP 0 rfl rfl 2 (by decide) (hts _ q1090) (fun _ h => h) rfl dX7_fits_195 ?_
                            refine lv_bipush (v := nI 6) hx hb dX7_fits_198 (by decide) ?_
                            refine lv_iload_n hx hb dX7_fits_200 rfl (lv_at hl 4 rfl) ?_
                            refine tn_mul hx hb dX7_fits_201 ?_
                            refine lv_iload_n hx hb dX7_fits_202 rfl (lv_at hl 5 rfl) ?_
                            refine tn_add hx hb dX7_fits_203 ?_
                            refine lv_iload hx hb dX7_fits_204 (lv_at hl 9 rfl) ?_
                            refine tn_iast (f := va_up xg.2.2 ((6 * i) + k9) z) hx hb hK hP hD hS 3 0 rfl rfl (by omega) (by decide) dX7_fits_206 (fun H locs hP hD hS => ?_)
                            have hP : va_P D vwCl (ti_wM E ad (xg.1, va_up (va_up xg.2.1 ((6 * i) + k9) (ti_ma xg i k9)) ((6 * i) + k9) (ti_ma xg i k9), va_up (va_up xg.2.2 ((6 * i) + k9) z) ((6 * i) + k9) (ti_mb xg i k9)) xd xt u1.1 u1.2 xh xs xv xb xq xk) H := hP
                            have hD : va_D A (ti_wM E ad (xg.1, va_up (va_up xg.2.1 ((6 * i) + k9) (ti_ma xg i k9)) ((6 * i) + k9) (ti_ma xg i k9), va_up (va_up xg.2.2 ((6 * i) + k9) z) ((6 * i) + k9) (ti_mb xg i k9)) xd xt u1.1 u1.2 xh xs xv xb xq xk) := hD
                            have hP := ti_P_rep (g := ti_n xg.2.1) hP 2 rfl (fun j _ => congrFun (congrArg ti_n (ti_up_back xg.2.1 (6 * i + k9) (ti_ma xg i k9))) j)
                            have hD := ti_D_rep (q := 2) hD rfl (e := .inl (E 0, 18, .inl (ti_n xg.2.1)))
                            have hP : va_P D vwCl (ti_wM E ad (xg.1, xg.2.1, va_up (va_up xg.2.2 ((6 * i) + k9) z) ((6 * i) + k9) (ti_mb xg i k9)) xd xt u1.1 u1.2 xh xs xv xb xq xk) H := hP
                            have hD : va_D A (ti_wM E ad (xg.1, xg.2.1, va_up (va_up xg.2.2 ((6 * i) + k9) z) ((6 * i) + k9) (ti_mb xg i k9)) xd xt u1.1 u1.2 xh xs xv xb xq xk) := hD
                            have hP := ti_P_rep (g := ti_n xg.2.2) hP 3 rfl (fun j _ => congrFun (congrArg ti_n (ti_up_back xg.2.2 (6 * i + k9) z)) j)
                            have hD := ti_D_rep (q := 3) hD rfl (e := .inl (E 0, 18, .inl (ti_n xg.2.2)))
                            have hP : va_P D vwCl (ti_wM E ad xg xd xt u1.1 u1.2 xh xs xv xb xq xk) H := hP
                            have hD : va_D A (ti_wM E ad xg xd xt u1.1 u1.2 xh xs xv xb xq xk) := hD
                            refine lv_iinc (v := nI (z + 1)) (lv' := [(9, .int (nI (z + 1))), (12, .int (nI 1)), (11, .int (nI z)), (10, .int (nI (ti_ma xg i k9))), (0, .ref (ad 0)), (1, .int (nI i)), (2, .int (nI k9)), (3, .int (nI l9)), (4, .int (nI w9)), (5, .int (nI (ti_ma xg i k9))), (6, .int (nI (ti_mb xg i k9))), (7, .int (nI c9)), (8, .int fs)]) hx hb dX7_fits_207 hl (k := 12) rfl (nI_1 z) (by decide) rfl (fun ls hl => ?_)
                            refine lv_goto (tgt := 58) hx hb dX7_fits_210 (by decide) ?_
                            exact ih58 (z + 1) c9 fs u1.1 u1.2 _ _ _ hP hD hS (by omega) (by omega) (by omega) (hu1.1) (hu1.2) (by rw [hv, ti_ftn, if_neg (by rw [hk1, c161]; decide), show 10 - (z + 1) = m9 by omega]) (lv_sub hl [4, 5, 6, 7, 8, 9, 10, 11, 12, 0] rfl)
                          · skip
                            refine lv_iload hx hb dX7_fits_164 (lv_at hl 10 rfl) ?_
                            refine tn_if_ne (tgt := 174) hx hb dX7_fits_166 (by decide) (by omega) (fun c166 => ?_) (fun c166 => ?_)
                            · skip
                              refine lv_iload hx hb dX7_fits_174 (lv_at hl 11 rfl) ?_
                              refine lv_istore (lv' := [(8, .int fs), (12, .int (nI 1)), (11, .int (nI z)), (10, .int (nI (ti_ma xg i k9))), (0, .ref (ad 0)), (1, .int (nI i)), (2, .int (nI k9)), (3, .int (nI l9)), (4, .int (nI w9)), (5, .int (nI (ti_ma xg i k9))), (6, .int (nI (ti_mb xg i k9))), (7, .int (nI c9)), (9, .int (nI z))]) hx hb dX7_fits_176 hl (by decide) rfl (fun ls hl => ?_)
                              refine lv_iinc (v := nI (c9 + 1)) (lv' := [(7, .int (nI (c9 + 1))), (8, .int fs), (12, .int (nI 1)), (11, .int (nI z)), (10, .int (nI (ti_ma xg i k9))), (0, .ref (ad 0)), (1, .int (nI i)), (2, .int (nI k9)), (3, .int (nI l9)), (4, .int (nI w9)), (5, .int (nI (ti_ma xg i k9))), (6, .int (nI (ti_mb xg i k9))), (9, .int (nI z))]) hx hb dX7_fits_178 hl (k := 11) rfl (nI_1 c9) (by decide) rfl (fun ls hl => ?_)
                              refine lv_aload_n hx hb dX7_fits_181 rfl (lv_at hl 5 rfl) ?_
                              refine va_get (v := .ref (ad 2)) hx hb hts in_X7 hown hK hP 0 rfl rfl 1 (by decide) (hts _ q1089) (fun _ h => h) rfl dX7_fits_182 ?_
                              refine lv_bipush (v := nI 6) hx hb dX7_fits_185 (by decide) ?_
                              refine lv_iload_n hx hb dX7_fits_187 rfl (lv_at hl 6 rfl) ?_
                              refine tn_mul hx hb dX7_fits_188 ?_
                              refine lv_iload_n hx hb dX7_fits_189 rfl (lv_at hl 7 rfl) ?_
                              refine tn_add hx hb dX7_fits_190 ?_
                              refine lv_iload hx hb dX7_fits_191 (lv_at hl 10 rfl) ?_
                              refine tn_iast (f := va_up xg.2.1 ((6 * i) + k9) (ti_ma xg i k9)) hx hb hK hP hD hS 2 0 rfl rfl (by omega) (by decide) dX7_fits_193 (fun H locs hP hD hS => ?_)
                              have hP : va_P D vwCl (ti_wM E ad (xg.1, va_up (va_up xg.2.1 ((6 * i) + k9) (ti_ma xg i k9)) ((6 * i) + k9) (ti_ma xg i k9), va_up xg.2.2 ((6 * i) + k9) z) xd xt u1.1 u1.2 xh xs xv xb xq xk) H := hP
                              have hD : va_D A (ti_wM E ad (xg.1, va_up (va_up xg.2.1 ((6 * i) + k9) (ti_ma xg i k9)) ((6 * i) + k9) (ti_ma xg i k9), va_up xg.2.2 ((6 * i) + k9) z) xd xt u1.1 u1.2 xh xs xv xb xq xk) := hD
                              refine lv_aload_n hx hb dX7_fits_194 rfl (lv_at hl 5 rfl) ?_
                              refine va_get (v := .ref (ad 3)) hx hb hts in_X7 hown hK hP 0 rfl rfl 2 (by decide) (hts _ q1090) (fun _ h => h) rfl dX7_fits_195 ?_
                              refine lv_bipush (v := nI 6) hx hb dX7_fits_198 (by decide) ?_
                              refine lv_iload_n hx hb dX7_fits_200 rfl (lv_at hl 6 rfl) ?_
                              refine tn_mul hx hb dX7_fits_201 ?_
                              refine lv_iload_n hx hb dX7_fits_202 rfl (lv_at hl 7 rfl) ?_
                              refine tn_add hx hb dX7_fits_203 ?_
                              refine lv_iload hx hb dX7_fits_204 (lv_at hl 11 rfl) ?_
                              refine tn_iast (f := va_up xg.2.2 ((6 * i) + k9) z) hx hb hK hP hD hS 3 0 rfl rfl (by omega) (by decide) dX7_fits_206 (fun H locs hP hD hS => ?_)
                              have hP : va_P D vwCl (ti_wM E ad (xg.1, va_up (va_up xg.2.1 ((6 * i) + k9) (ti_ma xg i k9)) ((6 * i) + k9) (ti_ma xg i k9), va_up (va_up xg.2.2 ((6 * i) + k9) z) ((6 * i) + k9) (ti_mb xg i k9)) xd xt u1.1 u1.2 xh xs xv xb xq xk) H := hP
                              have hD : va_D A (ti_wM E ad (xg.1, va_up (va_up xg.2.1 ((6 * i) + k9) (ti_ma xg i k9)) ((6 * i) + k9) (ti_ma xg i k9), va_up (va_up xg.2.2 ((6 * i) + k9) z) ((6 * i) + k9) (ti_mb xg i k9)) xd xt u1.1 u1.2 xh xs xv xb xq xk) := hD
                              have hP := ti_P_rep (g := ti_n xg.2.1) hP 2 rfl (fun j _ => congrFun (congrArg ti_n (ti_up_back xg.2.1 (6 * i + k9) (ti_ma xg i k9))) j)
                              have hD := ti_D_rep (q := 2) hD rfl (e := .inl (E 0, 18, .inl (ti_n xg.2.1)))
                              have hP : va_P D vwCl (ti_wM E ad (xg.1, xg.2.1, va_up (va_up xg.2.2 ((6 * i) + k9) z) ((6 * i) + k9) (ti_mb xg i k9)) xd xt u1.1 u1.2 xh xs xv xb xq xk) H := hP
                              have hD : va_D A (ti_wM E ad (xg.1, xg.2.1, va_up (va_up xg.2.2 ((6 * i) + k9) z) ((6 * i) + k9) (ti_mb xg i k9)) xd xt u1.1 u1.2 xh xs xv xb xq xk) := hD
                              have hP := ti_P_rep (g := ti_n xg.2.2) hP 3 rfl (fun j _ => congrFun (congrArg ti_n (ti_up_back xg.2.2 (6 * i + k9) z)) j)
                              have hD := ti_D_rep (q := 3) hD rfl (e := .inl (E 0, 18, .inl (ti_n xg.2.2)))
                              have hP : va_P D vwCl (ti_wM E ad xg xd xt u1.1 u1.2 xh xs xv xb xq xk) H := hP
                              have hD : va_D A (ti_wM E ad xg xd xt u1.1 u1.2 xh xs xv xb xq xk) := hD
                              refine lv_iinc (v := nI (z + 1)) (lv' := [(9, .int (nI (z + 1))), (7, .int (nI (c9 + 1))), (8, .int fs), (12, .int (nI 1)), (11, .int (nI z)), (10, .int (nI (ti_ma xg i k9))), (0, .ref (ad 0)), (1, .int (nI i)), (2, .int (nI k9)), (3, .int (nI l9)), (4, .int (nI w9)), (5, .int (nI (ti_ma xg i k9))), (6, .int (nI (ti_mb xg i k9)))]) hx hb dX7_fits_207 hl (k := 12) rfl (nI_1 z) (by decide) rfl (fun ls hl => ?_)
                              refine lv_goto (tgt := 58) hx hb dX7_fits_210 (by decide) ?_
                              exact ih58 (z + 1) (c9 + 1) fs u1.1 u1.2 _ _ _ hP hD hS (by omega) (by omega) (by omega) (hu1.1) (hu1.2) (by rw [hv, ti_ftn, if_pos (by rw [hk1, c161]), show 10 - (z + 1) = m9 by omega]; show ti_ftn _ _ _ _ _ _ (c9 + 1, if c9 = 0 then nI z else fs) = _; rw [if_neg c166]) (lv_sub hl [6, 7, 8, 9, 10, 11, 12, 1, 2, 0] rfl)
                            · skip
                              refine lv_iload hx hb dX7_fits_169 (lv_at hl 12 rfl) ?_
                              refine lv_goto (tgt := 176) hx hb dX7_fits_171 (by decide) ?_
                              refine lv_istore (lv' := [(8, .int (nI z)), (12, .int (nI 1)), (11, .int (nI z)), (10, .int (nI (ti_ma xg i k9))), (0, .ref (ad 0)), (1, .int (nI i)), (2, .int (nI k9)), (3, .int (nI l9)), (4, .int (nI w9)), (5, .int (nI (ti_ma xg i k9))), (6, .int (nI (ti_mb xg i k9))), (7, .int (nI c9)), (9, .int (nI z))]) hx hb dX7_fits_176 hl (by decide) rfl (fun ls hl => ?_)
                              refine lv_iinc (v := nI (c9 + 1)) (lv' := [(7, .int (nI (c9 + 1))), (8, .int (nI z)), (12, .int (nI 1)), (11, .int (nI z)), (10, .int (nI (ti_ma xg i k9))), (0, .ref (ad 0)), (1, .int (nI i)), (2, .int (nI k9)), (3, .int (nI l9)), (4, .int (nI w9)), (5, .int (nI (ti_ma xg i k9))), (6, .int (nI (ti_mb xg i k9))), (9, .int (nI z))]) hx hb dX7_fits_178 hl (k := 11) rfl (nI_1 c9) (by decide) rfl (fun ls hl => ?_)
                              refine lv_aload_n hx hb dX7_fits_181 rfl (lv_at hl 5 rfl) ?_
                              refine va_get (v := .ref (ad 2)) hx hb hts in_X7 hown hK hP 0 rfl rfl 1 (by decide) (hts _ q1089) (fun _ h => h) rfl dX7_fits_182 ?_
                              refine lv_bipush (v := nI 6) hx hb dX7_fits_185 (by decide) ?_
                              refine lv_iload_n hx hb dX7_fits_187 rfl (lv_at hl 6 rfl) ?_
                              refine tn_mul hx hb dX7_fits_188 ?_
                              refine lv_iload_n hx hb dX7_fits_189 rfl (lv_at hl 7 rfl) ?_
                              refine tn_add hx hb dX7_fits_190 ?_
                              refine lv_iload hx hb dX7_fits_191 (lv_at hl 10 rfl) ?_
                              refine tn_iast (f := va_up xg.2.1 ((6 * i) + k9) (ti_ma xg i k9)) hx hb hK hP hD hS 2 0 rfl rfl (by omega) (by decide) dX7_fits_193 (fun H locs hP hD hS => ?_)
                              have hP : va_P D vwCl (ti_wM E ad (xg.1, va_up (va_up xg.2.1 ((6 * i) + k9) (ti_ma xg i k9)) ((6 * i) + k9) (ti_ma xg i k9), va_up xg.2.2 ((6 * i) + k9) z) xd xt u1.1 u1.2 xh xs xv xb xq xk) H := hP
                              have hD : va_D A (ti_wM E ad (xg.1, va_up (va_up xg.2.1 ((6 * i) + k9) (ti_ma xg i k9)) ((6 * i) + k9) (ti_ma xg i k9), va_up xg.2.2 ((6 * i) + k9) z) xd xt u1.1 u1.2 xh xs xv xb xq xk) := hD
                              refine lv_aload_n hx hb dX7_fits_194 rfl (lv_at hl 5 rfl) ?_
                              refine va_get (v := .ref (ad 3)) hx hb hts in_X7 hown hK hP 0 rfl rfl 2 (by decide) (hts _ q1090) (fun _ h => h) rfl dX7_fits_195 ?_
                              refine lv_bipush (v := nI 6) hx hb dX7_fits_198 (by decide) ?_
                              refine lv_iload_n hx hb dX7_fits_200 rfl (lv_at hl 6 rfl) ?_
                              refine tn_mul hx hb dX7_fits_201 ?_
                              refine lv_iload_n hx hb dX7_fits_202 rfl (lv_at hl 7 rfl) ?_
                              refine tn_add hx hb dX7_fits_203 ?_
                              refine lv_iload hx hb dX7_fits_204 (lv_at hl 11 rfl) ?_
                              refine tn_iast (f := va_up xg.2.2 ((6 * i) + k9) z) hx hb hK hP hD hS 3 0 rfl rfl (by omega) (by decide) dX7_fits_206 (fun H locs hP hD hS => ?_)
                              have hP : va_P D vwCl (ti_wM E ad (xg.1, va_up (va_up xg.2.1 ((6 * i) + k9) (ti_ma xg i k9)) ((6 * i) + k9) (ti_ma xg i k9), va_up (va_up xg.2.2 ((6 * i) + k9) z) ((6 * i) + k9) (ti_mb xg i k9)) xd xt u1.1 u1.2 xh xs xv xb xq xk) H := hP
                              have hD : va_D A (ti_wM E ad (xg.1, va_up (va_up xg.2.1 ((6 * i) + k9) (ti_ma xg i k9)) ((6 * i) + k9) (ti_ma xg i k9), va_up (va_up xg.2.2 ((6 * i) + k9) z) ((6 * i) + k9) (ti_mb xg i k9)) xd xt u1.1 u1.2 xh xs xv xb xq xk) := hD
                              have hP := ti_P_rep (g := ti_n xg.2.1) hP 2 rfl (fun j _ => congrFun (congrArg ti_n (ti_up_back xg.2.1 (6 * i + k9) (ti_ma xg i k9))) j)
                              have hD := ti_D_rep (q := 2) hD rfl (e := .inl (E 0, 18, .inl (ti_n xg.2.1)))
                              have hP : va_P D vwCl (ti_wM E ad (xg.1, xg.2.1, va_up (va_up xg.2.2 ((6 * i) + k9) z) ((6 * i) + k9) (ti_mb xg i k9)) xd xt u1.1 u1.2 xh xs xv xb xq xk) H := hP
                              have hD : va_D A (ti_wM E ad (xg.1, xg.2.1, va_up (va_up xg.2.2 ((6 * i) + k9) z) ((6 * i) + k9) (ti_mb xg i k9)) xd xt u1.1 u1.2 xh xs xv xb xq xk) := hD
                              have hP := ti_P_rep (g := ti_n xg.2.2) hP 3 rfl (fun j _ => congrFun (congrArg ti_n (ti_up_back xg.2.2 (6 * i + k9) z)) j)
                              have hD := ti_D_rep (q := 3) hD rfl (e := .inl (E 0, 18, .inl (ti_n xg.2.2)))
                              have hP : va_P D vwCl (ti_wM E ad xg xd xt u1.1 u1.2 xh xs xv xb xq xk) H := hP
                              have hD : va_D A (ti_wM E ad xg xd xt u1.1 u1.2 xh xs xv xb xq xk) := hD
                              refine lv_iinc (v := nI (z + 1)) (lv' := [(9, .int (nI (z + 1))), (7, .int (nI (c9 + 1))), (8, .int (nI z)), (12, .int (nI 1)), (11, .int (nI z)), (10, .int (nI (ti_ma xg i k9))), (0, .ref (ad 0)), (1, .int (nI i)), (2, .int (nI k9)), (3, .int (nI l9)), (4, .int (nI w9)), (5, .int (nI (ti_ma xg i k9))), (6, .int (nI (ti_mb xg i k9)))]) hx hb dX7_fits_207 hl (k := 12) rfl (nI_1 z) (by decide) rfl (fun ls hl => ?_)
                              refine lv_goto (tgt := 58) hx hb dX7_fits_210 (by decide) ?_
                              exact ih58 (z + 1) (c9 + 1) (nI z) u1.1 u1.2 _ _ _ hP hD hS (by omega) (by omega) (by omega) (hu1.1) (hu1.2) (by rw [hv, ti_ftn, if_pos (by rw [hk1, c161]), show 10 - (z + 1) = m9 by omega]; show ti_ftn _ _ _ _ _ _ (c9 + 1, if c9 = 0 then nI z else fs) = _; rw [if_pos c166]) (lv_sub hl [6, 7, 8, 9, 10, 11, 12, 1, 2, 0] rfl)
              · skip
                refine lv_iload hx hb dX7_fits_69 (lv_at hl 9 rfl) ?_
                refine lv_goto (tgt := 76) hx hb dX7_fits_71 (by decide) ?_
                refine lv_istore (lv' := [(10, .int (nI z)), (0, .ref (ad 0)), (1, .int (nI i)), (2, .int (nI k9)), (3, .int (nI l9)), (4, .int (nI w9)), (5, .int (nI (ti_ma xg i k9))), (6, .int (nI (ti_mb xg i k9))), (7, .int (nI c9)), (8, .int fs), (9, .int (nI z))]) hx hb dX7_fits_76 hl (by decide) rfl (fun ls hl => ?_)
                refine lv_iload_n hx hb dX7_fits_78 rfl (lv_at hl 4 rfl) ?_
                refine lv_iconst (v := nI 1) hx hb dX7_fits_79 (by decide) ?_
                refine tn_ne (tgt := 88) hx hb dX7_fits_80 (by decide) (by omega) (by omega) (fun c80 => ?_) (fun c80 => ?_)
                · skip
                  refine lv_iload hx hb dX7_fits_88 (lv_at hl 7 rfl) ?_
                  refine lv_istore (lv' := [(11, .int (nI (ti_mb xg i k9))), (10, .int (nI z)), (0, .ref (ad 0)), (1, .int (nI i)), (2, .int (nI k9)), (3, .int (nI l9)), (4, .int (nI w9)), (5, .int (nI (ti_ma xg i k9))), (6, .int (nI (ti_mb xg i k9))), (7, .int (nI c9)), (8, .int fs), (9, .int (nI z))]) hx hb dX7_fits_90 hl (by decide) rfl (fun ls hl => ?_)
                  refine lv_iload hx hb dX7_fits_92 (lv_at hl 1 rfl) ?_
                  refine lv_iload hx hb dX7_fits_94 (lv_at hl 7 rfl) ?_
                  refine tn_ne (tgt := 106) hx hb dX7_fits_96 (by decide) (by omega) (by omega) (fun c96 => ?_) (fun c96 => ?_)
                  · skip
                    refine lv_aload_n hx hb dX7_fits_106 rfl (lv_at hl 2 rfl) ?_
                    refine lv_iload_n hx hb dX7_fits_107 rfl (lv_at hl 3 rfl) ?_
                    refine lv_iload hx hb dX7_fits_108 (lv_at hl 1 rfl) ?_
                    refine lv_iload hx hb dX7_fits_110 (lv_at hl 0 rfl) ?_
                    refine ti_pVa (As := [.int (nI i), .int (nI z), .int (nI (ti_mb xg i k9))]) (rest := []) (v := .int (ti_pm (ti_pl z (ti_mb xg i k9) (ti_G xg i) 0))) S hE hP (met_X7_which l D E ad xg xd xt y1 y2 xh xs xv xb xq xk hxg i (by omega) z (ti_mb xg i k9) (by omega) (by omega)) (lw_V q1241 q1243 qs25 q73 q1244) 3 rfl 0 rfl rfl (by decide +kernel) ⟨Nat.le_of_ble_eq_true rfl, Nat.le_of_ble_eq_true rfl⟩ hl.1 rfl (Nat.le_of_ble_eq_true rfl) ⟨Nat.le_refl _, Nat.le_refl _⟩ dX7_fits_112 ?_
                    refine lv_iconst (v := (-1)) hx hb dX7_fits_115 (by decide) ?_
                    refine lv_icmp_ne (tgt := 123) hx hb dX7_fits_116 (by decide) (fun c116 => ?_) (fun c116 => ?_)
                    · skip
                      have hmem : (z, ti_mb xg i k9) ∈ I i := by rw [← hg]; exact Classical.not_not.mp fun z9 => c116 ((ti_placeM (by show (ti_gr _ _ _ _).length < _; rw [ti_gr_len]; omega)).mpr z9)
                      refine lv_iconst (v := nI 0) hx hb dX7_fits_123 (by decide) ?_
                      have hft : ti_ft (I i) k9 l9 z = (z, ti_mb xg i k9) := by rw [ti_ft, hgd, if_pos c66, if_neg (by omega)]
                      have hk0 : ti_ftok I SN i k9 l9 z = false := by rw [ti_ftok, hft, hgd, decide_eq_false (fun e => c96 (congrArg Prod.fst e)), decide_eq_false (fun h => h hmem)]; rfl
                      refine lv_istore (lv' := [(12, .int (nI 0)), (11, .int (nI (ti_mb xg i k9))), (10, .int (nI z)), (0, .ref (ad 0)), (1, .int (nI i)), (2, .int (nI k9)), (3, .int (nI l9)), (4, .int (nI w9)), (5, .int (nI (ti_ma xg i k9))), (6, .int (nI (ti_mb xg i k9))), (7, .int (nI c9)), (8, .int fs), (9, .int (nI z))]) hx hb dX7_fits_124 hl (by decide) rfl (fun ls hl => ?_)
                      refine lv_aload_n hx hb dX7_fits_126 rfl (lv_at hl 3 rfl) ?_
                      refine va_get (v := .ref (ad 2)) hx hb hts in_X7 hown hK hP 0 rfl rfl 1 (by decide) (hts _ q1089) (fun _ h => h) rfl dX7_fits_127 ?_
                      refine lv_bipush (v := nI 6) hx hb dX7_fits_130 (by decide) ?_
                      refine lv_iload_n hx hb dX7_fits_132 rfl (lv_at hl 4 rfl) ?_
                      refine tn_mul hx hb dX7_fits_133 ?_
                      refine lv_iload_n hx hb dX7_fits_134 rfl (lv_at hl 5 rfl) ?_
                      refine tn_add hx hb dX7_fits_135 ?_
                      refine lv_iload hx hb dX7_fits_136 (lv_at hl 2 rfl) ?_
                      refine tn_iast (f := xg.2.1) hx hb hK hP hD hS 2 0 rfl rfl (by omega) (by decide) dX7_fits_138 (fun H locs hP hD hS => ?_)
                      have hP : va_P D vwCl (ti_wM E ad (xg.1, va_up xg.2.1 ((6 * i) + k9) z, xg.2.2) xd xt y1 y2 xh xs xv xb xq xk) H := hP
                      have hD : va_D A (ti_wM E ad (xg.1, va_up xg.2.1 ((6 * i) + k9) z, xg.2.2) xd xt y1 y2 xh xs xv xb xq xk) := hD
                      refine lv_aload_n hx hb dX7_fits_139 rfl (lv_at hl 3 rfl) ?_
                      refine va_get (v := .ref (ad 3)) hx hb hts in_X7 hown hK hP 0 rfl rfl 2 (by decide) (hts _ q1090) (fun _ h => h) rfl dX7_fits_140 ?_
                      refine lv_bipush (v := nI 6) hx hb dX7_fits_143 (by decide) ?_
                      refine lv_iload_n hx hb dX7_fits_145 rfl (lv_at hl 4 rfl) ?_
                      refine tn_mul hx hb dX7_fits_146 ?_
                      refine lv_iload_n hx hb dX7_fits_147 rfl (lv_at hl 5 rfl) ?_
                      refine tn_add hx hb dX7_fits_148 ?_
                      refine lv_iload hx hb dX7_fits_149 (lv_at hl 1 rfl) ?_
                      refine tn_iast (f := xg.2.2) hx hb hK hP hD hS 3 0 rfl rfl (by omega) (by decide) dX7_fits_151 (fun H locs hP hD hS => ?_)
                      have hP : va_P D vwCl (ti_wM E ad (xg.1, va_up xg.2.1 ((6 * i) + k9) z, va_up xg.2.2 ((6 * i) + k9) (ti_mb xg i k9)) xd xt y1 y2 xh xs xv xb xq xk) H := hP
                      have hD : va_D A (ti_wM E ad (xg.1, va_up xg.2.1 ((6 * i) + k9) z, va_up xg.2.2 ((6 * i) + k9) (ti_mb xg i k9)) xd xt y1 y2 xh xs xv xb xq xk) := hD
                      refine lv_iload hx hb dX7_fits_152 (lv_at hl 0 rfl) ?_
                      refine tn_if_eq (tgt := 181) hx hb dX7_fits_154 (by decide) (by omega) (fun c154 => ?_) (fun c154 => ?_)
                      · skip
                        refine lv_aload_n hx hb dX7_fits_181 rfl (lv_at hl 3 rfl) ?_
                        refine va_get (v := .ref (ad 2)) hx hb hts in_X7 hown hK hP 0 rfl rfl 1 (by decide) (hts _ q1089) (fun _ h => h) rfl dX7_fits_182 ?_
                        refine lv_bipush (v := nI 6) hx hb dX7_fits_185 (by decide) ?_
                        refine lv_iload_n hx hb dX7_fits_187 rfl (lv_at hl 4 rfl) ?_
                        refine tn_mul hx hb dX7_fits_188 ?_
                        refine lv_iload_n hx hb dX7_fits_189 rfl (lv_at hl 5 rfl) ?_
                        refine tn_add hx hb dX7_fits_190 ?_
                        refine lv_iload hx hb dX7_fits_191 (lv_at hl 8 rfl) ?_
                        refine tn_iast (f := va_up xg.2.1 ((6 * i) + k9) z) hx hb hK hP hD hS 2 0 rfl rfl (by omega) (by decide) dX7_fits_193 (fun H locs hP hD hS => ?_)
                        have hP : va_P D vwCl (ti_wM E ad (xg.1, va_up (va_up xg.2.1 ((6 * i) + k9) z) ((6 * i) + k9) (ti_ma xg i k9), va_up xg.2.2 ((6 * i) + k9) (ti_mb xg i k9)) xd xt y1 y2 xh xs xv xb xq xk) H := hP
                        have hD : va_D A (ti_wM E ad (xg.1, va_up (va_up xg.2.1 ((6 * i) + k9) z) ((6 * i) + k9) (ti_ma xg i k9), va_up xg.2.2 ((6 * i) + k9) (ti_mb xg i k9)) xd xt y1 y2 xh xs xv xb xq xk) := hD
                        refine lv_aload_n hx hb dX7_fits_194 rfl (lv_at hl 3 rfl) ?_
                        refine va_get (v := .ref (ad 3)) hx hb hts in_X7 hown hK hP 0 rfl rfl 2 (by decide) (hts _ q1090) (fun _ h => h) rfl dX7_fits_195 ?_
                        refine lv_bipush (v := nI 6) hx hb dX7_fits_198 (by decide) ?_
                        refine lv_iload_n hx hb dX7_fits_200 rfl (lv_at hl 4 rfl) ?_
                        refine tn_mul hx hb dX7_fits_201 ?_
                        refine lv_iload_n hx hb dX7_fits_202 rfl (lv_at hl 5 rfl) ?_
                        refine tn_add hx hb dX7_fits_203 ?_
                        refine lv_iload hx hb dX7_fits_204 (lv_at hl 9 rfl) ?_
                        refine tn_iast (f := va_up xg.2.2 ((6 * i) + k9) (ti_mb xg i k9)) hx hb hK hP hD hS 3 0 rfl rfl (by omega) (by decide) dX7_fits_206 (fun H locs hP hD hS => ?_)
                        have hP : va_P D vwCl (ti_wM E ad (xg.1, va_up (va_up xg.2.1 ((6 * i) + k9) z) ((6 * i) + k9) (ti_ma xg i k9), va_up (va_up xg.2.2 ((6 * i) + k9) (ti_mb xg i k9)) ((6 * i) + k9) (ti_mb xg i k9)) xd xt y1 y2 xh xs xv xb xq xk) H := hP
                        have hD : va_D A (ti_wM E ad (xg.1, va_up (va_up xg.2.1 ((6 * i) + k9) z) ((6 * i) + k9) (ti_ma xg i k9), va_up (va_up xg.2.2 ((6 * i) + k9) (ti_mb xg i k9)) ((6 * i) + k9) (ti_mb xg i k9)) xd xt y1 y2 xh xs xv xb xq xk) := hD
                        have hP := ti_P_rep (g := ti_n xg.2.1) hP 2 rfl (fun j _ => congrFun (congrArg ti_n (ti_up_back xg.2.1 (6 * i + k9) z)) j)
                        have hD := ti_D_rep (q := 2) hD rfl (e := .inl (E 0, 18, .inl (ti_n xg.2.1)))
                        have hP : va_P D vwCl (ti_wM E ad (xg.1, xg.2.1, va_up (va_up xg.2.2 ((6 * i) + k9) (ti_mb xg i k9)) ((6 * i) + k9) (ti_mb xg i k9)) xd xt y1 y2 xh xs xv xb xq xk) H := hP
                        have hD : va_D A (ti_wM E ad (xg.1, xg.2.1, va_up (va_up xg.2.2 ((6 * i) + k9) (ti_mb xg i k9)) ((6 * i) + k9) (ti_mb xg i k9)) xd xt y1 y2 xh xs xv xb xq xk) := hD
                        have hP := ti_P_rep (g := ti_n xg.2.2) hP 3 rfl (fun j _ => congrFun (congrArg ti_n (ti_up_back xg.2.2 (6 * i + k9) (ti_mb xg i k9))) j)
                        have hD := ti_D_rep (q := 3) hD rfl (e := .inl (E 0, 18, .inl (ti_n xg.2.2)))
                        have hP : va_P D vwCl (ti_wM E ad xg xd xt y1 y2 xh xs xv xb xq xk) H := hP
                        have hD : va_D A (ti_wM E ad xg xd xt y1 y2 xh xs xv xb xq xk) := hD
                        refine lv_iinc (v := nI (z + 1)) (lv' := [(9, .int (nI (z + 1))), (12, .int (nI 0)), (11, .int (nI (ti_mb xg i k9))), (10, .int (nI z)), (0, .ref (ad 0)), (1, .int (nI i)), (2, .int (nI k9)), (3, .int (nI l9)), (4, .int (nI w9)), (5, .int (nI (ti_ma xg i k9))), (6, .int (nI (ti_mb xg i k9))), (7, .int (nI c9)), (8, .int fs)]) hx hb dX7_fits_207 hl (k := 12) rfl (nI_1 z) (by decide) rfl (fun ls hl => ?_)
                        refine lv_goto (tgt := 58) hx hb dX7_fits_210 (by decide) ?_
                        exact ih58 (z + 1) c9 fs y1 y2 _ _ _ hP hD hS (by omega) (by omega) (by omega) (hy1) (hy2) (by rw [hv, ti_ftn, if_neg (by rw [hk0]; decide), show 10 - (z + 1) = m9 by omega]) (lv_sub hl [4, 5, 6, 7, 8, 9, 10, 11, 12, 0] rfl)
                      · skip
                        exact absurd rfl c154
                    · skip
                      have hmem : (z, ti_mb xg i k9) ∉ I i := by rw [← hg]; exact (ti_placeM (by show (ti_gr _ _ _ _).length < _; rw [ti_gr_len]; omega)).mp c116
                      refine lv_iconst (v := nI 1) hx hb dX7_fits_119 (by decide) ?_
                      refine lv_goto (tgt := 124) hx hb dX7_fits_120 (by decide) ?_
                      have hft : ti_ft (I i) k9 l9 z = (z, ti_mb xg i k9) := by rw [ti_ft, hgd, if_pos c66, if_neg (by omega)]
                      refine lv_istore (lv' := [(12, .int (nI 1)), (11, .int (nI (ti_mb xg i k9))), (10, .int (nI z)), (0, .ref (ad 0)), (1, .int (nI i)), (2, .int (nI k9)), (3, .int (nI l9)), (4, .int (nI w9)), (5, .int (nI (ti_ma xg i k9))), (6, .int (nI (ti_mb xg i k9))), (7, .int (nI c9)), (8, .int fs), (9, .int (nI z))]) hx hb dX7_fits_124 hl (by decide) rfl (fun ls hl => ?_)
                      refine lv_aload_n hx hb dX7_fits_126 rfl (lv_at hl 3 rfl) ?_
                      refine va_get (v := .ref (ad 2)) hx hb hts in_X7 hown hK hP 0 rfl rfl 1 (by decide) (hts _ q1089) (fun _ h => h) rfl dX7_fits_127 ?_
                      refine lv_bipush (v := nI 6) hx hb dX7_fits_130 (by decide) ?_
                      refine lv_iload_n hx hb dX7_fits_132 rfl (lv_at hl 4 rfl) ?_
                      refine tn_mul hx hb dX7_fits_133 ?_
                      refine lv_iload_n hx hb dX7_fits_134 rfl (lv_at hl 5 rfl) ?_
                      refine tn_add hx hb dX7_fits_135 ?_
                      refine lv_iload hx hb dX7_fits_136 (lv_at hl 2 rfl) ?_
                      refine tn_iast (f := xg.2.1) hx hb hK hP hD hS 2 0 rfl rfl (by omega) (by decide) dX7_fits_138 (fun H locs hP hD hS => ?_)
                      have hP : va_P D vwCl (ti_wM E ad (xg.1, va_up xg.2.1 ((6 * i) + k9) z, xg.2.2) xd xt y1 y2 xh xs xv xb xq xk) H := hP
                      have hD : va_D A (ti_wM E ad (xg.1, va_up xg.2.1 ((6 * i) + k9) z, xg.2.2) xd xt y1 y2 xh xs xv xb xq xk) := hD
                      refine lv_aload_n hx hb dX7_fits_139 rfl (lv_at hl 3 rfl) ?_
                      refine va_get (v := .ref (ad 3)) hx hb hts in_X7 hown hK hP 0 rfl rfl 2 (by decide) (hts _ q1090) (fun _ h => h) rfl dX7_fits_140 ?_
                      refine lv_bipush (v := nI 6) hx hb dX7_fits_143 (by decide) ?_
                      refine lv_iload_n hx hb dX7_fits_145 rfl (lv_at hl 4 rfl) ?_
                      refine tn_mul hx hb dX7_fits_146 ?_
                      refine lv_iload_n hx hb dX7_fits_147 rfl (lv_at hl 5 rfl) ?_
                      refine tn_add hx hb dX7_fits_148 ?_
                      refine lv_iload hx hb dX7_fits_149 (lv_at hl 1 rfl) ?_
                      refine tn_iast (f := xg.2.2) hx hb hK hP hD hS 3 0 rfl rfl (by omega) (by decide) dX7_fits_151 (fun H locs hP hD hS => ?_)
                      have hP : va_P D vwCl (ti_wM E ad (xg.1, va_up xg.2.1 ((6 * i) + k9) z, va_up xg.2.2 ((6 * i) + k9) (ti_mb xg i k9)) xd xt y1 y2 xh xs xv xb xq xk) H := hP
                      have hD : va_D A (ti_wM E ad (xg.1, va_up xg.2.1 ((6 * i) + k9) z, va_up xg.2.2 ((6 * i) + k9) (ti_mb xg i k9)) xd xt y1 y2 xh xs xv xb xq xk) := hD
                      refine lv_iload hx hb dX7_fits_152 (lv_at hl 0 rfl) ?_
                      refine tn_if_eq (tgt := 181) hx hb dX7_fits_154 (by decide) (by omega) (fun c154 => ?_) (fun c154 => ?_)
                      · skip
                        exact absurd c154 (by decide)
                      · skip
                        have hor : (z, ti_mb xg i k9) = (I i).getD k9 (0, 0) ∨ (z, ti_mb xg i k9) ∉ I i := Or.inr hmem
                        have hG0 : ti_G (ti_mset xg (6 * i + k9) z (ti_mb xg i k9)) 0 = (if i = 0 then (I 0).set k9 (z, ti_mb xg i k9) else I 0) := by
                          by_cases hi0 : i = 0
                          · subst hi0; rw [if_pos rfl, ti_mset_G hxg hk9, hg]
                          · rw [if_neg hi0, ti_mset_Gn hxg hk9 (fun e => hi0 e.symm)]; exact hI 0 (by decide)
                        have hnds : (ti_G (ti_mset xg (6 * i + k9) z (ti_mb xg i k9)) 0).Nodup := by
                          rw [hG0]
                          by_cases hi0 : i = 0
                          · subst hi0; rw [if_pos rfl]; exact ti_set_nod hnd0 hor
                          · rw [if_neg hi0]; exact hnd0
                        have hk1 : ti_ftok I SN i k9 l9 z = ti_seen (ti_G (ti_mset xg (6 * i + k9) z (ti_mb xg i k9)) 0) SN := by
                          rw [ti_ftok, hG0, hft]
                          have hx1 : (decide ((z, ti_mb xg i k9) = (I i).getD k9 (0, 0)) || decide ((z, ti_mb xg i k9) ∉ I i)) = true := by rcases hor with h | h <;> simp [h]
                          rw [hx1]; rfl
                        refine lv_aload_n hx hb dX7_fits_157 rfl (lv_at hl 3 rfl) ?_
                        refine ti_mVa (As := []) (rest := []) S hE hP hD hS hA (met_X7_isSeen l D E ad (xg.1, va_up xg.2.1 ((6 * i) + k9) z, va_up xg.2.2 ((6 * i) + k9) (ti_mb xg i k9)) xd xt y1 y2 xh xs xv xb xq xk (ti_mset_ok hxg (by omega) (by omega)) hy1 hy2 hxs SN hSN hnds) (fun _ => rfl) (lw_V q1494 q1496 qs61 q73 q1497) 0 rfl 0 rfl rfl (by decide +kernel) ⟨Nat.le_of_ble_eq_true rfl, Nat.le_of_ble_eq_true rfl⟩ hl.1 rfl (Nat.le_of_ble_eq_true rfl) ⟨Nat.le_refl _, Nat.le_refl _⟩ dX7_fits_158 (fun u1 H locs hu hP hD hS => ?_)
                        have hu1 := hu
                        have hP : va_P D vwCl (ti_wM E ad (xg.1, va_up xg.2.1 ((6 * i) + k9) z, va_up xg.2.2 ((6 * i) + k9) (ti_mb xg i k9)) xd xt u1.1 u1.2 xh xs xv xb xq xk) H := hP
                        have hD : va_D A (ti_wM E ad (xg.1, va_up xg.2.1 ((6 * i) + k9) z, va_up xg.2.2 ((6 * i) + k9) (ti_mb xg i k9)) xd xt u1.1 u1.2 xh xs xv xb xq xk) := hD
                        refine W.eq (g2 := F0 m 161 ls [.int (ti_b (ti_seen (ti_G (ti_mset xg (6 * i + k9) z (ti_mb xg i k9)) 0) SN))]) rfl ?_
                        refine tb_eq (tgt := 181) hx hb dX7_fits_161 (by decide) (fun c161 => ?_) (fun c161 => ?_)
                        · skip
                          refine lv_aload_n hx hb dX7_fits_181 rfl (lv_at hl 3 rfl) ?_
                          refine va_get (v := .ref (ad 2)) hx hb hts in_X7 hown hK hP 0 rfl rfl 1 (by decide) (hts _ q1089) (fun _ h => h) rfl dX7_fits_182 ?_
                          refine lv_bipush (v := nI 6) hx hb dX7_fits_185 (by decide) ?_
                          refine lv_iload_n hx hb dX7_fits_187 rfl (lv_at hl 4 rfl) ?_
                          refine tn_mul hx hb dX7_fits_188 ?_
                          refine lv_iload_n hx hb dX7_fits_189 rfl (lv_at hl 5 rfl) ?_
                          refine tn_add hx hb dX7_fits_190 ?_
                          refine lv_iload hx hb dX7_fits_191 (lv_at hl 8 rfl) ?_
                          refine tn_iast (f := va_up xg.2.1 ((6 * i) + k9) z) hx hb hK hP hD hS 2 0 rfl rfl (by omega) (by decide) dX7_fits_193 (fun H locs hP hD hS => ?_)
                          have hP : va_P D vwCl (ti_wM E ad (xg.1, va_up (va_up xg.2.1 ((6 * i) + k9) z) ((6 * i) + k9) (ti_ma xg i k9), va_up xg.2.2 ((6 * i) + k9) (ti_mb xg i k9)) xd xt u1.1 u1.2 xh xs xv xb xq xk) H := hP
                          have hD : va_D A (ti_wM E ad (xg.1, va_up (va_up xg.2.1 ((6 * i) + k9) z) ((6 * i) + k9) (ti_ma xg i k9), va_up xg.2.2 ((6 * i) + k9) (ti_mb xg i k9)) xd xt u1.1 u1.2 xh xs xv xb xq xk) := hD
                          refine lv_aload_n hx hb dX7_fits_194 rfl (lv_at hl 3 rfl) ?_
                          refine va_get (v := .ref (ad 3)) hx hb hts in_X7 hown hK hP 0 rfl rfl 2 (by decide) (hts _ q1090) (fun _ h => h) rfl dX7_fits_195 ?_
                          refine lv_bipush (v := nI 6) hx hb dX7_fits_198 (by decide) ?_
                          refine lv_iload_n hx hb dX7_fits_200 rfl (lv_at hl 4 rfl) ?_
                          refine tn_mul hx hb dX7_fits_201 ?_
                          refine lv_iload_n hx hb dX7_fits_202 rfl (lv_at hl 5 rfl) ?_
                          refine tn_add hx hb dX7_fits_203 ?_
                          refine lv_iload hx hb dX7_fits_204 (lv_at hl 9 rfl) ?_
                          refine tn_iast (f := va_up xg.2.2 ((6 * i) + k9) (ti_mb xg i k9)) hx hb hK hP hD hS 3 0 rfl rfl (by omega) (by decide) dX7_fits_206 (fun H locs hP hD hS => ?_)
                          have hP : va_P D vwCl (ti_wM E ad (xg.1, va_up (va_up xg.2.1 ((6 * i) + k9) z) ((6 * i) + k9) (ti_ma xg i k9), va_up (va_up xg.2.2 ((6 * i) + k9) (ti_mb xg i k9)) ((6 * i) + k9) (ti_mb xg i k9)) xd xt u1.1 u1.2 xh xs xv xb xq xk) H := hP
                          have hD : va_D A (ti_wM E ad (xg.1, va_up (va_up xg.2.1 ((6 * i) + k9) z) ((6 * i) + k9) (ti_ma xg i k9), va_up (va_up xg.2.2 ((6 * i) + k9) (ti_mb xg i k9)) ((6 * i) + k9) (ti_mb xg i k9)) xd xt u1.1 u1.2 xh xs xv xb xq xk) := hD
                          have hP := ti_P_rep (g := ti_n xg.2.1) hP 2 rfl (fun j _ => congrFun (congrArg ti_n (ti_up_back xg.2.1 (6 * i + k9) z)) j)
                          have hD := ti_D_rep (q := 2) hD rfl (e := .inl (E 0, 18, .inl (ti_n xg.2.1)))
                          have hP : va_P D vwCl (ti_wM E ad (xg.1, xg.2.1, va_up (va_up xg.2.2 ((6 * i) + k9) (ti_mb xg i k9)) ((6 * i) + k9) (ti_mb xg i k9)) xd xt u1.1 u1.2 xh xs xv xb xq xk) H := hP
                          have hD : va_D A (ti_wM E ad (xg.1, xg.2.1, va_up (va_up xg.2.2 ((6 * i) + k9) (ti_mb xg i k9)) ((6 * i) + k9) (ti_mb xg i k9)) xd xt u1.1 u1.2 xh xs xv xb xq xk) := hD
                          have hP := ti_P_rep (g := ti_n xg.2.2) hP 3 rfl (fun j _ => congrFun (congrArg ti_n (ti_up_back xg.2.2 (6 * i + k9) (ti_mb xg i k9))) j)
                          have hD := ti_D_rep (q := 3) hD rfl (e := .inl (E 0, 18, .inl (ti_n xg.2.2)))
                          have hP : va_P D vwCl (ti_wM E ad xg xd xt u1.1 u1.2 xh xs xv xb xq xk) H := hP
                          have hD : va_D A (ti_wM E ad xg xd xt u1.1 u1.2 xh xs xv xb xq xk) := hD
                          refine lv_iinc (v := nI (z + 1)) (lv' := [(9, .int (nI (z + 1))), (12, .int (nI 1)), (11, .int (nI (ti_mb xg i k9))), (10, .int (nI z)), (0, .ref (ad 0)), (1, .int (nI i)), (2, .int (nI k9)), (3, .int (nI l9)), (4, .int (nI w9)), (5, .int (nI (ti_ma xg i k9))), (6, .int (nI (ti_mb xg i k9))), (7, .int (nI c9)), (8, .int fs)]) hx hb dX7_fits_207 hl (k := 12) rfl (nI_1 z) (by decide) rfl (fun ls hl => ?_)
                          refine lv_goto (tgt := 58) hx hb dX7_fits_210 (by decide) ?_
                          exact ih58 (z + 1) c9 fs u1.1 u1.2 _ _ _ hP hD hS (by omega) (by omega) (by omega) (hu1.1) (hu1.2) (by rw [hv, ti_ftn, if_neg (by rw [hk1, c161]; decide), show 10 - (z + 1) = m9 by omega]) (lv_sub hl [4, 5, 6, 7, 8, 9, 10, 11, 12, 0] rfl)
                        · skip
                          refine lv_iload hx hb dX7_fits_164 (lv_at hl 10 rfl) ?_
                          refine tn_if_ne (tgt := 174) hx hb dX7_fits_166 (by decide) (by omega) (fun c166 => ?_) (fun c166 => ?_)
                          · skip
                            refine lv_iload hx hb dX7_fits_174 (lv_at hl 11 rfl) ?_
                            refine lv_istore (lv' := [(8, .int fs), (12, .int (nI 1)), (11, .int (nI (ti_mb xg i k9))), (10, .int (nI z)), (0, .ref (ad 0)), (1, .int (nI i)), (2, .int (nI k9)), (3, .int (nI l9)), (4, .int (nI w9)), (5, .int (nI (ti_ma xg i k9))), (6, .int (nI (ti_mb xg i k9))), (7, .int (nI c9)), (9, .int (nI z))]) hx hb dX7_fits_176 hl (by decide) rfl (fun ls hl => ?_)
                            refine lv_iinc (v := nI (c9 + 1)) (lv' := [(7, .int (nI (c9 + 1))), (8, .int fs), (12, .int (nI 1)), (11, .int (nI (ti_mb xg i k9))), (10, .int (nI z)), (0, .ref (ad 0)), (1, .int (nI i)), (2, .int (nI k9)), (3, .int (nI l9)), (4, .int (nI w9)), (5, .int (nI (ti_ma xg i k9))), (6, .int (nI (ti_mb xg i k9))), (9, .int (nI z))]) hx hb dX7_fits_178 hl (k := 11) rfl (nI_1 c9) (by decide) rfl (fun ls hl => ?_)
                            refine lv_aload_n hx hb dX7_fits_181 rfl (lv_at hl 5 rfl) ?_
                            refine va_get (v := .ref (ad 2)) hx hb hts in_X7 hown hK hP 0 rfl rfl 1 (by decide) (hts _ q1089) (fun _ h => h) rfl dX7_fits_182 ?_
                            refine lv_bipush (v := nI 6) hx hb dX7_fits_185 (by decide) ?_
                            refine lv_iload_n hx hb dX7_fits_187 rfl (lv_at hl 6 rfl) ?_
                            refine tn_mul hx hb dX7_fits_188 ?_
                            refine lv_iload_n hx hb dX7_fits_189 rfl (lv_at hl 7 rfl) ?_
                            refine tn_add hx hb dX7_fits_190 ?_
                            refine lv_iload hx hb dX7_fits_191 (lv_at hl 10 rfl) ?_
                            refine tn_iast (f := va_up xg.2.1 ((6 * i) + k9) z) hx hb hK hP hD hS 2 0 rfl rfl (by omega) (by decide) dX7_fits_193 (fun H locs hP hD hS => ?_)
                            have hP : va_P D vwCl (ti_wM E ad (xg.1, va_up (va_up xg.2.1 ((6 * i) + k9) z) ((6 * i) + k9) (ti_ma xg i k9), va_up xg.2.2 ((6 * i) + k9) (ti_mb xg i k9)) xd xt u1.1 u1.2 xh xs xv xb xq xk) H := hP
                            have hD : va_D A (ti_wM E ad (xg.1, va_up (va_up xg.2.1 ((6 * i) + k9) z) ((6 * i) + k9) (ti_ma xg i k9), va_up xg.2.2 ((6 * i) + k9) (ti_mb xg i k9)) xd xt u1.1 u1.2 xh xs xv xb xq xk) := hD
                            refine lv_aload_n hx hb dX7_fits_194 rfl (lv_at hl 5 rfl) ?_
                            refine va_get (v := .ref (ad 3)) hx hb hts in_X7 hown hK hP 0 rfl rfl 2 (by decide) (hts _ q1090) (fun _ h => h) rfl dX7_fits_195 ?_
                            refine lv_bipush (v := nI 6) hx hb dX7_fits_198 (by decide) ?_
                            refine lv_iload_n hx hb dX7_fits_200 rfl (lv_at hl 6 rfl) ?_
                            refine tn_mul hx hb dX7_fits_201 ?_
                            refine lv_iload_n hx hb dX7_fits_202 rfl (lv_at hl 7 rfl) ?_
                            refine tn_add hx hb dX7_fits_203 ?_
                            refine lv_iload hx hb dX7_fits_204 (lv_at hl 11 rfl) ?_
                            refine tn_iast (f := va_up xg.2.2 ((6 * i) + k9) (ti_mb xg i k9)) hx hb hK hP hD hS 3 0 rfl rfl (by omega) (by decide) dX7_fits_206 (fun H locs hP hD hS => ?_)
                            have hP : va_P D vwCl (ti_wM E ad (xg.1, va_up (va_up xg.2.1 ((6 * i) + k9) z) ((6 * i) + k9) (ti_ma xg i k9), va_up (va_up xg.2.2 ((6 * i) + k9) (ti_mb xg i k9)) ((6 * i) + k9) (ti_mb xg i k9)) xd xt u1.1 u1.2 xh xs xv xb xq xk) H := hP
                            have hD : va_D A (ti_wM E ad (xg.1, va_up (va_up xg.2.1 ((6 * i) + k9) z) ((6 * i) + k9) (ti_ma xg i k9), va_up (va_up xg.2.2 ((6 * i) + k9) (ti_mb xg i k9)) ((6 * i) + k9) (ti_mb xg i k9)) xd xt u1.1 u1.2 xh xs xv xb xq xk) := hD
                            have hP := ti_P_rep (g := ti_n xg.2.1) hP 2 rfl (fun j _ => congrFun (congrArg ti_n (ti_up_back xg.2.1 (6 * i + k9) z)) j)
                            have hD := ti_D_rep (q := 2) hD rfl (e := .inl (E 0, 18, .inl (ti_n xg.2.1)))
                            have hP : va_P D vwCl (ti_wM E ad (xg.1, xg.2.1, va_up (va_up xg.2.2 ((6 * i) + k9) (ti_mb xg i k9)) ((6 * i) + k9) (ti_mb xg i k9)) xd xt u1.1 u1.2 xh xs xv xb xq xk) H := hP
                            have hD : va_D A (ti_wM E ad (xg.1, xg.2.1, va_up (va_up xg.2.2 ((6 * i) + k9) (ti_mb xg i k9)) ((6 * i) + k9) (ti_mb xg i k9)) xd xt u1.1 u1.2 xh xs xv xb xq xk) := hD
                            have hP := ti_P_rep (g := ti_n xg.2.2) hP 3 rfl (fun j _ => congrFun (congrArg ti_n (ti_up_back xg.2.2 (6 * i + k9) (ti_mb xg i k9))) j)
                            have hD := ti_D_rep (q := 3) hD rfl (e := .inl (E 0, 18, .inl (ti_n xg.2.2)))
                            have hP : va_P D vwCl (ti_wM E ad xg xd xt u1.1 u1.2 xh xs xv xb xq xk) H := hP
                            have hD : va_D A (ti_wM E ad xg xd xt u1.1 u1.2 xh xs xv xb xq xk) := hD
                            refine lv_iinc (v := nI (z + 1)) (lv' := [(9, .int (nI (z + 1))), (7, .int (nI (c9 + 1))), (8, .int fs), (12, .int (nI 1)), (11, .int (nI (ti_mb xg i k9))), (10, .int (nI z)), (0, .ref (ad 0)), (1, .int (nI i)), (2, .int (nI k9)), (3, .int (nI l9)), (4, .int (nI w9)), (5, .int (nI (ti_ma xg i k9))), (6, .int (nI (ti_mb xg i k9)))]) hx hb dX7_fits_207 hl (k := 12) rfl (nI_1 z) (by decide) rfl (fun ls hl => ?_)
                            refine lv_goto (tgt := 58) hx hb dX7_fits_210 (by decide) ?_
                            exact ih58 (z + 1) (c9 + 1) fs u1.1 u1.2 _ _ _ hP hD hS (by omega) (by omega) (by omega) (hu1.1) (hu1.2) (by rw [hv, ti_ftn, if_pos (by rw [hk1, c161]), show 10 - (z + 1) = m9 by omega]; show ti_ftn _ _ _ _ _ _ (c9 + 1, if c9 = 0 then nI z else fs) = _; rw [if_neg c166]) (lv_sub hl [6, 7, 8, 9, 10, 11, 12, 1, 2, 0] rfl)
                          · skip
                            refine lv_iload hx hb dX7_fits_169 (lv_at hl 12 rfl) ?_
                            refine lv_goto (tgt := 176) hx hb dX7_fits_171 (by decide) ?_
                            refine lv_istore (lv' := [(8, .int (nI z)), (12, .int (nI 1)), (11, .int (nI (ti_mb xg i k9))), (10, .int (nI z)), (0, .ref (ad 0)), (1, .int (nI i)), (2, .int (nI k9)), (3, .int (nI l9)), (4, .int (nI w9)), (5, .int (nI (ti_ma xg i k9))), (6, .int (nI (ti_mb xg i k9))), (7, .int (nI c9)), (9, .int (nI z))]) hx hb dX7_fits_176 hl (by decide) rfl (fun ls hl => ?_)
                            refine lv_iinc (v := nI (c9 + 1)) (lv' := [(7, .int (nI (c9 + 1))), (8, .int (nI z)), (12, .int (nI 1)), (11, .int (nI (ti_mb xg i k9))), (10, .int (nI z)), (0, .ref (ad 0)), (1, .int (nI i)), (2, .int (nI k9)), (3, .int (nI l9)), (4, .int (nI w9)), (5, .int (nI (ti_ma xg i k9))), (6, .int (nI (ti_mb xg i k9))), (9, .int (nI z))]) hx hb dX7_fits_178 hl (k := 11) rfl (nI_1 c9) (by decide) rfl (fun ls hl => ?_)
                            refine lv_aload_n hx hb dX7_fits_181 rfl (lv_at hl 5 rfl) ?_
                            refine va_get (v := .ref (ad 2)) hx hb hts in_X7 hown hK hP 0 rfl rfl 1 (by decide) (hts _ q1089) (fun _ h => h) rfl dX7_fits_182 ?_
                            refine lv_bipush (v := nI 6) hx hb dX7_fits_185 (by decide) ?_
                            refine lv_iload_n hx hb dX7_fits_187 rfl (lv_at hl 6 rfl) ?_
                            refine tn_mul hx hb dX7_fits_188 ?_
                            refine lv_iload_n hx hb dX7_fits_189 rfl (lv_at hl 7 rfl) ?_
                            refine tn_add hx hb dX7_fits_190 ?_
                            refine lv_iload hx hb dX7_fits_191 (lv_at hl 10 rfl) ?_
                            refine tn_iast (f := va_up xg.2.1 ((6 * i) + k9) z) hx hb hK hP hD hS 2 0 rfl rfl (by omega) (by decide) dX7_fits_193 (fun H locs hP hD hS => ?_)
                            have hP : va_P D vwCl (ti_wM E ad (xg.1, va_up (va_up xg.2.1 ((6 * i) + k9) z) ((6 * i) + k9) (ti_ma xg i k9), va_up xg.2.2 ((6 * i) + k9) (ti_mb xg i k9)) xd xt u1.1 u1.2 xh xs xv xb xq xk) H := hP
                            have hD : va_D A (ti_wM E ad (xg.1, va_up (va_up xg.2.1 ((6 * i) + k9) z) ((6 * i) + k9) (ti_ma xg i k9), va_up xg.2.2 ((6 * i) + k9) (ti_mb xg i k9)) xd xt u1.1 u1.2 xh xs xv xb xq xk) := hD
                            refine lv_aload_n hx hb dX7_fits_194 rfl (lv_at hl 5 rfl) ?_
                            refine va_get (v := .ref (ad 3)) hx hb hts in_X7 hown hK hP 0 rfl rfl 2 (by decide) (hts _ q1090) (fun _ h => h) rfl dX7_fits_195 ?_
                            refine lv_bipush (v := nI 6) hx hb dX7_fits_198 (by decide) ?_
                            refine lv_iload_n hx hb dX7_fits_200 rfl (lv_at hl 6 rfl) ?_
                            refine tn_mul hx hb dX7_fits_201 ?_
                            refine lv_iload_n hx hb dX7_fits_202 rfl (lv_at hl 7 rfl) ?_
                            refine tn_add hx hb dX7_fits_203 ?_
                            refine lv_iload hx hb dX7_fits_204 (lv_at hl 11 rfl) ?_
                            refine tn_iast (f := va_up xg.2.2 ((6 * i) + k9) (ti_mb xg i k9)) hx hb hK hP hD hS 3 0 rfl rfl (by omega) (by decide) dX7_fits_206 (fun H locs hP hD hS => ?_)
                            have hP : va_P D vwCl (ti_wM E ad (xg.1, va_up (va_up xg.2.1 ((6 * i) + k9) z) ((6 * i) + k9) (ti_ma xg i k9), va_up (va_up xg.2.2 ((6 * i) + k9) (ti_mb xg i k9)) ((6 * i) + k9) (ti_mb xg i k9)) xd xt u1.1 u1.2 xh xs xv xb xq xk) H := hP
                            have hD : va_D A (ti_wM E ad (xg.1, va_up (va_up xg.2.1 ((6 * i) + k9) z) ((6 * i) + k9) (ti_ma xg i k9), va_up (va_up xg.2.2 ((6 * i) + k9) (ti_mb xg i k9)) ((6 * i) + k9) (ti_mb xg i k9)) xd xt u1.1 u1.2 xh xs xv xb xq xk) := hD
                            have hP := ti_P_rep (g := ti_n xg.2.1) hP 2 rfl (fun j _ => congrFun (congrArg ti_n (ti_up_back xg.2.1 (6 * i + k9) z)) j)
                            have hD := ti_D_rep (q := 2) hD rfl (e := .inl (E 0, 18, .inl (ti_n xg.2.1)))
                            have hP : va_P D vwCl (ti_wM E ad (xg.1, xg.2.1, va_up (va_up xg.2.2 ((6 * i) + k9) (ti_mb xg i k9)) ((6 * i) + k9) (ti_mb xg i k9)) xd xt u1.1 u1.2 xh xs xv xb xq xk) H := hP
                            have hD : va_D A (ti_wM E ad (xg.1, xg.2.1, va_up (va_up xg.2.2 ((6 * i) + k9) (ti_mb xg i k9)) ((6 * i) + k9) (ti_mb xg i k9)) xd xt u1.1 u1.2 xh xs xv xb xq xk) := hD
                            have hP := ti_P_rep (g := ti_n xg.2.2) hP 3 rfl (fun j _ => congrFun (congrArg ti_n (ti_up_back xg.2.2 (6 * i + k9) (ti_mb xg i k9))) j)
                            have hD := ti_D_rep (q := 3) hD rfl (e := .inl (E 0, 18, .inl (ti_n xg.2.2)))
                            have hP : va_P D vwCl (ti_wM E ad xg xd xt u1.1 u1.2 xh xs xv xb xq xk) H := hP
                            have hD : va_D A (ti_wM E ad xg xd xt u1.1 u1.2 xh xs xv xb xq xk) := hD
                            refine lv_iinc (v := nI (z + 1)) (lv' := [(9, .int (nI (z + 1))), (7, .int (nI (c9 + 1))), (8, .int (nI z)), (12, .int (nI 1)), (11, .int (nI (ti_mb xg i k9))), (10, .int (nI z)), (0, .ref (ad 0)), (1, .int (nI i)), (2, .int (nI k9)), (3, .int (nI l9)), (4, .int (nI w9)), (5, .int (nI (ti_ma xg i k9))), (6, .int (nI (ti_mb xg i k9)))]) hx hb dX7_fits_207 hl (k := 12) rfl (nI_1 z) (by decide) rfl (fun ls hl => ?_)
                            refine lv_goto (tgt := 58) hx hb dX7_fits_210 (by decide) ?_
                            exact ih58 (z + 1) (c9 + 1) (nI z) u1.1 u1.2 _ _ _ hP hD hS (by omega) (by omega) (by omega) (hu1.1) (hu1.2) (by rw [hv, ti_ftn, if_pos (by rw [hk1, c161]), show 10 - (z + 1) = m9 by omega]; show ti_ftn _ _ _ _ _ _ (c9 + 1, if c9 = 0 then nI z else fs) = _; rw [if_pos c166]) (lv_sub hl [6, 7, 8, 9, 10, 11, 12, 1, 2, 0] rfl)
                  · skip
                    refine lv_iload hx hb dX7_fits_99 (lv_at hl 0 rfl) ?_
                    refine lv_iload hx hb dX7_fits_101 (lv_at hl 8 rfl) ?_
                    refine tn_eq (tgt := 119) hx hb dX7_fits_103 (by decide) (by omega) (by omega) (fun c103 => ?_) (fun c103 => ?_)
                    · skip
                      refine lv_iconst (v := nI 1) hx hb dX7_fits_119 (by decide) ?_
                      refine lv_goto (tgt := 124) hx hb dX7_fits_120 (by decide) ?_
                      have hft : ti_ft (I i) k9 l9 z = (z, ti_mb xg i k9) := by rw [ti_ft, hgd, if_pos c66, if_neg (by omega)]
                      have hsm : (z, ti_mb xg i k9) = (ti_ma xg i k9, ti_mb xg i k9) := by rw [c96]
                      refine lv_istore (lv' := [(12, .int (nI 1)), (11, .int (nI (ti_mb xg i k9))), (10, .int (nI z)), (0, .ref (ad 0)), (1, .int (nI i)), (2, .int (nI k9)), (3, .int (nI l9)), (4, .int (nI w9)), (5, .int (nI (ti_ma xg i k9))), (6, .int (nI (ti_mb xg i k9))), (7, .int (nI c9)), (8, .int fs), (9, .int (nI z))]) hx hb dX7_fits_124 hl (by decide) rfl (fun ls hl => ?_)
                      refine lv_aload_n hx hb dX7_fits_126 rfl (lv_at hl 3 rfl) ?_
                      refine va_get (v := .ref (ad 2)) hx hb hts in_X7 hown hK hP 0 rfl rfl 1 (by decide) (hts _ q1089) (fun _ h => h) rfl dX7_fits_127 ?_
                      refine lv_bipush (v := nI 6) hx hb dX7_fits_130 (by decide) ?_
                      refine lv_iload_n hx hb dX7_fits_132 rfl (lv_at hl 4 rfl) ?_
                      refine tn_mul hx hb dX7_fits_133 ?_
                      refine lv_iload_n hx hb dX7_fits_134 rfl (lv_at hl 5 rfl) ?_
                      refine tn_add hx hb dX7_fits_135 ?_
                      refine lv_iload hx hb dX7_fits_136 (lv_at hl 2 rfl) ?_
                      refine tn_iast (f := xg.2.1) hx hb hK hP hD hS 2 0 rfl rfl (by omega) (by decide) dX7_fits_138 (fun H locs hP hD hS => ?_)
                      have hP : va_P D vwCl (ti_wM E ad (xg.1, va_up xg.2.1 ((6 * i) + k9) z, xg.2.2) xd xt y1 y2 xh xs xv xb xq xk) H := hP
                      have hD : va_D A (ti_wM E ad (xg.1, va_up xg.2.1 ((6 * i) + k9) z, xg.2.2) xd xt y1 y2 xh xs xv xb xq xk) := hD
                      refine lv_aload_n hx hb dX7_fits_139 rfl (lv_at hl 3 rfl) ?_
                      refine va_get (v := .ref (ad 3)) hx hb hts in_X7 hown hK hP 0 rfl rfl 2 (by decide) (hts _ q1090) (fun _ h => h) rfl dX7_fits_140 ?_
                      refine lv_bipush (v := nI 6) hx hb dX7_fits_143 (by decide) ?_
                      refine lv_iload_n hx hb dX7_fits_145 rfl (lv_at hl 4 rfl) ?_
                      refine tn_mul hx hb dX7_fits_146 ?_
                      refine lv_iload_n hx hb dX7_fits_147 rfl (lv_at hl 5 rfl) ?_
                      refine tn_add hx hb dX7_fits_148 ?_
                      refine lv_iload hx hb dX7_fits_149 (lv_at hl 1 rfl) ?_
                      refine tn_iast (f := xg.2.2) hx hb hK hP hD hS 3 0 rfl rfl (by omega) (by decide) dX7_fits_151 (fun H locs hP hD hS => ?_)
                      have hP : va_P D vwCl (ti_wM E ad (xg.1, va_up xg.2.1 ((6 * i) + k9) z, va_up xg.2.2 ((6 * i) + k9) (ti_mb xg i k9)) xd xt y1 y2 xh xs xv xb xq xk) H := hP
                      have hD : va_D A (ti_wM E ad (xg.1, va_up xg.2.1 ((6 * i) + k9) z, va_up xg.2.2 ((6 * i) + k9) (ti_mb xg i k9)) xd xt y1 y2 xh xs xv xb xq xk) := hD
                      refine lv_iload hx hb dX7_fits_152 (lv_at hl 0 rfl) ?_
                      refine tn_if_eq (tgt := 181) hx hb dX7_fits_154 (by decide) (by omega) (fun c154 => ?_) (fun c154 => ?_)
                      · skip
                        exact absurd c154 (by decide)
                      · skip
                        have hor : (z, ti_mb xg i k9) = (I i).getD k9 (0, 0) ∨ (z, ti_mb xg i k9) ∉ I i := Or.inl (hsm.trans hgd.symm)
                        have hG0 : ti_G (ti_mset xg (6 * i + k9) z (ti_mb xg i k9)) 0 = (if i = 0 then (I 0).set k9 (z, ti_mb xg i k9) else I 0) := by
                          by_cases hi0 : i = 0
                          · subst hi0; rw [if_pos rfl, ti_mset_G hxg hk9, hg]
                          · rw [if_neg hi0, ti_mset_Gn hxg hk9 (fun e => hi0 e.symm)]; exact hI 0 (by decide)
                        have hnds : (ti_G (ti_mset xg (6 * i + k9) z (ti_mb xg i k9)) 0).Nodup := by
                          rw [hG0]
                          by_cases hi0 : i = 0
                          · subst hi0; rw [if_pos rfl]; exact ti_set_nod hnd0 hor
                          · rw [if_neg hi0]; exact hnd0
                        have hk1 : ti_ftok I SN i k9 l9 z = ti_seen (ti_G (ti_mset xg (6 * i + k9) z (ti_mb xg i k9)) 0) SN := by
                          rw [ti_ftok, hG0, hft]
                          have hx1 : (decide ((z, ti_mb xg i k9) = (I i).getD k9 (0, 0)) || decide ((z, ti_mb xg i k9) ∉ I i)) = true := by rcases hor with h | h <;> simp [h]
                          rw [hx1]; rfl
                        refine lv_aload_n hx hb dX7_fits_157 rfl (lv_at hl 3 rfl) ?_
                        refine ti_mVa (As := []) (rest := []) S hE hP hD hS hA (met_X7_isSeen l D E ad (xg.1, va_up xg.2.1 ((6 * i) + k9) z, va_up xg.2.2 ((6 * i) + k9) (ti_mb xg i k9)) xd xt y1 y2 xh xs xv xb xq xk (ti_mset_ok hxg (by omega) (by omega)) hy1 hy2 hxs SN hSN hnds) (fun _ => rfl) (lw_V q1494 q1496 qs61 q73 q1497) 0 rfl 0 rfl rfl (by decide +kernel) ⟨Nat.le_of_ble_eq_true rfl, Nat.le_of_ble_eq_true rfl⟩ hl.1 rfl (Nat.le_of_ble_eq_true rfl) ⟨Nat.le_refl _, Nat.le_refl _⟩ dX7_fits_158 (fun u1 H locs hu hP hD hS => ?_)
                        have hu1 := hu
                        have hP : va_P D vwCl (ti_wM E ad (xg.1, va_up xg.2.1 ((6 * i) + k9) z, va_up xg.2.2 ((6 * i) + k9) (ti_mb xg i k9)) xd xt u1.1 u1.2 xh xs xv xb xq xk) H := hP
                        have hD : va_D A (ti_wM E ad (xg.1, va_up xg.2.1 ((6 * i) + k9) z, va_up xg.2.2 ((6 * i) + k9) (ti_mb xg i k9)) xd xt u1.1 u1.2 xh xs xv xb xq xk) := hD
                        refine W.eq (g2 := F0 m 161 ls [.int (ti_b (ti_seen (ti_G (ti_mset xg (6 * i + k9) z (ti_mb xg i k9)) 0) SN))]) rfl ?_
                        refine tb_eq (tgt := 181) hx hb dX7_fits_161 (by decide) (fun c161 => ?_) (fun c161 => ?_)
                        · skip
                          refine lv_aload_n hx hb dX7_fits_181 rfl (lv_at hl 3 rfl) ?_
                          refine va_get (v := .ref (ad 2)) hx hb hts in_X7 hown hK hP 0 rfl rfl 1 (by decide) (hts _ q1089) (fun _ h => h) rfl dX7_fits_182 ?_
                          refine lv_bipush (v := nI 6) hx hb dX7_fits_185 (by decide) ?_
                          refine lv_iload_n hx hb dX7_fits_187 rfl (lv_at hl 4 rfl) ?_
                          refine tn_mul hx hb dX7_fits_188 ?_
                          refine lv_iload_n hx hb dX7_fits_189 rfl (lv_at hl 5 rfl) ?_
                          refine tn_add hx hb dX7_fits_190 ?_
                          refine lv_iload hx hb dX7_fits_191 (lv_at hl 8 rfl) ?_
                          refine tn_iast (f := va_up xg.2.1 ((6 * i) + k9) z) hx hb hK hP hD hS 2 0 rfl rfl (by omega) (by decide) dX7_fits_193 (fun H locs hP hD hS => ?_)
                          have hP : va_P D vwCl (ti_wM E ad (xg.1, va_up (va_up xg.2.1 ((6 * i) + k9) z) ((6 * i) + k9) (ti_ma xg i k9), va_up xg.2.2 ((6 * i) + k9) (ti_mb xg i k9)) xd xt u1.1 u1.2 xh xs xv xb xq xk) H := hP
                          have hD : va_D A (ti_wM E ad (xg.1, va_up (va_up xg.2.1 ((6 * i) + k9) z) ((6 * i) + k9) (ti_ma xg i k9), va_up xg.2.2 ((6 * i) + k9) (ti_mb xg i k9)) xd xt u1.1 u1.2 xh xs xv xb xq xk) := hD
                          refine lv_aload_n hx hb dX7_fits_194 rfl (lv_at hl 3 rfl) ?_
                          refine va_get (v := .ref (ad 3)) hx hb hts in_X7 hown hK hP 0 rfl rfl 2 (by decide) (hts _ q1090) (fun _ h => h) rfl dX7_fits_195 ?_
                          refine lv_bipush (v := nI 6) hx hb dX7_fits_198 (by decide) ?_
                          refine lv_iload_n hx hb dX7_fits_200 rfl (lv_at hl 4 rfl) ?_
                          refine tn_mul hx hb dX7_fits_201 ?_
                          refine lv_iload_n hx hb dX7_fits_202 rfl (lv_at hl 5 rfl) ?_
                          refine tn_add hx hb dX7_fits_203 ?_
                          refine lv_iload hx hb dX7_fits_204 (lv_at hl 9 rfl) ?_
                          refine tn_iast (f := va_up xg.2.2 ((6 * i) + k9) (ti_mb xg i k9)) hx hb hK hP hD hS 3 0 rfl rfl (by omega) (by decide) dX7_fits_206 (fun H locs hP hD hS => ?_)
                          have hP : va_P D vwCl (ti_wM E ad (xg.1, va_up (va_up xg.2.1 ((6 * i) + k9) z) ((6 * i) + k9) (ti_ma xg i k9), va_up (va_up xg.2.2 ((6 * i) + k9) (ti_mb xg i k9)) ((6 * i) + k9) (ti_mb xg i k9)) xd xt u1.1 u1.2 xh xs xv xb xq xk) H := hP
                          have hD : va_D A (ti_wM E ad (xg.1, va_up (va_up xg.2.1 ((6 * i) + k9) z) ((6 * i) + k9) (ti_ma xg i k9), va_up (va_up xg.2.2 ((6 * i) + k9) (ti_mb xg i k9)) ((6 * i) + k9) (ti_mb xg i k9)) xd xt u1.1 u1.2 xh xs xv xb xq xk) := hD
                          have hP := ti_P_rep (g := ti_n xg.2.1) hP 2 rfl (fun j _ => congrFun (congrArg ti_n (ti_up_back xg.2.1 (6 * i + k9) z)) j)
                          have hD := ti_D_rep (q := 2) hD rfl (e := .inl (E 0, 18, .inl (ti_n xg.2.1)))
                          have hP : va_P D vwCl (ti_wM E ad (xg.1, xg.2.1, va_up (va_up xg.2.2 ((6 * i) + k9) (ti_mb xg i k9)) ((6 * i) + k9) (ti_mb xg i k9)) xd xt u1.1 u1.2 xh xs xv xb xq xk) H := hP
                          have hD : va_D A (ti_wM E ad (xg.1, xg.2.1, va_up (va_up xg.2.2 ((6 * i) + k9) (ti_mb xg i k9)) ((6 * i) + k9) (ti_mb xg i k9)) xd xt u1.1 u1.2 xh xs xv xb xq xk) := hD
                          have hP := ti_P_rep (g := ti_n xg.2.2) hP 3 rfl (fun j _ => congrFun (congrArg ti_n (ti_up_back xg.2.2 (6 * i + k9) (ti_mb xg i k9))) j)
                          have hD := ti_D_rep (q := 3) hD rfl (e := .inl (E 0, 18, .inl (ti_n xg.2.2)))
                          have hP : va_P D vwCl (ti_wM E ad xg xd xt u1.1 u1.2 xh xs xv xb xq xk) H := hP
                          have hD : va_D A (ti_wM E ad xg xd xt u1.1 u1.2 xh xs xv xb xq xk) := hD
                          refine lv_iinc (v := nI (z + 1)) (lv' := [(9, .int (nI (z + 1))), (12, .int (nI 1)), (11, .int (nI (ti_mb xg i k9))), (10, .int (nI z)), (0, .ref (ad 0)), (1, .int (nI i)), (2, .int (nI k9)), (3, .int (nI l9)), (4, .int (nI w9)), (5, .int (nI (ti_ma xg i k9))), (6, .int (nI (ti_mb xg i k9))), (7, .int (nI c9)), (8, .int fs)]) hx hb dX7_fits_207 hl (k := 12) rfl (nI_1 z) (by decide) rfl (fun ls hl => ?_)
                          refine lv_goto (tgt := 58) hx hb dX7_fits_210 (by decide) ?_
                          exact ih58 (z + 1) c9 fs u1.1 u1.2 _ _ _ hP hD hS (by omega) (by omega) (by omega) (hu1.1) (hu1.2) (by rw [hv, ti_ftn, if_neg (by rw [hk1, c161]; decide), show 10 - (z + 1) = m9 by omega]) (lv_sub hl [4, 5, 6, 7, 8, 9, 10, 11, 12, 0] rfl)
                        · skip
                          refine lv_iload hx hb dX7_fits_164 (lv_at hl 10 rfl) ?_
                          refine tn_if_ne (tgt := 174) hx hb dX7_fits_166 (by decide) (by omega) (fun c166 => ?_) (fun c166 => ?_)
                          · skip
                            refine lv_iload hx hb dX7_fits_174 (lv_at hl 11 rfl) ?_
                            refine lv_istore (lv' := [(8, .int fs), (12, .int (nI 1)), (11, .int (nI (ti_mb xg i k9))), (10, .int (nI z)), (0, .ref (ad 0)), (1, .int (nI i)), (2, .int (nI k9)), (3, .int (nI l9)), (4, .int (nI w9)), (5, .int (nI (ti_ma xg i k9))), (6, .int (nI (ti_mb xg i k9))), (7, .int (nI c9)), (9, .int (nI z))]) hx hb dX7_fits_176 hl (by decide) rfl (fun ls hl => ?_)
                            refine lv_iinc (v := nI (c9 + 1)) (lv' := [(7, .int (nI (c9 + 1))), (8, .int fs), (12, .int (nI 1)), (11, .int (nI (ti_mb xg i k9))), (10, .int (nI z)), (0, .ref (ad 0)), (1, .int (nI i)), (2, .int (nI k9)), (3, .int (nI l9)), (4, .int (nI w9)), (5, .int (nI (ti_ma xg i k9))), (6, .int (nI (ti_mb xg i k9))), (9, .int (nI z))]) hx hb dX7_fits_178 hl (k := 11) rfl (nI_1 c9) (by decide) rfl (fun ls hl => ?_)
                            refine lv_aload_n hx hb dX7_fits_181 rfl (lv_at hl 5 rfl) ?_
                            refine va_get (v := .ref (ad 2)) hx hb hts in_X7 hown hK hP 0 rfl rfl 1 (by decide) (hts _ q1089) (fun _ h => h) rfl dX7_fits_182 ?_
                            refine lv_bipush (v := nI 6) hx hb dX7_fits_185 (by decide) ?_
                            refine lv_iload_n hx hb dX7_fits_187 rfl (lv_at hl 6 rfl) ?_
                            refine tn_mul hx hb dX7_fits_188 ?_
                            refine lv_iload_n hx hb dX7_fits_189 rfl (lv_at hl 7 rfl) ?_
                            refine tn_add hx hb dX7_fits_190 ?_
                            refine lv_iload hx hb dX7_fits_191 (lv_at hl 10 rfl) ?_
                            refine tn_iast (f := va_up xg.2.1 ((6 * i) + k9) z) hx hb hK hP hD hS 2 0 rfl rfl (by omega) (by decide) dX7_fits_193 (fun H locs hP hD hS => ?_)
                            have hP : va_P D vwCl (ti_wM E ad (xg.1, va_up (va_up xg.2.1 ((6 * i) + k9) z) ((6 * i) + k9) (ti_ma xg i k9), va_up xg.2.2 ((6 * i) + k9) (ti_mb xg i k9)) xd xt u1.1 u1.2 xh xs xv xb xq xk) H := hP
                            have hD : va_D A (ti_wM E ad (xg.1, va_up (va_up xg.2.1 ((6 * i) + k9) z) ((6 * i) + k9) (ti_ma xg i k9), va_up xg.2.2 ((6 * i) + k9) (ti_mb xg i k9)) xd xt u1.1 u1.2 xh xs xv xb xq xk) := hD
                            refine lv_aload_n hx hb dX7_fits_194 rfl (lv_at hl 5 rfl) ?_
                            refine va_get (v := .ref (ad 3)) hx hb hts in_X7 hown hK hP 0 rfl rfl 2 (by decide) (hts _ q1090) (fun _ h => h) rfl dX7_fits_195 ?_
                            refine lv_bipush (v := nI 6) hx hb dX7_fits_198 (by decide) ?_
                            refine lv_iload_n hx hb dX7_fits_200 rfl (lv_at hl 6 rfl) ?_
                            refine tn_mul hx hb dX7_fits_201 ?_
                            refine lv_iload_n hx hb dX7_fits_202 rfl (lv_at hl 7 rfl) ?_
                            refine tn_add hx hb dX7_fits_203 ?_
                            refine lv_iload hx hb dX7_fits_204 (lv_at hl 11 rfl) ?_
                            refine tn_iast (f := va_up xg.2.2 ((6 * i) + k9) (ti_mb xg i k9)) hx hb hK hP hD hS 3 0 rfl rfl (by omega) (by decide) dX7_fits_206 (fun H locs hP hD hS => ?_)
                            have hP : va_P D vwCl (ti_wM E ad (xg.1, va_up (va_up xg.2.1 ((6 * i) + k9) z) ((6 * i) + k9) (ti_ma xg i k9), va_up (va_up xg.2.2 ((6 * i) + k9) (ti_mb xg i k9)) ((6 * i) + k9) (ti_mb xg i k9)) xd xt u1.1 u1.2 xh xs xv xb xq xk) H := hP
                            have hD : va_D A (ti_wM E ad (xg.1, va_up (va_up xg.2.1 ((6 * i) + k9) z) ((6 * i) + k9) (ti_ma xg i k9), va_up (va_up xg.2.2 ((6 * i) + k9) (ti_mb xg i k9)) ((6 * i) + k9) (ti_mb xg i k9)) xd xt u1.1 u1.2 xh xs xv xb xq xk) := hD
                            have hP := ti_P_rep (g := ti_n xg.2.1) hP 2 rfl (fun j _ => congrFun (congrArg ti_n (ti_up_back xg.2.1 (6 * i + k9) z)) j)
                            have hD := ti_D_rep (q := 2) hD rfl (e := .inl (E 0, 18, .inl (ti_n xg.2.1)))
                            have hP : va_P D vwCl (ti_wM E ad (xg.1, xg.2.1, va_up (va_up xg.2.2 ((6 * i) + k9) (ti_mb xg i k9)) ((6 * i) + k9) (ti_mb xg i k9)) xd xt u1.1 u1.2 xh xs xv xb xq xk) H := hP
                            have hD : va_D A (ti_wM E ad (xg.1, xg.2.1, va_up (va_up xg.2.2 ((6 * i) + k9) (ti_mb xg i k9)) ((6 * i) + k9) (ti_mb xg i k9)) xd xt u1.1 u1.2 xh xs xv xb xq xk) := hD
                            have hP := ti_P_rep (g := ti_n xg.2.2) hP 3 rfl (fun j _ => congrFun (congrArg ti_n (ti_up_back xg.2.2 (6 * i + k9) (ti_mb xg i k9))) j)
                            have hD := ti_D_rep (q := 3) hD rfl (e := .inl (E 0, 18, .inl (ti_n xg.2.2)))
                            have hP : va_P D vwCl (ti_wM E ad xg xd xt u1.1 u1.2 xh xs xv xb xq xk) H := hP
                            have hD : va_D A (ti_wM E ad xg xd xt u1.1 u1.2 xh xs xv xb xq xk) := hD
                            refine lv_iinc (v := nI (z + 1)) (lv' := [(9, .int (nI (z + 1))), (7, .int (nI (c9 + 1))), (8, .int fs), (12, .int (nI 1)), (11, .int (nI (ti_mb xg i k9))), (10, .int (nI z)), (0, .ref (ad 0)), (1, .int (nI i)), (2, .int (nI k9)), (3, .int (nI l9)), (4, .int (nI w9)), (5, .int (nI (ti_ma xg i k9))), (6, .int (nI (ti_mb xg i k9)))]) hx hb dX7_fits_207 hl (k := 12) rfl (nI_1 z) (by decide) rfl (fun ls hl => ?_)
                            refine lv_goto (tgt := 58) hx hb dX7_fits_210 (by decide) ?_
                            exact ih58 (z + 1) (c9 + 1) fs u1.1 u1.2 _ _ _ hP hD hS (by omega) (by omega) (by omega) (hu1.1) (hu1.2) (by rw [hv, ti_ftn, if_pos (by rw [hk1, c161]), show 10 - (z + 1) = m9 by omega]; show ti_ftn _ _ _ _ _ _ (c9 + 1, if c9 = 0 then nI z else fs) = _; rw [if_neg c166]) (lv_sub hl [6, 7, 8, 9, 10, 11, 12, 1, 2, 0] rfl)
                          · skip
                            refine lv_iload hx hb dX7_fits_169 (lv_at hl 12 rfl) ?_
                            refine lv_goto (tgt := 176) hx hb dX7_fits_171 (by decide) ?_
                            refine lv_istore (lv' := [(8, .int (nI z)), (12, .int (nI 1)), (11, .int (nI (ti_mb xg i k9))), (10, .int (nI z)), (0, .ref (ad 0)), (1, .int (nI i)), (2, .int (nI k9)), (3, .int (nI l9)), (4, .int (nI w9)), (5, .int (nI (ti_ma xg i k9))), (6, .int (nI (ti_mb xg i k9))), (7, .int (nI c9)), (9, .int (nI z))]) hx hb dX7_fits_176 hl (by decide) rfl (fun ls hl => ?_)
                            refine lv_iinc (v := nI (c9 + 1)) (lv' := [(7, .int (nI (c9 + 1))), (8, .int (nI z)), (12, .int (nI 1)), (11, .int (nI (ti_mb xg i k9))), (10, .int (nI z)), (0, .ref (ad 0)), (1, .int (nI i)), (2, .int (nI k9)), (3, .int (nI l9)), (4, .int (nI w9)), (5, .int (nI (ti_ma xg i k9))), (6, .int (nI (ti_mb xg i k9))), (9, .int (nI z))]) hx hb dX7_fits_178 hl (k := 11) rfl (nI_1 c9) (by decide) rfl (fun ls hl => ?_)
                            refine lv_aload_n hx hb dX7_fits_181 rfl (lv_at hl 5 rfl) ?_
                            refine va_get (v := .ref (ad 2)) hx hb hts in_X7 hown hK hP 0 rfl rfl 1 (by decide) (hts _ q1089) (fun _ h => h) rfl dX7_fits_182 ?_
                            refine lv_bipush (v := nI 6) hx hb dX7_fits_185 (by decide) ?_
                            refine lv_iload_n hx hb dX7_fits_187 rfl (lv_at hl 6 rfl) ?_
                            refine tn_mul hx hb dX7_fits_188 ?_
                            refine lv_iload_n hx hb dX7_fits_189 rfl (lv_at hl 7 rfl) ?_
                            refine tn_add hx hb dX7_fits_190 ?_
                            refine lv_iload hx hb dX7_fits_191 (lv_at hl 10 rfl) ?_
                            refine tn_iast (f := va_up xg.2.1 ((6 * i) + k9) z) hx hb hK hP hD hS 2 0 rfl rfl (by omega) (by decide) dX7_fits_193 (fun H locs hP hD hS => ?_)
                            have hP : va_P D vwCl (ti_wM E ad (xg.1, va_up (va_up xg.2.1 ((6 * i) + k9) z) ((6 * i) + k9) (ti_ma xg i k9), va_up xg.2.2 ((6 * i) + k9) (ti_mb xg i k9)) xd xt u1.1 u1.2 xh xs xv xb xq xk) H := hP
                            have hD : va_D A (ti_wM E ad (xg.1, va_up (va_up xg.2.1 ((6 * i) + k9) z) ((6 * i) + k9) (ti_ma xg i k9), va_up xg.2.2 ((6 * i) + k9) (ti_mb xg i k9)) xd xt u1.1 u1.2 xh xs xv xb xq xk) := hD
                            refine lv_aload_n hx hb dX7_fits_194 rfl (lv_at hl 5 rfl) ?_
                            refine va_get (v := .ref (ad 3)) hx hb hts in_X7 hown hK hP 0 rfl rfl 2 (by decide) (hts _ q1090) (fun _ h => h) rfl dX7_fits_195 ?_
                            refine lv_bipush (v := nI 6) hx hb dX7_fits_198 (by decide) ?_
                            refine lv_iload_n hx hb dX7_fits_200 rfl (lv_at hl 6 rfl) ?_
                            refine tn_mul hx hb dX7_fits_201 ?_
                            refine lv_iload_n hx hb dX7_fits_202 rfl (lv_at hl 7 rfl) ?_
                            refine tn_add hx hb dX7_fits_203 ?_
                            refine lv_iload hx hb dX7_fits_204 (lv_at hl 11 rfl) ?_
                            refine tn_iast (f := va_up xg.2.2 ((6 * i) + k9) (ti_mb xg i k9)) hx hb hK hP hD hS 3 0 rfl rfl (by omega) (by decide) dX7_fits_206 (fun H locs hP hD hS => ?_)
                            have hP : va_P D vwCl (ti_wM E ad (xg.1, va_up (va_up xg.2.1 ((6 * i) + k9) z) ((6 * i) + k9) (ti_ma xg i k9), va_up (va_up xg.2.2 ((6 * i) + k9) (ti_mb xg i k9)) ((6 * i) + k9) (ti_mb xg i k9)) xd xt u1.1 u1.2 xh xs xv xb xq xk) H := hP
                            have hD : va_D A (ti_wM E ad (xg.1, va_up (va_up xg.2.1 ((6 * i) + k9) z) ((6 * i) + k9) (ti_ma xg i k9), va_up (va_up xg.2.2 ((6 * i) + k9) (ti_mb xg i k9)) ((6 * i) + k9) (ti_mb xg i k9)) xd xt u1.1 u1.2 xh xs xv xb xq xk) := hD
                            have hP := ti_P_rep (g := ti_n xg.2.1) hP 2 rfl (fun j _ => congrFun (congrArg ti_n (ti_up_back xg.2.1 (6 * i + k9) z)) j)
                            have hD := ti_D_rep (q := 2) hD rfl (e := .inl (E 0, 18, .inl (ti_n xg.2.1)))
                            have hP : va_P D vwCl (ti_wM E ad (xg.1, xg.2.1, va_up (va_up xg.2.2 ((6 * i) + k9) (ti_mb xg i k9)) ((6 * i) + k9) (ti_mb xg i k9)) xd xt u1.1 u1.2 xh xs xv xb xq xk) H := hP
                            have hD : va_D A (ti_wM E ad (xg.1, xg.2.1, va_up (va_up xg.2.2 ((6 * i) + k9) (ti_mb xg i k9)) ((6 * i) + k9) (ti_mb xg i k9)) xd xt u1.1 u1.2 xh xs xv xb xq xk) := hD
                            have hP := ti_P_rep (g := ti_n xg.2.2) hP 3 rfl (fun j _ => congrFun (congrArg ti_n (ti_up_back xg.2.2 (6 * i + k9) (ti_mb xg i k9))) j)
                            have hD := ti_D_rep (q := 3) hD rfl (e := .inl (E 0, 18, .inl (ti_n xg.2.2)))
                            have hP : va_P D vwCl (ti_wM E ad xg xd xt u1.1 u1.2 xh xs xv xb xq xk) H := hP
                            have hD : va_D A (ti_wM E ad xg xd xt u1.1 u1.2 xh xs xv xb xq xk) := hD
                            refine lv_iinc (v := nI (z + 1)) (lv' := [(9, .int (nI (z + 1))), (7, .int (nI (c9 + 1))), (8, .int (nI z)), (12, .int (nI 1)), (11, .int (nI (ti_mb xg i k9))), (10, .int (nI z)), (0, .ref (ad 0)), (1, .int (nI i)), (2, .int (nI k9)), (3, .int (nI l9)), (4, .int (nI w9)), (5, .int (nI (ti_ma xg i k9))), (6, .int (nI (ti_mb xg i k9)))]) hx hb dX7_fits_207 hl (k := 12) rfl (nI_1 z) (by decide) rfl (fun ls hl => ?_)
                            refine lv_goto (tgt := 58) hx hb dX7_fits_210 (by decide) ?_
                            exact ih58 (z + 1) (c9 + 1) (nI z) u1.1 u1.2 _ _ _ hP hD hS (by omega) (by omega) (by omega) (hu1.1) (hu1.2) (by rw [hv, ti_ftn, if_pos (by rw [hk1, c161]), show 10 - (z + 1) = m9 by omega]; show ti_ftn _ _ _ _ _ _ (c9 + 1, if c9 = 0 then nI z else fs) = _; rw [if_pos c166]) (lv_sub hl [6, 7, 8, 9, 10, 11, 12, 1, 2, 0] rfl)
                    · skip
                      exact absurd rfl c103
                · skip
                  omega
        exact L58 _ 0 0 (-5) xf xj _ _ _ hP hD hS (Nat.lt_succ_self _) (by omega) (by omega) (hxf) (hxj) (rfl) (lv_sub hl [5, 6, 7, 8, 9, 4, 3, 2, 1, 0] rfl)
      · skip
        have c27 : ti_bt w = false := by rw [← c27]; exact (ti_inL_i (by decide) (by decide)).symm
        refine lv_iconst (v := (-1)) hx hb dX7_fits_30 (by decide) ?_
        exact hret (xf, xj) _ _ _ _ _ _ _ dX7_fits_31 (by rw [ti_Sfits, if_pos (by rw [c27]; simp)]) (⟨hxf, hxj⟩) hP hS (Nat.le_refl _) (Nat.le_refl _)
