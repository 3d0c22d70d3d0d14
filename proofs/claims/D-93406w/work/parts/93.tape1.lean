/-! TermIdeals$Tape: size, has (printed by w_tape1.py) -/
set_option maxRecDepth 100000
section TPA
variable {p : Program} {l : Launch} {e : Env} {R : Room} {s : State} {m : MethodId} {args : Array Value} {below : List Frame} {meth : Method} {c : Code} {H : Heap} {locs : List Loc} {cells slots : Nat} {Q : State → Prop}
variable {cc : ByteArray} {pc : Nat} {ls : Array Slot} {rest : List Value} {D : va_G} {tys : List (ClassId × FieldType)} {ws : va_W} {a : Nat}
theorem ti_recvA {cl : List vw_C} (hP : va_P D cl ws H) (q0 : Nat) {cA : ClassId} {x : vp_A} {nm : String} (ha : ws[q0]? = some (a, .inl (cA, x))) (hn : s.vm.findClass nm = some cA) : ∃ cell : Cell, H[a]? = some cell ∧ cell.vm.isStatics = false ∧ s.vm.findClass nm = some cell.cls := by
  have hvm0 : (vp_cell cA x).vm = .none := by
    obtain ⟨n, f | f | f | f | f⟩ := x <;> rfl
  have hcl0 : (vp_cell cA x).cls = cA := by
    obtain ⟨n, f | f | f | f | f⟩ := x <;> rfl
  exact ⟨vp_cell cA x, hP q0 _ ha, by rw [hvm0]; rfl, by rw [hcl0]; exact hn⟩
theorem ti_instA {cl : List vw_C} (hexec : p.tables.exec = Jvm.exec) (hb : c.code = cc) {own nm : String} {index : Nat} (hown : s.vm.findClass own = some m.cls) (hlink : (Cond.classLink own index nm).before args s = true) (hP : va_P D cl ws H) (q0 : Nat) {cA : ClassId} {x : vp_A} (ha : ws[q0]? = some (a, .inl (cA, x))) (hnm : s.vm.findClass nm = some cA) (hdg : decode cc pc = .ok (.instanceof index, 3))
    (k : W p l e R s m args below meth c H locs cells slots Q (F0 m (pc + 3) ls (.int 1 :: rest))) : W p l e R s m args below meth c H locs cells slots Q (F0 m pc ls (.ref a :: rest)) := by
  obtain ⟨cell, h1, h2, h3⟩ := ti_recvA (s := s) hP q0 ha hnm
  have h4 : cA = cell.cls := Option.some.inj (hnm.symm.trans h3)
  intro T hT X
  obtain ⟨vm', X', st⟩ := X.instanceofYes hexec hown hlink (by rw [hT]; exact h1) h2 hnm (by rw [← h4]; exact va_asg _ _) (g := F0 m pc ls (.ref a :: rest)) rfl rfl (by rw [hb]; exact hdg)
  obtain ⟨t, a1, b1⟩ := k (T.setVm vm') hT X'
  exact ⟨t, st t a1, b1⟩
end TPA

set_option maxHeartbeats 2000000 in
theorem met_X6_size_0 (l : Launch) (D : va_G) (E : Nat → ClassId) (htr : l.stackTraces = false) (z0 : Nat) (h a n : Nat) (hn60 : n ≤ 60) (f : Nat → Int32) : ti_MetX (σ := Unit) (τ := Unit) l D E yX6_size (ws_ yX6_size cX6_size 3 (some .int)) 1 0 0 z0 ([(h, .inr (6, [.ref a])), (a, .inl (E 1, n, .inl f))]) [.ref h] (fun _ => True) (fun _ => [(h, .inr (6, [.ref a])), (a, .inl (E 1, n, .inl f))]) (fun u => some (.int ((fun _ => nI n) u))) (fun _ => True) (fun _ _ => True) (fun w => RX14) (fun w => 0) (fun w => [(h, .inr (6, [.ref a])), (a, .inl (E 1, n, .inl f))]) (fun w => []) (fun w => False) (fun w H => True) := by
  refine ti_metX (by decide) (Nat.le_of_ble_eq_true rfl) ?_
  intro p e s m below meth c H A Q ls S hE hP hD hS hA hZ hAz hx0 htab hl hret hq
  obtain ⟨hQ, hr, hlk, hinit⟩ := hq
  have hsz0 := hS.1
  have hx := S.1
  have hb := S.2.1
  have hown := S.2.2.2.1
  have hts := S.2.2.2.2
  have hK := hE.1
  have hl : lv_has ls 3 [(0, .ref h)] := hl
  refine lv_aload_n hx hb dX6_size_0 rfl (lv_at hl 0 rfl) ?_
  refine va_get (v := .ref a) hx hb hts in_X6 hown hK hP 0 rfl rfl 0 (by decide) (hts _ q232) (fun _ h => h) rfl dX6_size_1 ?_
  refine lv_astore_n (lv' := [(2, .ref a), (0, .ref h)]) hx hb dX6_size_4 rfl hl (by decide) rfl (fun ls hl => ?_)
  refine lv_aload_n hx hb dX6_size_5 rfl (lv_at hl 0 rfl) ?_
  refine ti_instA (nm := "[B") hx hb hown (hts _ q1047) hP 1 rfl (hK.2 1 _ rfl).2 dX6_size_6 ?_
  refine W.eq (g2 := F0 m 9 ls [.int (nI 1)]) rfl ?_
  refine lv_if_eq (tgt := 20) hx hb dX6_size_9 (by decide) (fun h9 => absurd h9 (by decide)) (fun _ => ?_)
  refine lv_aload_n hx hb dX6_size_12 rfl (lv_at hl 0 rfl) ?_
  refine va_castA hx hb hown (hts _ q1047) hP 1 rfl (hK.2 1 _ rfl).2 dX6_size_13 ?_
  refine lv_astore_n (lv' := [(1, .ref a), (2, .ref a), (0, .ref h)]) hx hb dX6_size_16 rfl hl (by decide) rfl (fun ls hl => ?_)
  refine lv_aload_n hx hb dX6_size_17 rfl (lv_at hl 0 rfl) ?_
  refine va_alen (v := nI n) hx hb hK hP 1 1 rfl rfl rfl dX6_size_18 ?_
  have hv9 : (nI n) = (fun _ => nI n) () := rfl
  refine W.eq (g2 := F0 m 19 ls [.int ((fun _ => nI n) ())]) (congrArg (fun z => F0 m 19 ls [.int z]) hv9) ?_
  exact hret _ () _ _ _ _ (trivial) hP trivial hS (Nat.le_of_ble_eq_true rfl) (Nat.le_of_ble_eq_true rfl) (fun hq hf9 => W.iret hx hb hr hq hf9 dX6_size_19 hlk)

set_option maxHeartbeats 2000000 in
theorem met_X6_size_1 (l : Launch) (D : va_G) (E : Nat → ClassId) (htr : l.stackTraces = false) (z0 : Nat) (h a n : Nat) (hn60 : n ≤ 60) (f : Nat → Int32) : ti_MetX (σ := Unit) (τ := Unit) l D E yX6_size (ws_ yX6_size cX6_size 3 (some .int)) 1 0 0 z0 ([(h, .inr (6, [.ref a])), (a, .inl (E 2, n, .inl f))]) [.ref h] (fun _ => True) (fun _ => [(h, .inr (6, [.ref a])), (a, .inl (E 2, n, .inl f))]) (fun u => some (.int ((fun _ => nI n) u))) (fun _ => True) (fun _ _ => True) (fun w => RX14) (fun w => 0) (fun w => [(h, .inr (6, [.ref a])), (a, .inl (E 2, n, .inl f))]) (fun w => []) (fun w => False) (fun w H => True) := by
  refine ti_metX (by decide) (Nat.le_of_ble_eq_true rfl) ?_
  intro p e s m below meth c H A Q ls S hE hP hD hS hA hZ hAz hx0 htab hl hret hq
  obtain ⟨hQ, hr, hlk, hinit⟩ := hq
  have hsz0 := hS.1
  have hx := S.1
  have hb := S.2.1
  have hown := S.2.2.2.1
  have hts := S.2.2.2.2
  have hK := hE.1
  have hl : lv_has ls 3 [(0, .ref h)] := hl
  refine lv_aload_n hx hb dX6_size_0 rfl (lv_at hl 0 rfl) ?_
  refine va_get (v := .ref a) hx hb hts in_X6 hown hK hP 0 rfl rfl 0 (by decide) (hts _ q232) (fun _ h => h) rfl dX6_size_1 ?_
  refine lv_astore_n (lv' := [(2, .ref a), (0, .ref h)]) hx hb dX6_size_4 rfl hl (by decide) rfl (fun ls hl => ?_)
  refine lv_aload_n hx hb dX6_size_5 rfl (lv_at hl 0 rfl) ?_
  refine va_instNo (C := "[S") hx hb hown (hts _ q1047) (hZ.2.2.2.2 "[S" "[B" (by decide)) (ti_recvA hP 1 rfl (hK.2 2 _ rfl).2) dX6_size_6 ?_
  refine W.eq (g2 := F0 m 9 ls [.int (nI 0)]) rfl ?_
  refine lv_if_eq (tgt := 20) hx hb dX6_size_9 (by decide) (fun _ => ?_) (fun h9 => absurd rfl h9)
  refine lv_aload_n hx hb dX6_size_20 rfl (lv_at hl 1 rfl) ?_
  refine va_get (v := .ref a) hx hb hts in_X6 hown hK hP 0 rfl rfl 0 (by decide) (hts _ q232) (fun _ h => h) rfl dX6_size_21 ?_
  refine lv_astore_n (lv' := [(2, .ref a), (0, .ref h)]) hx hb dX6_size_24 rfl hl (by decide) rfl (fun ls hl => ?_)
  refine lv_aload_n hx hb dX6_size_25 rfl (lv_at hl 0 rfl) ?_
  refine ti_instA (nm := "[S") hx hb hown (hts _ q1048) hP 1 rfl (hK.2 2 _ rfl).2 dX6_size_26 ?_
  refine W.eq (g2 := F0 m 29 ls [.int (nI 1)]) rfl ?_
  refine lv_if_eq (tgt := 40) hx hb dX6_size_29 (by decide) (fun h9 => absurd h9 (by decide)) (fun _ => ?_)
  refine lv_aload_n hx hb dX6_size_32 rfl (lv_at hl 0 rfl) ?_
  refine va_castA hx hb hown (hts _ q1048) hP 1 rfl (hK.2 2 _ rfl).2 dX6_size_33 ?_
  refine lv_astore_n (lv' := [(1, .ref a), (2, .ref a), (0, .ref h)]) hx hb dX6_size_36 rfl hl (by decide) rfl (fun ls hl => ?_)
  refine lv_aload_n hx hb dX6_size_37 rfl (lv_at hl 0 rfl) ?_
  refine va_alen (v := nI n) hx hb hK hP 1 2 rfl rfl rfl dX6_size_38 ?_
  have hv9 : (nI n) = (fun _ => nI n) () := rfl
  refine W.eq (g2 := F0 m 39 ls [.int ((fun _ => nI n) ())]) (congrArg (fun z => F0 m 39 ls [.int z]) hv9) ?_
  exact hret _ () _ _ _ _ (trivial) hP trivial hS (Nat.le_of_ble_eq_true rfl) (Nat.le_of_ble_eq_true rfl) (fun hq hf9 => W.iret hx hb hr hq hf9 dX6_size_39 hlk)

set_option maxHeartbeats 2000000 in
theorem met_X6_size_2 (l : Launch) (D : va_G) (E : Nat → ClassId) (htr : l.stackTraces = false) (z0 : Nat) (h a n : Nat) (hn60 : n ≤ 60) (f : Nat → Int32) : ti_MetX (σ := Unit) (τ := Unit) l D E yX6_size (ws_ yX6_size cX6_size 3 (some .int)) 1 0 0 z0 ([(h, .inr (6, [.ref a])), (a, .inl (E 0, n, .inl f))]) [.ref h] (fun _ => True) (fun _ => [(h, .inr (6, [.ref a])), (a, .inl (E 0, n, .inl f))]) (fun u => some (.int ((fun _ => nI n) u))) (fun _ => True) (fun _ _ => True) (fun w => RX14) (fun w => 0) (fun w => [(h, .inr (6, [.ref a])), (a, .inl (E 0, n, .inl f))]) (fun w => []) (fun w => False) (fun w H => True) := by
  refine ti_metX (by decide) (Nat.le_of_ble_eq_true rfl) ?_
  intro p e s m below meth c H A Q ls S hE hP hD hS hA hZ hAz hx0 htab hl hret hq
  obtain ⟨hQ, hr, hlk, hinit⟩ := hq
  have hsz0 := hS.1
  have hx := S.1
  have hb := S.2.1
  have hown := S.2.2.2.1
  have hts := S.2.2.2.2
  have hK := hE.1
  have hl : lv_has ls 3 [(0, .ref h)] := hl
  refine lv_aload_n hx hb dX6_size_0 rfl (lv_at hl 0 rfl) ?_
  refine va_get (v := .ref a) hx hb hts in_X6 hown hK hP 0 rfl rfl 0 (by decide) (hts _ q232) (fun _ h => h) rfl dX6_size_1 ?_
  refine lv_astore_n (lv' := [(2, .ref a), (0, .ref h)]) hx hb dX6_size_4 rfl hl (by decide) rfl (fun ls hl => ?_)
  refine lv_aload_n hx hb dX6_size_5 rfl (lv_at hl 0 rfl) ?_
  refine va_instNo (C := "[I") hx hb hown (hts _ q1047) (hZ.2.2.2.2 "[I" "[B" (by decide)) (ti_recvA hP 1 rfl (hK.2 0 _ rfl).2) dX6_size_6 ?_
  refine W.eq (g2 := F0 m 9 ls [.int (nI 0)]) rfl ?_
  refine lv_if_eq (tgt := 20) hx hb dX6_size_9 (by decide) (fun _ => ?_) (fun h9 => absurd rfl h9)
  refine lv_aload_n hx hb dX6_size_20 rfl (lv_at hl 1 rfl) ?_
  refine va_get (v := .ref a) hx hb hts in_X6 hown hK hP 0 rfl rfl 0 (by decide) (hts _ q232) (fun _ h => h) rfl dX6_size_21 ?_
  refine lv_astore_n (lv' := [(2, .ref a), (0, .ref h)]) hx hb dX6_size_24 rfl hl (by decide) rfl (fun ls hl => ?_)
  refine lv_aload_n hx hb dX6_size_25 rfl (lv_at hl 0 rfl) ?_
  refine va_instNo (C := "[I") hx hb hown (hts _ q1048) (hZ.2.2.2.2 "[I" "[S" (by decide)) (ti_recvA hP 1 rfl (hK.2 0 _ rfl).2) dX6_size_26 ?_
  refine W.eq (g2 := F0 m 29 ls [.int (nI 0)]) rfl ?_
  refine lv_if_eq (tgt := 40) hx hb dX6_size_29 (by decide) (fun _ => ?_) (fun h9 => absurd rfl h9)
  refine lv_aload_n hx hb dX6_size_40 rfl (lv_at hl 1 rfl) ?_
  refine va_get (v := .ref a) hx hb hts in_X6 hown hK hP 0 rfl rfl 0 (by decide) (hts _ q232) (fun _ h => h) rfl dX6_size_41 ?_
  refine lv_astore_n (lv' := [(2, .ref a), (0, .ref h)]) hx hb dX6_size_44 rfl hl (by decide) rfl (fun ls hl => ?_)
  refine lv_aload_n hx hb dX6_size_45 rfl (lv_at hl 0 rfl) ?_
  refine ti_instA (nm := "[I") hx hb hown (hts _ q1049) hP 1 rfl (hK.2 0 _ rfl).2 dX6_size_46 ?_
  refine W.eq (g2 := F0 m 49 ls [.int (nI 1)]) rfl ?_
  refine lv_if_eq (tgt := 60) hx hb dX6_size_49 (by decide) (fun h9 => absurd h9 (by decide)) (fun _ => ?_)
  refine lv_aload_n hx hb dX6_size_52 rfl (lv_at hl 0 rfl) ?_
  refine va_castA hx hb hown (hts _ q1049) hP 1 rfl (hK.2 0 _ rfl).2 dX6_size_53 ?_
  refine lv_astore_n (lv' := [(1, .ref a), (2, .ref a), (0, .ref h)]) hx hb dX6_size_56 rfl hl (by decide) rfl (fun ls hl => ?_)
  refine lv_aload_n hx hb dX6_size_57 rfl (lv_at hl 0 rfl) ?_
  refine va_alen (v := nI n) hx hb hK hP 1 0 rfl rfl rfl dX6_size_58 ?_
  have hv9 : (nI n) = (fun _ => nI n) () := rfl
  refine W.eq (g2 := F0 m 59 ls [.int ((fun _ => nI n) ())]) (congrArg (fun z => F0 m 59 ls [.int z]) hv9) ?_
  exact hret _ () _ _ _ _ (trivial) hP trivial hS (Nat.le_of_ble_eq_true rfl) (Nat.le_of_ble_eq_true rfl) (fun hq hf9 => W.iret hx hb hr hq hf9 dX6_size_59 hlk)

set_option maxHeartbeats 2000000 in
theorem met_X6_size_3 (l : Launch) (D : va_G) (E : Nat → ClassId) (htr : l.stackTraces = false) (z0 : Nat) (h a n : Nat) (hn60 : n ≤ 60) (f : Nat → Int64) : ti_MetX (σ := Unit) (τ := Unit) l D E yX6_size (ws_ yX6_size cX6_size 3 (some .int)) 1 0 0 z0 ([(h, .inr (6, [.ref a])), (a, .inl (E 3, n, .inr (.inl f)))]) [.ref h] (fun _ => True) (fun _ => [(h, .inr (6, [.ref a])), (a, .inl (E 3, n, .inr (.inl f)))]) (fun u => some (.int ((fun _ => nI n) u))) (fun _ => True) (fun _ _ => True) (fun w => RX14) (fun w => 0) (fun w => [(h, .inr (6, [.ref a])), (a, .inl (E 3, n, .inr (.inl f)))]) (fun w => []) (fun w => False) (fun w H => True) := by
  refine ti_metX (by decide) (Nat.le_of_ble_eq_true rfl) ?_
  intro p e s m below meth c H A Q ls S hE hP hD hS hA hZ hAz hx0 htab hl hret hq
  obtain ⟨hQ, hr, hlk, hinit⟩ := hq
  have hsz0 := hS.1
  have hx := S.1
  have hb := S.2.1
  have hown := S.2.2.2.1
  have hts := S.2.2.2.2
  have hK := hE.1
  have hl : lv_has ls 3 [(0, .ref h)] := hl
  refine lv_aload_n hx hb dX6_size_0 rfl (lv_at hl 0 rfl) ?_
  refine va_get (v := .ref a) hx hb hts in_X6 hown hK hP 0 rfl rfl 0 (by decide) (hts _ q232) (fun _ h => h) rfl dX6_size_1 ?_
  refine lv_astore_n (lv' := [(2, .ref a), (0, .ref h)]) hx hb dX6_size_4 rfl hl (by decide) rfl (fun ls hl => ?_)
  refine lv_aload_n hx hb dX6_size_5 rfl (lv_at hl 0 rfl) ?_
  refine va_instNo (C := "[J") hx hb hown (hts _ q1047) (hZ.2.2.2.2 "[J" "[B" (by decide)) (ti_recvA hP 1 rfl (hK.2 3 _ rfl).2) dX6_size_6 ?_
  refine W.eq (g2 := F0 m 9 ls [.int (nI 0)]) rfl ?_
  refine lv_if_eq (tgt := 20) hx hb dX6_size_9 (by decide) (fun _ => ?_) (fun h9 => absurd rfl h9)
  refine lv_aload_n hx hb dX6_size_20 rfl (lv_at hl 1 rfl) ?_
  refine va_get (v := .ref a) hx hb hts in_X6 hown hK hP 0 rfl rfl 0 (by decide) (hts _ q232) (fun _ h => h) rfl dX6_size_21 ?_
  refine lv_astore_n (lv' := [(2, .ref a), (0, .ref h)]) hx hb dX6_size_24 rfl hl (by decide) rfl (fun ls hl => ?_)
  refine lv_aload_n hx hb dX6_size_25 rfl (lv_at hl 0 rfl) ?_
  refine va_instNo (C := "[J") hx hb hown (hts _ q1048) (hZ.2.2.2.2 "[J" "[S" (by decide)) (ti_recvA hP 1 rfl (hK.2 3 _ rfl).2) dX6_size_26 ?_
  refine W.eq (g2 := F0 m 29 ls [.int (nI 0)]) rfl ?_
  refine lv_if_eq (tgt := 40) hx hb dX6_size_29 (by decide) (fun _ => ?_) (fun h9 => absurd rfl h9)
  refine lv_aload_n hx hb dX6_size_40 rfl (lv_at hl 1 rfl) ?_
  refine va_get (v := .ref a) hx hb hts in_X6 hown hK hP 0 rfl rfl 0 (by decide) (hts _ q232) (fun _ h => h) rfl dX6_size_41 ?_
  refine lv_astore_n (lv' := [(2, .ref a), (0, .ref h)]) hx hb dX6_size_44 rfl hl (by decide) rfl (fun ls hl => ?_)
  refine lv_aload_n hx hb dX6_size_45 rfl (lv_at hl 0 rfl) ?_
  refine va_instNo (C := "[J") hx hb hown (hts _ q1049) (hZ.2.2.2.2 "[J" "[I" (by decide)) (ti_recvA hP 1 rfl (hK.2 3 _ rfl).2) dX6_size_46 ?_
  refine W.eq (g2 := F0 m 49 ls [.int (nI 0)]) rfl ?_
  refine lv_if_eq (tgt := 60) hx hb dX6_size_49 (by decide) (fun _ => ?_) (fun h9 => absurd rfl h9)
  refine lv_aload_n hx hb dX6_size_60 rfl (lv_at hl 1 rfl) ?_
  refine va_get (v := .ref a) hx hb hts in_X6 hown hK hP 0 rfl rfl 0 (by decide) (hts _ q232) (fun _ h => h) rfl dX6_size_61 ?_
  refine lv_astore_n (lv' := [(2, .ref a), (0, .ref h)]) hx hb dX6_size_64 rfl hl (by decide) rfl (fun ls hl => ?_)
  refine lv_aload_n hx hb dX6_size_65 rfl (lv_at hl 0 rfl) ?_
  refine ti_instA (nm := "[J") hx hb hown (hts _ q1050) hP 1 rfl (hK.2 3 _ rfl).2 dX6_size_66 ?_
  refine W.eq (g2 := F0 m 69 ls [.int (nI 1)]) rfl ?_
  refine lv_if_eq (tgt := 82) hx hb dX6_size_69 (by decide) (fun h9 => absurd h9 (by decide)) (fun _ => ?_)
  refine lv_aload_n hx hb dX6_size_72 rfl (lv_at hl 0 rfl) ?_
  refine va_castA hx hb hown (hts _ q1050) hP 1 rfl (hK.2 3 _ rfl).2 dX6_size_73 ?_
  refine lv_astore_n (lv' := [(1, .ref a), (2, .ref a), (0, .ref h)]) hx hb dX6_size_76 rfl hl (by decide) rfl (fun ls hl => ?_)
  refine lv_aload_n hx hb dX6_size_77 rfl (lv_at hl 0 rfl) ?_
  refine va_alen (v := nI n) hx hb hK hP 1 3 rfl rfl rfl dX6_size_78 ?_
  refine lv_goto (tgt := 90) hx hb dX6_size_79 (by decide) ?_
  have hv9 : (nI n) = (fun _ => nI n) () := rfl
  refine W.eq (g2 := F0 m 90 ls [.int ((fun _ => nI n) ())]) (congrArg (fun z => F0 m 90 ls [.int z]) hv9) ?_
  exact hret _ () _ _ _ _ (trivial) hP trivial hS (Nat.le_of_ble_eq_true rfl) (Nat.le_of_ble_eq_true rfl) (fun hq hf9 => W.iret hx hb hr hq hf9 dX6_size_90 hlk)

set_option maxHeartbeats 2000000 in
theorem met_X6_size_4 (l : Launch) (D : va_G) (E : Nat → ClassId) (htr : l.stackTraces = false) (z0 : Nat) (h a n : Nat) (hn60 : n ≤ 60) (f : Nat → Int32) : ti_MetX (σ := Unit) (τ := Unit) l D E yX6_size (ws_ yX6_size cX6_size 3 (some .int)) 1 0 0 z0 ([(h, .inr (6, [.ref a])), (a, .inl (E 4, n, .inl f))]) [.ref h] (fun _ => True) (fun _ => [(h, .inr (6, [.ref a])), (a, .inl (E 4, n, .inl f))]) (fun u => some (.int ((fun _ => nI n) u))) (fun _ => True) (fun _ _ => True) (fun w => RX14) (fun w => 0) (fun w => [(h, .inr (6, [.ref a])), (a, .inl (E 4, n, .inl f))]) (fun w => []) (fun w => False) (fun w H => True) := by
  refine ti_metX (by decide) (Nat.le_of_ble_eq_true rfl) ?_
  intro p e s m below meth c H A Q ls S hE hP hD hS hA hZ hAz hx0 htab hl hret hq
  obtain ⟨hQ, hr, hlk, hinit⟩ := hq
  have hsz0 := hS.1
  have hx := S.1
  have hb := S.2.1
  have hown := S.2.2.2.1
  have hts := S.2.2.2.2
  have hK := hE.1
  have hl : lv_has ls 3 [(0, .ref h)] := hl
  refine lv_aload_n hx hb dX6_size_0 rfl (lv_at hl 0 rfl) ?_
  refine va_get (v := .ref a) hx hb hts in_X6 hown hK hP 0 rfl rfl 0 (by decide) (hts _ q232) (fun _ h => h) rfl dX6_size_1 ?_
  refine lv_astore_n (lv' := [(2, .ref a), (0, .ref h)]) hx hb dX6_size_4 rfl hl (by decide) rfl (fun ls hl => ?_)
  refine lv_aload_n hx hb dX6_size_5 rfl (lv_at hl 0 rfl) ?_
  refine va_instNo (C := "[Z") hx hb hown (hts _ q1047) (hZ.2.2.2.2 "[Z" "[B" (by decide)) (ti_recvA hP 1 rfl (hK.2 4 _ rfl).2) dX6_size_6 ?_
  refine W.eq (g2 := F0 m 9 ls [.int (nI 0)]) rfl ?_
  refine lv_if_eq (tgt := 20) hx hb dX6_size_9 (by decide) (fun _ => ?_) (fun h9 => absurd rfl h9)
  refine lv_aload_n hx hb dX6_size_20 rfl (lv_at hl 1 rfl) ?_
  refine va_get (v := .ref a) hx hb hts in_X6 hown hK hP 0 rfl rfl 0 (by decide) (hts _ q232) (fun _ h => h) rfl dX6_size_21 ?_
  refine lv_astore_n (lv' := [(2, .ref a), (0, .ref h)]) hx hb dX6_size_24 rfl hl (by decide) rfl (fun ls hl => ?_)
  refine lv_aload_n hx hb dX6_size_25 rfl (lv_at hl 0 rfl) ?_
  refine va_instNo (C := "[Z") hx hb hown (hts _ q1048) (hZ.2.2.2.2 "[Z" "[S" (by decide)) (ti_recvA hP 1 rfl (hK.2 4 _ rfl).2) dX6_size_26 ?_
  refine W.eq (g2 := F0 m 29 ls [.int (nI 0)]) rfl ?_
  refine lv_if_eq (tgt := 40) hx hb dX6_size_29 (by decide) (fun _ => ?_) (fun h9 => absurd rfl h9)
  refine lv_aload_n hx hb dX6_size_40 rfl (lv_at hl 1 rfl) ?_
  refine va_get (v := .ref a) hx hb hts in_X6 hown hK hP 0 rfl rfl 0 (by decide) (hts _ q232) (fun _ h => h) rfl dX6_size_41 ?_
  refine lv_astore_n (lv' := [(2, .ref a), (0, .ref h)]) hx hb dX6_size_44 rfl hl (by decide) rfl (fun ls hl => ?_)
  refine lv_aload_n hx hb dX6_size_45 rfl (lv_at hl 0 rfl) ?_
  refine va_instNo (C := "[Z") hx hb hown (hts _ q1049) (hZ.2.2.2.2 "[Z" "[I" (by decide)) (ti_recvA hP 1 rfl (hK.2 4 _ rfl).2) dX6_size_46 ?_
  refine W.eq (g2 := F0 m 49 ls [.int (nI 0)]) rfl ?_
  refine lv_if_eq (tgt := 60) hx hb dX6_size_49 (by decide) (fun _ => ?_) (fun h9 => absurd rfl h9)
  refine lv_aload_n hx hb dX6_size_60 rfl (lv_at hl 1 rfl) ?_
  refine va_get (v := .ref a) hx hb hts in_X6 hown hK hP 0 rfl rfl 0 (by decide) (hts _ q232) (fun _ h => h) rfl dX6_size_61 ?_
  refine lv_astore_n (lv' := [(2, .ref a), (0, .ref h)]) hx hb dX6_size_64 rfl hl (by decide) rfl (fun ls hl => ?_)
  refine lv_aload_n hx hb dX6_size_65 rfl (lv_at hl 0 rfl) ?_
  refine va_instNo (C := "[Z") hx hb hown (hts _ q1050) (hZ.2.2.2.2 "[Z" "[J" (by decide)) (ti_recvA hP 1 rfl (hK.2 4 _ rfl).2) dX6_size_66 ?_
  refine W.eq (g2 := F0 m 69 ls [.int (nI 0)]) rfl ?_
  refine lv_if_eq (tgt := 82) hx hb dX6_size_69 (by decide) (fun _ => ?_) (fun h9 => absurd rfl h9)
  refine lv_aload_n hx hb dX6_size_82 rfl (lv_at hl 1 rfl) ?_
  refine va_get (v := .ref a) hx hb hts in_X6 hown hK hP 0 rfl rfl 0 (by decide) (hts _ q232) (fun _ h => h) rfl dX6_size_83 ?_
  refine va_castA hx hb hown (hts _ q1051) hP 1 rfl (hK.2 4 _ rfl).2 dX6_size_86 ?_
  refine va_alen (v := nI n) hx hb hK hP 1 4 rfl rfl rfl dX6_size_89 ?_
  have hv9 : (nI n) = (fun _ => nI n) () := rfl
  refine W.eq (g2 := F0 m 90 ls [.int ((fun _ => nI n) ())]) (congrArg (fun z => F0 m 90 ls [.int z]) hv9) ?_
  exact hret _ () _ _ _ _ (trivial) hP trivial hS (Nat.le_of_ble_eq_true rfl) (Nat.le_of_ble_eq_true rfl) (fun hq hf9 => W.iret hx hb hr hq hf9 dX6_size_90 hlk)

set_option maxHeartbeats 2000000 in
theorem met_X6_has_n (l : Launch) (D : va_G) (E : Nat → ClassId) (htr : l.stackTraces = false) (z0 : Nat) (h : Nat) (j : Int32) : ti_MetX (σ := Unit) (τ := Nat × Value × Value) l D E yX6_has (ws_ yX6_has cX6_has 2 none) 7 1 7 z0 ([(h, .inr (6, [.null]))]) [.ref h, .int j] (fun _ => True) (fun _ => [(h, .inr (6, [.null]))]) (fun _ => none) (fun _ => False) (fun _ _ => True) (fun w => RX15) (fun w => w.1) (fun w => [(h, .inr (6, [.null]))]) (fun w => [(w.1, .inr (15, [.ref w.1, w.2.1, w.2.2, .null, .null, .int 0, .int (-11)]))]) (fun _ => True) (fun w H => ti_free w.1 H) := by
  refine ti_metX (by decide) (Nat.le_of_ble_eq_true rfl) ?_
  intro p e s m below meth c H A Q ls S hE hP hD hS hA hZ hAz hx0 hnoex hl hret hq
  obtain ⟨rfl, hr, hlk, hinit⟩ := hq
  have hsz0 := hS.1
  have hx := S.1
  have hb := S.2.1
  have hown := S.2.2.2.1
  have hts := S.2.2.2.2
  have hK := hE.1
  have hl : lv_has ls 2 [(0, .ref h), (1, .int j)] := hl
  refine lv_aload_n hx hb dX6_has_0 rfl (lv_at hl 0 rfl) ?_
  refine va_get (v := .null) hx hb hts in_X6 hown hK hP 0 rfl rfl 0 (by decide) (hts _ q232) (fun _ h => h) rfl dX6_has_1 ?_
  refine lv_ifnonnullN hx hb dX6_has_4 ?_
  refine ti_newM hx hb hts in_X15 tyX15 tyX15_ok hown (hts _ q1024) (hts _ q1025) (hts _ q92) hK hP hD hS hA (ci := 15) rfl ti_d7O (Nat.le_of_ble_eq_true rfl) (Nat.le_of_ble_eq_true rfl) dX6_has_7 (fun q1 H hq1 hs1 hf1 ho1 hP hD hS => ?_)
  have hP : va_P D vwCl ([(h, .inr (6, [.null])), (q1, .inr (15, [.null, .null, .null, .null, .null, .int 0, .int 0]))]) H := hP
  have hD : va_D A ([(h, .inr (6, [.null])), (q1, .inr (15, [.null, .null, .null, .null, .null, .int 0, .int 0]))]) := hD
  have fr_q1 : ti_free q1 H := hf1
  refine lv_dup hx hb dX6_has_10 rfl ?_
  refine lv_bipush (v := (-11)) hx hb dX6_has_11 (by decide) ?_
  refine ti_fI (As := [.int ((-11))]) (rest := [.ref q1]) S hE hP hD hS hA rfl hZ hAz fr_q1 [1] rfl (met_X15_init l D E htr z0 q1 (((-11)))) rfl (fun _ => rfl) (lw_meth q1035) q92 q1033 q1034 rfl 1 rfl (by decide +kernel) ⟨Nat.le_of_ble_eq_true rfl, Nat.le_of_ble_eq_true rfl⟩ hl.1 rfl (Nat.le_of_ble_eq_true rfl) ⟨Nat.le_of_ble_eq_true rfl, Nat.le_of_ble_eq_true rfl⟩ dX6_has_13 (fun w1 H locs hu hxq hFr hP hD hS => ?_)
  have fr_q1 : ti_free q1 H := hxq
  have hP : va_P D vwCl ([(h, .inr (6, [.null])), (q1, .inr (15, [.ref q1, w1.1, w1.2, .null, .null, .int 0, .int ((-11))]))]) H := hP
  have hD : va_D A ([(h, .inr (6, [.null])), (q1, .inr (15, [.ref q1, w1.1, w1.2, .null, .null, .int 0, .int ((-11))]))]) := hD
  refine W.eq (g2 := F0 m 16 ls [.ref q1]) rfl ?_
  refine ti_throwOut hx hb hnoex hlk dX6_has_16 hK (q1, w1) 0 rfl rfl trivial (ti_subC (is := [0]) rfl hP) (ti_subC (is := [1]) rfl hP) (fun k z hz => ?_) fr_q1 hS (Nat.le_of_ble_eq_true rfl) (Nat.le_of_ble_eq_true rfl)
  have hk : k < 1 := (List.getElem?_eq_some_iff.mp hz).1
  match k, hk with
  | 0, _ => cases hz; show s.heap.size ≤ q1; omega

set_option maxHeartbeats 2000000 in
theorem met_X6_has_0 (l : Launch) (D : va_G) (E : Nat → ClassId) (htr : l.stackTraces = false) (z0 : Nat) (h a n : Nat) (hn60 : n ≤ 60) (f : Nat → Int32) (j : Int32) (hin : ti_lt j n = true) : ti_MetX (σ := Unit) (τ := Unit) l D E yX6_has (ws_ yX6_has cX6_has 2 none) 7 0 0 z0 ([(h, .inr (6, [.ref a])), (a, .inl (E 1, n, .inl f))]) [.ref h, .int j] (fun _ => True) (fun _ => [(h, .inr (6, [.ref a])), (a, .inl (E 1, n, .inl f))]) (fun _ => none) (fun _ => True) (fun _ _ => True) (fun w => RX14) (fun w => 0) (fun w => [(h, .inr (6, [.ref a])), (a, .inl (E 1, n, .inl f))]) (fun w => []) (fun w => False) (fun w H => True) := by
  refine ti_metX (by decide) (Nat.le_of_ble_eq_true rfl) ?_
  intro p e s m below meth c H A Q ls S hE hP hD hS hA hZ hAz hx0 htab hl hret hq
  obtain ⟨hQ, hr, hlk, hinit⟩ := hq
  have hsz0 := hS.1
  have hx := S.1
  have hb := S.2.1
  have hown := S.2.2.2.1
  have hts := S.2.2.2.2
  have hK := hE.1
  have hl : lv_has ls 2 [(0, .ref h), (1, .int j)] := hl
  have hin9 : ti_in j (nI 0) (nI n - nI 1) = ti_lt j n := ti_in_lt (by omega)
  refine lv_aload_n hx hb dX6_has_0 rfl (lv_at hl 0 rfl) ?_
  refine va_get (v := .ref a) hx hb hts in_X6 hown hK hP 0 rfl rfl 0 (by decide) (hts _ q232) (fun _ h => h) rfl dX6_has_1 ?_
  refine lv_ifnonnull (tgt := 17) hx hb dX6_has_4 (by decide) ?_
  refine lv_iload_n hx hb dX6_has_17 rfl (lv_at hl 1 rfl) ?_
  refine lv_iconst (v := nI 0) hx hb dX6_has_18 (by decide) ?_
  refine lv_aload_n hx hb dX6_has_19 rfl (lv_at hl 0 rfl) ?_
  refine ti_callX (ty_runV (As := []) (rest := [.int (nI 0), .int j]) S (met_X6_size_0 l D E htr z0 h a n hn60 f H.size) (cwV 0 S.2.2.2.2 (lw_V q1043 q1045 qs24 q72 q1046) rfl rfl rfl (by decide +kernel) ⟨Nat.le_of_ble_eq_true rfl, Nat.le_of_ble_eq_true rfl⟩) (ti_preXV (xp := fun _ => True) hE hP hD hS rfl hZ hAz trivial [0, 1] rfl rfl 0 rfl rfl) rfl rfl hl.1 rfl (lv_room (Nat.le_of_ble_eq_true rfl)) dX6_has_20 ⟨Nat.le_of_ble_eq_true rfl, Nat.le_of_ble_eq_true rfl⟩) hP hD hS hA [0, 1] rfl (fun _ => rfl) (fun _ => rfl) (fun _ H locs hu _ _ hP hD hS => ?_) (fun _ _ _ _ h9 => absurd h9 id)
  have hP : va_P D vwCl ([(h, .inr (6, [.ref a])), (a, .inl (E 1, n, .inl f))]) H := hP
  have hD : va_D A ([(h, .inr (6, [.ref a])), (a, .inl (E 1, n, .inl f))]) := hD
  refine W.eq (g2 := F0 m 23 ls [.int (nI n), .int (nI 0), .int j]) rfl ?_
  refine lv_iconst (v := nI 1) hx hb dX6_has_23 (by decide) ?_
  refine lv_isub hx hb dX6_has_24 ?_
  refine ti_pSN (As := [.int j, .int (nI 0), .int ((nI n) - (nI 1))]) (rest := []) (v := .int (ti_b (ti_in j (nI 0) (((nI n) - (nI 1)))))) S hE hP [] (met_X0_in l D E j (nI 0) (((nI n) - (nI 1)))) rfl (lw_meth q304) q1052 q303 q66 3 rfl (by decide +kernel) ⟨Nat.le_of_ble_eq_true rfl, Nat.le_of_ble_eq_true rfl⟩ hl.1 rfl (Nat.le_of_ble_eq_true rfl) ⟨Nat.le_refl _, Nat.le_refl _⟩ dX6_has_25 ?_
  refine tb_ne (tgt := 41) hx hb dX6_has_28 (by decide) (fun c28 => ?_) (fun c28 => ?_)
  · skip
    exact hret _ () _ _ _ _ (trivial) hP trivial hS (Nat.le_of_ble_eq_true rfl) (Nat.le_of_ble_eq_true rfl) (fun hq hf9 => W.vret hx hb hr hq hf9 dX6_has_41 hlk)
  · skip
    exact absurd hin (by rw [← hin9, c28]; decide)

set_option maxHeartbeats 2000000 in
theorem met_X6_has_x0 (l : Launch) (D : va_G) (E : Nat → ClassId) (htr : l.stackTraces = false) (z0 : Nat) (h a n : Nat) (hn60 : n ≤ 60) (f : Nat → Int32) (j : Int32) (hin : ti_lt j n = false) : ti_MetX (σ := Unit) (τ := Nat × Value × Value) l D E yX6_has (ws_ yX6_has cX6_has 2 none) 7 1 7 z0 ([(h, .inr (6, [.ref a])), (a, .inl (E 1, n, .inl f))]) [.ref h, .int j] (fun _ => True) (fun _ => [(h, .inr (6, [.ref a])), (a, .inl (E 1, n, .inl f))]) (fun _ => none) (fun _ => False) (fun _ _ => True) (fun w => RX15) (fun w => w.1) (fun w => [(h, .inr (6, [.ref a])), (a, .inl (E 1, n, .inl f))]) (fun w => [(w.1, .inr (15, [.ref w.1, w.2.1, w.2.2, .null, .null, .int 0, .int (-13)]))]) (fun _ => True) (fun w H => ti_free w.1 H) := by
  refine ti_metX (by decide) (Nat.le_of_ble_eq_true rfl) ?_
  intro p e s m below meth c H A Q ls S hE hP hD hS hA hZ hAz hx0 hnoex hl hret hq
  obtain ⟨rfl, hr, hlk, hinit⟩ := hq
  have hsz0 := hS.1
  have hx := S.1
  have hb := S.2.1
  have hown := S.2.2.2.1
  have hts := S.2.2.2.2
  have hK := hE.1
  have hl : lv_has ls 2 [(0, .ref h), (1, .int j)] := hl
  have hin9 : ti_in j (nI 0) (nI n - nI 1) = ti_lt j n := ti_in_lt (by omega)
  refine lv_aload_n hx hb dX6_has_0 rfl (lv_at hl 0 rfl) ?_
  refine va_get (v := .ref a) hx hb hts in_X6 hown hK hP 0 rfl rfl 0 (by decide) (hts _ q232) (fun _ h => h) rfl dX6_has_1 ?_
  refine lv_ifnonnull (tgt := 17) hx hb dX6_has_4 (by decide) ?_
  refine lv_iload_n hx hb dX6_has_17 rfl (lv_at hl 1 rfl) ?_
  refine lv_iconst (v := nI 0) hx hb dX6_has_18 (by decide) ?_
  refine lv_aload_n hx hb dX6_has_19 rfl (lv_at hl 0 rfl) ?_
  refine ti_callX (ty_runV (As := []) (rest := [.int (nI 0), .int j]) S (met_X6_size_0 l D E htr z0 h a n hn60 f H.size) (cwV 0 S.2.2.2.2 (lw_V q1043 q1045 qs24 q72 q1046) rfl rfl rfl (by decide +kernel) ⟨Nat.le_of_ble_eq_true rfl, Nat.le_of_ble_eq_true rfl⟩) (ti_preXV (xp := fun _ => True) hE hP hD hS rfl hZ hAz trivial [0, 1] rfl rfl 0 rfl rfl) rfl rfl hl.1 rfl (lv_room (Nat.le_of_ble_eq_true rfl)) dX6_has_20 ⟨Nat.le_of_ble_eq_true rfl, Nat.le_of_ble_eq_true rfl⟩) hP hD hS hA [0, 1] rfl (fun _ => rfl) (fun _ => rfl) (fun _ H locs hu _ _ hP hD hS => ?_) (fun _ _ _ _ h9 => absurd h9 id)
  have hP : va_P D vwCl ([(h, .inr (6, [.ref a])), (a, .inl (E 1, n, .inl f))]) H := hP
  have hD : va_D A ([(h, .inr (6, [.ref a])), (a, .inl (E 1, n, .inl f))]) := hD
  refine W.eq (g2 := F0 m 23 ls [.int (nI n), .int (nI 0), .int j]) rfl ?_
  refine lv_iconst (v := nI 1) hx hb dX6_has_23 (by decide) ?_
  refine lv_isub hx hb dX6_has_24 ?_
  refine ti_pSN (As := [.int j, .int (nI 0), .int ((nI n) - (nI 1))]) (rest := []) (v := .int (ti_b (ti_in j (nI 0) (((nI n) - (nI 1)))))) S hE hP [] (met_X0_in l D E j (nI 0) (((nI n) - (nI 1)))) rfl (lw_meth q304) q1052 q303 q66 3 rfl (by decide +kernel) ⟨Nat.le_of_ble_eq_true rfl, Nat.le_of_ble_eq_true rfl⟩ hl.1 rfl (Nat.le_of_ble_eq_true rfl) ⟨Nat.le_of_ble_eq_true rfl, Nat.le_of_ble_eq_true rfl⟩ dX6_has_25 ?_
  refine tb_ne (tgt := 41) hx hb dX6_has_28 (by decide) (fun c28 => ?_) (fun c28 => ?_)
  · skip
    exact absurd hin (by rw [← hin9, c28]; decide)
  · skip
    have hsz1 := hS.1
    refine ti_newM hx hb hts in_X15 tyX15 tyX15_ok hown (hts _ q1024) (hts _ q1025) (hts _ q92) hK hP hD hS hA (ci := 15) rfl ti_d7O (Nat.le_of_ble_eq_true rfl) (Nat.le_of_ble_eq_true rfl) dX6_has_31 (fun q1 H hq1 hs1 hf1 ho1 hP hD hS => ?_)
    have hP : va_P D vwCl ([(h, .inr (6, [.ref a])), (a, .inl (E 1, n, .inl f)), (q1, .inr (15, [.null, .null, .null, .null, .null, .int 0, .int 0]))]) H := hP
    have hD : va_D A ([(h, .inr (6, [.ref a])), (a, .inl (E 1, n, .inl f)), (q1, .inr (15, [.null, .null, .null, .null, .null, .int 0, .int 0]))]) := hD
    have fr_q1 : ti_free q1 H := hf1
    refine lv_dup hx hb dX6_has_34 rfl ?_
    refine lv_bipush (v := (-13)) hx hb dX6_has_35 (by decide) ?_
    refine ti_fI (As := [.int ((-13))]) (rest := [.ref q1]) S hE hP hD hS hA rfl hZ hAz fr_q1 [2] rfl (met_X15_init l D E htr z0 q1 (((-13)))) rfl (fun _ => rfl) (lw_meth q1035) q92 q1033 q1034 rfl 1 rfl (by decide +kernel) ⟨Nat.le_of_ble_eq_true rfl, Nat.le_of_ble_eq_true rfl⟩ hl.1 rfl (Nat.le_of_ble_eq_true rfl) ⟨Nat.le_of_ble_eq_true rfl, Nat.le_of_ble_eq_true rfl⟩ dX6_has_37 (fun w1 H locs hu hxq hFr hP hD hS => ?_)
    have fr_q1 : ti_free q1 H := hxq
    have hP : va_P D vwCl ([(h, .inr (6, [.ref a])), (a, .inl (E 1, n, .inl f)), (q1, .inr (15, [.ref q1, w1.1, w1.2, .null, .null, .int 0, .int ((-13))]))]) H := hP
    have hD : va_D A ([(h, .inr (6, [.ref a])), (a, .inl (E 1, n, .inl f)), (q1, .inr (15, [.ref q1, w1.1, w1.2, .null, .null, .int 0, .int ((-13))]))]) := hD
    refine W.eq (g2 := F0 m 40 ls [.ref q1]) rfl ?_
    refine ti_throwOut hx hb hnoex hlk dX6_has_40 hK (q1, w1) 0 rfl rfl trivial (ti_subC (is := [0, 1]) rfl hP) (ti_subC (is := [2]) rfl hP) (fun k z hz => ?_) fr_q1 hS (Nat.le_of_ble_eq_true rfl) (Nat.le_of_ble_eq_true rfl)
    have hk : k < 1 := (List.getElem?_eq_some_iff.mp hz).1
    match k, hk with
    | 0, _ => cases hz; show s.heap.size ≤ q1; omega

set_option maxHeartbeats 2000000 in
theorem met_X6_has_1 (l : Launch) (D : va_G) (E : Nat → ClassId) (htr : l.stackTraces = false) (z0 : Nat) (h a n : Nat) (hn60 : n ≤ 60) (f : Nat → Int32) (j : Int32) (hin : ti_lt j n = true) : ti_MetX (σ := Unit) (τ := Unit) l D E yX6_has (ws_ yX6_has cX6_has 2 none) 7 0 0 z0 ([(h, .inr (6, [.ref a])), (a, .inl (E 2, n, .inl f))]) [.ref h, .int j] (fun _ => True) (fun _ => [(h, .inr (6, [.ref a])), (a, .inl (E 2, n, .inl f))]) (fun _ => none) (fun _ => True) (fun _ _ => True) (fun w => RX14) (fun w => 0) (fun w => [(h, .inr (6, [.ref a])), (a, .inl (E 2, n, .inl f))]) (fun w => []) (fun w => False) (fun w H => True) := by
  refine ti_metX (by decide) (Nat.le_of_ble_eq_true rfl) ?_
  intro p e s m below meth c H A Q ls S hE hP hD hS hA hZ hAz hx0 htab hl hret hq
  obtain ⟨hQ, hr, hlk, hinit⟩ := hq
  have hsz0 := hS.1
  have hx := S.1
  have hb := S.2.1
  have hown := S.2.2.2.1
  have hts := S.2.2.2.2
  have hK := hE.1
  have hl : lv_has ls 2 [(0, .ref h), (1, .int j)] := hl
  have hin9 : ti_in j (nI 0) (nI n - nI 1) = ti_lt j n := ti_in_lt (by omega)
  refine lv_aload_n hx hb dX6_has_0 rfl (lv_at hl 0 rfl) ?_
  refine va_get (v := .ref a) hx hb hts in_X6 hown hK hP 0 rfl rfl 0 (by decide) (hts _ q232) (fun _ h => h) rfl dX6_has_1 ?_
  refine lv_ifnonnull (tgt := 17) hx hb dX6_has_4 (by decide) ?_
  refine lv_iload_n hx hb dX6_has_17 rfl (lv_at hl 1 rfl) ?_
  refine lv_iconst (v := nI 0) hx hb dX6_has_18 (by decide) ?_
  refine lv_aload_n hx hb dX6_has_19 rfl (lv_at hl 0 rfl) ?_
  refine ti_callX (ty_runV (As := []) (rest := [.int (nI 0), .int j]) S (met_X6_size_1 l D E htr z0 h a n hn60 f H.size) (cwV 0 S.2.2.2.2 (lw_V q1043 q1045 qs24 q72 q1046) rfl rfl rfl (by decide +kernel) ⟨Nat.le_of_ble_eq_true rfl, Nat.le_of_ble_eq_true rfl⟩) (ti_preXV (xp := fun _ => True) hE hP hD hS rfl hZ hAz trivial [0, 1] rfl rfl 0 rfl rfl) rfl rfl hl.1 rfl (lv_room (Nat.le_of_ble_eq_true rfl)) dX6_has_20 ⟨Nat.le_of_ble_eq_true rfl, Nat.le_of_ble_eq_true rfl⟩) hP hD hS hA [0, 1] rfl (fun _ => rfl) (fun _ => rfl) (fun _ H locs hu _ _ hP hD hS => ?_) (fun _ _ _ _ h9 => absurd h9 id)
  have hP : va_P D vwCl ([(h, .inr (6, [.ref a])), (a, .inl (E 2, n, .inl f))]) H := hP
  have hD : va_D A ([(h, .inr (6, [.ref a])), (a, .inl (E 2, n, .inl f))]) := hD
  refine W.eq (g2 := F0 m 23 ls [.int (nI n), .int (nI 0), .int j]) rfl ?_
  refine lv_iconst (v := nI 1) hx hb dX6_has_23 (by decide) ?_
  refine lv_isub hx hb dX6_has_24 ?_
  refine ti_pSN (As := [.int j, .int (nI 0), .int ((nI n) - (nI 1))]) (rest := []) (v := .int (ti_b (ti_in j (nI 0) (((nI n) - (nI 1)))))) S hE hP [] (met_X0_in l D E j (nI 0) (((nI n) - (nI 1)))) rfl (lw_meth q304) q1052 q303 q66 3 rfl (by decide +kernel) ⟨Nat.le_of_ble_eq_true rfl, Nat.le_of_ble_eq_true rfl⟩ hl.1 rfl (Nat.le_of_ble_eq_true rfl) ⟨Nat.le_refl _, Nat.le_refl _⟩ dX6_has_25 ?_
  refine tb_ne (tgt := 41) hx hb dX6_has_28 (by decide) (fun c28 => ?_) (fun c28 => ?_)
  · skip
    exact hret _ () _ _ _ _ (trivial) hP trivial hS (Nat.le_of_ble_eq_true rfl) (Nat.le_of_ble_eq_true rfl) (fun hq hf9 => W.vret hx hb hr hq hf9 dX6_has_41 hlk)
  · skip
    exact absurd hin (by rw [← hin9, c28]; decide)

set_option maxHeartbeats 2000000 in
theorem met_X6_has_x1 (l : Launch) (D : va_G) (E : Nat → ClassId) (htr : l.stackTraces = false) (z0 : Nat) (h a n : Nat) (hn60 : n ≤ 60) (f : Nat → Int32) (j : Int32) (hin : ti_lt j n = false) : ti_MetX (σ := Unit) (τ := Nat × Value × Value) l D E yX6_has (ws_ yX6_has cX6_has 2 none) 7 1 7 z0 ([(h, .inr (6, [.ref a])), (a, .inl (E 2, n, .inl f))]) [.ref h, .int j] (fun _ => True) (fun _ => [(h, .inr (6, [.ref a])), (a, .inl (E 2, n, .inl f))]) (fun _ => none) (fun _ => False) (fun _ _ => True) (fun w => RX15) (fun w => w.1) (fun w => [(h, .inr (6, [.ref a])), (a, .inl (E 2, n, .inl f))]) (fun w => [(w.1, .inr (15, [.ref w.1, w.2.1, w.2.2, .null, .null, .int 0, .int (-13)]))]) (fun _ => True) (fun w H => ti_free w.1 H) := by
  refine ti_metX (by decide) (Nat.le_of_ble_eq_true rfl) ?_
  intro p e s m below meth c H A Q ls S hE hP hD hS hA hZ hAz hx0 hnoex hl hret hq
  obtain ⟨rfl, hr, hlk, hinit⟩ := hq
  have hsz0 := hS.1
  have hx := S.1
  have hb := S.2.1
  have hown := S.2.2.2.1
  have hts := S.2.2.2.2
  have hK := hE.1
  have hl : lv_has ls 2 [(0, .ref h), (1, .int j)] := hl
  have hin9 : ti_in j (nI 0) (nI n - nI 1) = ti_lt j n := ti_in_lt (by omega)
  refine lv_aload_n hx hb dX6_has_0 rfl (lv_at hl 0 rfl) ?_
  refine va_get (v := .ref a) hx hb hts in_X6 hown hK hP 0 rfl rfl 0 (by decide) (hts _ q232) (fun _ h => h) rfl dX6_has_1 ?_
  refine lv_ifnonnull (tgt := 17) hx hb dX6_has_4 (by decide) ?_
  refine lv_iload_n hx hb dX6_has_17 rfl (lv_at hl 1 rfl) ?_
  refine lv_iconst (v := nI 0) hx hb dX6_has_18 (by decide) ?_
  refine lv_aload_n hx hb dX6_has_19 rfl (lv_at hl 0 rfl) ?_
  refine ti_callX (ty_runV (As := []) (rest := [.int (nI 0), .int j]) S (met_X6_size_1 l D E htr z0 h a n hn60 f H.size) (cwV 0 S.2.2.2.2 (lw_V q1043 q1045 qs24 q72 q1046) rfl rfl rfl (by decide +kernel) ⟨Nat.le_of_ble_eq_true rfl, Nat.le_of_ble_eq_true rfl⟩) (ti_preXV (xp := fun _ => True) hE hP hD hS rfl hZ hAz trivial [0, 1] rfl rfl 0 rfl rfl) rfl rfl hl.1 rfl (lv_room (Nat.le_of_ble_eq_true rfl)) dX6_has_20 ⟨Nat.le_of_ble_eq_true rfl, Nat.le_of_ble_eq_true rfl⟩) hP hD hS hA [0, 1] rfl (fun _ => rfl) (fun _ => rfl) (fun _ H locs hu _ _ hP hD hS => ?_) (fun _ _ _ _ h9 => absurd h9 id)
  have hP : va_P D vwCl ([(h, .inr (6, [.ref a])), (a, .inl (E 2, n, .inl f))]) H := hP
  have hD : va_D A ([(h, .inr (6, [.ref a])), (a, .inl (E 2, n, .inl f))]) := hD
  refine W.eq (g2 := F0 m 23 ls [.int (nI n), .int (nI 0), .int j]) rfl ?_
  refine lv_iconst (v := nI 1) hx hb dX6_has_23 (by decide) ?_
  refine lv_isub hx hb dX6_has_24 ?_
  refine ti_pSN (As := [.int j, .int (nI 0), .int ((nI n) - (nI 1))]) (rest := []) (v := .int (ti_b (ti_in j (nI 0) (((nI n) - (nI 1)))))) S hE hP [] (met_X0_in l D E j (nI 0) (((nI n) - (nI 1)))) rfl (lw_meth q304) q1052 q303 q66 3 rfl (by decide +kernel) ⟨Nat.le_of_ble_eq_true rfl, Nat.le_of_ble_eq_true rfl⟩ hl.1 rfl (Nat.le_of_ble_eq_true rfl) ⟨Nat.le_of_ble_eq_true rfl, Nat.le_of_ble_eq_true rfl⟩ dX6_has_25 ?_
  refine tb_ne (tgt := 41) hx hb dX6_has_28 (by decide) (fun c28 => ?_) (fun c28 => ?_)
  · skip
    exact absurd hin (by rw [← hin9, c28]; decide)
  · skip
    have hsz1 := hS.1
    refine ti_newM hx hb hts in_X15 tyX15 tyX15_ok hown (hts _ q1024) (hts _ q1025) (hts _ q92) hK hP hD hS hA (ci := 15) rfl ti_d7O (Nat.le_of_ble_eq_true rfl) (Nat.le_of_ble_eq_true rfl) dX6_has_31 (fun q1 H hq1 hs1 hf1 ho1 hP hD hS => ?_)
    have hP : va_P D vwCl ([(h, .inr (6, [.ref a])), (a, .inl (E 2, n, .inl f)), (q1, .inr (15, [.null, .null, .null, .null, .null, .int 0, .int 0]))]) H := hP
    have hD : va_D A ([(h, .inr (6, [.ref a])), (a, .inl (E 2, n, .inl f)), (q1, .inr (15, [.null, .null, .null, .null, .null, .int 0, .int 0]))]) := hD
    have fr_q1 : ti_free q1 H := hf1
    refine lv_dup hx hb dX6_has_34 rfl ?_
    refine lv_bipush (v := (-13)) hx hb dX6_has_35 (by decide) ?_
    refine ti_fI (As := [.int ((-13))]) (rest := [.ref q1]) S hE hP hD hS hA rfl hZ hAz fr_q1 [2] rfl (met_X15_init l D E htr z0 q1 (((-13)))) rfl (fun _ => rfl) (lw_meth q1035) q92 q1033 q1034 rfl 1 rfl (by decide +kernel) ⟨Nat.le_of_ble_eq_true rfl, Nat.le_of_ble_eq_true rfl⟩ hl.1 rfl (Nat.le_of_ble_eq_true rfl) ⟨Nat.le_of_ble_eq_true rfl, Nat.le_of_ble_eq_true rfl⟩ dX6_has_37 (fun w1 H locs hu hxq hFr hP hD hS => ?_)
    have fr_q1 : ti_free q1 H := hxq
    have hP : va_P D vwCl ([(h, .inr (6, [.ref a])), (a, .inl (E 2, n, .inl f)), (q1, .inr (15, [.ref q1, w1.1, w1.2, .null, .null, .int 0, .int ((-13))]))]) H := hP
    have hD : va_D A ([(h, .inr (6, [.ref a])), (a, .inl (E 2, n, .inl f)), (q1, .inr (15, [.ref q1, w1.1, w1.2, .null, .null, .int 0, .int ((-13))]))]) := hD
    refine W.eq (g2 := F0 m 40 ls [.ref q1]) rfl ?_
    refine ti_throwOut hx hb hnoex hlk dX6_has_40 hK (q1, w1) 0 rfl rfl trivial (ti_subC (is := [0, 1]) rfl hP) (ti_subC (is := [2]) rfl hP) (fun k z hz => ?_) fr_q1 hS (Nat.le_of_ble_eq_true rfl) (Nat.le_of_ble_eq_true rfl)
    have hk : k < 1 := (List.getElem?_eq_some_iff.mp hz).1
    match k, hk with
    | 0, _ => cases hz; show s.heap.size ≤ q1; omega

set_option maxHeartbeats 2000000 in
theorem met_X6_has_2 (l : Launch) (D : va_G) (E : Nat → ClassId) (htr : l.stackTraces = false) (z0 : Nat) (h a n : Nat) (hn60 : n ≤ 60) (f : Nat → Int32) (j : Int32) (hin : ti_lt j n = true) : ti_MetX (σ := Unit) (τ := Unit) l D E yX6_has (ws_ yX6_has cX6_has 2 none) 7 0 0 z0 ([(h, .inr (6, [.ref a])), (a, .inl (E 0, n, .inl f))]) [.ref h, .int j] (fun _ => True) (fun _ => [(h, .inr (6, [.ref a])), (a, .inl (E 0, n, .inl f))]) (fun _ => none) (fun _ => True) (fun _ _ => True) (fun w => RX14) (fun w => 0) (fun w => [(h, .inr (6, [.ref a])), (a, .inl (E 0, n, .inl f))]) (fun w => []) (fun w => False) (fun w H => True) := by
  refine ti_metX (by decide) (Nat.le_of_ble_eq_true rfl) ?_
  intro p e s m below meth c H A Q ls S hE hP hD hS hA hZ hAz hx0 htab hl hret hq
  obtain ⟨hQ, hr, hlk, hinit⟩ := hq
  have hsz0 := hS.1
  have hx := S.1
  have hb := S.2.1
  have hown := S.2.2.2.1
  have hts := S.2.2.2.2
  have hK := hE.1
  have hl : lv_has ls 2 [(0, .ref h), (1, .int j)] := hl
  have hin9 : ti_in j (nI 0) (nI n - nI 1) = ti_lt j n := ti_in_lt (by omega)
  refine lv_aload_n hx hb dX6_has_0 rfl (lv_at hl 0 rfl) ?_
  refine va_get (v := .ref a) hx hb hts in_X6 hown hK hP 0 rfl rfl 0 (by decide) (hts _ q232) (fun _ h => h) rfl dX6_has_1 ?_
  refine lv_ifnonnull (tgt := 17) hx hb dX6_has_4 (by decide) ?_
  refine lv_iload_n hx hb dX6_has_17 rfl (lv_at hl 1 rfl) ?_
  refine lv_iconst (v := nI 0) hx hb dX6_has_18 (by decide) ?_
  refine lv_aload_n hx hb dX6_has_19 rfl (lv_at hl 0 rfl) ?_
  refine ti_callX (ty_runV (As := []) (rest := [.int (nI 0), .int j]) S (met_X6_size_2 l D E htr z0 h a n hn60 f H.size) (cwV 0 S.2.2.2.2 (lw_V q1043 q1045 qs24 q72 q1046) rfl rfl rfl (by decide +kernel) ⟨Nat.le_of_ble_eq_true rfl, Nat.le_of_ble_eq_true rfl⟩) (ti_preXV (xp := fun _ => True) hE hP hD hS rfl hZ hAz trivial [0, 1] rfl rfl 0 rfl rfl) rfl rfl hl.1 rfl (lv_room (Nat.le_of_ble_eq_true rfl)) dX6_has_20 ⟨Nat.le_of_ble_eq_true rfl, Nat.le_of_ble_eq_true rfl⟩) hP hD hS hA [0, 1] rfl (fun _ => rfl) (fun _ => rfl) (fun _ H locs hu _ _ hP hD hS => ?_) (fun _ _ _ _ h9 => absurd h9 id)
  have hP : va_P D vwCl ([(h, .inr (6, [.ref a])), (a, .inl (E 0, n, .inl f))]) H := hP
  have hD : va_D A ([(h, .inr (6, [.ref a])), (a, .inl (E 0, n, .inl f))]) := hD
  refine W.eq (g2 := F0 m 23 ls [.int (nI n), .int (nI 0), .int j]) rfl ?_
  refine lv_iconst (v := nI 1) hx hb dX6_has_23 (by decide) ?_
  refine lv_isub hx hb dX6_has_24 ?_
  refine ti_pSN (As := [.int j, .int (nI 0), .int ((nI n) - (nI 1))]) (rest := []) (v := .int (ti_b (ti_in j (nI 0) (((nI n) - (nI 1)))))) S hE hP [] (met_X0_in l D E j (nI 0) (((nI n) - (nI 1)))) rfl (lw_meth q304) q1052 q303 q66 3 rfl (by decide +kernel) ⟨Nat.le_of_ble_eq_true rfl, Nat.le_of_ble_eq_true rfl⟩ hl.1 rfl (Nat.le_of_ble_eq_true rfl) ⟨Nat.le_refl _, Nat.le_refl _⟩ dX6_has_25 ?_
  refine tb_ne (tgt := 41) hx hb dX6_has_28 (by decide) (fun c28 => ?_) (fun c28 => ?_)
  · skip
    exact hret _ () _ _ _ _ (trivial) hP trivial hS (Nat.le_of_ble_eq_true rfl) (Nat.le_of_ble_eq_true rfl) (fun hq hf9 => W.vret hx hb hr hq hf9 dX6_has_41 hlk)
  · skip
    exact absurd hin (by rw [← hin9, c28]; decide)

set_option maxHeartbeats 2000000 in
theorem met_X6_has_x2 (l : Launch) (D : va_G) (E : Nat → ClassId) (htr : l.stackTraces = false) (z0 : Nat) (h a n : Nat) (hn60 : n ≤ 60) (f : Nat → Int32) (j : Int32) (hin : ti_lt j n = false) : ti_MetX (σ := Unit) (τ := Nat × Value × Value) l D E yX6_has (ws_ yX6_has cX6_has 2 none) 7 1 7 z0 ([(h, .inr (6, [.ref a])), (a, .inl (E 0, n, .inl f))]) [.ref h, .int j] (fun _ => True) (fun _ => [(h, .inr (6, [.ref a])), (a, .inl (E 0, n, .inl f))]) (fun _ => none) (fun _ => False) (fun _ _ => True) (fun w => RX15) (fun w => w.1) (fun w => [(h, .inr (6, [.ref a])), (a, .inl (E 0, n, .inl f))]) (fun w => [(w.1, .inr (15, [.ref w.1, w.2.1, w.2.2, .null, .null, .int 0, .int (-13)]))]) (fun _ => True) (fun w H => ti_free w.1 H) := by
  refine ti_metX (by decide) (Nat.le_of_ble_eq_true rfl) ?_
  intro p e s m below meth c H A Q ls S hE hP hD hS hA hZ hAz hx0 hnoex hl hret hq
  obtain ⟨rfl, hr, hlk, hinit⟩ := hq
  have hsz0 := hS.1
  have hx := S.1
  have hb := S.2.1
  have hown := S.2.2.2.1
  have hts := S.2.2.2.2
  have hK := hE.1
  have hl : lv_has ls 2 [(0, .ref h), (1, .int j)] := hl
  have hin9 : ti_in j (nI 0) (nI n - nI 1) = ti_lt j n := ti_in_lt (by omega)
  refine lv_aload_n hx hb dX6_has_0 rfl (lv_at hl 0 rfl) ?_
  refine va_get (v := .ref a) hx hb hts in_X6 hown hK hP 0 rfl rfl 0 (by decide) (hts _ q232) (fun _ h => h) rfl dX6_has_1 ?_
  refine lv_ifnonnull (tgt := 17) hx hb dX6_has_4 (by decide) ?_
  refine lv_iload_n hx hb dX6_has_17 rfl (lv_at hl 1 rfl) ?_
  refine lv_iconst (v := nI 0) hx hb dX6_has_18 (by decide) ?_
  refine lv_aload_n hx hb dX6_has_19 rfl (lv_at hl 0 rfl) ?_
  refine ti_callX (ty_runV (As := []) (rest := [.int (nI 0), .int j]) S (met_X6_size_2 l D E htr z0 h a n hn60 f H.size) (cwV 0 S.2.2.2.2 (lw_V q1043 q1045 qs24 q72 q1046) rfl rfl rfl (by decide +kernel) ⟨Nat.le_of_ble_eq_true rfl, Nat.le_of_ble_eq_true rfl⟩) (ti_preXV (xp := fun _ => True) hE hP hD hS rfl hZ hAz trivial [0, 1] rfl rfl 0 rfl rfl) rfl rfl hl.1 rfl (lv_room (Nat.le_of_ble_eq_true rfl)) dX6_has_20 ⟨Nat.le_of_ble_eq_true rfl, Nat.le_of_ble_eq_true rfl⟩) hP hD hS hA [0, 1] rfl (fun _ => rfl) (fun _ => rfl) (fun _ H locs hu _ _ hP hD hS => ?_) (fun _ _ _ _ h9 => absurd h9 id)
  have hP : va_P D vwCl ([(h, .inr (6, [.ref a])), (a, .inl (E 0, n, .inl f))]) H := hP
  have hD : va_D A ([(h, .inr (6, [.ref a])), (a, .inl (E 0, n, .inl f))]) := hD
  refine W.eq (g2 := F0 m 23 ls [.int (nI n), .int (nI 0), .int j]) rfl ?_
  refine lv_iconst (v := nI 1) hx hb dX6_has_23 (by decide) ?_
  refine lv_isub hx hb dX6_has_24 ?_
  refine ti_pSN (As := [.int j, .int (nI 0), .int ((nI n) - (nI 1))]) (rest := []) (v := .int (ti_b (ti_in j (nI 0) (((nI n) - (nI 1)))))) S hE hP [] (met_X0_in l D E j (nI 0) (((nI n) - (nI 1)))) rfl (lw_meth q304) q1052 q303 q66 3 rfl (by decide +kernel) ⟨Nat.le_of_ble_eq_true rfl, Nat.le_of_ble_eq_true rfl⟩ hl.1 rfl (Nat.le_of_ble_eq_true rfl) ⟨Nat.le_of_ble_eq_true rfl, Nat.le_of_ble_eq_true rfl⟩ dX6_has_25 ?_
  refine tb_ne (tgt := 41) hx hb dX6_has_28 (by decide) (fun c28 => ?_) (fun c28 => ?_)
  · skip
    exact absurd hin (by rw [← hin9, c28]; decide)
  · skip
    have hsz1 := hS.1
    refine ti_newM hx hb hts in_X15 tyX15 tyX15_ok hown (hts _ q1024) (hts _ q1025) (hts _ q92) hK hP hD hS hA (ci := 15) rfl ti_d7O (Nat.le_of_ble_eq_true rfl) (Nat.le_of_ble_eq_true rfl) dX6_has_31 (fun q1 H hq1 hs1 hf1 ho1 hP hD hS => ?_)
    have hP : va_P D vwCl ([(h, .inr (6, [.ref a])), (a, .inl (E 0, n, .inl f)), (q1, .inr (15, [.null, .null, .null, .null, .null, .int 0, .int 0]))]) H := hP
    have hD : va_D A ([(h, .inr (6, [.ref a])), (a, .inl (E 0, n, .inl f)), (q1, .inr (15, [.null, .null, .null, .null, .null, .int 0, .int 0]))]) := hD
    have fr_q1 : ti_free q1 H := hf1
    refine lv_dup hx hb dX6_has_34 rfl ?_
    refine lv_bipush (v := (-13)) hx hb dX6_has_35 (by decide) ?_
    refine ti_fI (As := [.int ((-13))]) (rest := [.ref q1]) S hE hP hD hS hA rfl hZ hAz fr_q1 [2] rfl (met_X15_init l D E htr z0 q1 (((-13)))) rfl (fun _ => rfl) (lw_meth q1035) q92 q1033 q1034 rfl 1 rfl (by decide +kernel) ⟨Nat.le_of_ble_eq_true rfl, Nat.le_of_ble_eq_true rfl⟩ hl.1 rfl (Nat.le_of_ble_eq_true rfl) ⟨Nat.le_of_ble_eq_true rfl, Nat.le_of_ble_eq_true rfl⟩ dX6_has_37 (fun w1 H locs hu hxq hFr hP hD hS => ?_)
    have fr_q1 : ti_free q1 H := hxq
    have hP : va_P D vwCl ([(h, .inr (6, [.ref a])), (a, .inl (E 0, n, .inl f)), (q1, .inr (15, [.ref q1, w1.1, w1.2, .null, .null, .int 0, .int ((-13))]))]) H := hP
    have hD : va_D A ([(h, .inr (6, [.ref a])), (a, .inl (E 0, n, .inl f)), (q1, .inr (15, [.ref q1, w1.1, w1.2, .null, .null, .int 0, .int ((-13))]))]) := hD
    refine W.eq (g2 := F0 m 40 ls [.ref q1]) rfl ?_
    refine ti_throwOut hx hb hnoex hlk dX6_has_40 hK (q1, w1) 0 rfl rfl trivial (ti_subC (is := [0, 1]) rfl hP) (ti_subC (is := [2]) rfl hP) (fun k z hz => ?_) fr_q1 hS (Nat.le_of_ble_eq_true rfl) (Nat.le_of_ble_eq_true rfl)
    have hk : k < 1 := (List.getElem?_eq_some_iff.mp hz).1
    match k, hk with
    | 0, _ => cases hz; show s.heap.size ≤ q1; omega

set_option maxHeartbeats 2000000 in
theorem met_X6_has_3 (l : Launch) (D : va_G) (E : Nat → ClassId) (htr : l.stackTraces = false) (z0 : Nat) (h a n : Nat) (hn60 : n ≤ 60) (f : Nat → Int64) (j : Int32) (hin : ti_lt j n = true) : ti_MetX (σ := Unit) (τ := Unit) l D E yX6_has (ws_ yX6_has cX6_has 2 none) 7 0 0 z0 ([(h, .inr (6, [.ref a])), (a, .inl (E 3, n, .inr (.inl f)))]) [.ref h, .int j] (fun _ => True) (fun _ => [(h, .inr (6, [.ref a])), (a, .inl (E 3, n, .inr (.inl f)))]) (fun _ => none) (fun _ => True) (fun _ _ => True) (fun w => RX14) (fun w => 0) (fun w => [(h, .inr (6, [.ref a])), (a, .inl (E 3, n, .inr (.inl f)))]) (fun w => []) (fun w => False) (fun w H => True) := by
  refine ti_metX (by decide) (Nat.le_of_ble_eq_true rfl) ?_
  intro p e s m below meth c H A Q ls S hE hP hD hS hA hZ hAz hx0 htab hl hret hq
  obtain ⟨hQ, hr, hlk, hinit⟩ := hq
  have hsz0 := hS.1
  have hx := S.1
  have hb := S.2.1
  have hown := S.2.2.2.1
  have hts := S.2.2.2.2
  have hK := hE.1
  have hl : lv_has ls 2 [(0, .ref h), (1, .int j)] := hl
  have hin9 : ti_in j (nI 0) (nI n - nI 1) = ti_lt j n := ti_in_lt (by omega)
  refine lv_aload_n hx hb dX6_has_0 rfl (lv_at hl 0 rfl) ?_
  refine va_get (v := .ref a) hx hb hts in_X6 hown hK hP 0 rfl rfl 0 (by decide) (hts _ q232) (fun _ h => h) rfl dX6_has_1 ?_
  refine lv_ifnonnull (tgt := 17) hx hb dX6_has_4 (by decide) ?_
  refine lv_iload_n hx hb dX6_has_17 rfl (lv_at hl 1 rfl) ?_
  refine lv_iconst (v := nI 0) hx hb dX6_has_18 (by decide) ?_
  refine lv_aload_n hx hb dX6_has_19 rfl (lv_at hl 0 rfl) ?_
  refine ti_callX (ty_runV (As := []) (rest := [.int (nI 0), .int j]) S (met_X6_size_3 l D E htr z0 h a n hn60 f H.size) (cwV 0 S.2.2.2.2 (lw_V q1043 q1045 qs24 q72 q1046) rfl rfl rfl (by decide +kernel) ⟨Nat.le_of_ble_eq_true rfl, Nat.le_of_ble_eq_true rfl⟩) (ti_preXV (xp := fun _ => True) hE hP hD hS rfl hZ hAz trivial [0, 1] rfl rfl 0 rfl rfl) rfl rfl hl.1 rfl (lv_room (Nat.le_of_ble_eq_true rfl)) dX6_has_20 ⟨Nat.le_of_ble_eq_true rfl, Nat.le_of_ble_eq_true rfl⟩) hP hD hS hA [0, 1] rfl (fun _ => rfl) (fun _ => rfl) (fun _ H locs hu _ _ hP hD hS => ?_) (fun _ _ _ _ h9 => absurd h9 id)
  have hP : va_P D vwCl ([(h, .inr (6, [.ref a])), (a, .inl (E 3, n, .inr (.inl f)))]) H := hP
  have hD : va_D A ([(h, .inr (6, [.ref a])), (a, .inl (E 3, n, .inr (.inl f)))]) := hD
  refine W.eq (g2 := F0 m 23 ls [.int (nI n), .int (nI 0), .int j]) rfl ?_
  refine lv_iconst (v := nI 1) hx hb dX6_has_23 (by decide) ?_
  refine lv_isub hx hb dX6_has_24 ?_
  refine ti_pSN (As := [.int j, .int (nI 0), .int ((nI n) - (nI 1))]) (rest := []) (v := .int (ti_b (ti_in j (nI 0) (((nI n) - (nI 1)))))) S hE hP [] (met_X0_in l D E j (nI 0) (((nI n) - (nI 1)))) rfl (lw_meth q304) q1052 q303 q66 3 rfl (by decide +kernel) ⟨Nat.le_of_ble_eq_true rfl, Nat.le_of_ble_eq_true rfl⟩ hl.1 rfl (Nat.le_of_ble_eq_true rfl) ⟨Nat.le_refl _, Nat.le_refl _⟩ dX6_has_25 ?_
  refine tb_ne (tgt := 41) hx hb dX6_has_28 (by decide) (fun c28 => ?_) (fun c28 => ?_)
  · skip
    exact hret _ () _ _ _ _ (trivial) hP trivial hS (Nat.le_of_ble_eq_true rfl) (Nat.le_of_ble_eq_true rfl) (fun hq hf9 => W.vret hx hb hr hq hf9 dX6_has_41 hlk)
  · skip
    exact absurd hin (by rw [← hin9, c28]; decide)

set_option maxHeartbeats 2000000 in
theorem met_X6_has_x3 (l : Launch) (D : va_G) (E : Nat → ClassId) (htr : l.stackTraces = false) (z0 : Nat) (h a n : Nat) (hn60 : n ≤ 60) (f : Nat → Int64) (j : Int32) (hin : ti_lt j n = false) : ti_MetX (σ := Unit) (τ := Nat × Value × Value) l D E yX6_has (ws_ yX6_has cX6_has 2 none) 7 1 7 z0 ([(h, .inr (6, [.ref a])), (a, .inl (E 3, n, .inr (.inl f)))]) [.ref h, .int j] (fun _ => True) (fun _ => [(h, .inr (6, [.ref a])), (a, .inl (E 3, n, .inr (.inl f)))]) (fun _ => none) (fun _ => False) (fun _ _ => True) (fun w => RX15) (fun w => w.1) (fun w => [(h, .inr (6, [.ref a])), (a, .inl (E 3, n, .inr (.inl f)))]) (fun w => [(w.1, .inr (15, [.ref w.1, w.2.1, w.2.2, .null, .null, .int 0, .int (-13)]))]) (fun _ => True) (fun w H => ti_free w.1 H) := by
  refine ti_metX (by decide) (Nat.le_of_ble_eq_true rfl) ?_
  intro p e s m below meth c H A Q ls S hE hP hD hS hA hZ hAz hx0 hnoex hl hret hq
  obtain ⟨rfl, hr, hlk, hinit⟩ := hq
  have hsz0 := hS.1
  have hx := S.1
  have hb := S.2.1
  have hown := S.2.2.2.1
  have hts := S.2.2.2.2
  have hK := hE.1
  have hl : lv_has ls 2 [(0, .ref h), (1, .int j)] := hl
  have hin9 : ti_in j (nI 0) (nI n - nI 1) = ti_lt j n := ti_in_lt (by omega)
  refine lv_aload_n hx hb dX6_has_0 rfl (lv_at hl 0 rfl) ?_
  refine va_get (v := .ref a) hx hb hts in_X6 hown hK hP 0 rfl rfl 0 (by decide) (hts _ q232) (fun _ h => h) rfl dX6_has_1 ?_
  refine lv_ifnonnull (tgt := 17) hx hb dX6_has_4 (by decide) ?_
  refine lv_iload_n hx hb dX6_has_17 rfl (lv_at hl 1 rfl) ?_
  refine lv_iconst (v := nI 0) hx hb dX6_has_18 (by decide) ?_
  refine lv_aload_n hx hb dX6_has_19 rfl (lv_at hl 0 rfl) ?_
  refine ti_callX (ty_runV (As := []) (rest := [.int (nI 0), .int j]) S (met_X6_size_3 l D E htr z0 h a n hn60 f H.size) (cwV 0 S.2.2.2.2 (lw_V q1043 q1045 qs24 q72 q1046) rfl rfl rfl (by decide +kernel) ⟨Nat.le_of_ble_eq_true rfl, Nat.le_of_ble_eq_true rfl⟩) (ti_preXV (xp := fun _ => True) hE hP hD hS rfl hZ hAz trivial [0, 1] rfl rfl 0 rfl rfl) rfl rfl hl.1 rfl (lv_room (Nat.le_of_ble_eq_true rfl)) dX6_has_20 ⟨Nat.le_of_ble_eq_true rfl, Nat.le_of_ble_eq_true rfl⟩) hP hD hS hA [0, 1] rfl (fun _ => rfl) (fun _ => rfl) (fun _ H locs hu _ _ hP hD hS => ?_) (fun _ _ _ _ h9 => absurd h9 id)
  have hP : va_P D vwCl ([(h, .inr (6, [.ref a])), (a, .inl (E 3, n, .inr (.inl f)))]) H := hP
  have hD : va_D A ([(h, .inr (6, [.ref a])), (a, .inl (E 3, n, .inr (.inl f)))]) := hD
  refine W.eq (g2 := F0 m 23 ls [.int (nI n), .int (nI 0), .int j]) rfl ?_
  refine lv_iconst (v := nI 1) hx hb dX6_has_23 (by decide) ?_
  refine lv_isub hx hb dX6_has_24 ?_
  refine ti_pSN (As := [.int j, .int (nI 0), .int ((nI n) - (nI 1))]) (rest := []) (v := .int (ti_b (ti_in j (nI 0) (((nI n) - (nI 1)))))) S hE hP [] (met_X0_in l D E j (nI 0) (((nI n) - (nI 1)))) rfl (lw_meth q304) q1052 q303 q66 3 rfl (by decide +kernel) ⟨Nat.le_of_ble_eq_true rfl, Nat.le_of_ble_eq_true rfl⟩ hl.1 rfl (Nat.le_of_ble_eq_true rfl) ⟨Nat.le_of_ble_eq_true rfl, Nat.le_of_ble_eq_true rfl⟩ dX6_has_25 ?_
  refine tb_ne (tgt := 41) hx hb dX6_has_28 (by decide) (fun c28 => ?_) (fun c28 => ?_)
  · skip
    exact absurd hin (by rw [← hin9, c28]; decide)
  · skip
    have hsz1 := hS.1
    refine ti_newM hx hb hts in_X15 tyX15 tyX15_ok hown (hts _ q1024) (hts _ q1025) (hts _ q92) hK hP hD hS hA (ci := 15) rfl ti_d7O (Nat.le_of_ble_eq_true rfl) (Nat.le_of_ble_eq_true rfl) dX6_has_31 (fun q1 H hq1 hs1 hf1 ho1 hP hD hS => ?_)
    have hP : va_P D vwCl ([(h, .inr (6, [.ref a])), (a, .inl (E 3, n, .inr (.inl f))), (q1, .inr (15, [.null, .null, .null, .null, .null, .int 0, .int 0]))]) H := hP
    have hD : va_D A ([(h, .inr (6, [.ref a])), (a, .inl (E 3, n, .inr (.inl f))), (q1, .inr (15, [.null, .null, .null, .null, .null, .int 0, .int 0]))]) := hD
    have fr_q1 : ti_free q1 H := hf1
    refine lv_dup hx hb dX6_has_34 rfl ?_
    refine lv_bipush (v := (-13)) hx hb dX6_has_35 (by decide) ?_
    refine ti_fI (As := [.int ((-13))]) (rest := [.ref q1]) S hE hP hD hS hA rfl hZ hAz fr_q1 [2] rfl (met_X15_init l D E htr z0 q1 (((-13)))) rfl (fun _ => rfl) (lw_meth q1035) q92 q1033 q1034 rfl 1 rfl (by decide +kernel) ⟨Nat.le_of_ble_eq_true rfl, Nat.le_of_ble_eq_true rfl⟩ hl.1 rfl (Nat.le_of_ble_eq_true rfl) ⟨Nat.le_of_ble_eq_true rfl, Nat.le_of_ble_eq_true rfl⟩ dX6_has_37 (fun w1 H locs hu hxq hFr hP hD hS => ?_)
    have fr_q1 : ti_free q1 H := hxq
    have hP : va_P D vwCl ([(h, .inr (6, [.ref a])), (a, .inl (E 3, n, .inr (.inl f))), (q1, .inr (15, [.ref q1, w1.1, w1.2, .null, .null, .int 0, .int ((-13))]))]) H := hP
    have hD : va_D A ([(h, .inr (6, [.ref a])), (a, .inl (E 3, n, .inr (.inl f))), (q1, .inr (15, [.ref q1, w1.1, w1.2, .null, .null, .int 0, .int ((-13))]))]) := hD
    refine W.eq (g2 := F0 m 40 ls [.ref q1]) rfl ?_
    refine ti_throwOut hx hb hnoex hlk dX6_has_40 hK (q1, w1) 0 rfl rfl trivial (ti_subC (is := [0, 1]) rfl hP) (ti_subC (is := [2]) rfl hP) (fun k z hz => ?_) fr_q1 hS (Nat.le_of_ble_eq_true rfl) (Nat.le_of_ble_eq_true rfl)
    have hk : k < 1 := (List.getElem?_eq_some_iff.mp hz).1
    match k, hk with
    | 0, _ => cases hz; show s.heap.size ≤ q1; omega

set_option maxHeartbeats 2000000 in
theorem met_X6_has_4 (l : Launch) (D : va_G) (E : Nat → ClassId) (htr : l.stackTraces = false) (z0 : Nat) (h a n : Nat) (hn60 : n ≤ 60) (f : Nat → Int32) (j : Int32) (hin : ti_lt j n = true) : ti_MetX (σ := Unit) (τ := Unit) l D E yX6_has (ws_ yX6_has cX6_has 2 none) 7 0 0 z0 ([(h, .inr (6, [.ref a])), (a, .inl (E 4, n, .inl f))]) [.ref h, .int j] (fun _ => True) (fun _ => [(h, .inr (6, [.ref a])), (a, .inl (E 4, n, .inl f))]) (fun _ => none) (fun _ => True) (fun _ _ => True) (fun w => RX14) (fun w => 0) (fun w => [(h, .inr (6, [.ref a])), (a, .inl (E 4, n, .inl f))]) (fun w => []) (fun w => False) (fun w H => True) := by
  refine ti_metX (by decide) (Nat.le_of_ble_eq_true rfl) ?_
  intro p e s m below meth c H A Q ls S hE hP hD hS hA hZ hAz hx0 htab hl hret hq
  obtain ⟨hQ, hr, hlk, hinit⟩ := hq
  have hsz0 := hS.1
  have hx := S.1
  have hb := S.2.1
  have hown := S.2.2.2.1
  have hts := S.2.2.2.2
  have hK := hE.1
  have hl : lv_has ls 2 [(0, .ref h), (1, .int j)] := hl
  have hin9 : ti_in j (nI 0) (nI n - nI 1) = ti_lt j n := ti_in_lt (by omega)
  refine lv_aload_n hx hb dX6_has_0 rfl (lv_at hl 0 rfl) ?_
  refine va_get (v := .ref a) hx hb hts in_X6 hown hK hP 0 rfl rfl 0 (by decide) (hts _ q232) (fun _ h => h) rfl dX6_has_1 ?_
  refine lv_ifnonnull (tgt := 17) hx hb dX6_has_4 (by decide) ?_
  refine lv_iload_n hx hb dX6_has_17 rfl (lv_at hl 1 rfl) ?_
  refine lv_iconst (v := nI 0) hx hb dX6_has_18 (by decide) ?_
  refine lv_aload_n hx hb dX6_has_19 rfl (lv_at hl 0 rfl) ?_
  refine ti_callX (ty_runV (As := []) (rest := [.int (nI 0), .int j]) S (met_X6_size_4 l D E htr z0 h a n hn60 f H.size) (cwV 0 S.2.2.2.2 (lw_V q1043 q1045 qs24 q72 q1046) rfl rfl rfl (by decide +kernel) ⟨Nat.le_of_ble_eq_true rfl, Nat.le_of_ble_eq_true rfl⟩) (ti_preXV (xp := fun _ => True) hE hP hD hS rfl hZ hAz trivial [0, 1] rfl rfl 0 rfl rfl) rfl rfl hl.1 rfl (lv_room (Nat.le_of_ble_eq_true rfl)) dX6_has_20 ⟨Nat.le_of_ble_eq_true rfl, Nat.le_of_ble_eq_true rfl⟩) hP hD hS hA [0, 1] rfl (fun _ => rfl) (fun _ => rfl) (fun _ H locs hu _ _ hP hD hS => ?_) (fun _ _ _ _ h9 => absurd h9 id)
  have hP : va_P D vwCl ([(h, .inr (6, [.ref a])), (a, .inl (E 4, n, .inl f))]) H := hP
  have hD : va_D A ([(h, .inr (6, [.ref a])), (a, .inl (E 4, n, .inl f))]) := hD
  refine W.eq (g2 := F0 m 23 ls [.int (nI n), .int (nI 0), .int j]) rfl ?_
  refine lv_iconst (v := nI 1) hx hb dX6_has_23 (by decide) ?_
  refine lv_isub hx hb dX6_has_24 ?_
  refine ti_pSN (As := [.int j, .int (nI 0), .int ((nI n) - (nI 1))]) (rest := []) (v := .int (ti_b (ti_in j (nI 0) (((nI n) - (nI 1)))))) S hE hP [] (met_X0_in l D E j (nI 0) (((nI n) - (nI 1)))) rfl (lw_meth q304) q1052 q303 q66 3 rfl (by decide +kernel) ⟨Nat.le_of_ble_eq_true rfl, Nat.le_of_ble_eq_true rfl⟩ hl.1 rfl (Nat.le_of_ble_eq_true rfl) ⟨Nat.le_refl _, Nat.le_refl _⟩ dX6_has_25 ?_
  refine tb_ne (tgt := 41) hx hb dX6_has_28 (by decide) (fun c28 => ?_) (fun c28 => ?_)
  · skip
    exact hret _ () _ _ _ _ (trivial) hP trivial hS (Nat.le_of_ble_eq_true rfl) (Nat.le_of_ble_eq_true rfl) (fun hq hf9 => W.vret hx hb hr hq hf9 dX6_has_41 hlk)
  · skip
    exact absurd hin (by rw [← hin9, c28]; decide)

set_option maxHeartbeats 2000000 in
theorem met_X6_has_x4 (l : Launch) (D : va_G) (E : Nat → ClassId) (htr : l.stackTraces = false) (z0 : Nat) (h a n : Nat) (hn60 : n ≤ 60) (f : Nat → Int32) (j : Int32) (hin : ti_lt j n = false) : ti_MetX (σ := Unit) (τ := Nat × Value × Value) l D E yX6_has (ws_ yX6_has cX6_has 2 none) 7 1 7 z0 ([(h, .inr (6, [.ref a])), (a, .inl (E 4, n, .inl f))]) [.ref h, .int j] (fun _ => True) (fun _ => [(h, .inr (6, [.ref a])), (a, .inl (E 4, n, .inl f))]) (fun _ => none) (fun _ => False) (fun _ _ => True) (fun w => RX15) (fun w => w.1) (fun w => [(h, .inr (6, [.ref a])), (a, .inl (E 4, n, .inl f))]) (fun w => [(w.1, .inr (15, [.ref w.1, w.2.1, w.2.2, .null, .null, .int 0, .int (-13)]))]) (fun _ => True) (fun w H => ti_free w.1 H) := by
  refine ti_metX (by decide) (Nat.le_of_ble_eq_true rfl) ?_
  intro p e s m below meth c H A Q ls S hE hP hD hS hA hZ hAz hx0 hnoex hl hret hq
  obtain ⟨rfl, hr, hlk, hinit⟩ := hq
  have hsz0 := hS.1
  have hx := S.1
  have hb := S.2.1
  have hown := S.2.2.2.1
  have hts := S.2.2.2.2
  have hK := hE.1
  have hl : lv_has ls 2 [(0, .ref h), (1, .int j)] := hl
  have hin9 : ti_in j (nI 0) (nI n - nI 1) = ti_lt j n := ti_in_lt (by omega)
  refine lv_aload_n hx hb dX6_has_0 rfl (lv_at hl 0 rfl) ?_
  refine va_get (v := .ref a) hx hb hts in_X6 hown hK hP 0 rfl rfl 0 (by decide) (hts _ q232) (fun _ h => h) rfl dX6_has_1 ?_
  refine lv_ifnonnull (tgt := 17) hx hb dX6_has_4 (by decide) ?_
  refine lv_iload_n hx hb dX6_has_17 rfl (lv_at hl 1 rfl) ?_
  refine lv_iconst (v := nI 0) hx hb dX6_has_18 (by decide) ?_
  refine lv_aload_n hx hb dX6_has_19 rfl (lv_at hl 0 rfl) ?_
  refine ti_callX (ty_runV (As := []) (rest := [.int (nI 0), .int j]) S (met_X6_size_4 l D E htr z0 h a n hn60 f H.size) (cwV 0 S.2.2.2.2 (lw_V q1043 q1045 qs24 q72 q1046) rfl rfl rfl (by decide +kernel) ⟨Nat.le_of_ble_eq_true rfl, Nat.le_of_ble_eq_true rfl⟩) (ti_preXV (xp := fun _ => True) hE hP hD hS rfl hZ hAz trivial [0, 1] rfl rfl 0 rfl rfl) rfl rfl hl.1 rfl (lv_room (Nat.le_of_ble_eq_true rfl)) dX6_has_20 ⟨Nat.le_of_ble_eq_true rfl, Nat.le_of_ble_eq_true rfl⟩) hP hD hS hA [0, 1] rfl (fun _ => rfl) (fun _ => rfl) (fun _ H locs hu _ _ hP hD hS => ?_) (fun _ _ _ _ h9 => absurd h9 id)
  have hP : va_P D vwCl ([(h, .inr (6, [.ref a])), (a, .inl (E 4, n, .inl f))]) H := hP
  have hD : va_D A ([(h, .inr (6, [.ref a])), (a, .inl (E 4, n, .inl f))]) := hD
  refine W.eq (g2 := F0 m 23 ls [.int (nI n), .int (nI 0), .int j]) rfl ?_
  refine lv_iconst (v := nI 1) hx hb dX6_has_23 (by decide) ?_
  refine lv_isub hx hb dX6_has_24 ?_
  refine ti_pSN (As := [.int j, .int (nI 0), .int ((nI n) - (nI 1))]) (rest := []) (v := .int (ti_b (ti_in j (nI 0) (((nI n) - (nI 1)))))) S hE hP [] (met_X0_in l D E j (nI 0) (((nI n) - (nI 1)))) rfl (lw_meth q304) q1052 q303 q66 3 rfl (by decide +kernel) ⟨Nat.le_of_ble_eq_true rfl, Nat.le_of_ble_eq_true rfl⟩ hl.1 rfl (Nat.le_of_ble_eq_true rfl) ⟨Nat.le_of_ble_eq_true rfl, Nat.le_of_ble_eq_true rfl⟩ dX6_has_25 ?_
  refine tb_ne (tgt := 41) hx hb dX6_has_28 (by decide) (fun c28 => ?_) (fun c28 => ?_)
  · skip
    exact absurd hin (by rw [← hin9, c28]; decide)
  · skip
    have hsz1 := hS.1
    refine ti_newM hx hb hts in_X15 tyX15 tyX15_ok hown (hts _ q1024) (hts _ q1025) (hts _ q92) hK hP hD hS hA (ci := 15) rfl ti_d7O (Nat.le_of_ble_eq_true rfl) (Nat.le_of_ble_eq_true rfl) dX6_has_31 (fun q1 H hq1 hs1 hf1 ho1 hP hD hS => ?_)
    have hP : va_P D vwCl ([(h, .inr (6, [.ref a])), (a, .inl (E 4, n, .inl f)), (q1, .inr (15, [.null, .null, .null, .null, .null, .int 0, .int 0]))]) H := hP
    have hD : va_D A ([(h, .inr (6, [.ref a])), (a, .inl (E 4, n, .inl f)), (q1, .inr (15, [.null, .null, .null, .null, .null, .int 0, .int 0]))]) := hD
    have fr_q1 : ti_free q1 H := hf1
    refine lv_dup hx hb dX6_has_34 rfl ?_
    refine lv_bipush (v := (-13)) hx hb dX6_has_35 (by decide) ?_
    refine ti_fI (As := [.int ((-13))]) (rest := [.ref q1]) S hE hP hD hS hA rfl hZ hAz fr_q1 [2] rfl (met_X15_init l D E htr z0 q1 (((-13)))) rfl (fun _ => rfl) (lw_meth q1035) q92 q1033 q1034 rfl 1 rfl (by decide +kernel) ⟨Nat.le_of_ble_eq_true rfl, Nat.le_of_ble_eq_true rfl⟩ hl.1 rfl (Nat.le_of_ble_eq_true rfl) ⟨Nat.le_of_ble_eq_true rfl, Nat.le_of_ble_eq_true rfl⟩ dX6_has_37 (fun w1 H locs hu hxq hFr hP hD hS => ?_)
    have fr_q1 : ti_free q1 H := hxq
    have hP : va_P D vwCl ([(h, .inr (6, [.ref a])), (a, .inl (E 4, n, .inl f)), (q1, .inr (15, [.ref q1, w1.1, w1.2, .null, .null, .int 0, .int ((-13))]))]) H := hP
    have hD : va_D A ([(h, .inr (6, [.ref a])), (a, .inl (E 4, n, .inl f)), (q1, .inr (15, [.ref q1, w1.1, w1.2, .null, .null, .int 0, .int ((-13))]))]) := hD
    refine W.eq (g2 := F0 m 40 ls [.ref q1]) rfl ?_
    refine ti_throwOut hx hb hnoex hlk dX6_has_40 hK (q1, w1) 0 rfl rfl trivial (ti_subC (is := [0, 1]) rfl hP) (ti_subC (is := [2]) rfl hP) (fun k z hz => ?_) fr_q1 hS (Nat.le_of_ble_eq_true rfl) (Nat.le_of_ble_eq_true rfl)
    have hk : k < 1 := (List.getElem?_eq_some_iff.mp hz).1
    match k, hk with
    | 0, _ => cases hz; show s.heap.size ≤ q1; omega
