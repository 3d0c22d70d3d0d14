/-! TermIdeals$Faces.asks (printed by w_asks.py) -/
set_option maxRecDepth 100000
section TXF
variable {s : State} {H H0 : Heap} {locs : List Loc} {D : va_G} {E : Nat → ClassId} {z0 b ci N : Nat} {ws wc wz : va_W} {As fs : List Value} {C : String} {T : u_T} {A : Nat → Prop} {xp : Heap → Prop}
theorem ti_preXV (hE : ti_E D E s) (hP : va_P D vwCl ws H) (hD : va_D A ws) (hS : va_S A H0 H locs) (h0 : s.heap = H0) (hZ : ti_Z z0 wz s) (hAz : ∀ q, A q → z0 ≤ q) (hx : xp H) (isC : List Nat) (hn : va_nd isC = true) (hC : isC.map (fun i => ws[i]?) = wc.map some) (q0 : Nat) (hb : ws[q0]? = some (b, .inr (ci, fs))) (hc : vwCl[ci]? = some (C, T, N)) :
    PreV s H C b (va_Pc (.ref b :: As) (fun U => U.heap.size = H.size ∧ ti_E D E U ∧ va_P D vwCl wc U.heap ∧ va_D (fun _ => True) wc ∧ ti_Z z0 wc U ∧ xp U.heap)) As := by
  have hp := ti_preF (As := .ref b :: As) (xp := xp) hE (ti_subC hC hP) (hD.sub isC hn hC) hS h0 hZ hAz hx
  exact ⟨hp.1, va_recv hE.1 hP (ci := ci) (q0 := q0) (q := (C, T, N)) hc hb, hp.2⟩
end TXF
section TXG
variable {τ : Type} {p : Program} {l : Launch} {e : Env} {R : Room} {s : State} {m : MethodId} {args : Array Value} {below : List Frame} {meth : Method} {c : Code} {H : Heap} {locs : List Loc} {cells slots mc ms pc : Nat} {cc : ByteArray} {ls : Array Slot} {rest : List Value} {D : va_G} {A : Nat → Prop} {nm : τ → String} {adr : τ → Nat} {wy ex : τ → va_W} {px : τ → Prop} {xx : τ → Heap → Prop}
theorem ti_throwOutH (hexec : p.tables.exec = Jvm.exec) (hb : c.code = cc) (hout : ∀ x ∈ c.exceptionTable.toList, covers x pc = false) (hlk : meth.locks = false) (hdg : decode cc pc = .ok (.athrow, 1)) {tys : List (ClassId × FieldType)} (hK : va_K D vwCl tys s) (w : τ) {ci N : Nat} {T : u_T} {fs : List Value} (q0 : Nat) (ha : (ex w)[q0]? = some (adr w, .inr (ci, fs))) (hc : vwCl[ci]? = some (nm w, T, N))
    (hp : px w) (hPy : va_P D vwCl (wy w) H) (hPe : va_P D vwCl (ex w) H) (hnew : ∀ (k : Nat) (z : Nat × va_E), (ex w)[k]? = some z → s.heap.size ≤ z.1) (hxx : xx w H) (hS : va_S A s.heap H locs) (h1 : cells ≤ mc) (h2 : slots ≤ ms) {Qc : Array Value → State → Outcome → State → Prop} :
    W p l e R s m args below meth c H locs cells slots (ty_MQ below Qc (ti_XC D nm adr wy ex px xx s.heap.size A) args s mc ms A) (F0 m pc ls (.ref (adr w) :: rest)) := by
  obtain ⟨r, hr, ce, hce, hcls, hvm, -⟩ := hPe q0 _ ha
  have hr9 : r = (nm w, T, N) := Option.some.inj (hr.symm.trans hc)
  subst hr9
  refine vx_athrow hexec hb hdg (ty_out (E := nm w) hout hlk hce hvm (by rw [hcls]; exact (hK.1 ci _ hc).2.1) (fun t ht hal => ⟨w, rfl, rfl, hp, by rw [ht]; exact hPy, by rw [ht]; exact hPe, hnew, by rw [ht]; exact hxx, hS.F ht⟩) hS.2.2 h1 h2)
end TXG
theorem ti_d7B : ∀ j, j < 7 → defaultValue (tyX14 j) = vp_V [.null, .null, .null, .null, .null, .int 0, .int 0] j := by
  intro j hj
  match j, hj with
  | 0, _ => rfl
  | 1, _ => rfl
  | 2, _ => rfl
  | 3, _ => rfl
  | 4, _ => rfl
  | 5, _ => rfl
  | 6, _ => rfl

set_option maxHeartbeats 2000000 in
theorem met_X2_asks_ok (l : Launch) (D : va_G) (E : Nat → ClassId) (htr : l.stackTraces = false) (z0 : Nat) (f0 f1 f2 f3 f4 f5 : Nat) (ov : Value) (ss ts lv : Nat → Nat) (nf up low : Nat) (us los : Nat → Nat) (nj : Nat) (hnf : nf ≤ 8) (hss : ∀ k, ss k ≤ 9) (hts9 : ∀ k, ts k ≤ 9) (hlv : ∀ k, lv k ≤ 9999) (f : Nat) (hf : f < 8) (a b : Nat) (ha9 : a ≤ 9) (hb9 : b ≤ 9) (num den : Nat) (hnum : num ≤ 99) (hden : den ≤ 99) (hok : lv f = 0 ∨ num * lv f < ti_wt (ss f, ts f, lv f) a b * den) : ti_MetX (σ := Unit) (τ := Unit) l D E yX2_asks (wsW_ yX2_asks cX2_asks 7 none [(0, 11, 14, 79)]) 8 0 0 z0 (ti_wF E f0 f1 f2 f3 f4 f5 ov ss ts lv nf up low us los nj) [.ref f0, .int (nI f), .int (nI a), .int (nI b), .int (nI num), .int (nI den)] (fun _ => True) (fun _ => ti_wF E f0 f1 f2 f3 f4 f5 ov ss ts lv nf up low us los nj) (fun _ => none) (fun _ => True) (fun _ _ => True) (fun w => RX14) (fun w => 0) (fun w => ti_wF E f0 f1 f2 f3 f4 f5 ov ss ts lv nf up low us los nj) (fun w => []) (fun w => False) (fun w H => True) := by
  refine ti_metXH (by decide) (Nat.le_of_ble_eq_true rfl) ?_
  intro p e s m below meth c H A Q ls S hE hP hD hS hA hZ hAz hx0 htab hl hret hq
  obtain ⟨hQ, hr, hlk, hinit⟩ := hq
  have hsz0 := hS.1
  have hx := S.1
  have hb := S.2.1
  have hown := S.2.2.2.1
  have hts := S.2.2.2.2
  have hK := hE.1
  have hl : lv_has ls 7 [(0, .ref f0), (1, .int (nI f)), (2, .int (nI a)), (3, .int (nI b)), (4, .int (nI num)), (5, .int (nI den))] := hl
  refine lv_aload_n hx hb dX2_asks_0 rfl (lv_at hl 0 rfl) ?_
  refine lv_iload_n hx hb dX2_asks_1 rfl (lv_at hl 1 rfl) ?_
  refine lv_iload_n hx hb dX2_asks_2 rfl (lv_at hl 2 rfl) ?_
  refine lv_iload_n hx hb dX2_asks_3 rfl (lv_at hl 3 rfl) ?_
  refine lv_iload hx hb dX2_asks_4 (lv_at hl 4 rfl) ?_
  refine lv_iload hx hb dX2_asks_6 (lv_at hl 5 rfl) ?_
  refine ti_mV (As := [.int (nI f), .int (nI a), .int (nI b), .int (nI num), .int (nI den)]) (rest := []) S hE hP hD hS hA [0, 1, 2, 3, 4, 5] rfl (met_X2_weighs_ok l D E f0 f1 f2 f3 f4 f5 ov ss ts lv nf up low us los nj hnf hss hts9 hlv f hf a b ha9 hb9 num den hnum hden hok) rfl (fun _ => rfl) (lw_V q652 q654 qs15 q68 q655) 5 rfl 0 rfl rfl (by decide +kernel) ⟨Nat.le_of_ble_eq_true rfl, Nat.le_of_ble_eq_true rfl⟩ hl.1 rfl (Nat.le_of_ble_eq_true rfl) ⟨Nat.le_refl _, Nat.le_refl _⟩ dX2_asks_8 (fun _ H locs hu hP hD hS => ?_)
  have hP : va_P D vwCl (ti_wF E f0 f1 f2 f3 f4 f5 ov ss ts lv nf up low us los nj) H := hP
  have hD : va_D A (ti_wF E f0 f1 f2 f3 f4 f5 ov ss ts lv nf up low us los nj) := hD
  refine W.eq (g2 := F0 m 11 ls []) rfl ?_
  refine lv_goto (tgt := 27) hx hb dX2_asks_11 (by decide) ?_
  exact hret _ () _ _ _ _ trivial hP trivial hS (Nat.le_of_ble_eq_true rfl) (Nat.le_of_ble_eq_true rfl) (fun hq hf9 => W.vret hx hb hr hq hf9 dX2_asks_27 hlk)

set_option maxHeartbeats 2000000 in
theorem met_X2_asks_x (l : Launch) (D : va_G) (E : Nat → ClassId) (htr : l.stackTraces = false) (z0 : Nat) (f0 f1 f2 f3 f4 f5 : Nat) (ov : Value) (ss ts lv : Nat → Nat) (nf up low : Nat) (us los : Nat → Nat) (nj : Nat) (hnf : nf ≤ 8) (hss : ∀ k, ss k ≤ 9) (hts9 : ∀ k, ts k ≤ 9) (hlv : ∀ k, lv k ≤ 9999) (f : Nat) (hf : f < 8) (a b : Nat) (ha9 : a ≤ 9) (hb9 : b ≤ 9) (num den : Nat) (hnum : num ≤ 99) (hden : den ≤ 99) (hbar : ¬ (lv f = 0 ∨ num * lv f < ti_wt (ss f, ts f, lv f) a b * den)) : ti_MetX (σ := Unit) (τ := (Nat × Nat × Nat × Nat × Nat) × (Value × Value) × (Value × Value) × (Value × Value) × (Value × Value) × (Value × Value)) l D E yX2_asks (wsW_ yX2_asks cX2_asks 7 none [(0, 11, 14, 79)]) 8 5 35 z0 (ti_wF E f0 f1 f2 f3 f4 f5 ov ss ts lv nf up low us los nj) [.ref f0, .int (nI f), .int (nI a), .int (nI b), .int (nI num), .int (nI den)] (fun _ => True) (fun _ => ti_wF E f0 f1 f2 f3 f4 f5 ov ss ts lv nf up low us los nj) (fun _ => none) (fun _ => False) (fun _ _ => True) (fun w => RX14) (fun w => w.1.1) (fun w => ti_wF E f0 f1 f2 f3 f4 f5 ov ss ts lv nf up low us los nj) (fun w => [(w.1.1, .inr (14, [.ref w.1.2.1, w.2.1.1, w.2.1.2, .null, .null, .int 0, .int (nI f)])), (w.1.2.1, .inr (13, [.ref w.1.2.2.1, w.2.2.1.1, w.2.2.1.2, .null, .null, .int 0, .int (nI (ti_wt (ss f, ts f, lv f) a b))])), (w.1.2.2.1, .inr (12, [.ref w.1.2.2.2.1, w.2.2.2.1.1, w.2.2.2.1.2, .null, .null, .int 0, .int (nI (lv f))])), (w.1.2.2.2.1, .inr (12, [.ref w.1.2.2.2.2, w.2.2.2.2.1.1, w.2.2.2.2.1.2, .null, .null, .int 0, .int (nI num)])), (w.1.2.2.2.2, .inr (12, [.ref w.1.2.2.2.2, w.2.2.2.2.2.1, w.2.2.2.2.2.2, .null, .null, .int 0, .int (nI den)]))]) (fun w => True) (fun w H => ti_free w.1.1 H ∧ ti_free w.1.2.1 H ∧ ti_free w.1.2.2.1 H ∧ ti_free w.1.2.2.2.1 H ∧ ti_free w.1.2.2.2.2 H ∧ w.1.2.1 < w.1.2.2.1 ∧ w.1.2.2.1 < w.1.2.2.2.1 ∧ w.1.2.2.2.1 < w.1.2.2.2.2 ∧ w.1.2.2.2.2 < w.1.1) := by
  refine ti_metXH (by decide) (Nat.le_of_ble_eq_true rfl) ?_
  intro p e s m below meth c H A Q ls S hE hP hD hS hA hZ hAz hx0 htab hl hret hq
  obtain ⟨hQ, hr, hlk, hinit⟩ := hq
  have hsz0 := hS.1
  have hx := S.1
  have hb := S.2.1
  have hown := S.2.2.2.1
  have hts := S.2.2.2.2
  have hK := hE.1
  have hl : lv_has ls 7 [(0, .ref f0), (1, .int (nI f)), (2, .int (nI a)), (3, .int (nI b)), (4, .int (nI num)), (5, .int (nI den))] := hl
  refine lv_aload_n hx hb dX2_asks_0 rfl (lv_at hl 0 rfl) ?_
  refine lv_iload_n hx hb dX2_asks_1 rfl (lv_at hl 1 rfl) ?_
  refine lv_iload_n hx hb dX2_asks_2 rfl (lv_at hl 2 rfl) ?_
  refine lv_iload_n hx hb dX2_asks_3 rfl (lv_at hl 3 rfl) ?_
  refine lv_iload hx hb dX2_asks_4 (lv_at hl 4 rfl) ?_
  refine lv_iload hx hb dX2_asks_6 (lv_at hl 5 rfl) ?_
  refine ti_callX (ty_runV (As := [.int (nI f), .int (nI a), .int (nI b), .int (nI num), .int (nI den)]) (rest := []) S (met_X2_weighs_x l D E htr z0 f0 f1 f2 f3 f4 f5 ov ss ts lv nf up low us los nj hnf hss hts9 hlv f hf a b ha9 hb9 num den hnum hden hbar H.size) (cwV 5 S.2.2.2.2 (lw_V q652 q654 qs15 q68 q655) rfl rfl rfl (by decide +kernel) ⟨Nat.le_of_ble_eq_true rfl, Nat.le_of_ble_eq_true rfl⟩) (ti_preXV (xp := fun _ => True) hE hP hD hS rfl hZ hAz trivial [0, 1, 2, 3, 4, 5] rfl rfl 0 rfl rfl) rfl rfl hl.1 rfl (lv_room (Nat.le_of_ble_eq_true rfl)) dX2_asks_8 ⟨Nat.le_of_ble_eq_true rfl, Nat.le_of_ble_eq_true rfl⟩) hP hD hS hA [0, 1, 2, 3, 4, 5] rfl (fun _ => rfl) (fun _ => rfl) (fun _ _ _ hf9 => absurd hf9 id) (fun w H locs ce hpx hxx hFr hP hD hPe hnew hS hce hcv hcl => ?_)
  obtain ⟨⟨q2, q3, q4, q5⟩, w2, w3, w4, w5⟩ := w
  have hPe : va_P D vwCl [(q2, .inr (13, [.ref q3, w2.1, w2.2, .null, .null, .int 0, .int (nI (ti_wt (ss f, ts f, lv f) a b))])), (q3, .inr (12, [.ref q4, w3.1, w3.2, .null, .null, .int 0, .int (nI (lv f))])), (q4, .inr (12, [.ref q5, w4.1, w4.2, .null, .null, .int 0, .int (nI num)])), (q5, .inr (12, [.ref q5, w5.1, w5.2, .null, .null, .int 0, .int (nI den)]))] H := hPe
  have nq2 : s.heap.size ≤ q2 := Nat.le_trans hsz0 (hnew 0 _ rfl)
  have nq3 : s.heap.size ≤ q3 := Nat.le_trans hsz0 (hnew 1 _ rfl)
  have nq4 : s.heap.size ≤ q4 := Nat.le_trans hsz0 (hnew 2 _ rfl)
  have nq5 : s.heap.size ≤ q5 := Nat.le_trans hsz0 (hnew 3 _ rfl)
  have hxx : ti_free q2 H ∧ ti_free q3 H ∧ ti_free q4 H ∧ ti_free q5 H ∧ q2 < q3 ∧ q3 < q4 ∧ q4 < q5 := hxx
  have lt_q2 := ti_free.lt hxx.1
  have lt_q3 := ti_free.lt hxx.2.1
  have lt_q4 := ti_free.lt hxx.2.2.1
  have lt_q5 := ti_free.lt hxx.2.2.2.1
  refine vx_catch hown [] ⟨0, 11, 14, 79⟩ [] htab (fun z hz => absurd hz List.not_mem_nil) rfl (by decide) (hts _ q651) (hE.use q657 rfl rfl) hce hcv hcl ?_
  have hP : va_P D vwCl (ti_wF E f0 f1 f2 f3 f4 f5 ov ss ts lv nf up low us los nj) H := hP
  have hD : va_D A (ti_wF E f0 f1 f2 f3 f4 f5 ov ss ts lv nf up low us los nj) := hD
  refine lv_astore (lv' := [(6, .ref q2), (0, .ref f0), (1, .int (nI f)), (2, .int (nI a)), (3, .int (nI b)), (4, .int (nI num)), (5, .int (nI den))]) hx hb dX2_asks_14 hl (by decide) rfl (fun ls hl => ?_)
  refine ti_newM hx hb hts in_X14 tyX14 tyX14_ok hown (hts _ q698) (hts _ q699) (hts _ q84) hK hP hD hS hA (ci := 14) rfl ti_d7B (Nat.le_of_ble_eq_true rfl) (Nat.le_of_ble_eq_true rfl) dX2_asks_16 (fun q1 H hq1 hs1 hf1 ho1 hP hD hS => ?_)
  have hP : va_P D vwCl (ti_wF E f0 f1 f2 f3 f4 f5 ov ss ts lv nf up low us los nj ++ [(q1, .inr (14, [.null, .null, .null, .null, .null, .int 0, .int 0]))]) H := hP
  have hD : va_D A (ti_wF E f0 f1 f2 f3 f4 f5 ov ss ts lv nf up low us los nj ++ [(q1, .inr (14, [.null, .null, .null, .null, .null, .int 0, .int 0]))]) := hD
  have fr_q2 : ti_free q2 H := (ti_free.kept hxx.1 (ho1 _ (ti_free.lt hxx.1)))
  have fr_q3 : ti_free q3 H := (ti_free.kept hxx.2.1 (ho1 _ (ti_free.lt hxx.2.1)))
  have fr_q4 : ti_free q4 H := (ti_free.kept hxx.2.2.1 (ho1 _ (ti_free.lt hxx.2.2.1)))
  have fr_q5 : ti_free q5 H := (ti_free.kept hxx.2.2.2.1 (ho1 _ (ti_free.lt hxx.2.2.2.1)))
  have fr_q1 : ti_free q1 H := hf1
  have hLt : ∀ (k : Nat) (x : Nat × va_E), ([(q2, .inr (13, [.ref q3, w2.1, w2.2, .null, .null, .int 0, .int (nI (ti_wt (ss f, ts f, lv f) a b))])), (q3, .inr (12, [.ref q4, w3.1, w3.2, .null, .null, .int 0, .int (nI (lv f))])), (q4, .inr (12, [.ref q5, w4.1, w4.2, .null, .null, .int 0, .int (nI num)])), (q5, .inr (12, [.ref q5, w5.1, w5.2, .null, .null, .int 0, .int (nI den)]))] : va_W)[k]? = some x → x.1 < q1 := fun k x hx => by rw [hq1]; exact (hPe k x hx).lt
  have hPe : va_P D vwCl [(q2, .inr (13, [.ref q3, w2.1, w2.2, .null, .null, .int 0, .int (nI (ti_wt (ss f, ts f, lv f) a b))])), (q3, .inr (12, [.ref q4, w3.1, w3.2, .null, .null, .int 0, .int (nI (lv f))])), (q4, .inr (12, [.ref q5, w4.1, w4.2, .null, .null, .int 0, .int (nI num)])), (q5, .inr (12, [.ref q5, w5.1, w5.2, .null, .null, .int 0, .int (nI den)]))] H := hPe.kept (fun k x hx => ho1 _ (hPe k x hx).lt)
  refine lv_dup hx hb dX2_asks_19 rfl ?_
  refine lv_iload_n hx hb dX2_asks_20 rfl (lv_at hl 2 rfl) ?_
  refine lv_aload hx hb dX2_asks_21 (lv_at hl 0 rfl) ?_
  refine ti_fI (As := [.int (nI f), .ref q2]) (rest := [.ref q1]) S hE hP hD hS hA rfl hZ hAz fr_q1 [6] rfl (met_X14_init l D E htr z0 q1 q2 (nI f)) rfl (fun _ => rfl) (lw_meth q709) q84 q707 q708 rfl 2 rfl (by decide +kernel) ⟨Nat.le_of_ble_eq_true rfl, Nat.le_of_ble_eq_true rfl⟩ hl.1 rfl (Nat.le_of_ble_eq_true rfl) ⟨Nat.le_of_ble_eq_true rfl, Nat.le_of_ble_eq_true rfl⟩ dX2_asks_23 (fun w1 H locs hu hxq hFr hP hD hS => ?_)
  have fr_q2 : ti_free q2 H := ti_free.kept fr_q2 (hFr _ (ti_free.lt fr_q2) (ti_notA1 (by omega) (ti_free.lt fr_q2)))
  have fr_q3 : ti_free q3 H := ti_free.kept fr_q3 (hFr _ (ti_free.lt fr_q3) (ti_notA1 (by omega) (ti_free.lt fr_q3)))
  have fr_q4 : ti_free q4 H := ti_free.kept fr_q4 (hFr _ (ti_free.lt fr_q4) (ti_notA1 (by omega) (ti_free.lt fr_q4)))
  have fr_q5 : ti_free q5 H := ti_free.kept fr_q5 (hFr _ (ti_free.lt fr_q5) (ti_notA1 (by omega) (ti_free.lt fr_q5)))
  have fr_q1 : ti_free q1 H := hxq
  have hP : va_P D vwCl (ti_wF E f0 f1 f2 f3 f4 f5 ov ss ts lv nf up low us los nj ++ [(q1, .inr (14, [.ref q2, w1.1, w1.2, .null, .null, .int 0, .int (nI f)]))]) H := hP
  have hD : va_D A (ti_wF E f0 f1 f2 f3 f4 f5 ov ss ts lv nf up low us los nj ++ [(q1, .inr (14, [.ref q2, w1.1, w1.2, .null, .null, .int 0, .int (nI f)]))]) := hD
  refine W.eq (g2 := F0 m 26 ls [.ref q1]) rfl ?_
  have hPe : va_P D vwCl [(q2, .inr (13, [.ref q3, w2.1, w2.2, .null, .null, .int 0, .int (nI (ti_wt (ss f, ts f, lv f) a b))])), (q3, .inr (12, [.ref q4, w3.1, w3.2, .null, .null, .int 0, .int (nI (lv f))])), (q4, .inr (12, [.ref q5, w4.1, w4.2, .null, .null, .int 0, .int (nI num)])), (q5, .inr (12, [.ref q5, w5.1, w5.2, .null, .null, .int 0, .int (nI den)]))] H := hPe.kept (fun k x hx => hFr _ (hPe k x hx).lt (ti_notA1 (Nat.ne_of_lt (hLt k x hx)) (hPe k x hx).lt))
  rw [hQ]
  refine ti_throwOutH hx hb (by rw [htab]; intro x hx9; rw [List.mem_singleton.mp hx9]; rfl) hlk dX2_asks_26 hK ((q1, q2, q3, q4, q5), w1, w2, w3, w4, w5) 0 rfl rfl trivial (ti_subC (is := [0, 1, 2, 3, 4, 5]) rfl hP) (fun k x hx9 => ?_) (fun k z hz => ?_) ⟨fr_q1, fr_q2, fr_q3, fr_q4, fr_q5, hxx.2.2.2.2.1, hxx.2.2.2.2.2.1, hxx.2.2.2.2.2.2, (show q5 < q1 by omega)⟩ hS (Nat.le_of_ble_eq_true rfl) (Nat.le_of_ble_eq_true rfl)
  · cases k with
    | zero => exact hP 6 x hx9
    | succ k => exact hPe k x hx9
  · cases k with
    | zero => cases hz; show s.heap.size ≤ q1; omega
    | succ k => exact Nat.le_trans hsz0 (hnew k z hz)
