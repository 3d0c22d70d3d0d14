/-! rows over longs; ranges -/
set_option maxRecDepth 100000
section TLA
variable {p : Program} {l : Launch} {e : Env} {R : Room} {s : State} {m : MethodId} {args : Array Value} {below : List Frame} {meth : Method} {c : Code} {H : Heap} {locs : List Loc} {cells slots : Nat} {Q : State → Prop}
variable {cc : ByteArray} {pc : Nat} {ls : Array Slot} {rest : List Value}
theorem tc_eq (hx : p.tables.exec = Jvm.exec) (hb : c.code = cc) {x y : Int64} {off : Int} {tgt : Nat} (hd : decode cc pc = .ok (.ifCond .eq off, 3)) (ht : (pc : Int) + off = (tgt : Int)) (kt : x = y → W p l e R s m args below meth c H locs cells slots Q (F0 m tgt ls rest)) (kf : ¬ x = y → W p l e R s m args below meth c H locs cells slots Q (F0 m (pc + 3) ls rest)) : W p l e R s m args below meth c H locs cells slots Q (F0 m pc ls (.int (lg_cmp x y) :: rest)) :=
  lv_if_eq hx hb hd ht (fun h => kt ((lg_cmp_eq x y).mp h)) (fun h => kf fun z => h ((lg_cmp_eq x y).mpr z))
theorem tc_ne (hx : p.tables.exec = Jvm.exec) (hb : c.code = cc) {x y : Int64} {off : Int} {tgt : Nat} (hd : decode cc pc = .ok (.ifCond .ne off, 3)) (ht : (pc : Int) + off = (tgt : Int)) (kt : ¬ x = y → W p l e R s m args below meth c H locs cells slots Q (F0 m tgt ls rest)) (kf : x = y → W p l e R s m args below meth c H locs cells slots Q (F0 m (pc + 3) ls rest)) : W p l e R s m args below meth c H locs cells slots Q (F0 m pc ls (.int (lg_cmp x y) :: rest)) :=
  lv_if_ne hx hb hd ht (fun h => kt fun z => h ((lg_cmp_eq x y).mpr z)) (fun h => kf ((lg_cmp_eq x y).mp h))
theorem tc_lt (hx : p.tables.exec = Jvm.exec) (hb : c.code = cc) {x y : Int64} {off : Int} {tgt : Nat} (hd : decode cc pc = .ok (.ifCond .lt off, 3)) (ht : (pc : Int) + off = (tgt : Int)) (kt : x < y → W p l e R s m args below meth c H locs cells slots Q (F0 m tgt ls rest)) (kf : ¬ x < y → W p l e R s m args below meth c H locs cells slots Q (F0 m (pc + 3) ls rest)) : W p l e R s m args below meth c H locs cells slots Q (F0 m pc ls (.int (lg_cmp x y) :: rest)) :=
  lv_if_lt hx hb hd ht (fun h => kt ((lg_cmp_lt x y).mp h)) (fun h => kf fun z => h ((lg_cmp_lt x y).mpr z))
theorem tc_gt (hx : p.tables.exec = Jvm.exec) (hb : c.code = cc) {x y : Int64} {off : Int} {tgt : Nat} (hd : decode cc pc = .ok (.ifCond .gt off, 3)) (ht : (pc : Int) + off = (tgt : Int)) (kt : y < x → W p l e R s m args below meth c H locs cells slots Q (F0 m tgt ls rest)) (kf : ¬ y < x → W p l e R s m args below meth c H locs cells slots Q (F0 m (pc + 3) ls rest)) : W p l e R s m args below meth c H locs cells slots Q (F0 m pc ls (.int (lg_cmp x y) :: rest)) :=
  lv_if_gt hx hb hd ht (fun h => kt ((lg_cmp_gt x y).mp h)) (fun h => kf fun z => h ((lg_cmp_gt x y).mpr z))
theorem tc_ge (hx : p.tables.exec = Jvm.exec) (hb : c.code = cc) {x y : Int64} {off : Int} {tgt : Nat} (hd : decode cc pc = .ok (.ifCond .ge off, 3)) (ht : (pc : Int) + off = (tgt : Int)) (kt : y ≤ x → W p l e R s m args below meth c H locs cells slots Q (F0 m tgt ls rest)) (kf : ¬ y ≤ x → W p l e R s m args below meth c H locs cells slots Q (F0 m (pc + 3) ls rest)) : W p l e R s m args below meth c H locs cells slots Q (F0 m pc ls (.int (lg_cmp x y) :: rest)) :=
  lv_if_ge hx hb hd ht (fun h => kt ((lg_cmp_ge x y).mp h)) (fun h => kf fun z => h ((lg_cmp_ge x y).mpr z))
theorem tc_le (hx : p.tables.exec = Jvm.exec) (hb : c.code = cc) {x y : Int64} {off : Int} {tgt : Nat} (hd : decode cc pc = .ok (.ifCond .le off, 3)) (ht : (pc : Int) + off = (tgt : Int)) (kt : x ≤ y → W p l e R s m args below meth c H locs cells slots Q (F0 m tgt ls rest)) (kf : ¬ x ≤ y → W p l e R s m args below meth c H locs cells slots Q (F0 m (pc + 3) ls rest)) : W p l e R s m args below meth c H locs cells slots Q (F0 m pc ls (.int (lg_cmp x y) :: rest)) :=
  lv_if_le hx hb hd ht (fun h => kt ((lg_cmp_le x y).mp h)) (fun h => kf fun z => h ((lg_cmp_le x y).mpr z))
theorem tc_neN (hx : p.tables.exec = Jvm.exec) (hb : c.code = cc) {x y : Nat} {off : Int} {tgt : Nat} (hd : decode cc pc = .ok (.ifCond .ne off, 3)) (ht : (pc : Int) + off = (tgt : Int)) (h1 : x < 2 ^ 63) (h2 : y < 2 ^ 63) (kt : x ≠ y → W p l e R s m args below meth c H locs cells slots Q (F0 m tgt ls rest)) (kf : x = y → W p l e R s m args below meth c H locs cells slots Q (F0 m (pc + 3) ls rest)) : W p l e R s m args below meth c H locs cells slots Q (F0 m pc ls (.int (lg_cmp (lN x) (lN y)) :: rest)) :=
  tc_ne hx hb hd ht (fun h => kt fun z => h ((pk_lEQ h1 h2).mpr z)) (fun h => kf ((pk_lEQ h1 h2).mp h))
theorem tc_eqN (hx : p.tables.exec = Jvm.exec) (hb : c.code = cc) {x y : Nat} {off : Int} {tgt : Nat} (hd : decode cc pc = .ok (.ifCond .eq off, 3)) (ht : (pc : Int) + off = (tgt : Int)) (h1 : x < 2 ^ 63) (h2 : y < 2 ^ 63) (kt : x = y → W p l e R s m args below meth c H locs cells slots Q (F0 m tgt ls rest)) (kf : x ≠ y → W p l e R s m args below meth c H locs cells slots Q (F0 m (pc + 3) ls rest)) : W p l e R s m args below meth c H locs cells slots Q (F0 m pc ls (.int (lg_cmp (lN x) (lN y)) :: rest)) :=
  tc_eq hx hb hd ht (fun h => kt ((pk_lEQ h1 h2).mp h)) (fun h => kf fun z => h ((pk_lEQ h1 h2).mpr z))
theorem tl_rem (hx : p.tables.exec = Jvm.exec) (hb : c.code = cc) {x y : Nat} (hd : decode cc pc = .ok (.lrem, 1)) (h1 : x < 2 ^ 63) (h2 : 0 < y) (h3 : y < 2 ^ 63) (k : W p l e R s m args below meth c H locs cells slots Q (F0 m (pc + 1) ls (.long (lN (x % y)) :: rest))) : W p l e R s m args below meth c H locs cells slots Q (F0 m pc ls (.long (lN y) :: .long (lN x) :: rest)) :=
  lv_lrem hx hb hd (fun z => absurd ((pk_lEQ (b := 0) h3 (by decide)).mp z) (by omega)) (by rw [pk_lRem h1 h2 h3]; exact k)
theorem tl_div (hx : p.tables.exec = Jvm.exec) (hb : c.code = cc) {x y : Nat} (hd : decode cc pc = .ok (.ldiv, 1)) (h1 : x < 2 ^ 63) (h2 : 0 < y) (h3 : y < 2 ^ 63) (k : W p l e R s m args below meth c H locs cells slots Q (F0 m (pc + 1) ls (.long (lN (x / y)) :: rest))) : W p l e R s m args below meth c H locs cells slots Q (F0 m pc ls (.long (lN y) :: .long (lN x) :: rest)) :=
  lv_ldiv hx hb hd (fun z => absurd ((pk_lEQ (b := 0) h3 (by decide)).mp z) (by omega)) (by rw [pk_lDiv h1 h2 h3]; exact k)
end TLA
/-- whether an int is in a range -/
def ti_in (v lo hi : Int32) : Bool := decide (lo ≤ v ∧ v ≤ hi)
def ti_inL (v lo hi : Int64) : Bool := decide (lo ≤ v ∧ v ≤ hi)
theorem ti_in_nat {v : Int32} {a b : Nat} (ha : a < 2 ^ 31) (hb : b < 2 ^ 31) (h : ti_in v (nI a) (nI b) = true) : ∃ j, a ≤ j ∧ j ≤ b ∧ v = nI j := by
  obtain ⟨h1, h2⟩ := of_decide_eq_true h
  have h3 : ¬ v < 0 := fun z => absurd (Int32.lt_of_lt_of_le z (nI_pos' ha)) (Int32.not_lt.mpr h1)
  obtain ⟨j, hj, rfl⟩ := nI_of h3
  exact ⟨j, (nI_leI ha hj).mp h1, (nI_leI hj hb).mp h2, rfl⟩
theorem ti_in_nI {k a b : Nat} (hk : k < 2 ^ 31) (ha : a < 2 ^ 31) (hb : b < 2 ^ 31) : ti_in (nI k) (nI a) (nI b) = decide (a ≤ k ∧ k ≤ b) := by
  unfold ti_in
  exact decide_eq_decide.mpr ⟨fun z => ⟨(nI_leI ha hk).mp z.1, (nI_leI hk hb).mp z.2⟩, fun z => ⟨(nI_leI ha hk).mpr z.1, (nI_leI hk hb).mpr z.2⟩⟩
theorem ti_inL_i {v : Int32} {a b : Nat} (ha : a < 2 ^ 31) (hb : b < 2 ^ 31) : ti_inL v.toInt64 (lN a) (lN b) = ti_in v (nI a) (nI b) := by
  unfold ti_in ti_inL
  have e1 : (lN a ≤ v.toInt64) ↔ (nI a ≤ v) := by
    rw [Int64.le_iff_toInt_le, Int32.le_iff_toInt_le, lN_toInt ha, nI_toInt ha, Int32.toInt_toInt64]
  have e2 : (v.toInt64 ≤ lN b) ↔ (v ≤ nI b) := by
    rw [Int64.le_iff_toInt_le, Int32.le_iff_toInt_le, lN_toInt hb, nI_toInt hb, Int32.toInt_toInt64]
  exact decide_eq_decide.mpr ⟨fun z => ⟨e1.mp z.1, e2.mp z.2⟩, fun z => ⟨e1.mpr z.1, e2.mpr z.2⟩⟩
theorem ti_gcd {x y : Nat} (h : 0 < y) : Nat.gcd x y = Nat.gcd y (x % y) := by
  rw [Nat.gcd_comm x y, Nat.gcd_rec, Nat.gcd_comm]
/-- whether an int is a place of a row -/
def ti_lt (k : Int32) (n : Nat) : Bool := decide (0 ≤ k.toInt ∧ k.toInt < n)
theorem ti_lt_nat {k : Int32} {n : Nat} (h : ti_lt k n = true) : ∃ j, j < n ∧ k = nI j := by
  obtain ⟨h1, h2⟩ := of_decide_eq_true h
  have h3 : ¬ k < 0 := fun z => by
    have := Int32.lt_iff_toInt_lt.mp z
    rw [show (0 : Int32).toInt = 0 from rfl] at this
    omega
  obtain ⟨j, hj, rfl⟩ := nI_of h3
  rw [nI_toInt hj] at h2
  exact ⟨j, by omega, rfl⟩
theorem ti_lt_nI {j n : Nat} (hj : j < 2 ^ 31) : ti_lt (nI j) n = decide (j < n) := by
  unfold ti_lt
  rw [nI_toInt hj]
  exact decide_eq_decide.mpr ⟨fun z => by omega, fun z => by omega⟩
theorem ti_sub1 {n : Nat} (hn : n < 2 ^ 30) : (nI n - nI 1).toInt = (n : Int) - 1 := pk_sub_toInt hn (by decide)
theorem ti_in_lt {k : Int32} {n : Nat} (hn : n < 2 ^ 30) : ti_in k (nI 0) (nI n - nI 1) = ti_lt k n := by
  unfold ti_in ti_lt
  have e1 : (nI 0 ≤ k) ↔ 0 ≤ k.toInt := by rw [Int32.le_iff_toInt_le, nI_toInt (by decide)]; rfl
  have e2 : (k ≤ nI n - nI 1) ↔ k.toInt < n := by rw [Int32.le_iff_toInt_le, ti_sub1 hn]; omega
  exact decide_eq_decide.mpr ⟨fun z => ⟨e1.mp z.1, e2.mp z.2⟩, fun z => ⟨e1.mpr z.1, e2.mpr z.2⟩⟩
theorem ti_inL_lt {k : Int32} {n : Nat} (hn : n < 2 ^ 30) : ti_inL k.toInt64 (lN 0) (nI n - nI 1).toInt64 = ti_lt k n := by
  unfold ti_inL ti_lt
  have e1 : (lN 0 ≤ k.toInt64) ↔ 0 ≤ k.toInt := by rw [Int64.le_iff_toInt_le, lN_toInt (by decide), Int32.toInt_toInt64]; rfl
  have e2 : (k.toInt64 ≤ (nI n - nI 1).toInt64) ↔ k.toInt < n := by rw [Int64.le_iff_toInt_le, Int32.toInt_toInt64, Int32.toInt_toInt64, ti_sub1 hn]; omega
  exact decide_eq_decide.mpr ⟨fun z => ⟨e1.mp z.1, e2.mp z.2⟩, fun z => ⟨e1.mpr z.1, e2.mpr z.2⟩⟩
theorem ti_n5 {k : Nat} (h : k < 2 ^ 31) : ¬ nI k = -5 := fun e => absurd (show nI k < 0 by rw [e]; decide) (nI_pos h)
theorem ti_n1 {k : Nat} (h : k < 2 ^ 31) : ¬ nI k = -1 := fun e => absurd (show nI k < 0 by rw [e]; decide) (nI_pos h)
