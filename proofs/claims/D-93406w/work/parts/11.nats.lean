/-! rows over natural numbers: an int that is nI of one stays so; branches tell of the numbers -/
set_option maxRecDepth 100000
/-- an array of natural numbers -/
def ti_n (f : Nat → Nat) : Nat → Int32 := fun j => nI (f j)
theorem ti_n_up (f : Nat → Nat) (k v : Nat) : upd (ti_n f) k (nI v) = ti_n (va_up f k v) := by
  funext j
  by_cases h : j = k
  · simp [upd, ti_n, va_up, h]
  · simp [upd, ti_n, va_up, h]
section TNA
variable {p : Program} {l : Launch} {e : Env} {R : Room} {s : State} {m : MethodId} {args : Array Value} {below : List Frame} {meth : Method} {c : Code} {H : Heap} {locs : List Loc} {cells slots : Nat} {Q : State → Prop}
variable {cc : ByteArray} {pc : Nat} {ls : Array Slot} {rest : List Value} {D : va_G} {cl : List vw_C} {A : Nat → Prop} {a : Nat} {tys : List (ClassId × FieldType)} {ws : va_W} {H0 : Heap}
theorem tn_add (hx : p.tables.exec = Jvm.exec) (hb : c.code = cc) {x y : Nat} (hd : decode cc pc = .ok (.iadd, 1)) (k : W p l e R s m args below meth c H locs cells slots Q (F0 m (pc + 1) ls (.int (nI (x + y)) :: rest))) : W p l e R s m args below meth c H locs cells slots Q (F0 m pc ls (.int (nI y) :: .int (nI x) :: rest)) := lv_iadd hx hb hd (by rw [nI_add]; exact k)
theorem tn_sub (hx : p.tables.exec = Jvm.exec) (hb : c.code = cc) {x y : Nat} (hd : decode cc pc = .ok (.isub, 1)) (h : y ≤ x) (k : W p l e R s m args below meth c H locs cells slots Q (F0 m (pc + 1) ls (.int (nI (x - y)) :: rest))) : W p l e R s m args below meth c H locs cells slots Q (F0 m pc ls (.int (nI y) :: .int (nI x) :: rest)) := lv_isub hx hb hd (by rw [pk_sub h]; exact k)
theorem tn_mul (hx : p.tables.exec = Jvm.exec) (hb : c.code = cc) {x y : Nat} (hd : decode cc pc = .ok (.imul, 1)) (k : W p l e R s m args below meth c H locs cells slots Q (F0 m (pc + 1) ls (.int (nI (x * y)) :: rest))) : W p l e R s m args below meth c H locs cells slots Q (F0 m pc ls (.int (nI y) :: .int (nI x) :: rest)) := lv_imul hx hb hd (by rw [pk_mul]; exact k)
theorem tn_div (hx : p.tables.exec = Jvm.exec) (hb : c.code = cc) {x y : Nat} (hd : decode cc pc = .ok (.idiv, 1)) (h1 : x < 2 ^ 31) (h2 : 0 < y) (h3 : y < 2 ^ 31) (k : W p l e R s m args below meth c H locs cells slots Q (F0 m (pc + 1) ls (.int (nI (x / y)) :: rest))) : W p l e R s m args below meth c H locs cells slots Q (F0 m pc ls (.int (nI y) :: .int (nI x) :: rest)) := lv_idiv hx hb hd (nI_ne0 h2 h3) (by rw [pk_div h1 h2 h3]; exact k)
theorem tn_rem (hx : p.tables.exec = Jvm.exec) (hb : c.code = cc) {x y : Nat} (hd : decode cc pc = .ok (.irem, 1)) (h1 : x < 2 ^ 31) (h2 : 0 < y) (h3 : y < 2 ^ 31) (k : W p l e R s m args below meth c H locs cells slots Q (F0 m (pc + 1) ls (.int (nI (x % y)) :: rest))) : W p l e R s m args below meth c H locs cells slots Q (F0 m pc ls (.int (nI y) :: .int (nI x) :: rest)) := lv_irem hx hb hd (nI_ne0 h2 h3) (by rw [pk_rem h1 h2 h3]; exact k)
theorem tn_ge (hx : p.tables.exec = Jvm.exec) (hb : c.code = cc) {x y : Nat} {off : Int} {tgt : Nat} (hd : decode cc pc = .ok (.if_icmp .ge off, 3)) (ht : (pc : Int) + off = (tgt : Int)) (h1 : x < 2 ^ 31) (h2 : y < 2 ^ 31) (kt : y ≤ x → W p l e R s m args below meth c H locs cells slots Q (F0 m tgt ls rest)) (kf : x < y → W p l e R s m args below meth c H locs cells slots Q (F0 m (pc + 3) ls rest)) : W p l e R s m args below meth c H locs cells slots Q (F0 m pc ls (.int (nI y) :: .int (nI x) :: rest)) :=
  lv_icmp_ge hx hb hd ht (fun h => kt ((nI_leI h2 h1).mp h)) (fun h => kf (Nat.not_le.mp fun z => h ((nI_leI h2 h1).mpr z)))
theorem tn_lt (hx : p.tables.exec = Jvm.exec) (hb : c.code = cc) {x y : Nat} {off : Int} {tgt : Nat} (hd : decode cc pc = .ok (.if_icmp .lt off, 3)) (ht : (pc : Int) + off = (tgt : Int)) (h1 : x < 2 ^ 31) (h2 : y < 2 ^ 31) (kt : x < y → W p l e R s m args below meth c H locs cells slots Q (F0 m tgt ls rest)) (kf : y ≤ x → W p l e R s m args below meth c H locs cells slots Q (F0 m (pc + 3) ls rest)) : W p l e R s m args below meth c H locs cells slots Q (F0 m pc ls (.int (nI y) :: .int (nI x) :: rest)) :=
  lv_icmp_lt hx hb hd ht (fun h => kt ((nI_ltI h1 h2).mp h)) (fun h => kf (Nat.not_lt.mp fun z => h ((nI_ltI h1 h2).mpr z)))
theorem tn_gt (hx : p.tables.exec = Jvm.exec) (hb : c.code = cc) {x y : Nat} {off : Int} {tgt : Nat} (hd : decode cc pc = .ok (.if_icmp .gt off, 3)) (ht : (pc : Int) + off = (tgt : Int)) (h1 : x < 2 ^ 31) (h2 : y < 2 ^ 31) (kt : y < x → W p l e R s m args below meth c H locs cells slots Q (F0 m tgt ls rest)) (kf : x ≤ y → W p l e R s m args below meth c H locs cells slots Q (F0 m (pc + 3) ls rest)) : W p l e R s m args below meth c H locs cells slots Q (F0 m pc ls (.int (nI y) :: .int (nI x) :: rest)) :=
  lv_icmp_gt hx hb hd ht (fun h => kt ((nI_ltI h2 h1).mp h)) (fun h => kf (Nat.not_lt.mp fun z => h ((nI_ltI h2 h1).mpr z)))
theorem tn_le (hx : p.tables.exec = Jvm.exec) (hb : c.code = cc) {x y : Nat} {off : Int} {tgt : Nat} (hd : decode cc pc = .ok (.if_icmp .le off, 3)) (ht : (pc : Int) + off = (tgt : Int)) (h1 : x < 2 ^ 31) (h2 : y < 2 ^ 31) (kt : x ≤ y → W p l e R s m args below meth c H locs cells slots Q (F0 m tgt ls rest)) (kf : y < x → W p l e R s m args below meth c H locs cells slots Q (F0 m (pc + 3) ls rest)) : W p l e R s m args below meth c H locs cells slots Q (F0 m pc ls (.int (nI y) :: .int (nI x) :: rest)) :=
  lv_icmp_le hx hb hd ht (fun h => kt ((nI_leI h1 h2).mp h)) (fun h => kf (Nat.not_le.mp fun z => h ((nI_leI h1 h2).mpr z)))
theorem tn_eq (hx : p.tables.exec = Jvm.exec) (hb : c.code = cc) {x y : Nat} {off : Int} {tgt : Nat} (hd : decode cc pc = .ok (.if_icmp .eq off, 3)) (ht : (pc : Int) + off = (tgt : Int)) (h1 : x < 2 ^ 31) (h2 : y < 2 ^ 31) (kt : x = y → W p l e R s m args below meth c H locs cells slots Q (F0 m tgt ls rest)) (kf : x ≠ y → W p l e R s m args below meth c H locs cells slots Q (F0 m (pc + 3) ls rest)) : W p l e R s m args below meth c H locs cells slots Q (F0 m pc ls (.int (nI y) :: .int (nI x) :: rest)) :=
  lv_icmp_eq hx hb hd ht (fun h => kt ((nI_eq h1 h2).mp h)) (fun h => kf fun z => h ((nI_eq h1 h2).mpr z))
theorem tn_ne (hx : p.tables.exec = Jvm.exec) (hb : c.code = cc) {x y : Nat} {off : Int} {tgt : Nat} (hd : decode cc pc = .ok (.if_icmp .ne off, 3)) (ht : (pc : Int) + off = (tgt : Int)) (h1 : x < 2 ^ 31) (h2 : y < 2 ^ 31) (kt : x ≠ y → W p l e R s m args below meth c H locs cells slots Q (F0 m tgt ls rest)) (kf : x = y → W p l e R s m args below meth c H locs cells slots Q (F0 m (pc + 3) ls rest)) : W p l e R s m args below meth c H locs cells slots Q (F0 m pc ls (.int (nI y) :: .int (nI x) :: rest)) :=
  lv_icmp_ne hx hb hd ht (fun h => kt fun z => h ((nI_eq h1 h2).mpr z)) (fun h => kf ((nI_eq h1 h2).mp h))
theorem tn_if_eq (hx : p.tables.exec = Jvm.exec) (hb : c.code = cc) {x : Nat} {off : Int} {tgt : Nat} (hd : decode cc pc = .ok (.ifCond .eq off, 3)) (ht : (pc : Int) + off = (tgt : Int)) (h1 : x < 2 ^ 31) (kt : x = 0 → W p l e R s m args below meth c H locs cells slots Q (F0 m tgt ls rest)) (kf : x ≠ 0 → W p l e R s m args below meth c H locs cells slots Q (F0 m (pc + 3) ls rest)) : W p l e R s m args below meth c H locs cells slots Q (F0 m pc ls (.int (nI x) :: rest)) :=
  lv_if_eq hx hb hd ht (fun h => kt ((nI_eq h1 (by decide)).mp h)) (fun h => kf fun z => h ((nI_eq h1 (by decide)).mpr z))
theorem tn_if_ne (hx : p.tables.exec = Jvm.exec) (hb : c.code = cc) {x : Nat} {off : Int} {tgt : Nat} (hd : decode cc pc = .ok (.ifCond .ne off, 3)) (ht : (pc : Int) + off = (tgt : Int)) (h1 : x < 2 ^ 31) (kt : x ≠ 0 → W p l e R s m args below meth c H locs cells slots Q (F0 m tgt ls rest)) (kf : x = 0 → W p l e R s m args below meth c H locs cells slots Q (F0 m (pc + 3) ls rest)) : W p l e R s m args below meth c H locs cells slots Q (F0 m pc ls (.int (nI x) :: rest)) :=
  lv_if_ne hx hb hd ht (fun h => kt fun z => h ((nI_eq h1 (by decide)).mpr z)) (fun h => kf ((nI_eq h1 (by decide)).mp h))
theorem tn_if_le (hx : p.tables.exec = Jvm.exec) (hb : c.code = cc) {x : Nat} {off : Int} {tgt : Nat} (hd : decode cc pc = .ok (.ifCond .le off, 3)) (ht : (pc : Int) + off = (tgt : Int)) (h1 : x < 2 ^ 31) (kt : x = 0 → W p l e R s m args below meth c H locs cells slots Q (F0 m tgt ls rest)) (kf : 0 < x → W p l e R s m args below meth c H locs cells slots Q (F0 m (pc + 3) ls rest)) : W p l e R s m args below meth c H locs cells slots Q (F0 m pc ls (.int (nI x) :: rest)) :=
  lv_if_le hx hb hd ht (fun h => kt (Nat.le_zero.mp ((nI_leI h1 (by decide)).mp h))) (fun h => kf (Nat.pos_of_ne_zero fun z => h ((nI_leI h1 (by decide)).mpr (Nat.le_of_eq z))))
theorem tn_if_gt (hx : p.tables.exec = Jvm.exec) (hb : c.code = cc) {x : Nat} {off : Int} {tgt : Nat} (hd : decode cc pc = .ok (.ifCond .gt off, 3)) (ht : (pc : Int) + off = (tgt : Int)) (h1 : x < 2 ^ 31) (kt : 0 < x → W p l e R s m args below meth c H locs cells slots Q (F0 m tgt ls rest)) (kf : x = 0 → W p l e R s m args below meth c H locs cells slots Q (F0 m (pc + 3) ls rest)) : W p l e R s m args below meth c H locs cells slots Q (F0 m pc ls (.int (nI x) :: rest)) :=
  lv_if_gt hx hb hd ht (fun h => kt ((nI_ltI (by decide) h1).mp h)) (fun h => kf (Nat.le_zero.mp (Nat.not_lt.mp fun z => h ((nI_ltI (by decide) h1).mpr z))))
theorem tn_if_lt (hx : p.tables.exec = Jvm.exec) (hb : c.code = cc) {x : Nat} {off : Int} (hd : decode cc pc = .ok (.ifCond .lt off, 3)) {tgt : Nat} (ht : (pc : Int) + off = (tgt : Int)) (h1 : x < 2 ^ 31) (kf : W p l e R s m args below meth c H locs cells slots Q (F0 m (pc + 3) ls rest)) : W p l e R s m args below meth c H locs cells slots Q (F0 m pc ls (.int (nI x) :: rest)) :=
  lv_if_lt hx hb hd ht (fun h => absurd h (nI_pos h1)) (fun _ => kf)
theorem tn_if_ge (hx : p.tables.exec = Jvm.exec) (hb : c.code = cc) {x : Nat} {off : Int} (hd : decode cc pc = .ok (.ifCond .ge off, 3)) {tgt : Nat} (ht : (pc : Int) + off = (tgt : Int)) (h1 : x < 2 ^ 31) (kt : W p l e R s m args below meth c H locs cells slots Q (F0 m tgt ls rest)) : W p l e R s m args below meth c H locs cells slots Q (F0 m pc ls (.int (nI x) :: rest)) :=
  lv_if_ge hx hb hd ht (fun _ => kt) (fun h => absurd (nI_pos' h1) h)
theorem tb_eq (hx : p.tables.exec = Jvm.exec) (hb : c.code = cc) {b : Bool} {off : Int} {tgt : Nat} (hd : decode cc pc = .ok (.ifCond .eq off, 3)) (ht : (pc : Int) + off = (tgt : Int)) (kt : b = false → W p l e R s m args below meth c H locs cells slots Q (F0 m tgt ls rest)) (kf : b = true → W p l e R s m args below meth c H locs cells slots Q (F0 m (pc + 3) ls rest)) : W p l e R s m args below meth c H locs cells slots Q (F0 m pc ls (.int (ti_b b) :: rest)) := by
  cases b with
  | false => exact lv_if_eq hx hb hd ht (fun _ => kt rfl) (fun h => absurd rfl h)
  | true => exact lv_if_eq hx hb hd ht (fun h => absurd h (by decide)) (fun _ => kf rfl)
theorem tb_ne (hx : p.tables.exec = Jvm.exec) (hb : c.code = cc) {b : Bool} {off : Int} {tgt : Nat} (hd : decode cc pc = .ok (.ifCond .ne off, 3)) (ht : (pc : Int) + off = (tgt : Int)) (kt : b = true → W p l e R s m args below meth c H locs cells slots Q (F0 m tgt ls rest)) (kf : b = false → W p l e R s m args below meth c H locs cells slots Q (F0 m (pc + 3) ls rest)) : W p l e R s m args below meth c H locs cells slots Q (F0 m pc ls (.int (ti_b b) :: rest)) := by
  cases b with
  | false => exact lv_if_ne hx hb hd ht (fun h => absurd rfl h) (fun _ => kf rfl)
  | true => exact lv_if_ne hx hb hd ht (fun _ => kt rfl) (fun h => absurd h (by decide))
theorem tn_iald (hx : p.tables.exec = Jvm.exec) (hb : c.code = cc) (hK : va_K D cl tys s) (hP : va_P D cl ws H) (q0 t0 : Nat) {cA : ClassId} {n i : Nat} {f : Nat → Nat} (ha : ws[q0]? = some (a, .inl (cA, n, .inl (ti_n f)))) (ht : tys[t0]? = some (cA, .int)) (hi : i < n) (hn : n < 2 ^ 31) (hd : decode cc pc = .ok (.iaload, 1))
    (k : W p l e R s m args below meth c H locs cells slots Q (F0 m (pc + 1) ls (.int (nI (f i)) :: rest))) : W p l e R s m args below meth c H locs cells slots Q (F0 m pc ls (.int (nI i) :: .ref a :: rest)) :=
  va_iald hx hb hK hP q0 t0 ha ht (vp_in_nI hi hn) hd (by rw [nI_clamp (Nat.lt_trans hi hn)]; exact k)
theorem tn_bald (hx : p.tables.exec = Jvm.exec) (hb : c.code = cc) (hK : va_K D cl tys s) (hP : va_P D cl ws H) (q0 t0 : Nat) {cA : ClassId} {n i : Nat} {f : Nat → Nat} (ha : ws[q0]? = some (a, .inl (cA, n, .inl (ti_n f)))) (ht : tys[t0]? = some (cA, .byte)) (hi : i < n) (hn : n < 2 ^ 31) (hd : decode cc pc = .ok (.baload, 1))
    (k : W p l e R s m args below meth c H locs cells slots Q (F0 m (pc + 1) ls (.int (nI (f i)) :: rest))) : W p l e R s m args below meth c H locs cells slots Q (F0 m pc ls (.int (nI i) :: .ref a :: rest)) :=
  va_bald hx hb hK hP q0 t0 ha ht (vp_in_nI hi hn) hd (by rw [nI_clamp (Nat.lt_trans hi hn)]; exact k)
theorem tn_iast (hx : p.tables.exec = Jvm.exec) (hb : c.code = cc) (hK : va_K D cl tys s) (hP : va_P D cl ws H) (hD : va_D A ws) (hS : va_S A H0 H locs) (q0 t0 : Nat) {cA : ClassId} {n i v : Nat} {f : Nat → Nat} (ha : ws[q0]? = some (a, .inl (cA, n, .inl (ti_n f)))) (ht : tys[t0]? = some (cA, .int)) (hi : i < n) (hn : n < 2 ^ 31) (hd : decode cc pc = .ok (.iastore, 1))
    (k : ∀ (H : Heap) (locs : List Loc), va_P D cl (ws.set q0 (a, .inl (cA, n, .inl (ti_n (va_up f i v))))) H → va_D A (ws.set q0 (a, .inl (cA, n, .inl (ti_n (va_up f i v))))) → va_S A H0 H locs → W p l e R s m args below meth c H locs cells slots Q (F0 m (pc + 1) ls rest)) : W p l e R s m args below meth c H locs cells slots Q (F0 m pc ls (.int (nI v) :: .int (nI i) :: .ref a :: rest)) :=
  va_iast hx hb hK hP hD hS q0 t0 ha ht (vp_in_nI hi hn) hd (by rw [nI_clamp (Nat.lt_trans hi hn), ti_n_up]; exact k)
end TNA
section TNB
variable {p : Program} {l : Launch} {e : Env} {R : Room} {s : State} {m : MethodId} {args : Array Value} {below : List Frame} {meth : Method} {c : Code} {H : Heap} {locs : List Loc} {cells slots : Nat} {Q : State → Prop}
variable {cc : ByteArray} {pc nL : Nat} {ls : Array Slot} {rest : List Value} {own : String}
theorem tn_min (S : CallFix p m c cc nL s args lw_all own) (hsz : ls.size = nL) {index : Nat} (hlink : (Cond.methodLink own index ⟨"java/lang/Math", "min", "(II)I"⟩) ∈ lw_all) (hst : (rest.map fun v => v.category).sum + 13 ≤ R.locals) (hf : 1 ≤ R.frames) (hcs : cells ≤ R.cells ∧ slots ≤ R.slots) {x y : Nat} (h1 : x < 2 ^ 31) (h2 : y < 2 ^ 31) (hd : decode cc pc = .ok (.invokestatic index, 3))
    (k : W p l e R s m args below meth c H locs cells slots Q (F0 m (pc + 3) ls (.int (nI (min x y)) :: rest))) : W p l e R s m args below meth c H locs cells slots Q (F0 m pc ls (.int (nI y) :: .int (nI x) :: rest)) := by
  refine va_mmin S.1 S.2.1 (by rw [S.2.2.1, hsz]) S.2.2.2.1 (S.2.2.2.2 _ hlink) (S.2.2.2.2 _ q450) (S.2.2.2.2 _ q78) (S.2.2.2.2 _ q451) hf hst hcs.1 hcs.2 hd ?_
  have h : (if nI y < nI x then nI y else nI x) = nI (min x y) := by
    by_cases q : y < x
    · rw [if_pos ((nI_ltI h2 h1).mpr q), Nat.min_eq_right (Nat.le_of_lt q)]
    · rw [if_neg (fun z => q ((nI_ltI h2 h1).mp z)), Nat.min_eq_left (Nat.not_lt.mp q)]
  rw [h]
  exact k
theorem tn_maxsub (S : CallFix p m c cc nL s args lw_all own) (hsz : ls.size = nL) {index : Nat} (hlink : (Cond.methodLink own index ⟨"java/lang/Math", "max", "(II)I"⟩) ∈ lw_all) (hst : (rest.map fun v => v.category).sum + 13 ≤ R.locals) (hf : 1 ≤ R.frames) (hcs : cells ≤ R.cells ∧ slots ≤ R.slots) {x y : Nat} (h1 : x < 2 ^ 30) (h2 : y < 2 ^ 30) (hd : decode cc pc = .ok (.invokestatic index, 3))
    (k : W p l e R s m args below meth c H locs cells slots Q (F0 m (pc + 3) ls (.int (nI (x - y)) :: rest))) : W p l e R s m args below meth c H locs cells slots Q (F0 m pc ls (.int (nI x - nI y) :: .int (nI 0) :: rest)) := by
  refine va_mmax S.1 S.2.1 (by rw [S.2.2.1, hsz]) S.2.2.2.1 (S.2.2.2.2 _ hlink) (S.2.2.2.2 _ q875) (S.2.2.2.2 _ q78) (S.2.2.2.2 _ q876) hf hst hcs.1 hcs.2 hd ?_
  have h : (if nI 0 < nI x - nI y then nI x - nI y else nI 0) = nI (x - y) := by
    by_cases q : y ≤ x
    · rw [pk_sub q]
      by_cases z : 0 < x - y
      · rw [if_pos ((nI_ltI (by decide) (by omega)).mpr z)]
      · rw [if_neg (fun w => z ((nI_ltI (by decide) (by omega)).mp w)), show x - y = 0 by omega]
    · have hn := pk_sneg h2 (Nat.not_le.mp q)
      rw [if_neg (fun w => absurd w (by rw [nI_0]; exact Int32.lt_asymm hn)), show x - y = 0 by omega]
  rw [h]
  exact k
end TNB
