/-! tapes: rows and specs -/
set_option maxRecDepth 100000
section TLA
variable {p : Program} {l : Launch} {e : Env} {R : Room} {s : State} {m : MethodId} {args : Array Value} {below : List Frame} {meth : Method} {c : Code} {H H0 : Heap} {locs : List Loc} {cells slots : Nat} {Q : State → Prop}
variable {cc : ByteArray} {pc : Nat} {ls : Array Slot} {rest : List Value} {D : va_G} {cl : List vw_C} {tys : List (ClassId × FieldType)} {ws : va_W} {a : Nat} {A : Nat → Prop}
theorem tn_lald (hx : p.tables.exec = Jvm.exec) (hb : c.code = cc) (hK : va_K D cl tys s) (hP : va_P D cl ws H) (q0 t0 : Nat) {cA : ClassId} {n i : Nat} {f : Nat → Int64} (ha : ws[q0]? = some (a, .inl (cA, n, .inr (.inl f)))) (ht : tys[t0]? = some (cA, .long)) (hi : i < n) (hn : n < 2 ^ 31) (hd : decode cc pc = .ok (.laload, 1))
    (k : W p l e R s m args below meth c H locs cells slots Q (F0 m (pc + 1) ls (.long (f i) :: rest))) : W p l e R s m args below meth c H locs cells slots Q (F0 m pc ls (.int (nI i) :: .ref a :: rest)) :=
  va_lald hx hb hK hP q0 t0 ha ht (vp_in_nI hi hn) hd (by rw [nI_clamp (Nat.lt_trans hi hn)]; exact k)
theorem tn_last (hx : p.tables.exec = Jvm.exec) (hb : c.code = cc) (hK : va_K D cl tys s) (hP : va_P D cl ws H) (hD : va_D A ws) (hS : va_S A H0 H locs) (q0 t0 : Nat) {cA : ClassId} {n i : Nat} {v : Int64} {f : Nat → Int64} (ha : ws[q0]? = some (a, .inl (cA, n, .inr (.inl f)))) (ht : tys[t0]? = some (cA, .long)) (hi : i < n) (hn : n < 2 ^ 31) (hd : decode cc pc = .ok (.lastore, 1))
    (k : ∀ (H : Heap) (locs : List Loc), va_P D cl (ws.set q0 (a, .inl (cA, n, .inr (.inl (va_up f i v))))) H → va_D A (ws.set q0 (a, .inl (cA, n, .inr (.inl (va_up f i v))))) → va_S A H0 H locs → W p l e R s m args below meth c H locs cells slots Q (F0 m (pc + 1) ls rest)) : W p l e R s m args below meth c H locs cells slots Q (F0 m pc ls (.long v :: .int (nI i) :: .ref a :: rest)) :=
  va_last hx hb hK hP hD hS q0 t0 ha ht (vp_in_nI hi hn) hd (by rw [nI_clamp (Nat.lt_trans hi hn)]; exact k)
theorem tn_ialdR (hx : p.tables.exec = Jvm.exec) (hb : c.code = cc) (hK : va_K D cl tys s) (hP : va_P D cl ws H) (q0 t0 : Nat) {cA : ClassId} {n i : Nat} {f : Nat → Int32} (ha : ws[q0]? = some (a, .inl (cA, n, .inl f))) (ht : tys[t0]? = some (cA, .int)) (hi : i < n) (hn : n < 2 ^ 31) (hd : decode cc pc = .ok (.iaload, 1))
    (k : W p l e R s m args below meth c H locs cells slots Q (F0 m (pc + 1) ls (.int (f i) :: rest))) : W p l e R s m args below meth c H locs cells slots Q (F0 m pc ls (.int (nI i) :: .ref a :: rest)) :=
  va_iald hx hb hK hP q0 t0 ha ht (vp_in_nI hi hn) hd (by rw [nI_clamp (Nat.lt_trans hi hn)]; exact k)
theorem tn_iastR (hx : p.tables.exec = Jvm.exec) (hb : c.code = cc) (hK : va_K D cl tys s) (hP : va_P D cl ws H) (hD : va_D A ws) (hS : va_S A H0 H locs) (q0 t0 : Nat) {cA : ClassId} {n i : Nat} {v : Int32} {f : Nat → Int32} (ha : ws[q0]? = some (a, .inl (cA, n, .inl f))) (ht : tys[t0]? = some (cA, .int)) (hi : i < n) (hn : n < 2 ^ 31) (hd : decode cc pc = .ok (.iastore, 1))
    (k : ∀ (H : Heap) (locs : List Loc), va_P D cl (ws.set q0 (a, .inl (cA, n, .inl (va_up f i v)))) H → va_D A (ws.set q0 (a, .inl (cA, n, .inl (va_up f i v)))) → va_S A H0 H locs → W p l e R s m args below meth c H locs cells slots Q (F0 m (pc + 1) ls rest)) : W p l e R s m args below meth c H locs cells slots Q (F0 m pc ls (.int v :: .int (nI i) :: .ref a :: rest)) :=
  va_iast hx hb hK hP hD hS q0 t0 ha ht (vp_in_nI hi hn) hd (by rw [nI_clamp (Nat.lt_trans hi hn)]; exact k)
end TLA
/-- a tape: its sort (-1: none) and its items -/
abbrev ti_TP : Type := Int32 × List Int64
def ti_as (s : Int32) (v : Int64) : Int64 := if s = 0 then v.toInt32.toInt8.toInt32.toInt64 else if s = 1 then v.toInt32.toInt16.toInt32.toInt64 else if s = 2 then v.toInt32.toInt64 else if s = 3 then v else if v = 0 then 0 else 1
def ti_t5 (t : Int32) : Bool := ti_in t (nI 0) (nI 5)
def ti_Stape (T : Nat → ti_TP) (t s n : Int32) : Int32 × (Nat → ti_TP) :=
  if ti_t5 t = false then (-1, T) else if ti_in s (-1) 4 = false then (-2, T) else if s = -1 then (1, va_up T (ti_cl t) (-1, [])) else if 60 < n then (-2, T) else if n < 0 then (-14, T) else (1, va_up T (ti_cl t) (s, List.replicate (ti_cl n) 0))
def ti_Sitem (T : Nat → ti_TP) (t i : Int32) (v : Int64) : Int32 × (Nat → ti_TP) :=
  if ti_t5 t = false then (-1, T) else if (T (ti_cl t)).1 = -1 then (-11, T) else if ti_lt i (T (ti_cl t)).2.length = false then (-13, T) else (1, va_up T (ti_cl t) ((T (ti_cl t)).1, (T (ti_cl t)).2.set (ti_cl i) (ti_as (T (ti_cl t)).1 v)))
def ti_Speek (T : Nat → ti_TP) (t i : Int32) : Int64 :=
  if (ti_t5 t && ti_lt i (T (ti_cl t)).2.length) = false then ti_NO else (T (ti_cl t)).2.getD (ti_cl i) 0
/-- a part of a list is put into another -/
def ti_mv (src dst : List Int64) (i j n : Nat) : List Int64 := (List.range' 0 dst.length).map fun q => if j ≤ q ∧ q < j + n then src.getD (i + (q - j)) 0 else dst.getD q 0
def ti_Sshift (T : Nat → ti_TP) (t i o j n : Int32) : Int32 × (Nat → ti_TP) :=
  if (ti_t5 t && ti_t5 o) = false then (-1, T) else if (T (ti_cl t)).1 = -1 ∨ (T (ti_cl o)).1 = -1 then (-11, T) else if (T (ti_cl t)).1 ≠ (T (ti_cl o)).1 then (-12, T)
  else if n < 0 ∨ i < 0 ∨ j < 0 ∨ ((T (ti_cl t)).2.length : Int) - i.toInt < n.toInt ∨ ((T (ti_cl o)).2.length : Int) - j.toInt < n.toInt then (-13, T)
  else (n, va_up T (ti_cl o) ((T (ti_cl o)).1, ti_mv (T (ti_cl t)).2 (T (ti_cl o)).2 (ti_cl i) (ti_cl j) (ti_cl n)))
/-- heights against a tape -/
def ti_jg (h : Nat → Int32) (T : ti_TP) (i : Int32) : List Nat → Int32
  | [] => -5
  | a :: r => if i < 0 ∨ T.1 = -1 ∨ T.2.length ≤ ti_cl i + a then nI (100 + a) else if T.2.getD (ti_cl i + a) 0 = (h a).toInt64 then ti_jg h T i r else nI a
def ti_Sjudge (I : Nat → ti_GL) (T : Nat → ti_TP) (v t i : Int32) : Int32 :=
  if (ti_bt v && ti_t5 t) = false then -1 else if 0 < (T (ti_cl t)).1 then -12 else ti_jg (fun a => ti_hx (ti_pfx (ti_pn (I (ti_cl v)) 1) a)) (T (ti_cl t)) i (List.range' 0 10)
/-- the model's tapes -/
def ti_qi (x : ti_Mq) (t : Nat) : List Int64 := (List.range' 0 (x.2.1 t)).map fun k => x.2.2.1 (60 * t + k)
def ti_MT (x : ti_Mq) (T : Nat → ti_TP) : Prop := (∀ t, x.2.1 t ≤ 60) ∧ (∀ t, t < 6 → x.1 t = -1 ∨ ∃ j, j ≤ 4 ∧ x.1 t = nI j) ∧ (∀ t, t < 6 → x.1 t = -1 → x.2.1 t = 0) ∧ ∀ t, t < 6 → T t = (x.1 t, ti_qi x t)
theorem ti_qi_len (x : ti_Mq) (t : Nat) : (ti_qi x t).length = x.2.1 t := by simp [ti_qi]
theorem ti_qi_at {x : ti_Mq} {t j : Nat} (h : j < x.2.1 t) : (ti_qi x t).getD j 0 = x.2.2.1 (60 * t + j) := by
  rw [List.getD_eq_getElem?_getD]; simp [ti_qi, h]
theorem ti_t5_nat {v : Int32} (h : ti_t5 v = true) : ∃ i, i < 6 ∧ v = nI i := by
  obtain ⟨j, -, h2, h3⟩ := ti_in_nat (by decide) (by decide) h
  exact ⟨j, by omega, h3⟩
theorem ti_MT_up {x : ti_Mq} {T : Nat → ti_TP} (h : ti_MT x T) {t : Nat} {s : Int32} {n : Nat} {g mv : Nat → Int64} {its : List Int64} (hn : n ≤ 60) (hs : s = -1 ∨ ∃ j, j ≤ 4 ∧ s = nI j) (hsn : s = -1 → n = 0)
    (hg : ∀ q, q / 60 ≠ t → g q = x.2.2.1 q) (hi : its = (List.range' 0 n).map fun k => g (60 * t + k)) : ti_MT (va_up x.1 t s, va_up x.2.1 t n, g, mv) (va_up T t (s, its)) := by
  refine ⟨ti_up_le h.1 hn, fun q hq => ?_, fun q hq hm => ?_, fun q hq => ?_⟩
  · by_cases e : q = t
    · dsimp only; rw [e, va_up_self]; exact hs
    · dsimp only; rw [va_up_ne _ _ e]; exact h.2.1 q hq
  · by_cases e : q = t
    · dsimp only at hm ⊢; rw [e, va_up_self] at hm ⊢; exact hsn hm
    · dsimp only at hm ⊢; rw [va_up_ne _ _ e] at hm ⊢; exact h.2.2.1 q hq hm
  · by_cases e : q = t
    · rw [e, va_up_self]
      refine Prod.ext (va_up_self _ _ _).symm ?_
      show its = (List.range' 0 (va_up x.2.1 t n t)).map fun k => g (60 * t + k)
      rw [va_up_self]; exact hi
    · rw [va_up_ne _ _ e, h.2.2.2 q hq]
      refine Prod.ext (va_up_ne _ _ e).symm ?_
      show (List.range' 0 (x.2.1 q)).map (fun k => x.2.2.1 (60 * q + k)) = (List.range' 0 (va_up x.2.1 t n q)).map fun k => g (60 * q + k)
      rw [va_up_ne _ _ e]
      refine List.map_congr_left fun k hk => (hg _ ?_).symm
      have h1 := (List.mem_range'.mp hk)
      obtain ⟨z, hz, rfl⟩ := h1
      have := h.1 q
      omega
